/-! SPECS: the two parsers side by side: lost, the laws, a line, its end -/
set_option maxRecDepth 100000
/-- a tree, where its sorts' cells agree -/
def gSo (g : bG) : bG := fun t a k => if 7 ≤ t ∧ t ≤ 14 then g t a k else bk_u
theorem bTr_on2 {g g' : bG} {N d x : Nat} {tr : Bool} {W : Int} {cs : List Int} (hf : ∀ t a k, N ≤ a → g t a k = bk_u) (hx : ∀ t a k, 7 ≤ t → t ≤ 14 → a < N → g' t a k = g t a k) (h : bTr g d tr W x cs) : bTr g' d tr W x cs := by
  have h1 : bTr (gSo g) d tr W x cs := bTr_congr (fun t a k t0 t1 => if_pos ⟨t0, t1⟩) _ _ _ _ h
  have h2 : bTr (gSo g') d tr W x cs := by
    refine bTr_on (fun a => a < N) (fun t a k q => ?_) (fun t a k q => ?_) _ _ _ _ h1 _ (Nat.le_refl _)
    · unfold gSo; split
      · exact hf t a k (by omega)
      · rfl
    · unfold gSo
      by_cases c : 7 ≤ t ∧ t ≤ 14
      · rw [if_pos c, if_pos c]; exact hx t a k c.1 c.2 q
      · rw [if_neg c, if_neg c]
  exact bTr_congr (fun t a k t0 t1 => (if_pos ⟨t0, t1⟩).symm) _ _ _ _ h2
theorem lawR_ext3 {g g' : bG} {rd N : Nat} {A A' : Int → Int} {l : Int} {k : Nat} {tr : Bool} {W : Int} (h : lawR g rd A l k tr W) (e4 : A' (4 + l) = A (4 + l)) (e6 : A' (6 + l) = A (6 + l)) (e8 : A' (8 + l) = A (8 + l)) (hA : ∀ k, 99 ≤ k → k < 99 + A 98 → A' k = A k) (h98 : A 98 ≤ A' 98) (hk : g' 1 (rd + 1) k = g 1 (rd + 1) k) (hg : ∀ t a k, 7 ≤ t → t ≤ 14 → a < N → g' t a k = g t a k) (hfr : ∀ t a k, N ≤ a → g t a k = bk_u) : lawR g' rd A' l k tr W := by
  unfold lawR
  rw [e4, e6, e8, hk]
  rcases h with h | ⟨a1, a2, a3, a4, x, d, x0, d9, gx, t, wf⟩
  · exact Or.inl h
  · have em := mL_ext (A := A) (A' := A') (l := l) e6 e8 (fun k k0 k1 => hA k (by omega) (by omega))
    exact Or.inr ⟨a1, a2, a3, by omega, x, d, x0, d9, gx, by rw [em]; exact bTr_on2 hfr hg t, by rw [em]; exact wf⟩
theorem lawR_same {g : bG} {rd : Nat} {A A' : Int → Int} {l : Int} {k : Nat} {tr : Bool} {W : Int} (h : lawR g rd A l k tr W) (l0 : l = 0 ∨ l = 1) (hA : ∀ k, k ≠ 0 → k ≠ 1 → k ≠ 3 → k ≠ 42 → k ≠ 43 → k ≠ 45 → A' k = A k) : lawR g rd A' l k tr W := by
  unfold lawR
  rw [hA (4 + l) (by omega) (by omega) (by omega) (by omega) (by omega) (by omega), hA (6 + l) (by omega) (by omega) (by omega) (by omega) (by omega) (by omega), hA (8 + l) (by omega) (by omega) (by omega) (by omega) (by omega) (by omega), hA 98 (by omega) (by omega) (by omega) (by omega) (by omega) (by omega)]
  rcases h with h | ⟨a1, a2, a3, a4, x, d, x0, d9, gx, t, wf⟩
  · exact Or.inl h
  · have em := mL_ext (A := A) (A' := A') (l := l) (hA _ (by omega) (by omega) (by omega) (by omega) (by omega) (by omega)) (hA _ (by omega) (by omega) (by omega) (by omega) (by omega) (by omega)) (fun k k0 k1 => hA k (by omega) (by omega) (by omega) (by omega) (by omega) (by omega))
    exact Or.inr ⟨a1, a2, a3, a4, x, d, x0, d9, gx, by rw [em]; exact t, by rw [em]; exact wf⟩
theorem cvR_mk {g : bG} {rd : Nat} {F F' : bF} {A A' : Int → Int} (h : cvR g rd F A) (hb2 : F' (rd + 2) = F (rd + 2)) (hb3 : F' (rd + 3) = F (rd + 3)) (hb4 : F' (rd + 4) = F (rd + 4)) (h4 : F' (rd + 1) 4 = F (rd + 1) 4) (h5 : F' (rd + 1) 5 = F (rd + 1) 5) (h6 : F' (rd + 1) 6 = F (rd + 1) 6) (h7 : F' (rd + 1) 7 = F (rd + 1) 7)
    (hA : ∀ k, k ≠ 0 → k ≠ 1 → k ≠ 3 → k ≠ 42 → k ≠ 43 → k ≠ 45 → A' k = A k) (e1 : A' 1 = A 1) (c : F' (rd + 1) 8 = A' 42 ∧ F' (rd + 1) 9 = A' 43 ∧ F' (rd + 1) 10 = A' 45 ∧ F' (rd + 1) 11 = A' 3 ∧ F' (rd + 1) 12 = A' 0) (r : 0 ≤ A' 3 ∧ A' 3 ≤ 10 ∧ 0 ≤ A' 42 ∧ A' 42 < A 1 ∧ 0 ≤ A' 43 ∧ A' 43 ≤ 4 ∧ 0 ≤ A' 45 ∧ A' 45 ≤ 9) : cvR g rd F' A' := by
  obtain ⟨r1, r2, r3, r4, r5, r6⟩ := h
  have q : ∀ k, k ≠ 0 → k ≠ 1 → k ≠ 3 → (k < 42 ∨ 46 ≤ k ∨ k = 44) → A' k = A k := fun k a b c d => hA k a b c (by omega) (by omega) (by omega)
  unfold cvR
  rw [hb2, hb3, hb4, h4, h5, h6, h7, e1, q 2 (by omega) (by omega) (by omega) (by omega), q 44 (by omega) (by omega) (by omega) (by omega), q 46 (by omega) (by omega) (by omega) (by omega), q 47 (by omega) (by omega) (by omega) (by omega)]
  refine ⟨⟨r1.1, r1.2.1, r1.2.2.1, c⟩, fun i i0 i1 => by rw [q (10 + i) (by omega) (by omega) (by omega) (by omega), q (18 + i) (by omega) (by omega) (by omega) (by omega)]; exact r2 i i0 i1, fun i i0 i1 => by rw [q (26 + i) (by omega) (by omega) (by omega) (by omega), q (34 + i) (by omega) (by omega) (by omega) (by omega)]; exact r3 i i0 i1, by omega, lawR_same r5 (Or.inl rfl) hA, lawR_same r6 (Or.inr rfl) hA⟩
theorem mL_cs {A : Int → Int} {l N : Int} {cs : List Int} (e6 : A (6 + l) = N) (e8 : A (8 + l) = cs.length) (h : ∀ i : Int, 0 ≤ i → i < cs.length → A (99 + N + i) = cs.getD i.toNat 0) : mL A 0 l = cs := by
  unfold mL
  have z8 : (0 : Int) + 8 + l = 8 + l := by omega
  have z6 : (0 : Int) + 6 + l = 6 + l := by omega
  have z99 : (0 : Int) + 99 + A (0 + 6 + l) = 99 + N := by rw [z6, e6]; omega
  rw [z8, e8, z99]
  apply List.ext_getElem
  · rw [List.length_map, List.length_range]; omega
  · intro i h1 h2
    rw [List.getElem_map, List.getElem_range, h i (by omega) (by omega), Int.toNat_natCast, List.getD_eq_getElem?_getD, List.getElem?_eq_getElem h2]
    rfl
/-- the heap has grown, and the cave's laws may be new -/
def lEx (rd : Nat) (g : bG) (n : Nat × Nat) (g' : bG) (n' : Nat × Nat) : Prop := (∀ t a k, a < n.1 → ¬ (t = 1 ∧ a = rd + 1 ∧ (k = 13 ∨ k = 14)) → g' t a k = g t a k) ∧ n.1 ≤ n'.1 ∧ n.2 ≤ n'.2 ∧ ∀ t a k, n'.1 ≤ a → g' t a k = bk_u
theorem lEx_tr {rd : Nat} {g g' g'' : bG} {n n' n'' : Nat × Nat} (h : lEx rd g n g' n') (h' : lEx rd g' n' g'' n'') : lEx rd g n g'' n'' :=
  ⟨fun t a k q w => (h'.1 t a k (by have := h.2.1; omega) w).trans (h.1 t a k q w), Nat.le_trans h.2.1 h'.2.1, Nat.le_trans h.2.2.1 h'.2.2.1, h'.2.2.2⟩
theorem bPw_lx {cp : bF} {g g' : bG} {n n' : Nat × Nat} {rd : Nat} {b : Int → Int} {sz : Int} (h : bPw cp g n rd b sz) (e : lEx rd g n g' n') : bPw cp g' n' rd b sz := by
  obtain ⟨hF, hS, k10, k1, kb, ke, kd, r0, r1, hfr, z0, z1, hb⟩ := h
  obtain ⟨e1, e2, e3, e4⟩ := e
  refine ⟨⟨fun q hq => ?_, fun i hi => ?_, fun i hi => ?_, fun i hi => ?_⟩, fun i hi => ?_, ?_, ?_, ?_, ?_, ?_, r0, by omega, e4, z0, z1, hb⟩
  · have l : q.2.1 < 122 := by
      have m : ∀ q ∈ bk_fx, q.2.1 < 122 := by decide
      exact m q hq
    rw [e1 _ _ _ (by omega) (by omega)]; exact hF.1 q hq
  · rw [e1 _ _ _ (by omega) (by omega), e1 _ _ _ (by omega) (by omega)]; exact hF.2.1 i hi
  · rw [e1 _ _ _ (by omega) (by omega)]; exact hF.2.2.1 i hi
  · rw [e1 _ _ _ (by omega) (by omega), e1 _ _ _ (by omega) (by omega)]; exact hF.2.2.2 i hi
  · obtain ⟨a1, a2, a3, a4⟩ := hS i hi
    refine ⟨by rw [e1 _ _ _ (by omega) (by omega)]; exact a1, by rw [e1 _ _ _ (by omega) (by omega)]; exact a2, by rw [e1 _ _ _ (by omega) (by omega)]; exact a3, fun k k0 k1 => by rw [e1 _ _ _ (by omega) (by omega)]; exact a4 k k0 k1⟩
  · rw [e1 _ _ _ (by omega) (by omega)]; exact k10
  · rw [e1 _ _ _ (by omega) (by omega)]; exact k1
  · rw [e1 _ _ _ (by omega) (by omega)]; exact kb
  · rw [e1 _ _ _ (by omega) (by omega)]; exact ke
  · rw [e1 _ _ _ (by omega) (by omega)]; exact kd
theorem cvR_A {g : bG} {rd : Nat} {F : bF} {A A' : Int → Int} (h : cvR g rd F A) (e : A' = A) : cvR g rd F A' := by
  rw [e]; exact h
section LI
variable {κ : Nat → Nat} {cp cs0 : bF} {cj : bFJ} {Y : bY} {g : bG} {n : Nat × Nat} {rd : Nat} {F F' : bF} {κ2 : Nat → Nat} {X2 : bX} {tp ts ts' : bF} {tj tk : bFJ} {g2 : bG} {n2 : Nat × Nat} {b σ σ' : Int → Int} {sz p : Int} {d d2 : Nat}
theorem lEx_rf (h : bPw cp g n rd b sz) : lEx rd g n g n := ⟨fun _ _ _ _ _ => rfl, Nat.le_refl _, Nat.le_refl _, h.2.2.2.2.2.2.2.2.2.1⟩

theorem sim_lost (hv : cV cp g n rd F b sz (nextM b sz σ)) (ht : tV tp ts g2 b sz σ) (ok : okL b sz σ) (q4 : σ 4 = 0) (hR : cvR g rd F (ts 106)) (hD : 13 ≤ d) (hD2 : 13 ≤ d2) : ∃ σ' F' ts', stepL b sz (nextM b sz σ) σ' ∧ cFr rd F F' ∧ tFr ts ts' ∧ cLx F' rd σ' ∧ tLx ts' σ' ∧ ts' 106 98 = ts 106 98 ∧ (σ' 4 = 0 → cvR g rd F' (ts' 106))
    ∧ bk_call d 5017 [.ref rd] (bk_Q rd F (bk_M κ (cp, cs0, cj) Y g n)) = some (none, (bk_Q rd F' (bk_M κ (cp, cs0, cj) Y g n))) ∧ bk_call d2 4018 [.ref 102] (bk_M κ2 X2 (tp, tj, ts, tk) g2 n2) = some (none, (bk_M κ2 X2 (tp, tj, ts', tk) g2 n2)) := by
  obtain ⟨d, rfl⟩ := dep (show 1 ≤ d by omega)
  obtain ⟨d2, rfl⟩ := dep (show 1 ≤ d2 by omega)
  have hrp := pw_rd (κ := κ) hv.1
  obtain ⟨t10, t1, tb, te, td, t3, tt⟩ := hrp
  have hF2 := ht.1.1
  obtain ⟨st1, n4, s1⟩ := nextM_st ok q4
  have r4 := hR.2.2.2.1
  have f4 : F (rd + 1) 4 = ts 106 1 := hR.1.1
  obtain ⟨F2, z1, f2, l2, ez1, z10, z11, e2⟩ := q_room (κ := κ) (cs0 := cs0) (cj := cj) (Y := Y) (d := d) hv st1.1 f4 (by omega) (by omega) (by omega)
  have st2 := numM_st (lo := 0) (hi := ts 106 1 - 1) st1.1
  have hv2 := cV_lx hv (cFr_of f2) l2
  obtain ⟨F3, f3, l3, e3⟩ := q_mustWord (κ := κ) (cs := cs0) (cj := cj) (Y := Y) (D := d) hv2.1 hv2.2.1 l2 st2.1 kO13 (show 15 = 2 + 13 from rfl) (by omega)
  have st3 := mustM_st (kk := 7) st2.1
  have hv3 := cV_lx hv2 (cFr_of f3) l3
  obtain ⟨F4, z2, f4', l4, ez2, z20, z21, e4⟩ := q_number (κ := κ) (cs := cs0) (cj := cj) (Y := Y) (D := d) (lo := 0) (hi := 4) hv3.1 hv3.2.1 l3 st3.1 (by decide) (by decide) (by decide) (by decide) (by omega)
  have st4 := numM_st (lo := 0) (hi := 4) st3.1
  have fA := frF_tr (frF_tr f2 f3) f4'
  obtain ⟨ts1, h1', m1, u1⟩ := t_nextL (κ := κ2) (X := X2) (tj := tj) (tk := tk) (n := n2) (D := d2) ht.1 ht.2.1 ht.2.2.1 ok (by omega)
  have ht1 := tV_lx ht (tFr_of h1') m1 (by rw [ts_lx h1']) st1.2.1
  have a1 : ts1 106 = ts 106 := ts_lx h1'
  obtain ⟨ts2, z1', h2', m2, ez1', u2⟩ := t_takes (κ := κ2) (X := X2) (tj := tj) (tk := tk) (n := n2) (D := d2) (lo := 0) (hi := ts 106 1 - 1) ht1.1 ht1.2.1 m1 st1.1 (by decide) (by decide) (by omega) (by omega) (by omega)
  have a2 : ts2 106 = ts 106 := (ts_lx h2').trans a1
  have ht2 : tV tp (bU ts2 106 42 z1') g2 b sz (numM b sz 0 (ts 106 1 - 1) (nextM b sz σ)) := tV_lx ht1 (tFr_tr (tFr_of h2') tFr_U) (tLx_U m2) (by rw [bU_same, if_neg (by omega), a2, a1]) st2.2.1
  obtain ⟨ts3, h3', m3, u3⟩ := t_must (κ := κ2) (X := X2) (tj := tj) (tk := tk) (n := n2) (d := d2) (kk := 7) ht2.1 ht2.2.1 ht2.2.2.1 st2.1 li_7 (by decide) (by decide) (by omega)
  have a3 : ts3 106 = fU (ts 106) 42 z1' := by rw [ts_lx h3', bU_106, a2]
  have ht3 := tV_lx ht2 (tFr_of h3') m3 (by rw [ts_lx h3']) st3.2.1
  obtain ⟨ts4, z2', h4', m4, ez2', u4⟩ := t_takes (κ := κ2) (X := X2) (tj := tj) (tk := tk) (n := n2) (D := d2) (lo := 0) (hi := 4) ht3.1 ht3.2.1 m3 st3.1 (by decide) (by decide) (by decide) (by decide) (by omega)
  have a4 : ts4 106 = fU (ts 106) 42 z1' := (ts_lx h4').trans a3
  have a5 : bU ts4 106 43 z2' 106 = fU (fU (ts 106) 42 z1') 43 z2' := by rw [bU_106, a4]
  have c6 := l4.2.2.2.2.1
  have s24 := st4.1.2.2.2.2.2.2.2
  have b1 : ts1 106 1 = ts 106 1 := by rw [a1]
  have eT : bk_call (d2 + 1) 4018 [.ref 102] (bk_M κ2 X2 (tp, tj, ts, tk) g2 n2) = some (none, (bk_M κ2 X2 (tp, tj, (bU ts4 106 43 z2'), tk) g2 n2)) := by
    rw [kX4_readLost, eX4_readLost_0]
    simp (disch := first | assumption | omega) only [u1, b1, u2, bi_add, bi_sub, bi_mul, bi_neg, bi_div, bi_64, bl_add, bl_sub, bl_mul, bl_neg, bl_div, bl_32, bi_min, bi_max, bl_min, bl_max, bq_I, bq_J, bq_A, bq_Vi, bq_Vl, bq_Vr, bq_cV, bq_cI, bq_cJ, bq_cA, bq_le, bq_lt, bq_eq, bq_z, bq_o, bq_ref, bq_nz, bq_nzJ, bq_bl, bq_blz, bq_T, bq_F, if_true, if_false, Int.reduceEq, Int.reduceLT, Int.reduceLE, Int.reduceAdd, Int.reduceSub, Int.reduceMul, Int.add_sub_cancel, li_0, li_1, li_2, li_4, li_7, li_38, li_42, li_43, li_100, li_4005, li_4010, li_4012, li_4013, li_4018, ll_0, ll_1, ll_2, ll_4, ll_7, ll_38, ll_42, ll_43, ll_100, ga103, ga105, ga119, ga120, ga106, ga107, ga108, ga109, ga110, ga111, ga116, ga118, ga104, ga112, ga114, ga115, ga117, ga113, ga121, gf102_5, gf102_13, gf102_14, gf102_6, gf102_7, gf102_8, gf102_9, gf102_10, gf102_11, gf102_12, gf102_15, gf102_19, gf102_20, gr102_1, gr102_2, gr102_3, gr102_4, gr102_16, gr102_17, gr102_18, gr102_21, gr102_22, gr102_23, gr102_24, gr102_25, gr102_26, gr102_27, gr102_28, gr102_29, gr102_30, gr102_31, gr102_32, pa103, pa105, pa119, pa120, pa106, pa107, pa108, pa109, pa110, pa111, pa116, pa118, pa104, pa112, pa114, pa115, pa117, pa113, pa121, pf102_5, pf102_13, pf102_14, pf102_0, pf102_6, pf102_7, pf102_8, pf102_9, pf102_10, pf102_11, pf102_12, pf102_15, pf102_19, pf102_20, s_within, t_isLost, t_fallen, t_isHurt, t_between, t_isPassage, t_isRoom, t_standNow, t_standsAll, t_isIn, t_noComing, t_noStand, t_bitsOf, u_tens4109, t_draw]
    rw [gf102_0, bq_Vi, gf102_0, bq_Vi]
    have u3' := u3 (fun h => bk_den TX4_readLost (bk_call d2) 38 [.ref 102] [] h)
    rw [li_7, li_0, li_2] at u3'
    refine u3'.trans ?_
    show bk_den TX4_readLost (bk_call d2) 38 [.ref 102] [] (bk_M κ2 X2 (tp, tj, ts3, tk) g2 n2) = _
    rw [eX4_readLost_38]
    simp (disch := first | assumption | omega) only [u4, bi_add, bi_sub, bi_mul, bi_neg, bi_div, bi_64, bl_add, bl_sub, bl_mul, bl_neg, bl_div, bl_32, bi_min, bi_max, bl_min, bl_max, bq_I, bq_J, bq_A, bq_Vi, bq_Vl, bq_Vr, bq_cV, bq_cI, bq_cJ, bq_cA, bq_le, bq_lt, bq_eq, bq_z, bq_o, bq_ref, bq_nz, bq_nzJ, bq_bl, bq_blz, bq_T, bq_F, if_true, if_false, Int.reduceEq, Int.reduceLT, Int.reduceLE, Int.reduceAdd, Int.reduceSub, Int.reduceMul, Int.add_sub_cancel, li_0, li_1, li_2, li_4, li_7, li_38, li_42, li_43, li_100, li_4005, li_4010, li_4012, li_4013, li_4018, ll_0, ll_1, ll_2, ll_4, ll_7, ll_38, ll_42, ll_43, ll_100, ga103, ga105, ga119, ga120, ga106, ga107, ga108, ga109, ga110, ga111, ga116, ga118, ga104, ga112, ga114, ga115, ga117, ga113, ga121, gf102_5, gf102_13, gf102_14, gf102_0, gf102_6, gf102_7, gf102_8, gf102_9, gf102_10, gf102_11, gf102_12, gf102_15, gf102_19, gf102_20, gr102_1, gr102_2, gr102_3, gr102_4, gr102_16, gr102_17, gr102_18, gr102_21, gr102_22, gr102_23, gr102_24, gr102_25, gr102_26, gr102_27, gr102_28, gr102_29, gr102_30, gr102_31, gr102_32, pa103, pa105, pa119, pa120, pa106, pa107, pa108, pa109, pa110, pa111, pa116, pa118, pa104, pa112, pa114, pa115, pa117, pa113, pa121, pf102_5, pf102_13, pf102_14, pf102_0, pf102_6, pf102_7, pf102_8, pf102_9, pf102_10, pf102_11, pf102_12, pf102_15, pf102_19, pf102_20, s_within, t_isLost, t_fallen, t_isHurt, t_between, t_isPassage, t_isRoom, t_standNow, t_standsAll, t_isIn, t_noComing, t_noStand, t_bitsOf, u_tens4109, t_draw]
  by_cases z4 : numM b sz 0 4 (mustM b sz 7 (numM b sz 0 (ts 106 1 - 1) (nextM b sz σ))) 4 = 0
  · rw [z4] at c6
    refine ⟨_, bU (bU F4 (rd + 1) 8 z1) (rd + 1) 9 z2, bU ts4 106 43 z2', stepL_tr (stepL_tr st2 st3) st4, cFr_tr (cFr_of fA) (cFr_tr (cFr_U (by omega)) (cFr_U (by omega))), tFr_tr (tFr_tr (tFr_tr (tFr_tr (tFr_of h1') (tFr_of h2')) tFr_U) (tFr_of h3')) (tFr_tr (tFr_of h4') tFr_U), cLx_U (cLx_U l4 (by omega)) (by omega), tLx_U m4, ?_, fun _ => ?_, ?_, eT⟩
    · rw [a5, fU_ne (by decide), fU_ne (by decide)]
    · have k4 := numM_0 st3.1 z4
      have k3 := mustM_0 st2.1 k4.1
      have k2 := numM_0 st1.1 k3.1
      have y1 := ez1 k3.1
      have y1' := ez1' k3.1
      have y2 := ez2 z4
      have y2' := ez2' z4
      have g1 : F4 (rd + 1) = F (rd + 1) := fA.1 _ (by omega)
      rw [a5]
      have r1 := hR.1
      refine cvR_mk hR ?_ ?_ ?_ ?_ ?_ ?_ ?_ (fun k _ _ _ k42 k43 _ => by rw [fU_ne k43, fU_ne k42]) (by rw [fU_ne (by decide), fU_ne (by decide)]) ⟨?_, ?_, ?_, ?_, ?_⟩ ?_
      · funext k; rw [bU_ne _ _ _ _ _ _ (by omega), bU_ne _ _ _ _ _ _ (by omega), fA.1 _ (by omega)]
      · funext k; rw [bU_ne _ _ _ _ _ _ (by omega), bU_ne _ _ _ _ _ _ (by omega), fA.1 _ (by omega)]
      · funext k; rw [bU_ne _ _ _ _ _ _ (by omega), bU_ne _ _ _ _ _ _ (by omega), fA.1 _ (by omega)]
      · rw [bU_same, if_neg (by decide), bU_same, if_neg (by decide), g1]
      · rw [bU_same, if_neg (by decide), bU_same, if_neg (by decide), g1]
      · rw [bU_same, if_neg (by decide), bU_same, if_neg (by decide), g1]
      · rw [bU_same, if_neg (by decide), bU_same, if_neg (by decide), g1]
      · rw [bU_same, if_neg (by decide), bU_same, if_pos rfl, fU_ne (by decide), fU_same, y1, y1']
      · rw [bU_same, if_pos rfl, fU_same, y2, y2']
      · rw [bU_same, if_neg (by decide), bU_same, if_neg (by decide), g1, fU_ne (by decide), fU_ne (by decide)]; exact r1.2.2.2.2.2.1
      · rw [bU_same, if_neg (by decide), bU_same, if_neg (by decide), g1, fU_ne (by decide), fU_ne (by decide)]; exact r1.2.2.2.2.2.2.1
      · rw [bU_same, if_neg (by decide), bU_same, if_neg (by decide), g1, fU_ne (by decide), fU_ne (by decide)]; exact r1.2.2.2.2.2.2.2
      · rw [fU_same, fU_ne (by decide), fU_ne (by decide), fU_ne (show (42 : Int) ≠ 43 by decide), fU_same, fU_ne (by decide), fU_ne (by decide)]
        omega
    · rw [kX5_lost, eX5_lost_0]
      simp (disch := first | assumption | omega) only [t10, t1, tb, te, td, t3, tt, e2, e3, e4, c6, bi_add, bi_sub, bi_mul, bi_neg, bi_div, bi_64, bl_add, bl_sub, bl_mul, bl_neg, bl_div, bl_32, bi_min, bi_max, bl_min, bl_max, bq_I, bq_J, bq_A, bq_Vi, bq_Vl, bq_Vr, bq_cV, bq_cI, bq_cJ, bq_cA, bq_le, bq_lt, bq_eq, bq_z, bq_o, bq_ref, bq_nz, bq_nzJ, bq_bl, bq_blz, bq_T, bq_F, if_true, if_false, Int.reduceEq, Int.reduceLT, Int.reduceLE, Int.reduceAdd, Int.reduceSub, Int.reduceMul, Int.add_sub_cancel, li_0, li_1, li_4, li_5, li_6, li_8, li_9, li_15, ll_0, ll_1, ll_4, ll_5, ll_6, ll_8, ll_9, ll_15, q5_0, w5_0, q5_2, w5_2, q5_3, w5_3, q5_4, w5_4, q5_5, w5_5, q5_6, w5_6, q5_7, w5_7, q5_8, w5_8, q5_9, w5_9, q1_4, w1_4, q1_5, w1_5, q1_6, w1_6, q1_7, w1_7, q1_8, w1_8, q1_9, w1_9, q1_10, w1_10, q1_11, w1_11, q1_12, w1_12, qa_2, wa_2, qa_3, wa_3, qa_4, wa_4, bU_same, bU_ne, s_in]
  · refine ⟨_, F4, bU ts4 106 43 z2', stepL_tr (stepL_tr st2 st3) st4, cFr_of fA, tFr_tr (tFr_tr (tFr_tr (tFr_tr (tFr_of h1') (tFr_of h2')) tFr_U) (tFr_of h3')) (tFr_tr (tFr_of h4') tFr_U), l4, tLx_U m4, ?_, fun w => absurd w z4, ?_, eT⟩
    · rw [a5, fU_ne (by decide), fU_ne (by decide)]
    · rw [kX5_lost, eX5_lost_0]
      simp (disch := first | assumption | omega) only [t10, t1, tb, te, td, t3, tt, e2, e3, e4, c6, if_neg z4, bi_add, bi_sub, bi_mul, bi_neg, bi_div, bi_64, bl_add, bl_sub, bl_mul, bl_neg, bl_div, bl_32, bi_min, bi_max, bl_min, bl_max, bq_I, bq_J, bq_A, bq_Vi, bq_Vl, bq_Vr, bq_cV, bq_cI, bq_cJ, bq_cA, bq_le, bq_lt, bq_eq, bq_z, bq_o, bq_ref, bq_nz, bq_nzJ, bq_bl, bq_blz, bq_T, bq_F, if_true, if_false, Int.reduceEq, Int.reduceLT, Int.reduceLE, Int.reduceAdd, Int.reduceSub, Int.reduceMul, Int.add_sub_cancel, li_0, li_1, li_4, li_5, li_6, li_8, li_9, li_15, ll_0, ll_1, ll_4, ll_5, ll_6, ll_8, ll_9, ll_15, q5_0, w5_0, q5_2, w5_2, q5_3, w5_3, q5_4, w5_4, q5_5, w5_5, q5_6, w5_6, q5_7, w5_7, q5_8, w5_8, q5_9, w5_9, q1_4, w1_4, q1_5, w1_5, q1_6, w1_6, q1_7, w1_7, q1_8, w1_8, q1_9, w1_9, q1_10, w1_10, q1_11, w1_11, q1_12, w1_12, qa_2, wa_2, qa_3, wa_3, qa_4, wa_4, bU_same, bU_ne, s_in]

theorem sim_hurts (hv : cV cp g n rd F b sz (nextM b sz σ)) (ht : tV tp ts g2 b sz σ) (ok : okL b sz σ) (q4 : σ 4 = 0) (lt0 : σ 0 < σ 1) (hR : cvR g rd F (ts 106)) (hD : 110 ≤ d) (hD2 : 110 ≤ d2) : ∃ σ' F' g' n' ts', stepL b sz (nextM b sz σ) σ' ∧ cFr rd F F' ∧ tFr ts ts' ∧ cLx F' rd σ' ∧ tLx ts' σ' ∧ lEx rd g n g' n' ∧ (n'.1 : Int) ≤ n.1 + 6 * (σ' 0 - σ 0) ∧ (n'.2 : Int) ≤ n.2 + 18 * (σ' 0 - σ 0) ∧ 0 ≤ ts' 106 98 ∧ ts' 106 98 ≤ σ' 0 ∧ (σ' 4 = 0 → cvR g' rd F' (ts' 106))
    ∧ bk_call d 5018 [.ref rd] (bk_Q rd F (bk_M κ (cp, cs0, cj) Y g n)) = some (none, (bk_Q rd F' (bk_M κ (cp, cs0, cj) Y g' n'))) ∧ bk_call d2 4019 [.ref 102, .int (bk_i 0)] (bk_M κ2 X2 (tp, tj, ts, tk) g2 n2) = some (none, (bk_M κ2 X2 (tp, tj, ts', tk) g2 n2)) := by
  obtain ⟨d, rfl⟩ := dep (show 1 ≤ d by omega)
  obtain ⟨d2, rfl⟩ := dep (show 1 ≤ d2 by omega)
  have hrp := pw_rd (κ := κ) hv.1
  obtain ⟨t10, t1, tb, te, td, t3, tt⟩ := hrp
  have hF2 := ht.1.1
  have hfr := hv.1.2.2.2.2.2.2.2.2.2.1
  have hrd := hv.1.2.2.2.2.2.2.2.2.1
  have n98 := ht.2.2.2.1
  have m98 := ht.2.2.2.2
  obtain ⟨st1, n4, s1⟩ := nextM_st ok q4
  have hcl : cLx (bU F rd 9 0) rd (nextM b sz σ) := by
    have c := hv.2.2.1
    exact ⟨by rw [bU_same, if_neg (by decide)]; exact c.1, by rw [bU_same, if_neg (by decide)]; exact c.2.1, by rw [bU_same, if_neg (by decide)]; exact c.2.2.1, by rw [bU_same, if_neg (by decide)]; exact c.2.2.2.1, by rw [bU_same, if_neg (by decide)]; exact c.2.2.2.2.1, by rw [bU_same, if_neg (by decide)]; exact c.2.2.2.2.2⟩
  have c9 : cFr rd F (bU F rd 9 0) := ⟨fun a q => by funext j; rw [bU_ne _ _ _ _ _ _ (by omega)], by rw [bU_same, if_neg (by decide)], by rw [bU_same, if_neg (by decide)]⟩
  have hv1 := cV_lx hv c9 hcl
  obtain ⟨F2, f2, l2, e2⟩ := q_must (κ := κ) (cs := cs0) (cj := cj) (Y := Y) (D := d) (kk := 31) (c := 58) hv1.1 hv1.2.1 hv1.2.2.1 st1.1 rfl (by decide) (by decide) (by decide) (by omega)
  have st2 := mustM_st (kk := 31) st1.1
  have hv2 := cV_lx hv1 (cFr_of f2) l2
  obtain ⟨ts1, h1', m1, u1⟩ := t_nextL (κ := κ2) (X := X2) (tj := tj) (tk := tk) (n := n2) (D := d2) ht.1 ht.2.1 ht.2.2.1 ok (by omega)
  have ht1 := tV_lx ht (tFr_of h1') m1 (by rw [ts_lx h1']) st1.2.1
  obtain ⟨ts2, h2', m2, u2⟩ := t_must (κ := κ2) (X := X2) (tj := tj) (tk := tk) (n := n2) (d := d2) (kk := 31) ht1.1 ht1.2.1 m1 st1.1 li_31 (by decide) (by decide) (by omega)
  have ht2 := tV_lx ht1 (tFr_of h2') m2 (by rw [ts_lx h2']) st2.2.1
  have a2 : ts2 106 = ts 106 := (ts_lx h2').trans (ts_lx h1')
  generalize hσ2 : mustM b sz 31 (nextM b sz σ) = σ2 at *
  have sp := st2.2.1
  obtain ⟨σ3, cs, st3, w3, C3, T3⟩ := (sim_all (b := b) (sz := sz) (W := 6) (Or.inl rfl) ((sz - σ2 0).toNat + 1) σ2 0 st2.1 (Nat.lt_succ_self _) (by decide) (by decide)).2.2.1
  have sp3 := st3.2.1
  have okz := st3.1.2.2.1
  have okz' := st3.1.2.1
  have ok20 := st2.1.1
  have hcw : cW cp g n rd F2 b sz 6 0 σ2 := ⟨hv2.1, hv2.2.1, l2, hv2.2.2.2, by rw [f2.2 9 (by omega), bU_same, if_pos rfl]; decide⟩
  obtain ⟨F3, g3', n3, x3, p3, t3, e3⟩ := C3 κ cp cs0 cj Y g n rd F2 d hcw (by unfold eN; omega)
  have hz8 : sz ≤ 900 := hv.1.2.2.2.2.2.2.2.2.2.2.2.1
  have htw : tW tp (bU ts2 102 15 0) g2 b sz 6 σ2 := by
    have c := m2
    refine ⟨ht2.1, by rw [bU_same, if_neg (by decide)]; exact ht2.2.1, ⟨by rw [bU_same, if_neg (by decide)]; exact c.1, by rw [bU_same, if_neg (by decide)]; exact c.2.1, by rw [bU_same, if_neg (by decide)]; exact c.2.2.1, by rw [bU_same, if_neg (by decide)]; exact c.2.2.2.1, by rw [bU_same, if_neg (by decide)]; exact c.2.2.2.2.1, by rw [bU_same, if_neg (by decide)]; exact c.2.2.2.2.2⟩, by rw [bU_same, if_pos rfl]; decide, by rw [bU_ne _ _ _ _ _ _ (by decide), a2]; exact n98, by rw [bU_ne _ _ _ _ _ _ (by decide), a2]; omega⟩
  obtain ⟨ts4, p4, u4⟩ := T3 κ2 X2 tp tj _ tk g2 n2 d2 htw (by unfold eN; omega)
  have i98 : bU ts2 102 15 0 106 = ts 106 := by funext j; rw [bU_ne _ _ _ _ _ _ (by decide), a2]
  have p44 := p4.2.2.2.1
  have p45 := p4.2.2.2.2.1
  have p46 := p4.2.2.2.2.2.1
  have p47 := p4.2.2.2.2.2.2
  rw [i98] at p44 p45 p46 p47
  have c6 := p3.2.1.2.2.2.2.1
  have t11 := p4.2.2.1.2.2.2.2.1
  have s24 := st3.1.2.2.2.2.2.2.2
  have q3 := p3.2.2.1
  have lt3 := q3.2.1
  have t1' := (pw_rd (κ := κ) (bPw_ex hv.1 q3)).2.1
  have hfrF : cFr rd F F3 := cFr_tr c9 (cFr_of (frF_tr f2 p3.1))
  have hfrT : tFr ts ts4 := tFr_tr (tFr_tr (tFr_of h1') (tFr_of h2')) ⟨fun a h1 h2 => by rw [p4.1 a h1 h2]; funext j; rw [bU_ne _ _ _ _ _ _ h1], by rw [p4.2.1 8 (by omega), bU_same, if_neg (by decide)]⟩
  obtain ⟨r1, r2, r3, r4, r5, r6⟩ := hR
  have hn1 := p3.2.2.2.1
  have hn2 := p3.2.2.2.2
  have eT48 : bk_call (d2 + 1) 4019 [.ref 102, .int (bk_i 0)] (bk_M κ2 X2 (tp, tj, ts, tk) g2 n2) = bk_den TX4_readLaw (bk_call d2) 48 [.ref 102, .int (bk_i 0), .int (bk_i (ts 106 98))] [] (bk_M κ2 X2 (tp, tj, ts4, tk) g2 n2) := by
    have b98 : ts2 106 98 = ts 106 98 := by rw [a2]
    rw [kX4_readLaw, eX4_readLaw_0, gf102_0, bq_Vi, u1, bq_cV, gf102_0, bq_Vi]
    refine (u2 _).trans ?_
    show bk_den TX4_readLaw (bk_call d2) 18 [.ref 102, .int (bk_i 0), bk_u] [] (bk_M κ2 X2 (tp, tj, ts2, tk) g2 n2) = _
    rw [eX4_readLaw_18]
    simp (disch := first | assumption | omega) only [b98, u4, bi_add, bi_sub, bi_mul, bi_neg, bi_div, bi_64, bl_add, bl_sub, bl_mul, bl_neg, bl_div, bl_32, bi_min, bi_max, bl_min, bl_max, bq_I, bq_J, bq_A, bq_Vi, bq_Vl, bq_Vr, bq_cV, bq_cI, bq_cJ, bq_cA, bq_le, bq_lt, bq_eq, bq_z, bq_o, bq_ref, bq_nz, bq_nzJ, bq_bl, bq_blz, bq_T, bq_F, if_true, if_false, Int.reduceEq, Int.reduceLT, Int.reduceLE, Int.reduceAdd, Int.reduceSub, Int.reduceMul, Int.add_sub_cancel, li_0, li_1, li_2, li_4, li_6, li_8, li_11, li_15, li_18, li_31, li_48, li_98, li_100, li_4005, li_4010, li_4012, li_4019, li_4020, li_4027, ll_0, ll_1, ll_2, ll_4, ll_6, ll_8, ll_11, ll_15, ll_18, ll_31, ll_48, ll_98, ll_100, ga103, ga105, ga119, ga120, ga106, ga107, ga108, ga109, ga110, ga111, ga116, ga118, ga104, ga112, ga114, ga115, ga117, ga113, ga121, gf102_5, gf102_13, gf102_14, gf102_0, gf102_6, gf102_7, gf102_8, gf102_9, gf102_10, gf102_11, gf102_12, gf102_15, gf102_19, gf102_20, gr102_1, gr102_2, gr102_3, gr102_4, gr102_16, gr102_17, gr102_18, gr102_21, gr102_22, gr102_23, gr102_24, gr102_25, gr102_26, gr102_27, gr102_28, gr102_29, gr102_30, gr102_31, gr102_32, pa103, pa105, pa119, pa120, pa106, pa107, pa108, pa109, pa110, pa111, pa116, pa118, pa104, pa112, pa114, pa115, pa117, pa113, pa121, pf102_5, pf102_13, pf102_14, pf102_0, pf102_6, pf102_7, pf102_8, pf102_9, pf102_10, pf102_11, pf102_12, pf102_15, pf102_19, pf102_20, s_within, t_isLost, t_fallen, t_isHurt, t_between, t_isPassage, t_isRoom, t_standNow, t_standsAll, t_isIn, t_noComing, t_noStand, t_bitsOf, u_tens4109, t_draw]
  have refK : ∃ r, g 1 (rd + 1) 13 = .ref r := by
    rcases r5 with ⟨-, q⟩ | ⟨-, -, -, -, x, d, -, -, q, -⟩
    · exact ⟨_, q⟩
    · exact ⟨_, q⟩
  obtain ⟨rk, hrk⟩ := refK
  have gk : ∀ F, (bk_Q rd F (bk_M κ (cp, cs0, cj) Y g3' n3)).1 1 (rd + 1) 13 = .ref rk := fun F => by rw [bQ_off (by omega), gX (by decide), q3.1 _ _ _ (by omega)]; exact hrk
  by_cases z4 : σ3 4 = 0
  · obtain ⟨x0, tt⟩ := t3 z4
    obtain ⟨v1, v2⟩ := p47 z4
    have wf := (w3 z4).2
    rw [z4] at c6 t11
    have eA : ∀ k, k ≠ 4 → k ≠ 6 → k ≠ 8 → bU (bU (bU ts4 106 4 1) 106 6 (ts 106 98)) 106 8 (ts4 106 98 - ts 106 98) 106 k = ts4 106 k := fun k k1 k2 k3 => by rw [bU_same, if_neg k3, bU_same, if_neg k2, bU_same, if_neg k1]
    have eA4 : bU (bU (bU ts4 106 4 1) 106 6 (ts 106 98)) 106 8 (ts4 106 98 - ts 106 98) 106 4 = 1 := by rw [bU_same, if_neg (by decide), bU_same, if_neg (by decide), bU_same, if_pos rfl]
    have eA6 : bU (bU (bU ts4 106 4 1) 106 6 (ts 106 98)) 106 8 (ts4 106 98 - ts 106 98) 106 6 = ts 106 98 := by rw [bU_same, if_neg (by decide), bU_same, if_pos rfl]
    have eA8 : bU (bU (bU ts4 106 4 1) 106 6 (ts 106 98)) 106 8 (ts4 106 98 - ts 106 98) 106 8 = ts4 106 98 - ts 106 98 := by rw [bU_same, if_pos rfl]
    have lo : ∀ k, k < 98 → k ≠ 4 → k ≠ 6 → k ≠ 8 → bU (bU (bU ts4 106 4 1) 106 6 (ts 106 98)) 106 8 (ts4 106 98 - ts 106 98) 106 k = ts 106 k := fun k k0 k1 k2 k3 => by rw [eA k k1 k2 k3, p44 k (by omega) (by omega)]
    refine ⟨σ3, F3, gp g3' 1 (rd + 1) 13 (.ref x3), n3, bU (bU (bU ts4 106 4 1) 106 6 (ts 106 98)) 106 8 (ts4 106 98 - ts 106 98), stepL_tr st2 st3, hfrF, tFr_tr hfrT (tFr_tr tFr_U (tFr_tr tFr_U tFr_U)), p3.2.1, tLx_U (tLx_U (tLx_U p4.2.2.1)), ⟨fun t a j ha hn => by rw [gp_ne (by omega)]; exact q3.1 t a j ha, q3.2.1, q3.2.2.1, fun t a j ha => by rw [gp_ne (by omega)]; exact q3.2.2.2 t a j ha⟩, by omega, by omega, by rw [eA 98 (by decide) (by decide) (by decide)]; omega, by rw [eA 98 (by decide) (by decide) (by decide)]; omega, fun _ => ?_, ?_, ?_⟩
    · have hF : ∀ a, rd + 1 ≤ a → a ≤ rd + 4 → F3 a = F a := fun a h0 h1 => by rw [p3.1.1 a (by omega), f2.1 a (by omega)]; funext j; rw [bU_ne _ _ _ _ _ _ (by omega)]
      refine cvR_F ?_ hF
      have em := mL_cs (A := bU (bU (bU ts4 106 4 1) 106 6 (ts 106 98)) 106 8 (ts4 106 98 - ts 106 98) 106) (l := 0) (N := ts 106 98) (cs := cs) eA6 (by show bU (bU (bU ts4 106 4 1) 106 6 (ts 106 98)) 106 8 (ts4 106 98 - ts 106 98) 106 8 = _; rw [eA8]; omega) (fun i i0 i1 => by rw [eA _ (by omega) (by omega) (by omega)]; exact v2 i i0 i1)
      have new : lawR (gp g3' 1 (rd + 1) 13 (.ref x3)) rd (bU (bU (bU ts4 106 4 1) 106 6 (ts 106 98)) 106 8 (ts4 106 98 - ts 106 98) 106) 0 13 false 6 := by
        refine Or.inr ⟨eA4, ?_, ?_, ?_, x3, (σ3 0 - σ2 0).toNat, x0, by omega, gp_hit _ _ _ _ _, ?_, by rw [em]; exact wf⟩
        · show 0 ≤ bU (bU (bU ts4 106 4 1) 106 6 (ts 106 98)) 106 8 (ts4 106 98 - ts 106 98) 106 6
          rw [eA6]; exact n98
        · show 0 ≤ bU (bU (bU ts4 106 4 1) 106 6 (ts 106 98)) 106 8 (ts4 106 98 - ts 106 98) 106 8
          rw [eA8]; omega
        · show bU (bU (bU ts4 106 4 1) 106 6 (ts 106 98)) 106 8 (ts4 106 98 - ts 106 98) 106 6 + bU (bU (bU ts4 106 4 1) 106 6 (ts 106 98)) 106 8 (ts4 106 98 - ts 106 98) 106 8 ≤ _
          rw [eA6, eA8, eA 98 (by decide) (by decide) (by decide)]; omega
        · rw [em]
          refine bTr_on (fun a => n.1 ≤ a) (fun t a k q => gHi_off q) (fun t a k q => ?_) _ _ _ _ tt _ (Nat.le_refl _)
          rw [gHi_on q]; exact gp_ad (by omega)
      have old := lawR_ext3 (g' := gp g3' 1 (rd + 1) 13 (.ref x3)) (N := n.1) (A' := bU (bU (bU ts4 106 4 1) 106 6 (ts 106 98)) 106 8 (ts4 106 98 - ts 106 98) 106) r6 (lo _ (by omega) (by omega) (by omega) (by omega)) (lo _ (by omega) (by omega) (by omega) (by omega)) (lo _ (by omega) (by omega) (by omega) (by omega)) (fun k k0 k1 => by rw [eA k (by omega) (by omega) (by omega), p44 k (by omega) (by omega)]) (by rw [eA 98 (by decide) (by decide) (by decide)]; omega) (by rw [gp_ne (by omega)]; exact q3.1 _ _ _ (by omega)) (fun t a k t0 t1 ha => by rw [gp_ne (by omega)]; exact q3.1 _ _ _ ha) hfr
      unfold cvR
      rw [lo 0 (by decide) (by decide) (by decide) (by decide), lo 1 (by decide) (by decide) (by decide) (by decide), lo 2 (by decide) (by decide) (by decide) (by decide), lo 3 (by decide) (by decide) (by decide) (by decide), lo 42 (by decide) (by decide) (by decide) (by decide), lo 43 (by decide) (by decide) (by decide) (by decide), lo 44 (by decide) (by decide) (by decide) (by decide), lo 45 (by decide) (by decide) (by decide) (by decide), lo 46 (by decide) (by decide) (by decide) (by decide), lo 47 (by decide) (by decide) (by decide) (by decide)]
      exact ⟨r1, fun i i0 i1 => by rw [lo (10 + i) (by omega) (by omega) (by omega) (by omega), lo (18 + i) (by omega) (by omega) (by omega) (by omega)]; exact r2 i i0 i1, fun i i0 i1 => by rw [lo (26 + i) (by omega) (by omega) (by omega) (by omega), lo (34 + i) (by omega) (by omega) (by omega) (by omega)]; exact r3 i i0 i1, r4, new, old⟩
    · have pg : bk_put (bk_Q rd F3 (bk_M κ (cp, cs0, cj) Y g3' n3)) 1 (rd + 1) 13 (.ref x3) = bk_Q rd F3 (bk_M κ (cp, cs0, cj) Y (gp g3' 1 (rd + 1) 13 (.ref x3)) n3) := by rw [bQ_pof (by omega), pX (by decide)]
      rw [kX5_hurts, eX5_hurts_0]
      simp (disch := first | assumption | omega) only [e2, e3, c6, t1', gk, pg, bi_add, bi_sub, bi_mul, bi_neg, bi_div, bi_64, bl_add, bl_sub, bl_mul, bl_neg, bl_div, bl_32, bi_min, bi_max, bl_min, bl_max, bq_I, bq_J, bq_A, bq_Vi, bq_Vl, bq_Vr, bq_cV, bq_cI, bq_cJ, bq_cA, bq_le, bq_lt, bq_eq, bq_z, bq_o, bq_ref, bq_nz, bq_nzJ, bq_bl, bq_blz, bq_T, bq_F, if_true, if_false, Int.reduceEq, Int.reduceLT, Int.reduceLE, Int.reduceAdd, Int.reduceSub, Int.reduceMul, Int.add_sub_cancel, li_0, li_1, li_5, li_6, li_9, li_13, li_58, ll_0, ll_1, ll_5, ll_6, ll_9, ll_13, ll_58, q5_0, w5_0, q5_2, w5_2, q5_3, w5_3, q5_4, w5_4, q5_5, w5_5, q5_6, w5_6, q5_7, w5_7, q5_8, w5_8, q5_9, w5_9, q1_4, w1_4, q1_5, w1_5, q1_6, w1_6, q1_7, w1_7, q1_8, w1_8, q1_9, w1_9, q1_10, w1_10, q1_11, w1_11, q1_12, w1_12, qa_2, wa_2, qa_3, wa_3, qa_4, wa_4, bU_same, bU_ne, s_in]
    · have w98 : bU (bU ts4 106 4 1) 106 6 (ts 106 98) 106 98 = ts4 106 98 := by rw [bU_same, if_neg (by decide), bU_same, if_neg (by decide)]
      rw [eT48, eX4_readLaw_48]
      simp (disch := first | assumption | omega) only [t11, w98, bi_add, bi_sub, bi_mul, bi_neg, bi_div, bi_64, bl_add, bl_sub, bl_mul, bl_neg, bl_div, bl_32, bi_min, bi_max, bl_min, bl_max, bq_I, bq_J, bq_A, bq_Vi, bq_Vl, bq_Vr, bq_cV, bq_cI, bq_cJ, bq_cA, bq_le, bq_lt, bq_eq, bq_z, bq_o, bq_ref, bq_nz, bq_nzJ, bq_bl, bq_blz, bq_T, bq_F, if_true, if_false, Int.reduceEq, Int.reduceLT, Int.reduceLE, Int.reduceAdd, Int.reduceSub, Int.reduceMul, Int.add_sub_cancel, li_0, li_1, li_2, li_4, li_6, li_8, li_11, li_15, li_18, li_31, li_48, li_98, li_100, li_4005, li_4010, li_4012, li_4019, li_4020, li_4027, ll_0, ll_1, ll_2, ll_4, ll_6, ll_8, ll_11, ll_15, ll_18, ll_31, ll_48, ll_98, ll_100, ga103, ga105, ga119, ga120, ga106, ga107, ga108, ga109, ga110, ga111, ga116, ga118, ga104, ga112, ga114, ga115, ga117, ga113, ga121, gf102_5, gf102_13, gf102_14, gf102_0, gf102_6, gf102_7, gf102_8, gf102_9, gf102_10, gf102_11, gf102_12, gf102_15, gf102_19, gf102_20, gr102_1, gr102_2, gr102_3, gr102_4, gr102_16, gr102_17, gr102_18, gr102_21, gr102_22, gr102_23, gr102_24, gr102_25, gr102_26, gr102_27, gr102_28, gr102_29, gr102_30, gr102_31, gr102_32, pa103, pa105, pa119, pa120, pa106, pa107, pa108, pa109, pa110, pa111, pa116, pa118, pa104, pa112, pa114, pa115, pa117, pa113, pa121, pf102_5, pf102_13, pf102_14, pf102_0, pf102_6, pf102_7, pf102_8, pf102_9, pf102_10, pf102_11, pf102_12, pf102_15, pf102_19, pf102_20, s_within, t_isLost, t_fallen, t_isHurt, t_between, t_isPassage, t_isRoom, t_standNow, t_standsAll, t_isIn, t_noComing, t_noStand, t_bitsOf, u_tens4109, t_draw]
  · refine ⟨σ3, F3, g3', n3, ts4, stepL_tr st2 st3, hfrF, hfrT, p3.2.1, p4.2.2.1, ⟨fun t a j ha hn => q3.1 t a j ha, q3.2.1, q3.2.2.1, q3.2.2.2⟩, by omega, by omega, by omega, by omega, fun w => absurd w z4, ?_, ?_⟩
    · rw [kX5_hurts, eX5_hurts_0]
      simp (disch := first | assumption | omega) only [e2, e3, c6, if_neg z4, bi_add, bi_sub, bi_mul, bi_neg, bi_div, bi_64, bl_add, bl_sub, bl_mul, bl_neg, bl_div, bl_32, bi_min, bi_max, bl_min, bl_max, bq_I, bq_J, bq_A, bq_Vi, bq_Vl, bq_Vr, bq_cV, bq_cI, bq_cJ, bq_cA, bq_le, bq_lt, bq_eq, bq_z, bq_o, bq_ref, bq_nz, bq_nzJ, bq_bl, bq_blz, bq_T, bq_F, if_true, if_false, Int.reduceEq, Int.reduceLT, Int.reduceLE, Int.reduceAdd, Int.reduceSub, Int.reduceMul, Int.add_sub_cancel, li_0, li_1, li_5, li_6, li_9, li_13, li_58, ll_0, ll_1, ll_5, ll_6, ll_9, ll_13, ll_58, q5_0, w5_0, q5_2, w5_2, q5_3, w5_3, q5_4, w5_4, q5_5, w5_5, q5_6, w5_6, q5_7, w5_7, q5_8, w5_8, q5_9, w5_9, q1_4, w1_4, q1_5, w1_5, q1_6, w1_6, q1_7, w1_7, q1_8, w1_8, q1_9, w1_9, q1_10, w1_10, q1_11, w1_11, q1_12, w1_12, qa_2, wa_2, qa_3, wa_3, qa_4, wa_4, bU_same, bU_ne, s_in]
    · rw [eT48, eX4_readLaw_48]
      simp (disch := first | assumption | omega) only [t11, if_neg z4, bi_add, bi_sub, bi_mul, bi_neg, bi_div, bi_64, bl_add, bl_sub, bl_mul, bl_neg, bl_div, bl_32, bi_min, bi_max, bl_min, bl_max, bq_I, bq_J, bq_A, bq_Vi, bq_Vl, bq_Vr, bq_cV, bq_cI, bq_cJ, bq_cA, bq_le, bq_lt, bq_eq, bq_z, bq_o, bq_ref, bq_nz, bq_nzJ, bq_bl, bq_blz, bq_T, bq_F, if_true, if_false, Int.reduceEq, Int.reduceLT, Int.reduceLE, Int.reduceAdd, Int.reduceSub, Int.reduceMul, Int.add_sub_cancel, li_0, li_1, li_2, li_4, li_6, li_8, li_11, li_15, li_18, li_31, li_48, li_98, li_100, li_4005, li_4010, li_4012, li_4019, li_4020, li_4027, ll_0, ll_1, ll_2, ll_4, ll_6, ll_8, ll_11, ll_15, ll_18, ll_31, ll_48, ll_98, ll_100, ga103, ga105, ga119, ga120, ga106, ga107, ga108, ga109, ga110, ga111, ga116, ga118, ga104, ga112, ga114, ga115, ga117, ga113, ga121, gf102_5, gf102_13, gf102_14, gf102_0, gf102_6, gf102_7, gf102_8, gf102_9, gf102_10, gf102_11, gf102_12, gf102_15, gf102_19, gf102_20, gr102_1, gr102_2, gr102_3, gr102_4, gr102_16, gr102_17, gr102_18, gr102_21, gr102_22, gr102_23, gr102_24, gr102_25, gr102_26, gr102_27, gr102_28, gr102_29, gr102_30, gr102_31, gr102_32, pa103, pa105, pa119, pa120, pa106, pa107, pa108, pa109, pa110, pa111, pa116, pa118, pa104, pa112, pa114, pa115, pa117, pa113, pa121, pf102_5, pf102_13, pf102_14, pf102_0, pf102_6, pf102_7, pf102_8, pf102_9, pf102_10, pf102_11, pf102_12, pf102_15, pf102_19, pf102_20, s_within, t_isLost, t_fallen, t_isHurt, t_between, t_isPassage, t_isRoom, t_standNow, t_standsAll, t_isIn, t_noComing, t_noStand, t_bitsOf, u_tens4109, t_draw]

theorem sim_may (hv : cV cp g n rd F b sz (nextM b sz σ)) (ht : tV tp ts g2 b sz σ) (ok : okL b sz σ) (q4 : σ 4 = 0) (lt0 : σ 0 < σ 1) (hR : cvR g rd F (ts 106)) (hD : 110 ≤ d) (hD2 : 110 ≤ d2) : ∃ σ' F' g' n' ts', stepL b sz (nextM b sz σ) σ' ∧ cFr rd F F' ∧ tFr ts ts' ∧ cLx F' rd σ' ∧ tLx ts' σ' ∧ lEx rd g n g' n' ∧ (n'.1 : Int) ≤ n.1 + 6 * (σ' 0 - σ 0) ∧ (n'.2 : Int) ≤ n.2 + 18 * (σ' 0 - σ 0) ∧ 0 ≤ ts' 106 98 ∧ ts' 106 98 ≤ σ' 0 ∧ (σ' 4 = 0 → cvR g' rd F' (ts' 106))
    ∧ bk_call d 5029 [.ref rd] (bk_Q rd F (bk_M κ (cp, cs0, cj) Y g n)) = some (none, (bk_Q rd F' (bk_M κ (cp, cs0, cj) Y g' n'))) ∧ bk_call d2 4019 [.ref 102, .int (bk_i 1)] (bk_M κ2 X2 (tp, tj, ts, tk) g2 n2) = some (none, (bk_M κ2 X2 (tp, tj, ts', tk) g2 n2)) := by
  obtain ⟨d, rfl⟩ := dep (show 1 ≤ d by omega)
  obtain ⟨d2, rfl⟩ := dep (show 1 ≤ d2 by omega)
  have hrp := pw_rd (κ := κ) hv.1
  obtain ⟨t10, t1, tb, te, td, t3, tt⟩ := hrp
  have hF2 := ht.1.1
  have hfr := hv.1.2.2.2.2.2.2.2.2.2.1
  have hrd := hv.1.2.2.2.2.2.2.2.2.1
  have n98 := ht.2.2.2.1
  have m98 := ht.2.2.2.2
  obtain ⟨st1, n4, s1⟩ := nextM_st ok q4
  have hcl : cLx (bU F rd 9 1) rd (nextM b sz σ) := by
    have c := hv.2.2.1
    exact ⟨by rw [bU_same, if_neg (by decide)]; exact c.1, by rw [bU_same, if_neg (by decide)]; exact c.2.1, by rw [bU_same, if_neg (by decide)]; exact c.2.2.1, by rw [bU_same, if_neg (by decide)]; exact c.2.2.2.1, by rw [bU_same, if_neg (by decide)]; exact c.2.2.2.2.1, by rw [bU_same, if_neg (by decide)]; exact c.2.2.2.2.2⟩
  have c9 : cFr rd F (bU F rd 9 1) := ⟨fun a q => by funext j; rw [bU_ne _ _ _ _ _ _ (by omega)], by rw [bU_same, if_neg (by decide)], by rw [bU_same, if_neg (by decide)]⟩
  have hv1 := cV_lx hv c9 hcl
  obtain ⟨F2, f2, l2, e2⟩ := q_must (κ := κ) (cs := cs0) (cj := cj) (Y := Y) (D := d) (kk := 31) (c := 58) hv1.1 hv1.2.1 hv1.2.2.1 st1.1 rfl (by decide) (by decide) (by decide) (by omega)
  have st2 := mustM_st (kk := 31) st1.1
  have hv2 := cV_lx hv1 (cFr_of f2) l2
  obtain ⟨ts1, h1', m1, u1⟩ := t_nextL (κ := κ2) (X := X2) (tj := tj) (tk := tk) (n := n2) (D := d2) ht.1 ht.2.1 ht.2.2.1 ok (by omega)
  have ht1 := tV_lx ht (tFr_of h1') m1 (by rw [ts_lx h1']) st1.2.1
  obtain ⟨ts2, h2', m2, u2⟩ := t_must (κ := κ2) (X := X2) (tj := tj) (tk := tk) (n := n2) (d := d2) (kk := 31) ht1.1 ht1.2.1 m1 st1.1 li_31 (by decide) (by decide) (by omega)
  have ht2 := tV_lx ht1 (tFr_of h2') m2 (by rw [ts_lx h2']) st2.2.1
  have a2 : ts2 106 = ts 106 := (ts_lx h2').trans (ts_lx h1')
  generalize hσ2 : mustM b sz 31 (nextM b sz σ) = σ2 at *
  have sp := st2.2.1
  obtain ⟨σ3, cs, st3, w3, C3, T3⟩ := (sim_all (b := b) (sz := sz) (W := 7) (Or.inr rfl) ((sz - σ2 0).toNat + 1) σ2 0 st2.1 (Nat.lt_succ_self _) (by decide) (by decide)).2.2.2.2.2
  have sp3 := st3.2.1
  have okz := st3.1.2.2.1
  have okz' := st3.1.2.1
  have ok20 := st2.1.1
  have hcw : cW cp g n rd F2 b sz 7 0 σ2 := ⟨hv2.1, hv2.2.1, l2, hv2.2.2.2, by rw [f2.2 9 (by omega), bU_same, if_pos rfl]; decide⟩
  obtain ⟨F3, g3', n3, x3, p3, t3, e3⟩ := C3 κ cp cs0 cj Y g n rd F2 d hcw (by unfold eN; omega)
  have hz8 : sz ≤ 900 := hv.1.2.2.2.2.2.2.2.2.2.2.2.1
  have htw : tW tp (bU ts2 102 15 1) g2 b sz 7 σ2 := by
    have c := m2
    refine ⟨ht2.1, by rw [bU_same, if_neg (by decide)]; exact ht2.2.1, ⟨by rw [bU_same, if_neg (by decide)]; exact c.1, by rw [bU_same, if_neg (by decide)]; exact c.2.1, by rw [bU_same, if_neg (by decide)]; exact c.2.2.1, by rw [bU_same, if_neg (by decide)]; exact c.2.2.2.1, by rw [bU_same, if_neg (by decide)]; exact c.2.2.2.2.1, by rw [bU_same, if_neg (by decide)]; exact c.2.2.2.2.2⟩, by rw [bU_same, if_pos rfl]; decide, by rw [bU_ne _ _ _ _ _ _ (by decide), a2]; exact n98, by rw [bU_ne _ _ _ _ _ _ (by decide), a2]; omega⟩
  obtain ⟨ts4, p4, u4⟩ := T3 κ2 X2 tp tj _ tk g2 n2 d2 htw (by unfold eN; omega)
  have i98 : bU ts2 102 15 1 106 = ts 106 := by funext j; rw [bU_ne _ _ _ _ _ _ (by decide), a2]
  have p44 := p4.2.2.2.1
  have p45 := p4.2.2.2.2.1
  have p46 := p4.2.2.2.2.2.1
  have p47 := p4.2.2.2.2.2.2
  rw [i98] at p44 p45 p46 p47
  have c6 := p3.2.1.2.2.2.2.1
  have t11 := p4.2.2.1.2.2.2.2.1
  have s24 := st3.1.2.2.2.2.2.2.2
  have q3 := p3.2.2.1
  have lt3 := q3.2.1
  have t1' := (pw_rd (κ := κ) (bPw_ex hv.1 q3)).2.1
  have hfrF : cFr rd F F3 := cFr_tr c9 (cFr_of (frF_tr f2 p3.1))
  have hfrT : tFr ts ts4 := tFr_tr (tFr_tr (tFr_of h1') (tFr_of h2')) ⟨fun a h1 h2 => by rw [p4.1 a h1 h2]; funext j; rw [bU_ne _ _ _ _ _ _ h1], by rw [p4.2.1 8 (by omega), bU_same, if_neg (by decide)]⟩
  obtain ⟨r1, r2, r3, r4, r5, r6⟩ := hR
  have hn1 := p3.2.2.2.1
  have hn2 := p3.2.2.2.2
  have eT48 : bk_call (d2 + 1) 4019 [.ref 102, .int (bk_i 1)] (bk_M κ2 X2 (tp, tj, ts, tk) g2 n2) = bk_den TX4_readLaw (bk_call d2) 48 [.ref 102, .int (bk_i 1), .int (bk_i (ts 106 98))] [] (bk_M κ2 X2 (tp, tj, ts4, tk) g2 n2) := by
    have b98 : ts2 106 98 = ts 106 98 := by rw [a2]
    rw [kX4_readLaw, eX4_readLaw_0, gf102_0, bq_Vi, u1, bq_cV, gf102_0, bq_Vi]
    refine (u2 _).trans ?_
    show bk_den TX4_readLaw (bk_call d2) 18 [.ref 102, .int (bk_i 1), bk_u] [] (bk_M κ2 X2 (tp, tj, ts2, tk) g2 n2) = _
    rw [eX4_readLaw_18]
    simp (disch := first | assumption | omega) only [b98, u4, bi_add, bi_sub, bi_mul, bi_neg, bi_div, bi_64, bl_add, bl_sub, bl_mul, bl_neg, bl_div, bl_32, bi_min, bi_max, bl_min, bl_max, bq_I, bq_J, bq_A, bq_Vi, bq_Vl, bq_Vr, bq_cV, bq_cI, bq_cJ, bq_cA, bq_le, bq_lt, bq_eq, bq_z, bq_o, bq_ref, bq_nz, bq_nzJ, bq_bl, bq_blz, bq_T, bq_F, if_true, if_false, Int.reduceEq, Int.reduceLT, Int.reduceLE, Int.reduceAdd, Int.reduceSub, Int.reduceMul, Int.add_sub_cancel, li_0, li_1, li_2, li_4, li_6, li_8, li_11, li_15, li_18, li_31, li_48, li_98, li_100, li_4005, li_4010, li_4012, li_4019, li_4020, li_4027, ll_0, ll_1, ll_2, ll_4, ll_6, ll_8, ll_11, ll_15, ll_18, ll_31, ll_48, ll_98, ll_100, ga103, ga105, ga119, ga120, ga106, ga107, ga108, ga109, ga110, ga111, ga116, ga118, ga104, ga112, ga114, ga115, ga117, ga113, ga121, gf102_5, gf102_13, gf102_14, gf102_0, gf102_6, gf102_7, gf102_8, gf102_9, gf102_10, gf102_11, gf102_12, gf102_15, gf102_19, gf102_20, gr102_1, gr102_2, gr102_3, gr102_4, gr102_16, gr102_17, gr102_18, gr102_21, gr102_22, gr102_23, gr102_24, gr102_25, gr102_26, gr102_27, gr102_28, gr102_29, gr102_30, gr102_31, gr102_32, pa103, pa105, pa119, pa120, pa106, pa107, pa108, pa109, pa110, pa111, pa116, pa118, pa104, pa112, pa114, pa115, pa117, pa113, pa121, pf102_5, pf102_13, pf102_14, pf102_0, pf102_6, pf102_7, pf102_8, pf102_9, pf102_10, pf102_11, pf102_12, pf102_15, pf102_19, pf102_20, s_within, t_isLost, t_fallen, t_isHurt, t_between, t_isPassage, t_isRoom, t_standNow, t_standsAll, t_isIn, t_noComing, t_noStand, t_bitsOf, u_tens4109, t_draw]
  have refK : ∃ r, g 1 (rd + 1) 14 = .ref r := by
    rcases r6 with ⟨-, q⟩ | ⟨-, -, -, -, x, d, -, -, q, -⟩
    · exact ⟨_, q⟩
    · exact ⟨_, q⟩
  obtain ⟨rk, hrk⟩ := refK
  have gk : ∀ F, (bk_Q rd F (bk_M κ (cp, cs0, cj) Y g3' n3)).1 1 (rd + 1) 14 = .ref rk := fun F => by rw [bQ_off (by omega), gX (by decide), q3.1 _ _ _ (by omega)]; exact hrk
  by_cases z4 : σ3 4 = 0
  · obtain ⟨x0, tt⟩ := t3 z4
    obtain ⟨v1, v2⟩ := p47 z4
    have wf := (w3 z4).2
    rw [z4] at c6 t11
    have eA : ∀ k, k ≠ 5 → k ≠ 7 → k ≠ 9 → bU (bU (bU ts4 106 5 1) 106 7 (ts 106 98)) 106 9 (ts4 106 98 - ts 106 98) 106 k = ts4 106 k := fun k k1 k2 k3 => by rw [bU_same, if_neg k3, bU_same, if_neg k2, bU_same, if_neg k1]
    have eA4 : bU (bU (bU ts4 106 5 1) 106 7 (ts 106 98)) 106 9 (ts4 106 98 - ts 106 98) 106 5 = 1 := by rw [bU_same, if_neg (by decide), bU_same, if_neg (by decide), bU_same, if_pos rfl]
    have eA6 : bU (bU (bU ts4 106 5 1) 106 7 (ts 106 98)) 106 9 (ts4 106 98 - ts 106 98) 106 7 = ts 106 98 := by rw [bU_same, if_neg (by decide), bU_same, if_pos rfl]
    have eA8 : bU (bU (bU ts4 106 5 1) 106 7 (ts 106 98)) 106 9 (ts4 106 98 - ts 106 98) 106 9 = ts4 106 98 - ts 106 98 := by rw [bU_same, if_pos rfl]
    have lo : ∀ k, k < 98 → k ≠ 5 → k ≠ 7 → k ≠ 9 → bU (bU (bU ts4 106 5 1) 106 7 (ts 106 98)) 106 9 (ts4 106 98 - ts 106 98) 106 k = ts 106 k := fun k k0 k1 k2 k3 => by rw [eA k k1 k2 k3, p44 k (by omega) (by omega)]
    refine ⟨σ3, F3, gp g3' 1 (rd + 1) 14 (.ref x3), n3, bU (bU (bU ts4 106 5 1) 106 7 (ts 106 98)) 106 9 (ts4 106 98 - ts 106 98), stepL_tr st2 st3, hfrF, tFr_tr hfrT (tFr_tr tFr_U (tFr_tr tFr_U tFr_U)), p3.2.1, tLx_U (tLx_U (tLx_U p4.2.2.1)), ⟨fun t a j ha hn => by rw [gp_ne (by omega)]; exact q3.1 t a j ha, q3.2.1, q3.2.2.1, fun t a j ha => by rw [gp_ne (by omega)]; exact q3.2.2.2 t a j ha⟩, by omega, by omega, by rw [eA 98 (by decide) (by decide) (by decide)]; omega, by rw [eA 98 (by decide) (by decide) (by decide)]; omega, fun _ => ?_, ?_, ?_⟩
    · have hF : ∀ a, rd + 1 ≤ a → a ≤ rd + 4 → F3 a = F a := fun a h0 h1 => by rw [p3.1.1 a (by omega), f2.1 a (by omega)]; funext j; rw [bU_ne _ _ _ _ _ _ (by omega)]
      refine cvR_F ?_ hF
      have em := mL_cs (A := bU (bU (bU ts4 106 5 1) 106 7 (ts 106 98)) 106 9 (ts4 106 98 - ts 106 98) 106) (l := 1) (N := ts 106 98) (cs := cs) eA6 (by show bU (bU (bU ts4 106 5 1) 106 7 (ts 106 98)) 106 9 (ts4 106 98 - ts 106 98) 106 9 = _; rw [eA8]; omega) (fun i i0 i1 => by rw [eA _ (by omega) (by omega) (by omega)]; exact v2 i i0 i1)
      have new : lawR (gp g3' 1 (rd + 1) 14 (.ref x3)) rd (bU (bU (bU ts4 106 5 1) 106 7 (ts 106 98)) 106 9 (ts4 106 98 - ts 106 98) 106) 1 14 true 7 := by
        refine Or.inr ⟨eA4, ?_, ?_, ?_, x3, (σ3 0 - σ2 0).toNat, x0, by omega, gp_hit _ _ _ _ _, ?_, by rw [em]; exact wf⟩
        · show 0 ≤ bU (bU (bU ts4 106 5 1) 106 7 (ts 106 98)) 106 9 (ts4 106 98 - ts 106 98) 106 7
          rw [eA6]; exact n98
        · show 0 ≤ bU (bU (bU ts4 106 5 1) 106 7 (ts 106 98)) 106 9 (ts4 106 98 - ts 106 98) 106 9
          rw [eA8]; omega
        · show bU (bU (bU ts4 106 5 1) 106 7 (ts 106 98)) 106 9 (ts4 106 98 - ts 106 98) 106 7 + bU (bU (bU ts4 106 5 1) 106 7 (ts 106 98)) 106 9 (ts4 106 98 - ts 106 98) 106 9 ≤ _
          rw [eA6, eA8, eA 98 (by decide) (by decide) (by decide)]; omega
        · rw [em]
          refine bTr_on (fun a => n.1 ≤ a) (fun t a k q => gHi_off q) (fun t a k q => ?_) _ _ _ _ tt _ (Nat.le_refl _)
          rw [gHi_on q]; exact gp_ad (by omega)
      have old := lawR_ext3 (g' := gp g3' 1 (rd + 1) 14 (.ref x3)) (N := n.1) (A' := bU (bU (bU ts4 106 5 1) 106 7 (ts 106 98)) 106 9 (ts4 106 98 - ts 106 98) 106) r5 (lo _ (by omega) (by omega) (by omega) (by omega)) (lo _ (by omega) (by omega) (by omega) (by omega)) (lo _ (by omega) (by omega) (by omega) (by omega)) (fun k k0 k1 => by rw [eA k (by omega) (by omega) (by omega), p44 k (by omega) (by omega)]) (by rw [eA 98 (by decide) (by decide) (by decide)]; omega) (by rw [gp_ne (by omega)]; exact q3.1 _ _ _ (by omega)) (fun t a k t0 t1 ha => by rw [gp_ne (by omega)]; exact q3.1 _ _ _ ha) hfr
      unfold cvR
      rw [lo 0 (by decide) (by decide) (by decide) (by decide), lo 1 (by decide) (by decide) (by decide) (by decide), lo 2 (by decide) (by decide) (by decide) (by decide), lo 3 (by decide) (by decide) (by decide) (by decide), lo 42 (by decide) (by decide) (by decide) (by decide), lo 43 (by decide) (by decide) (by decide) (by decide), lo 44 (by decide) (by decide) (by decide) (by decide), lo 45 (by decide) (by decide) (by decide) (by decide), lo 46 (by decide) (by decide) (by decide) (by decide), lo 47 (by decide) (by decide) (by decide) (by decide)]
      exact ⟨r1, fun i i0 i1 => by rw [lo (10 + i) (by omega) (by omega) (by omega) (by omega), lo (18 + i) (by omega) (by omega) (by omega) (by omega)]; exact r2 i i0 i1, fun i i0 i1 => by rw [lo (26 + i) (by omega) (by omega) (by omega) (by omega), lo (34 + i) (by omega) (by omega) (by omega) (by omega)]; exact r3 i i0 i1, r4, old, new⟩
    · have pg : bk_put (bk_Q rd F3 (bk_M κ (cp, cs0, cj) Y g3' n3)) 1 (rd + 1) 14 (.ref x3) = bk_Q rd F3 (bk_M κ (cp, cs0, cj) Y (gp g3' 1 (rd + 1) 14 (.ref x3)) n3) := by rw [bQ_pof (by omega), pX (by decide)]
      rw [kX5_may, eX5_may_0]
      simp (disch := first | assumption | omega) only [e2, e3, c6, t1', gk, pg, bi_add, bi_sub, bi_mul, bi_neg, bi_div, bi_64, bl_add, bl_sub, bl_mul, bl_neg, bl_div, bl_32, bi_min, bi_max, bl_min, bl_max, bq_I, bq_J, bq_A, bq_Vi, bq_Vl, bq_Vr, bq_cV, bq_cI, bq_cJ, bq_cA, bq_le, bq_lt, bq_eq, bq_z, bq_o, bq_ref, bq_nz, bq_nzJ, bq_bl, bq_blz, bq_T, bq_F, if_true, if_false, Int.reduceEq, Int.reduceLT, Int.reduceLE, Int.reduceAdd, Int.reduceSub, Int.reduceMul, Int.add_sub_cancel, li_0, li_1, li_5, li_6, li_9, li_14, li_58, ll_0, ll_1, ll_5, ll_6, ll_9, ll_14, ll_58, q5_0, w5_0, q5_2, w5_2, q5_3, w5_3, q5_4, w5_4, q5_5, w5_5, q5_6, w5_6, q5_7, w5_7, q5_8, w5_8, q5_9, w5_9, q1_4, w1_4, q1_5, w1_5, q1_6, w1_6, q1_7, w1_7, q1_8, w1_8, q1_9, w1_9, q1_10, w1_10, q1_11, w1_11, q1_12, w1_12, qa_2, wa_2, qa_3, wa_3, qa_4, wa_4, bU_same, bU_ne, s_in]
    · have w98 : bU (bU ts4 106 5 1) 106 7 (ts 106 98) 106 98 = ts4 106 98 := by rw [bU_same, if_neg (by decide), bU_same, if_neg (by decide)]
      rw [eT48, eX4_readLaw_48]
      simp (disch := first | assumption | omega) only [t11, w98, bi_add, bi_sub, bi_mul, bi_neg, bi_div, bi_64, bl_add, bl_sub, bl_mul, bl_neg, bl_div, bl_32, bi_min, bi_max, bl_min, bl_max, bq_I, bq_J, bq_A, bq_Vi, bq_Vl, bq_Vr, bq_cV, bq_cI, bq_cJ, bq_cA, bq_le, bq_lt, bq_eq, bq_z, bq_o, bq_ref, bq_nz, bq_nzJ, bq_bl, bq_blz, bq_T, bq_F, if_true, if_false, Int.reduceEq, Int.reduceLT, Int.reduceLE, Int.reduceAdd, Int.reduceSub, Int.reduceMul, Int.add_sub_cancel, li_0, li_1, li_2, li_4, li_6, li_8, li_11, li_15, li_18, li_31, li_48, li_98, li_100, li_4005, li_4010, li_4012, li_4019, li_4020, li_4027, ll_0, ll_1, ll_2, ll_4, ll_6, ll_8, ll_11, ll_15, ll_18, ll_31, ll_48, ll_98, ll_100, ga103, ga105, ga119, ga120, ga106, ga107, ga108, ga109, ga110, ga111, ga116, ga118, ga104, ga112, ga114, ga115, ga117, ga113, ga121, gf102_5, gf102_13, gf102_14, gf102_0, gf102_6, gf102_7, gf102_8, gf102_9, gf102_10, gf102_11, gf102_12, gf102_15, gf102_19, gf102_20, gr102_1, gr102_2, gr102_3, gr102_4, gr102_16, gr102_17, gr102_18, gr102_21, gr102_22, gr102_23, gr102_24, gr102_25, gr102_26, gr102_27, gr102_28, gr102_29, gr102_30, gr102_31, gr102_32, pa103, pa105, pa119, pa120, pa106, pa107, pa108, pa109, pa110, pa111, pa116, pa118, pa104, pa112, pa114, pa115, pa117, pa113, pa121, pf102_5, pf102_13, pf102_14, pf102_0, pf102_6, pf102_7, pf102_8, pf102_9, pf102_10, pf102_11, pf102_12, pf102_15, pf102_19, pf102_20, s_within, t_isLost, t_fallen, t_isHurt, t_between, t_isPassage, t_isRoom, t_standNow, t_standsAll, t_isIn, t_noComing, t_noStand, t_bitsOf, u_tens4109, t_draw]
  · refine ⟨σ3, F3, g3', n3, ts4, stepL_tr st2 st3, hfrF, hfrT, p3.2.1, p4.2.2.1, ⟨fun t a j ha hn => q3.1 t a j ha, q3.2.1, q3.2.2.1, q3.2.2.2⟩, by omega, by omega, by omega, by omega, fun w => absurd w z4, ?_, ?_⟩
    · rw [kX5_may, eX5_may_0]
      simp (disch := first | assumption | omega) only [e2, e3, c6, if_neg z4, bi_add, bi_sub, bi_mul, bi_neg, bi_div, bi_64, bl_add, bl_sub, bl_mul, bl_neg, bl_div, bl_32, bi_min, bi_max, bl_min, bl_max, bq_I, bq_J, bq_A, bq_Vi, bq_Vl, bq_Vr, bq_cV, bq_cI, bq_cJ, bq_cA, bq_le, bq_lt, bq_eq, bq_z, bq_o, bq_ref, bq_nz, bq_nzJ, bq_bl, bq_blz, bq_T, bq_F, if_true, if_false, Int.reduceEq, Int.reduceLT, Int.reduceLE, Int.reduceAdd, Int.reduceSub, Int.reduceMul, Int.add_sub_cancel, li_0, li_1, li_5, li_6, li_9, li_14, li_58, ll_0, ll_1, ll_5, ll_6, ll_9, ll_14, ll_58, q5_0, w5_0, q5_2, w5_2, q5_3, w5_3, q5_4, w5_4, q5_5, w5_5, q5_6, w5_6, q5_7, w5_7, q5_8, w5_8, q5_9, w5_9, q1_4, w1_4, q1_5, w1_5, q1_6, w1_6, q1_7, w1_7, q1_8, w1_8, q1_9, w1_9, q1_10, w1_10, q1_11, w1_11, q1_12, w1_12, qa_2, wa_2, qa_3, wa_3, qa_4, wa_4, bU_same, bU_ne, s_in]
    · rw [eT48, eX4_readLaw_48]
      simp (disch := first | assumption | omega) only [t11, if_neg z4, bi_add, bi_sub, bi_mul, bi_neg, bi_div, bi_64, bl_add, bl_sub, bl_mul, bl_neg, bl_div, bl_32, bi_min, bi_max, bl_min, bl_max, bq_I, bq_J, bq_A, bq_Vi, bq_Vl, bq_Vr, bq_cV, bq_cI, bq_cJ, bq_cA, bq_le, bq_lt, bq_eq, bq_z, bq_o, bq_ref, bq_nz, bq_nzJ, bq_bl, bq_blz, bq_T, bq_F, if_true, if_false, Int.reduceEq, Int.reduceLT, Int.reduceLE, Int.reduceAdd, Int.reduceSub, Int.reduceMul, Int.add_sub_cancel, li_0, li_1, li_2, li_4, li_6, li_8, li_11, li_15, li_18, li_31, li_48, li_98, li_100, li_4005, li_4010, li_4012, li_4019, li_4020, li_4027, ll_0, ll_1, ll_2, ll_4, ll_6, ll_8, ll_11, ll_15, ll_18, ll_31, ll_48, ll_98, ll_100, ga103, ga105, ga119, ga120, ga106, ga107, ga108, ga109, ga110, ga111, ga116, ga118, ga104, ga112, ga114, ga115, ga117, ga113, ga121, gf102_5, gf102_13, gf102_14, gf102_0, gf102_6, gf102_7, gf102_8, gf102_9, gf102_10, gf102_11, gf102_12, gf102_15, gf102_19, gf102_20, gr102_1, gr102_2, gr102_3, gr102_4, gr102_16, gr102_17, gr102_18, gr102_21, gr102_22, gr102_23, gr102_24, gr102_25, gr102_26, gr102_27, gr102_28, gr102_29, gr102_30, gr102_31, gr102_32, pa103, pa105, pa119, pa120, pa106, pa107, pa108, pa109, pa110, pa111, pa116, pa118, pa104, pa112, pa114, pa115, pa117, pa113, pa121, pf102_5, pf102_13, pf102_14, pf102_0, pf102_6, pf102_7, pf102_8, pf102_9, pf102_10, pf102_11, pf102_12, pf102_15, pf102_19, pf102_20, s_within, t_isLost, t_fallen, t_isHurt, t_between, t_isPassage, t_isRoom, t_standNow, t_standsAll, t_isIn, t_noComing, t_noStand, t_bitsOf, u_tens4109, t_draw]

end LI
