/-! SPECS: the two parsers side by side: while a sign follows -/
set_option maxRecDepth 100000
noncomputable def RCterm : bk_C → Nat → Nat → Value → bk_H → bk_R := fun cl rd x _ h => bk_den TX5_term cl 5 [.ref rd, .ref x] [] h
noncomputable def RCsum : bk_C → Nat → Nat → Value → bk_H → bk_R := fun cl rd x w h => bk_den TX5_sum cl 5 [.ref rd, .ref x, w] [] h
noncomputable def RCboth : bk_C → Nat → Nat → Value → bk_H → bk_R := fun cl rd x _ h => bk_den TX5_both cl 5 [.ref rd, .ref x] [] h
noncomputable def RCtruth : bk_C → Nat → Nat → Value → bk_H → bk_R := fun cl rd x _ h => bk_den TX5_truth cl 5 [.ref rd, .ref x] [] h
noncomputable def RTterm : bk_C → Int32 → Value → bk_H → bk_R := fun cl x _ h => bk_den TX4_readTerm cl 5 [.ref 102, .int x] [] h
noncomputable def RTsum : bk_C → Int32 → Value → bk_H → bk_R := fun cl x w h => bk_den TX4_readSum cl 5 [.ref 102, .int x, w] [] h
noncomputable def RTboth : bk_C → Int32 → Value → bk_H → bk_R := fun cl x _ h => bk_den TX4_readBoth cl 5 [.ref 102, .int x] [] h
noncomputable def RTtruth : bk_C → Int32 → Value → bk_H → bk_R := fun cl x _ h => bk_den TX4_readTruth cl 5 [.ref 102, .int x] [] h
section LP
variable {b σ : Int → Int} {sz W dp : Int} {N : Nat}
theorem bTr_pair {g : bG} {d x y z : Nat} {sg c : Int} {cs cs' : List Int} (hy : bTr g d false W y cs) (hz : bTr g d false W z cs') (hc : (c = 3000 ∧ sg = 43) ∨ (c = 3001 ∧ sg = 45) ∨ (c = 3002 ∧ sg = 42)) (h0 : g 14 x 0 = .ref y) (h1 : g 14 x 1 = .ref z) (h2 : g 14 x 2 = .int (bk_i sg)) : bTr g (d + 1) false W x (cs ++ cs' ++ [c]) :=
  Or.inr (Or.inr (Or.inl ⟨cs, cs', c, y, z, sg, hy, hz, hc, rfl, h0, h1, h2⟩))
theorem wfc_pair {d : Nat} {c : Int} {cs cs' : List Int} (hy : wfc d false W cs) (hz : wfc d false W cs') (h0 : 3000 ≤ c) (h1 : c ≤ 3002) : wfc (d + 1) false W (cs ++ cs' ++ [c]) :=
  Or.inr (Or.inr (Or.inl ⟨cs, cs', c, hy, hz, h0, h1, rfl⟩))
theorem wfc_both {d : Nat} {c : Int} {cs cs' : List Int} (hy : wfc d true W cs) (hz : wfc d true W cs') (h0 : c = 3007 ∨ c = 3008) : wfc (d + 1) true W (cs ++ cs' ++ [c]) :=
  Or.inr (Or.inr ⟨cs, cs', c, hy, hz, h0, rfl⟩)
/-- a node over an older tree and a newer one -/
theorem two_trees {g g2 g3' : bG} {N0 n1 d0 e : Nat} {tr : Bool} {x0 r : Nat} {c0 cs : List Int} (hN : N0 ≤ n1) (hf : ∀ t a k, n1 ≤ a → g t a k = bk_u) (h1 : ∀ t a k, a < n1 → g3' t a k = g t a k) (h2 : ∀ t a k, n1 < a → g3' t a k = g2 t a k) (t0 : bTr (gHi g N0) d0 tr W x0 c0) (t1 : bTr (gHi g2 (n1 + 1)) e tr W r cs) :
    bTr (gHi g3' N0) (d0 + e) tr W x0 c0 ∧ bTr (gHi g3' N0) (d0 + e) tr W r cs := by
  refine ⟨bTr_on (fun a => N0 ≤ a ∧ a < n1) (fun t a k q => ?_) (fun t a k q => ?_) _ _ _ _ t0 _ (Nat.le_add_right _ _), bTr_on (fun a => n1 < a) (fun t a k q => ?_) (fun t a k q => ?_) _ _ _ _ t1 _ (Nat.le_add_left _ _)⟩
  · by_cases w : N0 ≤ a
    · rw [gHi_on w]; exact hf t a k (by omega)
    · exact gHi_off w
  · rw [gHi_on q.1, gHi_on q.1]; exact h1 t a k q.2
  · exact gHi_off (by omega)
  · rw [gHi_on (by omega), gHi_on (by omega)]; exact h2 t a k q
theorem bTr_bothN {g : bG} {d x y z : Nat} {sg c : Int} {cs cs' : List Int} (hy : bTr g d true W y cs) (hz : bTr g d true W z cs') (hc : (c = 3007 ∧ sg = 1) ∨ (c = 3008 ∧ sg = 0)) (hu : g 8 x 0 = bk_u) (h0 : g 9 x 0 = .ref y) (h1 : g 9 x 1 = .ref z) (h2 : g 9 x 2 = .int (bk_i sg)) : bTr g (d + 1) true W x (cs ++ cs' ++ [c]) :=
  Or.inr (Or.inr ⟨cs, cs', c, y, z, sg, hy, hz, hc, rfl, hu, h0, h1, h2⟩)
theorem bTr_le {g : bG} {d e x : Nat} {tr : Bool} {cs : List Int} (h : bTr g d tr W x cs) (he : d ≤ e) : bTr g e tr W x cs := bTr_on (fun _ => True) (fun _ _ _ q => absurd trivial q) (fun _ _ _ _ => rfl) _ _ _ _ h _ he
theorem app4 {a b c d : List Int} : a ++ (b ++ c ++ d) = a ++ b ++ c ++ d := by simp only [List.append_assoc]
theorem loop_term (d0 : 0 ≤ dp) (d6 : dp ≤ 6) (hA : ∀ σ', okL b sz σ' → (sz - σ' 0).toNat < N → SIM b sz W dp 5021 4022 false 2 1 σ') : ∀ (m : Nat) (σ : Int → Int), okL b sz σ → (sz - σ 0).toNat < m → m ≤ N + 1 → LOOP b sz W dp RCterm RTterm false 3 σ := by
  intro m
  induction m with
  | zero => intro σ ok hm; omega
  | succ m ih =>
    intro σ ok hm hN
    by_cases q : σ 4 = 0 ∧ σ 2 = 34
    · obtain ⟨st1, n4, s1⟩ := nextM_st ok q.1
      have lt1 : σ 0 < σ 1 := ok.2.2.2.2.1 (by omega)
      have zz := st1.1.2.1
      have zz2 := st1.1.2.2.1
      have zz3 := ok.1
      obtain ⟨σ2, cs2, st2, w2, C2, T2⟩ := hA (nextM b sz σ) st1.1 (by omega)
      have y2 := st2.2.1
      have y2' := st2.1.2.1
      have y2'' := st2.1.2.2.1
      obtain ⟨σ3, cs3, st3, w3, C3, T3⟩ := ih σ2 st2.1 (by omega) (by omega)
      have y3 := st3.2.1
      refine ⟨σ3, cs2 ++ [3002] ++ cs3, stepL_tr (stepL_tr st1 st2) st3, fun z d1 c1 h => ?_, ?_, ?_⟩
      · have z2 := st3.2.2.1 z
        have := w3 z (d1 + (σ2 0 - nextM b sz σ 0).toNat + 1) (c1 ++ cs2 ++ [3002]) (wfc_pair (wfc_mono _ _ _ h _ (Nat.le_add_right _ _)) (wfc_mono _ _ _ (w2 z2).2 _ (Nat.le_add_left _ _)) (by decide) (by decide))
        rw [app4]
        exact wfc_mono _ _ _ this _ (by omega)
      · intro κ cp cs0 cj Y g n rd F d x0 w hw hD
        have hr := hw.1.2.2.2.2.2.2.2.2.1
        have e1 := q_isSign (κ := κ) (cp := cp) (cs := cs0) (cj := cj) (Y := Y) (g := g) (n := n) (rd := rd) (F := F) (kk := 34) (c := 42) (D := d) hw.2.2.1 ok rfl (by decide) (by decide) (by decide) (by unfold eN at hD; omega)
        rw [bz_t q] at e1
        obtain ⟨F1, f1, l1, e2⟩ := q_nextL (κ := κ) (cs := cs0) (cj := cj) (Y := Y) (D := d) hw.1 hw.2.1 hw.2.2.1 ok (by unfold eN at hD; omega)
        have p1 := cP_lx (c := -6) hw f1 l1 (by omega)
        have hw1 := cW_ex hw p1
        have p2 := cP_new (k := 14) (fs := bk_fields 14) hw1 (by decide)
        have nw := (bEx_new (k := 14) (fs := bk_fields 14) hw1.1).2
        have hw2 := cW_ex hw1 p2
        obtain ⟨F3, g3', n3, r, p3, t3, e3⟩ := C2 κ cp cs0 cj Y _ _ rd F1 d hw2 (by unfold eN at hD ⊢; omega)
        have nw3 := isN1_ex nw p3.2.2.1 (Nat.lt_succ_self _)
        have lt3 : n.1 + 1 ≤ n3.1 := p3.2.2.1.2.1
        have e4 := q_pair (κ := κ) (X := (cp, cs0, cj)) (Y := Y) (n := n3) (rd := rd) (F := F3) (y := x0) (u := r) (sg := 42) (D := d) nw3 (by unfold eN at hD; omega)
        have p4 := cP_put (g'' := g3 g3' 14 n.1 (.ref x0) (.ref r) (.int (bk_i (42)))) (cP_tr (cP_tr p1 p2) p3) (Nat.le_refl _) (by omega) (fun t a j ha => g3_ne ha)
        obtain ⟨F5, g5, n5, x, p5, t5, e5⟩ := C3 κ cp cs0 cj Y _ _ rd F3 d n.1 bk_u (cW_ex hw p4) hD
        refine ⟨F5, g5, n5, x, cP_le (cP_tr p4 p5) (by decide), fun z N0 d1 c1 hN0 h0 h => ?_, ?_⟩
        · have z2 := st3.2.2.1 z
          obtain ⟨u1, u2⟩ := t3 z2
          have tt := two_trees (n1 := n.1) (g3' := g3 g3' 14 n.1 (.ref x0) (.ref r) (.int (bk_i (42)))) hN0 hw.1.2.2.2.2.2.2.2.2.2.1 p4.2.2.1.1 (fun t a k ha => g3_ne (by omega)) h u2
          have tn := bTr_pair (c := 3002) (sg := 42) (x := n.1) tt.1 tt.2 (Or.inr (Or.inr ⟨rfl, rfl⟩)) ((gHi_on hN0).trans g3_0) ((gHi_on hN0).trans g3_1) ((gHi_on hN0).trans g3_2)
          have := t5 z N0 _ _ (by omega) (by omega) tn
          rw [app4]
          exact ⟨this.1, bTr_le this.2 (by omega)⟩
        · have hnew : bk_new (bk_Q rd F1 (bk_M κ (cp, cs0, cj) Y g n)) 14 (bk_fields 14) = bk_Q rd F1 (bk_M κ (cp, cs0, cj) Y (gN g 14 n.1 (bk_fields 14)) (n.1 + 1, n.2 + (bk_fields 14).length)) := nQ (by decide) hr _
          have hn1 : (bk_Q rd F1 (bk_M κ (cp, cs0, cj) Y g n)).2.1 = n.1 := rfl
          have v14 : (bk_Q rd F3 (bk_M κ (cp, cs0, cj) Y g3' n3)).1 14 n.1 0 = .ref 0 := (gQ (by decide)).trans (nw3.2 0 (by decide))
          unfold RCterm at e5 ⊢
          rw [eX5_term_5]
          simp (disch := first | assumption | omega) only [e1, e2, hnew, hn1, eX5_term_21, e3, v14, e4, bi_add, bi_sub, bi_mul, bi_neg, bi_div, bi_64, bl_add, bl_sub, bl_mul, bl_neg, bl_div, bl_32, bi_min, bi_max, bl_min, bl_max, bq_I, bq_J, bq_A, bq_Vi, bq_Vl, bq_Vr, bq_cV, bq_cI, bq_cJ, bq_cA, bq_le, bq_lt, bq_eq, bq_z, bq_o, bq_ref, bq_nz, bq_nzJ, bq_bl, bq_blz, bq_T, bq_F, if_true, if_false, Int.reduceEq, Int.reduceLT, Int.reduceLE, Int.reduceAdd, Int.reduceSub, Int.reduceMul, Int.add_sub_cancel, li_0, li_1, li_5, li_14, li_21, li_42, ll_0, ll_1, ll_5, ll_14, ll_21, ll_42, q5_0, w5_0, q5_2, w5_2, q5_3, w5_3, q5_4, w5_4, q5_5, w5_5, q5_6, w5_6, q5_7, w5_7, q5_8, w5_8, q5_9, w5_9, q1_4, w1_4, q1_5, w1_5, q1_6, w1_6, q1_7, w1_7, q1_8, w1_8, q1_9, w1_9, q1_10, w1_10, q1_11, w1_11, q1_12, w1_12, qa_2, wa_2, qa_3, wa_3, qa_4, wa_4, bU_same, bU_ne, s_in]
          exact e5
      · intro κ X tp tj ts tk g n d w hw hD
        have n0 := hw.2.2.2.2.1
        have n1 := hw.2.2.2.2.2
        have b1 := hw.1.2.2.2.1
        obtain ⟨ts1, f1, l1, e1⟩ := t_eats (κ := κ) (X := X) (tj := tj) (tk := tk) (n := n) (kk := 34) (D := d) hw.1 hw.2.1 hw.2.2.1 ok (by decide) (by decide) (by unfold eN at hD; omega)
        have e0 : takM b sz 34 σ = nextM b sz σ := by unfold takM; rw [if_pos q]
        rw [e0] at l1
        rw [bz_t q] at e1
        have p1 := tP_lx (s := 1) hw f1 l1 (by omega)
        obtain ⟨ts2, p2, e2⟩ := T2 κ X tp tj ts1 tk g n d (tW_p hw p1 (by decide)) (by unfold eN at hD ⊢; omega)
        have p12 := tP_tr n0 p1 p2 st2.2.2.1
        have m1 := p12.2.2.2.2.1
        have m2 := p12.2.2.2.2.2.1
        have l11 := p2.2.2.1.2.2.2.2.1
        have s24 := st2.1.2.2.2.2.2.2.2
        by_cases c4 : σ2 4 = 0
        · rw [c4] at l11
          have e3 := t_emit (κ := κ) (X := X) (tp := tp) (tj := tj) (ts := ts2) (tk := tk) (g := g) (n := n) (c := 3002) (D := d) hw.1.1 l11 (by omega) (by omega) (by unfold eN at hD; omega)
          have p3 := tP_code (c := 3002) n0 p12
          obtain ⟨ts5, p5, e5⟩ := T3 κ X tp tj _ tk g n d bk_u (tW_p hw p3 (by decide)) hD
          refine ⟨ts5, tP_tr n0 p3 p5 st3.2.2.1, ?_⟩
          unfold RTterm at e5 ⊢
          rw [eX4_readTerm_5]
          simp (disch := first | assumption | omega) only [e1, e2, e3, bi_add, bi_sub, bi_mul, bi_neg, bi_div, bi_64, bl_add, bl_sub, bl_mul, bl_neg, bl_div, bl_32, bi_min, bi_max, bl_min, bl_max, bq_I, bq_J, bq_A, bq_Vi, bq_Vl, bq_Vr, bq_cV, bq_cI, bq_cJ, bq_cA, bq_le, bq_lt, bq_eq, bq_z, bq_o, bq_ref, bq_nz, bq_nzJ, bq_bl, bq_blz, bq_T, bq_F, if_true, if_false, Int.reduceEq, Int.reduceLT, Int.reduceLE, Int.reduceAdd, Int.reduceSub, Int.reduceMul, Int.add_sub_cancel, li_0, li_1, li_4, li_5, li_34, li_3002, li_4010, li_4021, li_4022, li_4023, ll_0, ll_1, ll_4, ll_5, ll_34, ga103, ga105, ga119, ga120, ga106, ga107, ga108, ga109, ga110, ga111, ga116, ga118, ga104, ga112, ga114, ga115, ga117, ga113, ga121, gf102_5, gf102_13, gf102_14, gf102_0, gf102_6, gf102_7, gf102_8, gf102_9, gf102_10, gf102_11, gf102_12, gf102_15, gf102_19, gf102_20, gr102_1, gr102_2, gr102_3, gr102_4, gr102_16, gr102_17, gr102_18, gr102_21, gr102_22, gr102_23, gr102_24, gr102_25, gr102_26, gr102_27, gr102_28, gr102_29, gr102_30, gr102_31, gr102_32, pa103, pa105, pa119, pa120, pa106, pa107, pa108, pa109, pa110, pa111, pa116, pa118, pa104, pa112, pa114, pa115, pa117, pa113, pa121, pf102_5, pf102_13, pf102_14, pf102_0, pf102_6, pf102_7, pf102_8, pf102_9, pf102_10, pf102_11, pf102_12, pf102_15, pf102_19, pf102_20, s_within, t_isLost, t_fallen, t_isHurt, t_between, t_isPassage, t_isRoom, t_standNow, t_standsAll, t_isIn, t_noComing, t_noStand, t_bitsOf, u_tens4109, t_draw]
          exact e5
        · have e3 := t_emitF (κ := κ) (X := X) (tp := tp) (tj := tj) (ts := ts2) (tk := tk) (g := g) (n := n) (c := 3002) (D := d) hw.1.1 l11 c4 s24.1 s24.2 (by unfold eN at hD; omega)
          obtain ⟨ts5, p5, e5⟩ := T3 κ X tp tj _ tk g n d bk_u (tW_p hw p12 (by decide)) hD
          refine ⟨ts5, tP_any (tP_le (tP_tr n0 p12 p5 st3.2.2.1) (by decide)) (fun z => c4 (st3.2.2.1 z)), ?_⟩
          unfold RTterm at e5 ⊢
          rw [eX4_readTerm_5]
          simp (disch := first | assumption | omega) only [e1, e2, e3, bi_add, bi_sub, bi_mul, bi_neg, bi_div, bi_64, bl_add, bl_sub, bl_mul, bl_neg, bl_div, bl_32, bi_min, bi_max, bl_min, bl_max, bq_I, bq_J, bq_A, bq_Vi, bq_Vl, bq_Vr, bq_cV, bq_cI, bq_cJ, bq_cA, bq_le, bq_lt, bq_eq, bq_z, bq_o, bq_ref, bq_nz, bq_nzJ, bq_bl, bq_blz, bq_T, bq_F, if_true, if_false, Int.reduceEq, Int.reduceLT, Int.reduceLE, Int.reduceAdd, Int.reduceSub, Int.reduceMul, Int.add_sub_cancel, li_0, li_1, li_4, li_5, li_34, li_3002, li_4010, li_4021, li_4022, li_4023, ll_0, ll_1, ll_4, ll_5, ll_34, ga103, ga105, ga119, ga120, ga106, ga107, ga108, ga109, ga110, ga111, ga116, ga118, ga104, ga112, ga114, ga115, ga117, ga113, ga121, gf102_5, gf102_13, gf102_14, gf102_0, gf102_6, gf102_7, gf102_8, gf102_9, gf102_10, gf102_11, gf102_12, gf102_15, gf102_19, gf102_20, gr102_1, gr102_2, gr102_3, gr102_4, gr102_16, gr102_17, gr102_18, gr102_21, gr102_22, gr102_23, gr102_24, gr102_25, gr102_26, gr102_27, gr102_28, gr102_29, gr102_30, gr102_31, gr102_32, pa103, pa105, pa119, pa120, pa106, pa107, pa108, pa109, pa110, pa111, pa116, pa118, pa104, pa112, pa114, pa115, pa117, pa113, pa121, pf102_5, pf102_13, pf102_14, pf102_0, pf102_6, pf102_7, pf102_8, pf102_9, pf102_10, pf102_11, pf102_12, pf102_15, pf102_19, pf102_20, s_within, t_isLost, t_fallen, t_isHurt, t_between, t_isPassage, t_isRoom, t_standNow, t_standsAll, t_isIn, t_noComing, t_noStand, t_bitsOf, u_tens4109, t_draw]
          exact e5
    · refine ⟨σ, [], stepL_rf ok, fun z d1 c1 h => by rw [List.append_nil]; exact wfc_mono _ _ _ h _ (Nat.le_add_right _ _), ?_, ?_⟩
      · intro κ cp cs0 cj Y g n rd F d x0 w hw hD
        have e1 := q_isSign (κ := κ) (cp := cp) (cs := cs0) (cj := cj) (Y := Y) (g := g) (n := n) (rd := rd) (F := F) (kk := 34) (c := 42) (D := d) hw.2.2.1 ok rfl (by decide) (by decide) (by decide) (by unfold eN at hD; omega)
        rw [bz_f q] at e1
        refine ⟨F, g, n, x0, cP_rf hw, fun z N0 d1 c1 _ h0 h => ⟨h0, by rw [List.append_nil]; exact bTr_le h (Nat.le_add_right _ _)⟩, ?_⟩
        unfold RCterm
        rw [eX5_term_5]
        simp (disch := first | assumption | omega) only [e1, bi_add, bi_sub, bi_mul, bi_neg, bi_div, bi_64, bl_add, bl_sub, bl_mul, bl_neg, bl_div, bl_32, bi_min, bi_max, bl_min, bl_max, bq_I, bq_J, bq_A, bq_Vi, bq_Vl, bq_Vr, bq_cV, bq_cI, bq_cJ, bq_cA, bq_le, bq_lt, bq_eq, bq_z, bq_o, bq_ref, bq_nz, bq_nzJ, bq_bl, bq_blz, bq_T, bq_F, if_true, if_false, Int.reduceEq, Int.reduceLT, Int.reduceLE, Int.reduceAdd, Int.reduceSub, Int.reduceMul, Int.add_sub_cancel, li_0, li_1, li_5, li_14, li_21, li_42, ll_0, ll_1, ll_5, ll_14, ll_21, ll_42, q5_0, w5_0, q5_2, w5_2, q5_3, w5_3, q5_4, w5_4, q5_5, w5_5, q5_6, w5_6, q5_7, w5_7, q5_8, w5_8, q5_9, w5_9, q1_4, w1_4, q1_5, w1_5, q1_6, w1_6, q1_7, w1_7, q1_8, w1_8, q1_9, w1_9, q1_10, w1_10, q1_11, w1_11, q1_12, w1_12, qa_2, wa_2, qa_3, wa_3, qa_4, wa_4, bU_same, bU_ne, s_in]
      · intro κ X tp tj ts tk g n d w hw hD
        obtain ⟨ts1, f1, l1, e1⟩ := t_eats (κ := κ) (X := X) (tj := tj) (tk := tk) (n := n) (kk := 34) (D := d) hw.1 hw.2.1 hw.2.2.1 ok (by decide) (by decide) (by unfold eN at hD; omega)
        have e0 : takM b sz 34 σ = σ := by unfold takM; rw [if_neg q]
        rw [e0] at l1
        rw [bz_f q] at e1
        refine ⟨ts1, tP_lx hw f1 l1 (by omega), ?_⟩
        unfold RTterm
        rw [eX4_readTerm_5]
        simp (disch := first | assumption | omega) only [e1, bi_add, bi_sub, bi_mul, bi_neg, bi_div, bi_64, bl_add, bl_sub, bl_mul, bl_neg, bl_div, bl_32, bi_min, bi_max, bl_min, bl_max, bq_I, bq_J, bq_A, bq_Vi, bq_Vl, bq_Vr, bq_cV, bq_cI, bq_cJ, bq_cA, bq_le, bq_lt, bq_eq, bq_z, bq_o, bq_ref, bq_nz, bq_nzJ, bq_bl, bq_blz, bq_T, bq_F, if_true, if_false, Int.reduceEq, Int.reduceLT, Int.reduceLE, Int.reduceAdd, Int.reduceSub, Int.reduceMul, Int.add_sub_cancel, li_0, li_1, li_4, li_5, li_34, li_3002, li_4010, li_4021, li_4022, li_4023, ll_0, ll_1, ll_4, ll_5, ll_34, ga103, ga105, ga119, ga120, ga106, ga107, ga108, ga109, ga110, ga111, ga116, ga118, ga104, ga112, ga114, ga115, ga117, ga113, ga121, gf102_5, gf102_13, gf102_14, gf102_0, gf102_6, gf102_7, gf102_8, gf102_9, gf102_10, gf102_11, gf102_12, gf102_15, gf102_19, gf102_20, gr102_1, gr102_2, gr102_3, gr102_4, gr102_16, gr102_17, gr102_18, gr102_21, gr102_22, gr102_23, gr102_24, gr102_25, gr102_26, gr102_27, gr102_28, gr102_29, gr102_30, gr102_31, gr102_32, pa103, pa105, pa119, pa120, pa106, pa107, pa108, pa109, pa110, pa111, pa116, pa118, pa104, pa112, pa114, pa115, pa117, pa113, pa121, pf102_5, pf102_13, pf102_14, pf102_0, pf102_6, pf102_7, pf102_8, pf102_9, pf102_10, pf102_11, pf102_12, pf102_15, pf102_19, pf102_20, s_within, t_isLost, t_fallen, t_isHurt, t_between, t_isPassage, t_isRoom, t_standNow, t_standsAll, t_isIn, t_noComing, t_noStand, t_bitsOf, u_tens4109, t_draw]
theorem loop_both (d0 : 0 ≤ dp) (d6 : dp ≤ 6) (hA : ∀ σ', okL b sz σ' → (sz - σ' 0).toNat < N → SIM b sz W dp 5026 4029 true 5 3 σ') : ∀ (m : Nat) (σ : Int → Int), okL b sz σ → (sz - σ 0).toNat < m → m ≤ N + 1 → LOOP b sz W dp RCboth RTboth true 6 σ := by
  intro m
  induction m with
  | zero => intro σ ok hm; omega
  | succ m ih =>
    intro σ ok hm hN
    by_cases q : σ 4 = 0 ∧ σ 2 = 18
    · obtain ⟨st1, n4, s1⟩ := nextM_st ok q.1
      have lt1 : σ 0 < σ 1 := ok.2.2.2.2.1 (by omega)
      have zz := st1.1.2.1
      have zz2 := st1.1.2.2.1
      have zz3 := ok.1
      obtain ⟨σ2, cs2, st2, w2, C2, T2⟩ := hA (nextM b sz σ) st1.1 (by omega)
      have y2 := st2.2.1
      have y2' := st2.1.2.1
      have y2'' := st2.1.2.2.1
      obtain ⟨σ3, cs3, st3, w3, C3, T3⟩ := ih σ2 st2.1 (by omega) (by omega)
      have y3 := st3.2.1
      refine ⟨σ3, cs2 ++ [3007] ++ cs3, stepL_tr (stepL_tr st1 st2) st3, fun z d1 c1 h => ?_, ?_, ?_⟩
      · have z2 := st3.2.2.1 z
        have := w3 z (d1 + (σ2 0 - nextM b sz σ 0).toNat + 1) (c1 ++ cs2 ++ [3007]) (wfc_both (wfc_mono _ _ _ h _ (Nat.le_add_right _ _)) (wfc_mono _ _ _ (w2 z2).2 _ (Nat.le_add_left _ _)) (Or.inl rfl))
        rw [app4]
        exact wfc_mono _ _ _ this _ (by omega)
      · intro κ cp cs0 cj Y g n rd F d x0 w hw hD
        have hr := hw.1.2.2.2.2.2.2.2.2.1
        obtain ⟨F1, f1, l1, e1⟩ := q_takesY (κ := κ) (cs := cs0) (cj := cj) (Y := Y) (D := d) hw.1 hw.2.1 hw.2.2.1 ok kO19 (show 21 = 2 + 19 from rfl) q (by unfold eN at hD; omega)
        have p1 := cP_lx (c := -6) hw f1 l1 (by omega)
        have hw1 := cW_ex hw p1
        have p2 := cP_new (k := 9) (fs := bk_fields 9) hw1 (by decide)
        have nw := (bEx_new (k := 9) (fs := bk_fields 9) hw1.1).2
        have hw2 := cW_ex hw1 p2
        obtain ⟨F3, g3', n3, r, p3, t3, e3⟩ := C2 κ cp cs0 cj Y _ _ rd F1 d hw2 (by unfold eN at hD ⊢; omega)
        have nw3 := isN1_ex nw p3.2.2.1 (Nat.lt_succ_self _)
        have lt3 : n.1 + 1 ≤ n3.1 := p3.2.2.1.2.1
        have e4 := q_bothN (κ := κ) (X := (cp, cs0, cj)) (Y := Y) (n := n3) (rd := rd) (F := F3) (y := x0) (u := r) (sg := 1) (D := d) nw3 (Or.inr rfl) (by unfold eN at hD; omega)
        have p4 := cP_put (g'' := g3 g3' 9 n.1 (.ref x0) (.ref r) (.int (bk_i (1)))) (cP_tr (cP_tr p1 p2) p3) (Nat.le_refl _) (by omega) (fun t a j ha => g3_ne ha)
        obtain ⟨F5, g5, n5, x, p5, t5, e5⟩ := C3 κ cp cs0 cj Y _ _ rd F3 d n.1 bk_u (cW_ex hw p4) hD
        refine ⟨F5, g5, n5, x, cP_le (cP_tr p4 p5) (by decide), fun z N0 d1 c1 hN0 h0 h => ?_, ?_⟩
        · have z2 := st3.2.2.1 z
          obtain ⟨u1, u2⟩ := t3 z2
          have tt := two_trees (n1 := n.1) (g3' := g3 g3' 9 n.1 (.ref x0) (.ref r) (.int (bk_i (1)))) hN0 hw.1.2.2.2.2.2.2.2.2.2.1 p4.2.2.1.1 (fun t a k ha => g3_ne (by omega)) h u2
          have tn := bTr_bothN (c := 3007) (sg := 1) (x := n.1) tt.1 tt.2 (Or.inl ⟨rfl, rfl⟩) ((gHi_on hN0).trans ((g3_oth (by decide)).trans (nw3.1 8 0 (by decide)))) ((gHi_on hN0).trans g3_0) ((gHi_on hN0).trans g3_1) ((gHi_on hN0).trans g3_2)
          have := t5 z N0 _ _ (by omega) (by omega) tn
          rw [app4]
          exact ⟨this.1, bTr_le this.2 (by omega)⟩
        · have hnew : bk_new (bk_Q rd F1 (bk_M κ (cp, cs0, cj) Y g n)) 9 (bk_fields 9) = bk_Q rd F1 (bk_M κ (cp, cs0, cj) Y (gN g 9 n.1 (bk_fields 9)) (n.1 + 1, n.2 + (bk_fields 9).length)) := nQ (by decide) hr _
          have hn1 : (bk_Q rd F1 (bk_M κ (cp, cs0, cj) Y g n)).2.1 = n.1 := rfl
          have v14 : (bk_Q rd F3 (bk_M κ (cp, cs0, cj) Y g3' n3)).1 9 n.1 0 = .ref 0 := (gQ (by decide)).trans (nw3.2 0 (by decide))
          unfold RCboth at e5 ⊢
          rw [eX5_both_5]
          simp (disch := first | assumption | omega) only [e1, hnew, hn1, eX5_both_17, e3, v14, e4, bi_add, bi_sub, bi_mul, bi_neg, bi_div, bi_64, bl_add, bl_sub, bl_mul, bl_neg, bl_div, bl_32, bi_min, bi_max, bl_min, bl_max, bq_I, bq_J, bq_A, bq_Vi, bq_Vl, bq_Vr, bq_cV, bq_cI, bq_cJ, bq_cA, bq_le, bq_lt, bq_eq, bq_z, bq_o, bq_ref, bq_nz, bq_nzJ, bq_bl, bq_blz, bq_T, bq_F, if_true, if_false, Int.reduceEq, Int.reduceLT, Int.reduceLE, Int.reduceAdd, Int.reduceSub, Int.reduceMul, Int.add_sub_cancel, li_0, li_1, li_5, li_9, li_17, li_21, ll_0, ll_1, ll_5, ll_9, ll_17, ll_21, q5_0, w5_0, q5_2, w5_2, q5_3, w5_3, q5_4, w5_4, q5_5, w5_5, q5_6, w5_6, q5_7, w5_7, q5_8, w5_8, q5_9, w5_9, q1_4, w1_4, q1_5, w1_5, q1_6, w1_6, q1_7, w1_7, q1_8, w1_8, q1_9, w1_9, q1_10, w1_10, q1_11, w1_11, q1_12, w1_12, qa_2, wa_2, qa_3, wa_3, qa_4, wa_4, bU_same, bU_ne, s_in]
          exact e5
      · intro κ X tp tj ts tk g n d w hw hD
        have n0 := hw.2.2.2.2.1
        have n1 := hw.2.2.2.2.2
        have b1 := hw.1.2.2.2.1
        obtain ⟨ts1, f1, l1, e1⟩ := t_eats (κ := κ) (X := X) (tj := tj) (tk := tk) (n := n) (kk := 18) (D := d) hw.1 hw.2.1 hw.2.2.1 ok (by decide) (by decide) (by unfold eN at hD; omega)
        have e0 : takM b sz 18 σ = nextM b sz σ := by unfold takM; rw [if_pos q]
        rw [e0] at l1
        rw [bz_t q] at e1
        have p1 := tP_lx (s := 1) hw f1 l1 (by omega)
        obtain ⟨ts2, p2, e2⟩ := T2 κ X tp tj ts1 tk g n d (tW_p hw p1 (by decide)) (by unfold eN at hD ⊢; omega)
        have p12 := tP_tr n0 p1 p2 st2.2.2.1
        have m1 := p12.2.2.2.2.1
        have m2 := p12.2.2.2.2.2.1
        have l11 := p2.2.2.1.2.2.2.2.1
        have s24 := st2.1.2.2.2.2.2.2.2
        by_cases c4 : σ2 4 = 0
        · rw [c4] at l11
          have e3 := t_emit (κ := κ) (X := X) (tp := tp) (tj := tj) (ts := ts2) (tk := tk) (g := g) (n := n) (c := 3007) (D := d) hw.1.1 l11 (by omega) (by omega) (by unfold eN at hD; omega)
          have p3 := tP_code (c := 3007) n0 p12
          obtain ⟨ts5, p5, e5⟩ := T3 κ X tp tj _ tk g n d bk_u (tW_p hw p3 (by decide)) hD
          refine ⟨ts5, tP_tr n0 p3 p5 st3.2.2.1, ?_⟩
          unfold RTboth at e5 ⊢
          rw [eX4_readBoth_5]
          simp (disch := first | assumption | omega) only [e1, e2, e3, bi_add, bi_sub, bi_mul, bi_neg, bi_div, bi_64, bl_add, bl_sub, bl_mul, bl_neg, bl_div, bl_32, bi_min, bi_max, bl_min, bl_max, bq_I, bq_J, bq_A, bq_Vi, bq_Vl, bq_Vr, bq_cV, bq_cI, bq_cJ, bq_cA, bq_le, bq_lt, bq_eq, bq_z, bq_o, bq_ref, bq_nz, bq_nzJ, bq_bl, bq_blz, bq_T, bq_F, if_true, if_false, Int.reduceEq, Int.reduceLT, Int.reduceLE, Int.reduceAdd, Int.reduceSub, Int.reduceMul, Int.add_sub_cancel, li_0, li_1, li_4, li_5, li_18, li_3007, li_4010, li_4023, li_4028, li_4029, ll_0, ll_1, ll_4, ll_5, ll_18, ga103, ga105, ga119, ga120, ga106, ga107, ga108, ga109, ga110, ga111, ga116, ga118, ga104, ga112, ga114, ga115, ga117, ga113, ga121, gf102_5, gf102_13, gf102_14, gf102_0, gf102_6, gf102_7, gf102_8, gf102_9, gf102_10, gf102_11, gf102_12, gf102_15, gf102_19, gf102_20, gr102_1, gr102_2, gr102_3, gr102_4, gr102_16, gr102_17, gr102_18, gr102_21, gr102_22, gr102_23, gr102_24, gr102_25, gr102_26, gr102_27, gr102_28, gr102_29, gr102_30, gr102_31, gr102_32, pa103, pa105, pa119, pa120, pa106, pa107, pa108, pa109, pa110, pa111, pa116, pa118, pa104, pa112, pa114, pa115, pa117, pa113, pa121, pf102_5, pf102_13, pf102_14, pf102_0, pf102_6, pf102_7, pf102_8, pf102_9, pf102_10, pf102_11, pf102_12, pf102_15, pf102_19, pf102_20, s_within, t_isLost, t_fallen, t_isHurt, t_between, t_isPassage, t_isRoom, t_standNow, t_standsAll, t_isIn, t_noComing, t_noStand, t_bitsOf, u_tens4109, t_draw]
          exact e5
        · have e3 := t_emitF (κ := κ) (X := X) (tp := tp) (tj := tj) (ts := ts2) (tk := tk) (g := g) (n := n) (c := 3007) (D := d) hw.1.1 l11 c4 s24.1 s24.2 (by unfold eN at hD; omega)
          obtain ⟨ts5, p5, e5⟩ := T3 κ X tp tj _ tk g n d bk_u (tW_p hw p12 (by decide)) hD
          refine ⟨ts5, tP_any (tP_le (tP_tr n0 p12 p5 st3.2.2.1) (by decide)) (fun z => c4 (st3.2.2.1 z)), ?_⟩
          unfold RTboth at e5 ⊢
          rw [eX4_readBoth_5]
          simp (disch := first | assumption | omega) only [e1, e2, e3, bi_add, bi_sub, bi_mul, bi_neg, bi_div, bi_64, bl_add, bl_sub, bl_mul, bl_neg, bl_div, bl_32, bi_min, bi_max, bl_min, bl_max, bq_I, bq_J, bq_A, bq_Vi, bq_Vl, bq_Vr, bq_cV, bq_cI, bq_cJ, bq_cA, bq_le, bq_lt, bq_eq, bq_z, bq_o, bq_ref, bq_nz, bq_nzJ, bq_bl, bq_blz, bq_T, bq_F, if_true, if_false, Int.reduceEq, Int.reduceLT, Int.reduceLE, Int.reduceAdd, Int.reduceSub, Int.reduceMul, Int.add_sub_cancel, li_0, li_1, li_4, li_5, li_18, li_3007, li_4010, li_4023, li_4028, li_4029, ll_0, ll_1, ll_4, ll_5, ll_18, ga103, ga105, ga119, ga120, ga106, ga107, ga108, ga109, ga110, ga111, ga116, ga118, ga104, ga112, ga114, ga115, ga117, ga113, ga121, gf102_5, gf102_13, gf102_14, gf102_0, gf102_6, gf102_7, gf102_8, gf102_9, gf102_10, gf102_11, gf102_12, gf102_15, gf102_19, gf102_20, gr102_1, gr102_2, gr102_3, gr102_4, gr102_16, gr102_17, gr102_18, gr102_21, gr102_22, gr102_23, gr102_24, gr102_25, gr102_26, gr102_27, gr102_28, gr102_29, gr102_30, gr102_31, gr102_32, pa103, pa105, pa119, pa120, pa106, pa107, pa108, pa109, pa110, pa111, pa116, pa118, pa104, pa112, pa114, pa115, pa117, pa113, pa121, pf102_5, pf102_13, pf102_14, pf102_0, pf102_6, pf102_7, pf102_8, pf102_9, pf102_10, pf102_11, pf102_12, pf102_15, pf102_19, pf102_20, s_within, t_isLost, t_fallen, t_isHurt, t_between, t_isPassage, t_isRoom, t_standNow, t_standsAll, t_isIn, t_noComing, t_noStand, t_bitsOf, u_tens4109, t_draw]
          exact e5
    · refine ⟨σ, [], stepL_rf ok, fun z d1 c1 h => by rw [List.append_nil]; exact wfc_mono _ _ _ h _ (Nat.le_add_right _ _), ?_, ?_⟩
      · intro κ cp cs0 cj Y g n rd F d x0 w hw hD
        have e1 := q_takesN (κ := κ) (cs := cs0) (cj := cj) (Y := Y) (D := d) hw.1 hw.2.1 hw.2.2.1 ok kO19 (show 21 = 2 + 19 from rfl) q (by unfold eN at hD; omega)
        refine ⟨F, g, n, x0, cP_rf hw, fun z N0 d1 c1 _ h0 h => ⟨h0, by rw [List.append_nil]; exact bTr_le h (Nat.le_add_right _ _)⟩, ?_⟩
        unfold RCboth
        rw [eX5_both_5]
        simp (disch := first | assumption | omega) only [e1, bi_add, bi_sub, bi_mul, bi_neg, bi_div, bi_64, bl_add, bl_sub, bl_mul, bl_neg, bl_div, bl_32, bi_min, bi_max, bl_min, bl_max, bq_I, bq_J, bq_A, bq_Vi, bq_Vl, bq_Vr, bq_cV, bq_cI, bq_cJ, bq_cA, bq_le, bq_lt, bq_eq, bq_z, bq_o, bq_ref, bq_nz, bq_nzJ, bq_bl, bq_blz, bq_T, bq_F, if_true, if_false, Int.reduceEq, Int.reduceLT, Int.reduceLE, Int.reduceAdd, Int.reduceSub, Int.reduceMul, Int.add_sub_cancel, li_0, li_1, li_5, li_9, li_17, li_21, ll_0, ll_1, ll_5, ll_9, ll_17, ll_21, q5_0, w5_0, q5_2, w5_2, q5_3, w5_3, q5_4, w5_4, q5_5, w5_5, q5_6, w5_6, q5_7, w5_7, q5_8, w5_8, q5_9, w5_9, q1_4, w1_4, q1_5, w1_5, q1_6, w1_6, q1_7, w1_7, q1_8, w1_8, q1_9, w1_9, q1_10, w1_10, q1_11, w1_11, q1_12, w1_12, qa_2, wa_2, qa_3, wa_3, qa_4, wa_4, bU_same, bU_ne, s_in]
      · intro κ X tp tj ts tk g n d w hw hD
        obtain ⟨ts1, f1, l1, e1⟩ := t_eats (κ := κ) (X := X) (tj := tj) (tk := tk) (n := n) (kk := 18) (D := d) hw.1 hw.2.1 hw.2.2.1 ok (by decide) (by decide) (by unfold eN at hD; omega)
        have e0 : takM b sz 18 σ = σ := by unfold takM; rw [if_neg q]
        rw [e0] at l1
        rw [bz_f q] at e1
        refine ⟨ts1, tP_lx hw f1 l1 (by omega), ?_⟩
        unfold RTboth
        rw [eX4_readBoth_5]
        simp (disch := first | assumption | omega) only [e1, bi_add, bi_sub, bi_mul, bi_neg, bi_div, bi_64, bl_add, bl_sub, bl_mul, bl_neg, bl_div, bl_32, bi_min, bi_max, bl_min, bl_max, bq_I, bq_J, bq_A, bq_Vi, bq_Vl, bq_Vr, bq_cV, bq_cI, bq_cJ, bq_cA, bq_le, bq_lt, bq_eq, bq_z, bq_o, bq_ref, bq_nz, bq_nzJ, bq_bl, bq_blz, bq_T, bq_F, if_true, if_false, Int.reduceEq, Int.reduceLT, Int.reduceLE, Int.reduceAdd, Int.reduceSub, Int.reduceMul, Int.add_sub_cancel, li_0, li_1, li_4, li_5, li_18, li_3007, li_4010, li_4023, li_4028, li_4029, ll_0, ll_1, ll_4, ll_5, ll_18, ga103, ga105, ga119, ga120, ga106, ga107, ga108, ga109, ga110, ga111, ga116, ga118, ga104, ga112, ga114, ga115, ga117, ga113, ga121, gf102_5, gf102_13, gf102_14, gf102_0, gf102_6, gf102_7, gf102_8, gf102_9, gf102_10, gf102_11, gf102_12, gf102_15, gf102_19, gf102_20, gr102_1, gr102_2, gr102_3, gr102_4, gr102_16, gr102_17, gr102_18, gr102_21, gr102_22, gr102_23, gr102_24, gr102_25, gr102_26, gr102_27, gr102_28, gr102_29, gr102_30, gr102_31, gr102_32, pa103, pa105, pa119, pa120, pa106, pa107, pa108, pa109, pa110, pa111, pa116, pa118, pa104, pa112, pa114, pa115, pa117, pa113, pa121, pf102_5, pf102_13, pf102_14, pf102_0, pf102_6, pf102_7, pf102_8, pf102_9, pf102_10, pf102_11, pf102_12, pf102_15, pf102_19, pf102_20, s_within, t_isLost, t_fallen, t_isHurt, t_between, t_isPassage, t_isRoom, t_standNow, t_standsAll, t_isIn, t_noComing, t_noStand, t_bitsOf, u_tens4109, t_draw]
theorem loop_truth (d0 : 0 ≤ dp) (d6 : dp ≤ 6) (hA : ∀ σ', okL b sz σ' → (sz - σ' 0).toNat < N → SIM b sz W dp 5025 4028 true 6 3 σ') : ∀ (m : Nat) (σ : Int → Int), okL b sz σ → (sz - σ 0).toNat < m → m ≤ N + 1 → LOOP b sz W dp RCtruth RTtruth true 7 σ := by
  intro m
  induction m with
  | zero => intro σ ok hm; omega
  | succ m ih =>
    intro σ ok hm hN
    by_cases q : σ 4 = 0 ∧ σ 2 = 19
    · obtain ⟨st1, n4, s1⟩ := nextM_st ok q.1
      have lt1 : σ 0 < σ 1 := ok.2.2.2.2.1 (by omega)
      have zz := st1.1.2.1
      have zz2 := st1.1.2.2.1
      have zz3 := ok.1
      obtain ⟨σ2, cs2, st2, w2, C2, T2⟩ := hA (nextM b sz σ) st1.1 (by omega)
      have y2 := st2.2.1
      have y2' := st2.1.2.1
      have y2'' := st2.1.2.2.1
      obtain ⟨σ3, cs3, st3, w3, C3, T3⟩ := ih σ2 st2.1 (by omega) (by omega)
      have y3 := st3.2.1
      refine ⟨σ3, cs2 ++ [3008] ++ cs3, stepL_tr (stepL_tr st1 st2) st3, fun z d1 c1 h => ?_, ?_, ?_⟩
      · have z2 := st3.2.2.1 z
        have := w3 z (d1 + (σ2 0 - nextM b sz σ 0).toNat + 1) (c1 ++ cs2 ++ [3008]) (wfc_both (wfc_mono _ _ _ h _ (Nat.le_add_right _ _)) (wfc_mono _ _ _ (w2 z2).2 _ (Nat.le_add_left _ _)) (Or.inr rfl))
        rw [app4]
        exact wfc_mono _ _ _ this _ (by omega)
      · intro κ cp cs0 cj Y g n rd F d x0 w hw hD
        have hr := hw.1.2.2.2.2.2.2.2.2.1
        obtain ⟨F1, f1, l1, e1⟩ := q_takesY (κ := κ) (cs := cs0) (cj := cj) (Y := Y) (D := d) hw.1 hw.2.1 hw.2.2.1 ok kO18 (show 20 = 2 + 18 from rfl) q (by unfold eN at hD; omega)
        have p1 := cP_lx (c := -6) hw f1 l1 (by omega)
        have hw1 := cW_ex hw p1
        have p2 := cP_new (k := 9) (fs := bk_fields 9) hw1 (by decide)
        have nw := (bEx_new (k := 9) (fs := bk_fields 9) hw1.1).2
        have hw2 := cW_ex hw1 p2
        obtain ⟨F3, g3', n3, r, p3, t3, e3⟩ := C2 κ cp cs0 cj Y _ _ rd F1 d hw2 (by unfold eN at hD ⊢; omega)
        have nw3 := isN1_ex nw p3.2.2.1 (Nat.lt_succ_self _)
        have lt3 : n.1 + 1 ≤ n3.1 := p3.2.2.1.2.1
        have e4 := q_bothN (κ := κ) (X := (cp, cs0, cj)) (Y := Y) (n := n3) (rd := rd) (F := F3) (y := x0) (u := r) (sg := 0) (D := d) nw3 (Or.inl rfl) (by unfold eN at hD; omega)
        have p4 := cP_put (g'' := g3 g3' 9 n.1 (.ref x0) (.ref r) (.int (bk_i (0)))) (cP_tr (cP_tr p1 p2) p3) (Nat.le_refl _) (by omega) (fun t a j ha => g3_ne ha)
        obtain ⟨F5, g5, n5, x, p5, t5, e5⟩ := C3 κ cp cs0 cj Y _ _ rd F3 d n.1 bk_u (cW_ex hw p4) hD
        refine ⟨F5, g5, n5, x, cP_le (cP_tr p4 p5) (by decide), fun z N0 d1 c1 hN0 h0 h => ?_, ?_⟩
        · have z2 := st3.2.2.1 z
          obtain ⟨u1, u2⟩ := t3 z2
          have tt := two_trees (n1 := n.1) (g3' := g3 g3' 9 n.1 (.ref x0) (.ref r) (.int (bk_i (0)))) hN0 hw.1.2.2.2.2.2.2.2.2.2.1 p4.2.2.1.1 (fun t a k ha => g3_ne (by omega)) h u2
          have tn := bTr_bothN (c := 3008) (sg := 0) (x := n.1) tt.1 tt.2 (Or.inr ⟨rfl, rfl⟩) ((gHi_on hN0).trans ((g3_oth (by decide)).trans (nw3.1 8 0 (by decide)))) ((gHi_on hN0).trans g3_0) ((gHi_on hN0).trans g3_1) ((gHi_on hN0).trans g3_2)
          have := t5 z N0 _ _ (by omega) (by omega) tn
          rw [app4]
          exact ⟨this.1, bTr_le this.2 (by omega)⟩
        · have hnew : bk_new (bk_Q rd F1 (bk_M κ (cp, cs0, cj) Y g n)) 9 (bk_fields 9) = bk_Q rd F1 (bk_M κ (cp, cs0, cj) Y (gN g 9 n.1 (bk_fields 9)) (n.1 + 1, n.2 + (bk_fields 9).length)) := nQ (by decide) hr _
          have hn1 : (bk_Q rd F1 (bk_M κ (cp, cs0, cj) Y g n)).2.1 = n.1 := rfl
          have v14 : (bk_Q rd F3 (bk_M κ (cp, cs0, cj) Y g3' n3)).1 9 n.1 0 = .ref 0 := (gQ (by decide)).trans (nw3.2 0 (by decide))
          unfold RCtruth at e5 ⊢
          rw [eX5_truth_5]
          simp (disch := first | assumption | omega) only [e1, hnew, hn1, eX5_truth_17, e3, v14, e4, bi_add, bi_sub, bi_mul, bi_neg, bi_div, bi_64, bl_add, bl_sub, bl_mul, bl_neg, bl_div, bl_32, bi_min, bi_max, bl_min, bl_max, bq_I, bq_J, bq_A, bq_Vi, bq_Vl, bq_Vr, bq_cV, bq_cI, bq_cJ, bq_cA, bq_le, bq_lt, bq_eq, bq_z, bq_o, bq_ref, bq_nz, bq_nzJ, bq_bl, bq_blz, bq_T, bq_F, if_true, if_false, Int.reduceEq, Int.reduceLT, Int.reduceLE, Int.reduceAdd, Int.reduceSub, Int.reduceMul, Int.add_sub_cancel, li_0, li_1, li_5, li_9, li_17, li_20, ll_0, ll_1, ll_5, ll_9, ll_17, ll_20, q5_0, w5_0, q5_2, w5_2, q5_3, w5_3, q5_4, w5_4, q5_5, w5_5, q5_6, w5_6, q5_7, w5_7, q5_8, w5_8, q5_9, w5_9, q1_4, w1_4, q1_5, w1_5, q1_6, w1_6, q1_7, w1_7, q1_8, w1_8, q1_9, w1_9, q1_10, w1_10, q1_11, w1_11, q1_12, w1_12, qa_2, wa_2, qa_3, wa_3, qa_4, wa_4, bU_same, bU_ne, s_in]
          exact e5
      · intro κ X tp tj ts tk g n d w hw hD
        have n0 := hw.2.2.2.2.1
        have n1 := hw.2.2.2.2.2
        have b1 := hw.1.2.2.2.1
        obtain ⟨ts1, f1, l1, e1⟩ := t_eats (κ := κ) (X := X) (tj := tj) (tk := tk) (n := n) (kk := 19) (D := d) hw.1 hw.2.1 hw.2.2.1 ok (by decide) (by decide) (by unfold eN at hD; omega)
        have e0 : takM b sz 19 σ = nextM b sz σ := by unfold takM; rw [if_pos q]
        rw [e0] at l1
        rw [bz_t q] at e1
        have p1 := tP_lx (s := 1) hw f1 l1 (by omega)
        obtain ⟨ts2, p2, e2⟩ := T2 κ X tp tj ts1 tk g n d (tW_p hw p1 (by decide)) (by unfold eN at hD ⊢; omega)
        have p12 := tP_tr n0 p1 p2 st2.2.2.1
        have m1 := p12.2.2.2.2.1
        have m2 := p12.2.2.2.2.2.1
        have l11 := p2.2.2.1.2.2.2.2.1
        have s24 := st2.1.2.2.2.2.2.2.2
        by_cases c4 : σ2 4 = 0
        · rw [c4] at l11
          have e3 := t_emit (κ := κ) (X := X) (tp := tp) (tj := tj) (ts := ts2) (tk := tk) (g := g) (n := n) (c := 3008) (D := d) hw.1.1 l11 (by omega) (by omega) (by unfold eN at hD; omega)
          have p3 := tP_code (c := 3008) n0 p12
          obtain ⟨ts5, p5, e5⟩ := T3 κ X tp tj _ tk g n d bk_u (tW_p hw p3 (by decide)) hD
          refine ⟨ts5, tP_tr n0 p3 p5 st3.2.2.1, ?_⟩
          unfold RTtruth at e5 ⊢
          rw [eX4_readTruth_5]
          simp (disch := first | assumption | omega) only [e1, e2, e3, bi_add, bi_sub, bi_mul, bi_neg, bi_div, bi_64, bl_add, bl_sub, bl_mul, bl_neg, bl_div, bl_32, bi_min, bi_max, bl_min, bl_max, bq_I, bq_J, bq_A, bq_Vi, bq_Vl, bq_Vr, bq_cV, bq_cI, bq_cJ, bq_cA, bq_le, bq_lt, bq_eq, bq_z, bq_o, bq_ref, bq_nz, bq_nzJ, bq_bl, bq_blz, bq_T, bq_F, if_true, if_false, Int.reduceEq, Int.reduceLT, Int.reduceLE, Int.reduceAdd, Int.reduceSub, Int.reduceMul, Int.add_sub_cancel, li_0, li_1, li_4, li_5, li_19, li_3008, li_4010, li_4023, li_4027, li_4028, ll_0, ll_1, ll_4, ll_5, ll_19, ga103, ga105, ga119, ga120, ga106, ga107, ga108, ga109, ga110, ga111, ga116, ga118, ga104, ga112, ga114, ga115, ga117, ga113, ga121, gf102_5, gf102_13, gf102_14, gf102_0, gf102_6, gf102_7, gf102_8, gf102_9, gf102_10, gf102_11, gf102_12, gf102_15, gf102_19, gf102_20, gr102_1, gr102_2, gr102_3, gr102_4, gr102_16, gr102_17, gr102_18, gr102_21, gr102_22, gr102_23, gr102_24, gr102_25, gr102_26, gr102_27, gr102_28, gr102_29, gr102_30, gr102_31, gr102_32, pa103, pa105, pa119, pa120, pa106, pa107, pa108, pa109, pa110, pa111, pa116, pa118, pa104, pa112, pa114, pa115, pa117, pa113, pa121, pf102_5, pf102_13, pf102_14, pf102_0, pf102_6, pf102_7, pf102_8, pf102_9, pf102_10, pf102_11, pf102_12, pf102_15, pf102_19, pf102_20, s_within, t_isLost, t_fallen, t_isHurt, t_between, t_isPassage, t_isRoom, t_standNow, t_standsAll, t_isIn, t_noComing, t_noStand, t_bitsOf, u_tens4109, t_draw]
          exact e5
        · have e3 := t_emitF (κ := κ) (X := X) (tp := tp) (tj := tj) (ts := ts2) (tk := tk) (g := g) (n := n) (c := 3008) (D := d) hw.1.1 l11 c4 s24.1 s24.2 (by unfold eN at hD; omega)
          obtain ⟨ts5, p5, e5⟩ := T3 κ X tp tj _ tk g n d bk_u (tW_p hw p12 (by decide)) hD
          refine ⟨ts5, tP_any (tP_le (tP_tr n0 p12 p5 st3.2.2.1) (by decide)) (fun z => c4 (st3.2.2.1 z)), ?_⟩
          unfold RTtruth at e5 ⊢
          rw [eX4_readTruth_5]
          simp (disch := first | assumption | omega) only [e1, e2, e3, bi_add, bi_sub, bi_mul, bi_neg, bi_div, bi_64, bl_add, bl_sub, bl_mul, bl_neg, bl_div, bl_32, bi_min, bi_max, bl_min, bl_max, bq_I, bq_J, bq_A, bq_Vi, bq_Vl, bq_Vr, bq_cV, bq_cI, bq_cJ, bq_cA, bq_le, bq_lt, bq_eq, bq_z, bq_o, bq_ref, bq_nz, bq_nzJ, bq_bl, bq_blz, bq_T, bq_F, if_true, if_false, Int.reduceEq, Int.reduceLT, Int.reduceLE, Int.reduceAdd, Int.reduceSub, Int.reduceMul, Int.add_sub_cancel, li_0, li_1, li_4, li_5, li_19, li_3008, li_4010, li_4023, li_4027, li_4028, ll_0, ll_1, ll_4, ll_5, ll_19, ga103, ga105, ga119, ga120, ga106, ga107, ga108, ga109, ga110, ga111, ga116, ga118, ga104, ga112, ga114, ga115, ga117, ga113, ga121, gf102_5, gf102_13, gf102_14, gf102_0, gf102_6, gf102_7, gf102_8, gf102_9, gf102_10, gf102_11, gf102_12, gf102_15, gf102_19, gf102_20, gr102_1, gr102_2, gr102_3, gr102_4, gr102_16, gr102_17, gr102_18, gr102_21, gr102_22, gr102_23, gr102_24, gr102_25, gr102_26, gr102_27, gr102_28, gr102_29, gr102_30, gr102_31, gr102_32, pa103, pa105, pa119, pa120, pa106, pa107, pa108, pa109, pa110, pa111, pa116, pa118, pa104, pa112, pa114, pa115, pa117, pa113, pa121, pf102_5, pf102_13, pf102_14, pf102_0, pf102_6, pf102_7, pf102_8, pf102_9, pf102_10, pf102_11, pf102_12, pf102_15, pf102_19, pf102_20, s_within, t_isLost, t_fallen, t_isHurt, t_between, t_isPassage, t_isRoom, t_standNow, t_standsAll, t_isIn, t_noComing, t_noStand, t_bitsOf, u_tens4109, t_draw]
          exact e5
    · refine ⟨σ, [], stepL_rf ok, fun z d1 c1 h => by rw [List.append_nil]; exact wfc_mono _ _ _ h _ (Nat.le_add_right _ _), ?_, ?_⟩
      · intro κ cp cs0 cj Y g n rd F d x0 w hw hD
        have e1 := q_takesN (κ := κ) (cs := cs0) (cj := cj) (Y := Y) (D := d) hw.1 hw.2.1 hw.2.2.1 ok kO18 (show 20 = 2 + 18 from rfl) q (by unfold eN at hD; omega)
        refine ⟨F, g, n, x0, cP_rf hw, fun z N0 d1 c1 _ h0 h => ⟨h0, by rw [List.append_nil]; exact bTr_le h (Nat.le_add_right _ _)⟩, ?_⟩
        unfold RCtruth
        rw [eX5_truth_5]
        simp (disch := first | assumption | omega) only [e1, bi_add, bi_sub, bi_mul, bi_neg, bi_div, bi_64, bl_add, bl_sub, bl_mul, bl_neg, bl_div, bl_32, bi_min, bi_max, bl_min, bl_max, bq_I, bq_J, bq_A, bq_Vi, bq_Vl, bq_Vr, bq_cV, bq_cI, bq_cJ, bq_cA, bq_le, bq_lt, bq_eq, bq_z, bq_o, bq_ref, bq_nz, bq_nzJ, bq_bl, bq_blz, bq_T, bq_F, if_true, if_false, Int.reduceEq, Int.reduceLT, Int.reduceLE, Int.reduceAdd, Int.reduceSub, Int.reduceMul, Int.add_sub_cancel, li_0, li_1, li_5, li_9, li_17, li_20, ll_0, ll_1, ll_5, ll_9, ll_17, ll_20, q5_0, w5_0, q5_2, w5_2, q5_3, w5_3, q5_4, w5_4, q5_5, w5_5, q5_6, w5_6, q5_7, w5_7, q5_8, w5_8, q5_9, w5_9, q1_4, w1_4, q1_5, w1_5, q1_6, w1_6, q1_7, w1_7, q1_8, w1_8, q1_9, w1_9, q1_10, w1_10, q1_11, w1_11, q1_12, w1_12, qa_2, wa_2, qa_3, wa_3, qa_4, wa_4, bU_same, bU_ne, s_in]
      · intro κ X tp tj ts tk g n d w hw hD
        obtain ⟨ts1, f1, l1, e1⟩ := t_eats (κ := κ) (X := X) (tj := tj) (tk := tk) (n := n) (kk := 19) (D := d) hw.1 hw.2.1 hw.2.2.1 ok (by decide) (by decide) (by unfold eN at hD; omega)
        have e0 : takM b sz 19 σ = σ := by unfold takM; rw [if_neg q]
        rw [e0] at l1
        rw [bz_f q] at e1
        refine ⟨ts1, tP_lx hw f1 l1 (by omega), ?_⟩
        unfold RTtruth
        rw [eX4_readTruth_5]
        simp (disch := first | assumption | omega) only [e1, bi_add, bi_sub, bi_mul, bi_neg, bi_div, bi_64, bl_add, bl_sub, bl_mul, bl_neg, bl_div, bl_32, bi_min, bi_max, bl_min, bl_max, bq_I, bq_J, bq_A, bq_Vi, bq_Vl, bq_Vr, bq_cV, bq_cI, bq_cJ, bq_cA, bq_le, bq_lt, bq_eq, bq_z, bq_o, bq_ref, bq_nz, bq_nzJ, bq_bl, bq_blz, bq_T, bq_F, if_true, if_false, Int.reduceEq, Int.reduceLT, Int.reduceLE, Int.reduceAdd, Int.reduceSub, Int.reduceMul, Int.add_sub_cancel, li_0, li_1, li_4, li_5, li_19, li_3008, li_4010, li_4023, li_4027, li_4028, ll_0, ll_1, ll_4, ll_5, ll_19, ga103, ga105, ga119, ga120, ga106, ga107, ga108, ga109, ga110, ga111, ga116, ga118, ga104, ga112, ga114, ga115, ga117, ga113, ga121, gf102_5, gf102_13, gf102_14, gf102_0, gf102_6, gf102_7, gf102_8, gf102_9, gf102_10, gf102_11, gf102_12, gf102_15, gf102_19, gf102_20, gr102_1, gr102_2, gr102_3, gr102_4, gr102_16, gr102_17, gr102_18, gr102_21, gr102_22, gr102_23, gr102_24, gr102_25, gr102_26, gr102_27, gr102_28, gr102_29, gr102_30, gr102_31, gr102_32, pa103, pa105, pa119, pa120, pa106, pa107, pa108, pa109, pa110, pa111, pa116, pa118, pa104, pa112, pa114, pa115, pa117, pa113, pa121, pf102_5, pf102_13, pf102_14, pf102_0, pf102_6, pf102_7, pf102_8, pf102_9, pf102_10, pf102_11, pf102_12, pf102_15, pf102_19, pf102_20, s_within, t_isLost, t_fallen, t_isHurt, t_between, t_isPassage, t_isRoom, t_standNow, t_standsAll, t_isIn, t_noComing, t_noStand, t_bitsOf, u_tens4109, t_draw]
theorem loop_sum (d0 : 0 ≤ dp) (d6 : dp ≤ 6) (hA : ∀ σ', okL b sz σ' → (sz - σ' 0).toNat < N → SIM b sz W dp 5020 4021 false 3 1 σ') : ∀ (m : Nat) (σ : Int → Int), okL b sz σ → (sz - σ 0).toNat < m → m ≤ N + 1 → LOOP b sz W dp RCsum RTsum false 4 σ := by
  intro m
  induction m with
  | zero => intro σ ok hm; omega
  | succ m ih =>
    intro σ ok hm hN
    by_cases q : σ 4 = 0 ∧ (σ 2 = 32 ∨ σ 2 = 33)
    · obtain ⟨st1, n4, s1⟩ := nextM_st ok q.1
      have lt1 : σ 0 < σ 1 := ok.2.2.2.2.1 (by omega)
      have zz := st1.1.2.1
      have zz2 := st1.1.2.2.1
      have zz3 := ok.1
      obtain ⟨σ2, cs2, st2, w2, C2, T2⟩ := hA (nextM b sz σ) st1.1 (by omega)
      have y2 := st2.2.1
      have y2' := st2.1.2.1
      have y2'' := st2.1.2.2.1
      obtain ⟨σ3, cs3, st3, w3, C3, T3⟩ := ih σ2 st2.1 (by omega) (by omega)
      have y3 := st3.2.1
      refine ⟨σ3, cs2 ++ [if σ 2 = 32 then 3000 else 3001] ++ cs3, stepL_tr (stepL_tr st1 st2) st3, fun z d1 c1 h => ?_, ?_, ?_⟩
      · have z2 := st3.2.2.1 z
        have := w3 z (d1 + (σ2 0 - nextM b sz σ 0).toNat + 1) (c1 ++ cs2 ++ [if σ 2 = 32 then 3000 else 3001]) (wfc_pair (wfc_mono _ _ _ h _ (Nat.le_add_right _ _)) (wfc_mono _ _ _ (w2 z2).2 _ (Nat.le_add_left _ _)) (by split <;> decide) (by split <;> decide))
        rw [app4]
        exact wfc_mono _ _ _ this _ (by omega)
      · intro κ cp cs0 cj Y g n rd F d x0 w hw hD
        have hr := hw.1.2.2.2.2.2.2.2.2.1
        have e1 := q_isSign (κ := κ) (cp := cp) (cs := cs0) (cj := cj) (Y := Y) (g := g) (n := n) (rd := rd) (F := F) (kk := 32) (c := 43) (D := d) hw.2.2.1 ok rfl (by decide) (by decide) (by decide) (by unfold eN at hD; omega)
        have e1' := q_isSign (κ := κ) (cp := cp) (cs := cs0) (cj := cj) (Y := Y) (g := g) (n := n) (rd := rd) (F := F) (kk := 33) (c := 45) (D := d) hw.2.2.1 ok rfl (by decide) (by decide) (by decide) (by unfold eN at hD; omega)
        obtain ⟨F1, f1, l1, e2⟩ := q_nextL (κ := κ) (cs := cs0) (cj := cj) (Y := Y) (D := d) hw.1 hw.2.1 hw.2.2.1 ok (by unfold eN at hD; omega)
        have l4 := hw.2.2.1.2.2.1
        have e23 : bk_den TX5_sum (bk_call d) 5 [.ref rd, .ref x0, w] [] (bk_Q rd F (bk_M κ (cp, cs0, cj) Y g n)) = bk_den TX5_sum (bk_call d) 23 [.ref rd, .ref x0, bk_u] [] (bk_Q rd F (bk_M κ (cp, cs0, cj) Y g n)) := by
          rw [eX5_sum_5]
          by_cases q2 : σ 2 = 32
          · rw [bz_t ⟨q.1, q2⟩] at e1
            simp (disch := first | assumption | omega) only [e1, bi_add, bi_sub, bi_mul, bi_neg, bi_div, bi_64, bl_add, bl_sub, bl_mul, bl_neg, bl_div, bl_32, bi_min, bi_max, bl_min, bl_max, bq_I, bq_J, bq_A, bq_Vi, bq_Vl, bq_Vr, bq_cV, bq_cI, bq_cJ, bq_cA, bq_le, bq_lt, bq_eq, bq_z, bq_o, bq_ref, bq_nz, bq_nzJ, bq_bl, bq_blz, bq_T, bq_F, if_true, if_false, Int.reduceEq, Int.reduceLT, Int.reduceLE, Int.reduceAdd, Int.reduceSub, Int.reduceMul, Int.add_sub_cancel, li_0, li_1, li_4, li_5, li_14, li_23, li_35, li_43, li_45, ll_0, ll_1, ll_4, ll_5, ll_14, ll_23, ll_35, ll_43, ll_45, q5_0, w5_0, q5_2, w5_2, q5_3, w5_3, q5_4, w5_4, q5_5, w5_5, q5_6, w5_6, q5_7, w5_7, q5_8, w5_8, q5_9, w5_9, q1_4, w1_4, q1_5, w1_5, q1_6, w1_6, q1_7, w1_7, q1_8, w1_8, q1_9, w1_9, q1_10, w1_10, q1_11, w1_11, q1_12, w1_12, qa_2, wa_2, qa_3, wa_3, qa_4, wa_4, bU_same, bU_ne, s_in]
          · rw [bz_f (fun z => q2 z.2)] at e1
            rw [bz_t ⟨q.1, q.2.resolve_left q2⟩] at e1'
            simp (disch := first | assumption | omega) only [e1, e1', bi_add, bi_sub, bi_mul, bi_neg, bi_div, bi_64, bl_add, bl_sub, bl_mul, bl_neg, bl_div, bl_32, bi_min, bi_max, bl_min, bl_max, bq_I, bq_J, bq_A, bq_Vi, bq_Vl, bq_Vr, bq_cV, bq_cI, bq_cJ, bq_cA, bq_le, bq_lt, bq_eq, bq_z, bq_o, bq_ref, bq_nz, bq_nzJ, bq_bl, bq_blz, bq_T, bq_F, if_true, if_false, Int.reduceEq, Int.reduceLT, Int.reduceLE, Int.reduceAdd, Int.reduceSub, Int.reduceMul, Int.add_sub_cancel, li_0, li_1, li_4, li_5, li_14, li_23, li_35, li_43, li_45, ll_0, ll_1, ll_4, ll_5, ll_14, ll_23, ll_35, ll_43, ll_45, q5_0, w5_0, q5_2, w5_2, q5_3, w5_3, q5_4, w5_4, q5_5, w5_5, q5_6, w5_6, q5_7, w5_7, q5_8, w5_8, q5_9, w5_9, q1_4, w1_4, q1_5, w1_5, q1_6, w1_6, q1_7, w1_7, q1_8, w1_8, q1_9, w1_9, q1_10, w1_10, q1_11, w1_11, q1_12, w1_12, qa_2, wa_2, qa_3, wa_3, qa_4, wa_4, bU_same, bU_ne, s_in]
        have p1 := cP_lx (c := -6) hw f1 l1 (by omega)
        have hw1 := cW_ex hw p1
        have p2 := cP_new (k := 14) (fs := bk_fields 14) hw1 (by decide)
        have nw := (bEx_new (k := 14) (fs := bk_fields 14) hw1.1).2
        have hw2 := cW_ex hw1 p2
        obtain ⟨F3, g3', n3, r, p3, t3, e3⟩ := C2 κ cp cs0 cj Y _ _ rd F1 d hw2 (by unfold eN at hD ⊢; omega)
        have nw3 := isN1_ex nw p3.2.2.1 (Nat.lt_succ_self _)
        have lt3 : n.1 + 1 ≤ n3.1 := p3.2.2.1.2.1
        have e4 := q_pair (κ := κ) (X := (cp, cs0, cj)) (Y := Y) (n := n3) (rd := rd) (F := F3) (y := x0) (u := r) (sg := tokC (σ 2)) (D := d) nw3 (by unfold eN at hD; omega)
        have p4 := cP_put (g'' := g3 g3' 14 n.1 (.ref x0) (.ref r) (.int (bk_i (tokC (σ 2))))) (cP_tr (cP_tr p1 p2) p3) (Nat.le_refl _) (by omega) (fun t a j ha => g3_ne ha)
        obtain ⟨F5, g5, n5, x, p5, t5, e5⟩ := C3 κ cp cs0 cj Y _ _ rd F3 d n.1 (.int (bk_i (tokC (σ 2)))) (cW_ex hw p4) hD
        refine ⟨F5, g5, n5, x, cP_le (cP_tr p4 p5) (by decide), fun z N0 d1 c1 hN0 h0 h => ?_, ?_⟩
        · have z2 := st3.2.2.1 z
          obtain ⟨u1, u2⟩ := t3 z2
          have tt := two_trees (n1 := n.1) (g3' := g3 g3' 14 n.1 (.ref x0) (.ref r) (.int (bk_i (tokC (σ 2))))) hN0 hw.1.2.2.2.2.2.2.2.2.2.1 p4.2.2.1.1 (fun t a k ha => g3_ne (by omega)) h u2
          have tn := bTr_pair (c := if σ 2 = 32 then 3000 else 3001) (sg := tokC (σ 2)) (x := n.1) tt.1 tt.2 (by rcases q.2 with e | e <;> rw [e] <;> first | exact Or.inl ⟨rfl, rfl⟩ | exact Or.inr (Or.inl ⟨rfl, rfl⟩)) ((gHi_on hN0).trans g3_0) ((gHi_on hN0).trans g3_1) ((gHi_on hN0).trans g3_2)
          have := t5 z N0 _ _ (by omega) (by omega) tn
          rw [app4]
          exact ⟨this.1, bTr_le this.2 (by omega)⟩
        · have hnew : bk_new (bk_Q rd F1 (bk_M κ (cp, cs0, cj) Y g n)) 14 (bk_fields 14) = bk_Q rd F1 (bk_M κ (cp, cs0, cj) Y (gN g 14 n.1 (bk_fields 14)) (n.1 + 1, n.2 + (bk_fields 14).length)) := nQ (by decide) hr _
          have hn1 : (bk_Q rd F1 (bk_M κ (cp, cs0, cj) Y g n)).2.1 = n.1 := rfl
          have v14 : (bk_Q rd F3 (bk_M κ (cp, cs0, cj) Y g3' n3)).1 14 n.1 0 = .ref 0 := (gQ (by decide)).trans (nw3.2 0 (by decide))
          unfold RCsum at e5 ⊢
          rw [e23, eX5_sum_23]
          simp (disch := first | assumption | omega) only [l4, e2, hnew, hn1, eX5_sum_35, e3, v14, e4, bi_add, bi_sub, bi_mul, bi_neg, bi_div, bi_64, bl_add, bl_sub, bl_mul, bl_neg, bl_div, bl_32, bi_min, bi_max, bl_min, bl_max, bq_I, bq_J, bq_A, bq_Vi, bq_Vl, bq_Vr, bq_cV, bq_cI, bq_cJ, bq_cA, bq_le, bq_lt, bq_eq, bq_z, bq_o, bq_ref, bq_nz, bq_nzJ, bq_bl, bq_blz, bq_T, bq_F, if_true, if_false, Int.reduceEq, Int.reduceLT, Int.reduceLE, Int.reduceAdd, Int.reduceSub, Int.reduceMul, Int.add_sub_cancel, li_0, li_1, li_4, li_5, li_14, li_23, li_35, li_43, li_45, ll_0, ll_1, ll_4, ll_5, ll_14, ll_23, ll_35, ll_43, ll_45, q5_0, w5_0, q5_2, w5_2, q5_3, w5_3, q5_4, w5_4, q5_5, w5_5, q5_6, w5_6, q5_7, w5_7, q5_8, w5_8, q5_9, w5_9, q1_4, w1_4, q1_5, w1_5, q1_6, w1_6, q1_7, w1_7, q1_8, w1_8, q1_9, w1_9, q1_10, w1_10, q1_11, w1_11, q1_12, w1_12, qa_2, wa_2, qa_3, wa_3, qa_4, wa_4, bU_same, bU_ne, s_in]
          exact e5
      · intro κ X tp tj ts tk g n d w hw hD
        have n0 := hw.2.2.2.2.1
        have n1 := hw.2.2.2.2.2
        have b1 := hw.1.2.2.2.1
        have i1 := t_is (κ := κ) (X := X) (tp := tp) (tj := tj) (ts := ts) (tk := tk) (g := g) (n := n) (kk := 32) (D := d) hw.2.2.1 ok (by decide) (by decide) (by unfold eN at hD; omega)
        have i2 := t_is (κ := κ) (X := X) (tp := tp) (tj := tj) (ts := ts) (tk := tk) (g := g) (n := n) (kk := 33) (D := d) hw.2.2.1 ok (by decide) (by decide) (by unfold eN at hD; omega)
        obtain ⟨ts1, f1, l1, e1⟩ := t_nextL (κ := κ) (X := X) (tj := tj) (tk := tk) (n := n) (D := d) hw.1 hw.2.1 hw.2.2.1 ok (by unfold eN at hD; omega)
        have l9 := hw.2.2.1.2.2.1
        have e41 : bk_den TX4_readSum (bk_call d) 5 [.ref 102, .int (bk_i dp), w] [] (bk_M κ X (tp, tj, ts, tk) g n) = bk_den TX4_readSum (bk_call d) 41 [.ref 102, .int (bk_i dp), bk_u] [.int (bk_i (if σ 2 = 32 then 3000 else 3001))] (bk_M κ X (tp, tj, ts, tk) g n) := by
          rw [eX4_readSum_5]
          by_cases q2 : σ 2 = 32
          · rw [bz_t ⟨q.1, q2⟩] at i1
            simp (disch := first | assumption | omega) only [i1, eX4_readSum_23, l9, if_pos q2, bi_add, bi_sub, bi_mul, bi_neg, bi_div, bi_64, bl_add, bl_sub, bl_mul, bl_neg, bl_div, bl_32, bi_min, bi_max, bl_min, bl_max, bq_I, bq_J, bq_A, bq_Vi, bq_Vl, bq_Vr, bq_cV, bq_cI, bq_cJ, bq_cA, bq_le, bq_lt, bq_eq, bq_z, bq_o, bq_ref, bq_nz, bq_nzJ, bq_bl, bq_blz, bq_T, bq_F, if_true, if_false, Int.reduceEq, Int.reduceLT, Int.reduceLE, Int.reduceAdd, Int.reduceSub, Int.reduceMul, Int.add_sub_cancel, li_0, li_1, li_4, li_5, li_9, li_23, li_32, li_33, li_41, li_3000, li_3001, li_4005, li_4011, li_4020, li_4021, li_4023, ll_0, ll_1, ll_4, ll_5, ll_9, ll_23, ll_32, ll_33, ll_41, ga103, ga105, ga119, ga120, ga106, ga107, ga108, ga109, ga110, ga111, ga116, ga118, ga104, ga112, ga114, ga115, ga117, ga113, ga121, gf102_5, gf102_13, gf102_14, gf102_0, gf102_6, gf102_7, gf102_8, gf102_9, gf102_10, gf102_11, gf102_12, gf102_15, gf102_19, gf102_20, gr102_1, gr102_2, gr102_3, gr102_4, gr102_16, gr102_17, gr102_18, gr102_21, gr102_22, gr102_23, gr102_24, gr102_25, gr102_26, gr102_27, gr102_28, gr102_29, gr102_30, gr102_31, gr102_32, pa103, pa105, pa119, pa120, pa106, pa107, pa108, pa109, pa110, pa111, pa116, pa118, pa104, pa112, pa114, pa115, pa117, pa113, pa121, pf102_5, pf102_13, pf102_14, pf102_0, pf102_6, pf102_7, pf102_8, pf102_9, pf102_10, pf102_11, pf102_12, pf102_15, pf102_19, pf102_20, s_within, t_isLost, t_fallen, t_isHurt, t_between, t_isPassage, t_isRoom, t_standNow, t_standsAll, t_isIn, t_noComing, t_noStand, t_bitsOf, u_tens4109, t_draw]
          · have q3 := q.2.resolve_left q2
            rw [bz_f (fun z => q2 z.2)] at i1
            rw [bz_t ⟨q.1, q3⟩] at i2
            simp (disch := first | assumption | omega) only [i1, i2, eX4_readSum_23, l9, if_neg q2, q3, bi_add, bi_sub, bi_mul, bi_neg, bi_div, bi_64, bl_add, bl_sub, bl_mul, bl_neg, bl_div, bl_32, bi_min, bi_max, bl_min, bl_max, bq_I, bq_J, bq_A, bq_Vi, bq_Vl, bq_Vr, bq_cV, bq_cI, bq_cJ, bq_cA, bq_le, bq_lt, bq_eq, bq_z, bq_o, bq_ref, bq_nz, bq_nzJ, bq_bl, bq_blz, bq_T, bq_F, if_true, if_false, Int.reduceEq, Int.reduceLT, Int.reduceLE, Int.reduceAdd, Int.reduceSub, Int.reduceMul, Int.add_sub_cancel, li_0, li_1, li_4, li_5, li_9, li_23, li_32, li_33, li_41, li_3000, li_3001, li_4005, li_4011, li_4020, li_4021, li_4023, ll_0, ll_1, ll_4, ll_5, ll_9, ll_23, ll_32, ll_33, ll_41, ga103, ga105, ga119, ga120, ga106, ga107, ga108, ga109, ga110, ga111, ga116, ga118, ga104, ga112, ga114, ga115, ga117, ga113, ga121, gf102_5, gf102_13, gf102_14, gf102_0, gf102_6, gf102_7, gf102_8, gf102_9, gf102_10, gf102_11, gf102_12, gf102_15, gf102_19, gf102_20, gr102_1, gr102_2, gr102_3, gr102_4, gr102_16, gr102_17, gr102_18, gr102_21, gr102_22, gr102_23, gr102_24, gr102_25, gr102_26, gr102_27, gr102_28, gr102_29, gr102_30, gr102_31, gr102_32, pa103, pa105, pa119, pa120, pa106, pa107, pa108, pa109, pa110, pa111, pa116, pa118, pa104, pa112, pa114, pa115, pa117, pa113, pa121, pf102_5, pf102_13, pf102_14, pf102_0, pf102_6, pf102_7, pf102_8, pf102_9, pf102_10, pf102_11, pf102_12, pf102_15, pf102_19, pf102_20, s_within, t_isLost, t_fallen, t_isHurt, t_between, t_isPassage, t_isRoom, t_standNow, t_standsAll, t_isIn, t_noComing, t_noStand, t_bitsOf, u_tens4109, t_draw]
        have p1 := tP_lx (s := 1) hw f1 l1 (by omega)
        obtain ⟨ts2, p2, e2⟩ := T2 κ X tp tj ts1 tk g n d (tW_p hw p1 (by decide)) (by unfold eN at hD ⊢; omega)
        have p12 := tP_tr n0 p1 p2 st2.2.2.1
        have m1 := p12.2.2.2.2.1
        have m2 := p12.2.2.2.2.2.1
        have l11 := p2.2.2.1.2.2.2.2.1
        have s24 := st2.1.2.2.2.2.2.2.2
        by_cases c4 : σ2 4 = 0
        · rw [c4] at l11
          have e3 := t_emit (κ := κ) (X := X) (tp := tp) (tj := tj) (ts := ts2) (tk := tk) (g := g) (n := n) (c := if σ 2 = 32 then 3000 else 3001) (D := d) hw.1.1 l11 (by omega) (by omega) (by unfold eN at hD; omega)
          have p3 := tP_code (c := if σ 2 = 32 then 3000 else 3001) n0 p12
          obtain ⟨ts5, p5, e5⟩ := T3 κ X tp tj _ tk g n d (.int (bk_i (if σ 2 = 32 then 3000 else 3001))) (tW_p hw p3 (by decide)) hD
          refine ⟨ts5, tP_tr n0 p3 p5 st3.2.2.1, ?_⟩
          unfold RTsum at e5 ⊢
          rw [e41, eX4_readSum_41]
          simp (disch := first | assumption | omega) only [e1, e2, e3, bi_add, bi_sub, bi_mul, bi_neg, bi_div, bi_64, bl_add, bl_sub, bl_mul, bl_neg, bl_div, bl_32, bi_min, bi_max, bl_min, bl_max, bq_I, bq_J, bq_A, bq_Vi, bq_Vl, bq_Vr, bq_cV, bq_cI, bq_cJ, bq_cA, bq_le, bq_lt, bq_eq, bq_z, bq_o, bq_ref, bq_nz, bq_nzJ, bq_bl, bq_blz, bq_T, bq_F, if_true, if_false, Int.reduceEq, Int.reduceLT, Int.reduceLE, Int.reduceAdd, Int.reduceSub, Int.reduceMul, Int.add_sub_cancel, li_0, li_1, li_4, li_5, li_9, li_23, li_32, li_33, li_41, li_3000, li_3001, li_4005, li_4011, li_4020, li_4021, li_4023, ll_0, ll_1, ll_4, ll_5, ll_9, ll_23, ll_32, ll_33, ll_41, ga103, ga105, ga119, ga120, ga106, ga107, ga108, ga109, ga110, ga111, ga116, ga118, ga104, ga112, ga114, ga115, ga117, ga113, ga121, gf102_5, gf102_13, gf102_14, gf102_0, gf102_6, gf102_7, gf102_8, gf102_9, gf102_10, gf102_11, gf102_12, gf102_15, gf102_19, gf102_20, gr102_1, gr102_2, gr102_3, gr102_4, gr102_16, gr102_17, gr102_18, gr102_21, gr102_22, gr102_23, gr102_24, gr102_25, gr102_26, gr102_27, gr102_28, gr102_29, gr102_30, gr102_31, gr102_32, pa103, pa105, pa119, pa120, pa106, pa107, pa108, pa109, pa110, pa111, pa116, pa118, pa104, pa112, pa114, pa115, pa117, pa113, pa121, pf102_5, pf102_13, pf102_14, pf102_0, pf102_6, pf102_7, pf102_8, pf102_9, pf102_10, pf102_11, pf102_12, pf102_15, pf102_19, pf102_20, s_within, t_isLost, t_fallen, t_isHurt, t_between, t_isPassage, t_isRoom, t_standNow, t_standsAll, t_isIn, t_noComing, t_noStand, t_bitsOf, u_tens4109, t_draw]
          exact e5
        · have e3 := t_emitF (κ := κ) (X := X) (tp := tp) (tj := tj) (ts := ts2) (tk := tk) (g := g) (n := n) (c := if σ 2 = 32 then 3000 else 3001) (D := d) hw.1.1 l11 c4 s24.1 s24.2 (by unfold eN at hD; omega)
          obtain ⟨ts5, p5, e5⟩ := T3 κ X tp tj _ tk g n d (.int (bk_i (if σ 2 = 32 then 3000 else 3001))) (tW_p hw p12 (by decide)) hD
          refine ⟨ts5, tP_any (tP_le (tP_tr n0 p12 p5 st3.2.2.1) (by decide)) (fun z => c4 (st3.2.2.1 z)), ?_⟩
          unfold RTsum at e5 ⊢
          rw [e41, eX4_readSum_41]
          simp (disch := first | assumption | omega) only [e1, e2, e3, bi_add, bi_sub, bi_mul, bi_neg, bi_div, bi_64, bl_add, bl_sub, bl_mul, bl_neg, bl_div, bl_32, bi_min, bi_max, bl_min, bl_max, bq_I, bq_J, bq_A, bq_Vi, bq_Vl, bq_Vr, bq_cV, bq_cI, bq_cJ, bq_cA, bq_le, bq_lt, bq_eq, bq_z, bq_o, bq_ref, bq_nz, bq_nzJ, bq_bl, bq_blz, bq_T, bq_F, if_true, if_false, Int.reduceEq, Int.reduceLT, Int.reduceLE, Int.reduceAdd, Int.reduceSub, Int.reduceMul, Int.add_sub_cancel, li_0, li_1, li_4, li_5, li_9, li_23, li_32, li_33, li_41, li_3000, li_3001, li_4005, li_4011, li_4020, li_4021, li_4023, ll_0, ll_1, ll_4, ll_5, ll_9, ll_23, ll_32, ll_33, ll_41, ga103, ga105, ga119, ga120, ga106, ga107, ga108, ga109, ga110, ga111, ga116, ga118, ga104, ga112, ga114, ga115, ga117, ga113, ga121, gf102_5, gf102_13, gf102_14, gf102_0, gf102_6, gf102_7, gf102_8, gf102_9, gf102_10, gf102_11, gf102_12, gf102_15, gf102_19, gf102_20, gr102_1, gr102_2, gr102_3, gr102_4, gr102_16, gr102_17, gr102_18, gr102_21, gr102_22, gr102_23, gr102_24, gr102_25, gr102_26, gr102_27, gr102_28, gr102_29, gr102_30, gr102_31, gr102_32, pa103, pa105, pa119, pa120, pa106, pa107, pa108, pa109, pa110, pa111, pa116, pa118, pa104, pa112, pa114, pa115, pa117, pa113, pa121, pf102_5, pf102_13, pf102_14, pf102_0, pf102_6, pf102_7, pf102_8, pf102_9, pf102_10, pf102_11, pf102_12, pf102_15, pf102_19, pf102_20, s_within, t_isLost, t_fallen, t_isHurt, t_between, t_isPassage, t_isRoom, t_standNow, t_standsAll, t_isIn, t_noComing, t_noStand, t_bitsOf, u_tens4109, t_draw]
          exact e5
    · refine ⟨σ, [], stepL_rf ok, fun z d1 c1 h => by rw [List.append_nil]; exact wfc_mono _ _ _ h _ (Nat.le_add_right _ _), ?_, ?_⟩
      · intro κ cp cs0 cj Y g n rd F d x0 w hw hD
        have e1 := q_isSign (κ := κ) (cp := cp) (cs := cs0) (cj := cj) (Y := Y) (g := g) (n := n) (rd := rd) (F := F) (kk := 32) (c := 43) (D := d) hw.2.2.1 ok rfl (by decide) (by decide) (by decide) (by unfold eN at hD; omega)
        have e1' := q_isSign (κ := κ) (cp := cp) (cs := cs0) (cj := cj) (Y := Y) (g := g) (n := n) (rd := rd) (F := F) (kk := 33) (c := 45) (D := d) hw.2.2.1 ok rfl (by decide) (by decide) (by decide) (by unfold eN at hD; omega)
        rw [bz_f (fun z => q ⟨z.1, Or.inl z.2⟩)] at e1
        rw [bz_f (fun z => q ⟨z.1, Or.inr z.2⟩)] at e1'
        refine ⟨F, g, n, x0, cP_rf hw, fun z N0 d1 c1 _ h0 h => ⟨h0, by rw [List.append_nil]; exact bTr_le h (Nat.le_add_right _ _)⟩, ?_⟩
        unfold RCsum
        rw [eX5_sum_5]
        simp (disch := first | assumption | omega) only [e1, e1', bi_add, bi_sub, bi_mul, bi_neg, bi_div, bi_64, bl_add, bl_sub, bl_mul, bl_neg, bl_div, bl_32, bi_min, bi_max, bl_min, bl_max, bq_I, bq_J, bq_A, bq_Vi, bq_Vl, bq_Vr, bq_cV, bq_cI, bq_cJ, bq_cA, bq_le, bq_lt, bq_eq, bq_z, bq_o, bq_ref, bq_nz, bq_nzJ, bq_bl, bq_blz, bq_T, bq_F, if_true, if_false, Int.reduceEq, Int.reduceLT, Int.reduceLE, Int.reduceAdd, Int.reduceSub, Int.reduceMul, Int.add_sub_cancel, li_0, li_1, li_4, li_5, li_14, li_23, li_35, li_43, li_45, ll_0, ll_1, ll_4, ll_5, ll_14, ll_23, ll_35, ll_43, ll_45, q5_0, w5_0, q5_2, w5_2, q5_3, w5_3, q5_4, w5_4, q5_5, w5_5, q5_6, w5_6, q5_7, w5_7, q5_8, w5_8, q5_9, w5_9, q1_4, w1_4, q1_5, w1_5, q1_6, w1_6, q1_7, w1_7, q1_8, w1_8, q1_9, w1_9, q1_10, w1_10, q1_11, w1_11, q1_12, w1_12, qa_2, wa_2, qa_3, wa_3, qa_4, wa_4, bU_same, bU_ne, s_in]
      · intro κ X tp tj ts tk g n d w hw hD
        have i1 := t_is (κ := κ) (X := X) (tp := tp) (tj := tj) (ts := ts) (tk := tk) (g := g) (n := n) (kk := 32) (D := d) hw.2.2.1 ok (by decide) (by decide) (by unfold eN at hD; omega)
        have i2 := t_is (κ := κ) (X := X) (tp := tp) (tj := tj) (ts := ts) (tk := tk) (g := g) (n := n) (kk := 33) (D := d) hw.2.2.1 ok (by decide) (by decide) (by unfold eN at hD; omega)
        rw [bz_f (fun z => q ⟨z.1, Or.inl z.2⟩)] at i1
        rw [bz_f (fun z => q ⟨z.1, Or.inr z.2⟩)] at i2
        refine ⟨ts, tP_lx hw (frT_rf ts) hw.2.2.1 (by omega), ?_⟩
        unfold RTsum
        rw [eX4_readSum_5]
        simp (disch := first | assumption | omega) only [i1, i2, bi_add, bi_sub, bi_mul, bi_neg, bi_div, bi_64, bl_add, bl_sub, bl_mul, bl_neg, bl_div, bl_32, bi_min, bi_max, bl_min, bl_max, bq_I, bq_J, bq_A, bq_Vi, bq_Vl, bq_Vr, bq_cV, bq_cI, bq_cJ, bq_cA, bq_le, bq_lt, bq_eq, bq_z, bq_o, bq_ref, bq_nz, bq_nzJ, bq_bl, bq_blz, bq_T, bq_F, if_true, if_false, Int.reduceEq, Int.reduceLT, Int.reduceLE, Int.reduceAdd, Int.reduceSub, Int.reduceMul, Int.add_sub_cancel, li_0, li_1, li_4, li_5, li_9, li_23, li_32, li_33, li_41, li_3000, li_3001, li_4005, li_4011, li_4020, li_4021, li_4023, ll_0, ll_1, ll_4, ll_5, ll_9, ll_23, ll_32, ll_33, ll_41, ga103, ga105, ga119, ga120, ga106, ga107, ga108, ga109, ga110, ga111, ga116, ga118, ga104, ga112, ga114, ga115, ga117, ga113, ga121, gf102_5, gf102_13, gf102_14, gf102_0, gf102_6, gf102_7, gf102_8, gf102_9, gf102_10, gf102_11, gf102_12, gf102_15, gf102_19, gf102_20, gr102_1, gr102_2, gr102_3, gr102_4, gr102_16, gr102_17, gr102_18, gr102_21, gr102_22, gr102_23, gr102_24, gr102_25, gr102_26, gr102_27, gr102_28, gr102_29, gr102_30, gr102_31, gr102_32, pa103, pa105, pa119, pa120, pa106, pa107, pa108, pa109, pa110, pa111, pa116, pa118, pa104, pa112, pa114, pa115, pa117, pa113, pa121, pf102_5, pf102_13, pf102_14, pf102_0, pf102_6, pf102_7, pf102_8, pf102_9, pf102_10, pf102_11, pf102_12, pf102_15, pf102_19, pf102_20, s_within, t_isLost, t_fallen, t_isHurt, t_between, t_isPassage, t_isRoom, t_standNow, t_standsAll, t_isIn, t_noComing, t_noStand, t_bitsOf, u_tens4109, t_draw]
end LP
