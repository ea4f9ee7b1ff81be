/-! SPECS: the two parsers side by side: a cave's lines -/
set_option maxRecDepth 100000
/-- a law told, in the component's cave and in the twin's row -/
def lawR (g : bG) (rd : Nat) (A : Int → Int) (l : Int) (k : Nat) (tr : Bool) (W : Int) : Prop := (A (4 + l) = 0 ∧ g 1 (rd + 1) k = .ref 0)
  ∨ (A (4 + l) = 1 ∧ 0 ≤ A (6 + l) ∧ 0 ≤ A (8 + l) ∧ A (6 + l) + A (8 + l) ≤ A 98 ∧ ∃ x d, x ≠ 0 ∧ d ≤ 900 ∧ g 1 (rd + 1) k = .ref x ∧ bTr g d tr W x (mL A 0 l) ∧ wfc d tr W (mL A 0 l))
/-- what has been told of a cave: the component's, the twin's -/
def cvR (g : bG) (rd : Nat) (F : bF) (A : Int → Int) : Prop :=
  (F (rd + 1) 4 = A 1 ∧ F (rd + 1) 5 = A 2 ∧ F (rd + 1) 7 = A 44 ∧ F (rd + 1) 8 = A 42 ∧ F (rd + 1) 9 = A 43 ∧ F (rd + 1) 10 = A 45 ∧ F (rd + 1) 11 = A 3 ∧ F (rd + 1) 12 = A 0)
  ∧ (∀ p, 0 ≤ p → p < A 2 → F (rd + 2) p = A (10 + p) ∧ F (rd + 3) p = A (18 + p) ∧ 0 ≤ A (10 + p) ∧ A (10 + p) < A 1 ∧ 0 ≤ A (18 + p) ∧ A (18 + p) < A 1 ∧ A (10 + p) ≠ A (18 + p))
  ∧ (∀ p, 0 ≤ p → p < 8 → F (rd + 4) p = A (26 + p) ∧ bt (F (rd + 1) 6) p = A (34 + p) ∧ 0 ≤ A (26 + p) ∧ A (26 + p) ≤ 9)
  ∧ (0 ≤ F (rd + 1) 6 ∧ F (rd + 1) 6 < 256 ∧ 1 ≤ A 1 ∧ A 1 ≤ 6 ∧ 0 ≤ A 2 ∧ A 2 ≤ 8 ∧ 0 ≤ A 3 ∧ A 3 ≤ 10 ∧ 0 ≤ A 42 ∧ A 42 < A 1 ∧ 0 ≤ A 43 ∧ A 43 ≤ 4 ∧ 0 ≤ A 44 ∧ A 44 < 256 ∧ 0 ≤ A 45 ∧ A 45 ≤ 9 ∧ A 46 = 0 ∧ A 47 = 0)
  ∧ lawR g rd A 0 13 false 6 ∧ lawR g rd A 1 14 true 7
theorem mL_ext {A A' : Int → Int} {l : Int} (e6 : A' (6 + l) = A (6 + l)) (e8 : A' (8 + l) = A (8 + l)) (h : ∀ k, 99 + A (6 + l) ≤ k → k < 99 + A (6 + l) + A (8 + l) → A' k = A k) : mL A' 0 l = mL A 0 l := by
  unfold mL
  have z8 : (0 : Int) + 8 + l = 8 + l := by omega
  have z6 : (0 : Int) + 6 + l = 6 + l := by omega
  have z99 : (0 : Int) + 99 + A (0 + 6 + l) = 99 + A (6 + l) := by rw [z6]; omega
  have z99' : (0 : Int) + 99 + A' (0 + 6 + l) = 99 + A (6 + l) := by rw [z6, e6]; omega
  rw [z99, z99', z8, e8]
  apply List.map_congr_left
  intro i hi
  have : i < (A (8 + l)).toNat := List.mem_range.mp hi
  exact h _ (by omega) (by omega)
theorem lawR_ext {g g' : bG} {rd N : Nat} {A A' : Int → Int} {l : Int} {k : Nat} {tr : Bool} {W : Int} (h : lawR g rd A l k tr W) (l0 : l = 0 ∨ l = 1) (hA : ∀ k, k < 48 ∨ 99 ≤ k → k ≠ 98 → k < 99 + A 98 → k ≠ 44 → k < 10 ∨ 42 < k → A' k = A k) (h98 : A 98 ≤ A' 98) (h0 : 0 ≤ A 98) (hg : ∀ t a k, a < N → g' t a k = g t a k) (hfr : ∀ t a k, N ≤ a → g t a k = bk_u) (hrd : rd + 6 ≤ N) : lawR g' rd A' l k tr W := by
  have e4 : A' (4 + l) = A (4 + l) := hA _ (by omega) (by omega) (by omega) (by omega) (by omega)
  have e6 : A' (6 + l) = A (6 + l) := hA _ (by omega) (by omega) (by omega) (by omega) (by omega)
  have e8 : A' (8 + l) = A (8 + l) := hA _ (by omega) (by omega) (by omega) (by omega) (by omega)
  unfold lawR
  rw [e4, e6, e8, hg _ _ _ (by omega)]
  rcases h with h | ⟨a1, a2, a3, a4, x, d, x0, d9, gx, t, wf⟩
  · exact Or.inl h
  · have em := mL_ext (A := A) (A' := A') (l := l) e6 e8 (fun k k0 k1 => hA k (by omega) (by omega) (by omega) (by omega) (by omega))
    refine Or.inr ⟨a1, a2, a3, by omega, x, d, x0, d9, gx, ?_, by rw [em]; exact wf⟩
    rw [em]
    exact bTr_on (fun a => a < N) (fun t a k q => hfr t a k (by omega)) (fun t a k q => hg t a k q) _ _ _ _ t _ (Nat.le_refl _)
/-- where the two parsers stand, between words -/
def cV (cp : bF) (g : bG) (n : Nat × Nat) (rd : Nat) (F : bF) (b : Int → Int) (sz : Int) (σ : Int → Int) : Prop := bPw cp g n rd b sz ∧ F rd 0 = sz ∧ cLx F rd σ ∧ F rd 7 = 0
def tV (tp ts : bF) (g : bG) (b : Int → Int) (sz : Int) (σ : Int → Int) : Prop := bTw tp g b sz ∧ ts 102 8 = sz ∧ tLx ts σ ∧ 0 ≤ ts 106 98 ∧ ts 106 98 ≤ σ 0
/-- what a line may change -/
def cFr (rd : Nat) (F F' : bF) : Prop := (∀ a, a < rd ∨ rd + 5 ≤ a → F' a = F a) ∧ F' rd 0 = F rd 0 ∧ F' rd 7 = F rd 7
def tFr (ts ts' : bF) : Prop := (∀ a, a ≠ 102 → a ≠ 106 → ts' a = ts a) ∧ ts' 102 8 = ts 102 8
theorem cFr_rf (rd : Nat) (F : bF) : cFr rd F F := ⟨fun _ _ => rfl, rfl, rfl⟩
theorem tFr_rf (ts : bF) : tFr ts ts := ⟨fun _ _ _ => rfl, rfl⟩
theorem cFr_tr {rd : Nat} {F F' F'' : bF} (h : cFr rd F F') (h' : cFr rd F' F'') : cFr rd F F'' := ⟨fun a q => (h'.1 a q).trans (h.1 a q), h'.2.1.trans h.2.1, h'.2.2.trans h.2.2⟩
theorem tFr_tr {F F' F'' : bF} (h : tFr F F') (h' : tFr F' F'') : tFr F F'' := ⟨fun a q q' => (h'.1 a q q').trans (h.1 a q q'), h'.2.trans h.2⟩
theorem cFr_of {rd : Nat} {F F' : bF} (h : frF rd F F') : cFr rd F F' := ⟨fun a q => h.1 a (by omega), h.2 0 (by omega), h.2 7 (by omega)⟩
theorem tFr_of {ts ts' : bF} (h : frT ts ts') : tFr ts ts' := ⟨fun a q _ => h.1 a q, h.2 8 (by omega)⟩
theorem cFr_U {rd a : Nat} {F : bF} {k v : Int} (h : rd < a ∧ a < rd + 5) : cFr rd F (bU F a k v) := ⟨fun x q => by funext j; rw [bU_ne _ _ _ _ _ _ (by omega)], by rw [bU_ne _ _ _ _ _ _ (by omega)], by rw [bU_ne _ _ _ _ _ _ (by omega)]⟩
theorem tFr_U {ts : bF} {k v : Int} : tFr ts (bU ts 106 k v) := ⟨fun x q q' => by funext j; rw [bU_ne _ _ _ _ _ _ q'], by rw [bU_ne _ _ _ _ _ _ (by decide)]⟩
theorem cLx_U {F : bF} {rd a : Nat} {σ : Int → Int} {k v : Int} (c : cLx F rd σ) (h : a ≠ rd) : cLx (bU F a k v) rd σ := by
  have e : bU F a k v rd = F rd := by funext j; rw [bU_ne _ _ _ _ _ _ (fun w => h w.symm)]
  unfold cLx
  rw [e]
  exact c
theorem tLx_U {ts : bF} {σ : Int → Int} {k v : Int} (l : tLx ts σ) : tLx (bU ts 106 k v) σ := by
  have e : bU ts 106 k v 102 = ts 102 := by funext j; rw [bU_ne _ _ _ _ _ _ (by decide)]
  unfold tLx
  rw [e]
  exact l
theorem bU_106 (ts : bF) (k v : Int) : bU ts 106 k v 106 = fU (ts 106) k v := by
  funext j; rw [bU_same]; rfl
theorem bt_io {x p q : Int} (x0 : 0 ≤ x) (x1 : x < 256) (p0 : 0 ≤ p) (p1 : p < 8) (q0 : 0 ≤ q) (q1 : q < 8) : bt (io x (sh p)) q = (if q = p then 1 else bt x q) ∧ 0 ≤ io x (sh p) ∧ io x (sh p) < 256 := by
  have h : ∀ x : Fin 256, ∀ p : Fin 8, ∀ q : Fin 8, bt (io x.val (sh p.val)) q.val = (if (q.val : Int) = p.val then 1 else bt x.val q.val) ∧ 0 ≤ io x.val (sh p.val) ∧ io x.val (sh p.val) < 256 := by decide +kernel
  have := h ⟨x.toNat, by omega⟩ ⟨p.toNat, by omega⟩ ⟨q.toNat, by omega⟩
  simp only [Int.toNat_of_nonneg x0, Int.toNat_of_nonneg p0, Int.toNat_of_nonneg q0] at this
  exact this
section LN
variable {κ : Nat → Nat} {cp cs0 : bF} {cj : bFJ} {Y : bY} {g : bG} {n : Nat × Nat} {rd : Nat} {F F' : bF} {κ2 : Nat → Nat} {X2 : bX} {tp ts ts' : bF} {tj tk : bFJ} {g2 : bG} {n2 : Nat × Nat} {b σ σ' : Int → Int} {sz p : Int} {d d2 : Nat}
theorem cV_lx (h : cV cp g n rd F b sz σ) (f : cFr rd F F') (l : cLx F' rd σ') : cV cp g n rd F' b sz σ' := ⟨h.1, f.2.1.trans h.2.1, l, f.2.2.trans h.2.2.2⟩
theorem tV_lx (h : tV tp ts g b sz σ) (f : tFr ts ts') (l : tLx ts' σ') (e : ts' 106 98 = ts 106 98) (s : σ 0 ≤ σ' 0) : tV tp ts' g b sz σ' := ⟨h.1, f.2.trans h.2.1, l, by rw [e]; exact h.2.2.2.1, by rw [e]; have := h.2.2.2.2; omega⟩
theorem cvR_F {A0 : Int → Int} (h : cvR g rd F A0) (e : ∀ a, rd + 1 ≤ a → a ≤ rd + 4 → F' a = F a) : cvR g rd F' A0 := by
  unfold cvR at h ⊢
  rw [e (rd + 1) (by omega) (by omega), e (rd + 2) (by omega) (by omega), e (rd + 3) (by omega) (by omega), e (rd + 4) (by omega) (by omega)]
  exact h
theorem cvR_lx {A0 : Int → Int} (h : cvR g rd F A0) (f : frF rd F F') : cvR g rd F' A0 := cvR_F h (fun a h0 h1 => f.1 a (by omega))
theorem ts_lx (f : frT ts ts') : ts' 106 = ts 106 := f.1 106 (by decide)

theorem q_room (hv : cV cp g n rd F b sz σ) (ok : okL b sz σ) {R : Int} (hR : F (rd + 1) 4 = R) (r1 : 1 ≤ R) (r6 : R ≤ 6) (hD : 10 ≤ d) :
    ∃ F' z, frF rd F F' ∧ cLx F' rd (numM b sz 0 (R - 1) σ) ∧ (numM b sz 0 (R - 1) σ 4 = 0 → z = σ 3) ∧ 0 ≤ z ∧ z < 1000 ∧ bk_call d 5015 [.ref rd] (bk_Q rd F (bk_M κ (cp, cs0, cj) Y g n)) = some (some (.int (bk_i z)), (bk_Q rd F' (bk_M κ (cp, cs0, cj) Y g n))) := by
  obtain ⟨d1, rfl⟩ := dep (show 1 ≤ d by omega)
  have hrp := pw_rd (κ := κ) hv.1
  obtain ⟨t10, t1, tb, te, td, t3, tt⟩ := hrp
  obtain ⟨F1, z, f1, l1, ez, z0, z1, e1⟩ := q_number (κ := κ) (cs := cs0) (cj := cj) (Y := Y) (lo := 0) (hi := R - 1) (D := d1) hv.1 hv.2.1 hv.2.2.1 ok (by decide) (by decide) (by omega) (by omega) (by omega)
  refine ⟨F1, z, f1, l1, ez, z0, z1, ?_⟩
  rw [kX5_room, eX5_room_0]
  simp (disch := first | assumption | omega) only [t10, t1, tb, te, td, t3, tt, hR, e1, bi_add, bi_sub, bi_mul, bi_neg, bi_div, bi_64, bl_add, bl_sub, bl_mul, bl_neg, bl_div, bl_32, bi_min, bi_max, bl_min, bl_max, bq_I, bq_J, bq_A, bq_Vi, bq_Vl, bq_Vr, bq_cV, bq_cI, bq_cJ, bq_cA, bq_le, bq_lt, bq_eq, bq_z, bq_o, bq_ref, bq_nz, bq_nzJ, bq_bl, bq_blz, bq_T, bq_F, if_true, if_false, Int.reduceEq, Int.reduceLT, Int.reduceLE, Int.reduceAdd, Int.reduceSub, Int.reduceMul, Int.add_sub_cancel, li_0, li_1, li_4, li_5, ll_0, ll_1, ll_4, ll_5, q5_0, w5_0, q5_2, w5_2, q5_3, w5_3, q5_4, w5_4, q5_5, w5_5, q5_6, w5_6, q5_7, w5_7, q5_8, w5_8, q5_9, w5_9, q1_4, w1_4, q1_5, w1_5, q1_6, w1_6, q1_7, w1_7, q1_8, w1_8, q1_9, w1_9, q1_10, w1_10, q1_11, w1_11, q1_12, w1_12, qa_2, wa_2, qa_3, wa_3, qa_4, wa_4, bU_same, bU_ne, s_in]

/-- a passage's part -/
theorem sim_part (hv : cV cp g n rd F b sz σ) (ht : tV tp ts g2 b sz σ) (ok : okL b sz σ) (q4 : σ 4 = 0) (hR : cvR g rd F (ts 106)) (p0 : 0 ≤ p) (p1 : p < 8) (pP : ts 106 2 ≤ p) (hD : 11 ≤ d) (hD2 : 11 ≤ d2) :
    (∃ σ' F' ts', stepL b sz σ σ' ∧ σ 0 < σ' 0 ∧ cFr rd F F' ∧ tFr ts ts' ∧ cLx F' rd σ' ∧ tLx ts' σ' ∧ F' (rd + 1) 5 = F (rd + 1) 5 ∧ F' (rd + 1) 4 = F (rd + 1) 4 ∧ F' (rd + 2) = F (rd + 2) ∧ F' (rd + 3) = F (rd + 3) ∧ (∀ k, k ≠ 26 + p → k ≠ 34 + p → k ≠ 44 → ts' 106 k = ts 106 k) ∧ (σ' 4 = 0 → cvR g rd F' (ts' 106))
      ∧ bk_call d 5016 [.ref rd, .int (bk_i p)] (bk_Q rd F (bk_M κ (cp, cs0, cj) Y g n)) = some (some (.int (bk_i 1)), (bk_Q rd F' (bk_M κ (cp, cs0, cj) Y g n))) ∧ bk_call d2 4017 [.ref 102, .int (bk_i p)] (bk_M κ2 X2 (tp, tj, ts, tk) g2 n2) = some (some (.int (bk_i (bz (σ' 4 = 0)))), (bk_M κ2 X2 (tp, tj, ts', tk) g2 n2)))
    ∨ (bk_call d 5016 [.ref rd, .int (bk_i p)] (bk_Q rd F (bk_M κ (cp, cs0, cj) Y g n)) = some (some (.int (bk_i 0)), (bk_Q rd F (bk_M κ (cp, cs0, cj) Y g n))) ∧ ∃ ts', frT ts ts' ∧ tLx ts' σ ∧ bk_call d2 4017 [.ref 102, .int (bk_i p)] (bk_M κ2 X2 (tp, tj, ts, tk) g2 n2) = some (some (.int (bk_i 0)), (bk_M κ2 X2 (tp, tj, ts', tk) g2 n2))) := by
  obtain ⟨d, rfl⟩ := dep (show 1 ≤ d by omega)
  obtain ⟨d2, rfl⟩ := dep (show 1 ≤ d2 by omega)
  have hrp := pw_rd (κ := κ) hv.1
  obtain ⟨t10, t1, tb, te, td, t3, tt⟩ := hrp
  have hF2 := ht.1.1
  obtain ⟨r1, r2, r3, r4, r5, r6⟩ := hR
  obtain ⟨st1, n4, s1⟩ := nextM_st ok q4
  by_cases c3 : σ 2 = 3
  · have lt := ok.2.2.2.2.1 (by omega)
    obtain ⟨F1, f1, l1, e1⟩ := q_takesY (κ := κ) (cs := cs0) (cj := cj) (Y := Y) (D := d) hv.1 hv.2.1 hv.2.2.1 ok kO10 (show 12 = 2 + 10 from rfl) ⟨q4, c3⟩ (by omega)
    have hv1 := cV_lx hv (cFr_of f1) l1
    obtain ⟨F2, z, f2, l2, ez, z0, z1, e2⟩ := q_number (κ := κ) (cs := cs0) (cj := cj) (Y := Y) (D := d) (lo := 0) (hi := 9) hv1.1 hv1.2.1 l1 st1.1 (by decide) (by decide) (by decide) (by decide) (by omega)
    obtain ⟨ts1, g1', m1, u1⟩ := t_eats (κ := κ2) (X := X2) (tj := tj) (tk := tk) (n := n2) (D := d2) (kk := 3) ht.1 ht.2.1 ht.2.2.1 ok (by decide) (by decide) (by omega)
    have et : takM b sz 3 σ = nextM b sz σ := by unfold takM; rw [if_pos ⟨q4, c3⟩]
    rw [et] at m1
    rw [bz_t ⟨q4, c3⟩] at u1
    have ht1 := tV_lx ht (tFr_of g1') m1 (by rw [ts_lx g1']) (by omega)
    obtain ⟨ts2, z', g2', m2, ez', u2⟩ := t_takes (κ := κ2) (X := X2) (tj := tj) (tk := tk) (n := n2) (D := d2) (lo := 0) (hi := 9) ht1.1 ht1.2.1 m1 st1.1 (by decide) (by decide) (by decide) (by decide) (by omega)
    have st2 := numM_st (lo := 0) (hi := 9) st1.1
    have s2 := st2.2.1
    have l11 := m2.2.2.2.2.1
    have s24 := st2.1.2.2.2.2.2.2.2
    have e106 : ts2 106 = ts 106 := (ts_lx g2').trans (ts_lx g1')
    have f12 := frF_tr f1 f2
    refine Or.inl ⟨numM b sz 0 9 (nextM b sz σ), bU F2 (rd + 4) p z, bU ts2 106 (26 + p) z', stepL_tr st1 st2, by omega, cFr_tr (cFr_of f12) (cFr_U (by omega)), tFr_tr (tFr_of (frT_tr g1' g2')) tFr_U, cLx_U l2 (by omega), tLx_U m2, ?_, ?_, ?_, ?_, fun k k1 k2 k3 => ?_, fun z4 => ?_, ?_, ?_⟩
    · rw [bU_ne _ _ _ _ _ _ (by omega), f12.1 _ (by omega)]
    · rw [bU_ne _ _ _ _ _ _ (by omega), f12.1 _ (by omega)]
    · funext k; rw [bU_ne _ _ _ _ _ _ (by omega), f12.1 _ (by omega)]
    · funext k; rw [bU_ne _ _ _ _ _ _ (by omega), f12.1 _ (by omega)]
    · rw [bU_same, if_neg k1, e106]
    · have k := numM_0 st1.1 z4
      have zz := ez z4
      have zz' := ez' z4
      rw [bU_106, e106]
      have eA : ∀ k, k ≠ 26 + p → fU (ts 106) (26 + p) z' k = ts 106 k := fun k q => fU_ne q
      have eF1 : bU F2 (rd + 4) p z (rd + 1) = F (rd + 1) := by funext k; rw [bU_ne _ _ _ _ _ _ (by omega), f12.1 _ (by omega)]
      have eF2 : bU F2 (rd + 4) p z (rd + 2) = F (rd + 2) := by funext k; rw [bU_ne _ _ _ _ _ _ (by omega), f12.1 _ (by omega)]
      have eF3 : bU F2 (rd + 4) p z (rd + 3) = F (rd + 3) := by funext k; rw [bU_ne _ _ _ _ _ _ (by omega), f12.1 _ (by omega)]
      have n98 := ht.2.2.2.1
      unfold cvR
      rw [eF1, eF2, eF3, eA 0 (by omega), eA 1 (by omega), eA 2 (by omega), eA 3 (by omega), eA 42 (by omega), eA 43 (by omega), eA 44 (by omega), eA 45 (by omega), eA 46 (by omega), eA 47 (by omega)]
      refine ⟨r1, fun i i0 i1 => by rw [eA (10 + i) (by omega), eA (18 + i) (by omega)]; exact r2 i i0 i1, fun i i0 i1 => ?_, r4, ?_, ?_⟩
      · rw [eA (34 + i) (by omega), bU_same]
        have r := r3 i i0 i1
        by_cases w : i = p
        · subst w
          rw [if_pos rfl, fU_same]
          exact ⟨by rw [zz, zz'], r.2.1, by rw [zz']; omega, by rw [zz']; omega⟩
        · rw [if_neg w, eA (26 + i) (by omega), f12.1 _ (by omega)]
          exact r
      · exact lawR_ext r5 (Or.inl rfl) (fun k _ _ _ _ k5 => eA k (by omega)) (by rw [eA 98 (by omega)]; omega) n98 (fun _ _ _ _ => rfl) hv.1.2.2.2.2.2.2.2.2.2.1 hv.1.2.2.2.2.2.2.2.2.1
      · exact lawR_ext r6 (Or.inr rfl) (fun k _ _ _ _ k5 => eA k (by omega)) (by rw [eA 98 (by omega)]; omega) n98 (fun _ _ _ _ => rfl) hv.1.2.2.2.2.2.2.2.2.2.1 hv.1.2.2.2.2.2.2.2.2.1
    · rw [kX5_part, eX5_part_0]
      simp (disch := first | assumption | omega) only [t10, t1, tb, te, td, t3, tt, e1, e2, bi_add, bi_sub, bi_mul, bi_neg, bi_div, bi_64, bl_add, bl_sub, bl_mul, bl_neg, bl_div, bl_32, bi_min, bi_max, bl_min, bl_max, bq_I, bq_J, bq_A, bq_Vi, bq_Vl, bq_Vr, bq_cV, bq_cI, bq_cJ, bq_cA, bq_le, bq_lt, bq_eq, bq_z, bq_o, bq_ref, bq_nz, bq_nzJ, bq_bl, bq_blz, bq_T, bq_F, if_true, if_false, Int.reduceEq, Int.reduceLT, Int.reduceLE, Int.reduceAdd, Int.reduceSub, Int.reduceMul, Int.add_sub_cancel, li_0, li_1, li_2, li_5, li_6, li_7, li_9, li_12, li_13, li_14, li_31, li_100, ll_0, ll_1, ll_2, ll_5, ll_6, ll_7, ll_9, ll_12, ll_13, ll_14, ll_31, ll_100, q5_0, w5_0, q5_2, w5_2, q5_3, w5_3, q5_4, w5_4, q5_5, w5_5, q5_6, w5_6, q5_7, w5_7, q5_8, w5_8, q5_9, w5_9, q1_4, w1_4, q1_5, w1_5, q1_6, w1_6, q1_7, w1_7, q1_8, w1_8, q1_9, w1_9, q1_10, w1_10, q1_11, w1_11, q1_12, w1_12, qa_2, wa_2, qa_3, wa_3, qa_4, wa_4, bU_same, bU_ne, s_in]
    · rw [kX4_readPart, eX4_readPart_0]
      by_cases z4 : numM b sz 0 9 (nextM b sz σ) 4 = 0
      · rw [bz_t z4]
        rw [z4] at l11
        have w11 : bU ts2 106 (26 + p) z' 102 11 = 0 := by rw [bU_ne _ _ _ _ _ _ (by decide)]; exact l11
        simp (disch := first | assumption | omega) only [u1, u2, eX4_readPart_74, w11, bi_add, bi_sub, bi_mul, bi_neg, bi_div, bi_64, bl_add, bl_sub, bl_mul, bl_neg, bl_div, bl_32, bi_min, bi_max, bl_min, bl_max, bq_I, bq_J, bq_A, bq_Vi, bq_Vl, bq_Vr, bq_cV, bq_cI, bq_cJ, bq_cA, bq_le, bq_lt, bq_eq, bq_z, bq_o, bq_ref, bq_nz, bq_nzJ, bq_bl, bq_blz, bq_T, bq_F, if_true, if_false, Int.reduceEq, Int.reduceLT, Int.reduceLE, Int.reduceAdd, Int.reduceSub, Int.reduceMul, Int.add_sub_cancel, li_0, li_1, li_3, li_4, li_5, li_9, li_11, li_26, li_31, li_34, li_44, li_74, li_100, li_4010, li_4013, li_4017, ll_0, ll_1, ll_3, ll_4, ll_5, ll_9, ll_11, ll_26, ll_31, ll_34, ll_44, ll_74, ll_100, ga103, ga105, ga119, ga120, ga106, ga107, ga108, ga109, ga110, ga111, ga116, ga118, ga104, ga112, ga114, ga115, ga117, ga113, ga121, gf102_5, gf102_13, gf102_14, gf102_0, gf102_6, gf102_7, gf102_8, gf102_9, gf102_10, gf102_11, gf102_12, gf102_15, gf102_19, gf102_20, gr102_1, gr102_2, gr102_3, gr102_4, gr102_16, gr102_17, gr102_18, gr102_21, gr102_22, gr102_23, gr102_24, gr102_25, gr102_26, gr102_27, gr102_28, gr102_29, gr102_30, gr102_31, gr102_32, pa103, pa105, pa119, pa120, pa106, pa107, pa108, pa109, pa110, pa111, pa116, pa118, pa104, pa112, pa114, pa115, pa117, pa113, pa121, pf102_5, pf102_13, pf102_14, pf102_0, pf102_6, pf102_7, pf102_8, pf102_9, pf102_10, pf102_11, pf102_12, pf102_15, pf102_19, pf102_20, s_within, t_isLost, t_fallen, t_isHurt, t_between, t_isPassage, t_isRoom, t_standNow, t_standsAll, t_isIn, t_noComing, t_noStand, t_bitsOf, u_tens4109, t_draw]
      · rw [bz_f z4]
        have w11 : bU ts2 106 (26 + p) z' 102 11 = numM b sz 0 9 (nextM b sz σ) 4 := by rw [bU_ne _ _ _ _ _ _ (by decide)]; exact l11
        simp (disch := first | assumption | omega) only [u1, u2, eX4_readPart_74, w11, if_neg z4, bi_add, bi_sub, bi_mul, bi_neg, bi_div, bi_64, bl_add, bl_sub, bl_mul, bl_neg, bl_div, bl_32, bi_min, bi_max, bl_min, bl_max, bq_I, bq_J, bq_A, bq_Vi, bq_Vl, bq_Vr, bq_cV, bq_cI, bq_cJ, bq_cA, bq_le, bq_lt, bq_eq, bq_z, bq_o, bq_ref, bq_nz, bq_nzJ, bq_bl, bq_blz, bq_T, bq_F, if_true, if_false, Int.reduceEq, Int.reduceLT, Int.reduceLE, Int.reduceAdd, Int.reduceSub, Int.reduceMul, Int.add_sub_cancel, li_0, li_1, li_3, li_4, li_5, li_9, li_11, li_26, li_31, li_34, li_44, li_74, li_100, li_4010, li_4013, li_4017, ll_0, ll_1, ll_3, ll_4, ll_5, ll_9, ll_11, ll_26, ll_31, ll_34, ll_44, ll_74, ll_100, ga103, ga105, ga119, ga120, ga106, ga107, ga108, ga109, ga110, ga111, ga116, ga118, ga104, ga112, ga114, ga115, ga117, ga113, ga121, gf102_5, gf102_13, gf102_14, gf102_0, gf102_6, gf102_7, gf102_8, gf102_9, gf102_10, gf102_11, gf102_12, gf102_15, gf102_19, gf102_20, gr102_1, gr102_2, gr102_3, gr102_4, gr102_16, gr102_17, gr102_18, gr102_21, gr102_22, gr102_23, gr102_24, gr102_25, gr102_26, gr102_27, gr102_28, gr102_29, gr102_30, gr102_31, gr102_32, pa103, pa105, pa119, pa120, pa106, pa107, pa108, pa109, pa110, pa111, pa116, pa118, pa104, pa112, pa114, pa115, pa117, pa113, pa121, pf102_5, pf102_13, pf102_14, pf102_0, pf102_6, pf102_7, pf102_8, pf102_9, pf102_10, pf102_11, pf102_12, pf102_15, pf102_19, pf102_20, s_within, t_isLost, t_fallen, t_isHurt, t_between, t_isPassage, t_isRoom, t_standNow, t_standsAll, t_isIn, t_noComing, t_noStand, t_bitsOf, u_tens4109, t_draw]
  · have nn3 := q_takesN (κ := κ) (cs := cs0) (cj := cj) (Y := Y) (D := d) hv.1 hv.2.1 hv.2.2.1 ok kO10 (show 12 = 2 + 10 from rfl) (fun w => c3 w.2) (by omega)
    obtain ⟨ts1, g1', m1, u1⟩ := t_eats (κ := κ2) (X := X2) (tj := tj) (tk := tk) (n := n2) (D := d2) (kk := 3) ht.1 ht.2.1 ht.2.2.1 ok (by decide) (by decide) (by omega)
    have et : takM b sz 3 σ = σ := by unfold takM; rw [if_neg (fun w => c3 w.2)]
    rw [et] at m1
    rw [bz_f (fun w => c3 w.2)] at u1
    have ht1 := tV_lx ht (tFr_of g1') m1 (by rw [ts_lx g1']) (Int.le_refl _)
    obtain ⟨ts2, g2', m2, u2⟩ := t_eats (κ := κ2) (X := X2) (tj := tj) (tk := tk) (n := n2) (D := d2) (kk := 4) ht1.1 ht1.2.1 m1 ok (by decide) (by decide) (by omega)
    have n98 := ht.2.2.2.1
    by_cases c4 : σ 2 = 4
    · have lt := ok.2.2.2.2.1 (by omega)
      obtain ⟨F1, f1, l1, e1⟩ := q_takesY (κ := κ) (cs := cs0) (cj := cj) (Y := Y) (D := d) hv.1 hv.2.1 hv.2.2.1 ok kO11 (show 13 = 2 + 11 from rfl) ⟨q4, c4⟩ (by omega)
      have et : takM b sz 4 σ = nextM b sz σ := by unfold takM; rw [if_pos ⟨q4, c4⟩]
      rw [et] at m2
      rw [bz_t ⟨q4, c4⟩] at u2
      have e106 : ts2 106 = ts 106 := (ts_lx g2').trans (ts_lx g1')
      have l11 := m2.2.2.2.2.1
      rw [n4] at l11
      have f6 : F1 (rd + 1) 6 = F (rd + 1) 6 := by rw [f1.1 _ (by omega)]
      refine Or.inl ⟨nextM b sz σ, bU F1 (rd + 1) 6 (io (F (rd + 1) 6) (sh p)), bU ts2 106 (34 + p) 1, st1, by omega, cFr_tr (cFr_of f1) (cFr_U (by omega)), tFr_tr (tFr_of (frT_tr g1' g2')) tFr_U, cLx_U l1 (by omega), tLx_U m2, ?_, ?_, ?_, ?_, fun k k1 k2 k3 => ?_, fun z4 => ?_, ?_, ?_⟩
      · rw [bU_same, if_neg (by decide), f1.1 _ (by omega)]
      · rw [bU_same, if_neg (by decide), f1.1 _ (by omega)]
      · funext k; rw [bU_ne _ _ _ _ _ _ (by omega), f1.1 _ (by omega)]
      · funext k; rw [bU_ne _ _ _ _ _ _ (by omega), f1.1 _ (by omega)]
      · rw [bU_same, if_neg k2, e106]
      · rw [bU_106, e106]
        have eA : ∀ k, k ≠ 34 + p → fU (ts 106) (34 + p) 1 k = ts 106 k := fun k q => fU_ne q
        have eF : ∀ k, k ≠ 6 → bU F1 (rd + 1) 6 (io (F (rd + 1) 6) (sh p)) (rd + 1) k = F (rd + 1) k := fun k q => by rw [bU_same, if_neg q, f1.1 _ (by omega)]
        have eF6 : bU F1 (rd + 1) 6 (io (F (rd + 1) 6) (sh p)) (rd + 1) 6 = io (F (rd + 1) 6) (sh p) := by rw [bU_same, if_pos rfl]
        have eF2 : bU F1 (rd + 1) 6 (io (F (rd + 1) 6) (sh p)) (rd + 2) = F (rd + 2) := by funext k; rw [bU_ne _ _ _ _ _ _ (by omega), f1.1 _ (by omega)]
        have eF3 : bU F1 (rd + 1) 6 (io (F (rd + 1) 6) (sh p)) (rd + 3) = F (rd + 3) := by funext k; rw [bU_ne _ _ _ _ _ _ (by omega), f1.1 _ (by omega)]
        have eF4 : bU F1 (rd + 1) 6 (io (F (rd + 1) 6) (sh p)) (rd + 4) = F (rd + 4) := by funext k; rw [bU_ne _ _ _ _ _ _ (by omega), f1.1 _ (by omega)]
        have b0 := bt_io (x := F (rd + 1) 6) (q := 0) r4.1 r4.2.1 p0 p1 (by decide) (by decide)
        unfold cvR
        rw [eF6, eF2, eF3, eF4, eF 4 (by decide), eF 5 (by decide), eF 7 (by decide), eF 8 (by decide), eF 9 (by decide), eF 10 (by decide), eF 11 (by decide), eF 12 (by decide), eA 0 (by omega), eA 1 (by omega), eA 2 (by omega), eA 3 (by omega), eA 42 (by omega), eA 43 (by omega), eA 44 (by omega), eA 45 (by omega), eA 46 (by omega), eA 47 (by omega)]
        refine ⟨r1, fun i i0 i1 => by rw [eA (10 + i) (by omega), eA (18 + i) (by omega)]; exact r2 i i0 i1, fun i i0 i1 => ?_, ⟨b0.2.1, b0.2.2, r4.2.2⟩, ?_, ?_⟩
        · have r := r3 i i0 i1
          rw [(bt_io r4.1 r4.2.1 p0 p1 i0 i1).1, eA (26 + i) (by omega)]
          by_cases w : i = p
          · subst w
            rw [if_pos rfl, fU_same]
            exact ⟨r.1, rfl, r.2.2⟩
          · rw [if_neg w, eA (34 + i) (by omega)]
            exact r
        · exact lawR_ext r5 (Or.inl rfl) (fun k _ _ _ _ k5 => eA k (by omega)) (by rw [eA 98 (by omega)]; omega) n98 (fun _ _ _ _ => rfl) hv.1.2.2.2.2.2.2.2.2.2.1 hv.1.2.2.2.2.2.2.2.2.1
        · exact lawR_ext r6 (Or.inr rfl) (fun k _ _ _ _ k5 => eA k (by omega)) (by rw [eA 98 (by omega)]; omega) n98 (fun _ _ _ _ => rfl) hv.1.2.2.2.2.2.2.2.2.2.1 hv.1.2.2.2.2.2.2.2.2.1
      · rw [kX5_part, eX5_part_0]
        simp (disch := first | assumption | omega) only [t10, t1, tb, te, td, t3, tt, nn3, e1, f6, bi_sh, bi_io, bi_add, bi_sub, bi_mul, bi_neg, bi_div, bi_64, bl_add, bl_sub, bl_mul, bl_neg, bl_div, bl_32, bi_min, bi_max, bl_min, bl_max, bq_I, bq_J, bq_A, bq_Vi, bq_Vl, bq_Vr, bq_cV, bq_cI, bq_cJ, bq_cA, bq_le, bq_lt, bq_eq, bq_z, bq_o, bq_ref, bq_nz, bq_nzJ, bq_bl, bq_blz, bq_T, bq_F, if_true, if_false, Int.reduceEq, Int.reduceLT, Int.reduceLE, Int.reduceAdd, Int.reduceSub, Int.reduceMul, Int.add_sub_cancel, li_0, li_1, li_2, li_5, li_6, li_7, li_9, li_12, li_13, li_14, li_31, li_100, ll_0, ll_1, ll_2, ll_5, ll_6, ll_7, ll_9, ll_12, ll_13, ll_14, ll_31, ll_100, q5_0, w5_0, q5_2, w5_2, q5_3, w5_3, q5_4, w5_4, q5_5, w5_5, q5_6, w5_6, q5_7, w5_7, q5_8, w5_8, q5_9, w5_9, q1_4, w1_4, q1_5, w1_5, q1_6, w1_6, q1_7, w1_7, q1_8, w1_8, q1_9, w1_9, q1_10, w1_10, q1_11, w1_11, q1_12, w1_12, qa_2, wa_2, qa_3, wa_3, qa_4, wa_4, bU_same, bU_ne, s_in]
      · rw [kX4_readPart, eX4_readPart_0, bz_t n4]
        have w11 : bU ts2 106 (34 + p) 1 102 11 = 0 := by rw [bU_ne _ _ _ _ _ _ (by decide)]; exact l11
        simp (disch := first | assumption | omega) only [u1, u2, eX4_readPart_74, w11, bi_add, bi_sub, bi_mul, bi_neg, bi_div, bi_64, bl_add, bl_sub, bl_mul, bl_neg, bl_div, bl_32, bi_min, bi_max, bl_min, bl_max, bq_I, bq_J, bq_A, bq_Vi, bq_Vl, bq_Vr, bq_cV, bq_cI, bq_cJ, bq_cA, bq_le, bq_lt, bq_eq, bq_z, bq_o, bq_ref, bq_nz, bq_nzJ, bq_bl, bq_blz, bq_T, bq_F, if_true, if_false, Int.reduceEq, Int.reduceLT, Int.reduceLE, Int.reduceAdd, Int.reduceSub, Int.reduceMul, Int.add_sub_cancel, li_0, li_1, li_3, li_4, li_5, li_9, li_11, li_26, li_31, li_34, li_44, li_74, li_100, li_4010, li_4013, li_4017, ll_0, ll_1, ll_3, ll_4, ll_5, ll_9, ll_11, ll_26, ll_31, ll_34, ll_44, ll_74, ll_100, ga103, ga105, ga119, ga120, ga106, ga107, ga108, ga109, ga110, ga111, ga116, ga118, ga104, ga112, ga114, ga115, ga117, ga113, ga121, gf102_5, gf102_13, gf102_14, gf102_0, gf102_6, gf102_7, gf102_8, gf102_9, gf102_10, gf102_11, gf102_12, gf102_15, gf102_19, gf102_20, gr102_1, gr102_2, gr102_3, gr102_4, gr102_16, gr102_17, gr102_18, gr102_21, gr102_22, gr102_23, gr102_24, gr102_25, gr102_26, gr102_27, gr102_28, gr102_29, gr102_30, gr102_31, gr102_32, pa103, pa105, pa119, pa120, pa106, pa107, pa108, pa109, pa110, pa111, pa116, pa118, pa104, pa112, pa114, pa115, pa117, pa113, pa121, pf102_5, pf102_13, pf102_14, pf102_0, pf102_6, pf102_7, pf102_8, pf102_9, pf102_10, pf102_11, pf102_12, pf102_15, pf102_19, pf102_20, s_within, t_isLost, t_fallen, t_isHurt, t_between, t_isPassage, t_isRoom, t_standNow, t_standsAll, t_isIn, t_noComing, t_noStand, t_bitsOf, u_tens4109, t_draw]
    · have nn4 := q_takesN (κ := κ) (cs := cs0) (cj := cj) (Y := Y) (D := d) hv.1 hv.2.1 hv.2.2.1 ok kO11 (show 13 = 2 + 11 from rfl) (fun w => c4 w.2) (by omega)
      have et : takM b sz 4 σ = σ := by unfold takM; rw [if_neg (fun w => c4 w.2)]
      rw [et] at m2
      rw [bz_f (fun w => c4 w.2)] at u2
      have ht2 := tV_lx ht1 (tFr_of g2') m2 (by rw [ts_lx g2']) (Int.le_refl _)
      obtain ⟨ts3, g3', m3, u3⟩ := t_eats (κ := κ2) (X := X2) (tj := tj) (tk := tk) (n := n2) (D := d2) (kk := 5) ht2.1 ht2.2.1 m2 ok (by decide) (by decide) (by omega)
      by_cases c5 : σ 2 = 5
      · have lt := ok.2.2.2.2.1 (by omega)
        obtain ⟨F1, f1, l1, e1⟩ := q_takesY (κ := κ) (cs := cs0) (cj := cj) (Y := Y) (D := d) hv.1 hv.2.1 hv.2.2.1 ok kO12 (show 14 = 2 + 12 from rfl) ⟨q4, c5⟩ (by omega)
        have et : takM b sz 5 σ = nextM b sz σ := by unfold takM; rw [if_pos ⟨q4, c5⟩]
        rw [et] at m3
        rw [bz_t ⟨q4, c5⟩] at u3
        have e106 : ts3 106 = ts 106 := (ts_lx g3').trans ((ts_lx g2').trans (ts_lx g1'))
        have l11 := m3.2.2.2.2.1
        rw [n4] at l11
        have f7 : F1 (rd + 1) 7 = F (rd + 1) 7 := by rw [f1.1 _ (by omega)]
        have a44 : ts3 106 44 = F (rd + 1) 7 := by rw [e106]; exact r1.2.2.1.symm
        have ir := (bt_io (x := F (rd + 1) 7) (q := 0) (by rw [r1.2.2.1]; omega) (by rw [r1.2.2.1]; omega) p0 p1 (by decide) (by decide)).2
        refine Or.inl ⟨nextM b sz σ, bU F1 (rd + 1) 7 (io (F (rd + 1) 7) (sh p)), bU ts3 106 44 (io (F (rd + 1) 7) (sh p)), st1, by omega, cFr_tr (cFr_of f1) (cFr_U (by omega)), tFr_tr (tFr_of (frT_tr (frT_tr g1' g2') g3')) tFr_U, cLx_U l1 (by omega), tLx_U m3, ?_, ?_, ?_, ?_, fun k k1 k2 k3 => ?_, fun z4 => ?_, ?_, ?_⟩
        · rw [bU_same, if_neg (by decide), f1.1 _ (by omega)]
        · rw [bU_same, if_neg (by decide), f1.1 _ (by omega)]
        · funext k; rw [bU_ne _ _ _ _ _ _ (by omega), f1.1 _ (by omega)]
        · funext k; rw [bU_ne _ _ _ _ _ _ (by omega), f1.1 _ (by omega)]
        · rw [bU_same, if_neg k3, e106]
        · rw [bU_106, e106]
          have eA : ∀ k, k ≠ 44 → fU (ts 106) 44 (io (F (rd + 1) 7) (sh p)) k = ts 106 k := fun k q => fU_ne q
          have eF : ∀ k, k ≠ 7 → bU F1 (rd + 1) 7 (io (F (rd + 1) 7) (sh p)) (rd + 1) k = F (rd + 1) k := fun k q => by rw [bU_same, if_neg q, f1.1 _ (by omega)]
          have eF7 : bU F1 (rd + 1) 7 (io (F (rd + 1) 7) (sh p)) (rd + 1) 7 = io (F (rd + 1) 7) (sh p) := by rw [bU_same, if_pos rfl]
          have eF2 : bU F1 (rd + 1) 7 (io (F (rd + 1) 7) (sh p)) (rd + 2) = F (rd + 2) := by funext k; rw [bU_ne _ _ _ _ _ _ (by omega), f1.1 _ (by omega)]
          have eF3 : bU F1 (rd + 1) 7 (io (F (rd + 1) 7) (sh p)) (rd + 3) = F (rd + 3) := by funext k; rw [bU_ne _ _ _ _ _ _ (by omega), f1.1 _ (by omega)]
          have eF4 : bU F1 (rd + 1) 7 (io (F (rd + 1) 7) (sh p)) (rd + 4) = F (rd + 4) := by funext k; rw [bU_ne _ _ _ _ _ _ (by omega), f1.1 _ (by omega)]
          unfold cvR
          rw [eF7, eF2, eF3, eF4, fU_same, eF 4 (by decide), eF 5 (by decide), eF 6 (by decide), eF 8 (by decide), eF 9 (by decide), eF 10 (by decide), eF 11 (by decide), eF 12 (by decide), eA 0 (by omega), eA 1 (by omega), eA 2 (by omega), eA 3 (by omega), eA 42 (by omega), eA 43 (by omega), eA 45 (by omega), eA 46 (by omega), eA 47 (by omega)]
          refine ⟨⟨r1.1, r1.2.1, rfl, r1.2.2.2⟩, fun i i0 i1 => by rw [eA (10 + i) (by omega), eA (18 + i) (by omega)]; exact r2 i i0 i1, fun i i0 i1 => by rw [eA (26 + i) (by omega), eA (34 + i) (by omega)]; exact r3 i i0 i1, by omega, ?_, ?_⟩
          · exact lawR_ext r5 (Or.inl rfl) (fun k _ _ _ k4 _ => eA k k4) (by rw [eA 98 (by omega)]; omega) n98 (fun _ _ _ _ => rfl) hv.1.2.2.2.2.2.2.2.2.2.1 hv.1.2.2.2.2.2.2.2.2.1
          · exact lawR_ext r6 (Or.inr rfl) (fun k _ _ _ k4 _ => eA k k4) (by rw [eA 98 (by omega)]; omega) n98 (fun _ _ _ _ => rfl) hv.1.2.2.2.2.2.2.2.2.2.1 hv.1.2.2.2.2.2.2.2.2.1
        · rw [kX5_part, eX5_part_0]
          simp (disch := first | assumption | omega) only [t10, t1, tb, te, td, t3, tt, nn3, nn4, e1, f7, bi_sh, bi_io, bi_add, bi_sub, bi_mul, bi_neg, bi_div, bi_64, bl_add, bl_sub, bl_mul, bl_neg, bl_div, bl_32, bi_min, bi_max, bl_min, bl_max, bq_I, bq_J, bq_A, bq_Vi, bq_Vl, bq_Vr, bq_cV, bq_cI, bq_cJ, bq_cA, bq_le, bq_lt, bq_eq, bq_z, bq_o, bq_ref, bq_nz, bq_nzJ, bq_bl, bq_blz, bq_T, bq_F, if_true, if_false, Int.reduceEq, Int.reduceLT, Int.reduceLE, Int.reduceAdd, Int.reduceSub, Int.reduceMul, Int.add_sub_cancel, li_0, li_1, li_2, li_5, li_6, li_7, li_9, li_12, li_13, li_14, li_31, li_100, ll_0, ll_1, ll_2, ll_5, ll_6, ll_7, ll_9, ll_12, ll_13, ll_14, ll_31, ll_100, q5_0, w5_0, q5_2, w5_2, q5_3, w5_3, q5_4, w5_4, q5_5, w5_5, q5_6, w5_6, q5_7, w5_7, q5_8, w5_8, q5_9, w5_9, q1_4, w1_4, q1_5, w1_5, q1_6, w1_6, q1_7, w1_7, q1_8, w1_8, q1_9, w1_9, q1_10, w1_10, q1_11, w1_11, q1_12, w1_12, qa_2, wa_2, qa_3, wa_3, qa_4, wa_4, bU_same, bU_ne, s_in]
        · rw [kX4_readPart, eX4_readPart_0, bz_t n4]
          have w11 : ∀ v, bU ts3 106 44 v 102 11 = 0 := fun v => by rw [bU_ne _ _ _ _ _ _ (by decide)]; exact l11
          simp (disch := first | assumption | omega) only [u1, u2, u3, a44, bi_sh, bi_io, eX4_readPart_74, w11, bi_add, bi_sub, bi_mul, bi_neg, bi_div, bi_64, bl_add, bl_sub, bl_mul, bl_neg, bl_div, bl_32, bi_min, bi_max, bl_min, bl_max, bq_I, bq_J, bq_A, bq_Vi, bq_Vl, bq_Vr, bq_cV, bq_cI, bq_cJ, bq_cA, bq_le, bq_lt, bq_eq, bq_z, bq_o, bq_ref, bq_nz, bq_nzJ, bq_bl, bq_blz, bq_T, bq_F, if_true, if_false, Int.reduceEq, Int.reduceLT, Int.reduceLE, Int.reduceAdd, Int.reduceSub, Int.reduceMul, Int.add_sub_cancel, li_0, li_1, li_3, li_4, li_5, li_9, li_11, li_26, li_31, li_34, li_44, li_74, li_100, li_4010, li_4013, li_4017, ll_0, ll_1, ll_3, ll_4, ll_5, ll_9, ll_11, ll_26, ll_31, ll_34, ll_44, ll_74, ll_100, ga103, ga105, ga119, ga120, ga106, ga107, ga108, ga109, ga110, ga111, ga116, ga118, ga104, ga112, ga114, ga115, ga117, ga113, ga121, gf102_5, gf102_13, gf102_14, gf102_0, gf102_6, gf102_7, gf102_8, gf102_9, gf102_10, gf102_11, gf102_12, gf102_15, gf102_19, gf102_20, gr102_1, gr102_2, gr102_3, gr102_4, gr102_16, gr102_17, gr102_18, gr102_21, gr102_22, gr102_23, gr102_24, gr102_25, gr102_26, gr102_27, gr102_28, gr102_29, gr102_30, gr102_31, gr102_32, pa103, pa105, pa119, pa120, pa106, pa107, pa108, pa109, pa110, pa111, pa116, pa118, pa104, pa112, pa114, pa115, pa117, pa113, pa121, pf102_5, pf102_13, pf102_14, pf102_0, pf102_6, pf102_7, pf102_8, pf102_9, pf102_10, pf102_11, pf102_12, pf102_15, pf102_19, pf102_20, s_within, t_isLost, t_fallen, t_isHurt, t_between, t_isPassage, t_isRoom, t_standNow, t_standsAll, t_isIn, t_noComing, t_noStand, t_bitsOf, u_tens4109, t_draw]
      · have nn5 := q_takesN (κ := κ) (cs := cs0) (cj := cj) (Y := Y) (D := d) hv.1 hv.2.1 hv.2.2.1 ok kO12 (show 14 = 2 + 12 from rfl) (fun w => c5 w.2) (by omega)
        have et : takM b sz 5 σ = σ := by unfold takM; rw [if_neg (fun w => c5 w.2)]
        rw [et] at m3
        rw [bz_f (fun w => c5 w.2)] at u3
        refine Or.inr ⟨?_, ts3, frT_tr (frT_tr g1' g2') g3', m3, ?_⟩
        · rw [kX5_part, eX5_part_0]
          simp (disch := first | assumption | omega) only [nn3, nn4, nn5, bi_add, bi_sub, bi_mul, bi_neg, bi_div, bi_64, bl_add, bl_sub, bl_mul, bl_neg, bl_div, bl_32, bi_min, bi_max, bl_min, bl_max, bq_I, bq_J, bq_A, bq_Vi, bq_Vl, bq_Vr, bq_cV, bq_cI, bq_cJ, bq_cA, bq_le, bq_lt, bq_eq, bq_z, bq_o, bq_ref, bq_nz, bq_nzJ, bq_bl, bq_blz, bq_T, bq_F, if_true, if_false, Int.reduceEq, Int.reduceLT, Int.reduceLE, Int.reduceAdd, Int.reduceSub, Int.reduceMul, Int.add_sub_cancel, li_0, li_1, li_2, li_5, li_6, li_7, li_9, li_12, li_13, li_14, li_31, li_100, ll_0, ll_1, ll_2, ll_5, ll_6, ll_7, ll_9, ll_12, ll_13, ll_14, ll_31, ll_100, q5_0, w5_0, q5_2, w5_2, q5_3, w5_3, q5_4, w5_4, q5_5, w5_5, q5_6, w5_6, q5_7, w5_7, q5_8, w5_8, q5_9, w5_9, q1_4, w1_4, q1_5, w1_5, q1_6, w1_6, q1_7, w1_7, q1_8, w1_8, q1_9, w1_9, q1_10, w1_10, q1_11, w1_11, q1_12, w1_12, qa_2, wa_2, qa_3, wa_3, qa_4, wa_4, bU_same, bU_ne, s_in]
        · rw [kX4_readPart, eX4_readPart_0]
          simp (disch := first | assumption | omega) only [u1, u2, u3, bi_add, bi_sub, bi_mul, bi_neg, bi_div, bi_64, bl_add, bl_sub, bl_mul, bl_neg, bl_div, bl_32, bi_min, bi_max, bl_min, bl_max, bq_I, bq_J, bq_A, bq_Vi, bq_Vl, bq_Vr, bq_cV, bq_cI, bq_cJ, bq_cA, bq_le, bq_lt, bq_eq, bq_z, bq_o, bq_ref, bq_nz, bq_nzJ, bq_bl, bq_blz, bq_T, bq_F, if_true, if_false, Int.reduceEq, Int.reduceLT, Int.reduceLE, Int.reduceAdd, Int.reduceSub, Int.reduceMul, Int.add_sub_cancel, li_0, li_1, li_3, li_4, li_5, li_9, li_11, li_26, li_31, li_34, li_44, li_74, li_100, li_4010, li_4013, li_4017, ll_0, ll_1, ll_3, ll_4, ll_5, ll_9, ll_11, ll_26, ll_31, ll_34, ll_44, ll_74, ll_100, ga103, ga105, ga119, ga120, ga106, ga107, ga108, ga109, ga110, ga111, ga116, ga118, ga104, ga112, ga114, ga115, ga117, ga113, ga121, gf102_5, gf102_13, gf102_14, gf102_0, gf102_6, gf102_7, gf102_8, gf102_9, gf102_10, gf102_11, gf102_12, gf102_15, gf102_19, gf102_20, gr102_1, gr102_2, gr102_3, gr102_4, gr102_16, gr102_17, gr102_18, gr102_21, gr102_22, gr102_23, gr102_24, gr102_25, gr102_26, gr102_27, gr102_28, gr102_29, gr102_30, gr102_31, gr102_32, pa103, pa105, pa119, pa120, pa106, pa107, pa108, pa109, pa110, pa111, pa116, pa118, pa104, pa112, pa114, pa115, pa117, pa113, pa121, pf102_5, pf102_13, pf102_14, pf102_0, pf102_6, pf102_7, pf102_8, pf102_9, pf102_10, pf102_11, pf102_12, pf102_15, pf102_19, pf102_20, s_within, t_isLost, t_fallen, t_isHurt, t_between, t_isPassage, t_isRoom, t_standNow, t_standsAll, t_isIn, t_noComing, t_noStand, t_bitsOf, u_tens4109, t_draw]
end LN
