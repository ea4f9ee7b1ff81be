/-! SPECS: the twin: a deed -/
set_option maxRecDepth 100000
def tS (A : Int → Int) : Int → Int := fv (6 * A 42 + A 43) (A 44) (A 45) (A 46) 0
theorem tS_ok {A : Int → Int} (hs : bSt A 42 (A 1)) : okT A (tS A) := by
  have sl := bTt_sl hs
  exact ⟨show 0 ≤ 6 * A 42 + A 43 by omega, show 6 * A 42 + A 43 < 6 * A 1 by omega, sl.2.2.2.2.1, sl.2.2.2.2.2.1, sl.2.2.2.2.2.2.1, sl.2.2.2.2.2.2.2⟩
section TQ
variable {κ : Nat → Nat} {X : bX} {tp ts : bF} {tj tk : bFJ} {g : bG} {n : Nat × Nat} {y : Int} {D : Nat}
theorem t_whyNot (h : bTt g (tp 103)) (y0 : -9223372036854775808 ≤ y) (y1 : y < 9223372036854775808) (hD : 5 ≤ D) :
    ∃ ts', (∀ a, a ≠ 107 → a ≠ 108 → ts' a = ts a) ∧ bk_call D 4058 [.ref 102, .long (bk_l y)] (bk_M κ X (tp, tj, ts, tk) g n) = some (some (.int (bk_i (whyD (tp 103) (tS (tp 103)) y))), bk_M κ X (tp, tj, ts', tk) g n) := by
  obtain ⟨d, rfl⟩ := dep hD
  have st := bTt_st h
  have ht := h
  obtain ⟨hF, hw, hs⟩ := h
  unfold whyD
  rw [kX4_whyNot, eX4_whyNot_0]
  by_cases c1 : 0 ≤ y ∧ y ≤ 9
  · obtain ⟨ts1, f1, q1⟩ := t_whyGo (κ := κ) (X := X) (tp := tp) (ts := ts) (tj := tj) (tk := tk) (n := n) (D := d) (v := y) ht (by omega) (by omega) (by omega)
    refine ⟨ts1, f1, ?_⟩
    rw [if_pos c1]
    simp (disch := first | assumption | omega) only [if_pos c1, q1, bi_add, bi_sub, bi_mul, bi_neg, bi_div, bi_64, bl_add, bl_sub, bl_mul, bl_neg, bl_div, bl_32, bi_min, bi_max, bl_min, bl_max, bq_I, bq_J, bq_A, bq_Vi, bq_Vl, bq_Vr, bq_cV, bq_cI, bq_cJ, bq_cA, bq_le, bq_lt, bq_eq, bq_z, bq_o, bq_ref, bq_nz, bq_nzJ, bq_bl, bq_blz, bq_T, bq_F, if_true, if_false, Int.reduceEq, Int.reduceLT, Int.reduceLE, Int.reduceAdd, Int.reduceSub, Int.reduceMul, Int.add_sub_cancel, li_0, li_1, li_4, li_9, li_10, li_19, li_20, li_29, li_100, li_199, li_4004, li_4032, li_4034, li_4051, li_4052, li_4058, ll_0, ll_1, ll_4, ll_9, ll_10, ll_19, ll_20, ll_29, ll_100, ll_199, ga103, ga105, ga119, ga120, ga106, ga107, ga108, ga109, ga110, ga111, ga116, ga118, ga104, ga112, ga114, ga115, ga117, ga113, ga121, gf102_5, gf102_13, gf102_14, gf102_0, gf102_6, gf102_7, gf102_8, gf102_9, gf102_10, gf102_11, gf102_12, gf102_15, gf102_19, gf102_20, gr102_1, gr102_2, gr102_3, gr102_4, gr102_16, gr102_17, gr102_18, gr102_21, gr102_22, gr102_23, gr102_24, gr102_25, gr102_26, gr102_27, gr102_28, gr102_29, gr102_30, gr102_31, gr102_32, pa103, pa105, pa119, pa120, pa106, pa107, pa108, pa109, pa110, pa111, pa116, pa118, pa104, pa112, pa114, pa115, pa117, pa113, pa121, pf102_5, pf102_13, pf102_14, pf102_0, pf102_6, pf102_7, pf102_8, pf102_9, pf102_10, pf102_11, pf102_12, pf102_15, pf102_19, pf102_20, s_within, t_isLost, t_fallen, t_isHurt, t_between, t_isPassage, t_isRoom, t_standNow, t_standsAll, t_isIn, t_noComing, t_noStand, t_bitsOf, u_tens4109]
    rfl
  · refine ⟨ts, fun _ _ _ => rfl, ?_⟩
    rw [if_neg c1]
    by_cases c2 : 10 ≤ y ∧ y ≤ 19
    · rw [if_pos c2]
      simp (disch := first | assumption | omega) only [if_neg c1, if_pos c2, bi_add, bi_sub, bi_mul, bi_neg, bi_div, bi_64, bl_add, bl_sub, bl_mul, bl_neg, bl_div, bl_32, bi_min, bi_max, bl_min, bl_max, bq_I, bq_J, bq_A, bq_Vi, bq_Vl, bq_Vr, bq_cV, bq_cI, bq_cJ, bq_cA, bq_le, bq_lt, bq_eq, bq_z, bq_o, bq_ref, bq_nz, bq_nzJ, bq_bl, bq_blz, bq_T, bq_F, if_true, if_false, Int.reduceEq, Int.reduceLT, Int.reduceLE, Int.reduceAdd, Int.reduceSub, Int.reduceMul, Int.add_sub_cancel, li_0, li_1, li_4, li_9, li_10, li_19, li_20, li_29, li_100, li_199, li_4004, li_4032, li_4034, li_4051, li_4052, li_4058, ll_0, ll_1, ll_4, ll_9, ll_10, ll_19, ll_20, ll_29, ll_100, ll_199, ga103, ga105, ga119, ga120, ga106, ga107, ga108, ga109, ga110, ga111, ga116, ga118, ga104, ga112, ga114, ga115, ga117, ga113, ga121, gf102_5, gf102_13, gf102_14, gf102_0, gf102_6, gf102_7, gf102_8, gf102_9, gf102_10, gf102_11, gf102_12, gf102_15, gf102_19, gf102_20, gr102_1, gr102_2, gr102_3, gr102_4, gr102_16, gr102_17, gr102_18, gr102_21, gr102_22, gr102_23, gr102_24, gr102_25, gr102_26, gr102_27, gr102_28, gr102_29, gr102_30, gr102_31, gr102_32, pa103, pa105, pa119, pa120, pa106, pa107, pa108, pa109, pa110, pa111, pa116, pa118, pa104, pa112, pa114, pa115, pa117, pa113, pa121, pf102_5, pf102_13, pf102_14, pf102_0, pf102_6, pf102_7, pf102_8, pf102_9, pf102_10, pf102_11, pf102_12, pf102_15, pf102_19, pf102_20, s_within, t_isLost, t_fallen, t_isHurt, t_between, t_isPassage, t_isRoom, t_standNow, t_standsAll, t_isIn, t_noComing, t_noStand, t_bitsOf, u_tens4109]
      by_cases c3 : 0 ≤ y - 10 ∧ y - 10 ≤ tp 103 2 - 1
      · rw [if_pos c3, if_pos c3]
      · rw [if_neg c3, if_neg c3]
    · rw [if_neg c2]
      by_cases c3 : 20 ≤ y ∧ y ≤ 29
      · rw [if_pos c3]
        simp (disch := first | assumption | omega) only [if_neg c1, if_neg c2, if_pos c3, bi_add, bi_sub, bi_mul, bi_neg, bi_div, bi_64, bl_add, bl_sub, bl_mul, bl_neg, bl_div, bl_32, bi_min, bi_max, bl_min, bl_max, bq_I, bq_J, bq_A, bq_Vi, bq_Vl, bq_Vr, bq_cV, bq_cI, bq_cJ, bq_cA, bq_le, bq_lt, bq_eq, bq_z, bq_o, bq_ref, bq_nz, bq_nzJ, bq_bl, bq_blz, bq_T, bq_F, if_true, if_false, Int.reduceEq, Int.reduceLT, Int.reduceLE, Int.reduceAdd, Int.reduceSub, Int.reduceMul, Int.add_sub_cancel, li_0, li_1, li_4, li_9, li_10, li_19, li_20, li_29, li_100, li_199, li_4004, li_4032, li_4034, li_4051, li_4052, li_4058, ll_0, ll_1, ll_4, ll_9, ll_10, ll_19, ll_20, ll_29, ll_100, ll_199, ga103, ga105, ga119, ga120, ga106, ga107, ga108, ga109, ga110, ga111, ga116, ga118, ga104, ga112, ga114, ga115, ga117, ga113, ga121, gf102_5, gf102_13, gf102_14, gf102_0, gf102_6, gf102_7, gf102_8, gf102_9, gf102_10, gf102_11, gf102_12, gf102_15, gf102_19, gf102_20, gr102_1, gr102_2, gr102_3, gr102_4, gr102_16, gr102_17, gr102_18, gr102_21, gr102_22, gr102_23, gr102_24, gr102_25, gr102_26, gr102_27, gr102_28, gr102_29, gr102_30, gr102_31, gr102_32, pa103, pa105, pa119, pa120, pa106, pa107, pa108, pa109, pa110, pa111, pa116, pa118, pa104, pa112, pa114, pa115, pa117, pa113, pa121, pf102_5, pf102_13, pf102_14, pf102_0, pf102_6, pf102_7, pf102_8, pf102_9, pf102_10, pf102_11, pf102_12, pf102_15, pf102_19, pf102_20, s_within, t_isLost, t_fallen, t_isHurt, t_between, t_isPassage, t_isRoom, t_standNow, t_standsAll, t_isIn, t_noComing, t_noStand, t_bitsOf, u_tens4109]
      · rw [if_neg c3]
        by_cases c4 : 100 ≤ y ∧ y ≤ 199
        · rw [if_pos c4]
          have em : y - y / 10 * 10 = y % 10 := by omega
          by_cases c5 : 0 ≤ (y - 100) / 10 ∧ (y - 100) / 10 ≤ tp 103 1 - 1
          · by_cases c6 : 0 ≤ y % 10 ∧ y % 10 ≤ 5
            · rw [if_pos ⟨c5, c6⟩]
              simp (disch := first | assumption | omega) only [if_neg c1, if_neg c2, if_neg c3, if_pos c4, if_pos c5, em, if_pos c6, bi_add, bi_sub, bi_mul, bi_neg, bi_div, bi_64, bl_add, bl_sub, bl_mul, bl_neg, bl_div, bl_32, bi_min, bi_max, bl_min, bl_max, bq_I, bq_J, bq_A, bq_Vi, bq_Vl, bq_Vr, bq_cV, bq_cI, bq_cJ, bq_cA, bq_le, bq_lt, bq_eq, bq_z, bq_o, bq_ref, bq_nz, bq_nzJ, bq_bl, bq_blz, bq_T, bq_F, if_true, if_false, Int.reduceEq, Int.reduceLT, Int.reduceLE, Int.reduceAdd, Int.reduceSub, Int.reduceMul, Int.add_sub_cancel, li_0, li_1, li_4, li_9, li_10, li_19, li_20, li_29, li_100, li_199, li_4004, li_4032, li_4034, li_4051, li_4052, li_4058, ll_0, ll_1, ll_4, ll_9, ll_10, ll_19, ll_20, ll_29, ll_100, ll_199, ga103, ga105, ga119, ga120, ga106, ga107, ga108, ga109, ga110, ga111, ga116, ga118, ga104, ga112, ga114, ga115, ga117, ga113, ga121, gf102_5, gf102_13, gf102_14, gf102_0, gf102_6, gf102_7, gf102_8, gf102_9, gf102_10, gf102_11, gf102_12, gf102_15, gf102_19, gf102_20, gr102_1, gr102_2, gr102_3, gr102_4, gr102_16, gr102_17, gr102_18, gr102_21, gr102_22, gr102_23, gr102_24, gr102_25, gr102_26, gr102_27, gr102_28, gr102_29, gr102_30, gr102_31, gr102_32, pa103, pa105, pa119, pa120, pa106, pa107, pa108, pa109, pa110, pa111, pa116, pa118, pa104, pa112, pa114, pa115, pa117, pa113, pa121, pf102_5, pf102_13, pf102_14, pf102_0, pf102_6, pf102_7, pf102_8, pf102_9, pf102_10, pf102_11, pf102_12, pf102_15, pf102_19, pf102_20, s_within, t_isLost, t_fallen, t_isHurt, t_between, t_isPassage, t_isRoom, t_standNow, t_standsAll, t_isIn, t_noComing, t_noStand, t_bitsOf, u_tens4109]
            · rw [if_neg (fun k => c6 k.2)]
              simp (disch := first | assumption | omega) only [if_neg c1, if_neg c2, if_neg c3, if_pos c4, if_pos c5, em, if_neg c6, bi_add, bi_sub, bi_mul, bi_neg, bi_div, bi_64, bl_add, bl_sub, bl_mul, bl_neg, bl_div, bl_32, bi_min, bi_max, bl_min, bl_max, bq_I, bq_J, bq_A, bq_Vi, bq_Vl, bq_Vr, bq_cV, bq_cI, bq_cJ, bq_cA, bq_le, bq_lt, bq_eq, bq_z, bq_o, bq_ref, bq_nz, bq_nzJ, bq_bl, bq_blz, bq_T, bq_F, if_true, if_false, Int.reduceEq, Int.reduceLT, Int.reduceLE, Int.reduceAdd, Int.reduceSub, Int.reduceMul, Int.add_sub_cancel, li_0, li_1, li_4, li_9, li_10, li_19, li_20, li_29, li_100, li_199, li_4004, li_4032, li_4034, li_4051, li_4052, li_4058, ll_0, ll_1, ll_4, ll_9, ll_10, ll_19, ll_20, ll_29, ll_100, ll_199, ga103, ga105, ga119, ga120, ga106, ga107, ga108, ga109, ga110, ga111, ga116, ga118, ga104, ga112, ga114, ga115, ga117, ga113, ga121, gf102_5, gf102_13, gf102_14, gf102_0, gf102_6, gf102_7, gf102_8, gf102_9, gf102_10, gf102_11, gf102_12, gf102_15, gf102_19, gf102_20, gr102_1, gr102_2, gr102_3, gr102_4, gr102_16, gr102_17, gr102_18, gr102_21, gr102_22, gr102_23, gr102_24, gr102_25, gr102_26, gr102_27, gr102_28, gr102_29, gr102_30, gr102_31, gr102_32, pa103, pa105, pa119, pa120, pa106, pa107, pa108, pa109, pa110, pa111, pa116, pa118, pa104, pa112, pa114, pa115, pa117, pa113, pa121, pf102_5, pf102_13, pf102_14, pf102_0, pf102_6, pf102_7, pf102_8, pf102_9, pf102_10, pf102_11, pf102_12, pf102_15, pf102_19, pf102_20, s_within, t_isLost, t_fallen, t_isHurt, t_between, t_isPassage, t_isRoom, t_standNow, t_standsAll, t_isIn, t_noComing, t_noStand, t_bitsOf, u_tens4109]
          · rw [if_neg (fun k => c5 k.1)]
            simp (disch := first | assumption | omega) only [if_neg c1, if_neg c2, if_neg c3, if_pos c4, if_neg c5, bi_add, bi_sub, bi_mul, bi_neg, bi_div, bi_64, bl_add, bl_sub, bl_mul, bl_neg, bl_div, bl_32, bi_min, bi_max, bl_min, bl_max, bq_I, bq_J, bq_A, bq_Vi, bq_Vl, bq_Vr, bq_cV, bq_cI, bq_cJ, bq_cA, bq_le, bq_lt, bq_eq, bq_z, bq_o, bq_ref, bq_nz, bq_nzJ, bq_bl, bq_blz, bq_T, bq_F, if_true, if_false, Int.reduceEq, Int.reduceLT, Int.reduceLE, Int.reduceAdd, Int.reduceSub, Int.reduceMul, Int.add_sub_cancel, li_0, li_1, li_4, li_9, li_10, li_19, li_20, li_29, li_100, li_199, li_4004, li_4032, li_4034, li_4051, li_4052, li_4058, ll_0, ll_1, ll_4, ll_9, ll_10, ll_19, ll_20, ll_29, ll_100, ll_199, ga103, ga105, ga119, ga120, ga106, ga107, ga108, ga109, ga110, ga111, ga116, ga118, ga104, ga112, ga114, ga115, ga117, ga113, ga121, gf102_5, gf102_13, gf102_14, gf102_0, gf102_6, gf102_7, gf102_8, gf102_9, gf102_10, gf102_11, gf102_12, gf102_15, gf102_19, gf102_20, gr102_1, gr102_2, gr102_3, gr102_4, gr102_16, gr102_17, gr102_18, gr102_21, gr102_22, gr102_23, gr102_24, gr102_25, gr102_26, gr102_27, gr102_28, gr102_29, gr102_30, gr102_31, gr102_32, pa103, pa105, pa119, pa120, pa106, pa107, pa108, pa109, pa110, pa111, pa116, pa118, pa104, pa112, pa114, pa115, pa117, pa113, pa121, pf102_5, pf102_13, pf102_14, pf102_0, pf102_6, pf102_7, pf102_8, pf102_9, pf102_10, pf102_11, pf102_12, pf102_15, pf102_19, pf102_20, s_within, t_isLost, t_fallen, t_isHurt, t_between, t_isPassage, t_isRoom, t_standNow, t_standsAll, t_isIn, t_noComing, t_noStand, t_bitsOf, u_tens4109]
        · rw [if_neg c4]
          simp (disch := first | assumption | omega) only [if_neg c1, if_neg c2, if_neg c3, if_neg c4, bi_add, bi_sub, bi_mul, bi_neg, bi_div, bi_64, bl_add, bl_sub, bl_mul, bl_neg, bl_div, bl_32, bi_min, bi_max, bl_min, bl_max, bq_I, bq_J, bq_A, bq_Vi, bq_Vl, bq_Vr, bq_cV, bq_cI, bq_cJ, bq_cA, bq_le, bq_lt, bq_eq, bq_z, bq_o, bq_ref, bq_nz, bq_nzJ, bq_bl, bq_blz, bq_T, bq_F, if_true, if_false, Int.reduceEq, Int.reduceLT, Int.reduceLE, Int.reduceAdd, Int.reduceSub, Int.reduceMul, Int.add_sub_cancel, li_0, li_1, li_4, li_9, li_10, li_19, li_20, li_29, li_100, li_199, li_4004, li_4032, li_4034, li_4051, li_4052, li_4058, ll_0, ll_1, ll_4, ll_9, ll_10, ll_19, ll_20, ll_29, ll_100, ll_199, ga103, ga105, ga119, ga120, ga106, ga107, ga108, ga109, ga110, ga111, ga116, ga118, ga104, ga112, ga114, ga115, ga117, ga113, ga121, gf102_5, gf102_13, gf102_14, gf102_0, gf102_6, gf102_7, gf102_8, gf102_9, gf102_10, gf102_11, gf102_12, gf102_15, gf102_19, gf102_20, gr102_1, gr102_2, gr102_3, gr102_4, gr102_16, gr102_17, gr102_18, gr102_21, gr102_22, gr102_23, gr102_24, gr102_25, gr102_26, gr102_27, gr102_28, gr102_29, gr102_30, gr102_31, gr102_32, pa103, pa105, pa119, pa120, pa106, pa107, pa108, pa109, pa110, pa111, pa116, pa118, pa104, pa112, pa114, pa115, pa117, pa113, pa121, pf102_5, pf102_13, pf102_14, pf102_0, pf102_6, pf102_7, pf102_8, pf102_9, pf102_10, pf102_11, pf102_12, pf102_15, pf102_19, pf102_20, s_within, t_isLost, t_fallen, t_isHurt, t_between, t_isPassage, t_isRoom, t_standNow, t_standsAll, t_isIn, t_noComing, t_noStand, t_bitsOf, u_tens4109]
theorem four {P : Int → Prop} (h0 : P 0) (h1 : P 1) (h2 : P 2) (h3 : P 3) (k : Int) (k0 : 0 ≤ k) (k1 : k < 4) : P k := by
  have : k = 0 ∨ k = 1 ∨ k = 2 ∨ k = 3 := by omega
  rcases this with rfl | rfl | rfl | rfl <;> assumption
/-- the twin after a deed -/
def bDd (tp tp' : bF) (y : Int) : Prop := (∀ a, a ≠ 103 → tp' a = tp a) ∧ (∀ k, k < 42 ∨ 47 ≤ k → tp' 103 k = tp 103 k) ∧ (∀ k, 0 ≤ k → k < 4 → tS (tp' 103) k = doD (tp 103) (tS (tp 103)) y k) ∧ bSt (tp' 103) 42 (tp' 103 1)
theorem t_does (h : bTt g (tp 103)) (hy : whyD (tp 103) (tS (tp 103)) y = 0) (hD : 6 ≤ D) :
    ∃ tp' ts', (∀ a, a ≠ 107 → a ≠ 108 → ts' a = ts a) ∧ bDd tp tp' y ∧ bk_call D 4059 [.ref 102, .int (bk_i y)] (bk_M κ X (tp, tj, ts, tk) g n) = some (none, bk_M κ X (tp', tj, ts', tk) g n) := by
  obtain ⟨d, rfl⟩ := dep hD
  have st := bTt_st h
  have ht := h
  obtain ⟨hF, hw, hs⟩ := h
  have sl := bTt_sl hs
  have w4 : tp 103 2 ≤ 8 := by have := hw.2.2.2.1; simpa using this
  unfold bDd doD
  rw [kX4_does, eX4_does_0]
  rcases whyD_0 hy with ⟨a, b, c, e⟩ | ⟨a, b, c⟩ | ⟨a, b⟩ | ⟨a, b, c, e⟩
  · have e' : whyM (tp 103) (6 * tp 103 42 + tp 103 43) y (tp 103 44) (tp 103 45) = 0 := e
    have tr := thenM_rng (A := tp 103) (s := 6 * tp 103 42 + tp 103 43) (p := y) (rop := tp 103 44) (sl := tp 103 45) hw a c (by omega)
    obtain ⟨ts1, f1, q1⟩ := t_steps (κ := κ) (X := X) (tp := tp) (ts := ts) (tj := tj) (tk := tk) (n := n) (D := d) (v := y) ht a c e' (by omega)
    have eT : thenM (tp 103) (tS (tp 103) 0) y (tS (tp 103) 1) (tS (tp 103) 2) = thenM (tp 103) (6 * tp 103 42 + tp 103 43) y (tp 103 44) (tp 103 45) := rfl
    rw [if_pos b, eT]
    generalize thenM (tp 103) (6 * tp 103 42 + tp 103 43) y (tp 103 44) (tp 103 45) = T at q1 tr ⊢
    have eP : ∀ k, bU (atT tp T) 103 46 (tp 103 46 + 1) 103 k = if k = 46 then tp 103 46 + 1 else if k = 43 then T % 6 else if k = 42 then T / 6 else tp 103 k := fun k => by rw [bU_same, atT_at]
    have p1 := eP 1
    have p42 := eP 42
    have p43 := eP 43
    have p44 := eP 44
    have p45 := eP 45
    have p46 := eP 46
    simp only [Int.reduceEq, if_false, if_true] at p1 p42 p43 p44 p45 p46
    refine ⟨bU (atT tp T) 103 46 (tp 103 46 + 1), ts1, f1, ⟨fun x hx => ?_, fun k hk => ?_, ?_, ?_⟩, ?_⟩
    · funext k; rw [bU_ne _ _ _ _ _ _ hx, atT_ne _ _ hx]
    · rw [eP, if_neg (by omega), if_neg (by omega), if_neg (by omega)]
    · unfold tS
      rw [p42, p43, p44, p45, p46]
      exact four (show 6 * (T / 6) + T % 6 = T by omega) rfl rfl rfl
    · unfold bSt
      simp only [show (42 : Int) + 1 = 43 from rfl, show (42 : Int) + 2 = 44 from rfl, show (42 : Int) + 3 = 45 from rfl]
      rw [p1, p42, p43, p44, p45]
      omega
    · simp (disch := first | assumption | omega) only [if_neg (show ¬ 10 ≤ y by omega), q1, bi_add, bi_sub, bi_mul, bi_neg, bi_div, bi_64, bl_add, bl_sub, bl_mul, bl_neg, bl_div, bl_32, bi_min, bi_max, bl_min, bl_max, bq_I, bq_J, bq_A, bq_Vi, bq_Vl, bq_Vr, bq_cV, bq_cI, bq_cJ, bq_cA, bq_le, bq_lt, bq_eq, bq_z, bq_o, bq_ref, bq_nz, bq_nzJ, bq_bl, bq_blz, bq_T, bq_F, if_true, if_false, Int.reduceEq, Int.reduceLT, Int.reduceLE, Int.reduceAdd, Int.reduceSub, Int.reduceMul, Int.add_sub_cancel, li_0, li_1, li_4, li_6, li_10, li_20, li_30, li_31, li_44, li_45, li_100, li_4046, li_4047, li_4059, ll_0, ll_1, ll_4, ll_6, ll_10, ll_20, ll_30, ll_31, ll_44, ll_45, ll_100, ga103, ga105, ga119, ga120, ga106, ga107, ga108, ga109, ga110, ga111, ga116, ga118, ga104, ga112, ga114, ga115, ga117, ga113, ga121, gf102_5, gf102_13, gf102_14, gf102_0, gf102_6, gf102_7, gf102_8, gf102_9, gf102_10, gf102_11, gf102_12, gf102_15, gf102_19, gf102_20, gr102_1, gr102_2, gr102_3, gr102_4, gr102_16, gr102_17, gr102_18, gr102_21, gr102_22, gr102_23, gr102_24, gr102_25, gr102_26, gr102_27, gr102_28, gr102_29, gr102_30, gr102_31, gr102_32, pa103, pa105, pa119, pa120, pa106, pa107, pa108, pa109, pa110, pa111, pa116, pa118, pa104, pa112, pa114, pa115, pa117, pa113, pa121, pf102_5, pf102_13, pf102_14, pf102_0, pf102_6, pf102_7, pf102_8, pf102_9, pf102_10, pf102_11, pf102_12, pf102_15, pf102_19, pf102_20, s_within, t_isLost, t_fallen, t_isHurt, t_between, t_isPassage, t_isRoom, t_standNow, t_standsAll, t_isIn, t_noComing, t_noStand, t_bitsOf, u_tens4109]
  · rw [if_neg (by omega), if_pos b]
    have tr := tg_rng (s := tp 103 44) (k := y - 10) (by omega) (by omega) (by omega) (by omega)
    have ex : bk_i (tp 103 44) ^^^ (bk_i 1 <<< (bk_i (y - 10) &&& bk_i 31)) = bk_i (tg (tp 103 44) (y - 10)) := bi_tg _ _
    have eP : ∀ k, bU tp 103 44 (tg (tp 103 44) (y - 10)) 103 k = if k = 44 then tg (tp 103 44) (y - 10) else tp 103 k := fun k => by rw [bU_same]
    have p1 := eP 1
    have p42 := eP 42
    have p43 := eP 43
    have p44 := eP 44
    have p45 := eP 45
    have p46 := eP 46
    simp only [Int.reduceEq, if_false, if_true] at p1 p42 p43 p44 p45 p46
    refine ⟨bU tp 103 44 (tg (tp 103 44) (y - 10)), ts, fun _ _ _ => rfl, ⟨fun x hx => ?_, fun k hk => ?_, ?_, ?_⟩, ?_⟩
    · funext k; rw [bU_ne _ _ _ _ _ _ hx]
    · rw [eP, if_neg (by omega)]
    · unfold tS
      rw [p42, p43, p44, p45, p46]
      exact four rfl rfl rfl rfl
    · unfold bSt
      simp only [show (42 : Int) + 1 = 43 from rfl, show (42 : Int) + 2 = 44 from rfl, show (42 : Int) + 3 = 45 from rfl]
      rw [p1, p42, p43, p44, p45]
      omega
    · simp (disch := first | assumption | omega) only [if_pos a, if_neg (show ¬ 20 ≤ y by omega), ex, bi_add, bi_sub, bi_mul, bi_neg, bi_div, bi_64, bl_add, bl_sub, bl_mul, bl_neg, bl_div, bl_32, bi_min, bi_max, bl_min, bl_max, bq_I, bq_J, bq_A, bq_Vi, bq_Vl, bq_Vr, bq_cV, bq_cI, bq_cJ, bq_cA, bq_le, bq_lt, bq_eq, bq_z, bq_o, bq_ref, bq_nz, bq_nzJ, bq_bl, bq_blz, bq_T, bq_F, if_true, if_false, Int.reduceEq, Int.reduceLT, Int.reduceLE, Int.reduceAdd, Int.reduceSub, Int.reduceMul, Int.add_sub_cancel, li_0, li_1, li_4, li_6, li_10, li_20, li_30, li_31, li_44, li_45, li_100, li_4046, li_4047, li_4059, ll_0, ll_1, ll_4, ll_6, ll_10, ll_20, ll_30, ll_31, ll_44, ll_45, ll_100, ga103, ga105, ga119, ga120, ga106, ga107, ga108, ga109, ga110, ga111, ga116, ga118, ga104, ga112, ga114, ga115, ga117, ga113, ga121, gf102_5, gf102_13, gf102_14, gf102_0, gf102_6, gf102_7, gf102_8, gf102_9, gf102_10, gf102_11, gf102_12, gf102_15, gf102_19, gf102_20, gr102_1, gr102_2, gr102_3, gr102_4, gr102_16, gr102_17, gr102_18, gr102_21, gr102_22, gr102_23, gr102_24, gr102_25, gr102_26, gr102_27, gr102_28, gr102_29, gr102_30, gr102_31, gr102_32, pa103, pa105, pa119, pa120, pa106, pa107, pa108, pa109, pa110, pa111, pa116, pa118, pa104, pa112, pa114, pa115, pa117, pa113, pa121, pf102_5, pf102_13, pf102_14, pf102_0, pf102_6, pf102_7, pf102_8, pf102_9, pf102_10, pf102_11, pf102_12, pf102_15, pf102_19, pf102_20, s_within, t_isLost, t_fallen, t_isHurt, t_between, t_isPassage, t_isRoom, t_standNow, t_standsAll, t_isIn, t_noComing, t_noStand, t_bitsOf, u_tens4109]
  · rw [if_neg (by omega), if_neg (by omega), if_pos b]
    have eP : ∀ k, bU tp 103 45 (y - 20) 103 k = if k = 45 then y - 20 else tp 103 k := fun k => by rw [bU_same]
    have p1 := eP 1
    have p42 := eP 42
    have p43 := eP 43
    have p44 := eP 44
    have p45 := eP 45
    have p46 := eP 46
    simp only [Int.reduceEq, if_false, if_true] at p1 p42 p43 p44 p45 p46
    refine ⟨bU tp 103 45 (y - 20), ts, fun _ _ _ => rfl, ⟨fun x hx => ?_, fun k hk => ?_, ?_, ?_⟩, ?_⟩
    · funext k; rw [bU_ne _ _ _ _ _ _ hx]
    · rw [eP, if_neg (by omega)]
    · unfold tS
      rw [p42, p43, p44, p45, p46]
      exact four rfl rfl rfl rfl
    · unfold bSt
      simp only [show (42 : Int) + 1 = 43 from rfl, show (42 : Int) + 2 = 44 from rfl, show (42 : Int) + 3 = 45 from rfl]
      rw [p1, p42, p43, p44, p45]
      omega
    · simp (disch := first | assumption | omega) only [if_pos (show 10 ≤ y by omega), if_pos a, if_neg (show ¬ 30 ≤ y by omega), bi_add, bi_sub, bi_mul, bi_neg, bi_div, bi_64, bl_add, bl_sub, bl_mul, bl_neg, bl_div, bl_32, bi_min, bi_max, bl_min, bl_max, bq_I, bq_J, bq_A, bq_Vi, bq_Vl, bq_Vr, bq_cV, bq_cI, bq_cJ, bq_cA, bq_le, bq_lt, bq_eq, bq_z, bq_o, bq_ref, bq_nz, bq_nzJ, bq_bl, bq_blz, bq_T, bq_F, if_true, if_false, Int.reduceEq, Int.reduceLT, Int.reduceLE, Int.reduceAdd, Int.reduceSub, Int.reduceMul, Int.add_sub_cancel, li_0, li_1, li_4, li_6, li_10, li_20, li_30, li_31, li_44, li_45, li_100, li_4046, li_4047, li_4059, ll_0, ll_1, ll_4, ll_6, ll_10, ll_20, ll_30, ll_31, ll_44, ll_45, ll_100, ga103, ga105, ga119, ga120, ga106, ga107, ga108, ga109, ga110, ga111, ga116, ga118, ga104, ga112, ga114, ga115, ga117, ga113, ga121, gf102_5, gf102_13, gf102_14, gf102_0, gf102_6, gf102_7, gf102_8, gf102_9, gf102_10, gf102_11, gf102_12, gf102_15, gf102_19, gf102_20, gr102_1, gr102_2, gr102_3, gr102_4, gr102_16, gr102_17, gr102_18, gr102_21, gr102_22, gr102_23, gr102_24, gr102_25, gr102_26, gr102_27, gr102_28, gr102_29, gr102_30, gr102_31, gr102_32, pa103, pa105, pa119, pa120, pa106, pa107, pa108, pa109, pa110, pa111, pa116, pa118, pa104, pa112, pa114, pa115, pa117, pa113, pa121, pf102_5, pf102_13, pf102_14, pf102_0, pf102_6, pf102_7, pf102_8, pf102_9, pf102_10, pf102_11, pf102_12, pf102_15, pf102_19, pf102_20, s_within, t_isLost, t_fallen, t_isHurt, t_between, t_isPassage, t_isRoom, t_standNow, t_standsAll, t_isIn, t_noComing, t_noStand, t_bitsOf, u_tens4109]
  · rw [if_neg (by omega), if_neg (by omega), if_neg (by omega)]
    have em : y - y / 10 * 10 = y % 10 := by omega
    have q1 := t_isAt (κ := κ) (X := X) (tp := tp) (ts := ts) (tj := tj) (tk := tk) (n := n) (D := d) (v := 6 * ((y - 100) / 10) + y % 10) hF (by omega) (by omega) (by omega)
    have eP := atT_at tp (6 * ((y - 100) / 10) + y % 10)
    have p1 := eP 1
    have p42 := eP 42
    have p43 := eP 43
    have p44 := eP 44
    have p45 := eP 45
    have p46 := eP 46
    simp only [Int.reduceEq, if_false, if_true] at p1 p42 p43 p44 p45 p46
    refine ⟨atT tp (6 * ((y - 100) / 10) + y % 10), ts, fun _ _ _ => rfl, ⟨fun x hx => atT_ne _ _ hx, fun k hk => ?_, ?_, ?_⟩, ?_⟩
    · rw [eP, if_neg (by omega), if_neg (by omega)]
    · unfold tS
      rw [p42, p43, p44, p45, p46]
      exact four (show 6 * ((6 * ((y - 100) / 10) + y % 10) / 6) + (6 * ((y - 100) / 10) + y % 10) % 6 = 6 * ((y - 100) / 10) + y % 10 by omega) rfl rfl rfl
    · unfold bSt
      simp only [show (42 : Int) + 1 = 43 from rfl, show (42 : Int) + 2 = 44 from rfl, show (42 : Int) + 3 = 45 from rfl]
      rw [p1, p42, p43, p44, p45]
      omega
    · simp (disch := first | assumption | omega) only [if_pos (show 10 ≤ y by omega), if_pos (show 20 ≤ y by omega), if_pos (show 30 ≤ y by omega), em, q1, bi_add, bi_sub, bi_mul, bi_neg, bi_div, bi_64, bl_add, bl_sub, bl_mul, bl_neg, bl_div, bl_32, bi_min, bi_max, bl_min, bl_max, bq_I, bq_J, bq_A, bq_Vi, bq_Vl, bq_Vr, bq_cV, bq_cI, bq_cJ, bq_cA, bq_le, bq_lt, bq_eq, bq_z, bq_o, bq_ref, bq_nz, bq_nzJ, bq_bl, bq_blz, bq_T, bq_F, if_true, if_false, Int.reduceEq, Int.reduceLT, Int.reduceLE, Int.reduceAdd, Int.reduceSub, Int.reduceMul, Int.add_sub_cancel, li_0, li_1, li_4, li_6, li_10, li_20, li_30, li_31, li_44, li_45, li_100, li_4046, li_4047, li_4059, ll_0, ll_1, ll_4, ll_6, ll_10, ll_20, ll_30, ll_31, ll_44, ll_45, ll_100, ga103, ga105, ga119, ga120, ga106, ga107, ga108, ga109, ga110, ga111, ga116, ga118, ga104, ga112, ga114, ga115, ga117, ga113, ga121, gf102_5, gf102_13, gf102_14, gf102_0, gf102_6, gf102_7, gf102_8, gf102_9, gf102_10, gf102_11, gf102_12, gf102_15, gf102_19, gf102_20, gr102_1, gr102_2, gr102_3, gr102_4, gr102_16, gr102_17, gr102_18, gr102_21, gr102_22, gr102_23, gr102_24, gr102_25, gr102_26, gr102_27, gr102_28, gr102_29, gr102_30, gr102_31, gr102_32, pa103, pa105, pa119, pa120, pa106, pa107, pa108, pa109, pa110, pa111, pa116, pa118, pa104, pa112, pa114, pa115, pa117, pa113, pa121, pf102_5, pf102_13, pf102_14, pf102_0, pf102_6, pf102_7, pf102_8, pf102_9, pf102_10, pf102_11, pf102_12, pf102_15, pf102_19, pf102_20, s_within, t_isLost, t_fallen, t_isHurt, t_between, t_isPassage, t_isRoom, t_standNow, t_standsAll, t_isIn, t_noComing, t_noStand, t_bitsOf, u_tens4109]
end TQ
