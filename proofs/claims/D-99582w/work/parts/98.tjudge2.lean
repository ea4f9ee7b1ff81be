/-! SPECS: the twin: judge -/
set_option maxRecDepth 100000
def rJudge (A f : Int → Int) (m J nt what z : Int) : Prop := z = if 0 ≤ what ∧ what ≤ 3 then (if nt = 0 then (if what = 0 then (if J = m then -1 else J) else if what = 1 then (if J = m then 0 else whyD A (goS A (tS A) f J.toNat) (f J)) else if what = 2 then goS A (tS A) f J.toNat 0 / 6 else goS A (tS A) f J.toNat 0 % 6) else nt) else -2
section JV
variable {κ : Nat → Nat} {X : bX} {tp ts : bF} {tj tk : bFJ} {g : bG} {n : Nat × Nat} {f : Int → Int} {i m J what : Int} {D : Nat}
theorem noT_i {r : Int} (q : noT r i = 0) : 0 ≤ i ∧ i ≤ 3 := by
  unfold noT at q
  by_cases c : 0 ≤ i ∧ i ≤ 3
  · exact c
  · rw [if_neg c] at q; exact absurd q (by decide)
theorem noT_rng (r i : Int) : -6 ≤ noT r i ∧ noT r i ≤ 0 := by
  unfold noT
  repeat' (first | omega | split)
theorem m_judge (h : bTt g (tp 103)) (h3 : -2147483648 ≤ i) (h4 : i < 2147483648) (h5 : -2147483648 ≤ what) (h6 : what < 2147483648) (hr : 0 ≤ i → i < 4 → -1 ≤ tp 119 i ∧ tp 119 i < 4) (m0 : 0 ≤ m) (m1 : m ≤ 40) (hf : ∀ k, -9223372036854775808 ≤ f k ∧ f k < 9223372036854775808) (ht : noT (tp 119 i) i = 0 → bTy tp tj i m f) (hJ : isJ (tp 103) (tS (tp 103)) f m J) (hD : 9 ≤ D) :
    bk_wp (bk_call D 4055 [.ref 102, .int (bk_i i), .int (bk_i what)] (bk_M κ X (tp, tj, ts, tk) g n)) (bTq κ X tp tj g n (rJudge (tp 103) f m J (noT (tp 119 i) i) what)) := by
  obtain ⟨d, rfl⟩ := dep hD
  have hh := h
  obtain ⟨hF, hw, hs⟩ := h
  have nr := noT_rng (tp 119 i) i
  have eN : bk_call d 4056 [.ref 102, .int (bk_i i)] (bk_M κ X (tp, tj, bU ts 102 0 0, tk) g n) = some (some (.int (bk_i (noT (tp 119 i) i))), bk_M κ X (tp, tj, bU ts 102 0 0, tk) g n) := t_noTray hF h3 h4 hr (by omega)
  unfold rJudge
  rw [kX4_judge, eX4_judge_0]
  by_cases qw : 0 ≤ what ∧ what ≤ 3
  · by_cases q : noT (tp 119 i) i = 0
    · have qi := noT_i q
      obtain ⟨hm, hj⟩ := ht q
      obtain ⟨ts1, f1, k1, e1⟩ := t_keeps (κ := κ) (X := X) (tp := tp) (ts := bU ts 102 0 0) (tj := tj) (tk := tk) (n := n) (D := d) hF (by omega)
      obtain ⟨x, t, K, xJ, xa, xb, xc, xs, xw, xz, x0, e2⟩ := t_tells (κ := κ) (X := X) (tp := tp) (ts := ts1) (tj := tj) (tk := tk) (n := n) (D := d) hh qi.1 (by omega) m0 m1 hm hf hj (by omega)
      have eK := isJ_uniq xJ hJ
      subst eK
      have jb := xJ.1
      have jc := xJ.2.1
      obtain ⟨x3, y1, y2, y3, e3⟩ := t_isAgain (κ := κ) (X := X) (tp := x) (ts := t) (tj := tj) (tk := tk) (g := g) (n := n) (D := d) hF (by omega)
      have ex : x3 = tp := by
        funext a k
        by_cases c : a = 103
        · subst c
          by_cases c2 : k < 42 ∨ 47 ≤ k
          · rw [y2 k c2, xb k c2]
          · have e := y3 (k - 42) (by omega) (by omega)
            have e42 : 42 + (k - 42) = k := by omega
            rw [e42, xw, k1 (k - 42) (by omega) (by omega), e42] at e
            exact e
        · rw [y1 a c, xa a c]
      subst ex
      have s0 : 6 * x 103 42 + x 103 43 = goS (x3 103) (tS (x3 103)) f K.toNat 0 := xc 0 (by decide) (by decide)
      have sl := bTt_sl xs
      have w2 : x3 103 1 ≤ 6 := by have := hw.2.1; simpa using this
      have x1 : x 103 1 = x3 103 1 := xb 1 (by omega)
      have wr := whyD_rng (x3 103) (goS (x3 103) (tS (x3 103)) f K.toNat) (f K)
      have em : goS (x3 103) (tS (x3 103)) f K.toNat 0 - goS (x3 103) (tS (x3 103)) f K.toNat 0 / 6 * 6 = goS (x3 103) (tS (x3 103)) f K.toNat 0 % 6 := by omega
      have w0 : K ≠ m → whyD (x3 103) (goS (x3 103) (tS (x3 103)) f K.toNat) (f K) ≠ 0 := fun c => xJ.2.2.2.resolve_left c
      have b19 : 0 ≤ t 102 19 ∧ t 102 19 ≤ 4 := by
        rw [xz]
        split <;> omega
      rw [if_pos qw, if_pos q]
      by_cases c0 : what = 0
      · by_cases cK : K = m
        · rw [if_pos cK] at xz
          simp (disch := first | assumption | omega) only [if_pos qw, eN, if_pos q, e1, e2, e3, if_pos c0, xz, if_true, bi_add, bi_sub, bi_mul, bi_neg, bi_div, bi_64, bl_add, bl_sub, bl_mul, bl_neg, bl_div, bl_32, bi_min, bi_max, bl_min, bl_max, bq_I, bq_J, bq_A, bq_Vi, bq_Vl, bq_Vr, bq_cV, bq_cI, bq_cJ, bq_cA, bq_le, bq_lt, bq_eq, bq_z, bq_o, bq_ref, bq_nz, bq_nzJ, bq_bl, bq_blz, bq_T, bq_F, if_true, if_false, Int.reduceEq, Int.reduceLT, Int.reduceLE, Int.reduceAdd, Int.reduceSub, Int.reduceMul, Int.add_sub_cancel, li_0, li_1, li_2, li_3, li_4, li_6, li_19, li_4004, li_4035, li_4045, li_4055, li_4056, li_4057, li_4060, ll_0, ll_1, ll_2, ll_3, ll_4, ll_6, ll_19, ga103, ga105, ga119, ga120, ga106, ga107, ga108, ga109, ga110, ga111, ga116, ga118, ga104, ga112, ga114, ga115, ga117, ga113, ga121, gf102_5, gf102_13, gf102_14, gf102_0, gf102_6, gf102_7, gf102_8, gf102_9, gf102_10, gf102_11, gf102_12, gf102_15, gf102_19, gf102_20, gr102_1, gr102_2, gr102_3, gr102_4, gr102_16, gr102_17, gr102_18, gr102_21, gr102_22, gr102_23, gr102_24, gr102_25, gr102_26, gr102_27, gr102_28, gr102_29, gr102_30, gr102_31, gr102_32, pa103, pa105, pa119, pa120, pa106, pa107, pa108, pa109, pa110, pa111, pa116, pa118, pa104, pa112, pa114, pa115, pa117, pa113, pa121, pf102_5, pf102_13, pf102_14, pf102_0, pf102_6, pf102_7, pf102_8, pf102_9, pf102_10, pf102_11, pf102_12, pf102_15, pf102_19, pf102_20, s_within, t_isLost, t_fallen, t_isHurt, t_between, t_isPassage, t_isRoom, t_standNow, t_standsAll, t_isIn, t_noComing, t_noStand, t_bitsOf, u_tens4109, t_draw]
          exact ⟨_, _, rfl, t, tk, _, rfl, rfl, (if_pos cK).symm⟩
        · rw [if_neg cK] at xz
          have w1 := w0 cK
          simp (disch := first | assumption | omega) only [if_pos qw, eN, if_pos q, e1, e2, e3, if_pos c0, xz, if_neg w1, bi_add, bi_sub, bi_mul, bi_neg, bi_div, bi_64, bl_add, bl_sub, bl_mul, bl_neg, bl_div, bl_32, bi_min, bi_max, bl_min, bl_max, bq_I, bq_J, bq_A, bq_Vi, bq_Vl, bq_Vr, bq_cV, bq_cI, bq_cJ, bq_cA, bq_le, bq_lt, bq_eq, bq_z, bq_o, bq_ref, bq_nz, bq_nzJ, bq_bl, bq_blz, bq_T, bq_F, if_true, if_false, Int.reduceEq, Int.reduceLT, Int.reduceLE, Int.reduceAdd, Int.reduceSub, Int.reduceMul, Int.add_sub_cancel, li_0, li_1, li_2, li_3, li_4, li_6, li_19, li_4004, li_4035, li_4045, li_4055, li_4056, li_4057, li_4060, ll_0, ll_1, ll_2, ll_3, ll_4, ll_6, ll_19, ga103, ga105, ga119, ga120, ga106, ga107, ga108, ga109, ga110, ga111, ga116, ga118, ga104, ga112, ga114, ga115, ga117, ga113, ga121, gf102_5, gf102_13, gf102_14, gf102_0, gf102_6, gf102_7, gf102_8, gf102_9, gf102_10, gf102_11, gf102_12, gf102_15, gf102_19, gf102_20, gr102_1, gr102_2, gr102_3, gr102_4, gr102_16, gr102_17, gr102_18, gr102_21, gr102_22, gr102_23, gr102_24, gr102_25, gr102_26, gr102_27, gr102_28, gr102_29, gr102_30, gr102_31, gr102_32, pa103, pa105, pa119, pa120, pa106, pa107, pa108, pa109, pa110, pa111, pa116, pa118, pa104, pa112, pa114, pa115, pa117, pa113, pa121, pf102_5, pf102_13, pf102_14, pf102_0, pf102_6, pf102_7, pf102_8, pf102_9, pf102_10, pf102_11, pf102_12, pf102_15, pf102_19, pf102_20, s_within, t_isLost, t_fallen, t_isHurt, t_between, t_isPassage, t_isRoom, t_standNow, t_standsAll, t_isIn, t_noComing, t_noStand, t_bitsOf, u_tens4109, t_draw]
          exact ⟨_, _, rfl, t, tk, _, rfl, rfl, (if_neg cK).symm⟩
      · by_cases c1 : what = 1
        · simp (disch := first | assumption | omega) only [if_pos qw, eN, if_pos q, e1, e2, e3, if_neg c0, if_pos c1, bi_add, bi_sub, bi_mul, bi_neg, bi_div, bi_64, bl_add, bl_sub, bl_mul, bl_neg, bl_div, bl_32, bi_min, bi_max, bl_min, bl_max, bq_I, bq_J, bq_A, bq_Vi, bq_Vl, bq_Vr, bq_cV, bq_cI, bq_cJ, bq_cA, bq_le, bq_lt, bq_eq, bq_z, bq_o, bq_ref, bq_nz, bq_nzJ, bq_bl, bq_blz, bq_T, bq_F, if_true, if_false, Int.reduceEq, Int.reduceLT, Int.reduceLE, Int.reduceAdd, Int.reduceSub, Int.reduceMul, Int.add_sub_cancel, li_0, li_1, li_2, li_3, li_4, li_6, li_19, li_4004, li_4035, li_4045, li_4055, li_4056, li_4057, li_4060, ll_0, ll_1, ll_2, ll_3, ll_4, ll_6, ll_19, ga103, ga105, ga119, ga120, ga106, ga107, ga108, ga109, ga110, ga111, ga116, ga118, ga104, ga112, ga114, ga115, ga117, ga113, ga121, gf102_5, gf102_13, gf102_14, gf102_0, gf102_6, gf102_7, gf102_8, gf102_9, gf102_10, gf102_11, gf102_12, gf102_15, gf102_19, gf102_20, gr102_1, gr102_2, gr102_3, gr102_4, gr102_16, gr102_17, gr102_18, gr102_21, gr102_22, gr102_23, gr102_24, gr102_25, gr102_26, gr102_27, gr102_28, gr102_29, gr102_30, gr102_31, gr102_32, pa103, pa105, pa119, pa120, pa106, pa107, pa108, pa109, pa110, pa111, pa116, pa118, pa104, pa112, pa114, pa115, pa117, pa113, pa121, pf102_5, pf102_13, pf102_14, pf102_0, pf102_6, pf102_7, pf102_8, pf102_9, pf102_10, pf102_11, pf102_12, pf102_15, pf102_19, pf102_20, s_within, t_isLost, t_fallen, t_isHurt, t_between, t_isPassage, t_isRoom, t_standNow, t_standsAll, t_isIn, t_noComing, t_noStand, t_bitsOf, u_tens4109, t_draw]
          exact ⟨_, _, rfl, t, tk, _, rfl, rfl, xz⟩
        · by_cases c2 : what = 2
          · simp (disch := first | assumption | omega) only [if_pos qw, eN, if_pos q, e1, e2, e3, if_neg c0, if_neg c1, if_pos c2, s0, bi_add, bi_sub, bi_mul, bi_neg, bi_div, bi_64, bl_add, bl_sub, bl_mul, bl_neg, bl_div, bl_32, bi_min, bi_max, bl_min, bl_max, bq_I, bq_J, bq_A, bq_Vi, bq_Vl, bq_Vr, bq_cV, bq_cI, bq_cJ, bq_cA, bq_le, bq_lt, bq_eq, bq_z, bq_o, bq_ref, bq_nz, bq_nzJ, bq_bl, bq_blz, bq_T, bq_F, if_true, if_false, Int.reduceEq, Int.reduceLT, Int.reduceLE, Int.reduceAdd, Int.reduceSub, Int.reduceMul, Int.add_sub_cancel, li_0, li_1, li_2, li_3, li_4, li_6, li_19, li_4004, li_4035, li_4045, li_4055, li_4056, li_4057, li_4060, ll_0, ll_1, ll_2, ll_3, ll_4, ll_6, ll_19, ga103, ga105, ga119, ga120, ga106, ga107, ga108, ga109, ga110, ga111, ga116, ga118, ga104, ga112, ga114, ga115, ga117, ga113, ga121, gf102_5, gf102_13, gf102_14, gf102_0, gf102_6, gf102_7, gf102_8, gf102_9, gf102_10, gf102_11, gf102_12, gf102_15, gf102_19, gf102_20, gr102_1, gr102_2, gr102_3, gr102_4, gr102_16, gr102_17, gr102_18, gr102_21, gr102_22, gr102_23, gr102_24, gr102_25, gr102_26, gr102_27, gr102_28, gr102_29, gr102_30, gr102_31, gr102_32, pa103, pa105, pa119, pa120, pa106, pa107, pa108, pa109, pa110, pa111, pa116, pa118, pa104, pa112, pa114, pa115, pa117, pa113, pa121, pf102_5, pf102_13, pf102_14, pf102_0, pf102_6, pf102_7, pf102_8, pf102_9, pf102_10, pf102_11, pf102_12, pf102_15, pf102_19, pf102_20, s_within, t_isLost, t_fallen, t_isHurt, t_between, t_isPassage, t_isRoom, t_standNow, t_standsAll, t_isIn, t_noComing, t_noStand, t_bitsOf, u_tens4109, t_draw]
            exact ⟨_, _, rfl, t, tk, _, rfl, rfl, rfl⟩
          · simp (disch := first | assumption | omega) only [if_pos qw, eN, if_pos q, e1, e2, e3, if_neg c0, if_neg c1, if_neg c2, s0, em, bi_add, bi_sub, bi_mul, bi_neg, bi_div, bi_64, bl_add, bl_sub, bl_mul, bl_neg, bl_div, bl_32, bi_min, bi_max, bl_min, bl_max, bq_I, bq_J, bq_A, bq_Vi, bq_Vl, bq_Vr, bq_cV, bq_cI, bq_cJ, bq_cA, bq_le, bq_lt, bq_eq, bq_z, bq_o, bq_ref, bq_nz, bq_nzJ, bq_bl, bq_blz, bq_T, bq_F, if_true, if_false, Int.reduceEq, Int.reduceLT, Int.reduceLE, Int.reduceAdd, Int.reduceSub, Int.reduceMul, Int.add_sub_cancel, li_0, li_1, li_2, li_3, li_4, li_6, li_19, li_4004, li_4035, li_4045, li_4055, li_4056, li_4057, li_4060, ll_0, ll_1, ll_2, ll_3, ll_4, ll_6, ll_19, ga103, ga105, ga119, ga120, ga106, ga107, ga108, ga109, ga110, ga111, ga116, ga118, ga104, ga112, ga114, ga115, ga117, ga113, ga121, gf102_5, gf102_13, gf102_14, gf102_0, gf102_6, gf102_7, gf102_8, gf102_9, gf102_10, gf102_11, gf102_12, gf102_15, gf102_19, gf102_20, gr102_1, gr102_2, gr102_3, gr102_4, gr102_16, gr102_17, gr102_18, gr102_21, gr102_22, gr102_23, gr102_24, gr102_25, gr102_26, gr102_27, gr102_28, gr102_29, gr102_30, gr102_31, gr102_32, pa103, pa105, pa119, pa120, pa106, pa107, pa108, pa109, pa110, pa111, pa116, pa118, pa104, pa112, pa114, pa115, pa117, pa113, pa121, pf102_5, pf102_13, pf102_14, pf102_0, pf102_6, pf102_7, pf102_8, pf102_9, pf102_10, pf102_11, pf102_12, pf102_15, pf102_19, pf102_20, s_within, t_isLost, t_fallen, t_isHurt, t_between, t_isPassage, t_isRoom, t_standNow, t_standsAll, t_isIn, t_noComing, t_noStand, t_bitsOf, u_tens4109, t_draw]
            exact ⟨_, _, rfl, t, tk, _, rfl, rfl, rfl⟩
    · simp (disch := first | assumption | omega) only [if_pos qw, eN, if_neg q, bi_add, bi_sub, bi_mul, bi_neg, bi_div, bi_64, bl_add, bl_sub, bl_mul, bl_neg, bl_div, bl_32, bi_min, bi_max, bl_min, bl_max, bq_I, bq_J, bq_A, bq_Vi, bq_Vl, bq_Vr, bq_cV, bq_cI, bq_cJ, bq_cA, bq_le, bq_lt, bq_eq, bq_z, bq_o, bq_ref, bq_nz, bq_nzJ, bq_bl, bq_blz, bq_T, bq_F, if_true, if_false, Int.reduceEq, Int.reduceLT, Int.reduceLE, Int.reduceAdd, Int.reduceSub, Int.reduceMul, Int.add_sub_cancel, li_0, li_1, li_2, li_3, li_4, li_6, li_19, li_4004, li_4035, li_4045, li_4055, li_4056, li_4057, li_4060, ll_0, ll_1, ll_2, ll_3, ll_4, ll_6, ll_19, ga103, ga105, ga119, ga120, ga106, ga107, ga108, ga109, ga110, ga111, ga116, ga118, ga104, ga112, ga114, ga115, ga117, ga113, ga121, gf102_5, gf102_13, gf102_14, gf102_0, gf102_6, gf102_7, gf102_8, gf102_9, gf102_10, gf102_11, gf102_12, gf102_15, gf102_19, gf102_20, gr102_1, gr102_2, gr102_3, gr102_4, gr102_16, gr102_17, gr102_18, gr102_21, gr102_22, gr102_23, gr102_24, gr102_25, gr102_26, gr102_27, gr102_28, gr102_29, gr102_30, gr102_31, gr102_32, pa103, pa105, pa119, pa120, pa106, pa107, pa108, pa109, pa110, pa111, pa116, pa118, pa104, pa112, pa114, pa115, pa117, pa113, pa121, pf102_5, pf102_13, pf102_14, pf102_0, pf102_6, pf102_7, pf102_8, pf102_9, pf102_10, pf102_11, pf102_12, pf102_15, pf102_19, pf102_20, s_within, t_isLost, t_fallen, t_isHurt, t_between, t_isPassage, t_isRoom, t_standNow, t_standsAll, t_isIn, t_noComing, t_noStand, t_bitsOf, u_tens4109, t_draw]
      exact ⟨_, _, rfl, _, tk, _, rfl, rfl, rfl⟩
  · simp (disch := first | assumption | omega) only [if_neg qw, bi_add, bi_sub, bi_mul, bi_neg, bi_div, bi_64, bl_add, bl_sub, bl_mul, bl_neg, bl_div, bl_32, bi_min, bi_max, bl_min, bl_max, bq_I, bq_J, bq_A, bq_Vi, bq_Vl, bq_Vr, bq_cV, bq_cI, bq_cJ, bq_cA, bq_le, bq_lt, bq_eq, bq_z, bq_o, bq_ref, bq_nz, bq_nzJ, bq_bl, bq_blz, bq_T, bq_F, if_true, if_false, Int.reduceEq, Int.reduceLT, Int.reduceLE, Int.reduceAdd, Int.reduceSub, Int.reduceMul, Int.add_sub_cancel, li_0, li_1, li_2, li_3, li_4, li_6, li_19, li_4004, li_4035, li_4045, li_4055, li_4056, li_4057, li_4060, ll_0, ll_1, ll_2, ll_3, ll_4, ll_6, ll_19, ga103, ga105, ga119, ga120, ga106, ga107, ga108, ga109, ga110, ga111, ga116, ga118, ga104, ga112, ga114, ga115, ga117, ga113, ga121, gf102_5, gf102_13, gf102_14, gf102_0, gf102_6, gf102_7, gf102_8, gf102_9, gf102_10, gf102_11, gf102_12, gf102_15, gf102_19, gf102_20, gr102_1, gr102_2, gr102_3, gr102_4, gr102_16, gr102_17, gr102_18, gr102_21, gr102_22, gr102_23, gr102_24, gr102_25, gr102_26, gr102_27, gr102_28, gr102_29, gr102_30, gr102_31, gr102_32, pa103, pa105, pa119, pa120, pa106, pa107, pa108, pa109, pa110, pa111, pa116, pa118, pa104, pa112, pa114, pa115, pa117, pa113, pa121, pf102_5, pf102_13, pf102_14, pf102_0, pf102_6, pf102_7, pf102_8, pf102_9, pf102_10, pf102_11, pf102_12, pf102_15, pf102_19, pf102_20, s_within, t_isLost, t_fallen, t_isHurt, t_between, t_isPassage, t_isRoom, t_standNow, t_standsAll, t_isIn, t_noComing, t_noStand, t_bitsOf, u_tens4109, t_draw]
    exact ⟨_, _, rfl, _, tk, _, rfl, rfl, rfl⟩
end JV
