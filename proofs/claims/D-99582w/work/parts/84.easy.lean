/-! SPECS: passage, why, by: both sides -/
set_option maxRecDepth 100000
def whyG (A : Int → Int) (s rop sl v : Int) : Int := if 0 ≤ v ∧ v ≤ A 2 - 1 then whyM A s v rop sl else 1
theorem whyG_rng (A : Int → Int) (s rop sl v : Int) : 0 ≤ whyG A s rop sl v ∧ whyG A s rop sl v ≤ 4 := by
  unfold whyG
  have := whyM_rng A s v rop sl
  split <;> omega
theorem whyG_0 {A : Int → Int} {s rop sl v : Int} (h : whyG A s rop sl v = 0) : 0 ≤ v ∧ v < A 2 ∧ whyM A s v rop sl = 0 := by
  unfold whyG at h
  by_cases q : 0 ≤ v ∧ v ≤ A 2 - 1
  · rw [if_pos q] at h; exact ⟨q.1, by omega, h⟩
  · rw [if_neg q] at h; exact absurd h (by decide)
def rPass (A : Int → Int) (i what z : Int) : Prop := z = if 0 ≤ i ∧ i ≤ A 2 - 1 then (if what = 0 then A (10 + i) else if what = 1 then A (18 + i) else if what = 2 then A (26 + i) else if what = 3 then A (34 + i) else if what = 4 then bt (A 44) i else -2) else -2
def rWhy (A : Int → Int) (i z : Int) : Prop := z = whyG A (6 * A 42 + A 43) (A 44) (A 45) i
def rBy (A : Int → Int) (i what z : Int) : Prop := z = if 0 ≤ what ∧ what ≤ 1 then (if whyG A (6 * A 42 + A 43) (A 44) (A 45) i = 0 then (if what = 0 then thenM A (6 * A 42 + A 43) i (A 44) (A 45) / 6 else thenM A (6 * A 42 + A 43) i (A 44) (A 45) % 6) else -5) else -2
section EZ
variable {κ : Nat → Nat} {cp cs : bF} {cj : bFJ} {X : bX} {Y : bY} {tp ts : bF} {tj tk : bFJ} {g : bG} {n : Nat × Nat} {ca : Nat} {A : Int → Int} {s p v i what : Int} {D : Nat}
theorem s_whyGo70 (hF : bFix g) (hc : bRC κ g ca A) (hw : bWF A 0) (h1 : -2147483648 ≤ v) (h2 : v < 2147483648) (h3 : 0 ≤ cp 70 0) (h4 : cp 70 0 < 36) (h5 : 0 ≤ cp 70 2) (h6 : cp 70 2 ≤ 9) (hD : 906 ≤ D) :
    ∃ cs', (∀ a, a ≠ ca + 4 → cs' a = cs a) ∧ bk_call D 2002 [.ref 70, .long (bk_l v)] (bk_M κ (cp, cs, cj) Y g n) = some (some (.int (bk_i (whyG A (cp 70 0) (cp 70 1) (cp 70 2) v))), bk_M κ (cp, cs', cj) Y g n) := by
  obtain ⟨d, rfl⟩ := dep hD
  have w3 : 0 ≤ A 2 := by have := hw.2.2.1; simpa using this
  have w4 : A 2 ≤ 8 := by have := hw.2.2.2.1; simpa using this
  unfold whyG
  by_cases q : 0 ≤ v ∧ v ≤ A 2 - 1
  · obtain ⟨cs1, f1, e1⟩ := s_whyFrom70 (κ := κ) (cp := cp) (cs := cs) (cj := cj) (Y := Y) (n := n) (D := d) (s := cp 70 0) (p := v) hF hc hw q.1 (by omega) h3 h4 h5 h6 (by omega)
    refine ⟨cs1, f1, ?_⟩
    rw [if_pos q, kX2_whyGo, eX2_whyGo_0]
    simp (disch := first | assumption | omega) only [if_pos q, e1, bi_add, bi_sub, bi_mul, bi_neg, bi_div, bi_64, bl_add, bl_sub, bl_mul, bl_neg, bl_div, bl_32, bi_min, bi_max, bl_min, bl_max, bq_I, bq_J, bq_A, bq_Vi, bq_Vl, bq_Vr, bq_cV, bq_cI, bq_cJ, bq_cA, bq_le, bq_lt, bq_eq, bq_z, bq_o, bq_ref, bq_nz, bq_nzJ, bq_bl, bq_blz, bq_T, bq_F, if_true, if_false, Int.reduceEq, Int.reduceLT, Int.reduceLE, Int.reduceAdd, Int.reduceSub, Int.reduceMul, Int.add_sub_cancel, li_0, li_1, li_2, li_2002, li_2003, li_2004, ll_0, ll_1, ll_2, ga72, ga84, ga85, ga86, ga90, ga92, ga87, ga91, ga88, ga89, gf64_4, gf64_5, gf64_6, gf64_8, gf64_9, gf64_10, gf64_14, gf70_0, gf70_1, gf70_2, gf70_3, gf71_0, gf71_1, gf71_2, gf71_3, gs74_0, gs74_1, gs74_2, gs74_3, gs100_0, gs100_1, gs100_2, gs100_3, gr64_1, gr64_2, gr64_3, gr64_7, gr64_11, gr64_12, gr64_13, gr64_15, gr64_16, gr64_17, gr64_18, gr64_19, gr64_20, gr64_21, gr64_22, gr64_23, gr70_4, gr71_4, gu73, gu99, gu93, pa72, pa84, pa85, pa86, pa90, pa92, pa87, pa91, pa88, pa89, pf64_4, pf64_5, pf64_6, pf64_8, pf64_9, pf64_10, pf64_14, pf70_0, pf70_1, pf70_2, pf70_3, pf71_0, pf71_1, pf71_2, pf71_3, ps74_0, ps74_1, ps74_2, ps74_3, ps100_0, ps100_1, ps100_2, ps100_3, s_in, s_has, s_one, s_roomOf, s_hurtOf, s_isLost, s_standOf, s_isTray, s_isSoon, s_fallen, s_isPassage, s_isRoom, s_isPassage70, s_leads70, s_isBack70, s_isPassage, s_isRoom, s_isPassage71, s_leads71, s_isBack71, s_onec, s_bitCount, s_be7170, s_be7071, u_tens77]
  · refine ⟨cs, fun _ _ => rfl, ?_⟩
    rw [if_neg q, kX2_whyGo, eX2_whyGo_0]
    simp (disch := first | assumption | omega) only [if_neg q, bi_add, bi_sub, bi_mul, bi_neg, bi_div, bi_64, bl_add, bl_sub, bl_mul, bl_neg, bl_div, bl_32, bi_min, bi_max, bl_min, bl_max, bq_I, bq_J, bq_A, bq_Vi, bq_Vl, bq_Vr, bq_cV, bq_cI, bq_cJ, bq_cA, bq_le, bq_lt, bq_eq, bq_z, bq_o, bq_ref, bq_nz, bq_nzJ, bq_bl, bq_blz, bq_T, bq_F, if_true, if_false, Int.reduceEq, Int.reduceLT, Int.reduceLE, Int.reduceAdd, Int.reduceSub, Int.reduceMul, Int.add_sub_cancel, li_0, li_1, li_2, li_2002, li_2003, li_2004, ll_0, ll_1, ll_2, ga72, ga84, ga85, ga86, ga90, ga92, ga87, ga91, ga88, ga89, gf64_4, gf64_5, gf64_6, gf64_8, gf64_9, gf64_10, gf64_14, gf70_0, gf70_1, gf70_2, gf70_3, gf71_0, gf71_1, gf71_2, gf71_3, gs74_0, gs74_1, gs74_2, gs74_3, gs100_0, gs100_1, gs100_2, gs100_3, gr64_1, gr64_2, gr64_3, gr64_7, gr64_11, gr64_12, gr64_13, gr64_15, gr64_16, gr64_17, gr64_18, gr64_19, gr64_20, gr64_21, gr64_22, gr64_23, gr70_4, gr71_4, gu73, gu99, gu93, pa72, pa84, pa85, pa86, pa90, pa92, pa87, pa91, pa88, pa89, pf64_4, pf64_5, pf64_6, pf64_8, pf64_9, pf64_10, pf64_14, pf70_0, pf70_1, pf70_2, pf70_3, pf71_0, pf71_1, pf71_2, pf71_3, ps74_0, ps74_1, ps74_2, ps74_3, ps100_0, ps100_1, ps100_2, ps100_3, s_in, s_has, s_one, s_roomOf, s_hurtOf, s_isLost, s_standOf, s_isTray, s_isSoon, s_fallen, s_isPassage, s_isRoom, s_isPassage70, s_leads70, s_isBack70, s_isPassage, s_isRoom, s_isPassage71, s_leads71, s_isBack71, s_onec, s_bitCount, s_be7170, s_be7071, u_tens77]
theorem s_whyGo71 (hF : bFix g) (hc : bRC κ g ca A) (hw : bWF A 0) (h1 : -2147483648 ≤ v) (h2 : v < 2147483648) (h3 : 0 ≤ cs 71 0) (h4 : cs 71 0 < 36) (h5 : 0 ≤ cs 71 2) (h6 : cs 71 2 ≤ 9) (hD : 906 ≤ D) :
    ∃ cs', (∀ a, a ≠ ca + 4 → cs' a = cs a) ∧ bk_call D 2002 [.ref 71, .long (bk_l v)] (bk_M κ (cp, cs, cj) Y g n) = some (some (.int (bk_i (whyG A (cs 71 0) (cs 71 1) (cs 71 2) v))), bk_M κ (cp, cs', cj) Y g n) := by
  obtain ⟨d, rfl⟩ := dep hD
  have w3 : 0 ≤ A 2 := by have := hw.2.2.1; simpa using this
  have w4 : A 2 ≤ 8 := by have := hw.2.2.2.1; simpa using this
  unfold whyG
  by_cases q : 0 ≤ v ∧ v ≤ A 2 - 1
  · obtain ⟨cs1, f1, e1⟩ := s_whyFrom71 (κ := κ) (cp := cp) (cs := cs) (cj := cj) (Y := Y) (n := n) (D := d) (s := cs 71 0) (p := v) hF hc hw q.1 (by omega) h3 h4 h5 h6 (by omega)
    refine ⟨cs1, f1, ?_⟩
    rw [if_pos q, kX2_whyGo, eX2_whyGo_0]
    simp (disch := first | assumption | omega) only [if_pos q, e1, bi_add, bi_sub, bi_mul, bi_neg, bi_div, bi_64, bl_add, bl_sub, bl_mul, bl_neg, bl_div, bl_32, bi_min, bi_max, bl_min, bl_max, bq_I, bq_J, bq_A, bq_Vi, bq_Vl, bq_Vr, bq_cV, bq_cI, bq_cJ, bq_cA, bq_le, bq_lt, bq_eq, bq_z, bq_o, bq_ref, bq_nz, bq_nzJ, bq_bl, bq_blz, bq_T, bq_F, if_true, if_false, Int.reduceEq, Int.reduceLT, Int.reduceLE, Int.reduceAdd, Int.reduceSub, Int.reduceMul, Int.add_sub_cancel, li_0, li_1, li_2, li_2002, li_2003, li_2004, ll_0, ll_1, ll_2, ga72, ga84, ga85, ga86, ga90, ga92, ga87, ga91, ga88, ga89, gf64_4, gf64_5, gf64_6, gf64_8, gf64_9, gf64_10, gf64_14, gf70_0, gf70_1, gf70_2, gf70_3, gf71_0, gf71_1, gf71_2, gf71_3, gs74_0, gs74_1, gs74_2, gs74_3, gs100_0, gs100_1, gs100_2, gs100_3, gr64_1, gr64_2, gr64_3, gr64_7, gr64_11, gr64_12, gr64_13, gr64_15, gr64_16, gr64_17, gr64_18, gr64_19, gr64_20, gr64_21, gr64_22, gr64_23, gr70_4, gr71_4, gu73, gu99, gu93, pa72, pa84, pa85, pa86, pa90, pa92, pa87, pa91, pa88, pa89, pf64_4, pf64_5, pf64_6, pf64_8, pf64_9, pf64_10, pf64_14, pf70_0, pf70_1, pf70_2, pf70_3, pf71_0, pf71_1, pf71_2, pf71_3, ps74_0, ps74_1, ps74_2, ps74_3, ps100_0, ps100_1, ps100_2, ps100_3, s_in, s_has, s_one, s_roomOf, s_hurtOf, s_isLost, s_standOf, s_isTray, s_isSoon, s_fallen, s_isPassage, s_isRoom, s_isPassage70, s_leads70, s_isBack70, s_isPassage, s_isRoom, s_isPassage71, s_leads71, s_isBack71, s_onec, s_bitCount, s_be7170, s_be7071, u_tens77]
  · refine ⟨cs, fun _ _ => rfl, ?_⟩
    rw [if_neg q, kX2_whyGo, eX2_whyGo_0]
    simp (disch := first | assumption | omega) only [if_neg q, bi_add, bi_sub, bi_mul, bi_neg, bi_div, bi_64, bl_add, bl_sub, bl_mul, bl_neg, bl_div, bl_32, bi_min, bi_max, bl_min, bl_max, bq_I, bq_J, bq_A, bq_Vi, bq_Vl, bq_Vr, bq_cV, bq_cI, bq_cJ, bq_cA, bq_le, bq_lt, bq_eq, bq_z, bq_o, bq_ref, bq_nz, bq_nzJ, bq_bl, bq_blz, bq_T, bq_F, if_true, if_false, Int.reduceEq, Int.reduceLT, Int.reduceLE, Int.reduceAdd, Int.reduceSub, Int.reduceMul, Int.add_sub_cancel, li_0, li_1, li_2, li_2002, li_2003, li_2004, ll_0, ll_1, ll_2, ga72, ga84, ga85, ga86, ga90, ga92, ga87, ga91, ga88, ga89, gf64_4, gf64_5, gf64_6, gf64_8, gf64_9, gf64_10, gf64_14, gf70_0, gf70_1, gf70_2, gf70_3, gf71_0, gf71_1, gf71_2, gf71_3, gs74_0, gs74_1, gs74_2, gs74_3, gs100_0, gs100_1, gs100_2, gs100_3, gr64_1, gr64_2, gr64_3, gr64_7, gr64_11, gr64_12, gr64_13, gr64_15, gr64_16, gr64_17, gr64_18, gr64_19, gr64_20, gr64_21, gr64_22, gr64_23, gr70_4, gr71_4, gu73, gu99, gu93, pa72, pa84, pa85, pa86, pa90, pa92, pa87, pa91, pa88, pa89, pf64_4, pf64_5, pf64_6, pf64_8, pf64_9, pf64_10, pf64_14, pf70_0, pf70_1, pf70_2, pf70_3, pf71_0, pf71_1, pf71_2, pf71_3, ps74_0, ps74_1, ps74_2, ps74_3, ps100_0, ps100_1, ps100_2, ps100_3, s_in, s_has, s_one, s_roomOf, s_hurtOf, s_isLost, s_standOf, s_isTray, s_isSoon, s_fallen, s_isPassage, s_isRoom, s_isPassage70, s_leads70, s_isBack70, s_isPassage, s_isRoom, s_isPassage71, s_leads71, s_isBack71, s_onec, s_bitCount, s_be7170, s_be7071, u_tens77]
theorem c_passage (h : bCt κ g ca A cp) (h3 : -2147483648 ≤ i) (h4 : i < 2147483648) (h5 : -2147483648 ≤ what) (h6 : what < 2147483648) (hD : 3 ≤ D) :
    bk_wp (bk_call D 7 [.ref 64, .int (bk_i i), .int (bk_i what)] (bk_M κ (cp, cs, cj) Y g n)) (bCq κ cp Y g n (rPass A i what)) := by
  obtain ⟨d, rfl⟩ := dep hD
  have st := bCt_st h
  obtain ⟨hF, hc, hw, hs, n0, n1, n2, n3⟩ := h
  have ei := s_isPassage (κ := κ) (X := (cp, cs, cj)) (Y := Y) (n := n) (D := d) (v := i) hc (by omega) (by omega) (by omega) (by omega) (by omega)
  obtain ⟨c0, c1, c2, c3, c4, c5, c6, c7, c8, ⟨tw, ctw, htw⟩, cb, ce, cd, cw, cwp, hca, -, -⟩ := hc
  rw [kX0_passage, eX0_passage_0]
  unfold rPass
  by_cases q : 0 ≤ i ∧ i ≤ A 2 - 1
  · have e := htw i q.1 (by omega)
    have e34 : bz (A (34 + i) = 1) = A (34 + i) := by rw [← e]; exact bz_bt _ _
    simp (disch := first | assumption | omega) only [c0, c1, c2, c3, c4, c5, c6, c7, c8, ctw, cb, ce, cd, cw, cwp, ei, if_pos q, n1, e, bi_add, bi_sub, bi_mul, bi_neg, bi_div, bi_64, bl_add, bl_sub, bl_mul, bl_neg, bl_div, bl_32, bi_min, bi_max, bl_min, bl_max, bq_I, bq_J, bq_A, bq_Vi, bq_Vl, bq_Vr, bq_cV, bq_cI, bq_cJ, bq_cA, bq_le, bq_lt, bq_eq, bq_z, bq_o, bq_ref, bq_nz, bq_nzJ, bq_bl, bq_blz, bq_T, bq_F, if_true, if_false, Int.reduceEq, Int.reduceLT, Int.reduceLE, Int.reduceAdd, Int.reduceSub, Int.reduceMul, Int.add_sub_cancel, li_0, li_1, li_2, li_3, li_4, li_6, li_7, li_8, li_9, li_10, li_100, ll_0, ll_1, ll_2, ll_3, ll_4, ll_6, ll_7, ll_8, ll_9, ll_10, ll_100, ga72, ga84, ga85, ga86, ga90, ga92, ga87, ga91, ga88, ga89, gf64_4, gf64_5, gf64_6, gf64_8, gf64_9, gf64_10, gf64_14, gf70_0, gf70_1, gf70_2, gf70_3, gf71_0, gf71_1, gf71_2, gf71_3, gs74_0, gs74_1, gs74_2, gs74_3, gs100_0, gs100_1, gs100_2, gs100_3, gr64_1, gr64_2, gr64_3, gr64_7, gr64_11, gr64_12, gr64_13, gr64_15, gr64_16, gr64_17, gr64_18, gr64_19, gr64_20, gr64_21, gr64_22, gr64_23, gr70_4, gr71_4, gu73, gu99, gu93, pa72, pa84, pa85, pa86, pa90, pa92, pa87, pa91, pa88, pa89, pf64_4, pf64_5, pf64_6, pf64_8, pf64_9, pf64_10, pf64_14, pf70_0, pf70_1, pf70_2, pf70_3, pf71_0, pf71_1, pf71_2, pf71_3, ps74_0, ps74_1, ps74_2, ps74_3, ps100_0, ps100_1, ps100_2, ps100_3, s_in, s_has, s_one, s_roomOf, s_hurtOf, s_isLost, s_standOf, s_isTray, s_isSoon, s_fallen, s_isPassage, s_isRoom, s_isPassage70, s_leads70, s_isBack70, s_isPassage, s_isRoom, s_isPassage71, s_leads71, s_isBack71, s_onec, s_bitCount, s_be7170, s_be7071, u_tens77]
    by_cases q0 : what = 0
    · rw [if_pos q0]
      exact ⟨_, _, rfl, cs, cj, _, rfl, rfl, by rw [if_pos q0]⟩
    · rw [if_neg q0]
      by_cases q1 : what = 1
      · rw [if_pos q1]
        exact ⟨_, _, rfl, cs, cj, _, rfl, rfl, by rw [if_neg q0, if_pos q1]⟩
      · rw [if_neg q1]
        by_cases q2 : what = 2
        · rw [if_pos q2]
          exact ⟨_, _, rfl, cs, cj, _, rfl, rfl, by rw [if_neg q0, if_neg q1, if_pos q2]⟩
        · rw [if_neg q2]
          by_cases q3 : what = 3
          · rw [if_pos q3]
            exact ⟨_, _, rfl, cs, cj, _, rfl, rfl, by rw [if_neg q0, if_neg q1, if_neg q2, if_pos q3]; exact e34⟩
          · rw [if_neg q3]
            by_cases q4 : what = 4
            · rw [if_pos q4]
              exact ⟨_, _, rfl, cs, cj, _, rfl, rfl, by rw [if_neg q0, if_neg q1, if_neg q2, if_neg q3, if_pos q4]; exact bz_bt _ _⟩
            · rw [if_neg q4]
              exact ⟨_, _, rfl, cs, cj, _, rfl, rfl, by rw [if_neg q0, if_neg q1, if_neg q2, if_neg q3, if_neg q4]⟩
  · simp (disch := first | assumption | omega) only [c0, c1, c2, c3, c4, c5, c6, c7, c8, ctw, cb, ce, cd, cw, cwp, ei, if_neg q, bi_add, bi_sub, bi_mul, bi_neg, bi_div, bi_64, bl_add, bl_sub, bl_mul, bl_neg, bl_div, bl_32, bi_min, bi_max, bl_min, bl_max, bq_I, bq_J, bq_A, bq_Vi, bq_Vl, bq_Vr, bq_cV, bq_cI, bq_cJ, bq_cA, bq_le, bq_lt, bq_eq, bq_z, bq_o, bq_ref, bq_nz, bq_nzJ, bq_bl, bq_blz, bq_T, bq_F, if_true, if_false, Int.reduceEq, Int.reduceLT, Int.reduceLE, Int.reduceAdd, Int.reduceSub, Int.reduceMul, Int.add_sub_cancel, li_0, li_1, li_2, li_3, li_4, li_6, li_7, li_8, li_9, li_10, li_100, ll_0, ll_1, ll_2, ll_3, ll_4, ll_6, ll_7, ll_8, ll_9, ll_10, ll_100, ga72, ga84, ga85, ga86, ga90, ga92, ga87, ga91, ga88, ga89, gf64_4, gf64_5, gf64_6, gf64_8, gf64_9, gf64_10, gf64_14, gf70_0, gf70_1, gf70_2, gf70_3, gf71_0, gf71_1, gf71_2, gf71_3, gs74_0, gs74_1, gs74_2, gs74_3, gs100_0, gs100_1, gs100_2, gs100_3, gr64_1, gr64_2, gr64_3, gr64_7, gr64_11, gr64_12, gr64_13, gr64_15, gr64_16, gr64_17, gr64_18, gr64_19, gr64_20, gr64_21, gr64_22, gr64_23, gr70_4, gr71_4, gu73, gu99, gu93, pa72, pa84, pa85, pa86, pa90, pa92, pa87, pa91, pa88, pa89, pf64_4, pf64_5, pf64_6, pf64_8, pf64_9, pf64_10, pf64_14, pf70_0, pf70_1, pf70_2, pf70_3, pf71_0, pf71_1, pf71_2, pf71_3, ps74_0, ps74_1, ps74_2, ps74_3, ps100_0, ps100_1, ps100_2, ps100_3, s_in, s_has, s_one, s_roomOf, s_hurtOf, s_isLost, s_standOf, s_isTray, s_isSoon, s_fallen, s_isPassage, s_isRoom, s_isPassage70, s_leads70, s_isBack70, s_isPassage, s_isRoom, s_isPassage71, s_leads71, s_isBack71, s_onec, s_bitCount, s_be7170, s_be7071, u_tens77]
    exact ⟨_, _, rfl, cs, cj, _, rfl, rfl, rfl⟩
theorem c_why (h : bCt κ g ca A cp) (h3 : -2147483648 ≤ i) (h4 : i < 2147483648) (hD : 907 ≤ D) :
    bk_wp (bk_call D 11 [.ref 64, .int (bk_i i)] (bk_M κ (cp, cs, cj) Y g n)) (bCq κ cp Y g n (rWhy A i)) := by
  obtain ⟨d, rfl⟩ := dep hD
  have st := bCt_st h
  obtain ⟨hF, hc, hw, hs, n0, n1, n2, n3⟩ := h
  obtain ⟨cs1, f1, e1⟩ := s_whyGo70 (κ := κ) (cp := cp) (cs := cs) (cj := cj) (Y := Y) (n := n) (D := d) (v := i) hF hc hw h3 h4 (by omega) (by omega) (by have := hs.2.2.2.2.2.2.1; simp only [show (42 : Int) + 3 = 45 from rfl] at this; omega) (by have := hs.2.2.2.2.2.2.2; simp only [show (42 : Int) + 3 = 45 from rfl] at this; omega) (by omega)
  rw [kX0_why, eX0_why_0]
  simp (disch := first | assumption | omega) only [e1, bi_add, bi_sub, bi_mul, bi_neg, bi_div, bi_64, bl_add, bl_sub, bl_mul, bl_neg, bl_div, bl_32, bi_min, bi_max, bl_min, bl_max, bq_I, bq_J, bq_A, bq_Vi, bq_Vl, bq_Vr, bq_cV, bq_cI, bq_cJ, bq_cA, bq_le, bq_lt, bq_eq, bq_z, bq_o, bq_ref, bq_nz, bq_nzJ, bq_bl, bq_blz, bq_T, bq_F, if_true, if_false, Int.reduceEq, Int.reduceLT, Int.reduceLE, Int.reduceAdd, Int.reduceSub, Int.reduceMul, Int.add_sub_cancel, li_0, li_1, li_2, li_11, li_2002, ll_0, ll_1, ll_2, ll_11, ga72, ga84, ga85, ga86, ga90, ga92, ga87, ga91, ga88, ga89, gf64_4, gf64_5, gf64_6, gf64_8, gf64_9, gf64_10, gf64_14, gf70_0, gf70_1, gf70_2, gf70_3, gf71_0, gf71_1, gf71_2, gf71_3, gs74_0, gs74_1, gs74_2, gs74_3, gs100_0, gs100_1, gs100_2, gs100_3, gr64_1, gr64_2, gr64_3, gr64_7, gr64_11, gr64_12, gr64_13, gr64_15, gr64_16, gr64_17, gr64_18, gr64_19, gr64_20, gr64_21, gr64_22, gr64_23, gr70_4, gr71_4, gu73, gu99, gu93, pa72, pa84, pa85, pa86, pa90, pa92, pa87, pa91, pa88, pa89, pf64_4, pf64_5, pf64_6, pf64_8, pf64_9, pf64_10, pf64_14, pf70_0, pf70_1, pf70_2, pf70_3, pf71_0, pf71_1, pf71_2, pf71_3, ps74_0, ps74_1, ps74_2, ps74_3, ps100_0, ps100_1, ps100_2, ps100_3, s_in, s_has, s_one, s_roomOf, s_hurtOf, s_isLost, s_standOf, s_isTray, s_isSoon, s_fallen, s_isPassage, s_isRoom, s_isPassage70, s_leads70, s_isBack70, s_isPassage, s_isRoom, s_isPassage71, s_leads71, s_isBack71, s_onec, s_bitCount, s_be7170, s_be7071, u_tens77]
  exact ⟨_, _, rfl, cs1, cj, _, rfl, rfl, by unfold rWhy; rw [n0, n1, n2]⟩
theorem c_by (h : bCt κ g ca A cp) (h3 : -2147483648 ≤ i) (h4 : i < 2147483648) (h5 : -2147483648 ≤ what) (h6 : what < 2147483648) (hD : 907 ≤ D) :
    bk_wp (bk_call D 15 [.ref 64, .int (bk_i i), .int (bk_i what)] (bk_M κ (cp, cs, cj) Y g n)) (bCq κ cp Y g n (rBy A i what)) := by
  obtain ⟨d, rfl⟩ := dep hD
  have st := bCt_st h
  obtain ⟨hF, hc, hw, hs, n0, n1, n2, n3⟩ := h
  have s2 := hs.2.2.2.2.2.2.1
  have s3 := hs.2.2.2.2.2.2.2
  simp only [show (42 : Int) + 3 = 45 from rfl] at s2 s3
  obtain ⟨cs1, f1, e1⟩ := s_whyGo70 (κ := κ) (cp := cp) (cs := cs) (cj := cj) (Y := Y) (n := n) (D := d) (v := i) hF hc hw h3 h4 (by omega) (by omega) (by omega) (by omega) (by omega)
  have wr := whyG_rng A (cp 70 0) (cp 70 1) (cp 70 2) i
  rw [kX0_by, eX0_by_0]
  unfold rBy
  by_cases q : 0 ≤ what ∧ what ≤ 1
  · simp (disch := first | assumption | omega) only [if_pos q, e1, bi_add, bi_sub, bi_mul, bi_neg, bi_div, bi_64, bl_add, bl_sub, bl_mul, bl_neg, bl_div, bl_32, bi_min, bi_max, bl_min, bl_max, bq_I, bq_J, bq_A, bq_Vi, bq_Vl, bq_Vr, bq_cV, bq_cI, bq_cJ, bq_cA, bq_le, bq_lt, bq_eq, bq_z, bq_o, bq_ref, bq_nz, bq_nzJ, bq_bl, bq_blz, bq_T, bq_F, if_true, if_false, Int.reduceEq, Int.reduceLT, Int.reduceLE, Int.reduceAdd, Int.reduceSub, Int.reduceMul, Int.add_sub_cancel, li_0, li_1, li_2, li_5, li_12, li_14, li_15, li_2002, li_2007, ll_0, ll_1, ll_2, ll_5, ll_12, ll_14, ll_15, ga72, ga84, ga85, ga86, ga90, ga92, ga87, ga91, ga88, ga89, gf64_4, gf64_5, gf64_6, gf64_8, gf64_9, gf64_10, gf64_14, gf70_0, gf70_1, gf70_2, gf70_3, gf71_0, gf71_1, gf71_2, gf71_3, gs74_0, gs74_1, gs74_2, gs74_3, gs100_0, gs100_1, gs100_2, gs100_3, gr64_1, gr64_2, gr64_3, gr64_7, gr64_11, gr64_12, gr64_13, gr64_15, gr64_16, gr64_17, gr64_18, gr64_19, gr64_20, gr64_21, gr64_22, gr64_23, gr70_4, gr71_4, gu73, gu99, gu93, pa72, pa84, pa85, pa86, pa90, pa92, pa87, pa91, pa88, pa89, pf64_4, pf64_5, pf64_6, pf64_8, pf64_9, pf64_10, pf64_14, pf70_0, pf70_1, pf70_2, pf70_3, pf71_0, pf71_1, pf71_2, pf71_3, ps74_0, ps74_1, ps74_2, ps74_3, ps100_0, ps100_1, ps100_2, ps100_3, s_in, s_has, s_one, s_roomOf, s_hurtOf, s_isLost, s_standOf, s_isTray, s_isSoon, s_fallen, s_isPassage, s_isRoom, s_isPassage70, s_leads70, s_isBack70, s_isPassage, s_isRoom, s_isPassage71, s_leads71, s_isBack71, s_onec, s_bitCount, s_be7170, s_be7071, u_tens77]
    by_cases q1 : whyG A (cp 70 0) (cp 70 1) (cp 70 2) i = 0
    · have w0 := whyG_0 q1
      obtain ⟨cs2, f2, e2⟩ := s_then70 (κ := κ) (cp := cp) (cs := cs1) (cj := cj) (Y := Y) (n := n) (D := d) (s := cp 70 0) (p := i) hF hc hw w0.1 w0.2.1 (by omega) (by omega) (by omega) (by omega) (by omega)
      have tr := thenM_rng (A := A) (s := cp 70 0) (p := i) (rop := cp 70 1) (sl := cp 70 2) hw w0.1 w0.2.1 (by omega)
      simp (disch := first | assumption | omega) only [if_pos q1, e2, bi_add, bi_sub, bi_mul, bi_neg, bi_div, bi_64, bl_add, bl_sub, bl_mul, bl_neg, bl_div, bl_32, bi_min, bi_max, bl_min, bl_max, bq_I, bq_J, bq_A, bq_Vi, bq_Vl, bq_Vr, bq_cV, bq_cI, bq_cJ, bq_cA, bq_le, bq_lt, bq_eq, bq_z, bq_o, bq_ref, bq_nz, bq_nzJ, bq_bl, bq_blz, bq_T, bq_F, if_true, if_false, Int.reduceEq, Int.reduceLT, Int.reduceLE, Int.reduceAdd, Int.reduceSub, Int.reduceMul, Int.add_sub_cancel, li_0, li_1, li_2, li_5, li_12, li_14, li_15, li_2002, li_2007, ll_0, ll_1, ll_2, ll_5, ll_12, ll_14, ll_15, ga72, ga84, ga85, ga86, ga90, ga92, ga87, ga91, ga88, ga89, gf64_4, gf64_5, gf64_6, gf64_8, gf64_9, gf64_10, gf64_14, gf70_0, gf70_1, gf70_2, gf70_3, gf71_0, gf71_1, gf71_2, gf71_3, gs74_0, gs74_1, gs74_2, gs74_3, gs100_0, gs100_1, gs100_2, gs100_3, gr64_1, gr64_2, gr64_3, gr64_7, gr64_11, gr64_12, gr64_13, gr64_15, gr64_16, gr64_17, gr64_18, gr64_19, gr64_20, gr64_21, gr64_22, gr64_23, gr70_4, gr71_4, gu73, gu99, gu93, pa72, pa84, pa85, pa86, pa90, pa92, pa87, pa91, pa88, pa89, pf64_4, pf64_5, pf64_6, pf64_8, pf64_9, pf64_10, pf64_14, pf70_0, pf70_1, pf70_2, pf70_3, pf71_0, pf71_1, pf71_2, pf71_3, ps74_0, ps74_1, ps74_2, ps74_3, ps100_0, ps100_1, ps100_2, ps100_3, s_in, s_has, s_one, s_roomOf, s_hurtOf, s_isLost, s_standOf, s_isTray, s_isSoon, s_fallen, s_isPassage, s_isRoom, s_isPassage70, s_leads70, s_isBack70, s_isPassage, s_isRoom, s_isPassage71, s_leads71, s_isBack71, s_onec, s_bitCount, s_be7170, s_be7071, u_tens77]
      rw [← n0, ← n1, ← n2, if_pos q1]
      by_cases q2 : what = 0
      · rw [if_pos q2]
        exact ⟨_, _, rfl, cs2, cj, _, rfl, rfl, by rw [if_pos q2]⟩
      · rw [if_neg q2]
        exact ⟨_, _, rfl, cs2, cj, _, rfl, rfl, by rw [if_neg q2]⟩
    · rw [if_neg q1]
      rw [← n0, ← n1, ← n2, if_neg q1]
      exact ⟨_, _, rfl, cs1, cj, _, rfl, rfl, rfl⟩
  · simp (disch := first | assumption | omega) only [if_neg q, bi_add, bi_sub, bi_mul, bi_neg, bi_div, bi_64, bl_add, bl_sub, bl_mul, bl_neg, bl_div, bl_32, bi_min, bi_max, bl_min, bl_max, bq_I, bq_J, bq_A, bq_Vi, bq_Vl, bq_Vr, bq_cV, bq_cI, bq_cJ, bq_cA, bq_le, bq_lt, bq_eq, bq_z, bq_o, bq_ref, bq_nz, bq_nzJ, bq_bl, bq_blz, bq_T, bq_F, if_true, if_false, Int.reduceEq, Int.reduceLT, Int.reduceLE, Int.reduceAdd, Int.reduceSub, Int.reduceMul, Int.add_sub_cancel, li_0, li_1, li_2, li_5, li_12, li_14, li_15, li_2002, li_2007, ll_0, ll_1, ll_2, ll_5, ll_12, ll_14, ll_15, ga72, ga84, ga85, ga86, ga90, ga92, ga87, ga91, ga88, ga89, gf64_4, gf64_5, gf64_6, gf64_8, gf64_9, gf64_10, gf64_14, gf70_0, gf70_1, gf70_2, gf70_3, gf71_0, gf71_1, gf71_2, gf71_3, gs74_0, gs74_1, gs74_2, gs74_3, gs100_0, gs100_1, gs100_2, gs100_3, gr64_1, gr64_2, gr64_3, gr64_7, gr64_11, gr64_12, gr64_13, gr64_15, gr64_16, gr64_17, gr64_18, gr64_19, gr64_20, gr64_21, gr64_22, gr64_23, gr70_4, gr71_4, gu73, gu99, gu93, pa72, pa84, pa85, pa86, pa90, pa92, pa87, pa91, pa88, pa89, pf64_4, pf64_5, pf64_6, pf64_8, pf64_9, pf64_10, pf64_14, pf70_0, pf70_1, pf70_2, pf70_3, pf71_0, pf71_1, pf71_2, pf71_3, ps74_0, ps74_1, ps74_2, ps74_3, ps100_0, ps100_1, ps100_2, ps100_3, s_in, s_has, s_one, s_roomOf, s_hurtOf, s_isLost, s_standOf, s_isTray, s_isSoon, s_fallen, s_isPassage, s_isRoom, s_isPassage70, s_leads70, s_isBack70, s_isPassage, s_isRoom, s_isPassage71, s_leads71, s_isBack71, s_onec, s_bitCount, s_be7170, s_be7071, u_tens77]
    exact ⟨_, _, rfl, cs, cj, _, rfl, rfl, rfl⟩
end EZ
