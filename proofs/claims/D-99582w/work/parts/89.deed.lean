/-! SPECS: a deed on a thought: both sides -/
set_option maxRecDepth 100000
/-- why a deed can't be done -/
def whyD (A S : Int → Int) (y : Int) : Int :=
  if 0 ≤ y ∧ y ≤ 9 then whyG A (S 0) (S 1) (S 2) y else if 10 ≤ y ∧ y ≤ 19 then (if 0 ≤ y - 10 ∧ y - 10 ≤ A 2 - 1 then 0 else 1) else if 20 ≤ y ∧ y ≤ 29 then 0
  else if 100 ≤ y ∧ y ≤ 199 then (if (0 ≤ (y - 100) / 10 ∧ (y - 100) / 10 ≤ A 1 - 1) ∧ (0 ≤ y % 10 ∧ y % 10 ≤ 5) then 0 else 1) else 1
/-- what a deed does: to the stand, the ropes, the slack, the steps -/
def doD (A S : Int → Int) (y : Int) : Int → Int :=
  if y < 10 then fv (thenM A (S 0) y (S 1) (S 2)) (S 1) (S 2) (S 3 + 1) 0 else if y < 20 then fv (S 0) (tg (S 1) (y - 10)) (S 2) (S 3) 0 else if y < 30 then fv (S 0) (S 1) (y - 20) (S 3) 0
  else fv (6 * ((y - 100) / 10) + y % 10) (S 1) (S 2) (S 3) 0
def okT (A S : Int → Int) : Prop := 0 ≤ S 0 ∧ S 0 < 6 * A 1 ∧ 0 ≤ S 1 ∧ S 1 < 256 ∧ 0 ≤ S 2 ∧ S 2 ≤ 9
theorem whyD_0 {A S : Int → Int} {y : Int} (h : whyD A S y = 0) : (0 ≤ y ∧ y < 10 ∧ y < A 2 ∧ whyM A (S 0) y (S 1) (S 2) = 0) ∨ (10 ≤ y ∧ y < 20 ∧ y - 10 < A 2) ∨ (20 ≤ y ∧ y < 30) ∨ (100 ≤ y ∧ y < 200 ∧ (y - 100) / 10 < A 1 ∧ y % 10 ≤ 5) := by
  unfold whyD at h
  by_cases c1 : 0 ≤ y ∧ y ≤ 9
  · rw [if_pos c1] at h
    have := whyG_0 h
    exact Or.inl ⟨c1.1, by omega, this.2⟩
  · rw [if_neg c1] at h
    by_cases c2 : 10 ≤ y ∧ y ≤ 19
    · rw [if_pos c2] at h
      by_cases c3 : 0 ≤ y - 10 ∧ y - 10 ≤ A 2 - 1
      · exact Or.inr (Or.inl ⟨c2.1, by omega, by omega⟩)
      · rw [if_neg c3] at h; exact absurd h (by decide)
    · rw [if_neg c2] at h
      by_cases c3 : 20 ≤ y ∧ y ≤ 29
      · exact Or.inr (Or.inr (Or.inl ⟨c3.1, by omega⟩))
      · rw [if_neg c3] at h
        by_cases c4 : 100 ≤ y ∧ y ≤ 199
        · rw [if_pos c4] at h
          by_cases c5 : (0 ≤ (y - 100) / 10 ∧ (y - 100) / 10 ≤ A 1 - 1) ∧ (0 ≤ y % 10 ∧ y % 10 ≤ 5)
          · exact Or.inr (Or.inr (Or.inr ⟨c4.1, by omega, by omega, c5.2.2⟩))
          · rw [if_neg c5] at h; exact absurd h (by decide)
        · rw [if_neg c4] at h; exact absurd h (by decide)
theorem doD_ok {A S : Int → Int} {y : Int} (hw : bWF A 0) (h : whyD A S y = 0) (o : okT A S) : okT A (doD A S y) := by
  have w4 : A 2 ≤ 8 := by have := hw.2.2.2.1; simpa using this
  obtain ⟨o0, o1, o2, o3, o4, o5⟩ := o
  unfold doD okT
  rcases whyD_0 h with ⟨a, b, c, e⟩ | ⟨a, b, c⟩ | ⟨a, b⟩ | ⟨a, b, c, e⟩
  · rw [if_pos b]
    have tr := thenM_rng (A := A) (s := S 0) (p := y) (rop := S 1) (sl := S 2) hw a c o0
    exact ⟨tr.1, tr.2, o2, o3, o4, o5⟩
  · rw [if_neg (by omega), if_pos b]
    have tr := tg_rng (s := S 1) (k := y - 10) o2 o3 (by omega) (by omega)
    exact ⟨o0, o1, tr.1, tr.2, o4, o5⟩
  · rw [if_neg (by omega), if_neg (by omega), if_pos b]
    exact ⟨o0, o1, o2, o3, show 0 ≤ y - 20 by omega, show y - 20 ≤ 9 by omega⟩
  · rw [if_neg (by omega), if_neg (by omega), if_neg (by omega)]
    exact ⟨show 0 ≤ 6 * ((y - 100) / 10) + y % 10 by omega, show 6 * ((y - 100) / 10) + y % 10 < 6 * A 1 by omega, o2, o3, o4, o5⟩
section DD
variable {κ : Nat → Nat} {cp cs : bF} {cj : bFJ} {X : bX} {Y : bY} {tp ts : bF} {tj tk : bFJ} {g : bG} {n : Nat × Nat} {ca : Nat} {A S : Int → Int} {y : Int} {D : Nat}
theorem s_whyDeed (hF : bFix g) (hc : bRC κ g ca A) (hw : bWF A 0) (y0 : -9223372036854775808 ≤ y) (y1 : y < 9223372036854775808) (hS : ∀ k, 0 ≤ k → k < 4 → cs 71 k = S k) (o : okT A S) (hD : 907 ≤ D) :
    ∃ cs', (∀ a, a ≠ ca + 4 → cs' a = cs a) ∧ bk_call D 2012 [.ref 71, .long (bk_l y)] (bk_M κ (cp, cs, cj) Y g n) = some (some (.int (bk_i (whyD A S y))), bk_M κ (cp, cs', cj) Y g n) := by
  obtain ⟨d, rfl⟩ := dep hD
  have w1 : 1 ≤ A 1 := by have := hw.1; simpa using this
  have w2 : A 1 ≤ 6 := by have := hw.2.1; simpa using this
  have w3 : 0 ≤ A 2 := by have := hw.2.2.1; simpa using this
  have w4 : A 2 ≤ 8 := by have := hw.2.2.2.1; simpa using this
  obtain ⟨o0, o1, o2, o3, o4, o5⟩ := o
  have e0 := hS 0 (by decide) (by decide)
  have e1 := hS 1 (by decide) (by decide)
  have e2 := hS 2 (by decide) (by decide)
  unfold whyD
  rw [kX2_whyDeed, eX2_whyDeed_0]
  by_cases c1 : 0 ≤ y ∧ y ≤ 9
  · obtain ⟨cs1, f1, q1⟩ := s_whyGo71 (κ := κ) (cp := cp) (cs := cs) (cj := cj) (Y := Y) (n := n) (D := d) (v := y) hF hc hw (by omega) (by omega) (by omega) (by omega) (by omega) (by omega) (by omega)
    rw [e0, e1, e2] at q1
    refine ⟨cs1, f1, ?_⟩
    rw [if_pos c1]
    simp (disch := first | assumption | omega) only [if_pos c1, q1, bi_add, bi_sub, bi_mul, bi_neg, bi_div, bi_64, bl_add, bl_sub, bl_mul, bl_neg, bl_div, bl_32, bi_min, bi_max, bl_min, bl_max, bq_I, bq_J, bq_A, bq_Vi, bq_Vl, bq_Vr, bq_cV, bq_cI, bq_cJ, bq_cA, bq_le, bq_lt, bq_eq, bq_z, bq_o, bq_ref, bq_nz, bq_nzJ, bq_bl, bq_blz, bq_T, bq_F, if_true, if_false, Int.reduceEq, Int.reduceLT, Int.reduceLE, Int.reduceAdd, Int.reduceSub, Int.reduceMul, Int.add_sub_cancel, li_0, li_1, li_2, li_5, li_9, li_10, li_19, li_20, li_29, li_100, li_199, li_2002, li_2003, li_2011, li_2012, ll_0, ll_1, ll_2, ll_5, ll_9, ll_10, ll_19, ll_20, ll_29, ll_100, ll_199, ga72, ga84, ga85, ga86, ga90, ga92, ga87, ga91, ga88, ga89, gf64_4, gf64_5, gf64_6, gf64_8, gf64_9, gf64_10, gf64_14, gf70_0, gf70_1, gf70_2, gf70_3, gf71_0, gf71_1, gf71_2, gf71_3, gs74_0, gs74_1, gs74_2, gs74_3, gs100_0, gs100_1, gs100_2, gs100_3, gr64_1, gr64_2, gr64_3, gr64_7, gr64_11, gr64_12, gr64_13, gr64_15, gr64_16, gr64_17, gr64_18, gr64_19, gr64_20, gr64_21, gr64_22, gr64_23, gr70_4, gr71_4, gu73, gu99, gu93, pa72, pa84, pa85, pa86, pa90, pa92, pa87, pa91, pa88, pa89, pf64_4, pf64_5, pf64_6, pf64_8, pf64_9, pf64_10, pf64_14, pf70_0, pf70_1, pf70_2, pf70_3, pf71_0, pf71_1, pf71_2, pf71_3, ps74_0, ps74_1, ps74_2, ps74_3, ps100_0, ps100_1, ps100_2, ps100_3, s_in, s_has, s_one, s_roomOf, s_hurtOf, s_isLost, s_standOf, s_isTray, s_isSoon, s_fallen, s_isPassage, s_isRoom, s_isPassage70, s_leads70, s_isBack70, s_isPassage, s_isRoom, s_isPassage71, s_leads71, s_isBack71, s_onec, s_bitCount, s_be7170, s_be7071, u_tens77, kpC_70]
  · refine ⟨cs, fun _ _ => rfl, ?_⟩
    rw [if_neg c1]
    by_cases c2 : 10 ≤ y ∧ y ≤ 19
    · rw [if_pos c2]
      simp (disch := first | assumption | omega) only [if_neg c1, if_pos c2, bi_add, bi_sub, bi_mul, bi_neg, bi_div, bi_64, bl_add, bl_sub, bl_mul, bl_neg, bl_div, bl_32, bi_min, bi_max, bl_min, bl_max, bq_I, bq_J, bq_A, bq_Vi, bq_Vl, bq_Vr, bq_cV, bq_cI, bq_cJ, bq_cA, bq_le, bq_lt, bq_eq, bq_z, bq_o, bq_ref, bq_nz, bq_nzJ, bq_bl, bq_blz, bq_T, bq_F, if_true, if_false, Int.reduceEq, Int.reduceLT, Int.reduceLE, Int.reduceAdd, Int.reduceSub, Int.reduceMul, Int.add_sub_cancel, li_0, li_1, li_2, li_5, li_9, li_10, li_19, li_20, li_29, li_100, li_199, li_2002, li_2003, li_2011, li_2012, ll_0, ll_1, ll_2, ll_5, ll_9, ll_10, ll_19, ll_20, ll_29, ll_100, ll_199, ga72, ga84, ga85, ga86, ga90, ga92, ga87, ga91, ga88, ga89, gf64_4, gf64_5, gf64_6, gf64_8, gf64_9, gf64_10, gf64_14, gf70_0, gf70_1, gf70_2, gf70_3, gf71_0, gf71_1, gf71_2, gf71_3, gs74_0, gs74_1, gs74_2, gs74_3, gs100_0, gs100_1, gs100_2, gs100_3, gr64_1, gr64_2, gr64_3, gr64_7, gr64_11, gr64_12, gr64_13, gr64_15, gr64_16, gr64_17, gr64_18, gr64_19, gr64_20, gr64_21, gr64_22, gr64_23, gr70_4, gr71_4, gu73, gu99, gu93, pa72, pa84, pa85, pa86, pa90, pa92, pa87, pa91, pa88, pa89, pf64_4, pf64_5, pf64_6, pf64_8, pf64_9, pf64_10, pf64_14, pf70_0, pf70_1, pf70_2, pf70_3, pf71_0, pf71_1, pf71_2, pf71_3, ps74_0, ps74_1, ps74_2, ps74_3, ps100_0, ps100_1, ps100_2, ps100_3, s_in, s_has, s_one, s_roomOf, s_hurtOf, s_isLost, s_standOf, s_isTray, s_isSoon, s_fallen, s_isPassage, s_isRoom, s_isPassage70, s_leads70, s_isBack70, s_isPassage, s_isRoom, s_isPassage71, s_leads71, s_isBack71, s_onec, s_bitCount, s_be7170, s_be7071, u_tens77, kpC_70]
      by_cases c3 : 0 ≤ y - 10 ∧ y - 10 ≤ A 2 - 1
      · rw [if_pos c3, if_pos c3]
      · rw [if_neg c3, if_neg c3]
    · rw [if_neg c2]
      by_cases c3 : 20 ≤ y ∧ y ≤ 29
      · rw [if_pos c3]
        simp (disch := first | assumption | omega) only [if_neg c1, if_neg c2, if_pos c3, bi_add, bi_sub, bi_mul, bi_neg, bi_div, bi_64, bl_add, bl_sub, bl_mul, bl_neg, bl_div, bl_32, bi_min, bi_max, bl_min, bl_max, bq_I, bq_J, bq_A, bq_Vi, bq_Vl, bq_Vr, bq_cV, bq_cI, bq_cJ, bq_cA, bq_le, bq_lt, bq_eq, bq_z, bq_o, bq_ref, bq_nz, bq_nzJ, bq_bl, bq_blz, bq_T, bq_F, if_true, if_false, Int.reduceEq, Int.reduceLT, Int.reduceLE, Int.reduceAdd, Int.reduceSub, Int.reduceMul, Int.add_sub_cancel, li_0, li_1, li_2, li_5, li_9, li_10, li_19, li_20, li_29, li_100, li_199, li_2002, li_2003, li_2011, li_2012, ll_0, ll_1, ll_2, ll_5, ll_9, ll_10, ll_19, ll_20, ll_29, ll_100, ll_199, ga72, ga84, ga85, ga86, ga90, ga92, ga87, ga91, ga88, ga89, gf64_4, gf64_5, gf64_6, gf64_8, gf64_9, gf64_10, gf64_14, gf70_0, gf70_1, gf70_2, gf70_3, gf71_0, gf71_1, gf71_2, gf71_3, gs74_0, gs74_1, gs74_2, gs74_3, gs100_0, gs100_1, gs100_2, gs100_3, gr64_1, gr64_2, gr64_3, gr64_7, gr64_11, gr64_12, gr64_13, gr64_15, gr64_16, gr64_17, gr64_18, gr64_19, gr64_20, gr64_21, gr64_22, gr64_23, gr70_4, gr71_4, gu73, gu99, gu93, pa72, pa84, pa85, pa86, pa90, pa92, pa87, pa91, pa88, pa89, pf64_4, pf64_5, pf64_6, pf64_8, pf64_9, pf64_10, pf64_14, pf70_0, pf70_1, pf70_2, pf70_3, pf71_0, pf71_1, pf71_2, pf71_3, ps74_0, ps74_1, ps74_2, ps74_3, ps100_0, ps100_1, ps100_2, ps100_3, s_in, s_has, s_one, s_roomOf, s_hurtOf, s_isLost, s_standOf, s_isTray, s_isSoon, s_fallen, s_isPassage, s_isRoom, s_isPassage70, s_leads70, s_isBack70, s_isPassage, s_isRoom, s_isPassage71, s_leads71, s_isBack71, s_onec, s_bitCount, s_be7170, s_be7071, u_tens77, kpC_70]
      · rw [if_neg c3]
        by_cases c4 : 100 ≤ y ∧ y ≤ 199
        · rw [if_pos c4]
          have em : y - y / 10 * 10 = y % 10 := by omega
          have ew : ∀ a b : Int, 0 ≤ a → a ≤ 9 → 0 ≤ b → b ≤ 9 → bk_call d 2011 [.ref 71, .long (bk_l a), .long (bk_l b)] (bk_M κ (cp, cs, cj) Y g n) = some (some (.int (bk_i (if (0 ≤ a ∧ a ≤ A 1 - 1) ∧ (0 ≤ b ∧ b ≤ 5) then 0 else 1))), bk_M κ (cp, cs, cj) Y g n) := by
            intro a b a0 a1 b0 b1
            obtain ⟨d2, rfl⟩ := dep (show 2 ≤ d by omega)
            have hc2 := hc
            obtain ⟨c0, c1, c2, c3, c4, c5, c6, c7, c8, ⟨tw, ctw, htw⟩, cb, ce, cd, cw, cwp, hca, -, -⟩ := hc2
            rw [kX2_whyPut, eX2_whyPut_0]
            simp (disch := first | assumption | omega) only [c0, c1, c2, c3, c4, c5, c6, c7, c8, ctw, cb, ce, cd, cw, cwp, bi_add, bi_sub, bi_mul, bi_neg, bi_div, bi_64, bl_add, bl_sub, bl_mul, bl_neg, bl_div, bl_32, bi_min, bi_max, bl_min, bl_max, bq_I, bq_J, bq_A, bq_Vi, bq_Vl, bq_Vr, bq_cV, bq_cI, bq_cJ, bq_cA, bq_le, bq_lt, bq_eq, bq_z, bq_o, bq_ref, bq_nz, bq_nzJ, bq_bl, bq_blz, bq_T, bq_F, if_true, if_false, Int.reduceEq, Int.reduceLT, Int.reduceLE, Int.reduceAdd, Int.reduceSub, Int.reduceMul, Int.add_sub_cancel, li_0, li_1, li_2, li_4, li_5, li_2011, ll_0, ll_1, ll_2, ll_4, ll_5, ga72, ga84, ga85, ga86, ga90, ga92, ga87, ga91, ga88, ga89, gf64_4, gf64_5, gf64_6, gf64_8, gf64_9, gf64_10, gf64_14, gf70_0, gf70_1, gf70_2, gf70_3, gf71_0, gf71_1, gf71_2, gf71_3, gs74_0, gs74_1, gs74_2, gs74_3, gs100_0, gs100_1, gs100_2, gs100_3, gr64_1, gr64_2, gr64_3, gr64_7, gr64_11, gr64_12, gr64_13, gr64_15, gr64_16, gr64_17, gr64_18, gr64_19, gr64_20, gr64_21, gr64_22, gr64_23, gr70_4, gr71_4, gu73, gu99, gu93, pa72, pa84, pa85, pa86, pa90, pa92, pa87, pa91, pa88, pa89, pf64_4, pf64_5, pf64_6, pf64_8, pf64_9, pf64_10, pf64_14, pf70_0, pf70_1, pf70_2, pf70_3, pf71_0, pf71_1, pf71_2, pf71_3, ps74_0, ps74_1, ps74_2, ps74_3, ps100_0, ps100_1, ps100_2, ps100_3, s_in, s_has, s_one, s_roomOf, s_hurtOf, s_isLost, s_standOf, s_isTray, s_isSoon, s_fallen, s_isPassage, s_isRoom, s_isPassage70, s_leads70, s_isBack70, s_isPassage, s_isRoom, s_isPassage71, s_leads71, s_isBack71, s_onec, s_bitCount, s_be7170, s_be7071, u_tens77, kpC_70]
            by_cases q : 0 ≤ a ∧ a ≤ A 1 - 1
            · rw [if_pos q]
              by_cases q2 : 0 ≤ b ∧ b ≤ 5
              · rw [if_pos q2, if_pos ⟨q, q2⟩]
              · rw [if_neg q2, if_neg (fun k => q2 k.2)]
            · rw [if_neg q, if_neg (fun k => q k.1)]
          have ew2 := ew ((y - 100) / 10) (y % 10) (by omega) (by omega) (by omega) (by omega)
          simp (disch := first | assumption | omega) only [if_neg c1, if_neg c2, if_neg c3, if_pos c4, em, ew2, bi_add, bi_sub, bi_mul, bi_neg, bi_div, bi_64, bl_add, bl_sub, bl_mul, bl_neg, bl_div, bl_32, bi_min, bi_max, bl_min, bl_max, bq_I, bq_J, bq_A, bq_Vi, bq_Vl, bq_Vr, bq_cV, bq_cI, bq_cJ, bq_cA, bq_le, bq_lt, bq_eq, bq_z, bq_o, bq_ref, bq_nz, bq_nzJ, bq_bl, bq_blz, bq_T, bq_F, if_true, if_false, Int.reduceEq, Int.reduceLT, Int.reduceLE, Int.reduceAdd, Int.reduceSub, Int.reduceMul, Int.add_sub_cancel, li_0, li_1, li_2, li_5, li_9, li_10, li_19, li_20, li_29, li_100, li_199, li_2002, li_2003, li_2011, li_2012, ll_0, ll_1, ll_2, ll_5, ll_9, ll_10, ll_19, ll_20, ll_29, ll_100, ll_199, ga72, ga84, ga85, ga86, ga90, ga92, ga87, ga91, ga88, ga89, gf64_4, gf64_5, gf64_6, gf64_8, gf64_9, gf64_10, gf64_14, gf70_0, gf70_1, gf70_2, gf70_3, gf71_0, gf71_1, gf71_2, gf71_3, gs74_0, gs74_1, gs74_2, gs74_3, gs100_0, gs100_1, gs100_2, gs100_3, gr64_1, gr64_2, gr64_3, gr64_7, gr64_11, gr64_12, gr64_13, gr64_15, gr64_16, gr64_17, gr64_18, gr64_19, gr64_20, gr64_21, gr64_22, gr64_23, gr70_4, gr71_4, gu73, gu99, gu93, pa72, pa84, pa85, pa86, pa90, pa92, pa87, pa91, pa88, pa89, pf64_4, pf64_5, pf64_6, pf64_8, pf64_9, pf64_10, pf64_14, pf70_0, pf70_1, pf70_2, pf70_3, pf71_0, pf71_1, pf71_2, pf71_3, ps74_0, ps74_1, ps74_2, ps74_3, ps100_0, ps100_1, ps100_2, ps100_3, s_in, s_has, s_one, s_roomOf, s_hurtOf, s_isLost, s_standOf, s_isTray, s_isSoon, s_fallen, s_isPassage, s_isRoom, s_isPassage70, s_leads70, s_isBack70, s_isPassage, s_isRoom, s_isPassage71, s_leads71, s_isBack71, s_onec, s_bitCount, s_be7170, s_be7071, u_tens77, kpC_70]
        · rw [if_neg c4]
          simp (disch := first | assumption | omega) only [if_neg c1, if_neg c2, if_neg c3, if_neg c4, bi_add, bi_sub, bi_mul, bi_neg, bi_div, bi_64, bl_add, bl_sub, bl_mul, bl_neg, bl_div, bl_32, bi_min, bi_max, bl_min, bl_max, bq_I, bq_J, bq_A, bq_Vi, bq_Vl, bq_Vr, bq_cV, bq_cI, bq_cJ, bq_cA, bq_le, bq_lt, bq_eq, bq_z, bq_o, bq_ref, bq_nz, bq_nzJ, bq_bl, bq_blz, bq_T, bq_F, if_true, if_false, Int.reduceEq, Int.reduceLT, Int.reduceLE, Int.reduceAdd, Int.reduceSub, Int.reduceMul, Int.add_sub_cancel, li_0, li_1, li_2, li_5, li_9, li_10, li_19, li_20, li_29, li_100, li_199, li_2002, li_2003, li_2011, li_2012, ll_0, ll_1, ll_2, ll_5, ll_9, ll_10, ll_19, ll_20, ll_29, ll_100, ll_199, ga72, ga84, ga85, ga86, ga90, ga92, ga87, ga91, ga88, ga89, gf64_4, gf64_5, gf64_6, gf64_8, gf64_9, gf64_10, gf64_14, gf70_0, gf70_1, gf70_2, gf70_3, gf71_0, gf71_1, gf71_2, gf71_3, gs74_0, gs74_1, gs74_2, gs74_3, gs100_0, gs100_1, gs100_2, gs100_3, gr64_1, gr64_2, gr64_3, gr64_7, gr64_11, gr64_12, gr64_13, gr64_15, gr64_16, gr64_17, gr64_18, gr64_19, gr64_20, gr64_21, gr64_22, gr64_23, gr70_4, gr71_4, gu73, gu99, gu93, pa72, pa84, pa85, pa86, pa90, pa92, pa87, pa91, pa88, pa89, pf64_4, pf64_5, pf64_6, pf64_8, pf64_9, pf64_10, pf64_14, pf70_0, pf70_1, pf70_2, pf70_3, pf71_0, pf71_1, pf71_2, pf71_3, ps74_0, ps74_1, ps74_2, ps74_3, ps100_0, ps100_1, ps100_2, ps100_3, s_in, s_has, s_one, s_roomOf, s_hurtOf, s_isLost, s_standOf, s_isTray, s_isSoon, s_fallen, s_isPassage, s_isRoom, s_isPassage70, s_leads70, s_isBack70, s_isPassage, s_isRoom, s_isPassage71, s_leads71, s_isBack71, s_onec, s_bitCount, s_be7170, s_be7071, u_tens77, kpC_70]
theorem s_does71 (hF : bFix g) (hc : bRC κ g ca A) (hw : bWF A 0) (hy : whyD A S y = 0) (hS : ∀ k, 0 ≤ k → k < 4 → cs 71 k = S k) (o : okT A S) (hD : 907 ≤ D) :
    ∃ cs', (∀ a, a ≠ ca + 4 → a ≠ 71 → cs' a = cs a) ∧ (∀ k, 0 ≤ k → k < 4 → cs' 71 k = doD A S y k) ∧ bk_call D 2010 [.ref 71, .int (bk_i y)] (bk_M κ (cp, cs, cj) Y g n) = some (none, bk_M κ (cp, cs', cj) Y g n) := by
  obtain ⟨d, rfl⟩ := dep hD
  have w1 : 1 ≤ A 1 := by have := hw.1; simpa using this
  have w2 : A 1 ≤ 6 := by have := hw.2.1; simpa using this
  have w4 : A 2 ≤ 8 := by have := hw.2.2.2.1; simpa using this
  obtain ⟨o0, o1, o2, o3, o4, o5⟩ := o
  have e0 := hS 0 (by decide) (by decide)
  have e1 := hS 1 (by decide) (by decide)
  have e2 := hS 2 (by decide) (by decide)
  have e3 := hS 3 (by decide) (by decide)
  have four : ∀ {P : Int → Prop}, P 0 → P 1 → P 2 → P 3 → ∀ k, 0 ≤ k → k < 4 → P k := by
    intro P h0 h1 h2 h3 k k0 k1
    have : k = 0 ∨ k = 1 ∨ k = 2 ∨ k = 3 := by omega
    rcases this with rfl | rfl | rfl | rfl <;> assumption
  have hca : ca = 65 ∨ 122 ≤ ca := by
    have hc2 := hc
    obtain ⟨c0, c1, c2, c3, c4, c5, c6, c7, c8, ⟨tw, ctw, htw⟩, cb, ce, cd, cw, cwp, hca, -, -⟩ := hc2
    exact hca
  unfold doD
  rw [kX2_does, eX2_does_0]
  rcases whyD_0 hy with ⟨a, b, c, e⟩ | ⟨a, b, c⟩ | ⟨a, b⟩ | ⟨a, b, c, e⟩
  · obtain ⟨cs1, f1, q1⟩ := s_goes71 (κ := κ) (cp := cp) (cs := cs) (cj := cj) (Y := Y) (n := n) (D := d) (p := y) hF hc hw a c (by omega) (by omega) (by omega) (by omega) (by omega)
    rw [e0, e1, e2, e3] at q1
    rw [if_pos b]
    refine ⟨bU (bU cs1 71 0 (thenM A (S 0) y (S 1) (S 2))) 71 3 (S 3 + 1), fun x hx hy => ?_, ?_, ?_⟩
    · funext k; rw [bU_ne _ _ _ _ _ _ hy, bU_ne _ _ _ _ _ _ hy, f1 x hx]
    · have f71 := f1 71 (by omega)
      simp only [bU_same, f71]
      exact four rfl e1 e2 rfl
    · simp (disch := first | assumption | omega) only [if_neg (show ¬ 10 ≤ y by omega), q1, bi_add, bi_sub, bi_mul, bi_neg, bi_div, bi_64, bl_add, bl_sub, bl_mul, bl_neg, bl_div, bl_32, bi_min, bi_max, bl_min, bl_max, bq_I, bq_J, bq_A, bq_Vi, bq_Vl, bq_Vr, bq_cV, bq_cI, bq_cJ, bq_cA, bq_le, bq_lt, bq_eq, bq_z, bq_o, bq_ref, bq_nz, bq_nzJ, bq_bl, bq_blz, bq_T, bq_F, if_true, if_false, Int.reduceEq, Int.reduceLT, Int.reduceLE, Int.reduceAdd, Int.reduceSub, Int.reduceMul, Int.add_sub_cancel, li_0, li_1, li_2, li_10, li_20, li_31, li_100, li_2009, li_2010, ll_0, ll_1, ll_2, ll_10, ll_20, ll_31, ll_100, ga72, ga84, ga85, ga86, ga90, ga92, ga87, ga91, ga88, ga89, gf64_4, gf64_5, gf64_6, gf64_8, gf64_9, gf64_10, gf64_14, gf70_0, gf70_1, gf70_2, gf70_3, gf71_0, gf71_1, gf71_2, gf71_3, gs74_0, gs74_1, gs74_2, gs74_3, gs100_0, gs100_1, gs100_2, gs100_3, gr64_1, gr64_2, gr64_3, gr64_7, gr64_11, gr64_12, gr64_13, gr64_15, gr64_16, gr64_17, gr64_18, gr64_19, gr64_20, gr64_21, gr64_22, gr64_23, gr70_4, gr71_4, gu73, gu99, gu93, pa72, pa84, pa85, pa86, pa90, pa92, pa87, pa91, pa88, pa89, pf64_4, pf64_5, pf64_6, pf64_8, pf64_9, pf64_10, pf64_14, pf70_0, pf70_1, pf70_2, pf70_3, pf71_0, pf71_1, pf71_2, pf71_3, ps74_0, ps74_1, ps74_2, ps74_3, ps100_0, ps100_1, ps100_2, ps100_3, s_in, s_has, s_one, s_roomOf, s_hurtOf, s_isLost, s_standOf, s_isTray, s_isSoon, s_fallen, s_isPassage, s_isRoom, s_isPassage70, s_leads70, s_isBack70, s_isPassage, s_isRoom, s_isPassage71, s_leads71, s_isBack71, s_onec, s_bitCount, s_be7170, s_be7071, u_tens77, kpC_70]
  · rw [if_neg (by omega), if_pos b]
    have ex : bk_i (S 1) ^^^ (bk_i 1 <<< (bk_i (y - 10) &&& bk_i 31)) = bk_i (tg (S 1) (y - 10)) := bi_tg _ _
    refine ⟨bU cs 71 1 (tg (S 1) (y - 10)), fun x hx hy => ?_, ?_, ?_⟩
    · funext k; rw [bU_ne _ _ _ _ _ _ hy]
    · simp only [bU_same]
      exact four e0 rfl e2 e3
    · simp (disch := first | assumption | omega) only [if_pos a, if_neg (show ¬ 20 ≤ y by omega), e1, ex, bi_add, bi_sub, bi_mul, bi_neg, bi_div, bi_64, bl_add, bl_sub, bl_mul, bl_neg, bl_div, bl_32, bi_min, bi_max, bl_min, bl_max, bq_I, bq_J, bq_A, bq_Vi, bq_Vl, bq_Vr, bq_cV, bq_cI, bq_cJ, bq_cA, bq_le, bq_lt, bq_eq, bq_z, bq_o, bq_ref, bq_nz, bq_nzJ, bq_bl, bq_blz, bq_T, bq_F, if_true, if_false, Int.reduceEq, Int.reduceLT, Int.reduceLE, Int.reduceAdd, Int.reduceSub, Int.reduceMul, Int.add_sub_cancel, li_0, li_1, li_2, li_10, li_20, li_31, li_100, li_2009, li_2010, ll_0, ll_1, ll_2, ll_10, ll_20, ll_31, ll_100, ga72, ga84, ga85, ga86, ga90, ga92, ga87, ga91, ga88, ga89, gf64_4, gf64_5, gf64_6, gf64_8, gf64_9, gf64_10, gf64_14, gf70_0, gf70_1, gf70_2, gf70_3, gf71_0, gf71_1, gf71_2, gf71_3, gs74_0, gs74_1, gs74_2, gs74_3, gs100_0, gs100_1, gs100_2, gs100_3, gr64_1, gr64_2, gr64_3, gr64_7, gr64_11, gr64_12, gr64_13, gr64_15, gr64_16, gr64_17, gr64_18, gr64_19, gr64_20, gr64_21, gr64_22, gr64_23, gr70_4, gr71_4, gu73, gu99, gu93, pa72, pa84, pa85, pa86, pa90, pa92, pa87, pa91, pa88, pa89, pf64_4, pf64_5, pf64_6, pf64_8, pf64_9, pf64_10, pf64_14, pf70_0, pf70_1, pf70_2, pf70_3, pf71_0, pf71_1, pf71_2, pf71_3, ps74_0, ps74_1, ps74_2, ps74_3, ps100_0, ps100_1, ps100_2, ps100_3, s_in, s_has, s_one, s_roomOf, s_hurtOf, s_isLost, s_standOf, s_isTray, s_isSoon, s_fallen, s_isPassage, s_isRoom, s_isPassage70, s_leads70, s_isBack70, s_isPassage, s_isRoom, s_isPassage71, s_leads71, s_isBack71, s_onec, s_bitCount, s_be7170, s_be7071, u_tens77, kpC_70]
  · rw [if_neg (by omega), if_neg (by omega), if_pos b]
    refine ⟨bU cs 71 2 (y - 20), fun x hx hy => ?_, ?_, ?_⟩
    · funext k; rw [bU_ne _ _ _ _ _ _ hy]
    · simp only [bU_same]
      exact four e0 e1 rfl e3
    · simp (disch := first | assumption | omega) only [if_pos (show 10 ≤ y by omega), if_pos a, if_neg (show ¬ 100 ≤ y by omega), bi_add, bi_sub, bi_mul, bi_neg, bi_div, bi_64, bl_add, bl_sub, bl_mul, bl_neg, bl_div, bl_32, bi_min, bi_max, bl_min, bl_max, bq_I, bq_J, bq_A, bq_Vi, bq_Vl, bq_Vr, bq_cV, bq_cI, bq_cJ, bq_cA, bq_le, bq_lt, bq_eq, bq_z, bq_o, bq_ref, bq_nz, bq_nzJ, bq_bl, bq_blz, bq_T, bq_F, if_true, if_false, Int.reduceEq, Int.reduceLT, Int.reduceLE, Int.reduceAdd, Int.reduceSub, Int.reduceMul, Int.add_sub_cancel, li_0, li_1, li_2, li_10, li_20, li_31, li_100, li_2009, li_2010, ll_0, ll_1, ll_2, ll_10, ll_20, ll_31, ll_100, ga72, ga84, ga85, ga86, ga90, ga92, ga87, ga91, ga88, ga89, gf64_4, gf64_5, gf64_6, gf64_8, gf64_9, gf64_10, gf64_14, gf70_0, gf70_1, gf70_2, gf70_3, gf71_0, gf71_1, gf71_2, gf71_3, gs74_0, gs74_1, gs74_2, gs74_3, gs100_0, gs100_1, gs100_2, gs100_3, gr64_1, gr64_2, gr64_3, gr64_7, gr64_11, gr64_12, gr64_13, gr64_15, gr64_16, gr64_17, gr64_18, gr64_19, gr64_20, gr64_21, gr64_22, gr64_23, gr70_4, gr71_4, gu73, gu99, gu93, pa72, pa84, pa85, pa86, pa90, pa92, pa87, pa91, pa88, pa89, pf64_4, pf64_5, pf64_6, pf64_8, pf64_9, pf64_10, pf64_14, pf70_0, pf70_1, pf70_2, pf70_3, pf71_0, pf71_1, pf71_2, pf71_3, ps74_0, ps74_1, ps74_2, ps74_3, ps100_0, ps100_1, ps100_2, ps100_3, s_in, s_has, s_one, s_roomOf, s_hurtOf, s_isLost, s_standOf, s_isTray, s_isSoon, s_fallen, s_isPassage, s_isRoom, s_isPassage70, s_leads70, s_isBack70, s_isPassage, s_isRoom, s_isPassage71, s_leads71, s_isBack71, s_onec, s_bitCount, s_be7170, s_be7071, u_tens77, kpC_70]
  · rw [if_neg (by omega), if_neg (by omega), if_neg (by omega)]
    have em : y - y / 10 * 10 = y % 10 := by omega
    refine ⟨bU cs 71 0 (6 * ((y - 100) / 10) + y % 10), fun x hx hy => ?_, ?_, ?_⟩
    · funext k; rw [bU_ne _ _ _ _ _ _ hy]
    · simp only [bU_same]
      exact four rfl e1 e2 e3
    · simp (disch := first | assumption | omega) only [if_pos (show 10 ≤ y by omega), if_pos (show 20 ≤ y by omega), if_pos a, em, bi_add, bi_sub, bi_mul, bi_neg, bi_div, bi_64, bl_add, bl_sub, bl_mul, bl_neg, bl_div, bl_32, bi_min, bi_max, bl_min, bl_max, bq_I, bq_J, bq_A, bq_Vi, bq_Vl, bq_Vr, bq_cV, bq_cI, bq_cJ, bq_cA, bq_le, bq_lt, bq_eq, bq_z, bq_o, bq_ref, bq_nz, bq_nzJ, bq_bl, bq_blz, bq_T, bq_F, if_true, if_false, Int.reduceEq, Int.reduceLT, Int.reduceLE, Int.reduceAdd, Int.reduceSub, Int.reduceMul, Int.add_sub_cancel, li_0, li_1, li_2, li_10, li_20, li_31, li_100, li_2009, li_2010, ll_0, ll_1, ll_2, ll_10, ll_20, ll_31, ll_100, ga72, ga84, ga85, ga86, ga90, ga92, ga87, ga91, ga88, ga89, gf64_4, gf64_5, gf64_6, gf64_8, gf64_9, gf64_10, gf64_14, gf70_0, gf70_1, gf70_2, gf70_3, gf71_0, gf71_1, gf71_2, gf71_3, gs74_0, gs74_1, gs74_2, gs74_3, gs100_0, gs100_1, gs100_2, gs100_3, gr64_1, gr64_2, gr64_3, gr64_7, gr64_11, gr64_12, gr64_13, gr64_15, gr64_16, gr64_17, gr64_18, gr64_19, gr64_20, gr64_21, gr64_22, gr64_23, gr70_4, gr71_4, gu73, gu99, gu93, pa72, pa84, pa85, pa86, pa90, pa92, pa87, pa91, pa88, pa89, pf64_4, pf64_5, pf64_6, pf64_8, pf64_9, pf64_10, pf64_14, pf70_0, pf70_1, pf70_2, pf70_3, pf71_0, pf71_1, pf71_2, pf71_3, ps74_0, ps74_1, ps74_2, ps74_3, ps100_0, ps100_1, ps100_2, ps100_3, s_in, s_has, s_one, s_roomOf, s_hurtOf, s_isLost, s_standOf, s_isTray, s_isSoon, s_fallen, s_isPassage, s_isRoom, s_isPassage70, s_leads70, s_isBack70, s_isPassage, s_isRoom, s_isPassage71, s_leads71, s_isBack71, s_onec, s_bitCount, s_be7170, s_be7071, u_tens77, kpC_70]
end DD
