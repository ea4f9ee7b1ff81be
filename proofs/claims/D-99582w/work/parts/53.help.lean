/-! SPECS: the small ones, on any heap -/
set_option maxRecDepth 100000
theorem dep {k D : Nat} (h : k ≤ D) (hk : 1 ≤ k := by decide) : ∃ d, D = d + 1 := ⟨D - 1, by omega⟩
theorem s_in {v a b : Int} (h1 : -9223372036854775808 ≤ v) (h2 : v < 9223372036854775808) (h3 : -9223372036854775808 ≤ a) (h4 : a < 9223372036854775808) (h5 : -9223372036854775808 ≤ b) (h6 : b < 9223372036854775808) {D : Nat} (hD : 1 ≤ D) (h : bk_H) :
    bk_call D 5 [.long (bk_l v), .long (bk_l a), .long (bk_l b)] h = some (some (.int (bk_i (bz (a ≤ v ∧ v ≤ b)))), h) := by
  obtain ⟨d, rfl⟩ := dep hD
  rw [kX0_in, eX0_in_0, bl_cmp h1 h2 h3 h4, bl_cmp h1 h2 h5 h6]
  by_cases c1 : v < a
  · have e1 : ¬ a < v := by omega
    have e2 : ¬ v = a := by omega
    have e3 : ¬ (a ≤ v ∧ v ≤ b) := by omega
    rw [if_neg e1, if_neg e2, bz_f e3]; rfl
  · by_cases c2 : b < v
    · have e3 : ¬ (a ≤ v ∧ v ≤ b) := by omega
      rw [if_pos c2, bz_f e3]
      by_cases c3 : a < v
      · rw [if_pos c3]; rfl
      · rw [if_neg c3, if_pos (show v = a by omega)]; rfl
    · have e3 : a ≤ v ∧ v ≤ b := by omega
      rw [if_neg c2, bz_t e3]
      by_cases c3 : a < v <;> by_cases c4 : v = b
      · rw [if_pos c3, if_pos c4]; rfl
      · rw [if_pos c3, if_neg c4]; rfl
      · rw [if_neg c3, if_pos (show v = a by omega), if_pos c4]; rfl
      · rw [if_neg c3, if_pos (show v = a by omega), if_neg c4]; rfl
theorem s_within {v a b : Int} (h1 : -9223372036854775808 ≤ v) (h2 : v < 9223372036854775808) (h3 : -9223372036854775808 ≤ a) (h4 : a < 9223372036854775808) (h5 : -9223372036854775808 ≤ b) (h6 : b < 9223372036854775808) {D : Nat} (hD : 1 ≤ D) (h : bk_H) :
    bk_call D 4004 [.long (bk_l v), .long (bk_l a), .long (bk_l b)] h = some (some (.int (bk_i (bz (a ≤ v ∧ v ≤ b)))), h) := by
  obtain ⟨d, rfl⟩ := dep hD
  rw [kX4_within, eX4_within_0, bl_cmp h1 h2 h3 h4, bl_cmp h1 h2 h5 h6]
  by_cases c1 : v < a
  · have e1 : ¬ a < v := by omega
    have e2 : ¬ v = a := by omega
    have e3 : ¬ (a ≤ v ∧ v ≤ b) := by omega
    rw [if_neg e1, if_neg e2, bz_f e3]; rfl
  · by_cases c2 : b < v
    · have e3 : ¬ (a ≤ v ∧ v ≤ b) := by omega
      rw [if_pos c2, bz_f e3]
      by_cases c3 : a < v
      · rw [if_pos c3]; rfl
      · rw [if_neg c3, if_pos (show v = a by omega)]; rfl
    · have e3 : a ≤ v ∧ v ≤ b := by omega
      rw [if_neg c2, bz_t e3]
      by_cases c3 : a < v <;> by_cases c4 : v = b
      · rw [if_pos c3, if_pos c4]; rfl
      · rw [if_pos c3, if_neg c4]; rfl
      · rw [if_neg c3, if_pos (show v = a by omega), if_pos c4]; rfl
      · rw [if_neg c3, if_pos (show v = a by omega), if_neg c4]; rfl
/-- a set's member -/
def bt (s k : Int) : Int := ((bk_i s >>> (bk_i k &&& 31)) &&& 1).toInt
theorem and1 (x : Int32) : x &&& 1 = 0 ∨ x &&& 1 = 1 := by
  have e : (x &&& 1).toBitVec = x.toBitVec &&& 1#32 := rfl
  have e2 := BitVec.and_one_eq_setWidth_ofBool_getLsbD (x := x.toBitVec)
  rw [← e] at e2
  cases hb : x.toBitVec.getLsbD 0 with
  | false => rw [hb] at e2; exact Or.inl (Int32.toBitVec.inj e2)
  | true => rw [hb] at e2; exact Or.inr (Int32.toBitVec.inj e2)
theorem bt_01 (s k : Int) : bt s k = 0 ∨ bt s k = 1 := by
  unfold bt
  rcases and1 (bk_i s >>> (bk_i k &&& 31)) with e | e <;> rw [e]
  · exact Or.inl rfl
  · exact Or.inr rfl
theorem bi_bt (s k : Int) : (bk_i s >>> (bk_i k &&& bk_i 31)) &&& bk_i 1 = bk_i (bt s k) := bi_self _
theorem bz_bt (s k : Int) : bz (bt s k = 1) = bt s k := by
  rcases bt_01 s k with e | e <;> rw [e] <;> rfl
theorem s_has (s k : Int) {D : Nat} (hD : 1 ≤ D) (h : bk_H) : bk_call D 9 [.int (bk_i s), .int (bk_i k)] h = some (some (.int (bk_i (bz (bt s k = 1)))), h) := by
  obtain ⟨d, rfl⟩ := dep hD
  rw [kX0_has, eX0_has_0]
  have q := bt_01 s k
  simp (disch := first | assumption | omega) only [bi_bt, bi_add, bi_sub, bi_mul, bi_neg, bi_div, bi_64, bl_add, bl_sub, bl_mul, bl_neg, bl_div, bl_32, bi_min, bi_max, bl_min, bl_max, bq_I, bq_J, bq_A, bq_Vi, bq_Vl, bq_Vr, bq_cV, bq_cI, bq_cJ, bq_cA, bq_le, bq_lt, bq_eq, bq_z, bq_o, bq_ref, bq_nz, bq_nzJ, bq_bl, bq_blz, bq_T, bq_F, if_true, if_false, Int.reduceEq, Int.reduceLT, Int.reduceLE, Int.reduceAdd, Int.reduceSub, Int.reduceMul, Int.add_sub_cancel, li_0, li_1, li_9, li_31, ll_0, ll_1, ll_9, ll_31]
  by_cases c : bt s k = 1
  · rw [if_pos c, bz_t c]
  · rw [if_neg c, bz_f c]
theorem s_one (p : Prop) [Decidable p] {D : Nat} (hD : 1 ≤ D) (h : bk_H) : bk_call D 10 [.int (bk_i (bz p))] h = some (some (.int (bk_i (bz p))), h) := by
  obtain ⟨d, rfl⟩ := dep hD
  rw [kX0_one, eX0_one_0]
  simp (disch := first | assumption | omega) only [bi_add, bi_sub, bi_mul, bi_neg, bi_div, bi_64, bl_add, bl_sub, bl_mul, bl_neg, bl_div, bl_32, bi_min, bi_max, bl_min, bl_max, bq_I, bq_J, bq_A, bq_Vi, bq_Vl, bq_Vr, bq_cV, bq_cI, bq_cJ, bq_cA, bq_le, bq_lt, bq_eq, bq_z, bq_o, bq_ref, bq_nz, bq_nzJ, bq_bl, bq_blz, bq_T, bq_F, if_true, if_false, Int.reduceEq, Int.reduceLT, Int.reduceLE, Int.reduceAdd, Int.reduceSub, Int.reduceMul, Int.add_sub_cancel, li_0, li_1, li_10, ll_0, ll_1, ll_10]
  by_cases c : p
  · rw [if_pos c, bz_t c]
  · rw [if_neg c, bz_f c]
theorem s_roomOf {s : Int} (h1 : 0 ≤ s) (h2 : s < 2147483648) {D : Nat} (hD : 1 ≤ D) (h : bk_H) : bk_call D 12 [.int (bk_i s)] h = some (some (.int (bk_i (s / 6))), h) := by
  obtain ⟨d, rfl⟩ := dep hD
  rw [kX0_roomOf, eX0_roomOf_0]
  simp (disch := first | assumption | omega) only [bi_add, bi_sub, bi_mul, bi_neg, bi_div, bi_64, bl_add, bl_sub, bl_mul, bl_neg, bl_div, bl_32, bi_min, bi_max, bl_min, bl_max, bq_I, bq_J, bq_A, bq_Vi, bq_Vl, bq_Vr, bq_cV, bq_cI, bq_cJ, bq_cA, bq_le, bq_lt, bq_eq, bq_z, bq_o, bq_ref, bq_nz, bq_nzJ, bq_bl, bq_blz, bq_T, bq_F, if_true, if_false, Int.reduceEq, Int.reduceLT, Int.reduceLE, Int.reduceAdd, Int.reduceSub, Int.reduceMul, Int.add_sub_cancel, li_0, li_1, li_6, li_12, ll_0, ll_1, ll_6, ll_12]
theorem s_hurtOf {s : Int} (h1 : 0 ≤ s) (h2 : s < 2147483648) {D : Nat} (hD : 1 ≤ D) (h : bk_H) : bk_call D 14 [.int (bk_i s)] h = some (some (.int (bk_i (s % 6))), h) := by
  obtain ⟨d, rfl⟩ := dep hD
  rw [kX0_hurtOf, eX0_hurtOf_0]
  simp (disch := first | assumption | omega) only [bi_add, bi_sub, bi_mul, bi_neg, bi_div, bi_64, bl_add, bl_sub, bl_mul, bl_neg, bl_div, bl_32, bi_min, bi_max, bl_min, bl_max, bq_I, bq_J, bq_A, bq_Vi, bq_Vl, bq_Vr, bq_cV, bq_cI, bq_cJ, bq_cA, bq_le, bq_lt, bq_eq, bq_z, bq_o, bq_ref, bq_nz, bq_nzJ, bq_bl, bq_blz, bq_T, bq_F, if_true, if_false, Int.reduceEq, Int.reduceLT, Int.reduceLE, Int.reduceAdd, Int.reduceSub, Int.reduceMul, Int.add_sub_cancel, li_0, li_1, li_6, li_14, ll_0, ll_1, ll_6, ll_14]
  have e : s - s / 6 * 6 = s % 6 := by omega
  rw [e]
theorem s_isLost {s : Int} (h1 : 0 ≤ s) (h2 : s < 2147483648) {D : Nat} (hD : 2 ≤ D) (h : bk_H) : bk_call D 13 [.int (bk_i s)] h = some (some (.int (bk_i (bz (s % 6 = 5)))), h) := by
  obtain ⟨d, rfl⟩ := dep hD
  rw [kX0_isLost, eX0_isLost_0]
  simp (disch := first | assumption | omega) only [s_hurtOf, bi_add, bi_sub, bi_mul, bi_neg, bi_div, bi_64, bl_add, bl_sub, bl_mul, bl_neg, bl_div, bl_32, bi_min, bi_max, bl_min, bl_max, bq_I, bq_J, bq_A, bq_Vi, bq_Vl, bq_Vr, bq_cV, bq_cI, bq_cJ, bq_cA, bq_le, bq_lt, bq_eq, bq_z, bq_o, bq_ref, bq_nz, bq_nzJ, bq_bl, bq_blz, bq_T, bq_F, if_true, if_false, Int.reduceEq, Int.reduceLT, Int.reduceLE, Int.reduceAdd, Int.reduceSub, Int.reduceMul, Int.add_sub_cancel, li_0, li_1, li_5, li_13, li_14, ll_0, ll_1, ll_5, ll_13, ll_14]
  by_cases c : s % 6 = 5
  · rw [if_pos c, bz_t c]
  · rw [if_neg c, bz_f c]
theorem s_standOf (a b : Int) {D : Nat} (hD : 1 ≤ D) (h : bk_H) : bk_call D 1 [.int (bk_i a), .int (bk_i b)] h = some (some (.int (bk_i (6 * a + b))), h) := by
  obtain ⟨d, rfl⟩ := dep hD
  rw [kX0_standOf, eX0_standOf_0]
  simp (disch := first | assumption | omega) only [bi_add, bi_sub, bi_mul, bi_neg, bi_div, bi_64, bl_add, bl_sub, bl_mul, bl_neg, bl_div, bl_32, bi_min, bi_max, bl_min, bl_max, bq_I, bq_J, bq_A, bq_Vi, bq_Vl, bq_Vr, bq_cV, bq_cI, bq_cJ, bq_cA, bq_le, bq_lt, bq_eq, bq_z, bq_o, bq_ref, bq_nz, bq_nzJ, bq_bl, bq_blz, bq_T, bq_F, if_true, if_false, Int.reduceEq, Int.reduceLT, Int.reduceLE, Int.reduceAdd, Int.reduceSub, Int.reduceMul, Int.add_sub_cancel, li_0, li_1, li_6, ll_0, ll_1, ll_6]
theorem s_isTray {t : Int} (h1 : -2147483648 ≤ t) (h2 : t < 2147483648) {D : Nat} (hD : 2 ≤ D) (h : bk_H) : bk_call D 24 [.int (bk_i t)] h = some (some (.int (bk_i (bz (0 ≤ t ∧ t ≤ 3)))), h) := by
  obtain ⟨d, rfl⟩ := dep hD
  rw [kX0_isTray, eX0_isTray_0]
  simp (disch := first | assumption | omega) only [s_in, bi_add, bi_sub, bi_mul, bi_neg, bi_div, bi_64, bl_add, bl_sub, bl_mul, bl_neg, bl_div, bl_32, bi_min, bi_max, bl_min, bl_max, bq_I, bq_J, bq_A, bq_Vi, bq_Vl, bq_Vr, bq_cV, bq_cI, bq_cJ, bq_cA, bq_le, bq_lt, bq_eq, bq_z, bq_o, bq_ref, bq_nz, bq_nzJ, bq_bl, bq_blz, bq_T, bq_F, if_true, if_false, Int.reduceEq, Int.reduceLT, Int.reduceLE, Int.reduceAdd, Int.reduceSub, Int.reduceMul, Int.add_sub_cancel, li_0, li_1, li_3, li_5, li_24, ll_0, ll_1, ll_3, ll_5, ll_24]
theorem s_isSoon {t : Int} (h1 : -2147483648 ≤ t) (h2 : t < 2147483648) {D : Nat} (hD : 2 ≤ D) (h : bk_H) : bk_call D 74 [.int (bk_i t)] h = some (some (.int (bk_i (bz (0 ≤ t ∧ t ≤ 8)))), h) := by
  obtain ⟨d, rfl⟩ := dep hD
  rw [kX0_isSoon, eX0_isSoon_0]
  simp (disch := first | assumption | omega) only [s_in, bi_add, bi_sub, bi_mul, bi_neg, bi_div, bi_64, bl_add, bl_sub, bl_mul, bl_neg, bl_div, bl_32, bi_min, bi_max, bl_min, bl_max, bq_I, bq_J, bq_A, bq_Vi, bq_Vl, bq_Vr, bq_cV, bq_cI, bq_cJ, bq_cA, bq_le, bq_lt, bq_eq, bq_z, bq_o, bq_ref, bq_nz, bq_nzJ, bq_bl, bq_blz, bq_T, bq_F, if_true, if_false, Int.reduceEq, Int.reduceLT, Int.reduceLE, Int.reduceAdd, Int.reduceSub, Int.reduceMul, Int.add_sub_cancel, li_0, li_1, li_5, li_8, li_74, ll_0, ll_1, ll_5, ll_8, ll_74]
def fln (s : Int) : Int := if s % 6 = 5 then s else s + 1
theorem s_fallen {s : Int} (h1 : 0 ≤ s) (h2 : s < 2147483640) {D : Nat} (hD : 3 ≤ D) (h : bk_H) : bk_call D 72 [.int (bk_i s)] h = some (some (.int (bk_i (fln s))), h) := by
  obtain ⟨d, rfl⟩ := dep hD
  rw [kX0_fallen, eX0_fallen_0]
  simp (disch := first | assumption | omega) only [s_isLost, bi_add, bi_sub, bi_mul, bi_neg, bi_div, bi_64, bl_add, bl_sub, bl_mul, bl_neg, bl_div, bl_32, bi_min, bi_max, bl_min, bl_max, bq_I, bq_J, bq_A, bq_Vi, bq_Vl, bq_Vr, bq_cV, bq_cI, bq_cJ, bq_cA, bq_le, bq_lt, bq_eq, bq_z, bq_o, bq_ref, bq_nz, bq_nzJ, bq_bl, bq_blz, bq_T, bq_F, if_true, if_false, Int.reduceEq, Int.reduceLT, Int.reduceLE, Int.reduceAdd, Int.reduceSub, Int.reduceMul, Int.add_sub_cancel, li_0, li_1, li_13, li_72, ll_0, ll_1, ll_13, ll_72]
  unfold fln
  by_cases c : s % 6 = 5
  · rw [if_pos c, if_pos c]
  · rw [if_neg c, if_neg c]
theorem t_isLost {s : Int} (h1 : 0 ≤ s) (h2 : s < 2147483648) {D : Nat} (hD : 1 ≤ D) (h : bk_H) : bk_call D 4037 [.int (bk_i s)] h = some (some (.int (bk_i (bz (s % 6 = 5)))), h) := by
  obtain ⟨d, rfl⟩ := dep hD
  rw [kX4_isLost, eX4_isLost_0]
  simp (disch := first | assumption | omega) only [bi_add, bi_sub, bi_mul, bi_neg, bi_div, bi_64, bl_add, bl_sub, bl_mul, bl_neg, bl_div, bl_32, bi_min, bi_max, bl_min, bl_max, bq_I, bq_J, bq_A, bq_Vi, bq_Vl, bq_Vr, bq_cV, bq_cI, bq_cJ, bq_cA, bq_le, bq_lt, bq_eq, bq_z, bq_o, bq_ref, bq_nz, bq_nzJ, bq_bl, bq_blz, bq_T, bq_F, if_true, if_false, Int.reduceEq, Int.reduceLT, Int.reduceLE, Int.reduceAdd, Int.reduceSub, Int.reduceMul, Int.add_sub_cancel, li_0, li_1, li_5, li_6, li_4037, ll_0, ll_1, ll_5, ll_6]
  have e : s - s / 6 * 6 = s % 6 := by omega
  rw [e]
  by_cases c : s % 6 = 5
  · rw [if_pos c, bz_t c]
  · rw [if_neg c, bz_f c]
theorem t_fallen {s : Int} (h1 : 0 ≤ s) (h2 : s < 2147483640) {D : Nat} (hD : 2 ≤ D) (h : bk_H) : bk_call D 4106 [.int (bk_i s)] h = some (some (.int (bk_i (fln s))), h) := by
  obtain ⟨d, rfl⟩ := dep hD
  rw [kX4_fallen, eX4_fallen_0]
  simp (disch := first | assumption | omega) only [t_isLost, bi_add, bi_sub, bi_mul, bi_neg, bi_div, bi_64, bl_add, bl_sub, bl_mul, bl_neg, bl_div, bl_32, bi_min, bi_max, bl_min, bl_max, bq_I, bq_J, bq_A, bq_Vi, bq_Vl, bq_Vr, bq_cV, bq_cI, bq_cJ, bq_cA, bq_le, bq_lt, bq_eq, bq_z, bq_o, bq_ref, bq_nz, bq_nzJ, bq_bl, bq_blz, bq_T, bq_F, if_true, if_false, Int.reduceEq, Int.reduceLT, Int.reduceLE, Int.reduceAdd, Int.reduceSub, Int.reduceMul, Int.add_sub_cancel, li_0, li_1, li_4037, ll_0, ll_1]
  unfold fln
  by_cases c : s % 6 = 5
  · rw [if_pos c, if_pos c]
  · rw [if_neg c, if_neg c]
theorem t_isHurt {v : Int} (h1 : -9223372036854775808 ≤ v) (h2 : v < 9223372036854775808) {D : Nat} (hD : 2 ≤ D) (h : bk_H) : bk_call D 4052 [.long (bk_l v)] h = some (some (.int (bk_i (bz (0 ≤ v ∧ v ≤ 5)))), h) := by
  obtain ⟨d, rfl⟩ := dep hD
  rw [kX4_isHurt, eX4_isHurt_0]
  simp (disch := first | assumption | omega) only [s_within, bi_add, bi_sub, bi_mul, bi_neg, bi_div, bi_64, bl_add, bl_sub, bl_mul, bl_neg, bl_div, bl_32, bi_min, bi_max, bl_min, bl_max, bq_I, bq_J, bq_A, bq_Vi, bq_Vl, bq_Vr, bq_cV, bq_cI, bq_cJ, bq_cA, bq_le, bq_lt, bq_eq, bq_z, bq_o, bq_ref, bq_nz, bq_nzJ, bq_bl, bq_blz, bq_T, bq_F, if_true, if_false, Int.reduceEq, Int.reduceLT, Int.reduceLE, Int.reduceAdd, Int.reduceSub, Int.reduceMul, Int.add_sub_cancel, li_0, li_1, li_5, li_4004, li_4052, ll_0, ll_1, ll_5]
