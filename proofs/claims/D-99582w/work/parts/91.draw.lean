/-! SPECS: the generator: both sides -/
set_option maxRecDepth 100000
def nx (s : Int) : Int := 1103515245 * s + 12345
def hi (x : Int) : Int := ((((bk_i x : Int32).toUInt32 >>> ((16 : Int32).toUInt32 &&& Int32.toUInt32 31)).toInt32)).toInt
theorem bi_hi (x : Int) : ((bk_i x : Int32).toUInt32 >>> ((bk_i 16 : Int32).toUInt32 &&& Int32.toUInt32 (bk_i 31))).toInt32 = bk_i (hi x) := bi_self _
theorem hi_rng (x : Int) : 0 ≤ hi x ∧ hi x < 65536 := by
  have e16 : ((16 : Int32).toUInt32 &&& Int32.toUInt32 31) = 16 := by decide
  unfold hi
  rw [e16]
  generalize (bk_i x).toUInt32 = u
  have h1 : (u >>> 16).toNat < 65536 := by
    have e : (u >>> 16).toNat = u.toNat >>> 16 := by
      rw [UInt32.toNat_shiftRight]; rfl
    have h2 := u.toNat_lt
    rw [e, Nat.shiftRight_eq_div_pow]
    omega
  generalize u >>> 16 = w at h1
  have h3 : w.toInt32.toInt = (w.toNat : Int) := by
    have a : w.toInt32.toInt = w.toBitVec.toInt := rfl
    rw [a, BitVec.toInt_eq_toNat_of_lt]
    · rfl
    · show 2 * w.toNat < 2 ^ 32
      omega
  rw [h3]
  omega
def dwV (s : Int) : Int := if 5 ≤ hi (nx s) % 6 then 100 + 10 * (hi (nx (nx s)) % 6) + hi (nx (nx (nx s))) % 5 else if hi (nx s) % 6 = 4 then hi (nx (nx s)) % 8 + 10 else hi (nx (nx s)) % 8
def dwS (s : Int) : Int := if 5 ≤ hi (nx s) % 6 then nx (nx (nx s)) else nx (nx s)
theorem dwV_rng (s : Int) : 0 ≤ dwV s ∧ dwV s < 200 := by
  unfold dwV
  split
  · omega
  · split <;> omega
section DR
variable {κ : Nat → Nat} {cp cs : bF} {cj : bFJ} {X : bX} {Y : bY} {tp ts : bF} {tj tk : bFJ} {g : bG} {n : Nat × Nat} {m : Int} {D : Nat}
theorem s_draw (m0 : 1 ≤ m) (m1 : m ≤ 8) (hD : 1 ≤ D) : bk_call D 29 [.ref 64, .int (bk_i m)] (bk_M κ (cp, cs, cj) Y g n) = some (some (.int (bk_i (hi (nx (cs 64 10)) % m))), bk_M κ (cp, bU cs 64 10 (nx (cs 64 10)), cj) Y g n) := by
  obtain ⟨d, rfl⟩ := dep hD
  have hr := hi_rng (nx (cs 64 10))
  have e : ∀ v, bU cs 64 10 v 64 10 = v := fun v => by rw [bU_same, if_pos rfl]
  have en : 1103515245 * cs 64 10 + 12345 = nx (cs 64 10) := rfl
  have em : hi (nx (cs 64 10)) - hi (nx (cs 64 10)) / m * m = hi (nx (cs 64 10)) % m := by rw [Int.emod_def, Int.mul_comm]
  rw [kX0_draw, eX0_draw_0]
  simp (disch := first | assumption | omega) only [e, en, bi_hi, em, bi_add, bi_sub, bi_mul, bi_neg, bi_div, bi_64, bl_add, bl_sub, bl_mul, bl_neg, bl_div, bl_32, bi_min, bi_max, bl_min, bl_max, bq_I, bq_J, bq_A, bq_Vi, bq_Vl, bq_Vr, bq_cV, bq_cI, bq_cJ, bq_cA, bq_le, bq_lt, bq_eq, bq_z, bq_o, bq_ref, bq_nz, bq_nzJ, bq_bl, bq_blz, bq_T, bq_F, if_true, if_false, Int.reduceEq, Int.reduceLT, Int.reduceLE, Int.reduceAdd, Int.reduceSub, Int.reduceMul, Int.add_sub_cancel, li_0, li_1, li_10, li_16, li_29, li_31, li_12345, li_1103515245, ll_0, ll_1, ll_10, ll_16, ll_29, ll_31, ga72, ga84, ga85, ga86, ga90, ga92, ga87, ga91, ga88, ga89, gf64_4, gf64_5, gf64_6, gf64_8, gf64_9, gf64_10, gf64_14, gf70_0, gf70_1, gf70_2, gf70_3, gf71_0, gf71_1, gf71_2, gf71_3, gs74_0, gs74_1, gs74_2, gs74_3, gs100_0, gs100_1, gs100_2, gs100_3, gr64_1, gr64_2, gr64_3, gr64_7, gr64_11, gr64_12, gr64_13, gr64_15, gr64_16, gr64_17, gr64_18, gr64_19, gr64_20, gr64_21, gr64_22, gr64_23, gr70_4, gr71_4, gu73, gu99, gu93, pa72, pa84, pa85, pa86, pa90, pa92, pa87, pa91, pa88, pa89, pf64_4, pf64_5, pf64_6, pf64_8, pf64_9, pf64_10, pf64_14, pf70_0, pf70_1, pf70_2, pf70_3, pf71_0, pf71_1, pf71_2, pf71_3, ps74_0, ps74_1, ps74_2, ps74_3, ps100_0, ps100_1, ps100_2, ps100_3, s_in, s_has, s_one, s_roomOf, s_hurtOf, s_isLost, s_standOf, s_isTray, s_isSoon, s_fallen, s_isPassage, s_isRoom, s_isPassage70, s_leads70, s_isBack70, s_isPassage, s_isRoom, s_isPassage71, s_leads71, s_isBack71, s_onec, s_bitCount, s_be7170, s_be7071, u_tens77, kpC_70]
theorem t_draw (m0 : 1 ≤ m) (m1 : m ≤ 8) (hD : 1 ≤ D) : bk_call D 4064 [.ref 102, .int (bk_i m)] (bk_M κ X (tp, tj, ts, tk) g n) = some (some (.int (bk_i (hi (nx (ts 102 20)) % m))), bk_M κ X (tp, tj, bU ts 102 20 (nx (ts 102 20)), tk) g n) := by
  obtain ⟨d, rfl⟩ := dep hD
  have hr := hi_rng (nx (ts 102 20))
  have e : ∀ v, bU ts 102 20 v 102 20 = v := fun v => by rw [bU_same, if_pos rfl]
  have en : 1103515245 * ts 102 20 + 12345 = nx (ts 102 20) := rfl
  have em : hi (nx (ts 102 20)) - hi (nx (ts 102 20)) / m * m = hi (nx (ts 102 20)) % m := by rw [Int.emod_def, Int.mul_comm]
  rw [kX4_draw, eX4_draw_0]
  simp (disch := first | assumption | omega) only [e, en, bi_hi, em, bi_add, bi_sub, bi_mul, bi_neg, bi_div, bi_64, bl_add, bl_sub, bl_mul, bl_neg, bl_div, bl_32, bi_min, bi_max, bl_min, bl_max, bq_I, bq_J, bq_A, bq_Vi, bq_Vl, bq_Vr, bq_cV, bq_cI, bq_cJ, bq_cA, bq_le, bq_lt, bq_eq, bq_z, bq_o, bq_ref, bq_nz, bq_nzJ, bq_bl, bq_blz, bq_T, bq_F, if_true, if_false, Int.reduceEq, Int.reduceLT, Int.reduceLE, Int.reduceAdd, Int.reduceSub, Int.reduceMul, Int.add_sub_cancel, li_0, li_1, li_4, li_16, li_20, li_31, li_4064, li_12345, li_1103515245, ll_0, ll_1, ll_4, ll_16, ll_20, ll_31, ga103, ga105, ga119, ga120, ga106, ga107, ga108, ga109, ga110, ga111, ga116, ga118, ga104, ga112, ga114, ga115, ga117, ga113, ga121, gf102_5, gf102_13, gf102_14, gf102_0, gf102_6, gf102_7, gf102_8, gf102_9, gf102_10, gf102_11, gf102_12, gf102_15, gf102_19, gf102_20, gr102_1, gr102_2, gr102_3, gr102_4, gr102_16, gr102_17, gr102_18, gr102_21, gr102_22, gr102_23, gr102_24, gr102_25, gr102_26, gr102_27, gr102_28, gr102_29, gr102_30, gr102_31, gr102_32, pa103, pa105, pa119, pa120, pa106, pa107, pa108, pa109, pa110, pa111, pa116, pa118, pa104, pa112, pa114, pa115, pa117, pa113, pa121, pf102_5, pf102_13, pf102_14, pf102_0, pf102_6, pf102_7, pf102_8, pf102_9, pf102_10, pf102_11, pf102_12, pf102_15, pf102_19, pf102_20, s_within, t_isLost, t_fallen, t_isHurt, t_between, t_isPassage, t_isRoom, t_standNow, t_standsAll, t_isIn, t_noComing, t_noStand, t_bitsOf, u_tens4109]
theorem s_drawn (c0 : ∀ X Y n, ∃ ca, (bk_M κ X Y g n).1 0 64 0 = .ref ca) (hD : 2 ≤ D) :
    ∃ cs', (∀ a, a ≠ 64 → cs' a = cs a) ∧ cs' 64 10 = dwS (cs 64 10) ∧ bk_call D 28 [.ref 64] (bk_M κ (cp, cs, cj) Y g n) = some (some (.int (bk_i (dwV (cs 64 10)))), bk_M κ (cp, cs', cj) Y g n) := by
  obtain ⟨d, rfl⟩ := dep hD
  have e : ∀ (f : bF) v, bU f 64 10 v 64 10 = v := fun f v => by rw [bU_same, if_pos rfl]
  have eV : ∀ X Y n (K : bk_R), bk_V ((bk_M κ X Y g n).1 0 64 0) K = K := fun X Y n K => by
    obtain ⟨ca, h⟩ := c0 X Y n
    rw [h]; rfl
  have h1 := hi_rng (nx (cs 64 10))
  have h2 := hi_rng (nx (nx (cs 64 10)))
  have h3 := hi_rng (nx (nx (nx (cs 64 10))))
  unfold dwV dwS
  rw [kX0_drawn, eX0_drawn_0]
  by_cases q : 5 ≤ hi (nx (cs 64 10)) % 6
  · rw [if_pos q, if_pos q]
    refine ⟨bU (bU (bU cs 64 10 (nx (cs 64 10))) 64 10 (nx (nx (cs 64 10)))) 64 10 (nx (nx (nx (cs 64 10)))), fun a ha => ?_, e _ _, ?_⟩
    · funext k; rw [bU_ne _ _ _ _ _ _ ha, bU_ne _ _ _ _ _ _ ha, bU_ne _ _ _ _ _ _ ha]
    · simp (disch := first | assumption | omega) only [eV, e, if_pos q, bi_add, bi_sub, bi_mul, bi_neg, bi_div, bi_64, bl_add, bl_sub, bl_mul, bl_neg, bl_div, bl_32, bi_min, bi_max, bl_min, bl_max, bq_I, bq_J, bq_A, bq_Vi, bq_Vl, bq_Vr, bq_cV, bq_cI, bq_cJ, bq_cA, bq_le, bq_lt, bq_eq, bq_z, bq_o, bq_ref, bq_nz, bq_nzJ, bq_bl, bq_blz, bq_T, bq_F, if_true, if_false, Int.reduceEq, Int.reduceLT, Int.reduceLE, Int.reduceAdd, Int.reduceSub, Int.reduceMul, Int.add_sub_cancel, li_0, li_1, li_4, li_5, li_6, li_8, li_10, li_28, li_29, li_100, ll_0, ll_1, ll_4, ll_5, ll_6, ll_8, ll_10, ll_28, ll_29, ll_100, ga72, ga84, ga85, ga86, ga90, ga92, ga87, ga91, ga88, ga89, gf64_4, gf64_5, gf64_6, gf64_8, gf64_9, gf64_10, gf64_14, gf70_0, gf70_1, gf70_2, gf70_3, gf71_0, gf71_1, gf71_2, gf71_3, gs74_0, gs74_1, gs74_2, gs74_3, gs100_0, gs100_1, gs100_2, gs100_3, gr64_1, gr64_2, gr64_3, gr64_7, gr64_11, gr64_12, gr64_13, gr64_15, gr64_16, gr64_17, gr64_18, gr64_19, gr64_20, gr64_21, gr64_22, gr64_23, gr70_4, gr71_4, gu73, gu99, gu93, pa72, pa84, pa85, pa86, pa90, pa92, pa87, pa91, pa88, pa89, pf64_4, pf64_5, pf64_6, pf64_8, pf64_9, pf64_10, pf64_14, pf70_0, pf70_1, pf70_2, pf70_3, pf71_0, pf71_1, pf71_2, pf71_3, ps74_0, ps74_1, ps74_2, ps74_3, ps100_0, ps100_1, ps100_2, ps100_3, s_in, s_has, s_one, s_roomOf, s_hurtOf, s_isLost, s_standOf, s_isTray, s_isSoon, s_fallen, s_isPassage, s_isRoom, s_isPassage70, s_leads70, s_isBack70, s_isPassage, s_isRoom, s_isPassage71, s_leads71, s_isBack71, s_onec, s_bitCount, s_be7170, s_be7071, u_tens77, kpC_70, s_draw]
  · rw [if_neg q, if_neg q]
    refine ⟨bU (bU cs 64 10 (nx (cs 64 10))) 64 10 (nx (nx (cs 64 10))), fun a ha => ?_, e _ _, ?_⟩
    · funext k; rw [bU_ne _ _ _ _ _ _ ha, bU_ne _ _ _ _ _ _ ha]
    · simp (disch := first | assumption | omega) only [eV, e, if_neg q, bi_add, bi_sub, bi_mul, bi_neg, bi_div, bi_64, bl_add, bl_sub, bl_mul, bl_neg, bl_div, bl_32, bi_min, bi_max, bl_min, bl_max, bq_I, bq_J, bq_A, bq_Vi, bq_Vl, bq_Vr, bq_cV, bq_cI, bq_cJ, bq_cA, bq_le, bq_lt, bq_eq, bq_z, bq_o, bq_ref, bq_nz, bq_nzJ, bq_bl, bq_blz, bq_T, bq_F, if_true, if_false, Int.reduceEq, Int.reduceLT, Int.reduceLE, Int.reduceAdd, Int.reduceSub, Int.reduceMul, Int.add_sub_cancel, li_0, li_1, li_4, li_5, li_6, li_8, li_10, li_28, li_29, li_100, ll_0, ll_1, ll_4, ll_5, ll_6, ll_8, ll_10, ll_28, ll_29, ll_100, ga72, ga84, ga85, ga86, ga90, ga92, ga87, ga91, ga88, ga89, gf64_4, gf64_5, gf64_6, gf64_8, gf64_9, gf64_10, gf64_14, gf70_0, gf70_1, gf70_2, gf70_3, gf71_0, gf71_1, gf71_2, gf71_3, gs74_0, gs74_1, gs74_2, gs74_3, gs100_0, gs100_1, gs100_2, gs100_3, gr64_1, gr64_2, gr64_3, gr64_7, gr64_11, gr64_12, gr64_13, gr64_15, gr64_16, gr64_17, gr64_18, gr64_19, gr64_20, gr64_21, gr64_22, gr64_23, gr70_4, gr71_4, gu73, gu99, gu93, pa72, pa84, pa85, pa86, pa90, pa92, pa87, pa91, pa88, pa89, pf64_4, pf64_5, pf64_6, pf64_8, pf64_9, pf64_10, pf64_14, pf70_0, pf70_1, pf70_2, pf70_3, pf71_0, pf71_1, pf71_2, pf71_3, ps74_0, ps74_1, ps74_2, ps74_3, ps100_0, ps100_1, ps100_2, ps100_3, s_in, s_has, s_one, s_roomOf, s_hurtOf, s_isLost, s_standOf, s_isTray, s_isSoon, s_fallen, s_isPassage, s_isRoom, s_isPassage70, s_leads70, s_isBack70, s_isPassage, s_isRoom, s_isPassage71, s_leads71, s_isBack71, s_onec, s_bitCount, s_be7170, s_be7071, u_tens77, kpC_70, s_draw]
      by_cases q2 : hi (nx (cs 64 10)) % 6 = 4
      · rw [if_pos q2, if_pos q2]
      · rw [if_neg q2, if_neg q2, Int.add_zero]
theorem t_drawn (hD : 2 ≤ D) :
    ∃ ts', (∀ a, a ≠ 102 → ts' a = ts a) ∧ ts' 102 20 = dwS (ts 102 20) ∧ bk_call D 4063 [.ref 102] (bk_M κ X (tp, tj, ts, tk) g n) = some (some (.int (bk_i (dwV (ts 102 20)))), bk_M κ X (tp, tj, ts', tk) g n) := by
  obtain ⟨d, rfl⟩ := dep hD
  have e : ∀ (f : bF) v, bU f 102 20 v 102 20 = v := fun f v => by rw [bU_same, if_pos rfl]
  have h1 := hi_rng (nx (ts 102 20))
  have h2 := hi_rng (nx (nx (ts 102 20)))
  have h3 := hi_rng (nx (nx (nx (ts 102 20))))
  unfold dwV dwS
  rw [kX4_drawn, eX4_drawn_0]
  by_cases q : 5 ≤ hi (nx (ts 102 20)) % 6
  · rw [if_pos q, if_pos q]
    refine ⟨bU (bU (bU ts 102 20 (nx (ts 102 20))) 102 20 (nx (nx (ts 102 20)))) 102 20 (nx (nx (nx (ts 102 20)))), fun a ha => ?_, e _ _, ?_⟩
    · funext k; rw [bU_ne _ _ _ _ _ _ ha, bU_ne _ _ _ _ _ _ ha, bU_ne _ _ _ _ _ _ ha]
    · simp (disch := first | assumption | omega) only [e, if_pos q, bi_add, bi_sub, bi_mul, bi_neg, bi_div, bi_64, bl_add, bl_sub, bl_mul, bl_neg, bl_div, bl_32, bi_min, bi_max, bl_min, bl_max, bq_I, bq_J, bq_A, bq_Vi, bq_Vl, bq_Vr, bq_cV, bq_cI, bq_cJ, bq_cA, bq_le, bq_lt, bq_eq, bq_z, bq_o, bq_ref, bq_nz, bq_nzJ, bq_bl, bq_blz, bq_T, bq_F, if_true, if_false, Int.reduceEq, Int.reduceLT, Int.reduceLE, Int.reduceAdd, Int.reduceSub, Int.reduceMul, Int.add_sub_cancel, li_0, li_1, li_4, li_5, li_6, li_8, li_10, li_23, li_100, li_4063, li_4064, ll_0, ll_1, ll_4, ll_5, ll_6, ll_8, ll_10, ll_23, ll_100, ga103, ga105, ga119, ga120, ga106, ga107, ga108, ga109, ga110, ga111, ga116, ga118, ga104, ga112, ga114, ga115, ga117, ga113, ga121, gf102_5, gf102_13, gf102_14, gf102_0, gf102_6, gf102_7, gf102_8, gf102_9, gf102_10, gf102_11, gf102_12, gf102_15, gf102_19, gf102_20, gr102_1, gr102_2, gr102_3, gr102_4, gr102_16, gr102_17, gr102_18, gr102_21, gr102_22, gr102_23, gr102_24, gr102_25, gr102_26, gr102_27, gr102_28, gr102_29, gr102_30, gr102_31, gr102_32, pa103, pa105, pa119, pa120, pa106, pa107, pa108, pa109, pa110, pa111, pa116, pa118, pa104, pa112, pa114, pa115, pa117, pa113, pa121, pf102_5, pf102_13, pf102_14, pf102_0, pf102_6, pf102_7, pf102_8, pf102_9, pf102_10, pf102_11, pf102_12, pf102_15, pf102_19, pf102_20, s_within, t_isLost, t_fallen, t_isHurt, t_between, t_isPassage, t_isRoom, t_standNow, t_standsAll, t_isIn, t_noComing, t_noStand, t_bitsOf, u_tens4109, t_draw]
  · rw [if_neg q, if_neg q]
    refine ⟨bU (bU ts 102 20 (nx (ts 102 20))) 102 20 (nx (nx (ts 102 20))), fun a ha => ?_, e _ _, ?_⟩
    · funext k; rw [bU_ne _ _ _ _ _ _ ha, bU_ne _ _ _ _ _ _ ha]
    · simp (disch := first | assumption | omega) only [e, if_neg q, eX4_drawn_23, bi_add, bi_sub, bi_mul, bi_neg, bi_div, bi_64, bl_add, bl_sub, bl_mul, bl_neg, bl_div, bl_32, bi_min, bi_max, bl_min, bl_max, bq_I, bq_J, bq_A, bq_Vi, bq_Vl, bq_Vr, bq_cV, bq_cI, bq_cJ, bq_cA, bq_le, bq_lt, bq_eq, bq_z, bq_o, bq_ref, bq_nz, bq_nzJ, bq_bl, bq_blz, bq_T, bq_F, if_true, if_false, Int.reduceEq, Int.reduceLT, Int.reduceLE, Int.reduceAdd, Int.reduceSub, Int.reduceMul, Int.add_sub_cancel, li_0, li_1, li_4, li_5, li_6, li_8, li_10, li_23, li_100, li_4063, li_4064, ll_0, ll_1, ll_4, ll_5, ll_6, ll_8, ll_10, ll_23, ll_100, ga103, ga105, ga119, ga120, ga106, ga107, ga108, ga109, ga110, ga111, ga116, ga118, ga104, ga112, ga114, ga115, ga117, ga113, ga121, gf102_5, gf102_13, gf102_14, gf102_0, gf102_6, gf102_7, gf102_8, gf102_9, gf102_10, gf102_11, gf102_12, gf102_15, gf102_19, gf102_20, gr102_1, gr102_2, gr102_3, gr102_4, gr102_16, gr102_17, gr102_18, gr102_21, gr102_22, gr102_23, gr102_24, gr102_25, gr102_26, gr102_27, gr102_28, gr102_29, gr102_30, gr102_31, gr102_32, pa103, pa105, pa119, pa120, pa106, pa107, pa108, pa109, pa110, pa111, pa116, pa118, pa104, pa112, pa114, pa115, pa117, pa113, pa121, pf102_5, pf102_13, pf102_14, pf102_0, pf102_6, pf102_7, pf102_8, pf102_9, pf102_10, pf102_11, pf102_12, pf102_15, pf102_19, pf102_20, s_within, t_isLost, t_fallen, t_isHurt, t_between, t_isPassage, t_isRoom, t_standNow, t_standsAll, t_isIn, t_noComing, t_noStand, t_bitsOf, u_tens4109, t_draw]
      by_cases q2 : hi (nx (ts 102 20)) % 6 = 4
      · rw [if_pos (show 4 ≤ hi (nx (ts 102 20)) % 6 by omega), if_pos q2, Int.add_comm]
      · rw [if_neg (show ¬ 4 ≤ hi (nx (ts 102 20)) % 6 by omega), if_neg q2, Int.zero_add]
end DR
