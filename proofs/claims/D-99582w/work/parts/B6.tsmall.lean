/-! SPECS: the twin's parser: its small steps -/
set_option maxRecDepth 100000
/-- a law's word of a key -/
def wdM (k may : Int) : Int := if k = 2 then 0 else if k = 3 then 1 else if k = 5 then 3 else if k = 7 then 2 else if k = 8 then 4 else if k = 16 then 5 else if k = 17 ∧ may = 1 then 6 else -1
theorem wdM_rng (k may : Int) : -1 ≤ wdM k may ∧ wdM k may ≤ 6 ∧ (may ≠ 1 → wdM k may ≤ 5) := by
  unfold wdM
  repeat' (first | omega | split)
section TM
variable {κ : Nat → Nat} {X : bX} {Y : bY} {tp ts : bF} {tj tk : bFJ} {g : bG} {n : Nat × Nat} {b σ : Int → Int} {sz k c f kk lo hi dp may : Int} {D : Nat}
theorem t_nextL (h : bTw tp g b sz) (hz : ts 102 8 = sz) (hl : tLx ts σ) (ok : okL b sz σ) (hD : 8 ≤ D) :
    ∃ ts', frT ts ts' ∧ tLx ts' (nextM b sz σ) ∧ bk_call D 4005 [.ref 102] (bk_M κ X (tp, tj, ts, tk) g n) = some (none, bk_M κ X (tp, tj, ts', tk) g n) :=
  t_next h hz hl.2.1 hl.2.2.2.2.1 hl.2.2.2.2.2 (by have := ok.1; have := ok.2.1; omega) ok.2.2.1 hD
theorem t_is (hl : tLx ts σ) (ok : okL b sz σ) (k0 : 0 ≤ kk) (k1 : kk ≤ 41) (hD : 1 ≤ D) :
    bk_call D 4011 [.ref 102, .int (bk_i kk)] (bk_M κ X (tp, tj, ts, tk) g n) = some (some (.int (bk_i (bz (σ 4 = 0 ∧ σ 2 = kk)))), bk_M κ X (tp, tj, ts, tk) g n) := by
  obtain ⟨d, rfl⟩ := dep hD
  obtain ⟨l6, l7, l9, l10, l11, l12⟩ := hl
  have s4 := ok.2.2.2.2.2.2.2
  obtain ⟨o0, o1, o2⟩ := ok.2.2.2.1
  rw [kX4_is, eX4_is_0]
  by_cases q : σ 4 = 0
  · by_cases q2 : σ 2 = kk
    · rw [bz_t ⟨q, q2⟩]
      simp (disch := first | assumption | omega) only [l11, if_pos q, l9, if_pos q2, bi_add, bi_sub, bi_mul, bi_neg, bi_div, bi_64, bl_add, bl_sub, bl_mul, bl_neg, bl_div, bl_32, bi_min, bi_max, bl_min, bl_max, bq_I, bq_J, bq_A, bq_Vi, bq_Vl, bq_Vr, bq_cV, bq_cI, bq_cJ, bq_cA, bq_le, bq_lt, bq_eq, bq_z, bq_o, bq_ref, bq_nz, bq_nzJ, bq_bl, bq_blz, bq_T, bq_F, if_true, if_false, Int.reduceEq, Int.reduceLT, Int.reduceLE, Int.reduceAdd, Int.reduceSub, Int.reduceMul, Int.add_sub_cancel, li_0, li_1, li_4, li_9, li_11, li_4011, ll_0, ll_1, ll_4, ll_9, ll_11, ga103, ga105, ga119, ga120, ga106, ga107, ga108, ga109, ga110, ga111, ga116, ga118, ga104, ga112, ga114, ga115, ga117, ga113, ga121, gf102_5, gf102_13, gf102_14, gf102_0, gf102_6, gf102_7, gf102_8, gf102_9, gf102_10, gf102_11, gf102_12, gf102_15, gf102_19, gf102_20, gr102_1, gr102_2, gr102_3, gr102_4, gr102_16, gr102_17, gr102_18, gr102_21, gr102_22, gr102_23, gr102_24, gr102_25, gr102_26, gr102_27, gr102_28, gr102_29, gr102_30, gr102_31, gr102_32, pa103, pa105, pa119, pa120, pa106, pa107, pa108, pa109, pa110, pa111, pa116, pa118, pa104, pa112, pa114, pa115, pa117, pa113, pa121, pf102_5, pf102_13, pf102_14, pf102_0, pf102_6, pf102_7, pf102_8, pf102_9, pf102_10, pf102_11, pf102_12, pf102_15, pf102_19, pf102_20, s_within, t_isLost, t_fallen, t_isHurt, t_between, t_isPassage, t_isRoom, t_standNow, t_standsAll, t_isIn, t_noComing, t_noStand, t_bitsOf, u_tens4109, t_draw]
    · rw [bz_f (fun w => q2 w.2)]
      simp (disch := first | assumption | omega) only [l11, if_pos q, l9, if_neg q2, bi_add, bi_sub, bi_mul, bi_neg, bi_div, bi_64, bl_add, bl_sub, bl_mul, bl_neg, bl_div, bl_32, bi_min, bi_max, bl_min, bl_max, bq_I, bq_J, bq_A, bq_Vi, bq_Vl, bq_Vr, bq_cV, bq_cI, bq_cJ, bq_cA, bq_le, bq_lt, bq_eq, bq_z, bq_o, bq_ref, bq_nz, bq_nzJ, bq_bl, bq_blz, bq_T, bq_F, if_true, if_false, Int.reduceEq, Int.reduceLT, Int.reduceLE, Int.reduceAdd, Int.reduceSub, Int.reduceMul, Int.add_sub_cancel, li_0, li_1, li_4, li_9, li_11, li_4011, ll_0, ll_1, ll_4, ll_9, ll_11, ga103, ga105, ga119, ga120, ga106, ga107, ga108, ga109, ga110, ga111, ga116, ga118, ga104, ga112, ga114, ga115, ga117, ga113, ga121, gf102_5, gf102_13, gf102_14, gf102_0, gf102_6, gf102_7, gf102_8, gf102_9, gf102_10, gf102_11, gf102_12, gf102_15, gf102_19, gf102_20, gr102_1, gr102_2, gr102_3, gr102_4, gr102_16, gr102_17, gr102_18, gr102_21, gr102_22, gr102_23, gr102_24, gr102_25, gr102_26, gr102_27, gr102_28, gr102_29, gr102_30, gr102_31, gr102_32, pa103, pa105, pa119, pa120, pa106, pa107, pa108, pa109, pa110, pa111, pa116, pa118, pa104, pa112, pa114, pa115, pa117, pa113, pa121, pf102_5, pf102_13, pf102_14, pf102_0, pf102_6, pf102_7, pf102_8, pf102_9, pf102_10, pf102_11, pf102_12, pf102_15, pf102_19, pf102_20, s_within, t_isLost, t_fallen, t_isHurt, t_between, t_isPassage, t_isRoom, t_standNow, t_standsAll, t_isIn, t_noComing, t_noStand, t_bitsOf, u_tens4109, t_draw]
  · rw [bz_f (fun w => q w.1)]
    simp (disch := first | assumption | omega) only [l11, if_neg q, bi_add, bi_sub, bi_mul, bi_neg, bi_div, bi_64, bl_add, bl_sub, bl_mul, bl_neg, bl_div, bl_32, bi_min, bi_max, bl_min, bl_max, bq_I, bq_J, bq_A, bq_Vi, bq_Vl, bq_Vr, bq_cV, bq_cI, bq_cJ, bq_cA, bq_le, bq_lt, bq_eq, bq_z, bq_o, bq_ref, bq_nz, bq_nzJ, bq_bl, bq_blz, bq_T, bq_F, if_true, if_false, Int.reduceEq, Int.reduceLT, Int.reduceLE, Int.reduceAdd, Int.reduceSub, Int.reduceMul, Int.add_sub_cancel, li_0, li_1, li_4, li_9, li_11, li_4011, ll_0, ll_1, ll_4, ll_9, ll_11, ga103, ga105, ga119, ga120, ga106, ga107, ga108, ga109, ga110, ga111, ga116, ga118, ga104, ga112, ga114, ga115, ga117, ga113, ga121, gf102_5, gf102_13, gf102_14, gf102_0, gf102_6, gf102_7, gf102_8, gf102_9, gf102_10, gf102_11, gf102_12, gf102_15, gf102_19, gf102_20, gr102_1, gr102_2, gr102_3, gr102_4, gr102_16, gr102_17, gr102_18, gr102_21, gr102_22, gr102_23, gr102_24, gr102_25, gr102_26, gr102_27, gr102_28, gr102_29, gr102_30, gr102_31, gr102_32, pa103, pa105, pa119, pa120, pa106, pa107, pa108, pa109, pa110, pa111, pa116, pa118, pa104, pa112, pa114, pa115, pa117, pa113, pa121, pf102_5, pf102_13, pf102_14, pf102_0, pf102_6, pf102_7, pf102_8, pf102_9, pf102_10, pf102_11, pf102_12, pf102_15, pf102_19, pf102_20, s_within, t_isLost, t_fallen, t_isHurt, t_between, t_isPassage, t_isRoom, t_standNow, t_standsAll, t_isIn, t_noComing, t_noStand, t_bitsOf, u_tens4109, t_draw]
theorem t_eats (h : bTw tp g b sz) (hz : ts 102 8 = sz) (hl : tLx ts σ) (ok : okL b sz σ) (k0 : 0 ≤ kk) (k1 : kk ≤ 41) (hD : 9 ≤ D) :
    ∃ ts', frT ts ts' ∧ tLx ts' (takM b sz kk σ) ∧ bk_call D 4010 [.ref 102, .int (bk_i kk)] (bk_M κ X (tp, tj, ts, tk) g n) = some (some (.int (bk_i (bz (σ 4 = 0 ∧ σ 2 = kk)))), bk_M κ X (tp, tj, ts', tk) g n) := by
  obtain ⟨d, rfl⟩ := dep hD
  have e1 := t_is (κ := κ) (X := X) (tp := tp) (tj := tj) (tk := tk) (g := g) (n := n) (D := d) hl ok k0 k1 (by omega)
  obtain ⟨F1, f1, c1, e2⟩ := t_nextL (κ := κ) (X := X) (tj := tj) (tk := tk) (n := n) (D := d) h hz hl ok (by omega)
  unfold takM
  rw [kX4_eats, eX4_eats_0]
  by_cases q : σ 4 = 0 ∧ σ 2 = kk
  · rw [bz_t q] at e1 ⊢
    rw [if_pos q]
    refine ⟨F1, f1, c1, ?_⟩
    simp (disch := first | assumption | omega) only [e1, e2, bi_add, bi_sub, bi_mul, bi_neg, bi_div, bi_64, bl_add, bl_sub, bl_mul, bl_neg, bl_div, bl_32, bi_min, bi_max, bl_min, bl_max, bq_I, bq_J, bq_A, bq_Vi, bq_Vl, bq_Vr, bq_cV, bq_cI, bq_cJ, bq_cA, bq_le, bq_lt, bq_eq, bq_z, bq_o, bq_ref, bq_nz, bq_nzJ, bq_bl, bq_blz, bq_T, bq_F, if_true, if_false, Int.reduceEq, Int.reduceLT, Int.reduceLE, Int.reduceAdd, Int.reduceSub, Int.reduceMul, Int.add_sub_cancel, li_0, li_1, li_4, li_4005, li_4010, li_4011, ll_0, ll_1, ll_4, ga103, ga105, ga119, ga120, ga106, ga107, ga108, ga109, ga110, ga111, ga116, ga118, ga104, ga112, ga114, ga115, ga117, ga113, ga121, gf102_5, gf102_13, gf102_14, gf102_0, gf102_6, gf102_7, gf102_8, gf102_9, gf102_10, gf102_11, gf102_12, gf102_15, gf102_19, gf102_20, gr102_1, gr102_2, gr102_3, gr102_4, gr102_16, gr102_17, gr102_18, gr102_21, gr102_22, gr102_23, gr102_24, gr102_25, gr102_26, gr102_27, gr102_28, gr102_29, gr102_30, gr102_31, gr102_32, pa103, pa105, pa119, pa120, pa106, pa107, pa108, pa109, pa110, pa111, pa116, pa118, pa104, pa112, pa114, pa115, pa117, pa113, pa121, pf102_5, pf102_13, pf102_14, pf102_0, pf102_6, pf102_7, pf102_8, pf102_9, pf102_10, pf102_11, pf102_12, pf102_15, pf102_19, pf102_20, s_within, t_isLost, t_fallen, t_isHurt, t_between, t_isPassage, t_isRoom, t_standNow, t_standsAll, t_isIn, t_noComing, t_noStand, t_bitsOf, u_tens4109, t_draw]
  · rw [bz_f q] at e1 ⊢
    rw [if_neg q]
    refine ⟨ts, frT_rf ts, hl, ?_⟩
    simp (disch := first | assumption | omega) only [e1, bi_add, bi_sub, bi_mul, bi_neg, bi_div, bi_64, bl_add, bl_sub, bl_mul, bl_neg, bl_div, bl_32, bi_min, bi_max, bl_min, bl_max, bq_I, bq_J, bq_A, bq_Vi, bq_Vl, bq_Vr, bq_cV, bq_cI, bq_cJ, bq_cA, bq_le, bq_lt, bq_eq, bq_z, bq_o, bq_ref, bq_nz, bq_nzJ, bq_bl, bq_blz, bq_T, bq_F, if_true, if_false, Int.reduceEq, Int.reduceLT, Int.reduceLE, Int.reduceAdd, Int.reduceSub, Int.reduceMul, Int.add_sub_cancel, li_0, li_1, li_4, li_4005, li_4010, li_4011, ll_0, ll_1, ll_4, ga103, ga105, ga119, ga120, ga106, ga107, ga108, ga109, ga110, ga111, ga116, ga118, ga104, ga112, ga114, ga115, ga117, ga113, ga121, gf102_5, gf102_13, gf102_14, gf102_0, gf102_6, gf102_7, gf102_8, gf102_9, gf102_10, gf102_11, gf102_12, gf102_15, gf102_19, gf102_20, gr102_1, gr102_2, gr102_3, gr102_4, gr102_16, gr102_17, gr102_18, gr102_21, gr102_22, gr102_23, gr102_24, gr102_25, gr102_26, gr102_27, gr102_28, gr102_29, gr102_30, gr102_31, gr102_32, pa103, pa105, pa119, pa120, pa106, pa107, pa108, pa109, pa110, pa111, pa116, pa118, pa104, pa112, pa114, pa115, pa117, pa113, pa121, pf102_5, pf102_13, pf102_14, pf102_0, pf102_6, pf102_7, pf102_8, pf102_9, pf102_10, pf102_11, pf102_12, pf102_15, pf102_19, pf102_20, s_within, t_isLost, t_fallen, t_isHurt, t_between, t_isPassage, t_isRoom, t_standNow, t_standsAll, t_isIn, t_noComing, t_noStand, t_bitsOf, u_tens4109, t_draw]
theorem t_fails (hl : tLx ts σ) (ok : okL b sz σ) (hD : 1 ≤ D) :
    ∃ ts', frT ts ts' ∧ tLx ts' (failM f σ) ∧ bk_call D 4012 [.ref 102, .int (bk_i f)] (bk_M κ X (tp, tj, ts, tk) g n) = some (none, bk_M κ X (tp, tj, ts', tk) g n) := by
  obtain ⟨d, rfl⟩ := dep hD
  obtain ⟨l6, l7, l9, l10, l11, l12⟩ := hl
  have s4 := ok.2.2.2.2.2.2.2
  obtain ⟨o0, o1, o2⟩ := ok.2.2.2.1
  unfold failM
  rw [kX4_fails, eX4_fails_0]
  have up : ∀ w : Int, w = (if σ 2 = 25 then 1 else f) → frT ts (bU (bU ts 102 11 w) 102 12 (σ 0)) ∧ tLx (bU (bU ts 102 11 w) 102 12 (σ 0)) (s6 (σ 0) (σ 1) (σ 2) (σ 3) (if σ 2 = 25 then 1 else f) (σ 0)) := by
    intro w hw
    refine ⟨⟨fun a ha => by funext k; rw [bU_ne _ _ _ _ _ _ ha, bU_ne _ _ _ _ _ _ ha], fun k hk => by rw [bU_same, if_neg (by omega), bU_same, if_neg (by omega)]⟩, ?_, ?_, ?_, ?_, ?_, ?_⟩
    · rw [bU_same, if_neg (by decide), bU_same, if_neg (by decide)]; exact l6
    · rw [bU_same, if_neg (by decide), bU_same, if_neg (by decide)]; exact l7
    · rw [bU_same, if_neg (by decide), bU_same, if_neg (by decide)]; exact l9
    · intro w; rw [bU_same, if_neg (by decide), bU_same, if_neg (by decide)]; exact l10 w
    · rw [bU_same, if_neg (by decide), bU_same, if_pos rfl]; exact hw
    · intro _; rw [bU_same, if_pos rfl]; rfl
  by_cases q : σ 4 = 0
  · rw [if_pos q]
    by_cases q2 : σ 2 = 25
    · have u := up 1 (by rw [if_pos q2])
      refine ⟨_, u.1, u.2, ?_⟩
      simp (disch := first | assumption | omega) only [l11, if_pos q, l9, if_pos q2, eX4_fails_23, bU_same, l6, bi_add, bi_sub, bi_mul, bi_neg, bi_div, bi_64, bl_add, bl_sub, bl_mul, bl_neg, bl_div, bl_32, bi_min, bi_max, bl_min, bl_max, bq_I, bq_J, bq_A, bq_Vi, bq_Vl, bq_Vr, bq_cV, bq_cI, bq_cJ, bq_cA, bq_le, bq_lt, bq_eq, bq_z, bq_o, bq_ref, bq_nz, bq_nzJ, bq_bl, bq_blz, bq_T, bq_F, if_true, if_false, Int.reduceEq, Int.reduceLT, Int.reduceLE, Int.reduceAdd, Int.reduceSub, Int.reduceMul, Int.add_sub_cancel, li_0, li_1, li_4, li_6, li_9, li_11, li_12, li_23, li_25, li_4012, ll_0, ll_1, ll_4, ll_6, ll_9, ll_11, ll_12, ll_23, ll_25, ga103, ga105, ga119, ga120, ga106, ga107, ga108, ga109, ga110, ga111, ga116, ga118, ga104, ga112, ga114, ga115, ga117, ga113, ga121, gf102_5, gf102_13, gf102_14, gf102_0, gf102_6, gf102_7, gf102_8, gf102_9, gf102_10, gf102_11, gf102_12, gf102_15, gf102_19, gf102_20, gr102_1, gr102_2, gr102_3, gr102_4, gr102_16, gr102_17, gr102_18, gr102_21, gr102_22, gr102_23, gr102_24, gr102_25, gr102_26, gr102_27, gr102_28, gr102_29, gr102_30, gr102_31, gr102_32, pa103, pa105, pa119, pa120, pa106, pa107, pa108, pa109, pa110, pa111, pa116, pa118, pa104, pa112, pa114, pa115, pa117, pa113, pa121, pf102_5, pf102_13, pf102_14, pf102_0, pf102_6, pf102_7, pf102_8, pf102_9, pf102_10, pf102_11, pf102_12, pf102_15, pf102_19, pf102_20, s_within, t_isLost, t_fallen, t_isHurt, t_between, t_isPassage, t_isRoom, t_standNow, t_standsAll, t_isIn, t_noComing, t_noStand, t_bitsOf, u_tens4109, t_draw]
    · have u := up f (by rw [if_neg q2])
      refine ⟨_, u.1, u.2, ?_⟩
      simp (disch := first | assumption | omega) only [l11, if_pos q, l9, if_neg q2, eX4_fails_23, bU_same, l6, bi_add, bi_sub, bi_mul, bi_neg, bi_div, bi_64, bl_add, bl_sub, bl_mul, bl_neg, bl_div, bl_32, bi_min, bi_max, bl_min, bl_max, bq_I, bq_J, bq_A, bq_Vi, bq_Vl, bq_Vr, bq_cV, bq_cI, bq_cJ, bq_cA, bq_le, bq_lt, bq_eq, bq_z, bq_o, bq_ref, bq_nz, bq_nzJ, bq_bl, bq_blz, bq_T, bq_F, if_true, if_false, Int.reduceEq, Int.reduceLT, Int.reduceLE, Int.reduceAdd, Int.reduceSub, Int.reduceMul, Int.add_sub_cancel, li_0, li_1, li_4, li_6, li_9, li_11, li_12, li_23, li_25, li_4012, ll_0, ll_1, ll_4, ll_6, ll_9, ll_11, ll_12, ll_23, ll_25, ga103, ga105, ga119, ga120, ga106, ga107, ga108, ga109, ga110, ga111, ga116, ga118, ga104, ga112, ga114, ga115, ga117, ga113, ga121, gf102_5, gf102_13, gf102_14, gf102_0, gf102_6, gf102_7, gf102_8, gf102_9, gf102_10, gf102_11, gf102_12, gf102_15, gf102_19, gf102_20, gr102_1, gr102_2, gr102_3, gr102_4, gr102_16, gr102_17, gr102_18, gr102_21, gr102_22, gr102_23, gr102_24, gr102_25, gr102_26, gr102_27, gr102_28, gr102_29, gr102_30, gr102_31, gr102_32, pa103, pa105, pa119, pa120, pa106, pa107, pa108, pa109, pa110, pa111, pa116, pa118, pa104, pa112, pa114, pa115, pa117, pa113, pa121, pf102_5, pf102_13, pf102_14, pf102_0, pf102_6, pf102_7, pf102_8, pf102_9, pf102_10, pf102_11, pf102_12, pf102_15, pf102_19, pf102_20, s_within, t_isLost, t_fallen, t_isHurt, t_between, t_isPassage, t_isRoom, t_standNow, t_standsAll, t_isIn, t_noComing, t_noStand, t_bitsOf, u_tens4109, t_draw]
  · rw [if_neg q]
    refine ⟨ts, frT_rf ts, ⟨l6, l7, l9, l10, l11, l12⟩, ?_⟩
    simp (disch := first | assumption | omega) only [l11, if_neg q, bi_add, bi_sub, bi_mul, bi_neg, bi_div, bi_64, bl_add, bl_sub, bl_mul, bl_neg, bl_div, bl_32, bi_min, bi_max, bl_min, bl_max, bq_I, bq_J, bq_A, bq_Vi, bq_Vl, bq_Vr, bq_cV, bq_cI, bq_cJ, bq_cA, bq_le, bq_lt, bq_eq, bq_z, bq_o, bq_ref, bq_nz, bq_nzJ, bq_bl, bq_blz, bq_T, bq_F, if_true, if_false, Int.reduceEq, Int.reduceLT, Int.reduceLE, Int.reduceAdd, Int.reduceSub, Int.reduceMul, Int.add_sub_cancel, li_0, li_1, li_4, li_6, li_9, li_11, li_12, li_23, li_25, li_4012, ll_0, ll_1, ll_4, ll_6, ll_9, ll_11, ll_12, ll_23, ll_25, ga103, ga105, ga119, ga120, ga106, ga107, ga108, ga109, ga110, ga111, ga116, ga118, ga104, ga112, ga114, ga115, ga117, ga113, ga121, gf102_5, gf102_13, gf102_14, gf102_0, gf102_6, gf102_7, gf102_8, gf102_9, gf102_10, gf102_11, gf102_12, gf102_15, gf102_19, gf102_20, gr102_1, gr102_2, gr102_3, gr102_4, gr102_16, gr102_17, gr102_18, gr102_21, gr102_22, gr102_23, gr102_24, gr102_25, gr102_26, gr102_27, gr102_28, gr102_29, gr102_30, gr102_31, gr102_32, pa103, pa105, pa119, pa120, pa106, pa107, pa108, pa109, pa110, pa111, pa116, pa118, pa104, pa112, pa114, pa115, pa117, pa113, pa121, pf102_5, pf102_13, pf102_14, pf102_0, pf102_6, pf102_7, pf102_8, pf102_9, pf102_10, pf102_11, pf102_12, pf102_15, pf102_19, pf102_20, s_within, t_isLost, t_fallen, t_isHurt, t_between, t_isPassage, t_isRoom, t_standNow, t_standsAll, t_isIn, t_noComing, t_noStand, t_bitsOf, u_tens4109, t_draw]
theorem t_takes (h : bTw tp g b sz) (hz : ts 102 8 = sz) (hl : tLx ts σ) (ok : okL b sz σ) (a0 : 0 ≤ lo) (a1 : lo < 1000) (a2 : -1000 ≤ hi) (a3 : hi < 1000) (hD : 9 ≤ D) :
    ∃ ts' z, frT ts ts' ∧ tLx ts' (numM b sz lo hi σ) ∧ (numM b sz lo hi σ 4 = 0 → z = σ 3) ∧ bk_call D 4013 [.ref 102, .int (bk_i lo), .int (bk_i hi)] (bk_M κ X (tp, tj, ts, tk) g n) = some (some (.int (bk_i z)), bk_M κ X (tp, tj, ts', tk) g n) := by
  obtain ⟨d, rfl⟩ := dep hD
  have e1 := t_is (κ := κ) (X := X) (tp := tp) (tj := tj) (tk := tk) (g := g) (n := n) (kk := 23) (D := d) hl ok (by decide) (by decide) (by omega)
  have hl' := hl
  obtain ⟨l6, l7, l9, l10, l11, l12⟩ := hl
  have s4 := ok.2.2.2.2.2.2.2
  have s3 := ok.2.2.2.2.2.2.1
  unfold numM
  rw [kX4_takes, eX4_takes_0]
  by_cases q : σ 4 = 0
  · by_cases q2 : σ 2 = 23
    · have v5 := l10 q2
      have v3 := s3 q2
      rw [bz_t ⟨q, q2⟩] at e1
      by_cases q3 : lo ≤ σ 3 ∧ σ 3 ≤ hi
      · rw [if_pos ⟨q, q2, q3.1, q3.2⟩]
        obtain ⟨F1, f1, c1, e2⟩ := t_nextL (κ := κ) (X := X) (tj := tj) (tk := tk) (n := n) (D := d) h hz hl' ok (by omega)
        refine ⟨F1, σ 3, f1, c1, fun _ => rfl, ?_⟩
        simp (disch := first | assumption | omega) only [e1, v5, if_pos q3, eX4_takes_37, l11, if_pos q, e2, bi_add, bi_sub, bi_mul, bi_neg, bi_div, bi_64, bl_add, bl_sub, bl_mul, bl_neg, bl_div, bl_32, bi_min, bi_max, bl_min, bl_max, bq_I, bq_J, bq_A, bq_Vi, bq_Vl, bq_Vr, bq_cV, bq_cI, bq_cJ, bq_cA, bq_le, bq_lt, bq_eq, bq_z, bq_o, bq_ref, bq_nz, bq_nzJ, bq_bl, bq_blz, bq_T, bq_F, if_true, if_false, Int.reduceEq, Int.reduceLT, Int.reduceLE, Int.reduceAdd, Int.reduceSub, Int.reduceMul, Int.add_sub_cancel, li_0, li_1, li_2, li_3, li_4, li_10, li_11, li_23, li_37, li_4004, li_4005, li_4011, li_4012, li_4013, ll_0, ll_1, ll_2, ll_3, ll_4, ll_10, ll_11, ll_23, ll_37, ga103, ga105, ga119, ga120, ga106, ga107, ga108, ga109, ga110, ga111, ga116, ga118, ga104, ga112, ga114, ga115, ga117, ga113, ga121, gf102_5, gf102_13, gf102_14, gf102_0, gf102_6, gf102_7, gf102_8, gf102_9, gf102_10, gf102_11, gf102_12, gf102_15, gf102_19, gf102_20, gr102_1, gr102_2, gr102_3, gr102_4, gr102_16, gr102_17, gr102_18, gr102_21, gr102_22, gr102_23, gr102_24, gr102_25, gr102_26, gr102_27, gr102_28, gr102_29, gr102_30, gr102_31, gr102_32, pa103, pa105, pa119, pa120, pa106, pa107, pa108, pa109, pa110, pa111, pa116, pa118, pa104, pa112, pa114, pa115, pa117, pa113, pa121, pf102_5, pf102_13, pf102_14, pf102_0, pf102_6, pf102_7, pf102_8, pf102_9, pf102_10, pf102_11, pf102_12, pf102_15, pf102_19, pf102_20, s_within, t_isLost, t_fallen, t_isHurt, t_between, t_isPassage, t_isRoom, t_standNow, t_standsAll, t_isIn, t_noComing, t_noStand, t_bitsOf, u_tens4109, t_draw]
      · rw [if_neg (fun w => q3 w.2.2), if_pos q2]
        obtain ⟨F1, f1, c1, e2⟩ := t_fails (κ := κ) (X := X) (tp := tp) (tj := tj) (tk := tk) (g := g) (n := n) (f := 3) (D := d) hl' ok (by omega)
        have fo := failM_ok ok (f := 3) (by decide) (by decide)
        have f6 := c1.2.2.2.2.1
        have n6 : ¬ failM 3 σ 4 = 0 := fo.2.2.2.2.2
        have b6 := fo.1.2.2.2.2.2.2.2
        refine ⟨F1, F1 102 10, f1, c1, fun w => absurd w n6, ?_⟩
        simp (disch := first | assumption | omega) only [e1, v5, if_neg q3, e2, eX4_takes_37, f6, if_neg n6, bi_add, bi_sub, bi_mul, bi_neg, bi_div, bi_64, bl_add, bl_sub, bl_mul, bl_neg, bl_div, bl_32, bi_min, bi_max, bl_min, bl_max, bq_I, bq_J, bq_A, bq_Vi, bq_Vl, bq_Vr, bq_cV, bq_cI, bq_cJ, bq_cA, bq_le, bq_lt, bq_eq, bq_z, bq_o, bq_ref, bq_nz, bq_nzJ, bq_bl, bq_blz, bq_T, bq_F, if_true, if_false, Int.reduceEq, Int.reduceLT, Int.reduceLE, Int.reduceAdd, Int.reduceSub, Int.reduceMul, Int.add_sub_cancel, li_0, li_1, li_2, li_3, li_4, li_10, li_11, li_23, li_37, li_4004, li_4005, li_4011, li_4012, li_4013, ll_0, ll_1, ll_2, ll_3, ll_4, ll_10, ll_11, ll_23, ll_37, ga103, ga105, ga119, ga120, ga106, ga107, ga108, ga109, ga110, ga111, ga116, ga118, ga104, ga112, ga114, ga115, ga117, ga113, ga121, gf102_5, gf102_13, gf102_14, gf102_0, gf102_6, gf102_7, gf102_8, gf102_9, gf102_10, gf102_11, gf102_12, gf102_15, gf102_19, gf102_20, gr102_1, gr102_2, gr102_3, gr102_4, gr102_16, gr102_17, gr102_18, gr102_21, gr102_22, gr102_23, gr102_24, gr102_25, gr102_26, gr102_27, gr102_28, gr102_29, gr102_30, gr102_31, gr102_32, pa103, pa105, pa119, pa120, pa106, pa107, pa108, pa109, pa110, pa111, pa116, pa118, pa104, pa112, pa114, pa115, pa117, pa113, pa121, pf102_5, pf102_13, pf102_14, pf102_0, pf102_6, pf102_7, pf102_8, pf102_9, pf102_10, pf102_11, pf102_12, pf102_15, pf102_19, pf102_20, s_within, t_isLost, t_fallen, t_isHurt, t_between, t_isPassage, t_isRoom, t_standNow, t_standsAll, t_isIn, t_noComing, t_noStand, t_bitsOf, u_tens4109, t_draw]
    · rw [if_neg (fun w => q2 w.2.1), if_neg q2]
      rw [bz_f (fun w => q2 w.2)] at e1
      obtain ⟨F1, f1, c1, e2⟩ := t_fails (κ := κ) (X := X) (tp := tp) (tj := tj) (tk := tk) (g := g) (n := n) (f := 2) (D := d) hl' ok (by omega)
      have fo := failM_ok ok (f := 2) (by decide) (by decide)
      have f6 := c1.2.2.2.2.1
      have n6 : ¬ failM 2 σ 4 = 0 := fo.2.2.2.2.2
      have b6 := fo.1.2.2.2.2.2.2.2
      refine ⟨F1, F1 102 10, f1, c1, fun w => absurd w n6, ?_⟩
      simp (disch := first | assumption | omega) only [e1, e2, eX4_takes_37, f6, if_neg n6, bi_add, bi_sub, bi_mul, bi_neg, bi_div, bi_64, bl_add, bl_sub, bl_mul, bl_neg, bl_div, bl_32, bi_min, bi_max, bl_min, bl_max, bq_I, bq_J, bq_A, bq_Vi, bq_Vl, bq_Vr, bq_cV, bq_cI, bq_cJ, bq_cA, bq_le, bq_lt, bq_eq, bq_z, bq_o, bq_ref, bq_nz, bq_nzJ, bq_bl, bq_blz, bq_T, bq_F, if_true, if_false, Int.reduceEq, Int.reduceLT, Int.reduceLE, Int.reduceAdd, Int.reduceSub, Int.reduceMul, Int.add_sub_cancel, li_0, li_1, li_2, li_3, li_4, li_10, li_11, li_23, li_37, li_4004, li_4005, li_4011, li_4012, li_4013, ll_0, ll_1, ll_2, ll_3, ll_4, ll_10, ll_11, ll_23, ll_37, ga103, ga105, ga119, ga120, ga106, ga107, ga108, ga109, ga110, ga111, ga116, ga118, ga104, ga112, ga114, ga115, ga117, ga113, ga121, gf102_5, gf102_13, gf102_14, gf102_0, gf102_6, gf102_7, gf102_8, gf102_9, gf102_10, gf102_11, gf102_12, gf102_15, gf102_19, gf102_20, gr102_1, gr102_2, gr102_3, gr102_4, gr102_16, gr102_17, gr102_18, gr102_21, gr102_22, gr102_23, gr102_24, gr102_25, gr102_26, gr102_27, gr102_28, gr102_29, gr102_30, gr102_31, gr102_32, pa103, pa105, pa119, pa120, pa106, pa107, pa108, pa109, pa110, pa111, pa116, pa118, pa104, pa112, pa114, pa115, pa117, pa113, pa121, pf102_5, pf102_13, pf102_14, pf102_0, pf102_6, pf102_7, pf102_8, pf102_9, pf102_10, pf102_11, pf102_12, pf102_15, pf102_19, pf102_20, s_within, t_isLost, t_fallen, t_isHurt, t_between, t_isPassage, t_isRoom, t_standNow, t_standsAll, t_isIn, t_noComing, t_noStand, t_bitsOf, u_tens4109, t_draw]
  · rw [if_neg (fun w => q w.1), failM_s q]
    rw [bz_f (fun w => q w.1)] at e1
    obtain ⟨F1, f1, c1, e2⟩ := t_fails (κ := κ) (X := X) (tp := tp) (tj := tj) (tk := tk) (g := g) (n := n) (f := 2) (D := d) hl' ok (by omega)
    rw [failM_s q] at c1
    have f6 := c1.2.2.2.2.1
    refine ⟨F1, F1 102 10, f1, c1, fun w => absurd w q, ?_⟩
    simp (disch := first | assumption | omega) only [e1, e2, eX4_takes_37, f6, if_neg q, bi_add, bi_sub, bi_mul, bi_neg, bi_div, bi_64, bl_add, bl_sub, bl_mul, bl_neg, bl_div, bl_32, bi_min, bi_max, bl_min, bl_max, bq_I, bq_J, bq_A, bq_Vi, bq_Vl, bq_Vr, bq_cV, bq_cI, bq_cJ, bq_cA, bq_le, bq_lt, bq_eq, bq_z, bq_o, bq_ref, bq_nz, bq_nzJ, bq_bl, bq_blz, bq_T, bq_F, if_true, if_false, Int.reduceEq, Int.reduceLT, Int.reduceLE, Int.reduceAdd, Int.reduceSub, Int.reduceMul, Int.add_sub_cancel, li_0, li_1, li_2, li_3, li_4, li_10, li_11, li_23, li_37, li_4004, li_4005, li_4011, li_4012, li_4013, ll_0, ll_1, ll_2, ll_3, ll_4, ll_10, ll_11, ll_23, ll_37, ga103, ga105, ga119, ga120, ga106, ga107, ga108, ga109, ga110, ga111, ga116, ga118, ga104, ga112, ga114, ga115, ga117, ga113, ga121, gf102_5, gf102_13, gf102_14, gf102_0, gf102_6, gf102_7, gf102_8, gf102_9, gf102_10, gf102_11, gf102_12, gf102_15, gf102_19, gf102_20, gr102_1, gr102_2, gr102_3, gr102_4, gr102_16, gr102_17, gr102_18, gr102_21, gr102_22, gr102_23, gr102_24, gr102_25, gr102_26, gr102_27, gr102_28, gr102_29, gr102_30, gr102_31, gr102_32, pa103, pa105, pa119, pa120, pa106, pa107, pa108, pa109, pa110, pa111, pa116, pa118, pa104, pa112, pa114, pa115, pa117, pa113, pa121, pf102_5, pf102_13, pf102_14, pf102_0, pf102_6, pf102_7, pf102_8, pf102_9, pf102_10, pf102_11, pf102_12, pf102_15, pf102_19, pf102_20, s_within, t_isLost, t_fallen, t_isHurt, t_between, t_isPassage, t_isRoom, t_standNow, t_standsAll, t_isIn, t_noComing, t_noStand, t_bitsOf, u_tens4109, t_draw]
theorem t_goesIn (h : bTw tp g b sz) (hz : ts 102 8 = sz) (hl : tLx ts σ) (ok : okL b sz σ) (a0 : 0 ≤ dp) (a1 : dp ≤ 6) (hD : 9 ≤ D) :
    ∃ ts', frT ts ts' ∧ tLx ts' (goM b sz dp σ) ∧ bk_call D 4025 [.ref 102, .int (bk_i dp)] (bk_M κ X (tp, tj, ts, tk) g n) = some (some (.int (bk_i (bz (goM b sz dp σ 4 = 0)))), bk_M κ X (tp, tj, ts', tk) g n) := by
  obtain ⟨d, rfl⟩ := dep hD
  have l11 := hl.2.2.2.2.1
  have s4 := ok.2.2.2.2.2.2.2
  have go := goM_st (dp := dp) ok
  have gr := go.1.2.2.2.2.2.2.2
  rw [kX4_goesIn, eX4_goesIn_0]
  unfold goM at go gr ⊢
  by_cases q : dp = 6
  · rw [if_pos q] at go gr ⊢
    obtain ⟨F1, f1, c1, e1⟩ := t_fails (κ := κ) (X := X) (tp := tp) (tj := tj) (tk := tk) (g := g) (n := n) (f := 4) (D := d) hl ok (by omega)
    have fo := failM_ok ok (f := 4) (by decide) (by decide)
    have f6 := c1.2.2.2.2.1
    have n6 : ¬ failM 4 σ 4 = 0 := fo.2.2.2.2.2
    refine ⟨F1, f1, c1, ?_⟩
    rw [bz_f n6]
    simp (disch := first | assumption | omega) only [if_pos q, e1, eX4_goesIn_11, f6, if_neg n6, eX4_goesIn_22, bi_add, bi_sub, bi_mul, bi_neg, bi_div, bi_64, bl_add, bl_sub, bl_mul, bl_neg, bl_div, bl_32, bi_min, bi_max, bl_min, bl_max, bq_I, bq_J, bq_A, bq_Vi, bq_Vl, bq_Vr, bq_cV, bq_cI, bq_cJ, bq_cA, bq_le, bq_lt, bq_eq, bq_z, bq_o, bq_ref, bq_nz, bq_nzJ, bq_bl, bq_blz, bq_T, bq_F, if_true, if_false, Int.reduceEq, Int.reduceLT, Int.reduceLE, Int.reduceAdd, Int.reduceSub, Int.reduceMul, Int.add_sub_cancel, li_0, li_1, li_4, li_6, li_11, li_22, li_4005, li_4012, li_4025, ll_0, ll_1, ll_4, ll_6, ll_11, ll_22, ga103, ga105, ga119, ga120, ga106, ga107, ga108, ga109, ga110, ga111, ga116, ga118, ga104, ga112, ga114, ga115, ga117, ga113, ga121, gf102_5, gf102_13, gf102_14, gf102_0, gf102_6, gf102_7, gf102_8, gf102_9, gf102_10, gf102_11, gf102_12, gf102_15, gf102_19, gf102_20, gr102_1, gr102_2, gr102_3, gr102_4, gr102_16, gr102_17, gr102_18, gr102_21, gr102_22, gr102_23, gr102_24, gr102_25, gr102_26, gr102_27, gr102_28, gr102_29, gr102_30, gr102_31, gr102_32, pa103, pa105, pa119, pa120, pa106, pa107, pa108, pa109, pa110, pa111, pa116, pa118, pa104, pa112, pa114, pa115, pa117, pa113, pa121, pf102_5, pf102_13, pf102_14, pf102_0, pf102_6, pf102_7, pf102_8, pf102_9, pf102_10, pf102_11, pf102_12, pf102_15, pf102_19, pf102_20, s_within, t_isLost, t_fallen, t_isHurt, t_between, t_isPassage, t_isRoom, t_standNow, t_standsAll, t_isIn, t_noComing, t_noStand, t_bitsOf, u_tens4109, t_draw]
  · rw [if_neg q] at go gr ⊢
    by_cases q2 : σ 4 = 0
    · rw [if_pos q2] at go gr ⊢
      obtain ⟨F1, f1, c1, e1⟩ := t_nextL (κ := κ) (X := X) (tj := tj) (tk := tk) (n := n) (D := d) h hz hl ok (by omega)
      have n4 := (nextM_st ok q2).2.1
      have f6 := c1.2.2.2.2.1
      rw [n4] at f6
      refine ⟨F1, f1, c1, ?_⟩
      rw [bz_t n4]
      simp (disch := first | assumption | omega) only [if_neg q, eX4_goesIn_11, l11, if_pos q2, e1, eX4_goesIn_22, f6, bi_add, bi_sub, bi_mul, bi_neg, bi_div, bi_64, bl_add, bl_sub, bl_mul, bl_neg, bl_div, bl_32, bi_min, bi_max, bl_min, bl_max, bq_I, bq_J, bq_A, bq_Vi, bq_Vl, bq_Vr, bq_cV, bq_cI, bq_cJ, bq_cA, bq_le, bq_lt, bq_eq, bq_z, bq_o, bq_ref, bq_nz, bq_nzJ, bq_bl, bq_blz, bq_T, bq_F, if_true, if_false, Int.reduceEq, Int.reduceLT, Int.reduceLE, Int.reduceAdd, Int.reduceSub, Int.reduceMul, Int.add_sub_cancel, li_0, li_1, li_4, li_6, li_11, li_22, li_4005, li_4012, li_4025, ll_0, ll_1, ll_4, ll_6, ll_11, ll_22, ga103, ga105, ga119, ga120, ga106, ga107, ga108, ga109, ga110, ga111, ga116, ga118, ga104, ga112, ga114, ga115, ga117, ga113, ga121, gf102_5, gf102_13, gf102_14, gf102_0, gf102_6, gf102_7, gf102_8, gf102_9, gf102_10, gf102_11, gf102_12, gf102_15, gf102_19, gf102_20, gr102_1, gr102_2, gr102_3, gr102_4, gr102_16, gr102_17, gr102_18, gr102_21, gr102_22, gr102_23, gr102_24, gr102_25, gr102_26, gr102_27, gr102_28, gr102_29, gr102_30, gr102_31, gr102_32, pa103, pa105, pa119, pa120, pa106, pa107, pa108, pa109, pa110, pa111, pa116, pa118, pa104, pa112, pa114, pa115, pa117, pa113, pa121, pf102_5, pf102_13, pf102_14, pf102_0, pf102_6, pf102_7, pf102_8, pf102_9, pf102_10, pf102_11, pf102_12, pf102_15, pf102_19, pf102_20, s_within, t_isLost, t_fallen, t_isHurt, t_between, t_isPassage, t_isRoom, t_standNow, t_standsAll, t_isIn, t_noComing, t_noStand, t_bitsOf, u_tens4109, t_draw]
    · rw [if_neg q2] at go gr ⊢
      refine ⟨ts, frT_rf ts, hl, ?_⟩
      rw [bz_f q2]
      simp (disch := first | assumption | omega) only [if_neg q, eX4_goesIn_11, l11, if_neg q2, eX4_goesIn_22, bi_add, bi_sub, bi_mul, bi_neg, bi_div, bi_64, bl_add, bl_sub, bl_mul, bl_neg, bl_div, bl_32, bi_min, bi_max, bl_min, bl_max, bq_I, bq_J, bq_A, bq_Vi, bq_Vl, bq_Vr, bq_cV, bq_cI, bq_cJ, bq_cA, bq_le, bq_lt, bq_eq, bq_z, bq_o, bq_ref, bq_nz, bq_nzJ, bq_bl, bq_blz, bq_T, bq_F, if_true, if_false, Int.reduceEq, Int.reduceLT, Int.reduceLE, Int.reduceAdd, Int.reduceSub, Int.reduceMul, Int.add_sub_cancel, li_0, li_1, li_4, li_6, li_11, li_22, li_4005, li_4012, li_4025, ll_0, ll_1, ll_4, ll_6, ll_11, ll_22, ga103, ga105, ga119, ga120, ga106, ga107, ga108, ga109, ga110, ga111, ga116, ga118, ga104, ga112, ga114, ga115, ga117, ga113, ga121, gf102_5, gf102_13, gf102_14, gf102_0, gf102_6, gf102_7, gf102_8, gf102_9, gf102_10, gf102_11, gf102_12, gf102_15, gf102_19, gf102_20, gr102_1, gr102_2, gr102_3, gr102_4, gr102_16, gr102_17, gr102_18, gr102_21, gr102_22, gr102_23, gr102_24, gr102_25, gr102_26, gr102_27, gr102_28, gr102_29, gr102_30, gr102_31, gr102_32, pa103, pa105, pa119, pa120, pa106, pa107, pa108, pa109, pa110, pa111, pa116, pa118, pa104, pa112, pa114, pa115, pa117, pa113, pa121, pf102_5, pf102_13, pf102_14, pf102_0, pf102_6, pf102_7, pf102_8, pf102_9, pf102_10, pf102_11, pf102_12, pf102_15, pf102_19, pf102_20, s_within, t_isLost, t_fallen, t_isHurt, t_between, t_isPassage, t_isRoom, t_standNow, t_standsAll, t_isIn, t_noComing, t_noStand, t_bitsOf, u_tens4109, t_draw]
theorem t_emit (hF : bFix g) (h4 : ts 102 11 = 0) (n0 : 0 ≤ ts 106 98) (n1 : ts 106 98 < 900) (hD : 1 ≤ D) :
    bk_call D 4023 [.ref 102, .int (bk_i c)] (bk_M κ X (tp, tj, ts, tk) g n) = some (none, bk_M κ X (tp, tj, bU (bU ts 106 (99 + ts 106 98) c) 106 98 (ts 106 98 + 1), tk) g n) := by
  obtain ⟨d, rfl⟩ := dep hD
  have e98 : ∀ v, bU ts 106 (99 + ts 106 98) v 106 98 = ts 106 98 := fun v => by rw [bU_same, if_neg (by omega)]
  rw [kX4_codes, eX4_codes_0]
  simp (disch := first | assumption | omega) only [h4, e98, bi_add, bi_sub, bi_mul, bi_neg, bi_div, bi_64, bl_add, bl_sub, bl_mul, bl_neg, bl_div, bl_32, bi_min, bi_max, bl_min, bl_max, bq_I, bq_J, bq_A, bq_Vi, bq_Vl, bq_Vr, bq_cV, bq_cI, bq_cJ, bq_cA, bq_le, bq_lt, bq_eq, bq_z, bq_o, bq_ref, bq_nz, bq_nzJ, bq_bl, bq_blz, bq_T, bq_F, if_true, if_false, Int.reduceEq, Int.reduceLT, Int.reduceLE, Int.reduceAdd, Int.reduceSub, Int.reduceMul, Int.add_sub_cancel, li_0, li_1, li_4, li_11, li_98, li_99, li_100, li_4023, ll_0, ll_1, ll_4, ll_11, ll_98, ll_99, ll_100, ga103, ga105, ga119, ga120, ga106, ga107, ga108, ga109, ga110, ga111, ga116, ga118, ga104, ga112, ga114, ga115, ga117, ga113, ga121, gf102_5, gf102_13, gf102_14, gf102_0, gf102_6, gf102_7, gf102_8, gf102_9, gf102_10, gf102_11, gf102_12, gf102_15, gf102_19, gf102_20, gr102_1, gr102_2, gr102_3, gr102_4, gr102_16, gr102_17, gr102_18, gr102_21, gr102_22, gr102_23, gr102_24, gr102_25, gr102_26, gr102_27, gr102_28, gr102_29, gr102_30, gr102_31, gr102_32, pa103, pa105, pa119, pa120, pa106, pa107, pa108, pa109, pa110, pa111, pa116, pa118, pa104, pa112, pa114, pa115, pa117, pa113, pa121, pf102_5, pf102_13, pf102_14, pf102_0, pf102_6, pf102_7, pf102_8, pf102_9, pf102_10, pf102_11, pf102_12, pf102_15, pf102_19, pf102_20, s_within, t_isLost, t_fallen, t_isHurt, t_between, t_isPassage, t_isRoom, t_standNow, t_standsAll, t_isIn, t_noComing, t_noStand, t_bitsOf, u_tens4109, t_draw]
theorem t_emitF (hF : bFix g) (h4 : ts 102 11 = k) (h5 : k ≠ 0) (k0 : 0 ≤ k) (k1 : k ≤ 4) (hD : 1 ≤ D) :
    bk_call D 4023 [.ref 102, .int (bk_i c)] (bk_M κ X (tp, tj, ts, tk) g n) = some (none, bk_M κ X (tp, tj, ts, tk) g n) := by
  obtain ⟨d, rfl⟩ := dep hD
  rw [kX4_codes, eX4_codes_0]
  simp (disch := first | assumption | omega) only [h4, if_neg h5, bi_add, bi_sub, bi_mul, bi_neg, bi_div, bi_64, bl_add, bl_sub, bl_mul, bl_neg, bl_div, bl_32, bi_min, bi_max, bl_min, bl_max, bq_I, bq_J, bq_A, bq_Vi, bq_Vl, bq_Vr, bq_cV, bq_cI, bq_cJ, bq_cA, bq_le, bq_lt, bq_eq, bq_z, bq_o, bq_ref, bq_nz, bq_nzJ, bq_bl, bq_blz, bq_T, bq_F, if_true, if_false, Int.reduceEq, Int.reduceLT, Int.reduceLE, Int.reduceAdd, Int.reduceSub, Int.reduceMul, Int.add_sub_cancel, li_0, li_1, li_4, li_11, li_98, li_99, li_100, li_4023, ll_0, ll_1, ll_4, ll_11, ll_98, ll_99, ll_100, ga103, ga105, ga119, ga120, ga106, ga107, ga108, ga109, ga110, ga111, ga116, ga118, ga104, ga112, ga114, ga115, ga117, ga113, ga121, gf102_5, gf102_13, gf102_14, gf102_0, gf102_6, gf102_7, gf102_8, gf102_9, gf102_10, gf102_11, gf102_12, gf102_15, gf102_19, gf102_20, gr102_1, gr102_2, gr102_3, gr102_4, gr102_16, gr102_17, gr102_18, gr102_21, gr102_22, gr102_23, gr102_24, gr102_25, gr102_26, gr102_27, gr102_28, gr102_29, gr102_30, gr102_31, gr102_32, pa103, pa105, pa119, pa120, pa106, pa107, pa108, pa109, pa110, pa111, pa116, pa118, pa104, pa112, pa114, pa115, pa117, pa113, pa121, pf102_5, pf102_13, pf102_14, pf102_0, pf102_6, pf102_7, pf102_8, pf102_9, pf102_10, pf102_11, pf102_12, pf102_15, pf102_19, pf102_20, s_within, t_isLost, t_fallen, t_isHurt, t_between, t_isPassage, t_isRoom, t_standNow, t_standsAll, t_isIn, t_noComing, t_noStand, t_bitsOf, u_tens4109, t_draw]
theorem t_wordOf (hm : ts 102 15 = may) (m0 : 0 ≤ may) (m1 : may ≤ 1) (k0 : 0 ≤ k) (k1 : k ≤ 41) (hD : 1 ≤ D) :
    bk_call D 4024 [.ref 102, .int (bk_i k)] (bk_M κ X (tp, tj, ts, tk) g n) = some (some (.int (bk_i (wdM k may))), bk_M κ X (tp, tj, ts, tk) g n) := by
  obtain ⟨d, rfl⟩ := dep hD
  rw [kX4_wordOf, eX4_wordOf_0]
  unfold wdM
  by_cases c2 : k = 2
  · rw [li_2, bq_eq (by omega) (by omega) (by omega) (by omega), if_pos (show k = 2 by omega), if_pos c2]
    try exact rfl
  by_cases c3 : k = 3
  · rw [li_2, bq_eq (by omega) (by omega) (by omega) (by omega), if_neg (show ¬ k = 2 by omega), li_3, bq_eq (by omega) (by omega) (by omega) (by omega), if_pos (show k = 3 by omega), if_neg c2, if_pos c3]
    try exact rfl
  by_cases c5 : k = 5
  · rw [li_2, bq_eq (by omega) (by omega) (by omega) (by omega), if_neg (show ¬ k = 2 by omega), li_3, bq_eq (by omega) (by omega) (by omega) (by omega), if_neg (show ¬ k = 3 by omega), li_4, bq_eq (by omega) (by omega) (by omega) (by omega), if_neg (show ¬ k = 4 by omega), li_5, bq_eq (by omega) (by omega) (by omega) (by omega), if_pos (show k = 5 by omega), if_neg c2, if_neg c3, if_pos c5]
    try exact rfl
  by_cases c7 : k = 7
  · rw [li_2, bq_eq (by omega) (by omega) (by omega) (by omega), if_neg (show ¬ k = 2 by omega), li_3, bq_eq (by omega) (by omega) (by omega) (by omega), if_neg (show ¬ k = 3 by omega), li_4, bq_eq (by omega) (by omega) (by omega) (by omega), if_neg (show ¬ k = 4 by omega), li_5, bq_eq (by omega) (by omega) (by omega) (by omega), if_neg (show ¬ k = 5 by omega), li_6, bq_eq (by omega) (by omega) (by omega) (by omega), if_neg (show ¬ k = 6 by omega), li_7, bq_eq (by omega) (by omega) (by omega) (by omega), if_pos (show k = 7 by omega), if_neg c2, if_neg c3, if_neg c5, if_pos c7]
    try exact rfl
  by_cases c8 : k = 8
  · rw [li_2, bq_eq (by omega) (by omega) (by omega) (by omega), if_neg (show ¬ k = 2 by omega), li_3, bq_eq (by omega) (by omega) (by omega) (by omega), if_neg (show ¬ k = 3 by omega), li_4, bq_eq (by omega) (by omega) (by omega) (by omega), if_neg (show ¬ k = 4 by omega), li_5, bq_eq (by omega) (by omega) (by omega) (by omega), if_neg (show ¬ k = 5 by omega), li_6, bq_eq (by omega) (by omega) (by omega) (by omega), if_neg (show ¬ k = 6 by omega), li_7, bq_eq (by omega) (by omega) (by omega) (by omega), if_neg (show ¬ k = 7 by omega), li_8, bq_eq (by omega) (by omega) (by omega) (by omega), if_pos (show k = 8 by omega), if_neg c2, if_neg c3, if_neg c5, if_neg c7, if_pos c8]
    try exact rfl
  by_cases c16 : k = 16
  · rw [li_2, bq_eq (by omega) (by omega) (by omega) (by omega), if_neg (show ¬ k = 2 by omega), li_3, bq_eq (by omega) (by omega) (by omega) (by omega), if_neg (show ¬ k = 3 by omega), li_4, bq_eq (by omega) (by omega) (by omega) (by omega), if_neg (show ¬ k = 4 by omega), li_5, bq_eq (by omega) (by omega) (by omega) (by omega), if_neg (show ¬ k = 5 by omega), li_6, bq_eq (by omega) (by omega) (by omega) (by omega), if_neg (show ¬ k = 6 by omega), li_7, bq_eq (by omega) (by omega) (by omega) (by omega), if_neg (show ¬ k = 7 by omega), li_8, bq_eq (by omega) (by omega) (by omega) (by omega), if_neg (show ¬ k = 8 by omega), li_9, bq_eq (by omega) (by omega) (by omega) (by omega), if_neg (show ¬ k = 9 by omega), li_10, bq_eq (by omega) (by omega) (by omega) (by omega), if_neg (show ¬ k = 10 by omega), li_11, bq_eq (by omega) (by omega) (by omega) (by omega), if_neg (show ¬ k = 11 by omega), li_12, bq_eq (by omega) (by omega) (by omega) (by omega), if_neg (show ¬ k = 12 by omega), li_13, bq_eq (by omega) (by omega) (by omega) (by omega), if_neg (show ¬ k = 13 by omega), li_14, bq_eq (by omega) (by omega) (by omega) (by omega), if_neg (show ¬ k = 14 by omega), li_15, bq_eq (by omega) (by omega) (by omega) (by omega), if_neg (show ¬ k = 15 by omega), li_16, bq_eq (by omega) (by omega) (by omega) (by omega), if_pos (show k = 16 by omega), if_neg c2, if_neg c3, if_neg c5, if_neg c7, if_neg c8, if_pos c16]
    try exact rfl
  by_cases c17 : k = 17
  · rw [li_2, bq_eq (by omega) (by omega) (by omega) (by omega), if_neg (show ¬ k = 2 by omega), li_3, bq_eq (by omega) (by omega) (by omega) (by omega), if_neg (show ¬ k = 3 by omega), li_4, bq_eq (by omega) (by omega) (by omega) (by omega), if_neg (show ¬ k = 4 by omega), li_5, bq_eq (by omega) (by omega) (by omega) (by omega), if_neg (show ¬ k = 5 by omega), li_6, bq_eq (by omega) (by omega) (by omega) (by omega), if_neg (show ¬ k = 6 by omega), li_7, bq_eq (by omega) (by omega) (by omega) (by omega), if_neg (show ¬ k = 7 by omega), li_8, bq_eq (by omega) (by omega) (by omega) (by omega), if_neg (show ¬ k = 8 by omega), li_9, bq_eq (by omega) (by omega) (by omega) (by omega), if_neg (show ¬ k = 9 by omega), li_10, bq_eq (by omega) (by omega) (by omega) (by omega), if_neg (show ¬ k = 10 by omega), li_11, bq_eq (by omega) (by omega) (by omega) (by omega), if_neg (show ¬ k = 11 by omega), li_12, bq_eq (by omega) (by omega) (by omega) (by omega), if_neg (show ¬ k = 12 by omega), li_13, bq_eq (by omega) (by omega) (by omega) (by omega), if_neg (show ¬ k = 13 by omega), li_14, bq_eq (by omega) (by omega) (by omega) (by omega), if_neg (show ¬ k = 14 by omega), li_15, bq_eq (by omega) (by omega) (by omega) (by omega), if_neg (show ¬ k = 15 by omega), li_16, bq_eq (by omega) (by omega) (by omega) (by omega), if_neg (show ¬ k = 16 by omega), li_17, bq_eq (by omega) (by omega) (by omega) (by omega), if_pos (show k = 17 by omega), gf102_15, hm, bq_I, li_1, bq_eq (by omega) (by omega) (by omega) (by omega)]
    by_cases cm : may = 1
    · rw [if_pos cm, if_neg c2, if_neg c3, if_neg c5, if_neg c7, if_neg c8, if_neg c16, if_pos ⟨c17, cm⟩]
      try exact rfl
    · rw [if_neg cm, if_neg c2, if_neg c3, if_neg c5, if_neg c7, if_neg c8, if_neg c16, if_neg (fun w => cm w.2)]
      try exact rfl
  rw [if_neg c2, if_neg c3, if_neg c5, if_neg c7, if_neg c8, if_neg c16, if_neg (fun w => c17 w.1)]
  have q : ∀ (p : Prop) [Decidable p] (B : bk_R), B = some (some (.int (bk_i (-1))), bk_M κ X (tp, tj, ts, tk) g n) → (if p then (some (some (.int (-1)), bk_M κ X (tp, tj, ts, tk) g n) : bk_R) else B) = some (some (.int (bk_i (-1))), bk_M κ X (tp, tj, ts, tk) g n) := fun p _ B h => by
    by_cases c : p
    · rw [if_pos c]; exact rfl
    · rw [if_neg c]; exact h
  rw [li_2, bq_eq (by omega) (by omega) (by omega) (by omega), if_neg c2]
  rw [li_3, bq_eq (by omega) (by omega) (by omega) (by omega), if_neg c3]
  rw [li_4, bq_eq (by omega) (by omega) (by omega) (by omega)]
  refine q _ _ ?_
  rw [li_5, bq_eq (by omega) (by omega) (by omega) (by omega), if_neg c5]
  rw [li_6, bq_eq (by omega) (by omega) (by omega) (by omega)]
  refine q _ _ ?_
  rw [li_7, bq_eq (by omega) (by omega) (by omega) (by omega), if_neg c7]
  rw [li_8, bq_eq (by omega) (by omega) (by omega) (by omega), if_neg c8]
  rw [li_9, bq_eq (by omega) (by omega) (by omega) (by omega)]
  refine q _ _ ?_
  rw [li_10, bq_eq (by omega) (by omega) (by omega) (by omega)]
  refine q _ _ ?_
  rw [li_11, bq_eq (by omega) (by omega) (by omega) (by omega)]
  refine q _ _ ?_
  rw [li_12, bq_eq (by omega) (by omega) (by omega) (by omega)]
  refine q _ _ ?_
  rw [li_13, bq_eq (by omega) (by omega) (by omega) (by omega)]
  refine q _ _ ?_
  rw [li_14, bq_eq (by omega) (by omega) (by omega) (by omega)]
  refine q _ _ ?_
  rw [li_15, bq_eq (by omega) (by omega) (by omega) (by omega)]
  refine q _ _ ?_
  rw [li_16, bq_eq (by omega) (by omega) (by omega) (by omega), if_neg c16]
  rw [li_17, bq_eq (by omega) (by omega) (by omega) (by omega), if_neg c17]
  exact rfl
end TM
