/-! SPECS: the two parsers side by side: not .., [ .. ]; all of them, at any place -/
set_option maxRecDepth 100000
section UM
variable {b σ : Int → Int} {sz W dp : Int}
theorem sim_not (ok : okL b sz σ) (q4 : σ 4 = 0) (q20 : σ 2 = 20) (d0 : 0 ≤ dp) (d6 : dp ≤ 6) (hU : dp < 6 → ∀ σ', okL b sz σ' → σ 0 < σ' 0 → SIM b sz W (dp + 1) 5026 4029 true 5 3 σ') : SIM b sz W dp 5026 4029 true 5 3 σ := by
  have go := goM_st (dp := dp) ok
  have o1 := go.2.1
  have lt1 : σ 0 < σ 1 := ok.2.2.2.2.1 (by omega)
  have dd : dp + 1 - 1 = dp := by omega
  by_cases c : goM b sz dp σ 4 = 0
  · have k1 := goM_0 ok c
    obtain ⟨σ2, cs1, st1, w1, C1, T1⟩ := hU (by omega) (goM b sz dp σ) go.1 (by omega)
    have o2 := st1.2.1
    refine ⟨σ2, cs1 ++ [3006], stepL_tr go st1, fun z => ⟨by omega, ?_⟩, ?_, ?_⟩
    · rw [nat_pred (by omega)]
      exact Or.inr (Or.inl ⟨cs1, wfc_mono _ _ _ (w1 z).2 _ (by omega), rfl⟩)
    · intro κ cp cs0 cj Y g n rd F D hw hD
      unfold eN at hD
      obtain ⟨d, rfl⟩ := dep (show 1 ≤ D by omega)
      have hr := hw.1.2.2.2.2.2.2.2.2.1
      have e1 := q_is (κ := κ) (cs := cs0) (cj := cj) (Y := Y) (D := d) hw.1 hw.2.1 hw.2.2.1 ok kO20 (show 22 = 2 + 20 from rfl) (by omega)
      rw [bz_t ⟨q4, q20⟩] at e1
      obtain ⟨F1, f1, e17, l1, e2⟩ := q_goesIn (κ := κ) (cs := cs0) (cj := cj) (Y := Y) (D := d) hw.1 hw.2.1 hw.2.2.1 ok hw.2.2.2.1 d0 d6 (by omega)
      have hw1 := cW_in hw f1 e17 l1
      have l6 := l1.2.2.2.2.1
      rw [c] at l6
      have p2 := cP_new (k := 7) (fs := bk_fields 7) hw1 (by decide)
      have nw := (bEx_new (k := 7) (fs := bk_fields 7) hw1.1).2
      have hw2 := cW_ex hw1 p2
      obtain ⟨F3, g3', n3, x3, p3, t3, e3⟩ := C1 κ cp cs0 cj Y _ _ rd F1 d hw2 (by unfold eN; omega)
      have hw3 := cW_ex hw2 p3
      have nw3 := isN1_ex nw p3.2.2.1 (Nat.lt_succ_self _)
      have lt3 : n.1 + 1 ≤ n3.1 := p3.2.2.1.2.1
      have e4 := q_notN (κ := κ) (X := (cp, cs0, cj)) (Y := Y) (n := n3) (rd := rd) (F := F3) (y := x3) (D := d) nw3 (by omega)
      have pA := cP_put (g'' := gp g3' 7 n.1 0 (.ref x3)) (cP_tr p2 p3) (Nat.le_refl _) (by omega) (fun t a j ha => gp_ad ha)
      have h37 := hw3.2.2.2.1
      have l3 := hw3.2.2.1
      refine ⟨bU F3 rd 7 dp, _, n3, n.1, ⟨frF_of (frD_tr f1 (frD_tr (frD_of pA.1) ⟨fun a ha => by funext k; rw [bU_ne _ _ _ _ _ _ ha], fun k hk => by rw [bU_same, if_neg (by omega)]⟩)) (by rw [bU_same, if_pos rfl]; exact hw.2.2.2.1.symm), cLx_7 l3, pA.2.2.1, by have := pA.2.2.2.1; omega, by have := pA.2.2.2.2; omega⟩, fun z => ⟨by omega, ?_⟩, ?_⟩
      · have hi : n.1 ≤ n.1 := Nat.le_refl _
        have tt : bTr (gHi (gp g3' 7 n.1 0 (.ref x3)) n.1) ((σ2 0 - σ 0).toNat - 1) true W x3 cs1 := by
          refine bTr_on (fun a => n.1 < a) (fun t a k q => ?_) (fun t a k q => ?_) _ _ _ _ (t3 z).2 _ (by omega)
          · exact gHi_off (fun w => q (by omega))
          · rw [gHi_on (by omega), gHi_on (by omega)]; exact gp_ad (by omega)
        rw [nat_pred (by omega)]
        exact Or.inr (Or.inl ⟨cs1, x3, tt, rfl, (gHi_on hi).trans ((gp_ne (fun w => absurd w.1 (by decide))).trans (nw3.1 8 0 (by decide))), (gHi_on hi).trans ((gp_ne (fun w => absurd w.1 (by decide))).trans (nw3.1 9 0 (by decide))), (gHi_on hi).trans (gp_hit _ _ _ _ _)⟩)
      · have hnew : bk_new (bk_Q rd F1 (bk_M κ (cp, cs0, cj) Y g n)) 7 (bk_fields 7) = bk_Q rd F1 (bk_M κ (cp, cs0, cj) Y (gN g 7 n.1 (bk_fields 7)) (n.1 + 1, n.2 + (bk_fields 7).length)) := nQ (by decide) hr _
        have hn1 : (bk_Q rd F1 (bk_M κ (cp, cs0, cj) Y g n)).2.1 = n.1 := rfl
        have v7 : (bk_Q rd F3 (bk_M κ (cp, cs0, cj) Y g3' n3)).1 7 n.1 0 = .ref 0 := (gQ (by decide)).trans (nw3.2 0 (by decide))
        rw [kX5_unit, eX5_unit_0]
        simp (disch := first | assumption | omega) only [e1, e2, l6, hnew, hn1, eX5_unit_23, e3, v7, e4, eX5_unit_35, h37, dd, bi_add, bi_sub, bi_mul, bi_neg, bi_div, bi_64, bl_add, bl_sub, bl_mul, bl_neg, bl_div, bl_32, bi_min, bi_max, bl_min, bl_max, bq_I, bq_J, bq_A, bq_Vi, bq_Vl, bq_Vr, bq_cV, bq_cI, bq_cJ, bq_cA, bq_le, bq_lt, bq_eq, bq_z, bq_o, bq_ref, bq_nz, bq_nzJ, bq_bl, bq_blz, bq_T, bq_F, if_true, if_false, Int.reduceEq, Int.reduceLT, Int.reduceLE, Int.reduceAdd, Int.reduceSub, Int.reduceMul, Int.add_sub_cancel, li_0, li_1, li_2, li_4, li_5, li_6, li_7, li_8, li_22, li_23, li_35, li_60, li_61, li_62, li_76, li_91, li_93, li_135, li_146, li_149, ll_0, ll_1, ll_2, ll_4, ll_5, ll_6, ll_7, ll_8, ll_22, ll_23, ll_35, ll_60, ll_61, ll_62, ll_76, ll_91, ll_93, ll_135, ll_146, ll_149, q5_0, w5_0, q5_2, w5_2, q5_3, w5_3, q5_4, w5_4, q5_5, w5_5, q5_6, w5_6, q5_7, w5_7, q5_8, w5_8, q5_9, w5_9, q1_4, w1_4, q1_5, w1_5, q1_6, w1_6, q1_7, w1_7, q1_8, w1_8, q1_9, w1_9, q1_10, w1_10, q1_11, w1_11, q1_12, w1_12, qa_2, wa_2, qa_3, wa_3, qa_4, wa_4, bU_same, bU_ne, s_in]
    · intro κ X tp tj ts tk g n D hw hD
      unfold eN at hD
      obtain ⟨d, rfl⟩ := dep (show 1 ≤ D by omega)
      have n0 := hw.2.2.2.2.1
      have n1 := hw.2.2.2.2.2
      have b1 := hw.1.2.2.2.1
      have i20 := t_is (κ := κ) (X := X) (tp := tp) (tj := tj) (ts := ts) (tk := tk) (g := g) (n := n) (kk := 20) (D := d) hw.2.2.1 ok (by decide) (by decide) (by omega)
      rw [bz_t ⟨q4, q20⟩] at i20
      obtain ⟨ts1, f1, l1, e1⟩ := t_goesIn (κ := κ) (X := X) (tj := tj) (tk := tk) (n := n) (D := d) hw.1 hw.2.1 hw.2.2.1 ok d0 d6 (by omega)
      rw [bz_t c] at e1
      have p1 := tP_lx (s := 1) hw f1 l1 (by omega)
      obtain ⟨ts2, p2, e2⟩ := T1 κ X tp tj ts1 tk g n d (tW_p hw p1 (by decide)) (by unfold eN; omega)
      have p12 := tP_tr n0 p1 p2 st1.2.2.1
      have m1 := p12.2.2.2.2.1
      have m2 := p12.2.2.2.2.2.1
      have l11 := p2.2.2.1.2.2.2.2.1
      have s24 := st1.1.2.2.2.2.2.2.2
      have y1 := st1.1.2.1
      have y2 := st1.1.2.2.1
      rw [kX4_readUnit, eX4_readUnit_0]
      by_cases c4 : σ2 4 = 0
      · rw [c4] at l11
        have e3 := t_emit (κ := κ) (X := X) (tp := tp) (tj := tj) (ts := ts2) (tk := tk) (g := g) (n := n) (c := 3006) (D := d) hw.1.1 l11 (by omega) (by omega) (by omega)
        refine ⟨_, tP_code (c := 3006) n0 p12, ?_⟩
        simp (disch := first | assumption | omega) only [i20, e1, e2, e3, bi_add, bi_sub, bi_mul, bi_neg, bi_div, bi_64, bl_add, bl_sub, bl_mul, bl_neg, bl_div, bl_32, bi_min, bi_max, bl_min, bl_max, bq_I, bq_J, bq_A, bq_Vi, bq_Vl, bq_Vr, bq_cV, bq_cI, bq_cJ, bq_cA, bq_le, bq_lt, bq_eq, bq_z, bq_o, bq_ref, bq_nz, bq_nzJ, bq_bl, bq_blz, bq_T, bq_F, if_true, if_false, Int.reduceEq, Int.reduceLT, Int.reduceLE, Int.reduceAdd, Int.reduceSub, Int.reduceMul, Int.add_sub_cancel, li_0, li_1, li_2, li_4, li_20, li_37, li_38, li_39, li_40, li_41, li_111, li_139, li_151, li_3003, li_3004, li_3005, li_3006, li_4005, li_4010, li_4011, li_4012, li_4020, li_4023, li_4025, li_4027, li_4029, ll_0, ll_1, ll_2, ll_4, ll_20, ll_37, ll_38, ll_39, ll_40, ll_41, ll_111, ll_139, ll_151, ga103, ga105, ga119, ga120, ga106, ga107, ga108, ga109, ga110, ga111, ga116, ga118, ga104, ga112, ga114, ga115, ga117, ga113, ga121, gf102_5, gf102_13, gf102_14, gf102_0, gf102_6, gf102_7, gf102_8, gf102_9, gf102_10, gf102_11, gf102_12, gf102_15, gf102_19, gf102_20, gr102_1, gr102_2, gr102_3, gr102_4, gr102_16, gr102_17, gr102_18, gr102_21, gr102_22, gr102_23, gr102_24, gr102_25, gr102_26, gr102_27, gr102_28, gr102_29, gr102_30, gr102_31, gr102_32, pa103, pa105, pa119, pa120, pa106, pa107, pa108, pa109, pa110, pa111, pa116, pa118, pa104, pa112, pa114, pa115, pa117, pa113, pa121, pf102_5, pf102_13, pf102_14, pf102_0, pf102_6, pf102_7, pf102_8, pf102_9, pf102_10, pf102_11, pf102_12, pf102_15, pf102_19, pf102_20, s_within, t_isLost, t_fallen, t_isHurt, t_between, t_isPassage, t_isRoom, t_standNow, t_standsAll, t_isIn, t_noComing, t_noStand, t_bitsOf, u_tens4109, t_draw]
      · have e3 := t_emitF (κ := κ) (X := X) (tp := tp) (tj := tj) (ts := ts2) (tk := tk) (g := g) (n := n) (c := 3006) (D := d) hw.1.1 l11 c4 s24.1 s24.2 (by omega)
        refine ⟨ts2, tP_any (tP_le p12 (by decide)) c4, ?_⟩
        simp (disch := first | assumption | omega) only [i20, e1, e2, e3, bi_add, bi_sub, bi_mul, bi_neg, bi_div, bi_64, bl_add, bl_sub, bl_mul, bl_neg, bl_div, bl_32, bi_min, bi_max, bl_min, bl_max, bq_I, bq_J, bq_A, bq_Vi, bq_Vl, bq_Vr, bq_cV, bq_cI, bq_cJ, bq_cA, bq_le, bq_lt, bq_eq, bq_z, bq_o, bq_ref, bq_nz, bq_nzJ, bq_bl, bq_blz, bq_T, bq_F, if_true, if_false, Int.reduceEq, Int.reduceLT, Int.reduceLE, Int.reduceAdd, Int.reduceSub, Int.reduceMul, Int.add_sub_cancel, li_0, li_1, li_2, li_4, li_20, li_37, li_38, li_39, li_40, li_41, li_111, li_139, li_151, li_3003, li_3004, li_3005, li_3006, li_4005, li_4010, li_4011, li_4012, li_4020, li_4023, li_4025, li_4027, li_4029, ll_0, ll_1, ll_2, ll_4, ll_20, ll_37, ll_38, ll_39, ll_40, ll_41, ll_111, ll_139, ll_151, ga103, ga105, ga119, ga120, ga106, ga107, ga108, ga109, ga110, ga111, ga116, ga118, ga104, ga112, ga114, ga115, ga117, ga113, ga121, gf102_5, gf102_13, gf102_14, gf102_0, gf102_6, gf102_7, gf102_8, gf102_9, gf102_10, gf102_11, gf102_12, gf102_15, gf102_19, gf102_20, gr102_1, gr102_2, gr102_3, gr102_4, gr102_16, gr102_17, gr102_18, gr102_21, gr102_22, gr102_23, gr102_24, gr102_25, gr102_26, gr102_27, gr102_28, gr102_29, gr102_30, gr102_31, gr102_32, pa103, pa105, pa119, pa120, pa106, pa107, pa108, pa109, pa110, pa111, pa116, pa118, pa104, pa112, pa114, pa115, pa117, pa113, pa121, pf102_5, pf102_13, pf102_14, pf102_0, pf102_6, pf102_7, pf102_8, pf102_9, pf102_10, pf102_11, pf102_12, pf102_15, pf102_19, pf102_20, s_within, t_isLost, t_fallen, t_isHurt, t_between, t_isPassage, t_isRoom, t_standNow, t_standsAll, t_isIn, t_noComing, t_noStand, t_bitsOf, u_tens4109, t_draw]
  · refine ⟨goM b sz dp σ, [], go, fun z => absurd z c, ?_, ?_⟩
    · intro κ cp cs0 cj Y g n rd F D hw hD
      unfold eN at hD
      obtain ⟨d, rfl⟩ := dep (show 1 ≤ D by omega)
      have e1 := q_is (κ := κ) (cs := cs0) (cj := cj) (Y := Y) (D := d) hw.1 hw.2.1 hw.2.2.1 ok kO20 (show 22 = 2 + 20 from rfl) (by omega)
      rw [bz_t ⟨q4, q20⟩] at e1
      obtain ⟨F1, f1, e17, l1, e2⟩ := q_goesIn (κ := κ) (cs := cs0) (cj := cj) (Y := Y) (D := d) hw.1 hw.2.1 hw.2.2.1 ok hw.2.2.2.1 d0 d6 (by omega)
      have l6 := l1.2.2.2.2.1
      have s4 := go.1.2.2.2.2.2.2.2
      have hw1 := cW_in hw f1 e17 l1
      refine ⟨bU F1 rd 7 dp, g, n, 0, ⟨frF_of (frD_tr f1 ⟨fun a ha => by funext k; rw [bU_ne _ _ _ _ _ _ ha], fun k hk => by rw [bU_same, if_neg (by omega)]⟩) (by rw [bU_same, if_pos rfl]; exact hw.2.2.2.1.symm), cLx_7 l1, bEx_rf hw.1, by omega, by omega⟩, fun z => absurd z c, ?_⟩
      rw [kX5_unit, eX5_unit_0]
      simp (disch := first | assumption | omega) only [e1, e2, l6, if_neg c, eX5_unit_35, e17, dd, bi_add, bi_sub, bi_mul, bi_neg, bi_div, bi_64, bl_add, bl_sub, bl_mul, bl_neg, bl_div, bl_32, bi_min, bi_max, bl_min, bl_max, bq_I, bq_J, bq_A, bq_Vi, bq_Vl, bq_Vr, bq_cV, bq_cI, bq_cJ, bq_cA, bq_le, bq_lt, bq_eq, bq_z, bq_o, bq_ref, bq_nz, bq_nzJ, bq_bl, bq_blz, bq_T, bq_F, if_true, if_false, Int.reduceEq, Int.reduceLT, Int.reduceLE, Int.reduceAdd, Int.reduceSub, Int.reduceMul, Int.add_sub_cancel, li_0, li_1, li_2, li_4, li_5, li_6, li_7, li_8, li_22, li_23, li_35, li_60, li_61, li_62, li_76, li_91, li_93, li_135, li_146, li_149, ll_0, ll_1, ll_2, ll_4, ll_5, ll_6, ll_7, ll_8, ll_22, ll_23, ll_35, ll_60, ll_61, ll_62, ll_76, ll_91, ll_93, ll_135, ll_146, ll_149, q5_0, w5_0, q5_2, w5_2, q5_3, w5_3, q5_4, w5_4, q5_5, w5_5, q5_6, w5_6, q5_7, w5_7, q5_8, w5_8, q5_9, w5_9, q1_4, w1_4, q1_5, w1_5, q1_6, w1_6, q1_7, w1_7, q1_8, w1_8, q1_9, w1_9, q1_10, w1_10, q1_11, w1_11, q1_12, w1_12, qa_2, wa_2, qa_3, wa_3, qa_4, wa_4, bU_same, bU_ne, s_in]
    · intro κ X tp tj ts tk g n D hw hD
      unfold eN at hD
      obtain ⟨d, rfl⟩ := dep (show 1 ≤ D by omega)
      have i20 := t_is (κ := κ) (X := X) (tp := tp) (tj := tj) (ts := ts) (tk := tk) (g := g) (n := n) (kk := 20) (D := d) hw.2.2.1 ok (by decide) (by decide) (by omega)
      rw [bz_t ⟨q4, q20⟩] at i20
      obtain ⟨ts1, f1, l1, e1⟩ := t_goesIn (κ := κ) (X := X) (tj := tj) (tk := tk) (n := n) (D := d) hw.1 hw.2.1 hw.2.2.1 ok d0 d6 (by omega)
      rw [bz_f c] at e1
      refine ⟨ts1, tP_lx (s := 0) hw f1 l1 (by omega), ?_⟩
      rw [kX4_readUnit, eX4_readUnit_0]
      simp (disch := first | assumption | omega) only [i20, e1, bi_add, bi_sub, bi_mul, bi_neg, bi_div, bi_64, bl_add, bl_sub, bl_mul, bl_neg, bl_div, bl_32, bi_min, bi_max, bl_min, bl_max, bq_I, bq_J, bq_A, bq_Vi, bq_Vl, bq_Vr, bq_cV, bq_cI, bq_cJ, bq_cA, bq_le, bq_lt, bq_eq, bq_z, bq_o, bq_ref, bq_nz, bq_nzJ, bq_bl, bq_blz, bq_T, bq_F, if_true, if_false, Int.reduceEq, Int.reduceLT, Int.reduceLE, Int.reduceAdd, Int.reduceSub, Int.reduceMul, Int.add_sub_cancel, li_0, li_1, li_2, li_4, li_20, li_37, li_38, li_39, li_40, li_41, li_111, li_139, li_151, li_3003, li_3004, li_3005, li_3006, li_4005, li_4010, li_4011, li_4012, li_4020, li_4023, li_4025, li_4027, li_4029, ll_0, ll_1, ll_2, ll_4, ll_20, ll_37, ll_38, ll_39, ll_40, ll_41, ll_111, ll_139, ll_151, ga103, ga105, ga119, ga120, ga106, ga107, ga108, ga109, ga110, ga111, ga116, ga118, ga104, ga112, ga114, ga115, ga117, ga113, ga121, gf102_5, gf102_13, gf102_14, gf102_0, gf102_6, gf102_7, gf102_8, gf102_9, gf102_10, gf102_11, gf102_12, gf102_15, gf102_19, gf102_20, gr102_1, gr102_2, gr102_3, gr102_4, gr102_16, gr102_17, gr102_18, gr102_21, gr102_22, gr102_23, gr102_24, gr102_25, gr102_26, gr102_27, gr102_28, gr102_29, gr102_30, gr102_31, gr102_32, pa103, pa105, pa119, pa120, pa106, pa107, pa108, pa109, pa110, pa111, pa116, pa118, pa104, pa112, pa114, pa115, pa117, pa113, pa121, pf102_5, pf102_13, pf102_14, pf102_0, pf102_6, pf102_7, pf102_8, pf102_9, pf102_10, pf102_11, pf102_12, pf102_15, pf102_19, pf102_20, s_within, t_isLost, t_fallen, t_isHurt, t_between, t_isPassage, t_isRoom, t_standNow, t_standsAll, t_isIn, t_noComing, t_noStand, t_bitsOf, u_tens4109, t_draw]
/-- a truth in brackets -/
theorem sim_brack (ok : okL b sz σ) (q4 : σ 4 = 0) (q37 : σ 2 = 37) (d0 : 0 ≤ dp) (d6 : dp ≤ 6) (hT : dp < 6 → ∀ σ', okL b sz σ' → σ 0 < σ' 0 → SIM b sz W (dp + 1) 5024 4027 true 7 3 σ') : SIM b sz W dp 5026 4029 true 5 3 σ := by
  have go := goM_st (dp := dp) ok
  have o1 := go.2.1
  have lt1 : σ 0 < σ 1 := ok.2.2.2.2.1 (by omega)
  have CC : ∀ (d : Nat) (c : Int) (σ2 : Int → Int) (cs1 : List Int), oC b sz W (dp + 1) 5024 d true c (goM b sz dp σ) σ2 cs1 → stepL b sz (goM b sz dp σ) σ2 → c ≤ 6 * (goM b sz dp σ 0 - σ 0) → 12 ≤ d → ∀ (κ : Nat → Nat) (cp cs0 : bF) (cj : bFJ) (Y : bY) (g : bG) (n : Nat × Nat) (rd : Nat) (F : bF), cW cp g n rd F b sz W dp σ →
      ∃ F' g' n' x, cP rd F g n σ 3 F' g' n' (mustM b sz 38 σ2) ∧ (mustM b sz 38 σ2 4 = 0 → x ≠ 0 ∧ bTr (gHi g' n.1) (mustM b sz 38 σ2 0 - σ 0).toNat true W x cs1) ∧ bk_call (d + 1) 5026 [.ref rd] (bk_Q rd F (bk_M κ (cp, cs0, cj) Y g n)) = some (some (.ref x), bk_Q rd F' (bk_M κ (cp, cs0, cj) Y g' n')) := by
    intro d c σ2 cs1 h1 st1 hc hD κ cp cs0 cj Y g n rd F hw
    have o2 := st1.2.1
    have m38 := mustM_st (kk := 38) st1.1
    have o3 := m38.2.1
    have e1 := q_is (κ := κ) (cs := cs0) (cj := cj) (Y := Y) (D := d) hw.1 hw.2.1 hw.2.2.1 ok kO20 (show 22 = 2 + 20 from rfl) (by omega)
    rw [bz_f (fun w => by omega)] at e1
    have e3 := q_isSign (κ := κ) (cp := cp) (cs := cs0) (cj := cj) (Y := Y) (g := g) (n := n) (rd := rd) (F := F) (kk := 37) (c := 91) (D := d) hw.2.2.1 ok rfl (by decide) (by decide) (by decide) (by omega)
    rw [bz_t ⟨q4, q37⟩] at e3
    obtain ⟨F1, f1, e17, l1, e4⟩ := q_goesIn (κ := κ) (cs := cs0) (cj := cj) (Y := Y) (D := d) hw.1 hw.2.1 hw.2.2.1 ok hw.2.2.2.1 d0 d6 (by omega)
    have hw1 := cW_in hw f1 e17 l1
    obtain ⟨F2, g2, n2, x2, p2, t2, e5⟩ := h1 κ cp cs0 cj Y g n rd F1 hw1
    have hw2 := cW_ex hw1 p2
    obtain ⟨F3, f3, l3, e6⟩ := q_must (κ := κ) (cs := cs0) (cj := cj) (Y := Y) (kk := 38) (c := 93) (D := d) hw2.1 hw2.2.1 hw2.2.2.1 st1.1 rfl (by decide) (by decide) (by decide) (by omega)
    have p3 := cP_lx (c := 0) hw2 f3 l3 (by omega)
    have hw3 := cW_ex hw2 p3
    have pA := cP_tr p2 p3
    have h37 := hw3.2.2.2.1
    have dd : dp + 1 - 1 = dp := by omega
    refine ⟨bU F3 rd 7 dp, g2, n2, x2, ⟨frF_of (frD_tr f1 (frD_tr (frD_of pA.1) ⟨fun a ha => by funext k; rw [bU_ne _ _ _ _ _ _ ha], fun k hk => by rw [bU_same, if_neg (by omega)]⟩)) (by rw [bU_same, if_pos rfl]; exact hw.2.2.2.1.symm), cLx_7 l3, pA.2.2.1, by have := pA.2.2.2.1; omega, by have := pA.2.2.2.2; omega⟩, fun z => ?_, ?_⟩
    · have z2 := m38.2.2.1 z
      have k1 := goM_0 ok (st1.2.2.1 z2)
      have t := t2 z2
      exact ⟨t.1, bTr_le t.2 (by omega)⟩
    · rw [kX5_unit, eX5_unit_0]
      have e7 : bk_den TX5_unit (bk_call d) 76 [.ref rd, bk_u, bk_u] [.ref x2] (bk_Q rd F2 (bk_M κ (cp, cs0, cj) Y g2 n2)) = some (some (.ref x2), bk_Q rd (bU F3 rd 7 dp) (bk_M κ (cp, cs0, cj) Y g2 n2)) := by
        rw [eX5_unit_76]
        simp (disch := first | assumption | omega) only [e6, h37, dd, bi_add, bi_sub, bi_mul, bi_neg, bi_div, bi_64, bl_add, bl_sub, bl_mul, bl_neg, bl_div, bl_32, bi_min, bi_max, bl_min, bl_max, bq_I, bq_J, bq_A, bq_Vi, bq_Vl, bq_Vr, bq_cV, bq_cI, bq_cJ, bq_cA, bq_le, bq_lt, bq_eq, bq_z, bq_o, bq_ref, bq_nz, bq_nzJ, bq_bl, bq_blz, bq_T, bq_F, if_true, if_false, Int.reduceEq, Int.reduceLT, Int.reduceLE, Int.reduceAdd, Int.reduceSub, Int.reduceMul, Int.add_sub_cancel, li_0, li_1, li_2, li_4, li_5, li_6, li_7, li_8, li_22, li_23, li_35, li_60, li_61, li_62, li_76, li_91, li_93, li_135, li_146, li_149, ll_0, ll_1, ll_2, ll_4, ll_5, ll_6, ll_7, ll_8, ll_22, ll_23, ll_35, ll_60, ll_61, ll_62, ll_76, ll_91, ll_93, ll_135, ll_146, ll_149, q5_0, w5_0, q5_2, w5_2, q5_3, w5_3, q5_4, w5_4, q5_5, w5_5, q5_6, w5_6, q5_7, w5_7, q5_8, w5_8, q5_9, w5_9, q1_4, w1_4, q1_5, w1_5, q1_6, w1_6, q1_7, w1_7, q1_8, w1_8, q1_9, w1_9, q1_10, w1_10, q1_11, w1_11, q1_12, w1_12, qa_2, wa_2, qa_3, wa_3, qa_4, wa_4, bU_same, bU_ne, s_in]
      have e8 := e5 (fun r h => bk_den TX5_unit (bk_call d) 76 [.ref rd, bk_u, bk_u] [.ref r] h)
      rw [z32] at e8
      simp (disch := first | assumption | omega) only [e1, e3, e4, bi_add, bi_sub, bi_mul, bi_neg, bi_div, bi_64, bl_add, bl_sub, bl_mul, bl_neg, bl_div, bl_32, bi_min, bi_max, bl_min, bl_max, bq_I, bq_J, bq_A, bq_Vi, bq_Vl, bq_Vr, bq_cV, bq_cI, bq_cJ, bq_cA, bq_le, bq_lt, bq_eq, bq_z, bq_o, bq_ref, bq_nz, bq_nzJ, bq_bl, bq_blz, bq_T, bq_F, if_true, if_false, Int.reduceEq, Int.reduceLT, Int.reduceLE, Int.reduceAdd, Int.reduceSub, Int.reduceMul, Int.add_sub_cancel, li_0, li_1, li_2, li_4, li_5, li_6, li_7, li_8, li_22, li_23, li_35, li_60, li_61, li_62, li_76, li_91, li_93, li_135, li_146, li_149, ll_0, ll_1, ll_2, ll_4, ll_5, ll_6, ll_7, ll_8, ll_22, ll_23, ll_35, ll_60, ll_61, ll_62, ll_76, ll_91, ll_93, ll_135, ll_146, ll_149, w5_0, q5_2, w5_2, q5_3, w5_3, q5_4, w5_4, q5_5, w5_5, w5_6, q5_7, w5_7, q5_8, w5_8, q5_9, w5_9, q1_4, w1_4, q1_5, w1_5, q1_6, w1_6, q1_7, w1_7, q1_8, w1_8, q1_9, w1_9, q1_10, w1_10, q1_11, w1_11, q1_12, w1_12, qa_2, wa_2, qa_3, wa_3, qa_4, wa_4, bU_same, bU_ne, s_in]
      rw [q5_0, bq_Vi]
      exact e8.trans e7
  by_cases c : goM b sz dp σ 4 = 0
  · have k1 := goM_0 ok c
    obtain ⟨σ2, cs1, st1, w1, C1, T1⟩ := hT (by omega) (goM b sz dp σ) go.1 (by omega)
    have m38 := mustM_st (kk := 38) st1.1
    have o2 := st1.2.1
    have o3 := m38.2.1
    refine ⟨mustM b sz 38 σ2, cs1, stepL_tr (stepL_tr go st1) m38, fun z => ⟨by omega, ?_⟩, ?_, ?_⟩
    · exact wfc_mono _ _ _ (w1 (m38.2.2.1 z)).2 _ (by omega)
    · intro κ cp cs0 cj Y g n rd F D hw hD
      unfold eN at hD
      obtain ⟨d, rfl⟩ := dep (show 1 ≤ D by omega)
      exact CC d 3 σ2 cs1 (oC_of C1 st1 go.1 (by decide) (by unfold eN; omega)) st1 (by omega) (by omega) κ cp cs0 cj Y g n rd F hw
    · intro κ X tp tj ts tk g n D hw hD
      unfold eN at hD
      obtain ⟨d, rfl⟩ := dep (show 1 ≤ D by omega)
      have n0 := hw.2.2.2.2.1
      have i20 := t_is (κ := κ) (X := X) (tp := tp) (tj := tj) (ts := ts) (tk := tk) (g := g) (n := n) (kk := 20) (D := d) hw.2.2.1 ok (by decide) (by decide) (by omega)
      rw [bz_f (fun w => by omega)] at i20
      have i37 := t_is (κ := κ) (X := X) (tp := tp) (tj := tj) (ts := ts) (tk := tk) (g := g) (n := n) (kk := 37) (D := d) hw.2.2.1 ok (by decide) (by decide) (by omega)
      rw [bz_t ⟨q4, q37⟩] at i37
      obtain ⟨ts1, f1, l1, e1⟩ := t_goesIn (κ := κ) (X := X) (tj := tj) (tk := tk) (n := n) (D := d) hw.1 hw.2.1 hw.2.2.1 ok d0 d6 (by omega)
      rw [bz_t c] at e1
      have p1 := tP_lx (s := 1) hw f1 l1 (by omega)
      have hw1 := tW_p hw p1 (by decide)
      obtain ⟨ts2, p2, e2⟩ := T1 κ X tp tj ts1 tk g n d hw1 (by unfold eN; omega)
      have hw2 := tW_p hw1 p2 (by decide)
      obtain ⟨ts3, f3, l3, e3⟩ := t_must (κ := κ) (X := X) (tj := tj) (tk := tk) (n := n) (kk := 38) (d := d) hw2.1 hw2.2.1 hw2.2.2.1 st1.1 li_38 (by decide) (by decide) (by omega)
      have p3 := tP_lx (s := 0) hw2 f3 l3 (by omega)
      refine ⟨ts3, ?_, ?_⟩
      · have := tP_le (s' := 0) (tP_tr n0 (tP_tr n0 p1 p2 st1.2.2.1) p3 m38.2.2.1) (by decide)
        simpa using this
      · rw [kX4_readUnit, eX4_readUnit_0]
        have e4 := e3 (fun h => some (none, h))
        rw [z32, li_38, show (2 : Int32) = bk_i 2 by decide] at e4
        simp (disch := first | assumption | omega) only [i20, i37, e1, e2, bi_add, bi_sub, bi_mul, bi_neg, bi_div, bi_64, bl_add, bl_sub, bl_mul, bl_neg, bl_div, bl_32, bi_min, bi_max, bl_min, bl_max, bq_I, bq_J, bq_A, bq_Vi, bq_Vl, bq_Vr, bq_cV, bq_cI, bq_cJ, bq_cA, bq_le, bq_lt, bq_eq, bq_z, bq_o, bq_ref, bq_nz, bq_nzJ, bq_bl, bq_blz, bq_T, bq_F, if_true, if_false, Int.reduceEq, Int.reduceLT, Int.reduceLE, Int.reduceAdd, Int.reduceSub, Int.reduceMul, Int.add_sub_cancel, li_0, li_1, li_2, li_4, li_20, li_37, li_38, li_39, li_40, li_41, li_111, li_139, li_151, li_3003, li_3004, li_3005, li_3006, li_4005, li_4010, li_4011, li_4012, li_4020, li_4023, li_4025, li_4027, li_4029, ll_0, ll_1, ll_2, ll_4, ll_20, ll_37, ll_38, ll_39, ll_40, ll_41, ll_111, ll_139, ll_151, ga103, ga105, ga119, ga120, ga106, ga107, ga108, ga109, ga110, ga111, ga116, ga118, ga104, ga112, ga114, ga115, ga117, ga113, ga121, gf102_5, gf102_13, gf102_14, gf102_6, gf102_7, gf102_8, gf102_9, gf102_10, gf102_11, gf102_12, gf102_15, gf102_19, gf102_20, gr102_1, gr102_2, gr102_3, gr102_4, gr102_16, gr102_17, gr102_18, gr102_21, gr102_22, gr102_23, gr102_24, gr102_25, gr102_26, gr102_27, gr102_28, gr102_29, gr102_30, gr102_31, gr102_32, pa103, pa105, pa119, pa120, pa106, pa107, pa108, pa109, pa110, pa111, pa116, pa118, pa104, pa112, pa114, pa115, pa117, pa113, pa121, pf102_5, pf102_13, pf102_14, pf102_0, pf102_6, pf102_7, pf102_8, pf102_9, pf102_10, pf102_11, pf102_12, pf102_15, pf102_19, pf102_20, s_within, t_isLost, t_fallen, t_isHurt, t_between, t_isPassage, t_isRoom, t_standNow, t_standsAll, t_isIn, t_noComing, t_noStand, t_bitsOf, u_tens4109, t_draw]
        rw [gf102_0, bq_Vi]
        exact e4
  · refine ⟨goM b sz dp σ, [], go, fun z => absurd z c, ?_, ?_⟩
    · intro κ cp cs0 cj Y g n rd F D hw hD
      unfold eN at hD
      obtain ⟨d, rfl⟩ := dep (show 1 ≤ D by omega)
      have := CC d 0 (goM b sz dp σ) [] (oC_no c go.1) (stepL_rf go.1) (by omega) (by omega) κ cp cs0 cj Y g n rd F hw
      rw [mustM_s c] at this
      exact this
    · intro κ X tp tj ts tk g n D hw hD
      unfold eN at hD
      obtain ⟨d, rfl⟩ := dep (show 1 ≤ D by omega)
      have i20 := t_is (κ := κ) (X := X) (tp := tp) (tj := tj) (ts := ts) (tk := tk) (g := g) (n := n) (kk := 20) (D := d) hw.2.2.1 ok (by decide) (by decide) (by omega)
      rw [bz_f (fun w => by omega)] at i20
      have i37 := t_is (κ := κ) (X := X) (tp := tp) (tj := tj) (ts := ts) (tk := tk) (g := g) (n := n) (kk := 37) (D := d) hw.2.2.1 ok (by decide) (by decide) (by omega)
      rw [bz_t ⟨q4, q37⟩] at i37
      obtain ⟨ts1, f1, l1, e1⟩ := t_goesIn (κ := κ) (X := X) (tj := tj) (tk := tk) (n := n) (D := d) hw.1 hw.2.1 hw.2.2.1 ok d0 d6 (by omega)
      rw [bz_f c] at e1
      refine ⟨ts1, tP_lx (s := 0) hw f1 l1 (by omega), ?_⟩
      rw [kX4_readUnit, eX4_readUnit_0]
      simp (disch := first | assumption | omega) only [i20, i37, e1, bi_add, bi_sub, bi_mul, bi_neg, bi_div, bi_64, bl_add, bl_sub, bl_mul, bl_neg, bl_div, bl_32, bi_min, bi_max, bl_min, bl_max, bq_I, bq_J, bq_A, bq_Vi, bq_Vl, bq_Vr, bq_cV, bq_cI, bq_cJ, bq_cA, bq_le, bq_lt, bq_eq, bq_z, bq_o, bq_ref, bq_nz, bq_nzJ, bq_bl, bq_blz, bq_T, bq_F, if_true, if_false, Int.reduceEq, Int.reduceLT, Int.reduceLE, Int.reduceAdd, Int.reduceSub, Int.reduceMul, Int.add_sub_cancel, li_0, li_1, li_2, li_4, li_20, li_37, li_38, li_39, li_40, li_41, li_111, li_139, li_151, li_3003, li_3004, li_3005, li_3006, li_4005, li_4010, li_4011, li_4012, li_4020, li_4023, li_4025, li_4027, li_4029, ll_0, ll_1, ll_2, ll_4, ll_20, ll_37, ll_38, ll_39, ll_40, ll_41, ll_111, ll_139, ll_151, ga103, ga105, ga119, ga120, ga106, ga107, ga108, ga109, ga110, ga111, ga116, ga118, ga104, ga112, ga114, ga115, ga117, ga113, ga121, gf102_5, gf102_13, gf102_14, gf102_0, gf102_6, gf102_7, gf102_8, gf102_9, gf102_10, gf102_11, gf102_12, gf102_15, gf102_19, gf102_20, gr102_1, gr102_2, gr102_3, gr102_4, gr102_16, gr102_17, gr102_18, gr102_21, gr102_22, gr102_23, gr102_24, gr102_25, gr102_26, gr102_27, gr102_28, gr102_29, gr102_30, gr102_31, gr102_32, pa103, pa105, pa119, pa120, pa106, pa107, pa108, pa109, pa110, pa111, pa116, pa118, pa104, pa112, pa114, pa115, pa117, pa113, pa121, pf102_5, pf102_13, pf102_14, pf102_0, pf102_6, pf102_7, pf102_8, pf102_9, pf102_10, pf102_11, pf102_12, pf102_15, pf102_19, pf102_20, s_within, t_isLost, t_fallen, t_isHurt, t_between, t_isPassage, t_isRoom, t_standNow, t_standsAll, t_isIn, t_noComing, t_noStand, t_bitsOf, u_tens4109, t_draw]
end UM
/-- a sum and a truth, from any state, at any depth -/
theorem sim_all {b : Int → Int} {sz W : Int} (hW : W = 6 ∨ W = 7) : ∀ (N : Nat) (σ : Int → Int) (dp : Int), okL b sz σ → (sz - σ 0).toNat < N → 0 ≤ dp → dp ≤ 6 → SIM b sz W dp 5021 4022 false 2 1 σ ∧ SIM b sz W dp 5020 4021 false 3 1 σ ∧ SIM b sz W dp 5019 4020 false 4 1 σ ∧ SIM b sz W dp 5026 4029 true 5 3 σ ∧ SIM b sz W dp 5025 4028 true 6 3 σ ∧ SIM b sz W dp 5024 4027 true 7 3 σ := by
  intro N
  induction N with
  | zero => intro σ dp ok hN; omega
  | succ N ih =>
    intro σ dp ok hN d0 d6
    -- what is known further on
    have ltN : ∀ σ', okL b sz σ' → σ 0 < σ' 0 → (sz - σ' 0).toNat < N := fun σ' ok' h => by
      have := ok'.2.1
      have := ok'.2.2.1
      omega
    have hA : ∀ τ dp, okL b sz τ → σ 0 ≤ τ 0 → 0 ≤ dp → dp ≤ 6 → SIM b sz W dp 5021 4022 false 2 1 τ := fun τ dp okτ hτ d0 d6 => by
      refine sim_atom okτ hW d0 d6 (fun l σ' ok' h => ?_) (fun l σ' ok' h => ?_)
      · exact (ih σ' (dp + 1) ok' (ltN σ' ok' (by omega)) (by omega) (by omega)).2.2.2.2.2
      · exact (ih σ' (dp + 1) ok' (ltN σ' ok' (by omega)) (by omega) (by omega)).2.2.1
    have hTm : ∀ τ dp, okL b sz τ → σ 0 ≤ τ 0 → 0 ≤ dp → dp ≤ 6 → SIM b sz W dp 5020 4021 false 3 1 τ := fun τ dp okτ hτ d0 d6 =>
      SIM_of (RC := RCterm) (RT := RTterm) (by decide) (fun d rd h => (kX5_term d rd h).trans (eX5_term_0 (bk_call d) rd h)) (fun d x h => (kX4_readTerm d 102 x h).trans (eX4_readTerm_0 (bk_call d) 102 x h)) (hA τ dp okτ hτ d0 d6) (fun σ' ok' h => loop_term (N := N) d0 d6 (fun σ'' ok'' h'' => (ih σ'' dp ok'' h'' d0 d6).1) (N + 1) σ' ok' (by have := ok'.2.1; have := ok'.2.2.1; omega) (Nat.le_refl _)) d6 (by decide)
    have hSm : ∀ τ dp, okL b sz τ → σ 0 ≤ τ 0 → 0 ≤ dp → dp ≤ 6 → SIM b sz W dp 5019 4020 false 4 1 τ := fun τ dp okτ hτ d0 d6 =>
      SIM_of (RC := RCsum) (RT := RTsum) (by decide) (fun d rd h => (kX5_sum d rd h).trans (eX5_sum_0 (bk_call d) rd h)) (fun d x h => (kX4_readSum d 102 x h).trans (eX4_readSum_0 (bk_call d) 102 x h)) (hTm τ dp okτ hτ d0 d6) (fun σ' ok' h => loop_sum (N := N) d0 d6 (fun σ'' ok'' h'' => (ih σ'' dp ok'' h'' d0 d6).2.1) (N + 1) σ' ok' (by have := ok'.2.1; have := ok'.2.2.1; omega) (Nat.le_refl _)) d6 (by decide)
    have hU : ∀ τ dp, okL b sz τ → σ 0 ≤ τ 0 → 0 ≤ dp → dp ≤ 6 → SIM b sz W dp 5026 4029 true 5 3 τ := fun τ dp okτ hτ d0 d6 => by
      by_cases q20 : τ 4 = 0 ∧ τ 2 = 20
      · exact sim_not okτ q20.1 q20.2 d0 d6 (fun l σ' ok' h => (ih σ' (dp + 1) ok' (ltN σ' ok' (by omega)) (by omega) (by omega)).2.2.2.1)
      · by_cases q37 : τ 4 = 0 ∧ τ 2 = 37
        · exact sim_brack okτ q37.1 q37.2 d0 d6 (fun l σ' ok' h => (ih σ' (dp + 1) ok' (ltN σ' ok' (by omega)) (by omega) (by omega)).2.2.2.2.2)
        · exact sim_cmp okτ q20 q37 d0 d6 (fun σ' ok' h => hSm σ' dp ok' (by omega) d0 d6)
    have hB : ∀ τ dp, okL b sz τ → σ 0 ≤ τ 0 → 0 ≤ dp → dp ≤ 6 → SIM b sz W dp 5025 4028 true 6 3 τ := fun τ dp okτ hτ d0 d6 =>
      SIM_of (RC := RCboth) (RT := RTboth) (by decide) (fun d rd h => (kX5_both d rd h).trans (eX5_both_0 (bk_call d) rd h)) (fun d x h => (kX4_readBoth d 102 x h).trans (eX4_readBoth_0 (bk_call d) 102 x h)) (hU τ dp okτ hτ d0 d6) (fun σ' ok' h => loop_both (N := N) d0 d6 (fun σ'' ok'' h'' => (ih σ'' dp ok'' h'' d0 d6).2.2.2.1) (N + 1) σ' ok' (by have := ok'.2.1; have := ok'.2.2.1; omega) (Nat.le_refl _)) d6 (by decide)
    have hTr : ∀ τ dp, okL b sz τ → σ 0 ≤ τ 0 → 0 ≤ dp → dp ≤ 6 → SIM b sz W dp 5024 4027 true 7 3 τ := fun τ dp okτ hτ d0 d6 =>
      SIM_of (RC := RCtruth) (RT := RTtruth) (by decide) (fun d rd h => (kX5_truth d rd h).trans (eX5_truth_0 (bk_call d) rd h)) (fun d x h => (kX4_readTruth d 102 x h).trans (eX4_readTruth_0 (bk_call d) 102 x h)) (hB τ dp okτ hτ d0 d6) (fun σ' ok' h => loop_truth (N := N) d0 d6 (fun σ'' ok'' h'' => (ih σ'' dp ok'' h'' d0 d6).2.2.2.2.1) (N + 1) σ' ok' (by have := ok'.2.1; have := ok'.2.2.1; omega) (Nat.le_refl _)) d6 (by decide)
    exact ⟨hA σ dp ok (Int.le_refl _) d0 d6, hTm σ dp ok (Int.le_refl _) d0 d6, hSm σ dp ok (Int.le_refl _) d0 d6, hU σ dp ok (Int.le_refl _) d0 d6, hB σ dp ok (Int.le_refl _) d0 d6, hTr σ dp ok (Int.le_refl _) d0 d6⟩
