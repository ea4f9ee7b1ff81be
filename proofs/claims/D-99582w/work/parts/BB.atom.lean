/-! SPECS: the two parsers side by side: a sum's atom -/
set_option maxRecDepth 100000
theorem tP_lx' {ts ts' : bF} {σ σ' : Int → Int} {s : Int} (f : frT ts ts') (l : tLx ts' σ') (hs : σ 0 + s ≤ σ' 0) : tP ts ts' σ σ' s [] := by
  have e : ts' 106 = ts 106 := f.1 106 (by decide)
  refine ⟨fun a q _ => f.1 a q, fun k q => f.2 k q, l, fun k _ _ => by rw [e], by rw [e]; omega, by rw [e]; omega, fun _ => ⟨by rw [e]; simp, fun i i0 i1 => ?_⟩⟩
  simp at i1
  omega
theorem tLx_106 {ts : bF} {σ : Int → Int} {k v k' v' : Int} (l : tLx ts σ) : tLx (bU (bU ts 106 k v) 106 k' v') σ := by
  have e102 : ∀ j, bU (bU ts 106 k v) 106 k' v' 102 j = ts 102 j := fun j => by rw [bU_ne _ _ _ _ _ _ (by decide), bU_ne _ _ _ _ _ _ (by decide)]
  unfold tLx
  rw [e102, e102, e102, e102, e102, e102]
  exact l
section AT
variable {b σ : Int → Int} {sz W dp : Int}
theorem numM_e (h : ¬ (σ 4 = 0 ∧ σ 2 = 23)) : numM b sz 0 999 σ = failM 2 σ := by
  unfold numM
  rw [if_neg (fun w => h ⟨w.1, w.2.1⟩)]
  by_cases q : σ 4 = 0
  · rw [if_neg (fun w => h ⟨q, w⟩)]
  · rw [failM_s q, failM_s q]
theorem numM_y (ok : okL b sz σ) (h : σ 4 = 0 ∧ σ 2 = 23) : numM b sz 0 999 σ = nextM b sz σ := by
  have r := ok.2.2.2.2.2.2.1 h.2
  unfold numM
  rw [if_pos ⟨h.1, h.2, r.1, r.2⟩]
theorem nat_pred {z : Int} (h : 0 < z) : z.toNat = (z.toNat - 1) + 1 := by omega
/-- a number, or a fault -/
theorem sim_plain (ok : okL b sz σ) (hW : W = 6 ∨ W = 7) (n12 : ¬ (σ 4 = 0 ∧ σ 2 = 12)) (nw : ¬ (σ 4 = 0 ∧ wdM (σ 2) (W - 6) ≠ -1)) (n35 : ¬ (σ 4 = 0 ∧ σ 2 = 35)) (d0 : 0 ≤ dp) (d6 : dp ≤ 6) : SIM b sz W dp 5021 4022 false 2 1 σ := by
  have st := numM_st (lo := 0) (hi := 999) ok
  have o1 := st.2.1
  refine ⟨numM b sz 0 999 σ, [σ 3], st, fun z => ?_, ?_, ?_⟩
  · have k := numM_0 ok z
    have lt := ok.2.2.2.2.1 (by omega)
    refine ⟨by omega, ?_⟩
    rw [nat_pred (by omega)]
    exact Or.inl ⟨σ 3, k.2.2.1, by omega, rfl⟩
  · intro κ cp cs0 cj Y g n rd F D hw hD
    unfold eN at hD
    obtain ⟨d, rfl⟩ := dep (show 1 ≤ D by omega)
    have hr := hw.1.2.2.2.2.2.2.2.2.1
    have e1 := q_is (κ := κ) (cs := cs0) (cj := cj) (Y := Y) (D := d) hw.1 hw.2.1 hw.2.2.1 ok kO14 (show 16 = 2 + 14 from rfl) (by omega)
    rw [bz_f n12] at e1
    rcases q_word (κ := κ) (cs := cs0) (cj := cj) (Y := Y) (may := W - 6) (D := d) hw.1 hw.2.1 hw.2.2.1 ok hw.2.2.2.2 (by omega) (by omega) with ⟨a1, a2, -⟩ | ⟨-, e2⟩
    · exact absurd ⟨a1, a2⟩ nw
    · have e3 := q_isSign (κ := κ) (cp := cp) (cs := cs0) (cj := cj) (Y := Y) (g := g) (n := n) (rd := rd) (F := F) (kk := 35) (c := 40) (D := d) hw.2.2.1 ok rfl (by decide) (by decide) (by decide) (by omega)
      rw [bz_f n35] at e3
      have p1 := cP_new (k := 13) (fs := bk_fields 13) hw (by decide)
      have nw' := (bEx_new (k := 13) (fs := bk_fields 13) hw.1).2
      have hw1 := cW_ex hw p1
      obtain ⟨F2, z, f2, l2, ez, z0, z1, e4⟩ := q_number (κ := κ) (cs := cs0) (cj := cj) (Y := Y) (lo := 0) (hi := 999) (D := d) hw1.1 hw1.2.1 hw1.2.2.1 ok (by decide) (by decide) (by decide) (by decide) (by omega)
      have p2 := cP_lx (c := 0) hw1 f2 l2 (by omega)
      have e5 := q_plain (κ := κ) (X := (cp, cs0, cj)) (Y := Y) (n := (n.1 + 1, n.2 + (bk_fields 13).length)) (rd := rd) (F := F2) (v := z) (D := d) nw' (by omega)
      have p3 := cP_put (g'' := gp (gN g 13 n.1 (bk_fields 13)) 13 n.1 0 (.int (bk_i z))) (cP_tr p1 p2) (Nat.le_refl _) (Nat.lt_succ_self _) (fun t a j ha => gp_ad ha)
      refine ⟨F2, _, _, n.1, p3, fun q => ⟨by omega, ?_⟩, ?_⟩
      · have k := numM_0 ok q
        have lt := ok.2.2.2.2.1 (by omega)
        have hi : n.1 ≤ n.1 := Nat.le_refl _
        rw [nat_pred (by omega), ← ez q]
        exact Or.inl ⟨z, z0, z1, rfl, (gHi_on hi).trans ((gp_ne (fun w => absurd w.1 (by decide))).trans (nw'.1 14 0 (by decide))), (gHi_on hi).trans (gp_hit _ _ _ _ _)⟩
      · have hnew : bk_new (bk_Q rd F (bk_M κ (cp, cs0, cj) Y g n)) 13 (bk_fields 13) = bk_Q rd F (bk_M κ (cp, cs0, cj) Y (gN g 13 n.1 (bk_fields 13)) (n.1 + 1, n.2 + (bk_fields 13).length)) := nQ (by decide) hr _
        have hn1 : (bk_Q rd F (bk_M κ (cp, cs0, cj) Y g n)).2.1 = n.1 := rfl
        have v13 : ∀ F m, (bk_Q rd F (bk_M κ (cp, cs0, cj) Y (gN g 13 n.1 (bk_fields 13)) m)).1 13 n.1 0 = .int 0 := fun F m => (gQ (by decide)).trans (nw'.2 0 (by decide))
        rw [kX5_atom, eX5_atom_0]
        simp (disch := first | assumption | omega) only [e1, e2, e3, hnew, hn1, eX5_atom_45, e4, v13, e5, bi_add, bi_sub, bi_mul, bi_neg, bi_div, bi_64, bl_add, bl_sub, bl_mul, bl_neg, bl_div, bl_32, bi_min, bi_max, bl_min, bl_max, bq_I, bq_J, bq_A, bq_Vi, bq_Vl, bq_Vr, bq_cV, bq_cI, bq_cJ, bq_cA, bq_le, bq_lt, bq_eq, bq_z, bq_o, bq_ref, bq_nz, bq_nzJ, bq_bl, bq_blz, bq_T, bq_F, if_true, if_false, Int.reduceEq, Int.reduceLT, Int.reduceLE, Int.reduceAdd, Int.reduceSub, Int.reduceMul, Int.add_sub_cancel, li_0, li_1, li_5, li_6, li_7, li_12, li_13, li_16, li_27, li_40, li_41, li_45, li_77, li_999, ll_0, ll_1, ll_5, ll_6, ll_7, ll_12, ll_13, ll_16, ll_27, ll_40, ll_41, ll_45, ll_77, q5_0, w5_0, q5_2, w5_2, q5_3, w5_3, q5_4, w5_4, q5_5, w5_5, q5_6, w5_6, q5_7, w5_7, q5_8, w5_8, q5_9, w5_9, q1_4, w1_4, q1_5, w1_5, q1_6, w1_6, q1_7, w1_7, q1_8, w1_8, q1_9, w1_9, q1_10, w1_10, q1_11, w1_11, q1_12, w1_12, qa_2, wa_2, qa_3, wa_3, qa_4, wa_4, bU_same, bU_ne, s_in]
  · intro κ X tp tj ts tk g n D hw hD
    unfold eN at hD
    obtain ⟨d, rfl⟩ := dep (show 1 ≤ D by omega)
    have n0 := hw.2.2.2.2.1
    have n1 := hw.2.2.2.2.2
    have b1 := hw.1.2.2.2.1
    have i23 := t_is (κ := κ) (X := X) (tp := tp) (tj := tj) (ts := ts) (tk := tk) (g := g) (n := n) (kk := 23) (D := d) hw.2.2.1 ok (by decide) (by decide) (by omega)
    have l11 := hw.2.2.1.2.2.2.2.1
    have l9 := hw.2.2.1.2.2.1
    have s4 := ok.2.2.2.2.2.2.2
    by_cases q : σ 4 = 0 ∧ σ 2 = 23
    · rw [bz_t q] at i23
      rw [numM_y ok q]
      obtain ⟨st1, n4, s1⟩ := nextM_st ok q.1
      have lt := ok.2.2.2.2.1 (by omega)
      have okz := ok.2.2.1
      have l10 := hw.2.2.1.2.2.2.1 q.2
      have r3 := ok.2.2.2.2.2.2.1 q.2
      rw [q.1] at l11
      have e2 := t_emit (κ := κ) (X := X) (tp := tp) (tj := tj) (ts := ts) (tk := tk) (g := g) (n := n) (c := σ 3) (D := d) hw.1.1 l11 n0 (by omega) (by omega)
      have p1 := tP_code (c := σ 3) n0 (tP_lx' (σ := σ) (σ' := σ) (s := 0) (frT_rf ts) hw.2.2.1 (by omega))
      have u8 : bU (bU ts 106 (99 + ts 106 98) (σ 3)) 106 98 (ts 106 98 + 1) 102 8 = sz := by rw [bU_ne _ _ _ _ _ _ (by decide), bU_ne _ _ _ _ _ _ (by decide)]; exact hw.2.1
      obtain ⟨ts3, f3, l3, e3⟩ := t_nextL (κ := κ) (X := X) (tj := tj) (tk := tk) (n := n) (D := d) hw.1 u8 (tLx_106 hw.2.2.1) ok (by omega)
      have p3 := tP_tr n0 p1 (tP_lx' (s := 1) f3 l3 (by omega)) (fun _ => q.1)
      refine ⟨ts3, p3, ?_⟩
      rw [kX4_readAtom, eX4_readAtom_0]
      simp (disch := first | assumption | omega) only [i23, l10, e2, e3, bi_add, bi_sub, bi_mul, bi_neg, bi_div, bi_64, bl_add, bl_sub, bl_mul, bl_neg, bl_div, bl_32, bi_min, bi_max, bl_min, bl_max, bq_I, bq_J, bq_A, bq_Vi, bq_Vl, bq_Vr, bq_cV, bq_cI, bq_cJ, bq_cA, bq_le, bq_lt, bq_eq, bq_z, bq_o, bq_ref, bq_nz, bq_nzJ, bq_bl, bq_blz, bq_T, bq_F, if_true, if_false, Int.reduceEq, Int.reduceLT, Int.reduceLE, Int.reduceAdd, Int.reduceSub, Int.reduceMul, Int.add_sub_cancel, li_0, li_1, li_2, li_4, li_9, li_10, li_11, li_12, li_23, li_35, li_36, li_66, li_1000, li_4005, li_4010, li_4011, li_4012, li_4020, li_4022, li_4023, li_4024, li_4025, li_4026, ll_0, ll_1, ll_2, ll_4, ll_9, ll_10, ll_11, ll_12, ll_23, ll_35, ll_36, ll_66, ga103, ga105, ga119, ga120, ga106, ga107, ga108, ga109, ga110, ga111, ga116, ga118, ga104, ga112, ga114, ga115, ga117, ga113, ga121, gf102_5, gf102_13, gf102_14, gf102_0, gf102_6, gf102_7, gf102_8, gf102_9, gf102_10, gf102_11, gf102_12, gf102_15, gf102_19, gf102_20, gr102_1, gr102_2, gr102_3, gr102_4, gr102_16, gr102_17, gr102_18, gr102_21, gr102_22, gr102_23, gr102_24, gr102_25, gr102_26, gr102_27, gr102_28, gr102_29, gr102_30, gr102_31, gr102_32, pa103, pa105, pa119, pa120, pa106, pa107, pa108, pa109, pa110, pa111, pa116, pa118, pa104, pa112, pa114, pa115, pa117, pa113, pa121, pf102_5, pf102_13, pf102_14, pf102_0, pf102_6, pf102_7, pf102_8, pf102_9, pf102_10, pf102_11, pf102_12, pf102_15, pf102_19, pf102_20, s_within, t_isLost, t_fallen, t_isHurt, t_between, t_isPassage, t_isRoom, t_standNow, t_standsAll, t_isIn, t_noComing, t_noStand, t_bitsOf, u_tens4109, t_draw]
    · rw [bz_f q] at i23
      rw [numM_e q]
      have i35 := t_is (κ := κ) (X := X) (tp := tp) (tj := tj) (ts := ts) (tk := tk) (g := g) (n := n) (kk := 35) (D := d) hw.2.2.1 ok (by decide) (by decide) (by omega)
      have i12 := t_is (κ := κ) (X := X) (tp := tp) (tj := tj) (ts := ts) (tk := tk) (g := g) (n := n) (kk := 12) (D := d) hw.2.2.1 ok (by decide) (by decide) (by omega)
      rw [bz_f n35] at i35
      rw [bz_f n12] at i12
      obtain ⟨ts1, f1, l1, e1⟩ := t_fails (κ := κ) (X := X) (tp := tp) (tj := tj) (tk := tk) (g := g) (n := n) (f := 2) (D := d) hw.2.2.1 ok (by omega)
      have fo := failM_ok ok (f := 2) (by decide) (by decide)
      refine ⟨ts1, tP_any (tP_lx' (s := 0) f1 l1 (by rw [fo.2.1]; omega)) fo.2.2.2.2.2, ?_⟩
      rw [kX4_readAtom, eX4_readAtom_0]
      by_cases q4 : σ 4 = 0
      · have ew := t_wordOf (κ := κ) (X := X) (tp := tp) (tj := tj) (ts := ts) (tk := tk) (g := g) (n := n) (k := σ 2) (may := W - 6) (D := d) hw.2.2.2.1 (by omega) (by omega) ok.2.2.2.1.1 (by have := ok.2.2.2.1.2.2; omega) (by omega)
        have wn : wdM (σ 2) (W - 6) = -1 := Classical.byContradiction fun w => nw ⟨q4, w⟩
        rw [wn] at ew
        simp (disch := first | assumption | omega) only [i23, l11, if_pos q4, l9, ew, eX4_readAtom_66, i35, i12, e1, bi_add, bi_sub, bi_mul, bi_neg, bi_div, bi_64, bl_add, bl_sub, bl_mul, bl_neg, bl_div, bl_32, bi_min, bi_max, bl_min, bl_max, bq_I, bq_J, bq_A, bq_Vi, bq_Vl, bq_Vr, bq_cV, bq_cI, bq_cJ, bq_cA, bq_le, bq_lt, bq_eq, bq_z, bq_o, bq_ref, bq_nz, bq_nzJ, bq_bl, bq_blz, bq_T, bq_F, if_true, if_false, Int.reduceEq, Int.reduceLT, Int.reduceLE, Int.reduceAdd, Int.reduceSub, Int.reduceMul, Int.add_sub_cancel, li_0, li_1, li_2, li_4, li_9, li_10, li_11, li_12, li_23, li_35, li_36, li_66, li_1000, li_4005, li_4010, li_4011, li_4012, li_4020, li_4022, li_4023, li_4024, li_4025, li_4026, ll_0, ll_1, ll_2, ll_4, ll_9, ll_10, ll_11, ll_12, ll_23, ll_35, ll_36, ll_66, ga103, ga105, ga119, ga120, ga106, ga107, ga108, ga109, ga110, ga111, ga116, ga118, ga104, ga112, ga114, ga115, ga117, ga113, ga121, gf102_5, gf102_13, gf102_14, gf102_0, gf102_6, gf102_7, gf102_8, gf102_9, gf102_10, gf102_11, gf102_12, gf102_15, gf102_19, gf102_20, gr102_1, gr102_2, gr102_3, gr102_4, gr102_16, gr102_17, gr102_18, gr102_21, gr102_22, gr102_23, gr102_24, gr102_25, gr102_26, gr102_27, gr102_28, gr102_29, gr102_30, gr102_31, gr102_32, pa103, pa105, pa119, pa120, pa106, pa107, pa108, pa109, pa110, pa111, pa116, pa118, pa104, pa112, pa114, pa115, pa117, pa113, pa121, pf102_5, pf102_13, pf102_14, pf102_0, pf102_6, pf102_7, pf102_8, pf102_9, pf102_10, pf102_11, pf102_12, pf102_15, pf102_19, pf102_20, s_within, t_isLost, t_fallen, t_isHurt, t_between, t_isPassage, t_isRoom, t_standNow, t_standsAll, t_isIn, t_noComing, t_noStand, t_bitsOf, u_tens4109, t_draw]
      · simp (disch := first | assumption | omega) only [i23, l11, if_neg q4, eX4_readAtom_66, i35, i12, e1, bi_add, bi_sub, bi_mul, bi_neg, bi_div, bi_64, bl_add, bl_sub, bl_mul, bl_neg, bl_div, bl_32, bi_min, bi_max, bl_min, bl_max, bq_I, bq_J, bq_A, bq_Vi, bq_Vl, bq_Vr, bq_cV, bq_cI, bq_cJ, bq_cA, bq_le, bq_lt, bq_eq, bq_z, bq_o, bq_ref, bq_nz, bq_nzJ, bq_bl, bq_blz, bq_T, bq_F, if_true, if_false, Int.reduceEq, Int.reduceLT, Int.reduceLE, Int.reduceAdd, Int.reduceSub, Int.reduceMul, Int.add_sub_cancel, li_0, li_1, li_2, li_4, li_9, li_10, li_11, li_12, li_23, li_35, li_36, li_66, li_1000, li_4005, li_4010, li_4011, li_4012, li_4020, li_4022, li_4023, li_4024, li_4025, li_4026, ll_0, ll_1, ll_2, ll_4, ll_9, ll_10, ll_11, ll_12, ll_23, ll_35, ll_36, ll_66, ga103, ga105, ga119, ga120, ga106, ga107, ga108, ga109, ga110, ga111, ga116, ga118, ga104, ga112, ga114, ga115, ga117, ga113, ga121, gf102_5, gf102_13, gf102_14, gf102_0, gf102_6, gf102_7, gf102_8, gf102_9, gf102_10, gf102_11, gf102_12, gf102_15, gf102_19, gf102_20, gr102_1, gr102_2, gr102_3, gr102_4, gr102_16, gr102_17, gr102_18, gr102_21, gr102_22, gr102_23, gr102_24, gr102_25, gr102_26, gr102_27, gr102_28, gr102_29, gr102_30, gr102_31, gr102_32, pa103, pa105, pa119, pa120, pa106, pa107, pa108, pa109, pa110, pa111, pa116, pa118, pa104, pa112, pa114, pa115, pa117, pa113, pa121, pf102_5, pf102_13, pf102_14, pf102_0, pf102_6, pf102_7, pf102_8, pf102_9, pf102_10, pf102_11, pf102_12, pf102_15, pf102_19, pf102_20, s_within, t_isLost, t_fallen, t_isHurt, t_between, t_isPassage, t_isRoom, t_standNow, t_standsAll, t_isIn, t_noComing, t_noStand, t_bitsOf, u_tens4109, t_draw]
/-- a word -/
theorem sim_known (ok : okL b sz σ) (hW : W = 6 ∨ W = 7) (q4 : σ 4 = 0) (yw : wdM (σ 2) (W - 6) ≠ -1) (d0 : 0 ≤ dp) (d6 : dp ≤ 6) : SIM b sz W dp 5021 4022 false 2 1 σ := by
  have wr := wdM_rng (σ 2) (W - 6)
  have wW : wdM (σ 2) (W - 6) < W := by
    rcases hW with h | h
    · have := wr.2.2 (by omega); omega
    · omega
  have n12 : ¬ (σ 4 = 0 ∧ σ 2 = 12) := by
    rintro ⟨-, w⟩
    apply yw; rw [w]; unfold wdM
    rw [if_neg (by decide), if_neg (by decide), if_neg (by decide), if_neg (by decide), if_neg (by decide), if_neg (by decide), if_neg (fun t => absurd t.1 (by decide))]
  have n23 : σ 2 ≠ 23 := by
    intro w
    apply yw; rw [w]; unfold wdM
    rw [if_neg (by decide), if_neg (by decide), if_neg (by decide), if_neg (by decide), if_neg (by decide), if_neg (by decide), if_neg (fun t => absurd t.1 (by decide))]
  have n24 : σ 2 ≠ 24 := by
    intro w
    apply yw; rw [w]; unfold wdM
    rw [if_neg (by decide), if_neg (by decide), if_neg (by decide), if_neg (by decide), if_neg (by decide), if_neg (by decide), if_neg (fun t => absurd t.1 (by decide))]
  obtain ⟨st1, n4, s1⟩ := nextM_st ok q4
  have lt := ok.2.2.2.2.1 n24
  refine ⟨nextM b sz σ, [1000 + wdM (σ 2) (W - 6)], st1, fun z => ⟨by omega, ?_⟩, ?_, ?_⟩
  · rw [nat_pred (by omega)]
    exact Or.inr (Or.inl ⟨wdM (σ 2) (W - 6), by omega, wW, rfl⟩)
  · intro κ cp cs0 cj Y g n rd F D hw hD
    unfold eN at hD
    obtain ⟨d, rfl⟩ := dep (show 1 ≤ D by omega)
    have hr := hw.1.2.2.2.2.2.2.2.2.1
    have e1 := q_is (κ := κ) (cs := cs0) (cj := cj) (Y := Y) (D := d) hw.1 hw.2.1 hw.2.2.1 ok kO14 (show 16 = 2 + 14 from rfl) (by omega)
    rw [bz_f n12] at e1
    rcases q_word (κ := κ) (cs := cs0) (cj := cj) (Y := Y) (may := W - 6) (D := d) hw.1 hw.2.1 hw.2.2.1 ok hw.2.2.2.2 (by omega) (by omega) with ⟨-, -, F1, f1, l1, e2⟩ | ⟨a, -⟩
    · have p1 := cP_lx (c := 0) hw f1 l1 (by omega)
      have hw1 := cW_ex hw p1
      have p2 := cP_new (k := 12) (fs := bk_fields 12) hw1 (by decide)
      have nw' := (bEx_new (k := 12) (fs := bk_fields 12) hw1.1).2
      have e5 := q_known (κ := κ) (X := (cp, cs0, cj)) (Y := Y) (n := (n.1 + 1, n.2 + (bk_fields 12).length)) (rd := rd) (F := F1) (v := wdM (σ 2) (W - 6)) (D := d) nw' (by omega)
      have p3 := cP_put (g'' := gp (gN g 12 n.1 (bk_fields 12)) 12 n.1 0 (.int (bk_i (wdM (σ 2) (W - 6))))) (cP_tr p1 p2) (Nat.le_refl _) (Nat.lt_succ_self _) (fun t a j ha => gp_ad ha)
      refine ⟨F1, _, _, n.1, cP_le p3 (by decide), fun q => ⟨by omega, ?_⟩, ?_⟩
      · have hi : n.1 ≤ n.1 := Nat.le_refl _
        rw [nat_pred (by omega)]
        exact Or.inr (Or.inl ⟨wdM (σ 2) (W - 6), by omega, wW, rfl, (gHi_on hi).trans ((gp_ne (fun w => absurd w.1 (by decide))).trans (nw'.1 14 0 (by decide))), (gHi_on hi).trans ((gp_ne (fun w => absurd w.1 (by decide))).trans (nw'.1 13 0 (by decide))), (gHi_on hi).trans (gp_hit _ _ _ _ _)⟩)
      · have hnew : bk_new (bk_Q rd F1 (bk_M κ (cp, cs0, cj) Y g n)) 12 (bk_fields 12) = bk_Q rd F1 (bk_M κ (cp, cs0, cj) Y (gN g 12 n.1 (bk_fields 12)) (n.1 + 1, n.2 + (bk_fields 12).length)) := nQ (by decide) hr _
        have hn1 : (bk_Q rd F1 (bk_M κ (cp, cs0, cj) Y g n)).2.1 = n.1 := rfl
        have v12 : ∀ m, (bk_Q rd F1 (bk_M κ (cp, cs0, cj) Y (gN g 12 n.1 (bk_fields 12)) m)).1 12 n.1 0 = .int 0 := fun m => (gQ (by decide)).trans (nw'.2 0 (by decide))
        rw [kX5_atom, eX5_atom_0]
        simp (disch := first | assumption | omega) only [e1, e2, if_neg yw, hnew, hn1, eX5_atom_27, v12, e5, bi_add, bi_sub, bi_mul, bi_neg, bi_div, bi_64, bl_add, bl_sub, bl_mul, bl_neg, bl_div, bl_32, bi_min, bi_max, bl_min, bl_max, bq_I, bq_J, bq_A, bq_Vi, bq_Vl, bq_Vr, bq_cV, bq_cI, bq_cJ, bq_cA, bq_le, bq_lt, bq_eq, bq_z, bq_o, bq_ref, bq_nz, bq_nzJ, bq_bl, bq_blz, bq_T, bq_F, if_true, if_false, Int.reduceEq, Int.reduceLT, Int.reduceLE, Int.reduceAdd, Int.reduceSub, Int.reduceMul, Int.add_sub_cancel, li_0, li_1, li_5, li_6, li_7, li_12, li_13, li_16, li_27, li_40, li_41, li_45, li_77, li_999, ll_0, ll_1, ll_5, ll_6, ll_7, ll_12, ll_13, ll_16, ll_27, ll_40, ll_41, ll_45, ll_77, q5_0, w5_0, q5_2, w5_2, q5_3, w5_3, q5_4, w5_4, q5_5, w5_5, q5_6, w5_6, q5_7, w5_7, q5_8, w5_8, q5_9, w5_9, q1_4, w1_4, q1_5, w1_5, q1_6, w1_6, q1_7, w1_7, q1_8, w1_8, q1_9, w1_9, q1_10, w1_10, q1_11, w1_11, q1_12, w1_12, qa_2, wa_2, qa_3, wa_3, qa_4, wa_4, bU_same, bU_ne, s_in]
    · exact absurd ⟨q4, yw⟩ a
  · intro κ X tp tj ts tk g n D hw hD
    unfold eN at hD
    obtain ⟨d, rfl⟩ := dep (show 1 ≤ D by omega)
    have n0 := hw.2.2.2.2.1
    have n1 := hw.2.2.2.2.2
    have b1 := hw.1.2.2.2.1
    have okz := ok.2.2.1
    have i23 := t_is (κ := κ) (X := X) (tp := tp) (tj := tj) (ts := ts) (tk := tk) (g := g) (n := n) (kk := 23) (D := d) hw.2.2.1 ok (by decide) (by decide) (by omega)
    rw [bz_f (fun w => n23 w.2)] at i23
    have l11 := hw.2.2.1.2.2.2.2.1
    have l9 := hw.2.2.1.2.2.1
    rw [q4] at l11
    have ew := t_wordOf (κ := κ) (X := X) (tp := tp) (tj := tj) (ts := ts) (tk := tk) (g := g) (n := n) (k := σ 2) (may := W - 6) (D := d) hw.2.2.2.1 (by omega) (by omega) ok.2.2.2.1.1 (by have := ok.2.2.2.1.2.2; omega) (by omega)
    have e2 := t_emit (κ := κ) (X := X) (tp := tp) (tj := tj) (ts := ts) (tk := tk) (g := g) (n := n) (c := 1000 + wdM (σ 2) (W - 6)) (D := d) hw.1.1 l11 n0 (by omega) (by omega)
    have p1 := tP_code (c := 1000 + wdM (σ 2) (W - 6)) n0 (tP_lx' (σ := σ) (σ' := σ) (s := 0) (frT_rf ts) hw.2.2.1 (by omega))
    have u8 : bU (bU ts 106 (99 + ts 106 98) (1000 + wdM (σ 2) (W - 6))) 106 98 (ts 106 98 + 1) 102 8 = sz := by rw [bU_ne _ _ _ _ _ _ (by decide), bU_ne _ _ _ _ _ _ (by decide)]; exact hw.2.1
    obtain ⟨ts3, f3, l3, e3⟩ := t_nextL (κ := κ) (X := X) (tj := tj) (tk := tk) (n := n) (D := d) hw.1 u8 (tLx_106 hw.2.2.1) ok (by omega)
    have p3 := tP_tr n0 p1 (tP_lx' (s := 1) f3 l3 (by omega)) (fun _ => q4)
    refine ⟨ts3, p3, ?_⟩
    rw [kX4_readAtom, eX4_readAtom_0]
    simp (disch := first | assumption | omega) only [i23, l11, l9, ew, if_neg yw, e2, e3, bi_add, bi_sub, bi_mul, bi_neg, bi_div, bi_64, bl_add, bl_sub, bl_mul, bl_neg, bl_div, bl_32, bi_min, bi_max, bl_min, bl_max, bq_I, bq_J, bq_A, bq_Vi, bq_Vl, bq_Vr, bq_cV, bq_cI, bq_cJ, bq_cA, bq_le, bq_lt, bq_eq, bq_z, bq_o, bq_ref, bq_nz, bq_nzJ, bq_bl, bq_blz, bq_T, bq_F, if_true, if_false, Int.reduceEq, Int.reduceLT, Int.reduceLE, Int.reduceAdd, Int.reduceSub, Int.reduceMul, Int.add_sub_cancel, li_0, li_1, li_2, li_4, li_9, li_10, li_11, li_12, li_23, li_35, li_36, li_66, li_1000, li_4005, li_4010, li_4011, li_4012, li_4020, li_4022, li_4023, li_4024, li_4025, li_4026, ll_0, ll_1, ll_2, ll_4, ll_9, ll_10, ll_11, ll_12, ll_23, ll_35, ll_36, ll_66, ga103, ga105, ga119, ga120, ga106, ga107, ga108, ga109, ga110, ga111, ga116, ga118, ga104, ga112, ga114, ga115, ga117, ga113, ga121, gf102_5, gf102_13, gf102_14, gf102_0, gf102_6, gf102_7, gf102_8, gf102_9, gf102_10, gf102_11, gf102_12, gf102_15, gf102_19, gf102_20, gr102_1, gr102_2, gr102_3, gr102_4, gr102_16, gr102_17, gr102_18, gr102_21, gr102_22, gr102_23, gr102_24, gr102_25, gr102_26, gr102_27, gr102_28, gr102_29, gr102_30, gr102_31, gr102_32, pa103, pa105, pa119, pa120, pa106, pa107, pa108, pa109, pa110, pa111, pa116, pa118, pa104, pa112, pa114, pa115, pa117, pa113, pa121, pf102_5, pf102_13, pf102_14, pf102_0, pf102_6, pf102_7, pf102_8, pf102_9, pf102_10, pf102_11, pf102_12, pf102_15, pf102_19, pf102_20, s_within, t_isLost, t_fallen, t_isHurt, t_between, t_isPassage, t_isRoom, t_standNow, t_standsAll, t_isIn, t_noComing, t_noStand, t_bitsOf, u_tens4109, t_draw]
/-- a sum in parentheses -/
theorem sim_paren (ok : okL b sz σ) (hW : W = 6 ∨ W = 7) (q4 : σ 4 = 0) (q35 : σ 2 = 35) (d0 : 0 ≤ dp) (d6 : dp ≤ 6) (hS : dp < 6 → ∀ σ', okL b sz σ' → σ 0 < σ' 0 → SIM b sz W (dp + 1) 5019 4020 false 4 1 σ') : SIM b sz W dp 5021 4022 false 2 1 σ := by
  have go := goM_st (dp := dp) ok
  have o1 := go.2.1
  have lt1 : σ 0 < σ 1 := ok.2.2.2.2.1 (by omega)
  have wn : wdM (σ 2) (W - 6) = -1 := by
    rw [q35]; unfold wdM
    rw [if_neg (by decide), if_neg (by decide), if_neg (by decide), if_neg (by decide), if_neg (by decide), if_neg (by decide), if_neg (fun t => absurd t.1 (by decide))]
  -- the component, for any inner part
  have CC : ∀ (d : Nat) (c : Int) (σ2 : Int → Int) (cs1 : List Int), oC b sz W (dp + 1) 5019 d false c (goM b sz dp σ) σ2 cs1 → stepL b sz (goM b sz dp σ) σ2 → c ≤ 6 * (goM b sz dp σ 0 - σ 0) → 12 ≤ d → ∀ (κ : Nat → Nat) (cp cs0 : bF) (cj : bFJ) (Y : bY) (g : bG) (n : Nat × Nat) (rd : Nat) (F : bF), cW cp g n rd F b sz W dp σ →
      ∃ F' g' n' x, cP rd F g n σ 1 F' g' n' (mustM b sz 36 σ2) ∧ (mustM b sz 36 σ2 4 = 0 → x ≠ 0 ∧ bTr (gHi g' n.1) (mustM b sz 36 σ2 0 - σ 0).toNat false W x cs1) ∧ bk_call (d + 1) 5021 [.ref rd] (bk_Q rd F (bk_M κ (cp, cs0, cj) Y g n)) = some (some (.ref x), bk_Q rd F' (bk_M κ (cp, cs0, cj) Y g' n')) := by
    intro d c σ2 cs1 h1 st1 hc hD κ cp cs0 cj Y g n rd F hw
    have o2 := st1.2.1
    have m36 := mustM_st (kk := 36) st1.1
    have o3 := m36.2.1
    have e1 := q_is (κ := κ) (cs := cs0) (cj := cj) (Y := Y) (D := d) hw.1 hw.2.1 hw.2.2.1 ok kO14 (show 16 = 2 + 14 from rfl) (by omega)
    rw [bz_f (fun w => by omega)] at e1
    rcases q_word (κ := κ) (cs := cs0) (cj := cj) (Y := Y) (may := W - 6) (D := d) hw.1 hw.2.1 hw.2.2.1 ok hw.2.2.2.2 (by omega) (by omega) with ⟨a1, a2, -⟩ | ⟨-, e2⟩
    · exact absurd wn a2
    · have e3 := q_isSign (κ := κ) (cp := cp) (cs := cs0) (cj := cj) (Y := Y) (g := g) (n := n) (rd := rd) (F := F) (kk := 35) (c := 40) (D := d) hw.2.2.1 ok rfl (by decide) (by decide) (by decide) (by omega)
      rw [bz_t ⟨q4, q35⟩] at e3
      obtain ⟨F1, f1, e17, l1, e4⟩ := q_goesIn (κ := κ) (cs := cs0) (cj := cj) (Y := Y) (D := d) hw.1 hw.2.1 hw.2.2.1 ok hw.2.2.2.1 d0 d6 (by omega)
      have hw1 := cW_in hw f1 e17 l1
      obtain ⟨F2, g2, n2, x2, p2, t2, e5⟩ := h1 κ cp cs0 cj Y g n rd F1 hw1
      have hw2 := cW_ex hw1 p2
      obtain ⟨F3, f3, l3, e6⟩ := q_must (κ := κ) (cs := cs0) (cj := cj) (Y := Y) (kk := 36) (c := 41) (D := d) hw2.1 hw2.2.1 hw2.2.2.1 st1.1 rfl (by decide) (by decide) (by decide) (by omega)
      have p3 := cP_lx (c := 0) hw2 f3 l3 (by omega)
      have hw3 := cW_ex hw2 p3
      have pA := cP_tr p2 p3
      have h37 := hw3.2.2.2.1
      have dd : dp + 1 - 1 = dp := by omega
      refine ⟨bU F3 rd 7 dp, g2, n2, x2, ⟨frF_of (frD_tr f1 (frD_tr (frD_of pA.1) ⟨fun a ha => by funext k; rw [bU_ne _ _ _ _ _ _ ha], fun k hk => by rw [bU_same, if_neg (by omega)]⟩)) (by rw [bU_same, if_pos rfl]; exact hw.2.2.2.1.symm), cLx_7 l3, pA.2.2.1, by have := pA.2.2.2.1; omega, by have := pA.2.2.2.2; omega⟩, fun z => ?_, ?_⟩
      · have z2 := m36.2.2.1 z
        have k1 := goM_0 ok (st1.2.2.1 z2)
        have t := t2 z2
        exact ⟨t.1, bTr_le t.2 (by omega)⟩
      · rw [kX5_atom, eX5_atom_0]
        have e7 : bk_den TX5_atom (bk_call d) 77 [.ref rd, .int (bk_i (-1)), bk_u] [.ref x2] (bk_Q rd F2 (bk_M κ (cp, cs0, cj) Y g2 n2)) = some (some (.ref x2), bk_Q rd (bU F3 rd 7 dp) (bk_M κ (cp, cs0, cj) Y g2 n2)) := by
          rw [eX5_atom_77]
          simp (disch := first | assumption | omega) only [e6, h37, dd, bi_add, bi_sub, bi_mul, bi_neg, bi_div, bi_64, bl_add, bl_sub, bl_mul, bl_neg, bl_div, bl_32, bi_min, bi_max, bl_min, bl_max, bq_I, bq_J, bq_A, bq_Vi, bq_Vl, bq_Vr, bq_cV, bq_cI, bq_cJ, bq_cA, bq_le, bq_lt, bq_eq, bq_z, bq_o, bq_ref, bq_nz, bq_nzJ, bq_bl, bq_blz, bq_T, bq_F, if_true, if_false, Int.reduceEq, Int.reduceLT, Int.reduceLE, Int.reduceAdd, Int.reduceSub, Int.reduceMul, Int.add_sub_cancel, li_0, li_1, li_5, li_6, li_7, li_12, li_13, li_16, li_27, li_40, li_41, li_45, li_77, li_999, ll_0, ll_1, ll_5, ll_6, ll_7, ll_12, ll_13, ll_16, ll_27, ll_40, ll_41, ll_45, ll_77, q5_0, w5_0, q5_2, w5_2, q5_3, w5_3, q5_4, w5_4, q5_5, w5_5, q5_6, w5_6, q5_7, w5_7, q5_8, w5_8, q5_9, w5_9, q1_4, w1_4, q1_5, w1_5, q1_6, w1_6, q1_7, w1_7, q1_8, w1_8, q1_9, w1_9, q1_10, w1_10, q1_11, w1_11, q1_12, w1_12, qa_2, wa_2, qa_3, wa_3, qa_4, wa_4, bU_same, bU_ne, s_in]
        have e8 := e5 (fun r h => bk_den TX5_atom (bk_call d) 77 [.ref rd, .int (bk_i (-1)), bk_u] [.ref r] h)
        rw [z32] at e8
        simp (disch := first | assumption | omega) only [e1, e2, e3, e4, bi_add, bi_sub, bi_mul, bi_neg, bi_div, bi_64, bl_add, bl_sub, bl_mul, bl_neg, bl_div, bl_32, bi_min, bi_max, bl_min, bl_max, bq_I, bq_J, bq_A, bq_Vi, bq_Vl, bq_Vr, bq_cV, bq_cI, bq_cJ, bq_cA, bq_le, bq_lt, bq_eq, bq_z, bq_o, bq_ref, bq_nz, bq_nzJ, bq_bl, bq_blz, bq_T, bq_F, if_true, if_false, Int.reduceEq, Int.reduceLT, Int.reduceLE, Int.reduceAdd, Int.reduceSub, Int.reduceMul, Int.add_sub_cancel, li_0, li_1, li_5, li_6, li_7, li_12, li_13, li_16, li_27, li_40, li_41, li_45, li_77, li_999, ll_0, ll_1, ll_5, ll_6, ll_7, ll_12, ll_13, ll_16, ll_27, ll_40, ll_41, ll_45, ll_77, w5_0, q5_2, w5_2, q5_3, w5_3, q5_4, w5_4, q5_5, w5_5, w5_6, q5_7, w5_7, q5_8, w5_8, q5_9, w5_9, q1_4, w1_4, q1_5, w1_5, q1_6, w1_6, q1_7, w1_7, q1_8, w1_8, q1_9, w1_9, q1_10, w1_10, q1_11, w1_11, q1_12, w1_12, qa_2, wa_2, qa_3, wa_3, qa_4, wa_4, bU_same, bU_ne, s_in]
        rw [q5_0, bq_Vi]
        exact e8.trans e7
  by_cases c : goM b sz dp σ 4 = 0
  · have k1 := goM_0 ok c
    obtain ⟨σ2, cs1, st1, w1, C1, T1⟩ := hS (by omega) (goM b sz dp σ) go.1 (by omega)
    have m36 := mustM_st (kk := 36) st1.1
    have o2 := st1.2.1
    have o3 := m36.2.1
    refine ⟨mustM b sz 36 σ2, cs1, stepL_tr (stepL_tr go st1) m36, fun z => ⟨by omega, ?_⟩, ?_, ?_⟩
    · exact wfc_mono _ _ _ (w1 (m36.2.2.1 z)).2 _ (by omega)
    · intro κ cp cs0 cj Y g n rd F D hw hD
      unfold eN at hD
      obtain ⟨d, rfl⟩ := dep (show 1 ≤ D by omega)
      exact CC d 1 σ2 cs1 (oC_of C1 st1 go.1 (by decide) (by unfold eN; omega)) st1 (by omega) (by omega) κ cp cs0 cj Y g n rd F hw
    · intro κ X tp tj ts tk g n D hw hD
      unfold eN at hD
      obtain ⟨d, rfl⟩ := dep (show 1 ≤ D by omega)
      have n0 := hw.2.2.2.2.1
      have i23 := t_is (κ := κ) (X := X) (tp := tp) (tj := tj) (ts := ts) (tk := tk) (g := g) (n := n) (kk := 23) (D := d) hw.2.2.1 ok (by decide) (by decide) (by omega)
      rw [bz_f (fun w => by omega)] at i23
      have i35 := t_is (κ := κ) (X := X) (tp := tp) (tj := tj) (ts := ts) (tk := tk) (g := g) (n := n) (kk := 35) (D := d) hw.2.2.1 ok (by decide) (by decide) (by omega)
      rw [bz_t ⟨q4, q35⟩] at i35
      have l11 := hw.2.2.1.2.2.2.2.1
      have l9 := hw.2.2.1.2.2.1
      rw [q4] at l11
      have ew := t_wordOf (κ := κ) (X := X) (tp := tp) (tj := tj) (ts := ts) (tk := tk) (g := g) (n := n) (k := σ 2) (may := W - 6) (D := d) hw.2.2.2.1 (by omega) (by omega) ok.2.2.2.1.1 (by have := ok.2.2.2.1.2.2; omega) (by omega)
      rw [wn] at ew
      obtain ⟨ts1, f1, l1, e1⟩ := t_goesIn (κ := κ) (X := X) (tj := tj) (tk := tk) (n := n) (D := d) hw.1 hw.2.1 hw.2.2.1 ok d0 d6 (by omega)
      rw [bz_t c] at e1
      have p1 := tP_lx (s := 1) hw f1 l1 (by omega)
      have hw1 := tW_p hw p1 (by decide)
      obtain ⟨ts2, p2, e2⟩ := T1 κ X tp tj ts1 tk g n d hw1 (by unfold eN; omega)
      have hw2 := tW_p hw1 p2 (by decide)
      obtain ⟨ts3, f3, l3, e3⟩ := t_must (κ := κ) (X := X) (tj := tj) (tk := tk) (n := n) (kk := 36) (d := d) hw2.1 hw2.2.1 hw2.2.2.1 st1.1 li_36 (by decide) (by decide) (by omega)
      have p3 := tP_lx (s := 0) hw2 f3 l3 (by omega)
      refine ⟨ts3, ?_, ?_⟩
      · have := tP_le (s' := 0) (tP_tr n0 (tP_tr n0 p1 p2 st1.2.2.1) p3 m36.2.2.1) (by decide)
        simpa using this
      · rw [kX4_readAtom, eX4_readAtom_0]
        have e4 := e3 (fun h => some (none, h))
        rw [z32, li_36, show (2 : Int32) = bk_i 2 by decide] at e4
        simp (disch := first | assumption | omega) only [i23, l11, l9, ew, eX4_readAtom_66, i35, e1, e2, bi_add, bi_sub, bi_mul, bi_neg, bi_div, bi_64, bl_add, bl_sub, bl_mul, bl_neg, bl_div, bl_32, bi_min, bi_max, bl_min, bl_max, bq_I, bq_J, bq_A, bq_Vi, bq_Vl, bq_Vr, bq_cV, bq_cI, bq_cJ, bq_cA, bq_le, bq_lt, bq_eq, bq_z, bq_o, bq_ref, bq_nz, bq_nzJ, bq_bl, bq_blz, bq_T, bq_F, if_true, if_false, Int.reduceEq, Int.reduceLT, Int.reduceLE, Int.reduceAdd, Int.reduceSub, Int.reduceMul, Int.add_sub_cancel, li_0, li_1, li_2, li_4, li_9, li_10, li_11, li_12, li_23, li_35, li_36, li_66, li_1000, li_4005, li_4010, li_4011, li_4012, li_4020, li_4022, li_4023, li_4024, li_4025, li_4026, ll_0, ll_1, ll_2, ll_4, ll_9, ll_10, ll_11, ll_12, ll_23, ll_35, ll_36, ll_66, ga103, ga105, ga119, ga120, ga106, ga107, ga108, ga109, ga110, ga111, ga116, ga118, ga104, ga112, ga114, ga115, ga117, ga113, ga121, gf102_5, gf102_13, gf102_14, gf102_6, gf102_7, gf102_8, gf102_9, gf102_10, gf102_11, gf102_12, gf102_15, gf102_19, gf102_20, gr102_1, gr102_2, gr102_3, gr102_4, gr102_16, gr102_17, gr102_18, gr102_21, gr102_22, gr102_23, gr102_24, gr102_25, gr102_26, gr102_27, gr102_28, gr102_29, gr102_30, gr102_31, gr102_32, pa103, pa105, pa119, pa120, pa106, pa107, pa108, pa109, pa110, pa111, pa116, pa118, pa104, pa112, pa114, pa115, pa117, pa113, pa121, pf102_5, pf102_13, pf102_14, pf102_0, pf102_6, pf102_7, pf102_8, pf102_9, pf102_10, pf102_11, pf102_12, pf102_15, pf102_19, pf102_20, s_within, t_isLost, t_fallen, t_isHurt, t_between, t_isPassage, t_isRoom, t_standNow, t_standsAll, t_isIn, t_noComing, t_noStand, t_bitsOf, u_tens4109, t_draw]
        rw [gf102_0, bq_Vi]
        exact e4
  · refine ⟨goM b sz dp σ, [], go, fun z => absurd z c, ?_, ?_⟩
    · intro κ cp cs0 cj Y g n rd F D hw hD
      unfold eN at hD
      obtain ⟨d, rfl⟩ := dep (show 1 ≤ D by omega)
      have := CC d 0 (goM b sz dp σ) [] (oC_no c go.1) (stepL_rf go.1) (by omega) (by omega) κ cp cs0 cj Y g n rd F hw
      rw [mustM_s c] at this
      exact this
    · intro κ X tp tj ts tk g n D hw hD
      unfold eN at hD
      obtain ⟨d, rfl⟩ := dep (show 1 ≤ D by omega)
      have i23 := t_is (κ := κ) (X := X) (tp := tp) (tj := tj) (ts := ts) (tk := tk) (g := g) (n := n) (kk := 23) (D := d) hw.2.2.1 ok (by decide) (by decide) (by omega)
      rw [bz_f (fun w => by omega)] at i23
      have i35 := t_is (κ := κ) (X := X) (tp := tp) (tj := tj) (ts := ts) (tk := tk) (g := g) (n := n) (kk := 35) (D := d) hw.2.2.1 ok (by decide) (by decide) (by omega)
      rw [bz_t ⟨q4, q35⟩] at i35
      have l11 := hw.2.2.1.2.2.2.2.1
      have l9 := hw.2.2.1.2.2.1
      rw [q4] at l11
      have ew := t_wordOf (κ := κ) (X := X) (tp := tp) (tj := tj) (ts := ts) (tk := tk) (g := g) (n := n) (k := σ 2) (may := W - 6) (D := d) hw.2.2.2.1 (by omega) (by omega) ok.2.2.2.1.1 (by have := ok.2.2.2.1.2.2; omega) (by omega)
      rw [wn] at ew
      obtain ⟨ts1, f1, l1, e1⟩ := t_goesIn (κ := κ) (X := X) (tj := tj) (tk := tk) (n := n) (D := d) hw.1 hw.2.1 hw.2.2.1 ok d0 d6 (by omega)
      rw [bz_f c] at e1
      refine ⟨ts1, tP_lx (s := 0) hw f1 l1 (by omega), ?_⟩
      rw [kX4_readAtom, eX4_readAtom_0]
      simp (disch := first | assumption | omega) only [i23, l11, l9, ew, eX4_readAtom_66, i35, e1, bi_add, bi_sub, bi_mul, bi_neg, bi_div, bi_64, bl_add, bl_sub, bl_mul, bl_neg, bl_div, bl_32, bi_min, bi_max, bl_min, bl_max, bq_I, bq_J, bq_A, bq_Vi, bq_Vl, bq_Vr, bq_cV, bq_cI, bq_cJ, bq_cA, bq_le, bq_lt, bq_eq, bq_z, bq_o, bq_ref, bq_nz, bq_nzJ, bq_bl, bq_blz, bq_T, bq_F, if_true, if_false, Int.reduceEq, Int.reduceLT, Int.reduceLE, Int.reduceAdd, Int.reduceSub, Int.reduceMul, Int.add_sub_cancel, li_0, li_1, li_2, li_4, li_9, li_10, li_11, li_12, li_23, li_35, li_36, li_66, li_1000, li_4005, li_4010, li_4011, li_4012, li_4020, li_4022, li_4023, li_4024, li_4025, li_4026, ll_0, ll_1, ll_2, ll_4, ll_9, ll_10, ll_11, ll_12, ll_23, ll_35, ll_36, ll_66, ga103, ga105, ga119, ga120, ga106, ga107, ga108, ga109, ga110, ga111, ga116, ga118, ga104, ga112, ga114, ga115, ga117, ga113, ga121, gf102_5, gf102_13, gf102_14, gf102_0, gf102_6, gf102_7, gf102_8, gf102_9, gf102_10, gf102_11, gf102_12, gf102_15, gf102_19, gf102_20, gr102_1, gr102_2, gr102_3, gr102_4, gr102_16, gr102_17, gr102_18, gr102_21, gr102_22, gr102_23, gr102_24, gr102_25, gr102_26, gr102_27, gr102_28, gr102_29, gr102_30, gr102_31, gr102_32, pa103, pa105, pa119, pa120, pa106, pa107, pa108, pa109, pa110, pa111, pa116, pa118, pa104, pa112, pa114, pa115, pa117, pa113, pa121, pf102_5, pf102_13, pf102_14, pf102_0, pf102_6, pf102_7, pf102_8, pf102_9, pf102_10, pf102_11, pf102_12, pf102_15, pf102_19, pf102_20, s_within, t_isLost, t_fallen, t_isHurt, t_between, t_isPassage, t_isRoom, t_standNow, t_standsAll, t_isIn, t_noComing, t_noStand, t_bitsOf, u_tens4109, t_draw]
theorem sim_atom (ok : okL b sz σ) (hW : W = 6 ∨ W = 7) (d0 : 0 ≤ dp) (d6 : dp ≤ 6) (hT : dp < 6 → ∀ σ', okL b sz σ' → σ 0 < σ' 0 → SIM b sz W (dp + 1) 5024 4027 true 7 3 σ') (hS : dp < 6 → ∀ σ', okL b sz σ' → σ 0 < σ' 0 → SIM b sz W (dp + 1) 5019 4020 false 4 1 σ') : SIM b sz W dp 5021 4022 false 2 1 σ := by
  by_cases n12 : σ 4 = 0 ∧ σ 2 = 12
  · obtain ⟨σ', cs, st, w, C, T⟩ := sim_asks ok d0 d6 n12.1 n12.2 hT hS
    refine ⟨σ', cs, st, w, ?_, ?_⟩
    · intro κ cp cs0 cj Y g n rd F D hw hD
      unfold eN at hD
      obtain ⟨d, rfl⟩ := dep (show 1 ≤ D by omega)
      obtain ⟨F', g', n', x, p, t, e⟩ := C κ cp cs0 cj Y g n rd F d hw (by unfold eN; omega)
      have e1 := q_is (κ := κ) (cs := cs0) (cj := cj) (Y := Y) (D := d) hw.1 hw.2.1 hw.2.2.1 ok kO14 (show 16 = 2 + 14 from rfl) (by omega)
      rw [bz_t n12] at e1
      refine ⟨F', g', n', x, p, t, ?_⟩
      rw [kX5_atom, eX5_atom_0]
      simp (disch := first | assumption | omega) only [e1, e, bi_add, bi_sub, bi_mul, bi_neg, bi_div, bi_64, bl_add, bl_sub, bl_mul, bl_neg, bl_div, bl_32, bi_min, bi_max, bl_min, bl_max, bq_I, bq_J, bq_A, bq_Vi, bq_Vl, bq_Vr, bq_cV, bq_cI, bq_cJ, bq_cA, bq_le, bq_lt, bq_eq, bq_z, bq_o, bq_ref, bq_nz, bq_nzJ, bq_bl, bq_blz, bq_T, bq_F, if_true, if_false, Int.reduceEq, Int.reduceLT, Int.reduceLE, Int.reduceAdd, Int.reduceSub, Int.reduceMul, Int.add_sub_cancel, li_0, li_1, li_5, li_6, li_7, li_12, li_13, li_16, li_27, li_40, li_41, li_45, li_77, li_999, ll_0, ll_1, ll_5, ll_6, ll_7, ll_12, ll_13, ll_16, ll_27, ll_40, ll_41, ll_45, ll_77, q5_0, w5_0, q5_2, w5_2, q5_3, w5_3, q5_4, w5_4, q5_5, w5_5, q5_6, w5_6, q5_7, w5_7, q5_8, w5_8, q5_9, w5_9, q1_4, w1_4, q1_5, w1_5, q1_6, w1_6, q1_7, w1_7, q1_8, w1_8, q1_9, w1_9, q1_10, w1_10, q1_11, w1_11, q1_12, w1_12, qa_2, wa_2, qa_3, wa_3, qa_4, wa_4, bU_same, bU_ne, s_in]
    · intro κ X tp tj ts tk g n D hw hD
      unfold eN at hD
      obtain ⟨d, rfl⟩ := dep (show 1 ≤ D by omega)
      obtain ⟨ts', p, e⟩ := T κ X tp tj ts tk g n d hw (by unfold eN; omega)
      have i23 := t_is (κ := κ) (X := X) (tp := tp) (tj := tj) (ts := ts) (tk := tk) (g := g) (n := n) (kk := 23) (D := d) hw.2.2.1 ok (by decide) (by decide) (by omega)
      rw [bz_f (fun w => by omega)] at i23
      have i35 := t_is (κ := κ) (X := X) (tp := tp) (tj := tj) (ts := ts) (tk := tk) (g := g) (n := n) (kk := 35) (D := d) hw.2.2.1 ok (by decide) (by decide) (by omega)
      rw [bz_f (fun w => by omega)] at i35
      have i12 := t_is (κ := κ) (X := X) (tp := tp) (tj := tj) (ts := ts) (tk := tk) (g := g) (n := n) (kk := 12) (D := d) hw.2.2.1 ok (by decide) (by decide) (by omega)
      rw [bz_t n12] at i12
      have l11 := hw.2.2.1.2.2.2.2.1
      have l9 := hw.2.2.1.2.2.1
      rw [n12.1] at l11
      have wn : wdM (σ 2) (W - 6) = -1 := by
        rw [n12.2]; unfold wdM
        rw [if_neg (by decide), if_neg (by decide), if_neg (by decide), if_neg (by decide), if_neg (by decide), if_neg (by decide), if_neg (fun t => absurd t.1 (by decide))]
      have ew := t_wordOf (κ := κ) (X := X) (tp := tp) (tj := tj) (ts := ts) (tk := tk) (g := g) (n := n) (k := σ 2) (may := W - 6) (D := d) hw.2.2.2.1 (by omega) (by omega) ok.2.2.2.1.1 (by have := ok.2.2.2.1.2.2; omega) (by omega)
      rw [wn] at ew
      refine ⟨ts', p, ?_⟩
      rw [kX4_readAtom, eX4_readAtom_0]
      simp (disch := first | assumption | omega) only [i23, l11, l9, ew, eX4_readAtom_66, i35, i12, e, bi_add, bi_sub, bi_mul, bi_neg, bi_div, bi_64, bl_add, bl_sub, bl_mul, bl_neg, bl_div, bl_32, bi_min, bi_max, bl_min, bl_max, bq_I, bq_J, bq_A, bq_Vi, bq_Vl, bq_Vr, bq_cV, bq_cI, bq_cJ, bq_cA, bq_le, bq_lt, bq_eq, bq_z, bq_o, bq_ref, bq_nz, bq_nzJ, bq_bl, bq_blz, bq_T, bq_F, if_true, if_false, Int.reduceEq, Int.reduceLT, Int.reduceLE, Int.reduceAdd, Int.reduceSub, Int.reduceMul, Int.add_sub_cancel, li_0, li_1, li_2, li_4, li_9, li_10, li_11, li_12, li_23, li_35, li_36, li_66, li_1000, li_4005, li_4010, li_4011, li_4012, li_4020, li_4022, li_4023, li_4024, li_4025, li_4026, ll_0, ll_1, ll_2, ll_4, ll_9, ll_10, ll_11, ll_12, ll_23, ll_35, ll_36, ll_66, ga103, ga105, ga119, ga120, ga106, ga107, ga108, ga109, ga110, ga111, ga116, ga118, ga104, ga112, ga114, ga115, ga117, ga113, ga121, gf102_5, gf102_13, gf102_14, gf102_0, gf102_6, gf102_7, gf102_8, gf102_9, gf102_10, gf102_11, gf102_12, gf102_15, gf102_19, gf102_20, gr102_1, gr102_2, gr102_3, gr102_4, gr102_16, gr102_17, gr102_18, gr102_21, gr102_22, gr102_23, gr102_24, gr102_25, gr102_26, gr102_27, gr102_28, gr102_29, gr102_30, gr102_31, gr102_32, pa103, pa105, pa119, pa120, pa106, pa107, pa108, pa109, pa110, pa111, pa116, pa118, pa104, pa112, pa114, pa115, pa117, pa113, pa121, pf102_5, pf102_13, pf102_14, pf102_0, pf102_6, pf102_7, pf102_8, pf102_9, pf102_10, pf102_11, pf102_12, pf102_15, pf102_19, pf102_20, s_within, t_isLost, t_fallen, t_isHurt, t_between, t_isPassage, t_isRoom, t_standNow, t_standsAll, t_isIn, t_noComing, t_noStand, t_bitsOf, u_tens4109, t_draw]
  · by_cases yw : σ 4 = 0 ∧ wdM (σ 2) (W - 6) ≠ -1
    · exact sim_known ok hW yw.1 yw.2 d0 d6
    · by_cases q35 : σ 4 = 0 ∧ σ 2 = 35
      · exact sim_paren ok hW q35.1 q35.2 d0 d6 hS
      · exact sim_plain ok hW n12 yw q35 d0 d6
end AT
