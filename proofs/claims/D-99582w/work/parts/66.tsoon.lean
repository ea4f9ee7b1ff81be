/-! SPECS: the twin: soonest, way, least -/
set_option maxRecDepth 100000
section TS
variable {κ : Nat → Nat} {X : bX} {Y : bY} {tp ts : bF} {tj tk : bFJ} {g : bG} {n : Nat × Nat} {s p v r hu i : Int} {D : Nat} {N : Int → Int → Int}
theorem bTt_st (h : bTt g (tp 103)) : 0 ≤ 6 * tp 103 42 + tp 103 43 ∧ 6 * tp 103 42 + tp 103 43 < 6 * tp 103 1 ∧ tp 103 1 ≤ 6 ∧ 1 ≤ tp 103 1 ∧ 0 ≤ tp 103 2 ∧ tp 103 2 ≤ 8 ∧ 0 ≤ tp 103 43 ∧ tp 103 43 ≤ 5 ∧ 0 ≤ tp 103 42 ∧ tp 103 42 < tp 103 1 ∧ 0 ≤ tp 103 44 ∧ tp 103 44 < 256 ∧ 0 ≤ tp 103 45 ∧ tp 103 45 ≤ 9 := by
  obtain ⟨hF, hw, hs⟩ := h
  have w1 := hw.1
  have w2 := hw.2.1
  have w3 := hw.2.2.1
  have w4 := hw.2.2.2.1
  simp only [Int.zero_add] at w1 w2 w3 w4
  obtain ⟨a1, a2, a3, a4, a5, a6, a7, a8⟩ := hs
  simp only [show (42 : Int) + 1 = 43 from rfl, show (42 : Int) + 2 = 44 from rfl, show (42 : Int) + 3 = 45 from rfl] at a3 a4 a5 a6 a7 a8
  omega
theorem t_noComing (hF : bFix g) (hw1 : 1 ≤ tp 103 1) (hw2 : tp 103 1 ≤ 6) (h1 : -2147483648 ≤ r) (h2 : r < 2147483648) (h3 : -2147483648 ≤ hu) (h4 : hu < 2147483648) (hD : 3 ≤ D) :
    bk_call D 4066 [.ref 102, .int (bk_i r), .int (bk_i hu)] (bk_M κ X (tp, tj, ts, tk) g n) = some (some (.int (bk_i (fS (tp 103) r hu 4))), bk_M κ X (tp, tj, ts, tk) g n) := by
  obtain ⟨d, rfl⟩ := dep hD
  unfold fS
  rw [kX4_noComing, eX4_noComing_0]
  simp (disch := first | assumption | omega) only [bi_add, bi_sub, bi_mul, bi_neg, bi_div, bi_64, bl_add, bl_sub, bl_mul, bl_neg, bl_div, bl_32, bi_min, bi_max, bl_min, bl_max, bq_I, bq_J, bq_A, bq_Vi, bq_Vl, bq_Vr, bq_cV, bq_cI, bq_cJ, bq_cA, bq_le, bq_lt, bq_eq, bq_z, bq_o, bq_ref, bq_nz, bq_nzJ, bq_bl, bq_blz, bq_T, bq_F, if_true, if_false, Int.reduceEq, Int.reduceLT, Int.reduceLE, Int.reduceAdd, Int.reduceSub, Int.reduceMul, Int.add_sub_cancel, li_0, li_1, li_2, li_3, li_4, li_4004, li_4051, li_4066, ll_0, ll_1, ll_2, ll_3, ll_4, ga103, ga105, ga119, ga120, ga106, ga107, ga108, ga109, ga110, ga111, ga116, ga118, ga104, ga112, ga114, ga115, ga117, ga113, ga121, gf102_5, gf102_13, gf102_14, gf102_0, gf102_6, gf102_7, gf102_8, gf102_9, gf102_10, gf102_11, gf102_12, gf102_15, gf102_19, gf102_20, gr102_1, gr102_2, gr102_3, gr102_4, gr102_16, gr102_17, gr102_18, gr102_21, gr102_22, gr102_23, gr102_24, gr102_25, gr102_26, gr102_27, gr102_28, gr102_29, gr102_30, gr102_31, gr102_32, pa103, pa105, pa119, pa120, pa106, pa107, pa108, pa109, pa110, pa111, pa116, pa118, pa104, pa112, pa114, pa115, pa117, pa113, pa121, pf102_5, pf102_13, pf102_14, pf102_0, pf102_6, pf102_7, pf102_8, pf102_9, pf102_10, pf102_11, pf102_12, pf102_15, pf102_19, pf102_20, s_within, t_isLost, t_fallen, t_isHurt, t_between, t_isPassage, t_isRoom, t_standNow, t_standsAll, t_isIn]
  by_cases q : 0 ≤ r ∧ r ≤ tp 103 1 - 1
  · rw [if_pos q, if_pos q]
    by_cases q2 : 0 ≤ hu ∧ hu ≤ 4
    · rw [if_pos q2, if_pos q2]
    · rw [if_neg q2, if_neg q2]
  · rw [if_neg q, if_neg q]
theorem t_noStand (hF : bFix g) (hw1 : 1 ≤ tp 103 1) (hw2 : tp 103 1 ≤ 6) (h1 : -2147483648 ≤ r) (h2 : r < 2147483648) (h3 : -2147483648 ≤ hu) (h4 : hu < 2147483648) (hD : 3 ≤ D) :
    bk_call D 4079 [.ref 102, .int (bk_i r), .int (bk_i hu)] (bk_M κ X (tp, tj, ts, tk) g n) = some (some (.int (bk_i (fS (tp 103) r hu 5))), bk_M κ X (tp, tj, ts, tk) g n) := by
  obtain ⟨d, rfl⟩ := dep hD
  unfold fS
  rw [kX4_noStand, eX4_noStand_0]
  simp (disch := first | assumption | omega) only [bi_add, bi_sub, bi_mul, bi_neg, bi_div, bi_64, bl_add, bl_sub, bl_mul, bl_neg, bl_div, bl_32, bi_min, bi_max, bl_min, bl_max, bq_I, bq_J, bq_A, bq_Vi, bq_Vl, bq_Vr, bq_cV, bq_cI, bq_cJ, bq_cA, bq_le, bq_lt, bq_eq, bq_z, bq_o, bq_ref, bq_nz, bq_nzJ, bq_bl, bq_blz, bq_T, bq_F, if_true, if_false, Int.reduceEq, Int.reduceLT, Int.reduceLE, Int.reduceAdd, Int.reduceSub, Int.reduceMul, Int.add_sub_cancel, li_0, li_1, li_2, li_3, li_4, li_4051, li_4052, li_4079, ll_0, ll_1, ll_2, ll_3, ll_4, ga103, ga105, ga119, ga120, ga106, ga107, ga108, ga109, ga110, ga111, ga116, ga118, ga104, ga112, ga114, ga115, ga117, ga113, ga121, gf102_5, gf102_13, gf102_14, gf102_0, gf102_6, gf102_7, gf102_8, gf102_9, gf102_10, gf102_11, gf102_12, gf102_15, gf102_19, gf102_20, gr102_1, gr102_2, gr102_3, gr102_4, gr102_16, gr102_17, gr102_18, gr102_21, gr102_22, gr102_23, gr102_24, gr102_25, gr102_26, gr102_27, gr102_28, gr102_29, gr102_30, gr102_31, gr102_32, pa103, pa105, pa119, pa120, pa106, pa107, pa108, pa109, pa110, pa111, pa116, pa118, pa104, pa112, pa114, pa115, pa117, pa113, pa121, pf102_5, pf102_13, pf102_14, pf102_0, pf102_6, pf102_7, pf102_8, pf102_9, pf102_10, pf102_11, pf102_12, pf102_15, pf102_19, pf102_20, s_within, t_isLost, t_fallen, t_isHurt, t_between, t_isPassage, t_isRoom, t_standNow, t_standsAll, t_isIn]
  by_cases q : 0 ≤ r ∧ r ≤ tp 103 1 - 1
  · rw [if_pos q, if_pos q]
    by_cases q2 : 0 ≤ hu ∧ hu ≤ 5
    · rw [if_pos q2, if_pos q2]
    · rw [if_neg q2, if_neg q2]
  · rw [if_neg q, if_neg q]
theorem t_laysComing (h : bTt g (tp 103)) {rop : Int} (h1 : -2147483648 ≤ r) (h2 : r < 2147483648) (h3 : -2147483648 ≤ hu) (h4 : hu < 2147483648) (h7 : 0 ≤ rop) (h8 : rop < 256) (hD : 7 ≤ D) :
    ∃ ts', (∀ s p, 0 ≤ s → s < 6 * tp 103 1 → 0 ≤ p → p < 8 → ts' 110 (8 * s + p) = nxt (tp 103) rop s p) ∧ isD (nxt (tp 103) rop) (6 * tp 103 1) (Zc r hu) 268435456 (ts' 111)
      ∧ bk_call D 4067 [.ref 102, .int (bk_i r), .int (bk_i hu), .int (bk_i rop)] (bk_M κ X (tp, tj, ts, tk) g n) = some (some (.int (bk_i (ts' 111 (6 * tp 103 42 + tp 103 43)))), bk_M κ X (tp, tj, ts', tk) g n) := by
  obtain ⟨d, rfl⟩ := dep hD
  have st := bTt_st h
  obtain ⟨hF, hw, hs⟩ := h
  have hN := nxt_N hw rop (Int.le_refl (6 * tp 103 1))
  obtain ⟨ts1, f1, v1, e1⟩ := t_laysThen (κ := κ) (X := X) (tp := tp) (ts := ts) (tj := tj) (tk := tk) (n := n) (rop := rop) (D := d) hF hw (by omega) (by omega) h7 h8 (by omega)
  have goal : bk_wp (bk_call (d + 1) 4067 [.ref 102, .int (bk_i r), .int (bk_i hu), .int (bk_i rop)] (bk_M κ X (tp, tj, ts, tk) g n)) (fun v h' => ∃ ts', v = some (.int (bk_i (ts' 111 (6 * tp 103 42 + tp 103 43)))) ∧ h' = bk_M κ X (tp, tj, ts', tk) g n ∧ (∀ s p, 0 ≤ s → s < 6 * tp 103 1 → 0 ≤ p → p < 8 → ts' 110 (8 * s + p) = nxt (tp 103) rop s p) ∧ isD (nxt (tp 103) rop) (6 * tp 103 1) (Zc r hu) 268435456 (ts' 111)) := by
    rw [kX4_laysComing, eX4_laysComing_0]
    simp (disch := first | assumption | omega) only [e1, bi_add, bi_sub, bi_mul, bi_neg, bi_div, bi_64, bl_add, bl_sub, bl_mul, bl_neg, bl_div, bl_32, bi_min, bi_max, bl_min, bl_max, bq_I, bq_J, bq_A, bq_Vi, bq_Vl, bq_Vr, bq_cV, bq_cI, bq_cJ, bq_cA, bq_le, bq_lt, bq_eq, bq_z, bq_o, bq_ref, bq_nz, bq_nzJ, bq_bl, bq_blz, bq_T, bq_F, if_true, if_false, Int.reduceEq, Int.reduceLT, Int.reduceLE, Int.reduceAdd, Int.reduceSub, Int.reduceMul, Int.add_sub_cancel, li_0, li_1, li_4, li_6, li_8, li_22, li_45, li_48, li_100, li_4035, li_4067, li_4068, li_4069, li_4070, li_268435456, ll_0, ll_1, ll_4, ll_6, ll_8, ll_22, ll_45, ll_48, ll_100, ga103, ga105, ga119, ga120, ga106, ga107, ga108, ga109, ga110, ga111, ga116, ga118, ga104, ga112, ga114, ga115, ga117, ga113, ga121, gf102_5, gf102_13, gf102_14, gf102_0, gf102_6, gf102_7, gf102_8, gf102_9, gf102_10, gf102_11, gf102_12, gf102_15, gf102_19, gf102_20, gr102_1, gr102_2, gr102_3, gr102_4, gr102_16, gr102_17, gr102_18, gr102_21, gr102_22, gr102_23, gr102_24, gr102_25, gr102_26, gr102_27, gr102_28, gr102_29, gr102_30, gr102_31, gr102_32, pa103, pa105, pa119, pa120, pa106, pa107, pa108, pa109, pa110, pa111, pa116, pa118, pa104, pa112, pa114, pa115, pa117, pa113, pa121, pf102_5, pf102_13, pf102_14, pf102_0, pf102_6, pf102_7, pf102_8, pf102_9, pf102_10, pf102_11, pf102_12, pf102_15, pf102_19, pf102_20, s_within, t_isLost, t_fallen, t_isHurt, t_between, t_isPassage, t_isRoom, t_standNow, t_standsAll, t_isIn, t_noComing, t_noStand]
    refine bk_loop (σ := bF) (fun s x => bk_den TX4_laysComing (bk_call d) 8 [.ref 102, .int (bk_i r), .int (bk_i hu), .int (bk_i rop), .int (bk_i s)] [] (bk_M κ X (tp, tj, x, tk) g n))
      (fun s x => 0 ≤ s ∧ (∀ a, a ≠ 111 → x a = ts1 a) ∧ ∀ t, 0 ≤ t → t < s → x 111 t = if t / 6 = r ∧ t % 6 ≤ hu then 0 else 268435456) (6 * tp 103 1) ?_ ?_ 0 ts1 (by omega) ⟨by omega, fun _ _ => rfl, fun t _ _ => by omega⟩
    · rintro s ts2 hs ⟨s0, fr, vl⟩ cont
      have sm : s - s / 6 * 6 = s % 6 := by omega
      rw [eX4_laysComing_8]
      simp (disch := first | assumption | omega) only [if_neg (show ¬ 6 * tp 103 1 ≤ s by omega), eX4_laysComing_45, eX4_laysComing_48, sm, bi_add, bi_sub, bi_mul, bi_neg, bi_div, bi_64, bl_add, bl_sub, bl_mul, bl_neg, bl_div, bl_32, bi_min, bi_max, bl_min, bl_max, bq_I, bq_J, bq_A, bq_Vi, bq_Vl, bq_Vr, bq_cV, bq_cI, bq_cJ, bq_cA, bq_le, bq_lt, bq_eq, bq_z, bq_o, bq_ref, bq_nz, bq_nzJ, bq_bl, bq_blz, bq_T, bq_F, if_true, if_false, Int.reduceEq, Int.reduceLT, Int.reduceLE, Int.reduceAdd, Int.reduceSub, Int.reduceMul, Int.add_sub_cancel, li_0, li_1, li_4, li_6, li_8, li_22, li_45, li_48, li_100, li_4035, li_4067, li_4068, li_4069, li_4070, li_268435456, ll_0, ll_1, ll_4, ll_6, ll_8, ll_22, ll_45, ll_48, ll_100, ga103, ga105, ga119, ga120, ga106, ga107, ga108, ga109, ga110, ga111, ga116, ga118, ga104, ga112, ga114, ga115, ga117, ga113, ga121, gf102_5, gf102_13, gf102_14, gf102_0, gf102_6, gf102_7, gf102_8, gf102_9, gf102_10, gf102_11, gf102_12, gf102_15, gf102_19, gf102_20, gr102_1, gr102_2, gr102_3, gr102_4, gr102_16, gr102_17, gr102_18, gr102_21, gr102_22, gr102_23, gr102_24, gr102_25, gr102_26, gr102_27, gr102_28, gr102_29, gr102_30, gr102_31, gr102_32, pa103, pa105, pa119, pa120, pa106, pa107, pa108, pa109, pa110, pa111, pa116, pa118, pa104, pa112, pa114, pa115, pa117, pa113, pa121, pf102_5, pf102_13, pf102_14, pf102_0, pf102_6, pf102_7, pf102_8, pf102_9, pf102_10, pf102_11, pf102_12, pf102_15, pf102_19, pf102_20, s_within, t_isLost, t_fallen, t_isHurt, t_between, t_isPassage, t_isRoom, t_standNow, t_standsAll, t_isIn, t_noComing, t_noStand]
      have fin : ∀ val, (val = if s / 6 = r ∧ s % 6 ≤ hu then 0 else 268435456) → bk_wp (bk_den TX4_laysComing (bk_call d) 8 [.ref 102, .int (bk_i r), .int (bk_i hu), .int (bk_i rop), .int (bk_i (s + 1))] [] (bk_M κ X (tp, tj, bU ts2 111 s val, tk) g n)) (fun v h' => ∃ ts', v = some (.int (bk_i (ts' 111 (6 * tp 103 42 + tp 103 43)))) ∧ h' = bk_M κ X (tp, tj, ts', tk) g n ∧ (∀ s p, 0 ≤ s → s < 6 * tp 103 1 → 0 ≤ p → p < 8 → ts' 110 (8 * s + p) = nxt (tp 103) rop s p) ∧ isD (nxt (tp 103) rop) (6 * tp 103 1) (Zc r hu) 268435456 (ts' 111)) := by
        intro val hv
        refine cont (bU ts2 111 s val) ⟨by omega, fun a ha => ?_, fun t t0 t1 => ?_⟩
        · funext j; rw [bU_ne _ _ _ _ _ _ ha, fr a ha]
        · rw [bU_same]
          by_cases c : t = s
          · subst c; rw [if_pos rfl]; exact hv
          · rw [if_neg c]; exact vl t t0 (by omega)
      by_cases q : s / 6 = r
      · rw [if_pos q]
        by_cases q2 : hu < s % 6
        · rw [if_pos q2]; exact fin _ (by rw [if_neg (by omega)])
        · rw [if_neg q2]; exact fin _ (by rw [if_pos ⟨q, by omega⟩])
      · rw [if_neg q]; exact fin _ (by rw [if_neg (by omega)])
    · rintro ts2 ⟨s0, fr, vl⟩
      have I0 : dInv (nxt (tp 103) rop) (6 * tp 103 1) (Zc r hu) 268435456 (ts2 111) := by
        refine ⟨fun t t0 t1 => ?_, fun t t0 t1 z => ?_, fun t t0 t1 z => ?_⟩
        · rw [vl t t0 t1]; split <;> omega
        · rw [vl t t0 t1]; exact if_pos z
        · left; rw [vl t t0 t1]; exact if_neg z
      have v2 : ∀ s p, 0 ≤ s → s < 6 * tp 103 1 → 0 ≤ p → p < 8 → ts2 110 (8 * s + p) = nxt (tp 103) rop s p := fun s p a1 a2 a3 a4 => by rw [fr 110 (by decide)]; exact v1 s p a1 a2 a3 a4
      obtain ⟨ts3, f3, i3, e3⟩ := t_laysFar (κ := κ) (X := X) (tp := tp) (ts := ts2) (tj := tj) (tk := tk) (n := n) (D := d) (N := nxt (tp 103) rop) (Z := Zc r hu) hF rfl (by omega) (by omega) v2 hN I0 (by omega)
      have b := i3.1.1 (6 * tp 103 42 + tp 103 43) (by omega) (by omega)
      rw [eX4_laysComing_8]
      simp (disch := first | assumption | omega) only [if_pos (Int.le_refl (6 * tp 103 1)), e3, bi_add, bi_sub, bi_mul, bi_neg, bi_div, bi_64, bl_add, bl_sub, bl_mul, bl_neg, bl_div, bl_32, bi_min, bi_max, bl_min, bl_max, bq_I, bq_J, bq_A, bq_Vi, bq_Vl, bq_Vr, bq_cV, bq_cI, bq_cJ, bq_cA, bq_le, bq_lt, bq_eq, bq_z, bq_o, bq_ref, bq_nz, bq_nzJ, bq_bl, bq_blz, bq_T, bq_F, if_true, if_false, Int.reduceEq, Int.reduceLT, Int.reduceLE, Int.reduceAdd, Int.reduceSub, Int.reduceMul, Int.add_sub_cancel, li_0, li_1, li_4, li_6, li_8, li_22, li_45, li_48, li_100, li_4035, li_4067, li_4068, li_4069, li_4070, li_268435456, ll_0, ll_1, ll_4, ll_6, ll_8, ll_22, ll_45, ll_48, ll_100, ga103, ga105, ga119, ga120, ga106, ga107, ga108, ga109, ga110, ga111, ga116, ga118, ga104, ga112, ga114, ga115, ga117, ga113, ga121, gf102_5, gf102_13, gf102_14, gf102_0, gf102_6, gf102_7, gf102_8, gf102_9, gf102_10, gf102_11, gf102_12, gf102_15, gf102_19, gf102_20, gr102_1, gr102_2, gr102_3, gr102_4, gr102_16, gr102_17, gr102_18, gr102_21, gr102_22, gr102_23, gr102_24, gr102_25, gr102_26, gr102_27, gr102_28, gr102_29, gr102_30, gr102_31, gr102_32, pa103, pa105, pa119, pa120, pa106, pa107, pa108, pa109, pa110, pa111, pa116, pa118, pa104, pa112, pa114, pa115, pa117, pa113, pa121, pf102_5, pf102_13, pf102_14, pf102_0, pf102_6, pf102_7, pf102_8, pf102_9, pf102_10, pf102_11, pf102_12, pf102_15, pf102_19, pf102_20, s_within, t_isLost, t_fallen, t_isHurt, t_between, t_isPassage, t_isRoom, t_standNow, t_standsAll, t_isIn, t_noComing, t_noStand]
      exact ⟨_, _, rfl, ts3, rfl, rfl, fun s p a1 a2 a3 a4 => by rw [f3 110 (by decide)]; exact v2 s p a1 a2 a3 a4, i3⟩
  obtain ⟨z, h', e, ts', rfl, rfl, h1, h2⟩ := goal
  exact ⟨ts', h1, h2, e⟩
theorem m_soonest (h : bTt g (tp 103)) (h3 : -2147483648 ≤ r) (h4 : r < 2147483648) (h5 : -2147483648 ≤ hu) (h6 : hu < 2147483648) (hD : 9 ≤ D) :
    bk_wp (bk_call D 4065 [.ref 102, .int (bk_i r), .int (bk_i hu)] (bk_M κ X (tp, tj, ts, tk) g n)) (bTq κ X tp tj g n (rSoon (tp 103) r hu)) := by
  obtain ⟨d, rfl⟩ := dep hD
  have st := bTt_st h
  have fr := fS_rng (tp 103) r hu 4
  obtain ⟨ts1, v1, i1, e1⟩ := t_laysComing (κ := κ) (X := X) (ts := bU ts 102 0 0) (tj := tj) (tk := tk) (n := n) (rop := tp 103 44) (D := d) h h3 h4 h5 h6 (by omega) (by omega) (by omega)
  have b := i1.1.1 (6 * tp 103 42 + tp 103 43) (by omega) (by omega)
  obtain ⟨hF, hw, hs⟩ := h
  rw [kX4_soonest, eX4_soonest_0]
  simp (disch := first | assumption | omega) only [e1, bi_add, bi_sub, bi_mul, bi_neg, bi_div, bi_64, bl_add, bl_sub, bl_mul, bl_neg, bl_div, bl_32, bi_min, bi_max, bl_min, bl_max, bq_I, bq_J, bq_A, bq_Vi, bq_Vl, bq_Vr, bq_cV, bq_cI, bq_cJ, bq_cA, bq_le, bq_lt, bq_eq, bq_z, bq_o, bq_ref, bq_nz, bq_nzJ, bq_bl, bq_blz, bq_T, bq_F, if_true, if_false, Int.reduceEq, Int.reduceLT, Int.reduceLE, Int.reduceAdd, Int.reduceSub, Int.reduceMul, Int.add_sub_cancel, li_0, li_1, li_4, li_44, li_100, li_4065, li_4066, li_4067, li_268435456, ll_0, ll_1, ll_4, ll_44, ll_100, ga103, ga105, ga119, ga120, ga106, ga107, ga108, ga109, ga110, ga111, ga116, ga118, ga104, ga112, ga114, ga115, ga117, ga113, ga121, gf102_5, gf102_13, gf102_14, gf102_0, gf102_6, gf102_7, gf102_8, gf102_9, gf102_10, gf102_11, gf102_12, gf102_15, gf102_19, gf102_20, gr102_1, gr102_2, gr102_3, gr102_4, gr102_16, gr102_17, gr102_18, gr102_21, gr102_22, gr102_23, gr102_24, gr102_25, gr102_26, gr102_27, gr102_28, gr102_29, gr102_30, gr102_31, gr102_32, pa103, pa105, pa119, pa120, pa106, pa107, pa108, pa109, pa110, pa111, pa116, pa118, pa104, pa112, pa114, pa115, pa117, pa113, pa121, pf102_5, pf102_13, pf102_14, pf102_0, pf102_6, pf102_7, pf102_8, pf102_9, pf102_10, pf102_11, pf102_12, pf102_15, pf102_19, pf102_20, s_within, t_isLost, t_fallen, t_isHurt, t_between, t_isPassage, t_isRoom, t_standNow, t_standsAll, t_isIn, t_noComing, t_noStand]
  by_cases q : fS (tp 103) r hu 4 = 0
  · rw [if_pos q]
    by_cases q2 : ts1 111 (6 * tp 103 42 + tp 103 43) = 268435456
    · rw [if_pos q2]
      exact ⟨_, _, rfl, ts1, tk, _, rfl, rfl, Or.inr ⟨q, _, _, by decide, i1, by rw [if_neg (by omega)]⟩⟩
    · rw [if_neg q2]
      exact ⟨_, _, rfl, ts1, tk, _, rfl, rfl, Or.inr ⟨q, _, _, by decide, i1, by rw [if_pos (by omega)]⟩⟩
  · rw [if_neg q]
    exact ⟨_, _, rfl, _, tk, _, rfl, rfl, Or.inl ⟨q, rfl⟩⟩
theorem t_passageAt (hF : bFix g) {R : Int} (hR : R ≤ 36) {Z : Int → Prop} (hN : ∀ s p, 0 ≤ s → s < R → 0 ≤ p → p < 8 → ts 110 (8 * s + p) = N s p) (hr : isN N R) (hd : isD N R Z 268435456 (ts 111)) (h7 : 0 ≤ 6 * tp 103 42 + tp 103 43) (h8 : 6 * tp 103 42 + tp 103 43 < R) (i0 : 0 ≤ i) (i1 : i < 2147483648) (hD : 2 ≤ D) :
    bk_call D 4073 [.ref 102, .int (bk_i i)] (bk_M κ X (tp, tj, ts, tk) g n) = some (some (.int (bk_i (if ts 111 (6 * tp 103 42 + tp 103 43) < 268435456 ∧ i < ts 111 (6 * tp 103 42 + tp 103 43) then stp N (ts 111) (pos N (ts 111) (6 * tp 103 42 + tp 103 43) i.toNat) else -1))), bk_M κ X (tp, tj, ts, tk) g n) := by
  obtain ⟨d, rfl⟩ := dep hD
  generalize hst : 6 * tp 103 42 + tp 103 43 = st at h7 h8
  have b0 := hd.1.1 st h7 h8
  have goal : bk_wp (bk_call (d + 1) 4073 [.ref 102, .int (bk_i i)] (bk_M κ X (tp, tj, ts, tk) g n)) (fun v h' => v = some (.int (bk_i (if ts 111 st < 268435456 ∧ i < ts 111 st then stp N (ts 111) (pos N (ts 111) st i.toNat) else -1))) ∧ h' = bk_M κ X (tp, tj, ts, tk) g n) := by
    rw [kX4_passageAt, eX4_passageAt_0]
    simp (disch := first | assumption | omega) only [hst, bi_add, bi_sub, bi_mul, bi_neg, bi_div, bi_64, bl_add, bl_sub, bl_mul, bl_neg, bl_div, bl_32, bi_min, bi_max, bl_min, bl_max, bq_I, bq_J, bq_A, bq_Vi, bq_Vl, bq_Vr, bq_cV, bq_cI, bq_cJ, bq_cA, bq_le, bq_lt, bq_eq, bq_z, bq_o, bq_ref, bq_nz, bq_nzJ, bq_bl, bq_blz, bq_T, bq_F, if_true, if_false, Int.reduceEq, Int.reduceLT, Int.reduceLE, Int.reduceAdd, Int.reduceSub, Int.reduceMul, Int.add_sub_cancel, li_0, li_1, li_4, li_7, li_8, li_21, li_22, li_31, li_100, li_4035, li_4071, li_4073, li_268435456, ll_0, ll_1, ll_4, ll_7, ll_8, ll_21, ll_22, ll_31, ll_100, ga103, ga105, ga119, ga120, ga106, ga107, ga108, ga109, ga110, ga111, ga116, ga118, ga104, ga112, ga114, ga115, ga117, ga113, ga121, gf102_5, gf102_13, gf102_14, gf102_0, gf102_6, gf102_7, gf102_8, gf102_9, gf102_10, gf102_11, gf102_12, gf102_15, gf102_19, gf102_20, gr102_1, gr102_2, gr102_3, gr102_4, gr102_16, gr102_17, gr102_18, gr102_21, gr102_22, gr102_23, gr102_24, gr102_25, gr102_26, gr102_27, gr102_28, gr102_29, gr102_30, gr102_31, gr102_32, pa103, pa105, pa119, pa120, pa106, pa107, pa108, pa109, pa110, pa111, pa116, pa118, pa104, pa112, pa114, pa115, pa117, pa113, pa121, pf102_5, pf102_13, pf102_14, pf102_0, pf102_6, pf102_7, pf102_8, pf102_9, pf102_10, pf102_11, pf102_12, pf102_15, pf102_19, pf102_20, s_within, t_isLost, t_fallen, t_isHurt, t_between, t_isPassage, t_isRoom, t_standNow, t_standsAll, t_isIn, t_noComing, t_noStand]
    by_cases hf : ts 111 st < 268435456
    · have sm := isD_small hr hd h7 h8 hf
      refine bk_loop (σ := Value) (fun k x => bk_den TX4_passageAt (bk_call d) 7 [.ref 102, .int (bk_i i), .int (bk_i (pos N (ts 111) st k.toNat)), .int (bk_i k), x] [] (bk_M κ X (tp, tj, ts, tk) g n)) (fun k _ => 0 ≤ k ∧ k ≤ i) (ts 111 st) ?_ ?_ 0 bk_u (by omega) ⟨by omega, by omega⟩
      · rintro k w hk ⟨k0, ki⟩ cont
        obtain ⟨p0, p1, p2⟩ := pos_is hr hd h7 h8 hf k.toNat (by omega)
        have kc : ((k.toNat : Nat) : Int) = k := by omega
        have si := stp_is hr hd p0 p1 (by omega) (by omega)
        have sc : pos N (ts 111) st (k + 1).toNat = N (pos N (ts 111) st k.toNat) (stp N (ts 111) (pos N (ts 111) st k.toNat)) := by
          have e : (k + 1).toNat = k.toNat + 1 := by omega
          rw [e]; rfl
        generalize hpu : pos N (ts 111) st k.toNat = u at p0 p1 p2 si sc ⊢
        have fbs : fb N (ts 111) u (stp N (ts 111) u) = ts 111 u := by
          unfold fb
          rw [if_neg si.2.2.1, if_neg (by omega)]; omega
        rw [eX4_passageAt_7]
        simp (disch := first | assumption | omega) only [if_neg (show ¬ ts 111 u ≤ 0 by omega), if_neg (show ¬ 268435456 ≤ ts 111 u by omega), bi_add, bi_sub, bi_mul, bi_neg, bi_div, bi_64, bl_add, bl_sub, bl_mul, bl_neg, bl_div, bl_32, bi_min, bi_max, bl_min, bl_max, bq_I, bq_J, bq_A, bq_Vi, bq_Vl, bq_Vr, bq_cV, bq_cI, bq_cJ, bq_cA, bq_le, bq_lt, bq_eq, bq_z, bq_o, bq_ref, bq_nz, bq_nzJ, bq_bl, bq_blz, bq_T, bq_F, if_true, if_false, Int.reduceEq, Int.reduceLT, Int.reduceLE, Int.reduceAdd, Int.reduceSub, Int.reduceMul, Int.add_sub_cancel, li_0, li_1, li_4, li_7, li_8, li_21, li_22, li_31, li_100, li_4035, li_4071, li_4073, li_268435456, ll_0, ll_1, ll_4, ll_7, ll_8, ll_21, ll_22, ll_31, ll_100, ga103, ga105, ga119, ga120, ga106, ga107, ga108, ga109, ga110, ga111, ga116, ga118, ga104, ga112, ga114, ga115, ga117, ga113, ga121, gf102_5, gf102_13, gf102_14, gf102_0, gf102_6, gf102_7, gf102_8, gf102_9, gf102_10, gf102_11, gf102_12, gf102_15, gf102_19, gf102_20, gr102_1, gr102_2, gr102_3, gr102_4, gr102_16, gr102_17, gr102_18, gr102_21, gr102_22, gr102_23, gr102_24, gr102_25, gr102_26, gr102_27, gr102_28, gr102_29, gr102_30, gr102_31, gr102_32, pa103, pa105, pa119, pa120, pa106, pa107, pa108, pa109, pa110, pa111, pa116, pa118, pa104, pa112, pa114, pa115, pa117, pa113, pa121, pf102_5, pf102_13, pf102_14, pf102_0, pf102_6, pf102_7, pf102_8, pf102_9, pf102_10, pf102_11, pf102_12, pf102_15, pf102_19, pf102_20, s_within, t_isLost, t_fallen, t_isHurt, t_between, t_isPassage, t_isRoom, t_standNow, t_standsAll, t_isIn, t_noComing, t_noStand]
        refine bk_loop (σ := Unit) (fun q _ => bk_den TX4_passageAt (bk_call d) 31 [.ref 102, .int (bk_i i), .int (bk_i u), .int (bk_i k), .int (bk_i q)] [] (bk_M κ X (tp, tj, ts, tk) g n)) (fun q _ => 0 ≤ q) (stp N (ts 111) u) ?_ ?_ 0 () (by omega) (by omega)
        · rintro q - hq q0 cont2
          have nq := hr u q p0 p1 q0 (by omega)
          have no := si.2.2.2.2.2.2 q q0 hq
          have ef := t_farBy (κ := κ) (X := X) (tp := tp) (ts := ts) (tj := tj) (tk := tk) (n := n) (D := d) (N := N) hF hR hN hr hd.1.1 p0 p1 q0 (by omega) (by omega)
          have nf : fb N (ts 111) u q ≠ ts 111 u ∧ 0 ≤ fb N (ts 111) u q ∧ fb N (ts 111) u q ≤ 268435456 := by
            unfold fb
            by_cases c : N u q = -1
            · rw [if_pos c]; omega
            · have b1 := hd.1.1 (N u q) (by omega) (by omega)
              have : ¬ ts 111 (N u q) = ts 111 u - 1 := fun k => no ⟨c, k⟩
              rw [if_neg c]
              split <;> omega
          rw [eX4_passageAt_31]
          simp (disch := first | assumption | omega) only [ef, if_neg nf.1, bi_add, bi_sub, bi_mul, bi_neg, bi_div, bi_64, bl_add, bl_sub, bl_mul, bl_neg, bl_div, bl_32, bi_min, bi_max, bl_min, bl_max, bq_I, bq_J, bq_A, bq_Vi, bq_Vl, bq_Vr, bq_cV, bq_cI, bq_cJ, bq_cA, bq_le, bq_lt, bq_eq, bq_z, bq_o, bq_ref, bq_nz, bq_nzJ, bq_bl, bq_blz, bq_T, bq_F, if_true, if_false, Int.reduceEq, Int.reduceLT, Int.reduceLE, Int.reduceAdd, Int.reduceSub, Int.reduceMul, Int.add_sub_cancel, li_0, li_1, li_4, li_7, li_8, li_21, li_22, li_31, li_100, li_4035, li_4071, li_4073, li_268435456, ll_0, ll_1, ll_4, ll_7, ll_8, ll_21, ll_22, ll_31, ll_100, ga103, ga105, ga119, ga120, ga106, ga107, ga108, ga109, ga110, ga111, ga116, ga118, ga104, ga112, ga114, ga115, ga117, ga113, ga121, gf102_5, gf102_13, gf102_14, gf102_0, gf102_6, gf102_7, gf102_8, gf102_9, gf102_10, gf102_11, gf102_12, gf102_15, gf102_19, gf102_20, gr102_1, gr102_2, gr102_3, gr102_4, gr102_16, gr102_17, gr102_18, gr102_21, gr102_22, gr102_23, gr102_24, gr102_25, gr102_26, gr102_27, gr102_28, gr102_29, gr102_30, gr102_31, gr102_32, pa103, pa105, pa119, pa120, pa106, pa107, pa108, pa109, pa110, pa111, pa116, pa118, pa104, pa112, pa114, pa115, pa117, pa113, pa121, pf102_5, pf102_13, pf102_14, pf102_0, pf102_6, pf102_7, pf102_8, pf102_9, pf102_10, pf102_11, pf102_12, pf102_15, pf102_19, pf102_20, s_within, t_isLost, t_fallen, t_isHurt, t_between, t_isPassage, t_isRoom, t_standNow, t_standsAll, t_isIn, t_noComing, t_noStand]
          exact cont2 () (by omega)
        · rintro - q0
          have ef := t_farBy (κ := κ) (X := X) (tp := tp) (ts := ts) (tj := tj) (tk := tk) (n := n) (D := d) (N := N) hF hR hN hr hd.1.1 p0 p1 si.1 si.2.1 (by omega)
          rw [fbs] at ef
          rw [eX4_passageAt_31]
          simp (disch := first | assumption | omega) only [ef, bi_add, bi_sub, bi_mul, bi_neg, bi_div, bi_64, bl_add, bl_sub, bl_mul, bl_neg, bl_div, bl_32, bi_min, bi_max, bl_min, bl_max, bq_I, bq_J, bq_A, bq_Vi, bq_Vl, bq_Vr, bq_cV, bq_cI, bq_cJ, bq_cA, bq_le, bq_lt, bq_eq, bq_z, bq_o, bq_ref, bq_nz, bq_nzJ, bq_bl, bq_blz, bq_T, bq_F, if_true, if_false, Int.reduceEq, Int.reduceLT, Int.reduceLE, Int.reduceAdd, Int.reduceSub, Int.reduceMul, Int.add_sub_cancel, li_0, li_1, li_4, li_7, li_8, li_21, li_22, li_31, li_100, li_4035, li_4071, li_4073, li_268435456, ll_0, ll_1, ll_4, ll_7, ll_8, ll_21, ll_22, ll_31, ll_100, ga103, ga105, ga119, ga120, ga106, ga107, ga108, ga109, ga110, ga111, ga116, ga118, ga104, ga112, ga114, ga115, ga117, ga113, ga121, gf102_5, gf102_13, gf102_14, gf102_0, gf102_6, gf102_7, gf102_8, gf102_9, gf102_10, gf102_11, gf102_12, gf102_15, gf102_19, gf102_20, gr102_1, gr102_2, gr102_3, gr102_4, gr102_16, gr102_17, gr102_18, gr102_21, gr102_22, gr102_23, gr102_24, gr102_25, gr102_26, gr102_27, gr102_28, gr102_29, gr102_30, gr102_31, gr102_32, pa103, pa105, pa119, pa120, pa106, pa107, pa108, pa109, pa110, pa111, pa116, pa118, pa104, pa112, pa114, pa115, pa117, pa113, pa121, pf102_5, pf102_13, pf102_14, pf102_0, pf102_6, pf102_7, pf102_8, pf102_9, pf102_10, pf102_11, pf102_12, pf102_15, pf102_19, pf102_20, s_within, t_isLost, t_fallen, t_isHurt, t_between, t_isPassage, t_isRoom, t_standNow, t_standsAll, t_isIn, t_noComing, t_noStand]
          by_cases q : k = i
          · subst q
            rw [if_pos rfl]
            exact ⟨_, _, rfl, by rw [if_pos ⟨hf, hk⟩, hpu], rfl⟩
          · rw [if_neg q]
            have s1 := si.1
            have s2 := si.2.1
            simp (disch := first | assumption | omega) only [hN u _ p0 p1 si.1 si.2.1, bi_add, bi_sub, bi_mul, bi_neg, bi_div, bi_64, bl_add, bl_sub, bl_mul, bl_neg, bl_div, bl_32, bi_min, bi_max, bl_min, bl_max, bq_I, bq_J, bq_A, bq_Vi, bq_Vl, bq_Vr, bq_cV, bq_cI, bq_cJ, bq_cA, bq_le, bq_lt, bq_eq, bq_z, bq_o, bq_ref, bq_nz, bq_nzJ, bq_bl, bq_blz, bq_T, bq_F, if_true, if_false, Int.reduceEq, Int.reduceLT, Int.reduceLE, Int.reduceAdd, Int.reduceSub, Int.reduceMul, Int.add_sub_cancel, li_0, li_1, li_4, li_7, li_8, li_21, li_22, li_31, li_100, li_4035, li_4071, li_4073, li_268435456, ll_0, ll_1, ll_4, ll_7, ll_8, ll_21, ll_22, ll_31, ll_100, ga103, ga105, ga119, ga120, ga106, ga107, ga108, ga109, ga110, ga111, ga116, ga118, ga104, ga112, ga114, ga115, ga117, ga113, ga121, gf102_5, gf102_13, gf102_14, gf102_0, gf102_6, gf102_7, gf102_8, gf102_9, gf102_10, gf102_11, gf102_12, gf102_15, gf102_19, gf102_20, gr102_1, gr102_2, gr102_3, gr102_4, gr102_16, gr102_17, gr102_18, gr102_21, gr102_22, gr102_23, gr102_24, gr102_25, gr102_26, gr102_27, gr102_28, gr102_29, gr102_30, gr102_31, gr102_32, pa103, pa105, pa119, pa120, pa106, pa107, pa108, pa109, pa110, pa111, pa116, pa118, pa104, pa112, pa114, pa115, pa117, pa113, pa121, pf102_5, pf102_13, pf102_14, pf102_0, pf102_6, pf102_7, pf102_8, pf102_9, pf102_10, pf102_11, pf102_12, pf102_15, pf102_19, pf102_20, s_within, t_isLost, t_fallen, t_isHurt, t_between, t_isPassage, t_isRoom, t_standNow, t_standsAll, t_isIn, t_noComing, t_noStand]
            rw [← sc]
            exact cont _ ⟨by omega, by omega⟩
      · rintro w ⟨k0, ki⟩
        obtain ⟨p0, p1, p2⟩ := pos_is hr hd h7 h8 hf (ts 111 st).toNat (by omega)
        rw [eX4_passageAt_7]
        simp (disch := first | assumption | omega) only [if_pos (show ts 111 (pos N (ts 111) st (ts 111 st).toNat) ≤ 0 by omega), bi_add, bi_sub, bi_mul, bi_neg, bi_div, bi_64, bl_add, bl_sub, bl_mul, bl_neg, bl_div, bl_32, bi_min, bi_max, bl_min, bl_max, bq_I, bq_J, bq_A, bq_Vi, bq_Vl, bq_Vr, bq_cV, bq_cI, bq_cJ, bq_cA, bq_le, bq_lt, bq_eq, bq_z, bq_o, bq_ref, bq_nz, bq_nzJ, bq_bl, bq_blz, bq_T, bq_F, if_true, if_false, Int.reduceEq, Int.reduceLT, Int.reduceLE, Int.reduceAdd, Int.reduceSub, Int.reduceMul, Int.add_sub_cancel, li_0, li_1, li_4, li_7, li_8, li_21, li_22, li_31, li_100, li_4035, li_4071, li_4073, li_268435456, ll_0, ll_1, ll_4, ll_7, ll_8, ll_21, ll_22, ll_31, ll_100, ga103, ga105, ga119, ga120, ga106, ga107, ga108, ga109, ga110, ga111, ga116, ga118, ga104, ga112, ga114, ga115, ga117, ga113, ga121, gf102_5, gf102_13, gf102_14, gf102_0, gf102_6, gf102_7, gf102_8, gf102_9, gf102_10, gf102_11, gf102_12, gf102_15, gf102_19, gf102_20, gr102_1, gr102_2, gr102_3, gr102_4, gr102_16, gr102_17, gr102_18, gr102_21, gr102_22, gr102_23, gr102_24, gr102_25, gr102_26, gr102_27, gr102_28, gr102_29, gr102_30, gr102_31, gr102_32, pa103, pa105, pa119, pa120, pa106, pa107, pa108, pa109, pa110, pa111, pa116, pa118, pa104, pa112, pa114, pa115, pa117, pa113, pa121, pf102_5, pf102_13, pf102_14, pf102_0, pf102_6, pf102_7, pf102_8, pf102_9, pf102_10, pf102_11, pf102_12, pf102_15, pf102_19, pf102_20, s_within, t_isLost, t_fallen, t_isHurt, t_between, t_isPassage, t_isRoom, t_standNow, t_standsAll, t_isIn, t_noComing, t_noStand]
        exact ⟨_, _, rfl, by rw [if_neg (by omega)], rfl⟩
    · rw [eX4_passageAt_7]
      simp (disch := first | assumption | omega) only [if_neg (show ¬ ts 111 st ≤ 0 by omega), if_pos (show 268435456 ≤ ts 111 st by omega), bi_add, bi_sub, bi_mul, bi_neg, bi_div, bi_64, bl_add, bl_sub, bl_mul, bl_neg, bl_div, bl_32, bi_min, bi_max, bl_min, bl_max, bq_I, bq_J, bq_A, bq_Vi, bq_Vl, bq_Vr, bq_cV, bq_cI, bq_cJ, bq_cA, bq_le, bq_lt, bq_eq, bq_z, bq_o, bq_ref, bq_nz, bq_nzJ, bq_bl, bq_blz, bq_T, bq_F, if_true, if_false, Int.reduceEq, Int.reduceLT, Int.reduceLE, Int.reduceAdd, Int.reduceSub, Int.reduceMul, Int.add_sub_cancel, li_0, li_1, li_4, li_7, li_8, li_21, li_22, li_31, li_100, li_4035, li_4071, li_4073, li_268435456, ll_0, ll_1, ll_4, ll_7, ll_8, ll_21, ll_22, ll_31, ll_100, ga103, ga105, ga119, ga120, ga106, ga107, ga108, ga109, ga110, ga111, ga116, ga118, ga104, ga112, ga114, ga115, ga117, ga113, ga121, gf102_5, gf102_13, gf102_14, gf102_0, gf102_6, gf102_7, gf102_8, gf102_9, gf102_10, gf102_11, gf102_12, gf102_15, gf102_19, gf102_20, gr102_1, gr102_2, gr102_3, gr102_4, gr102_16, gr102_17, gr102_18, gr102_21, gr102_22, gr102_23, gr102_24, gr102_25, gr102_26, gr102_27, gr102_28, gr102_29, gr102_30, gr102_31, gr102_32, pa103, pa105, pa119, pa120, pa106, pa107, pa108, pa109, pa110, pa111, pa116, pa118, pa104, pa112, pa114, pa115, pa117, pa113, pa121, pf102_5, pf102_13, pf102_14, pf102_0, pf102_6, pf102_7, pf102_8, pf102_9, pf102_10, pf102_11, pf102_12, pf102_15, pf102_19, pf102_20, s_within, t_isLost, t_fallen, t_isHurt, t_between, t_isPassage, t_isRoom, t_standNow, t_standsAll, t_isIn, t_noComing, t_noStand]
      exact ⟨_, _, rfl, by rw [if_neg (by omega)], rfl⟩
  obtain ⟨z, h', e, rfl, rfl⟩ := goal
  exact e
theorem m_way (h : bTt g (tp 103)) (h3 : -2147483648 ≤ r) (h4 : r < 2147483648) (h5 : -2147483648 ≤ hu) (h6 : hu < 2147483648) (h7 : -2147483648 ≤ i) (h8 : i < 2147483648) (hD : 9 ≤ D) :
    bk_wp (bk_call D 4072 [.ref 102, .int (bk_i r), .int (bk_i hu), .int (bk_i i)] (bk_M κ X (tp, tj, ts, tk) g n)) (bTq κ X tp tj g n (rWy (tp 103) r hu i)) := by
  obtain ⟨d, rfl⟩ := dep hD
  have st := bTt_st h
  have fr := fS_rng (tp 103) r hu 4
  obtain ⟨ts1, v1, i1, e1⟩ := t_laysComing (κ := κ) (X := X) (ts := bU ts 102 0 0) (tj := tj) (tk := tk) (n := n) (rop := tp 103 44) (D := d) h h3 h4 h5 h6 (by omega) (by omega) (by omega)
  obtain ⟨hF, hw, hs⟩ := h
  rw [kX4_way, eX4_way_0]
  simp (disch := first | assumption | omega) only [e1, bi_add, bi_sub, bi_mul, bi_neg, bi_div, bi_64, bl_add, bl_sub, bl_mul, bl_neg, bl_div, bl_32, bi_min, bi_max, bl_min, bl_max, bq_I, bq_J, bq_A, bq_Vi, bq_Vl, bq_Vr, bq_cV, bq_cI, bq_cJ, bq_cA, bq_le, bq_lt, bq_eq, bq_z, bq_o, bq_ref, bq_nz, bq_nzJ, bq_bl, bq_blz, bq_T, bq_F, if_true, if_false, Int.reduceEq, Int.reduceLT, Int.reduceLE, Int.reduceAdd, Int.reduceSub, Int.reduceMul, Int.add_sub_cancel, li_0, li_1, li_3, li_4, li_44, li_100, li_4066, li_4067, li_4072, li_4073, ll_0, ll_1, ll_3, ll_4, ll_44, ll_100, ga103, ga105, ga119, ga120, ga106, ga107, ga108, ga109, ga110, ga111, ga116, ga118, ga104, ga112, ga114, ga115, ga117, ga113, ga121, gf102_5, gf102_13, gf102_14, gf102_0, gf102_6, gf102_7, gf102_8, gf102_9, gf102_10, gf102_11, gf102_12, gf102_15, gf102_19, gf102_20, gr102_1, gr102_2, gr102_3, gr102_4, gr102_16, gr102_17, gr102_18, gr102_21, gr102_22, gr102_23, gr102_24, gr102_25, gr102_26, gr102_27, gr102_28, gr102_29, gr102_30, gr102_31, gr102_32, pa103, pa105, pa119, pa120, pa106, pa107, pa108, pa109, pa110, pa111, pa116, pa118, pa104, pa112, pa114, pa115, pa117, pa113, pa121, pf102_5, pf102_13, pf102_14, pf102_0, pf102_6, pf102_7, pf102_8, pf102_9, pf102_10, pf102_11, pf102_12, pf102_15, pf102_19, pf102_20, s_within, t_isLost, t_fallen, t_isHurt, t_between, t_isPassage, t_isRoom, t_standNow, t_standsAll, t_isIn, t_noComing, t_noStand]
  by_cases q : fS (tp 103) r hu 4 = 0
  · rw [if_pos q]
    by_cases q2 : 0 ≤ i
    · have e2 := t_passageAt (κ := κ) (X := X) (tp := tp) (ts := ts1) (tj := tj) (tk := tk) (n := n) (D := d) (N := nxt (tp 103) (tp 103 44)) (i := i) hF (R := 6 * tp 103 1) (by omega) v1 (nxt_N hw _ (Int.le_refl _)) i1 (by omega) (by omega) q2 h8 (by omega)
      rw [if_pos q2]
      simp (disch := first | assumption | omega) only [e2, bi_add, bi_sub, bi_mul, bi_neg, bi_div, bi_64, bl_add, bl_sub, bl_mul, bl_neg, bl_div, bl_32, bi_min, bi_max, bl_min, bl_max, bq_I, bq_J, bq_A, bq_Vi, bq_Vl, bq_Vr, bq_cV, bq_cI, bq_cJ, bq_cA, bq_le, bq_lt, bq_eq, bq_z, bq_o, bq_ref, bq_nz, bq_nzJ, bq_bl, bq_blz, bq_T, bq_F, if_true, if_false, Int.reduceEq, Int.reduceLT, Int.reduceLE, Int.reduceAdd, Int.reduceSub, Int.reduceMul, Int.add_sub_cancel, li_0, li_1, li_3, li_4, li_44, li_100, li_4066, li_4067, li_4072, li_4073, ll_0, ll_1, ll_3, ll_4, ll_44, ll_100, ga103, ga105, ga119, ga120, ga106, ga107, ga108, ga109, ga110, ga111, ga116, ga118, ga104, ga112, ga114, ga115, ga117, ga113, ga121, gf102_5, gf102_13, gf102_14, gf102_0, gf102_6, gf102_7, gf102_8, gf102_9, gf102_10, gf102_11, gf102_12, gf102_15, gf102_19, gf102_20, gr102_1, gr102_2, gr102_3, gr102_4, gr102_16, gr102_17, gr102_18, gr102_21, gr102_22, gr102_23, gr102_24, gr102_25, gr102_26, gr102_27, gr102_28, gr102_29, gr102_30, gr102_31, gr102_32, pa103, pa105, pa119, pa120, pa106, pa107, pa108, pa109, pa110, pa111, pa116, pa118, pa104, pa112, pa114, pa115, pa117, pa113, pa121, pf102_5, pf102_13, pf102_14, pf102_0, pf102_6, pf102_7, pf102_8, pf102_9, pf102_10, pf102_11, pf102_12, pf102_15, pf102_19, pf102_20, s_within, t_isLost, t_fallen, t_isHurt, t_between, t_isPassage, t_isRoom, t_standNow, t_standsAll, t_isIn, t_noComing, t_noStand]
      exact ⟨_, _, rfl, ts1, tk, _, rfl, rfl, Or.inr (Or.inr ⟨q, q2, _, _, by decide, i1, rfl⟩)⟩
    · rw [if_neg q2]
      exact ⟨_, _, rfl, _, tk, _, rfl, rfl, Or.inr (Or.inl ⟨q, by omega, rfl⟩)⟩
  · rw [if_neg q]
    exact ⟨_, _, rfl, _, tk, _, rfl, rfl, Or.inl ⟨q, rfl⟩⟩
theorem m_least (h : bTt g (tp 103)) (h3 : -2147483648 ≤ r) (h4 : r < 2147483648) (hD : 9 ≤ D) :
    bk_wp (bk_call D 4074 [.ref 102, .int (bk_i r)] (bk_M κ X (tp, tj, ts, tk) g n)) (bTq κ X tp tj g n (rLeast (tp 103) r)) := by
  obtain ⟨d, rfl⟩ := dep hD
  have st := bTt_st h
  have ht := h
  obtain ⟨hF, hw, hs⟩ := h
  rw [kX4_least, eX4_least_0]
  simp (disch := first | assumption | omega) only [bi_add, bi_sub, bi_mul, bi_neg, bi_div, bi_64, bl_add, bl_sub, bl_mul, bl_neg, bl_div, bl_32, bi_min, bi_max, bl_min, bl_max, bq_I, bq_J, bq_A, bq_Vi, bq_Vl, bq_Vr, bq_cV, bq_cI, bq_cJ, bq_cA, bq_le, bq_lt, bq_eq, bq_z, bq_o, bq_ref, bq_nz, bq_nzJ, bq_bl, bq_blz, bq_T, bq_F, if_true, if_false, Int.reduceEq, Int.reduceLT, Int.reduceLE, Int.reduceAdd, Int.reduceSub, Int.reduceMul, Int.add_sub_cancel, li_0, li_1, li_2, li_4, li_5, li_19, li_44, li_100, li_4051, li_4067, li_4074, li_268435456, ll_0, ll_1, ll_2, ll_4, ll_5, ll_19, ll_44, ll_100, ga103, ga105, ga119, ga120, ga106, ga107, ga108, ga109, ga110, ga111, ga116, ga118, ga104, ga112, ga114, ga115, ga117, ga113, ga121, gf102_5, gf102_13, gf102_14, gf102_0, gf102_6, gf102_7, gf102_8, gf102_9, gf102_10, gf102_11, gf102_12, gf102_15, gf102_19, gf102_20, gr102_1, gr102_2, gr102_3, gr102_4, gr102_16, gr102_17, gr102_18, gr102_21, gr102_22, gr102_23, gr102_24, gr102_25, gr102_26, gr102_27, gr102_28, gr102_29, gr102_30, gr102_31, gr102_32, pa103, pa105, pa119, pa120, pa106, pa107, pa108, pa109, pa110, pa111, pa116, pa118, pa104, pa112, pa114, pa115, pa117, pa113, pa121, pf102_5, pf102_13, pf102_14, pf102_0, pf102_6, pf102_7, pf102_8, pf102_9, pf102_10, pf102_11, pf102_12, pf102_15, pf102_19, pf102_20, s_within, t_isLost, t_fallen, t_isHurt, t_between, t_isPassage, t_isRoom, t_standNow, t_standsAll, t_isIn, t_noComing, t_noStand]
  by_cases q : 0 ≤ r ∧ r ≤ tp 103 1 - 1
  · rw [if_pos q]
    refine bk_loop (σ := bF) (fun k x => bk_den TX4_least (bk_call d) 19 [.ref 102, .int (bk_i r), .int (bk_i k)] [] (bk_M κ X (tp, tj, x, tk) g n)) (fun k _ => 0 ≤ k ∧ ∀ hu, 0 ≤ hu → hu < k → rDist (tp 103) (tp 103 44) (Zc r hu) (6 * tp 103 42 + tp 103 43) (-1)) 5 ?_ ?_ 0 _ (by omega) ⟨by omega, fun hu _ _ => by omega⟩
    · rintro k ts0 hk ⟨k0, hv⟩ cont
      obtain ⟨ts1, v1, i1, e1⟩ := t_laysComing (κ := κ) (X := X) (ts := ts0) (tj := tj) (tk := tk) (n := n) (rop := tp 103 44) (D := d) ht h3 h4 (hu := k) (by omega) (by omega) (by omega) (by omega) (by omega)
      have b := i1.1.1 (6 * tp 103 42 + tp 103 43) (by omega) (by omega)
      have dz : rDist (tp 103) (tp 103 44) (Zc r k) (6 * tp 103 42 + tp 103 43) (if ts1 111 (6 * tp 103 42 + tp 103 43) < 268435456 then ts1 111 (6 * tp 103 42 + tp 103 43) else -1) := ⟨_, _, by decide, i1, rfl⟩
      rw [eX4_least_19]
      simp (disch := first | assumption | omega) only [if_neg (show ¬ 5 ≤ k by omega), e1, bi_add, bi_sub, bi_mul, bi_neg, bi_div, bi_64, bl_add, bl_sub, bl_mul, bl_neg, bl_div, bl_32, bi_min, bi_max, bl_min, bl_max, bq_I, bq_J, bq_A, bq_Vi, bq_Vl, bq_Vr, bq_cV, bq_cI, bq_cJ, bq_cA, bq_le, bq_lt, bq_eq, bq_z, bq_o, bq_ref, bq_nz, bq_nzJ, bq_bl, bq_blz, bq_T, bq_F, if_true, if_false, Int.reduceEq, Int.reduceLT, Int.reduceLE, Int.reduceAdd, Int.reduceSub, Int.reduceMul, Int.add_sub_cancel, li_0, li_1, li_2, li_4, li_5, li_19, li_44, li_100, li_4051, li_4067, li_4074, li_268435456, ll_0, ll_1, ll_2, ll_4, ll_5, ll_19, ll_44, ll_100, ga103, ga105, ga119, ga120, ga106, ga107, ga108, ga109, ga110, ga111, ga116, ga118, ga104, ga112, ga114, ga115, ga117, ga113, ga121, gf102_5, gf102_13, gf102_14, gf102_0, gf102_6, gf102_7, gf102_8, gf102_9, gf102_10, gf102_11, gf102_12, gf102_15, gf102_19, gf102_20, gr102_1, gr102_2, gr102_3, gr102_4, gr102_16, gr102_17, gr102_18, gr102_21, gr102_22, gr102_23, gr102_24, gr102_25, gr102_26, gr102_27, gr102_28, gr102_29, gr102_30, gr102_31, gr102_32, pa103, pa105, pa119, pa120, pa106, pa107, pa108, pa109, pa110, pa111, pa116, pa118, pa104, pa112, pa114, pa115, pa117, pa113, pa121, pf102_5, pf102_13, pf102_14, pf102_0, pf102_6, pf102_7, pf102_8, pf102_9, pf102_10, pf102_11, pf102_12, pf102_15, pf102_19, pf102_20, s_within, t_isLost, t_fallen, t_isHurt, t_between, t_isPassage, t_isRoom, t_standNow, t_standsAll, t_isIn, t_noComing, t_noStand]
      by_cases q3 : 268435456 ≤ ts1 111 (6 * tp 103 42 + tp 103 43)
      · rw [if_neg (by omega)] at dz
        rw [if_pos q3]
        refine cont ts1 ⟨by omega, fun hu a1 a2 => ?_⟩
        by_cases c : hu = k
        · subst c; exact dz
        · exact hv hu a1 (by omega)
      · rw [if_pos (by omega)] at dz
        rw [if_neg q3]
        exact ⟨_, _, rfl, ts1, tk, _, rfl, rfl, Or.inr ⟨q, Or.inr ⟨k0, hk, hv, _, by omega, dz⟩⟩⟩
    · rintro ts0 ⟨k0, hv⟩
      rw [eX4_least_19]
      simp (disch := first | assumption | omega) only [if_pos (Int.le_refl 5), bi_add, bi_sub, bi_mul, bi_neg, bi_div, bi_64, bl_add, bl_sub, bl_mul, bl_neg, bl_div, bl_32, bi_min, bi_max, bl_min, bl_max, bq_I, bq_J, bq_A, bq_Vi, bq_Vl, bq_Vr, bq_cV, bq_cI, bq_cJ, bq_cA, bq_le, bq_lt, bq_eq, bq_z, bq_o, bq_ref, bq_nz, bq_nzJ, bq_bl, bq_blz, bq_T, bq_F, if_true, if_false, Int.reduceEq, Int.reduceLT, Int.reduceLE, Int.reduceAdd, Int.reduceSub, Int.reduceMul, Int.add_sub_cancel, li_0, li_1, li_2, li_4, li_5, li_19, li_44, li_100, li_4051, li_4067, li_4074, li_268435456, ll_0, ll_1, ll_2, ll_4, ll_5, ll_19, ll_44, ll_100, ga103, ga105, ga119, ga120, ga106, ga107, ga108, ga109, ga110, ga111, ga116, ga118, ga104, ga112, ga114, ga115, ga117, ga113, ga121, gf102_5, gf102_13, gf102_14, gf102_0, gf102_6, gf102_7, gf102_8, gf102_9, gf102_10, gf102_11, gf102_12, gf102_15, gf102_19, gf102_20, gr102_1, gr102_2, gr102_3, gr102_4, gr102_16, gr102_17, gr102_18, gr102_21, gr102_22, gr102_23, gr102_24, gr102_25, gr102_26, gr102_27, gr102_28, gr102_29, gr102_30, gr102_31, gr102_32, pa103, pa105, pa119, pa120, pa106, pa107, pa108, pa109, pa110, pa111, pa116, pa118, pa104, pa112, pa114, pa115, pa117, pa113, pa121, pf102_5, pf102_13, pf102_14, pf102_0, pf102_6, pf102_7, pf102_8, pf102_9, pf102_10, pf102_11, pf102_12, pf102_15, pf102_19, pf102_20, s_within, t_isLost, t_fallen, t_isHurt, t_between, t_isPassage, t_isRoom, t_standNow, t_standsAll, t_isIn, t_noComing, t_noStand]
      exact ⟨_, _, rfl, ts0, tk, _, rfl, rfl, Or.inr ⟨q, Or.inl ⟨rfl, hv⟩⟩⟩
  · rw [if_neg q]
    exact ⟨_, _, rfl, _, tk, _, rfl, rfl, Or.inl ⟨q, rfl⟩⟩
end TS
