/-! SPECS: the twin: found, foundBy, surely, both -/
set_option maxRecDepth 100000
section TF
variable {κ : Nat → Nat} {X : bX} {Y : bY} {tp ts : bF} {tj tk : bFJ} {g : bG} {n : Nat × Nat} {s p v r hu i to m rooms what : Int} {D : Nat} {N : Int → Int → Int}
theorem t_noFound (hF : bFix g) (hw1 : 1 ≤ tp 103 1) (hw2 : tp 103 1 ≤ 6) (h0 : -2147483648 ≤ m) (h00 : m < 2147483648) (h1 : -2147483648 ≤ r) (h2 : r < 2147483648) (h3 : -2147483648 ≤ hu) (h4 : hu < 2147483648) (hD : 3 ≤ D) :
    bk_call D 4087 [.ref 102, .int (bk_i m), .int (bk_i r), .int (bk_i hu)] (bk_M κ X (tp, tj, ts, tk) g n) = some (some (.int (bk_i (fF (tp 103) m r hu))), bk_M κ X (tp, tj, ts, tk) g n) := by
  obtain ⟨d, rfl⟩ := dep hD
  unfold fF fS
  rw [kX4_noFound, eX4_noFound_0]
  simp (disch := first | assumption | omega) only [bi_add, bi_sub, bi_mul, bi_neg, bi_div, bi_64, bl_add, bl_sub, bl_mul, bl_neg, bl_div, bl_32, bi_min, bi_max, bl_min, bl_max, bq_I, bq_J, bq_A, bq_Vi, bq_Vl, bq_Vr, bq_cV, bq_cI, bq_cJ, bq_cA, bq_le, bq_lt, bq_eq, bq_z, bq_o, bq_ref, bq_nz, bq_nzJ, bq_bl, bq_blz, bq_T, bq_F, if_true, if_false, Int.reduceEq, Int.reduceLT, Int.reduceLE, Int.reduceAdd, Int.reduceSub, Int.reduceMul, Int.add_sub_cancel, li_0, li_1, li_2, li_3, li_4, li_10, li_4004, li_4051, li_4052, li_4087, ll_0, ll_1, ll_2, ll_3, ll_4, ll_10, ga103, ga105, ga119, ga120, ga106, ga107, ga108, ga109, ga110, ga111, ga116, ga118, ga104, ga112, ga114, ga115, ga117, ga113, ga121, gf102_5, gf102_13, gf102_14, gf102_0, gf102_6, gf102_7, gf102_8, gf102_9, gf102_10, gf102_11, gf102_12, gf102_15, gf102_19, gf102_20, gr102_1, gr102_2, gr102_3, gr102_4, gr102_16, gr102_17, gr102_18, gr102_21, gr102_22, gr102_23, gr102_24, gr102_25, gr102_26, gr102_27, gr102_28, gr102_29, gr102_30, gr102_31, gr102_32, pa103, pa105, pa119, pa120, pa106, pa107, pa108, pa109, pa110, pa111, pa116, pa118, pa104, pa112, pa114, pa115, pa117, pa113, pa121, pf102_5, pf102_13, pf102_14, pf102_0, pf102_6, pf102_7, pf102_8, pf102_9, pf102_10, pf102_11, pf102_12, pf102_15, pf102_19, pf102_20, s_within, t_isLost, t_fallen, t_isHurt, t_between, t_isPassage, t_isRoom, t_standNow, t_standsAll, t_isIn, t_noComing, t_noStand, t_bitsOf]
  by_cases q : 0 ≤ r ∧ r ≤ tp 103 1 - 1
  · rw [if_pos q, if_pos q]
    by_cases q2 : 0 ≤ hu ∧ hu ≤ 5
    · rw [if_pos q2, if_pos q2, if_pos rfl]
      by_cases q3 : 0 ≤ m ∧ m ≤ 10
      · rw [if_pos q3, if_pos q3]
      · rw [if_neg q3, if_neg q3]
    · rw [if_neg q2, if_neg q2, if_neg (by decide)]
  · rw [if_neg q, if_neg q, if_neg (by decide)]
theorem t_laysFound (h : bTt g (tp 103)) {b : Int} (m0 : 0 ≤ m) (m1 : m ≤ 10) (r0 : 0 ≤ r) (r1 : r < tp 103 1) (hu0 : 0 ≤ hu) (hu1 : hu ≤ 5) (b0 : -1 ≤ b) (b1 : b < 8) (hD : 7 ≤ D) :
    ∃ ts' tk', (∀ s p, 0 ≤ s → s < 6 * tp 103 1 → 0 ≤ p → p < 8 → ts' 110 (8 * s + p) = nxt (tp 103) (tp 103 44) s p)
      ∧ (∀ k s, 0 ≤ k → k ≤ m → 0 ≤ s → s < 6 * tp 103 1 → tk' 113 (36 * k + s) = bk_l (wy (Nb (nxt (tp 103) (tp 103 44)) b) (6 * r + hu) k.toNat s))
      ∧ bk_call D 4088 [.ref 102, .int (bk_i m), .int (bk_i r), .int (bk_i hu), .int (bk_i b)] (bk_M κ X (tp, tj, ts, tk) g n) = some (some (.long (bk_l (wy (Nb (nxt (tp 103) (tp 103 44)) b) (6 * r + hu) m.toNat (6 * tp 103 42 + tp 103 43)))), bk_M κ X (tp, tj, ts', tk') g n) := by
  obtain ⟨d, rfl⟩ := dep hD
  have st := bTt_st h
  obtain ⟨hF, hw, hs⟩ := h
  have hN := nxt_N hw (tp 103 44) (Int.le_refl (6 * tp 103 1))
  obtain ⟨ts1, f1, v1, e1⟩ := t_laysThen (κ := κ) (X := X) (tp := tp) (ts := ts) (tj := tj) (tk := tk) (n := n) (rop := tp 103 44) (D := d) hF hw (by omega) (by omega) (by omega) (by omega) (by omega)
  have goal : bk_wp (bk_call (d + 1) 4088 [.ref 102, .int (bk_i m), .int (bk_i r), .int (bk_i hu), .int (bk_i b)] (bk_M κ X (tp, tj, ts, tk) g n)) (fun v h' => ∃ tk', v = some (.long (bk_l (wy (Nb (nxt (tp 103) (tp 103 44)) b) (6 * r + hu) m.toNat (6 * tp 103 42 + tp 103 43)))) ∧ h' = bk_M κ X (tp, tj, ts1, tk') g n
      ∧ (∀ k s, 0 ≤ k → k ≤ m → 0 ≤ s → s < 6 * tp 103 1 → tk' 113 (36 * k + s) = bk_l (wy (Nb (nxt (tp 103) (tp 103 44)) b) (6 * r + hu) k.toNat s))) := by
    rw [kX4_laysFound, eX4_laysFound_0]
    simp (disch := first | assumption | omega) only [e1, bi_add, bi_sub, bi_mul, bi_neg, bi_div, bi_64, bl_add, bl_sub, bl_mul, bl_neg, bl_div, bl_32, bi_min, bi_max, bl_min, bl_max, bq_I, bq_J, bq_A, bq_Vi, bq_Vl, bq_Vr, bq_cV, bq_cI, bq_cJ, bq_cA, bq_le, bq_lt, bq_eq, bq_z, bq_o, bq_ref, bq_nz, bq_nzJ, bq_bl, bq_blz, bq_T, bq_F, if_true, if_false, Int.reduceEq, Int.reduceLT, Int.reduceLE, Int.reduceAdd, Int.reduceSub, Int.reduceMul, Int.add_sub_cancel, li_0, li_1, li_4, li_6, li_8, li_14, li_21, li_24, li_36, li_43, li_44, li_53, li_62, li_77, li_100, li_104, li_132, li_4035, li_4068, li_4069, li_4088, ll_0, ll_1, ll_4, ll_6, ll_8, ll_14, ll_21, ll_24, ll_36, ll_43, ll_44, ll_53, ll_62, ll_77, ll_100, ll_104, ll_132, ga103, ga105, ga119, ga120, ga106, ga107, ga108, ga109, ga110, ga111, ga116, ga118, ga104, ga112, ga114, ga115, ga117, ga113, ga121, gf102_5, gf102_13, gf102_14, gf102_0, gf102_6, gf102_7, gf102_8, gf102_9, gf102_10, gf102_11, gf102_12, gf102_15, gf102_19, gf102_20, gr102_1, gr102_2, gr102_3, gr102_4, gr102_16, gr102_17, gr102_18, gr102_21, gr102_22, gr102_23, gr102_24, gr102_25, gr102_26, gr102_27, gr102_28, gr102_29, gr102_30, gr102_31, gr102_32, pa103, pa105, pa119, pa120, pa106, pa107, pa108, pa109, pa110, pa111, pa116, pa118, pa104, pa112, pa114, pa115, pa117, pa113, pa121, pf102_5, pf102_13, pf102_14, pf102_0, pf102_6, pf102_7, pf102_8, pf102_9, pf102_10, pf102_11, pf102_12, pf102_15, pf102_19, pf102_20, s_within, t_isLost, t_fallen, t_isHurt, t_between, t_isPassage, t_isRoom, t_standNow, t_standsAll, t_isIn, t_noComing, t_noStand, t_bitsOf]
    generalize hto : 6 * r + hu = to
    have to0 : 0 ≤ to := by omega
    have to1 : to < 36 := by omega
    refine bk_loop (σ := bFJ) (fun s x => bk_den TX4_laysFound (bk_call d) 14 [.ref 102, .int (bk_i m), .int (bk_i r), .int (bk_i hu), .int (bk_i b), .int (bk_i s), bk_u, bk_u, bk_u, bk_u, bk_u] [] (bk_M κ X (tp, tj, ts1, x) g n))
      (fun s x => 0 ≤ s ∧ ∀ t, 0 ≤ t → t < s → x 113 t = bk_l (if t = to then 1 else 0)) 36 ?_ ?_ 0 tk (by omega) ⟨by omega, fun t _ _ => by omega⟩
    · rintro s x hs ⟨s0, vl⟩ cont
      have fin : ∀ val : Int, (val = if s = to then 1 else 0) → bk_wp (bk_den TX4_laysFound (bk_call d) 14 [.ref 102, .int (bk_i m), .int (bk_i r), .int (bk_i hu), .int (bk_i b), .int (bk_i (s + 1)), bk_u, bk_u, bk_u, bk_u, bk_u] [] (bk_M κ X (tp, tj, ts1, bUJ x 113 s (bk_l val)) g n)) (fun v h' => ∃ tk', v = some (.long (bk_l (wy (Nb (nxt (tp 103) (tp 103 44)) b) to m.toNat (6 * tp 103 42 + tp 103 43)))) ∧ h' = bk_M κ X (tp, tj, ts1, tk') g n
          ∧ (∀ k s, 0 ≤ k → k ≤ m → 0 ≤ s → s < 6 * tp 103 1 → tk' 113 (36 * k + s) = bk_l (wy (Nb (nxt (tp 103) (tp 103 44)) b) to k.toNat s))) := by
        intro val hv
        refine cont (bUJ x 113 s (bk_l val)) ⟨by omega, fun t t0 t1 => ?_⟩
        rw [bUJ_same]
        by_cases c : t = s
        · subst c; rw [if_pos rfl, hv]
        · rw [if_neg (by omega)]; exact vl t t0 (by omega)
      rw [eX4_laysFound_14]
      simp (disch := first | assumption | omega) only [if_neg (show ¬ 36 ≤ s by omega), eX4_laysFound_43, hto, bi_add, bi_sub, bi_mul, bi_neg, bi_div, bi_64, bl_add, bl_sub, bl_mul, bl_neg, bl_div, bl_32, bi_min, bi_max, bl_min, bl_max, bq_I, bq_J, bq_A, bq_Vi, bq_Vl, bq_Vr, bq_cV, bq_cI, bq_cJ, bq_cA, bq_le, bq_lt, bq_eq, bq_z, bq_o, bq_ref, bq_nz, bq_nzJ, bq_bl, bq_blz, bq_T, bq_F, if_true, if_false, Int.reduceEq, Int.reduceLT, Int.reduceLE, Int.reduceAdd, Int.reduceSub, Int.reduceMul, Int.add_sub_cancel, li_0, li_1, li_4, li_6, li_8, li_14, li_21, li_24, li_36, li_43, li_44, li_53, li_62, li_77, li_100, li_104, li_132, li_4035, li_4068, li_4069, li_4088, ll_0, ll_1, ll_4, ll_6, ll_8, ll_14, ll_21, ll_24, ll_36, ll_43, ll_44, ll_53, ll_62, ll_77, ll_100, ll_104, ll_132, ga103, ga105, ga119, ga120, ga106, ga107, ga108, ga109, ga110, ga111, ga116, ga118, ga104, ga112, ga114, ga115, ga117, ga113, ga121, gf102_5, gf102_13, gf102_14, gf102_0, gf102_6, gf102_7, gf102_8, gf102_9, gf102_10, gf102_11, gf102_12, gf102_15, gf102_19, gf102_20, gr102_1, gr102_2, gr102_3, gr102_4, gr102_16, gr102_17, gr102_18, gr102_21, gr102_22, gr102_23, gr102_24, gr102_25, gr102_26, gr102_27, gr102_28, gr102_29, gr102_30, gr102_31, gr102_32, pa103, pa105, pa119, pa120, pa106, pa107, pa108, pa109, pa110, pa111, pa116, pa118, pa104, pa112, pa114, pa115, pa117, pa113, pa121, pf102_5, pf102_13, pf102_14, pf102_0, pf102_6, pf102_7, pf102_8, pf102_9, pf102_10, pf102_11, pf102_12, pf102_15, pf102_19, pf102_20, s_within, t_isLost, t_fallen, t_isHurt, t_between, t_isPassage, t_isRoom, t_standNow, t_standsAll, t_isIn, t_noComing, t_noStand, t_bitsOf]
      by_cases c : s = to
      · rw [if_pos c]; exact fin _ (by rw [if_pos c])
      · rw [if_neg c]; exact fin _ (by rw [if_neg c])
    · rintro x ⟨s0, vl⟩
      rw [eX4_laysFound_14]
      simp (disch := first | assumption | omega) only [if_pos (Int.le_refl 36), bi_add, bi_sub, bi_mul, bi_neg, bi_div, bi_64, bl_add, bl_sub, bl_mul, bl_neg, bl_div, bl_32, bi_min, bi_max, bl_min, bl_max, bq_I, bq_J, bq_A, bq_Vi, bq_Vl, bq_Vr, bq_cV, bq_cI, bq_cJ, bq_cA, bq_le, bq_lt, bq_eq, bq_z, bq_o, bq_ref, bq_nz, bq_nzJ, bq_bl, bq_blz, bq_T, bq_F, if_true, if_false, Int.reduceEq, Int.reduceLT, Int.reduceLE, Int.reduceAdd, Int.reduceSub, Int.reduceMul, Int.add_sub_cancel, li_0, li_1, li_4, li_6, li_8, li_14, li_21, li_24, li_36, li_43, li_44, li_53, li_62, li_77, li_100, li_104, li_132, li_4035, li_4068, li_4069, li_4088, ll_0, ll_1, ll_4, ll_6, ll_8, ll_14, ll_21, ll_24, ll_36, ll_43, ll_44, ll_53, ll_62, ll_77, ll_100, ll_104, ll_132, ga103, ga105, ga119, ga120, ga106, ga107, ga108, ga109, ga110, ga111, ga116, ga118, ga104, ga112, ga114, ga115, ga117, ga113, ga121, gf102_5, gf102_13, gf102_14, gf102_0, gf102_6, gf102_7, gf102_8, gf102_9, gf102_10, gf102_11, gf102_12, gf102_15, gf102_19, gf102_20, gr102_1, gr102_2, gr102_3, gr102_4, gr102_16, gr102_17, gr102_18, gr102_21, gr102_22, gr102_23, gr102_24, gr102_25, gr102_26, gr102_27, gr102_28, gr102_29, gr102_30, gr102_31, gr102_32, pa103, pa105, pa119, pa120, pa106, pa107, pa108, pa109, pa110, pa111, pa116, pa118, pa104, pa112, pa114, pa115, pa117, pa113, pa121, pf102_5, pf102_13, pf102_14, pf102_0, pf102_6, pf102_7, pf102_8, pf102_9, pf102_10, pf102_11, pf102_12, pf102_15, pf102_19, pf102_20, s_within, t_isLost, t_fallen, t_isHurt, t_between, t_isPassage, t_isRoom, t_standNow, t_standsAll, t_isIn, t_noComing, t_noStand, t_bitsOf]
      refine bk_loop (σ := bFJ × Value) (fun t x => bk_den TX4_laysFound (bk_call d) 53 [.ref 102, .int (bk_i m), .int (bk_i r), .int (bk_i hu), .int (bk_i b), .int (bk_i t), x.2, bk_u, bk_u, bk_u, bk_u] [] (bk_M κ X (tp, tj, ts1, x.1) g n))
        (fun t x => 1 ≤ t ∧ ∀ k s, 0 ≤ k → k < t → 0 ≤ s → s < 6 * tp 103 1 → x.1 113 (36 * k + s) = bk_l (wy (Nb (nxt (tp 103) (tp 103 44)) b) to k.toNat s)) (m + 1) ?_ ?_ 1 (x, bk_u) (by omega) ⟨by omega, fun k s a b c e => ?_⟩
      · rintro t ⟨x, w⟩ ht ⟨t0, vl⟩ cont
        dsimp only at vl ⊢
        rw [eX4_laysFound_53]
        simp (disch := first | assumption | omega) only [if_neg (show ¬ m < t by omega), bi_add, bi_sub, bi_mul, bi_neg, bi_div, bi_64, bl_add, bl_sub, bl_mul, bl_neg, bl_div, bl_32, bi_min, bi_max, bl_min, bl_max, bq_I, bq_J, bq_A, bq_Vi, bq_Vl, bq_Vr, bq_cV, bq_cI, bq_cJ, bq_cA, bq_le, bq_lt, bq_eq, bq_z, bq_o, bq_ref, bq_nz, bq_nzJ, bq_bl, bq_blz, bq_T, bq_F, if_true, if_false, Int.reduceEq, Int.reduceLT, Int.reduceLE, Int.reduceAdd, Int.reduceSub, Int.reduceMul, Int.add_sub_cancel, li_0, li_1, li_4, li_6, li_8, li_14, li_21, li_24, li_36, li_43, li_44, li_53, li_62, li_77, li_100, li_104, li_132, li_4035, li_4068, li_4069, li_4088, ll_0, ll_1, ll_4, ll_6, ll_8, ll_14, ll_21, ll_24, ll_36, ll_43, ll_44, ll_53, ll_62, ll_77, ll_100, ll_104, ll_132, ga103, ga105, ga119, ga120, ga106, ga107, ga108, ga109, ga110, ga111, ga116, ga118, ga104, ga112, ga114, ga115, ga117, ga113, ga121, gf102_5, gf102_13, gf102_14, gf102_0, gf102_6, gf102_7, gf102_8, gf102_9, gf102_10, gf102_11, gf102_12, gf102_15, gf102_19, gf102_20, gr102_1, gr102_2, gr102_3, gr102_4, gr102_16, gr102_17, gr102_18, gr102_21, gr102_22, gr102_23, gr102_24, gr102_25, gr102_26, gr102_27, gr102_28, gr102_29, gr102_30, gr102_31, gr102_32, pa103, pa105, pa119, pa120, pa106, pa107, pa108, pa109, pa110, pa111, pa116, pa118, pa104, pa112, pa114, pa115, pa117, pa113, pa121, pf102_5, pf102_13, pf102_14, pf102_0, pf102_6, pf102_7, pf102_8, pf102_9, pf102_10, pf102_11, pf102_12, pf102_15, pf102_19, pf102_20, s_within, t_isLost, t_fallen, t_isHurt, t_between, t_isPassage, t_isRoom, t_standNow, t_standsAll, t_isIn, t_noComing, t_noStand, t_bitsOf]
        refine bk_loop (σ := bFJ × Value × Value) (fun s x => bk_den TX4_laysFound (bk_call d) 62 [.ref 102, .int (bk_i m), .int (bk_i r), .int (bk_i hu), .int (bk_i b), .int (bk_i t), .int (bk_i s), x.2.1, bk_u, x.2.2, bk_u] [] (bk_M κ X (tp, tj, ts1, x.1) g n))
          (fun s x => 0 ≤ s ∧ (∀ k s, 0 ≤ k → k < t → 0 ≤ s → s < 6 * tp 103 1 → x.1 113 (36 * k + s) = bk_l (wy (Nb (nxt (tp 103) (tp 103 44)) b) to k.toNat s)) ∧ ∀ u, 0 ≤ u → u < s → x.1 113 (36 * t + u) = bk_l (wy (Nb (nxt (tp 103) (tp 103 44)) b) to t.toNat u)) (6 * tp 103 1) ?_ ?_ 0 (x, bk_u, bk_u) (by omega) ⟨by omega, vl, fun u _ _ => by omega⟩
        · rintro s ⟨x, w1, w2⟩ hs ⟨s0, vl, vl2⟩ cont2
          dsimp only at vl vl2 ⊢
          rw [eX4_laysFound_62]
          simp (disch := first | assumption | omega) only [if_neg (show ¬ 6 * tp 103 1 ≤ s by omega), bi_add, bi_sub, bi_mul, bi_neg, bi_div, bi_64, bl_add, bl_sub, bl_mul, bl_neg, bl_div, bl_32, bi_min, bi_max, bl_min, bl_max, bq_I, bq_J, bq_A, bq_Vi, bq_Vl, bq_Vr, bq_cV, bq_cI, bq_cJ, bq_cA, bq_le, bq_lt, bq_eq, bq_z, bq_o, bq_ref, bq_nz, bq_nzJ, bq_bl, bq_blz, bq_T, bq_F, if_true, if_false, Int.reduceEq, Int.reduceLT, Int.reduceLE, Int.reduceAdd, Int.reduceSub, Int.reduceMul, Int.add_sub_cancel, li_0, li_1, li_4, li_6, li_8, li_14, li_21, li_24, li_36, li_43, li_44, li_53, li_62, li_77, li_100, li_104, li_132, li_4035, li_4068, li_4069, li_4088, ll_0, ll_1, ll_4, ll_6, ll_8, ll_14, ll_21, ll_24, ll_36, ll_43, ll_44, ll_53, ll_62, ll_77, ll_100, ll_104, ll_132, ga103, ga105, ga119, ga120, ga106, ga107, ga108, ga109, ga110, ga111, ga116, ga118, ga104, ga112, ga114, ga115, ga117, ga113, ga121, gf102_5, gf102_13, gf102_14, gf102_0, gf102_6, gf102_7, gf102_8, gf102_9, gf102_10, gf102_11, gf102_12, gf102_15, gf102_19, gf102_20, gr102_1, gr102_2, gr102_3, gr102_4, gr102_16, gr102_17, gr102_18, gr102_21, gr102_22, gr102_23, gr102_24, gr102_25, gr102_26, gr102_27, gr102_28, gr102_29, gr102_30, gr102_31, gr102_32, pa103, pa105, pa119, pa120, pa106, pa107, pa108, pa109, pa110, pa111, pa116, pa118, pa104, pa112, pa114, pa115, pa117, pa113, pa121, pf102_5, pf102_13, pf102_14, pf102_0, pf102_6, pf102_7, pf102_8, pf102_9, pf102_10, pf102_11, pf102_12, pf102_15, pf102_19, pf102_20, s_within, t_isLost, t_fallen, t_isHurt, t_between, t_isPassage, t_isRoom, t_standNow, t_standsAll, t_isIn, t_noComing, t_noStand, t_bitsOf]
          refine bk_loop (σ := Value) (fun p w => bk_den TX4_laysFound (bk_call d) 77 [.ref 102, .int (bk_i m), .int (bk_i r), .int (bk_i hu), .int (bk_i b), .int (bk_i t), .int (bk_i s), .long (bk_l (sw (Nb (nxt (tp 103) (tp 103 44)) b) (wy (Nb (nxt (tp 103) (tp 103 44)) b) to (t - 1).toNat) s p.toNat)), bk_u, .int (bk_i p), w] [] (bk_M κ X (tp, tj, ts1, x) g n)) (fun p _ => 0 ≤ p) 8 ?_ ?_ 0 bk_u (by omega) (by omega)
          · rintro p w hp p0 cont3
            have np := hN s p s0 hs p0 hp
            have c := cont3 (.int (bk_i (nxt (tp 103) (tp 103 44) s p))) (by omega)
            rw [sw_succ _ _ _ p0] at c
            rw [eX4_laysFound_77]
            simp (disch := first | assumption | omega) only [if_neg (show ¬ 8 ≤ p by omega), v1 s p s0 hs p0 hp, eX4_laysFound_132, bi_add, bi_sub, bi_mul, bi_neg, bi_div, bi_64, bl_add, bl_sub, bl_mul, bl_neg, bl_div, bl_32, bi_min, bi_max, bl_min, bl_max, bq_I, bq_J, bq_A, bq_Vi, bq_Vl, bq_Vr, bq_cV, bq_cI, bq_cJ, bq_cA, bq_le, bq_lt, bq_eq, bq_z, bq_o, bq_ref, bq_nz, bq_nzJ, bq_bl, bq_blz, bq_T, bq_F, if_true, if_false, Int.reduceEq, Int.reduceLT, Int.reduceLE, Int.reduceAdd, Int.reduceSub, Int.reduceMul, Int.add_sub_cancel, li_0, li_1, li_4, li_6, li_8, li_14, li_21, li_24, li_36, li_43, li_44, li_53, li_62, li_77, li_100, li_104, li_132, li_4035, li_4068, li_4069, li_4088, ll_0, ll_1, ll_4, ll_6, ll_8, ll_14, ll_21, ll_24, ll_36, ll_43, ll_44, ll_53, ll_62, ll_77, ll_100, ll_104, ll_132, ga103, ga105, ga119, ga120, ga106, ga107, ga108, ga109, ga110, ga111, ga116, ga118, ga104, ga112, ga114, ga115, ga117, ga113, ga121, gf102_5, gf102_13, gf102_14, gf102_0, gf102_6, gf102_7, gf102_8, gf102_9, gf102_10, gf102_11, gf102_12, gf102_15, gf102_19, gf102_20, gr102_1, gr102_2, gr102_3, gr102_4, gr102_16, gr102_17, gr102_18, gr102_21, gr102_22, gr102_23, gr102_24, gr102_25, gr102_26, gr102_27, gr102_28, gr102_29, gr102_30, gr102_31, gr102_32, pa103, pa105, pa119, pa120, pa106, pa107, pa108, pa109, pa110, pa111, pa116, pa118, pa104, pa112, pa114, pa115, pa117, pa113, pa121, pf102_5, pf102_13, pf102_14, pf102_0, pf102_6, pf102_7, pf102_8, pf102_9, pf102_10, pf102_11, pf102_12, pf102_15, pf102_19, pf102_20, s_within, t_isLost, t_fallen, t_isHurt, t_between, t_isPassage, t_isRoom, t_standNow, t_standsAll, t_isIn, t_noComing, t_noStand, t_bitsOf]
            by_cases q : nxt (tp 103) (tp 103 44) s p = -1
            · have nb : Nb (nxt (tp 103) (tp 103 44)) b s p = -1 := by unfold Nb; rw [q]; split <;> rfl
              rw [if_pos nb] at c
              rw [if_pos q]
              simp only [Int.add_zero] at c
              exact c
            · rw [if_neg q]
              by_cases q2 : p = b
              · have nb : Nb (nxt (tp 103) (tp 103 44)) b s p = -1 := by unfold Nb; rw [if_pos q2]
                rw [if_pos nb] at c
                rw [if_pos q2]
                simp only [Int.add_zero] at c
                exact c
              · have nb : Nb (nxt (tp 103) (tp 103 44)) b s p = nxt (tp 103) (tp 103 44) s p := by unfold Nb; rw [if_neg q2]
                rw [nb, if_neg q] at c
                have e := vl (t - 1) (nxt (tp 103) (tp 103 44) s p) (by omega) (by omega) (by omega) (by omega)
                rw [if_neg q2]
                simp (disch := first | assumption | omega) only [e, eX4_laysFound_132, bi_add, bi_sub, bi_mul, bi_neg, bi_div, bi_64, bl_add, bl_sub, bl_mul, bl_neg, bl_div, bl_32, bi_min, bi_max, bl_min, bl_max, bq_I, bq_J, bq_A, bq_Vi, bq_Vl, bq_Vr, bq_cV, bq_cI, bq_cJ, bq_cA, bq_le, bq_lt, bq_eq, bq_z, bq_o, bq_ref, bq_nz, bq_nzJ, bq_bl, bq_blz, bq_T, bq_F, if_true, if_false, Int.reduceEq, Int.reduceLT, Int.reduceLE, Int.reduceAdd, Int.reduceSub, Int.reduceMul, Int.add_sub_cancel, li_0, li_1, li_4, li_6, li_8, li_14, li_21, li_24, li_36, li_43, li_44, li_53, li_62, li_77, li_100, li_104, li_132, li_4035, li_4068, li_4069, li_4088, ll_0, ll_1, ll_4, ll_6, ll_8, ll_14, ll_21, ll_24, ll_36, ll_43, ll_44, ll_53, ll_62, ll_77, ll_100, ll_104, ll_132, ga103, ga105, ga119, ga120, ga106, ga107, ga108, ga109, ga110, ga111, ga116, ga118, ga104, ga112, ga114, ga115, ga117, ga113, ga121, gf102_5, gf102_13, gf102_14, gf102_0, gf102_6, gf102_7, gf102_8, gf102_9, gf102_10, gf102_11, gf102_12, gf102_15, gf102_19, gf102_20, gr102_1, gr102_2, gr102_3, gr102_4, gr102_16, gr102_17, gr102_18, gr102_21, gr102_22, gr102_23, gr102_24, gr102_25, gr102_26, gr102_27, gr102_28, gr102_29, gr102_30, gr102_31, gr102_32, pa103, pa105, pa119, pa120, pa106, pa107, pa108, pa109, pa110, pa111, pa116, pa118, pa104, pa112, pa114, pa115, pa117, pa113, pa121, pf102_5, pf102_13, pf102_14, pf102_0, pf102_6, pf102_7, pf102_8, pf102_9, pf102_10, pf102_11, pf102_12, pf102_15, pf102_19, pf102_20, s_within, t_isLost, t_fallen, t_isHurt, t_between, t_isPassage, t_isRoom, t_standNow, t_standsAll, t_isIn, t_noComing, t_noStand, t_bitsOf]
                exact c
          · rintro w p0
            have cut : sw (Nb (nxt (tp 103) (tp 103 44)) b) (wy (Nb (nxt (tp 103) (tp 103 44)) b) to (t - 1).toNat) s (8 : Int).toNat = wy (Nb (nxt (tp 103) (tp 103 44)) b) to t.toNat s := by
              have e : t.toNat = (t - 1).toNat + 1 := by omega
              rw [e]; rfl
            rw [eX4_laysFound_77]
            simp (disch := first | assumption | omega) only [if_pos (Int.le_refl 8), cut, bi_add, bi_sub, bi_mul, bi_neg, bi_div, bi_64, bl_add, bl_sub, bl_mul, bl_neg, bl_div, bl_32, bi_min, bi_max, bl_min, bl_max, bq_I, bq_J, bq_A, bq_Vi, bq_Vl, bq_Vr, bq_cV, bq_cI, bq_cJ, bq_cA, bq_le, bq_lt, bq_eq, bq_z, bq_o, bq_ref, bq_nz, bq_nzJ, bq_bl, bq_blz, bq_T, bq_F, if_true, if_false, Int.reduceEq, Int.reduceLT, Int.reduceLE, Int.reduceAdd, Int.reduceSub, Int.reduceMul, Int.add_sub_cancel, li_0, li_1, li_4, li_6, li_8, li_14, li_21, li_24, li_36, li_43, li_44, li_53, li_62, li_77, li_100, li_104, li_132, li_4035, li_4068, li_4069, li_4088, ll_0, ll_1, ll_4, ll_6, ll_8, ll_14, ll_21, ll_24, ll_36, ll_43, ll_44, ll_53, ll_62, ll_77, ll_100, ll_104, ll_132, ga103, ga105, ga119, ga120, ga106, ga107, ga108, ga109, ga110, ga111, ga116, ga118, ga104, ga112, ga114, ga115, ga117, ga113, ga121, gf102_5, gf102_13, gf102_14, gf102_0, gf102_6, gf102_7, gf102_8, gf102_9, gf102_10, gf102_11, gf102_12, gf102_15, gf102_19, gf102_20, gr102_1, gr102_2, gr102_3, gr102_4, gr102_16, gr102_17, gr102_18, gr102_21, gr102_22, gr102_23, gr102_24, gr102_25, gr102_26, gr102_27, gr102_28, gr102_29, gr102_30, gr102_31, gr102_32, pa103, pa105, pa119, pa120, pa106, pa107, pa108, pa109, pa110, pa111, pa116, pa118, pa104, pa112, pa114, pa115, pa117, pa113, pa121, pf102_5, pf102_13, pf102_14, pf102_0, pf102_6, pf102_7, pf102_8, pf102_9, pf102_10, pf102_11, pf102_12, pf102_15, pf102_19, pf102_20, s_within, t_isLost, t_fallen, t_isHurt, t_between, t_isPassage, t_isRoom, t_standNow, t_standsAll, t_isIn, t_noComing, t_noStand, t_bitsOf]
            refine cont2 (bUJ x 113 (36 * t + s) (bk_l (wy (Nb (nxt (tp 103) (tp 103 44)) b) to t.toNat s)), .long (bk_l (wy (Nb (nxt (tp 103) (tp 103 44)) b) to t.toNat s)), .int (bk_i 8)) ⟨by omega, fun k u a b c e => ?_, fun u a b => ?_⟩
            · show bUJ x 113 (36 * t + s) _ 113 (36 * k + u) = _
              rw [bUJ_same, if_neg (by omega)]; exact vl k u a b c e
            · show bUJ x 113 (36 * t + s) _ 113 (36 * t + u) = _
              rw [bUJ_same]
              by_cases c : u = s
              · subst c; rw [if_pos rfl]
              · rw [if_neg (by omega)]; exact vl2 u a (by omega)
        · rintro ⟨x, w1, w2⟩ ⟨s0, vl, vl2⟩
          dsimp only at vl vl2 ⊢
          rw [eX4_laysFound_62]
          simp (disch := first | assumption | omega) only [if_pos (Int.le_refl (6 * tp 103 1)), bi_add, bi_sub, bi_mul, bi_neg, bi_div, bi_64, bl_add, bl_sub, bl_mul, bl_neg, bl_div, bl_32, bi_min, bi_max, bl_min, bl_max, bq_I, bq_J, bq_A, bq_Vi, bq_Vl, bq_Vr, bq_cV, bq_cI, bq_cJ, bq_cA, bq_le, bq_lt, bq_eq, bq_z, bq_o, bq_ref, bq_nz, bq_nzJ, bq_bl, bq_blz, bq_T, bq_F, if_true, if_false, Int.reduceEq, Int.reduceLT, Int.reduceLE, Int.reduceAdd, Int.reduceSub, Int.reduceMul, Int.add_sub_cancel, li_0, li_1, li_4, li_6, li_8, li_14, li_21, li_24, li_36, li_43, li_44, li_53, li_62, li_77, li_100, li_104, li_132, li_4035, li_4068, li_4069, li_4088, ll_0, ll_1, ll_4, ll_6, ll_8, ll_14, ll_21, ll_24, ll_36, ll_43, ll_44, ll_53, ll_62, ll_77, ll_100, ll_104, ll_132, ga103, ga105, ga119, ga120, ga106, ga107, ga108, ga109, ga110, ga111, ga116, ga118, ga104, ga112, ga114, ga115, ga117, ga113, ga121, gf102_5, gf102_13, gf102_14, gf102_0, gf102_6, gf102_7, gf102_8, gf102_9, gf102_10, gf102_11, gf102_12, gf102_15, gf102_19, gf102_20, gr102_1, gr102_2, gr102_3, gr102_4, gr102_16, gr102_17, gr102_18, gr102_21, gr102_22, gr102_23, gr102_24, gr102_25, gr102_26, gr102_27, gr102_28, gr102_29, gr102_30, gr102_31, gr102_32, pa103, pa105, pa119, pa120, pa106, pa107, pa108, pa109, pa110, pa111, pa116, pa118, pa104, pa112, pa114, pa115, pa117, pa113, pa121, pf102_5, pf102_13, pf102_14, pf102_0, pf102_6, pf102_7, pf102_8, pf102_9, pf102_10, pf102_11, pf102_12, pf102_15, pf102_19, pf102_20, s_within, t_isLost, t_fallen, t_isHurt, t_between, t_isPassage, t_isRoom, t_standNow, t_standsAll, t_isIn, t_noComing, t_noStand, t_bitsOf]
          refine cont (x, .int (bk_i (6 * tp 103 1))) ⟨by omega, fun k u a b c e => ?_⟩
          by_cases z : k = t
          · subst z; exact vl2 u c e
          · exact vl k u a (by omega) c e
      · rintro ⟨x, w⟩ ⟨t0, vl⟩
        dsimp only at vl ⊢
        have e := vl m (6 * tp 103 42 + tp 103 43) m0 (by omega) (by omega) (by omega)
        rw [eX4_laysFound_53]
        simp (disch := first | assumption | omega) only [if_pos (show m < m + 1 by omega), e, bi_add, bi_sub, bi_mul, bi_neg, bi_div, bi_64, bl_add, bl_sub, bl_mul, bl_neg, bl_div, bl_32, bi_min, bi_max, bl_min, bl_max, bq_I, bq_J, bq_A, bq_Vi, bq_Vl, bq_Vr, bq_cV, bq_cI, bq_cJ, bq_cA, bq_le, bq_lt, bq_eq, bq_z, bq_o, bq_ref, bq_nz, bq_nzJ, bq_bl, bq_blz, bq_T, bq_F, if_true, if_false, Int.reduceEq, Int.reduceLT, Int.reduceLE, Int.reduceAdd, Int.reduceSub, Int.reduceMul, Int.add_sub_cancel, li_0, li_1, li_4, li_6, li_8, li_14, li_21, li_24, li_36, li_43, li_44, li_53, li_62, li_77, li_100, li_104, li_132, li_4035, li_4068, li_4069, li_4088, ll_0, ll_1, ll_4, ll_6, ll_8, ll_14, ll_21, ll_24, ll_36, ll_43, ll_44, ll_53, ll_62, ll_77, ll_100, ll_104, ll_132, ga103, ga105, ga119, ga120, ga106, ga107, ga108, ga109, ga110, ga111, ga116, ga118, ga104, ga112, ga114, ga115, ga117, ga113, ga121, gf102_5, gf102_13, gf102_14, gf102_0, gf102_6, gf102_7, gf102_8, gf102_9, gf102_10, gf102_11, gf102_12, gf102_15, gf102_19, gf102_20, gr102_1, gr102_2, gr102_3, gr102_4, gr102_16, gr102_17, gr102_18, gr102_21, gr102_22, gr102_23, gr102_24, gr102_25, gr102_26, gr102_27, gr102_28, gr102_29, gr102_30, gr102_31, gr102_32, pa103, pa105, pa119, pa120, pa106, pa107, pa108, pa109, pa110, pa111, pa116, pa118, pa104, pa112, pa114, pa115, pa117, pa113, pa121, pf102_5, pf102_13, pf102_14, pf102_0, pf102_6, pf102_7, pf102_8, pf102_9, pf102_10, pf102_11, pf102_12, pf102_15, pf102_19, pf102_20, s_within, t_isLost, t_fallen, t_isHurt, t_between, t_isPassage, t_isRoom, t_standNow, t_standsAll, t_isIn, t_noComing, t_noStand, t_bitsOf]
        exact ⟨_, _, rfl, x, rfl, rfl, fun k s a b c e => vl k s a (by omega) c e⟩
      · have z : k = 0 := by omega
        subst z
        have e2 : 36 * 0 + s = s := by omega
        show x 113 (36 * 0 + s) = _
        rw [e2]; exact vl s c (by omega)
  obtain ⟨z, h', e, tk', rfl, rfl, h2⟩ := goal
  exact ⟨ts1, tk', v1, h2, e⟩
theorem wy_Nb1 {N : Int → Int → Int} {R to : Int} (hN : isN N R) (k : Nat) {s : Int} (s0 : 0 ≤ s) (s1 : s < R) : wy (Nb N (-1)) to k s = wy N to k s :=
  wy_ext (Nb_N hN _) (fun s p _ _ p0 _ => by unfold Nb; rw [if_neg (by omega)]) k s s0 s1
theorem m_found (h : bTt g (tp 103)) (h0 : -2147483648 ≤ m) (h00 : m < 2147483648) (h3 : -2147483648 ≤ r) (h4 : r < 2147483648) (h5 : -2147483648 ≤ hu) (h6 : hu < 2147483648) (hD : 9 ≤ D) :
    bk_wp (bk_call D 4086 [.ref 102, .int (bk_i m), .int (bk_i r), .int (bk_i hu)] (bk_M κ X (tp, tj, ts, tk) g n)) (bTqJ κ X tp tj g n (rFound (tp 103) m r hu)) := by
  obtain ⟨d, rfl⟩ := dep hD
  have st := bTt_st h
  have ht := h
  have fr := fF_rng (tp 103) m r hu
  obtain ⟨hF, hw, hs⟩ := h
  have ef := t_noFound (κ := κ) (X := X) (tp := tp) (ts := bU ts 102 0 0) (tj := tj) (tk := tk) (n := n) (D := d) hF (by omega) (by omega) h0 h00 h3 h4 h5 h6 (by omega)
  rw [kX4_found, eX4_found_0]
  simp (disch := first | assumption | omega) only [ef, bi_add, bi_sub, bi_mul, bi_neg, bi_div, bi_64, bl_add, bl_sub, bl_mul, bl_neg, bl_div, bl_32, bi_min, bi_max, bl_min, bl_max, bq_I, bq_J, bq_A, bq_Vi, bq_Vl, bq_Vr, bq_cV, bq_cI, bq_cJ, bq_cA, bq_le, bq_lt, bq_eq, bq_z, bq_o, bq_ref, bq_nz, bq_nzJ, bq_bl, bq_blz, bq_T, bq_F, if_true, if_false, Int.reduceEq, Int.reduceLT, Int.reduceLE, Int.reduceAdd, Int.reduceSub, Int.reduceMul, Int.add_sub_cancel, li_0, li_1, li_4, li_4086, li_4087, li_4088, ll_0, ll_1, ll_4, ga103, ga105, ga119, ga120, ga106, ga107, ga108, ga109, ga110, ga111, ga116, ga118, ga104, ga112, ga114, ga115, ga117, ga113, ga121, gf102_5, gf102_13, gf102_14, gf102_0, gf102_6, gf102_7, gf102_8, gf102_9, gf102_10, gf102_11, gf102_12, gf102_15, gf102_19, gf102_20, gr102_1, gr102_2, gr102_3, gr102_4, gr102_16, gr102_17, gr102_18, gr102_21, gr102_22, gr102_23, gr102_24, gr102_25, gr102_26, gr102_27, gr102_28, gr102_29, gr102_30, gr102_31, gr102_32, pa103, pa105, pa119, pa120, pa106, pa107, pa108, pa109, pa110, pa111, pa116, pa118, pa104, pa112, pa114, pa115, pa117, pa113, pa121, pf102_5, pf102_13, pf102_14, pf102_0, pf102_6, pf102_7, pf102_8, pf102_9, pf102_10, pf102_11, pf102_12, pf102_15, pf102_19, pf102_20, s_within, t_isLost, t_fallen, t_isHurt, t_between, t_isPassage, t_isRoom, t_standNow, t_standsAll, t_isIn, t_noComing, t_noStand, t_bitsOf]
  by_cases q : fF (tp 103) m r hu = 0
  · have q' := fF_0 q
    obtain ⟨ts1, tk1, v1, v2, e1⟩ := t_laysFound (κ := κ) (X := X) (ts := bU ts 102 0 0) (tj := tj) (tk := tk) (n := n) (D := d) (m := m) (r := r) (hu := hu) (b := -1) ht (by omega) (by omega) (by omega) (by omega) (by omega) (by omega) (by omega) (by omega) (by omega)
    rw [if_pos q]
    simp (disch := first | assumption | omega) only [e1, bi_add, bi_sub, bi_mul, bi_neg, bi_div, bi_64, bl_add, bl_sub, bl_mul, bl_neg, bl_div, bl_32, bi_min, bi_max, bl_min, bl_max, bq_I, bq_J, bq_A, bq_Vi, bq_Vl, bq_Vr, bq_cV, bq_cI, bq_cJ, bq_cA, bq_le, bq_lt, bq_eq, bq_z, bq_o, bq_ref, bq_nz, bq_nzJ, bq_bl, bq_blz, bq_T, bq_F, if_true, if_false, Int.reduceEq, Int.reduceLT, Int.reduceLE, Int.reduceAdd, Int.reduceSub, Int.reduceMul, Int.add_sub_cancel, li_0, li_1, li_4, li_4086, li_4087, li_4088, ll_0, ll_1, ll_4, ga103, ga105, ga119, ga120, ga106, ga107, ga108, ga109, ga110, ga111, ga116, ga118, ga104, ga112, ga114, ga115, ga117, ga113, ga121, gf102_5, gf102_13, gf102_14, gf102_0, gf102_6, gf102_7, gf102_8, gf102_9, gf102_10, gf102_11, gf102_12, gf102_15, gf102_19, gf102_20, gr102_1, gr102_2, gr102_3, gr102_4, gr102_16, gr102_17, gr102_18, gr102_21, gr102_22, gr102_23, gr102_24, gr102_25, gr102_26, gr102_27, gr102_28, gr102_29, gr102_30, gr102_31, gr102_32, pa103, pa105, pa119, pa120, pa106, pa107, pa108, pa109, pa110, pa111, pa116, pa118, pa104, pa112, pa114, pa115, pa117, pa113, pa121, pf102_5, pf102_13, pf102_14, pf102_0, pf102_6, pf102_7, pf102_8, pf102_9, pf102_10, pf102_11, pf102_12, pf102_15, pf102_19, pf102_20, s_within, t_isLost, t_fallen, t_isHurt, t_between, t_isPassage, t_isRoom, t_standNow, t_standsAll, t_isIn, t_noComing, t_noStand, t_bitsOf]
    exact ⟨_, _, rfl, ts1, tk1, _, rfl, rfl, Or.inr ⟨q, wy_Nb1 (nxt_N hw _ (Int.le_refl _)) _ (by omega) (by omega)⟩⟩
  · rw [if_neg q]
    exact ⟨_, _, rfl, _, tk, _, rfl, rfl, Or.inl ⟨q, rfl⟩⟩
theorem m_foundBy (h : bTt g (tp 103)) (h0 : -2147483648 ≤ m) (h00 : m < 2147483648) (h3 : -2147483648 ≤ r) (h4 : r < 2147483648) (h5 : -2147483648 ≤ hu) (h6 : hu < 2147483648) (h7 : -2147483648 ≤ i) (h8 : i < 2147483648) (hD : 9 ≤ D) :
    bk_wp (bk_call D 4089 [.ref 102, .int (bk_i m), .int (bk_i r), .int (bk_i hu), .int (bk_i i)] (bk_M κ X (tp, tj, ts, tk) g n)) (bTq κ X tp tj g n (rFB (tp 103) m r hu i)) := by
  obtain ⟨d, rfl⟩ := dep hD
  have st := bTt_st h
  have ht := h
  have fr := fF_rng (tp 103) m r hu
  obtain ⟨hF, hw, hs⟩ := h
  have hN := nxt_N hw (tp 103 44) (Int.le_refl (6 * tp 103 1))
  have ef := t_noFound (κ := κ) (X := X) (tp := tp) (ts := bU ts 102 0 0) (tj := tj) (tk := tk) (n := n) (D := d) hF (by omega) (by omega) h0 h00 h3 h4 h5 h6 (by omega)
  rw [kX4_foundBy, eX4_foundBy_0]
  simp (disch := first | assumption | omega) only [ef, bi_add, bi_sub, bi_mul, bi_neg, bi_div, bi_64, bl_add, bl_sub, bl_mul, bl_neg, bl_div, bl_32, bi_min, bi_max, bl_min, bl_max, bq_I, bq_J, bq_A, bq_Vi, bq_Vl, bq_Vr, bq_cV, bq_cI, bq_cJ, bq_cA, bq_le, bq_lt, bq_eq, bq_z, bq_o, bq_ref, bq_nz, bq_nzJ, bq_bl, bq_blz, bq_T, bq_F, if_true, if_false, Int.reduceEq, Int.reduceLT, Int.reduceLE, Int.reduceAdd, Int.reduceSub, Int.reduceMul, Int.add_sub_cancel, li_0, li_1, li_3, li_4, li_8, li_21, li_24, li_36, li_60, li_63, li_100, li_104, li_113, li_4035, li_4087, li_4088, li_4089, ll_0, ll_1, ll_3, ll_4, ll_8, ll_21, ll_24, ll_36, ll_60, ll_63, ll_100, ll_104, ll_113, ga103, ga105, ga119, ga120, ga106, ga107, ga108, ga109, ga110, ga111, ga116, ga118, ga104, ga112, ga114, ga115, ga117, ga113, ga121, gf102_5, gf102_13, gf102_14, gf102_0, gf102_6, gf102_7, gf102_8, gf102_9, gf102_10, gf102_11, gf102_12, gf102_15, gf102_19, gf102_20, gr102_1, gr102_2, gr102_3, gr102_4, gr102_16, gr102_17, gr102_18, gr102_21, gr102_22, gr102_23, gr102_24, gr102_25, gr102_26, gr102_27, gr102_28, gr102_29, gr102_30, gr102_31, gr102_32, pa103, pa105, pa119, pa120, pa106, pa107, pa108, pa109, pa110, pa111, pa116, pa118, pa104, pa112, pa114, pa115, pa117, pa113, pa121, pf102_5, pf102_13, pf102_14, pf102_0, pf102_6, pf102_7, pf102_8, pf102_9, pf102_10, pf102_11, pf102_12, pf102_15, pf102_19, pf102_20, s_within, t_isLost, t_fallen, t_isHurt, t_between, t_isPassage, t_isRoom, t_standNow, t_standsAll, t_isIn, t_noComing, t_noStand, t_bitsOf]
  by_cases q : fF (tp 103) m r hu = 0
  · have q' := fF_0 q
    rw [if_pos q, q]
    by_cases q2 : 0 ≤ i
    · rw [if_pos q2]
      obtain ⟨ts1, tk1, v1, v2', e1⟩ := t_laysFound (κ := κ) (X := X) (ts := bU ts 102 0 0) (tj := tj) (tk := tk) (n := n) (D := d) (m := m) (r := r) (hu := hu) (b := -1) ht (by omega) (by omega) (by omega) (by omega) (by omega) (by omega) (by omega) (by omega) (by omega)
      have v2 : ∀ k s, 0 ≤ k → k ≤ m → 0 ≤ s → s < 6 * tp 103 1 → tk1 113 (36 * k + s) = bk_l (wy (nxt (tp 103) (tp 103 44)) (6 * r + hu) k.toNat s) := fun k s a b c e => by rw [v2' k s a b c e, wy_Nb1 hN _ c e]
      rw [wy_Nb1 hN _ (by omega) (by omega)] at e1
      generalize hto : 6 * r + hu = to at e1 v2
      generalize hst : 6 * tp 103 42 + tp 103 43 = st0 at st e1
      have wb := wy_b (to := to) hN (k := m.toNat) (by omega) (s := st0) st.1 (by omega)
      simp (disch := first | assumption | omega) only [e1, lc0, hst, bi_add, bi_sub, bi_mul, bi_neg, bi_div, bi_64, bl_add, bl_sub, bl_mul, bl_neg, bl_div, bl_32, bi_min, bi_max, bl_min, bl_max, bq_I, bq_J, bq_A, bq_Vi, bq_Vl, bq_Vr, bq_cV, bq_cI, bq_cJ, bq_cA, bq_le, bq_lt, bq_eq, bq_z, bq_o, bq_ref, bq_nz, bq_nzJ, bq_bl, bq_blz, bq_T, bq_F, if_true, if_false, Int.reduceEq, Int.reduceLT, Int.reduceLE, Int.reduceAdd, Int.reduceSub, Int.reduceMul, Int.add_sub_cancel, li_0, li_1, li_3, li_4, li_8, li_21, li_24, li_36, li_60, li_63, li_100, li_104, li_113, li_4035, li_4087, li_4088, li_4089, ll_0, ll_1, ll_3, ll_4, ll_8, ll_21, ll_24, ll_36, ll_60, ll_63, ll_100, ll_104, ll_113, ga103, ga105, ga119, ga120, ga106, ga107, ga108, ga109, ga110, ga111, ga116, ga118, ga104, ga112, ga114, ga115, ga117, ga113, ga121, gf102_5, gf102_13, gf102_14, gf102_0, gf102_6, gf102_7, gf102_8, gf102_9, gf102_10, gf102_11, gf102_12, gf102_15, gf102_19, gf102_20, gr102_1, gr102_2, gr102_3, gr102_4, gr102_16, gr102_17, gr102_18, gr102_21, gr102_22, gr102_23, gr102_24, gr102_25, gr102_26, gr102_27, gr102_28, gr102_29, gr102_30, gr102_31, gr102_32, pa103, pa105, pa119, pa120, pa106, pa107, pa108, pa109, pa110, pa111, pa116, pa118, pa104, pa112, pa114, pa115, pa117, pa113, pa121, pf102_5, pf102_13, pf102_14, pf102_0, pf102_6, pf102_7, pf102_8, pf102_9, pf102_10, pf102_11, pf102_12, pf102_15, pf102_19, pf102_20, s_within, t_isLost, t_fallen, t_isHurt, t_between, t_isPassage, t_isRoom, t_standNow, t_standsAll, t_isIn, t_noComing, t_noStand, t_bitsOf]
      by_cases q3 : wy (nxt (tp 103) (tp 103 44)) to m.toNat st0 = 0
      · rw [if_pos q3]
        exact ⟨_, _, rfl, ts1, tk1, _, rfl, rfl, Or.inr (Or.inr ⟨q, q2, by rw [hto, hst, if_pos (Or.inl q3)]⟩)⟩
      · rw [if_neg q3]
        by_cases q4 : i < m
        · rw [if_pos q4]
          have z0 : st0 = posF (nxt (tp 103) (tp 103 44)) to m.toNat st0 (0 : Int).toNat := rfl
          have find : ∀ (k : Int) (w : Value) (Q : Option Value → bk_H → Prop), 0 ≤ k → k < m → bk_wp (bk_den TX4_foundBy (bk_call d) 63 [.ref 102, .int (bk_i m), .int (bk_i r), .int (bk_i hu), .int (bk_i i), .int (bk_i 0), .int (bk_i (posF (nxt (tp 103) (tp 103 44)) to m.toNat st0 k.toNat)), .int (bk_i k), .int (bk_i (stpF (nxt (tp 103) (tp 103 44)) (wy (nxt (tp 103) (tp 103 44)) to (m.toNat - (k.toNat + 1))) (posF (nxt (tp 103) (tp 103 44)) to m.toNat st0 k.toNat)))] [] (bk_M κ X (tp, tj, ts1, tk1) g n)) Q
              → bk_wp (bk_den TX4_foundBy (bk_call d) 60 [.ref 102, .int (bk_i m), .int (bk_i r), .int (bk_i hu), .int (bk_i i), .int (bk_i 0), .int (bk_i (posF (nxt (tp 103) (tp 103 44)) to m.toNat st0 k.toNat)), .int (bk_i k), w] [] (bk_M κ X (tp, tj, ts1, tk1) g n)) Q := by
            intro k w Q k0 km hQ
            obtain ⟨p0, p1, p2⟩ := posF_is hN st.1 st.2.1 q3 k.toNat (by omega)
            have ek : m.toNat - k.toNat = (m.toNat - (k.toNat + 1)) + 1 := by omega
            rw [ek] at p2
            have si := stpF_is p2
            have em : (m - k - 1).toNat = m.toNat - (k.toNat + 1) := by omega
            generalize posF (nxt (tp 103) (tp 103 44)) to m.toNat st0 k.toNat = u at p0 p1 p2 si hQ ⊢
            rw [eX4_foundBy_60]
            refine bk_loop (σ := Unit) (fun p _ => bk_den TX4_foundBy (bk_call d) 63 [.ref 102, .int (bk_i m), .int (bk_i r), .int (bk_i hu), .int (bk_i i), .int (bk_i 0), .int (bk_i u), .int (bk_i k), .int (bk_i p)] [] (bk_M κ X (tp, tj, ts1, tk1) g n)) (fun p _ => 0 ≤ p) (stpF (nxt (tp 103) (tp 103 44)) (wy (nxt (tp 103) (tp 103 44)) to (m.toNat - (k.toNat + 1))) u) ?_ (fun _ _ => hQ) 0 () si.1 (by omega)
            rintro p - hp pp0 cont
            have np := hN u p p0 p1 pp0 (by omega)
            have no := si.2.2.2.2 p pp0 hp
            rw [eX4_foundBy_63]
            simp (disch := first | assumption | omega) only [v1 u p p0 p1 pp0 (by omega), eX4_foundBy_113, bi_add, bi_sub, bi_mul, bi_neg, bi_div, bi_64, bl_add, bl_sub, bl_mul, bl_neg, bl_div, bl_32, bi_min, bi_max, bl_min, bl_max, bq_I, bq_J, bq_A, bq_Vi, bq_Vl, bq_Vr, bq_cV, bq_cI, bq_cJ, bq_cA, bq_le, bq_lt, bq_eq, bq_z, bq_o, bq_ref, bq_nz, bq_nzJ, bq_bl, bq_blz, bq_T, bq_F, if_true, if_false, Int.reduceEq, Int.reduceLT, Int.reduceLE, Int.reduceAdd, Int.reduceSub, Int.reduceMul, Int.add_sub_cancel, li_0, li_1, li_3, li_4, li_8, li_21, li_24, li_36, li_60, li_63, li_100, li_104, li_113, li_4035, li_4087, li_4088, li_4089, ll_0, ll_1, ll_3, ll_4, ll_8, ll_21, ll_24, ll_36, ll_60, ll_63, ll_100, ll_104, ll_113, ga103, ga105, ga119, ga120, ga106, ga107, ga108, ga109, ga110, ga111, ga116, ga118, ga104, ga112, ga114, ga115, ga117, ga113, ga121, gf102_5, gf102_13, gf102_14, gf102_0, gf102_6, gf102_7, gf102_8, gf102_9, gf102_10, gf102_11, gf102_12, gf102_15, gf102_19, gf102_20, gr102_1, gr102_2, gr102_3, gr102_4, gr102_16, gr102_17, gr102_18, gr102_21, gr102_22, gr102_23, gr102_24, gr102_25, gr102_26, gr102_27, gr102_28, gr102_29, gr102_30, gr102_31, gr102_32, pa103, pa105, pa119, pa120, pa106, pa107, pa108, pa109, pa110, pa111, pa116, pa118, pa104, pa112, pa114, pa115, pa117, pa113, pa121, pf102_5, pf102_13, pf102_14, pf102_0, pf102_6, pf102_7, pf102_8, pf102_9, pf102_10, pf102_11, pf102_12, pf102_15, pf102_19, pf102_20, s_within, t_isLost, t_fallen, t_isHurt, t_between, t_isPassage, t_isRoom, t_standNow, t_standsAll, t_isIn, t_noComing, t_noStand, t_bitsOf]
            by_cases c : nxt (tp 103) (tp 103 44) u p = -1
            · rw [if_pos c]; exact cont () (by omega)
            · have wz : wy (nxt (tp 103) (tp 103 44)) to (m.toNat - (k.toNat + 1)) (nxt (tp 103) (tp 103 44) u p) = 0 := by
                by_cases z : wy (nxt (tp 103) (tp 103 44)) to (m.toNat - (k.toNat + 1)) (nxt (tp 103) (tp 103 44) u p) = 0
                · exact z
                · exact absurd ⟨c, z⟩ no
              have vr := v2 (m - k - 1) (nxt (tp 103) (tp 103 44) u p) (by omega) (by omega) (by omega) (by omega)
              rw [em, wz] at vr
              rw [if_neg c]
              simp (disch := first | assumption | omega) only [vr, lc0, if_true, eX4_foundBy_113, bi_add, bi_sub, bi_mul, bi_neg, bi_div, bi_64, bl_add, bl_sub, bl_mul, bl_neg, bl_div, bl_32, bi_min, bi_max, bl_min, bl_max, bq_I, bq_J, bq_A, bq_Vi, bq_Vl, bq_Vr, bq_cV, bq_cI, bq_cJ, bq_cA, bq_le, bq_lt, bq_eq, bq_z, bq_o, bq_ref, bq_nz, bq_nzJ, bq_bl, bq_blz, bq_T, bq_F, if_true, if_false, Int.reduceEq, Int.reduceLT, Int.reduceLE, Int.reduceAdd, Int.reduceSub, Int.reduceMul, Int.add_sub_cancel, li_0, li_1, li_3, li_4, li_8, li_21, li_24, li_36, li_60, li_63, li_100, li_104, li_113, li_4035, li_4087, li_4088, li_4089, ll_0, ll_1, ll_3, ll_4, ll_8, ll_21, ll_24, ll_36, ll_60, ll_63, ll_100, ll_104, ll_113, ga103, ga105, ga119, ga120, ga106, ga107, ga108, ga109, ga110, ga111, ga116, ga118, ga104, ga112, ga114, ga115, ga117, ga113, ga121, gf102_5, gf102_13, gf102_14, gf102_0, gf102_6, gf102_7, gf102_8, gf102_9, gf102_10, gf102_11, gf102_12, gf102_15, gf102_19, gf102_20, gr102_1, gr102_2, gr102_3, gr102_4, gr102_16, gr102_17, gr102_18, gr102_21, gr102_22, gr102_23, gr102_24, gr102_25, gr102_26, gr102_27, gr102_28, gr102_29, gr102_30, gr102_31, gr102_32, pa103, pa105, pa119, pa120, pa106, pa107, pa108, pa109, pa110, pa111, pa116, pa118, pa104, pa112, pa114, pa115, pa117, pa113, pa121, pf102_5, pf102_13, pf102_14, pf102_0, pf102_6, pf102_7, pf102_8, pf102_9, pf102_10, pf102_11, pf102_12, pf102_15, pf102_19, pf102_20, s_within, t_isLost, t_fallen, t_isHurt, t_between, t_isPassage, t_isRoom, t_standNow, t_standsAll, t_isIn, t_noComing, t_noStand, t_bitsOf]
              exact cont () (by omega)
          have hit : ∀ k, 0 ≤ k → k < m → bk_den TX4_foundBy (bk_call d) 63 [.ref 102, .int (bk_i m), .int (bk_i r), .int (bk_i hu), .int (bk_i i), .int (bk_i 0), .int (bk_i (posF (nxt (tp 103) (tp 103 44)) to m.toNat st0 k.toNat)), .int (bk_i k), .int (bk_i (stpF (nxt (tp 103) (tp 103 44)) (wy (nxt (tp 103) (tp 103 44)) to (m.toNat - (k.toNat + 1))) (posF (nxt (tp 103) (tp 103 44)) to m.toNat st0 k.toNat)))] [] (bk_M κ X (tp, tj, ts1, tk1) g n)
              = if k = i then some (some (.int (bk_i (stpF (nxt (tp 103) (tp 103 44)) (wy (nxt (tp 103) (tp 103 44)) to (m.toNat - (k.toNat + 1))) (posF (nxt (tp 103) (tp 103 44)) to m.toNat st0 k.toNat)))), bk_M κ X (tp, tj, ts1, tk1) g n)
                else bk_den TX4_foundBy (bk_call d) 60 [.ref 102, .int (bk_i m), .int (bk_i r), .int (bk_i hu), .int (bk_i i), .int (bk_i 0), .int (bk_i (posF (nxt (tp 103) (tp 103 44)) to m.toNat st0 (k + 1).toNat)), .int (bk_i (k + 1)), .int (bk_i (stpF (nxt (tp 103) (tp 103 44)) (wy (nxt (tp 103) (tp 103 44)) to (m.toNat - (k.toNat + 1))) (posF (nxt (tp 103) (tp 103 44)) to m.toNat st0 k.toNat)))] [] (bk_M κ X (tp, tj, ts1, tk1) g n) := by
            intro k k0 km
            obtain ⟨p0, p1, p2⟩ := posF_is hN st.1 st.2.1 q3 k.toNat (by omega)
            have ek : m.toNat - k.toNat = (m.toNat - (k.toNat + 1)) + 1 := by omega
            rw [ek] at p2
            have si := stpF_is p2
            have em : (m - k - 1).toNat = m.toNat - (k.toNat + 1) := by omega
            have e1 : (k + 1).toNat = k.toNat + 1 := by omega
            have sc : posF (nxt (tp 103) (tp 103 44)) to m.toNat st0 (k + 1).toNat = nxt (tp 103) (tp 103 44) (posF (nxt (tp 103) (tp 103 44)) to m.toNat st0 k.toNat) (stpF (nxt (tp 103) (tp 103 44)) (wy (nxt (tp 103) (tp 103 44)) to (m.toNat - (k.toNat + 1))) (posF (nxt (tp 103) (tp 103 44)) to m.toNat st0 k.toNat)) := by
              rw [e1]; rfl
            rw [sc]
            generalize posF (nxt (tp 103) (tp 103 44)) to m.toNat st0 k.toNat = u at p0 p1 p2 si ⊢
            have np := hN u _ p0 p1 si.1 si.2.1
            have s0 := si.1
            have s1 := si.2.1
            have sn := si.2.2.1
            have wn := si.2.2.2.1
            have wb := wy_b (to := to) hN (k := m.toNat - (k.toNat + 1)) (by omega) (s := nxt (tp 103) (tp 103 44) u (stpF (nxt (tp 103) (tp 103 44)) (wy (nxt (tp 103) (tp 103 44)) to (m.toNat - (k.toNat + 1))) u)) (by omega) (by omega)
            have vr := v2 (m - k - 1) (nxt (tp 103) (tp 103 44) u (stpF (nxt (tp 103) (tp 103 44)) (wy (nxt (tp 103) (tp 103 44)) to (m.toNat - (k.toNat + 1))) u)) (by omega) (by omega) (by omega) (by omega)
            rw [em] at vr
            rw [eX4_foundBy_63]
            simp (disch := first | assumption | omega) only [v1 u _ p0 p1 s0 s1, if_neg sn, vr, lc0, if_neg wn, bi_add, bi_sub, bi_mul, bi_neg, bi_div, bi_64, bl_add, bl_sub, bl_mul, bl_neg, bl_div, bl_32, bi_min, bi_max, bl_min, bl_max, bq_I, bq_J, bq_A, bq_Vi, bq_Vl, bq_Vr, bq_cV, bq_cI, bq_cJ, bq_cA, bq_le, bq_lt, bq_eq, bq_z, bq_o, bq_ref, bq_nz, bq_nzJ, bq_bl, bq_blz, bq_T, bq_F, if_true, if_false, Int.reduceEq, Int.reduceLT, Int.reduceLE, Int.reduceAdd, Int.reduceSub, Int.reduceMul, Int.add_sub_cancel, li_0, li_1, li_3, li_4, li_8, li_21, li_24, li_36, li_60, li_63, li_100, li_104, li_113, li_4035, li_4087, li_4088, li_4089, ll_0, ll_1, ll_3, ll_4, ll_8, ll_21, ll_24, ll_36, ll_60, ll_63, ll_100, ll_104, ll_113, ga103, ga105, ga119, ga120, ga106, ga107, ga108, ga109, ga110, ga111, ga116, ga118, ga104, ga112, ga114, ga115, ga117, ga113, ga121, gf102_5, gf102_13, gf102_14, gf102_0, gf102_6, gf102_7, gf102_8, gf102_9, gf102_10, gf102_11, gf102_12, gf102_15, gf102_19, gf102_20, gr102_1, gr102_2, gr102_3, gr102_4, gr102_16, gr102_17, gr102_18, gr102_21, gr102_22, gr102_23, gr102_24, gr102_25, gr102_26, gr102_27, gr102_28, gr102_29, gr102_30, gr102_31, gr102_32, pa103, pa105, pa119, pa120, pa106, pa107, pa108, pa109, pa110, pa111, pa116, pa118, pa104, pa112, pa114, pa115, pa117, pa113, pa121, pf102_5, pf102_13, pf102_14, pf102_0, pf102_6, pf102_7, pf102_8, pf102_9, pf102_10, pf102_11, pf102_12, pf102_15, pf102_19, pf102_20, s_within, t_isLost, t_fallen, t_isHurt, t_between, t_isPassage, t_isRoom, t_standNow, t_standsAll, t_isIn, t_noComing, t_noStand, t_bitsOf]
          rw [z0]
          refine bk_loop (σ := Value) (fun k w => bk_den TX4_foundBy (bk_call d) 60 [.ref 102, .int (bk_i m), .int (bk_i r), .int (bk_i hu), .int (bk_i i), .int (bk_i 0), .int (bk_i (posF (nxt (tp 103) (tp 103 44)) to m.toNat st0 k.toNat)), .int (bk_i k), w] [] (bk_M κ X (tp, tj, ts1, tk1) g n)) (fun k _ => 0 ≤ k) i ?_ ?_ 0 _ q2 (by omega)
          · rintro k w hk k0 cont
            refine find k w _ k0 (by omega) ?_
            rw [hit k k0 (by omega), if_neg (by omega)]
            exact cont _ (by omega)
          · rintro w k0
            refine find i w _ k0 (by omega) ?_
            rw [hit i k0 (by omega), if_pos rfl]
            exact ⟨_, _, rfl, ts1, tk1, _, rfl, rfl, Or.inr (Or.inr ⟨q, q2, by rw [hto, hst, if_neg (by omega)]⟩)⟩
        · rw [if_neg q4]
          exact ⟨_, _, rfl, ts1, tk1, _, rfl, rfl, Or.inr (Or.inr ⟨q, q2, by rw [hto, hst, if_pos (Or.inr (by omega))]⟩)⟩
    · rw [if_neg q2]
      exact ⟨_, _, rfl, _, tk, _, rfl, rfl, Or.inr (Or.inl ⟨q, by omega, rfl⟩)⟩
  · rw [if_neg q]
    exact ⟨_, _, rfl, _, tk, _, rfl, rfl, Or.inl ⟨q, rfl⟩⟩
theorem m_surely (h : bTt g (tp 103)) (h0 : -2147483648 ≤ m) (h00 : m < 2147483648) (h3 : -2147483648 ≤ r) (h4 : r < 2147483648) (h5 : -2147483648 ≤ hu) (h6 : hu < 2147483648) (hD : 9 ≤ D) :
    bk_wp (bk_call D 4090 [.ref 102, .int (bk_i m), .int (bk_i r), .int (bk_i hu)] (bk_M κ X (tp, tj, ts, tk) g n)) (bTq κ X tp tj g n (rSure (tp 103) m r hu)) := by
  obtain ⟨d, rfl⟩ := dep hD
  have st := bTt_st h
  have ht := h
  have fr := fF_rng (tp 103) m r hu
  obtain ⟨hF, hw, hs⟩ := h
  have hN := nxt_N hw (tp 103 44) (Int.le_refl (6 * tp 103 1))
  have ef := t_noFound (κ := κ) (X := X) (tp := tp) (ts := bU ts 102 0 0) (tj := tj) (tk := tk) (n := n) (D := d) hF (by omega) (by omega) h0 h00 h3 h4 h5 h6 (by omega)
  rw [kX4_surely, eX4_surely_0]
  simp (disch := first | assumption | omega) only [ef, bi_add, bi_sub, bi_mul, bi_neg, bi_div, bi_64, bl_add, bl_sub, bl_mul, bl_neg, bl_div, bl_32, bi_min, bi_max, bl_min, bl_max, bq_I, bq_J, bq_A, bq_Vi, bq_Vl, bq_Vr, bq_cV, bq_cI, bq_cJ, bq_cA, bq_le, bq_lt, bq_eq, bq_z, bq_o, bq_ref, bq_nz, bq_nzJ, bq_bl, bq_blz, bq_T, bq_F, if_true, if_false, Int.reduceEq, Int.reduceLT, Int.reduceLE, Int.reduceAdd, Int.reduceSub, Int.reduceMul, Int.add_sub_cancel, li_0, li_1, li_2, li_4, li_31, li_44, li_79, li_100, li_4087, li_4088, li_4090, ll_0, ll_1, ll_2, ll_4, ll_31, ll_44, ll_79, ll_100, ga103, ga105, ga119, ga120, ga106, ga107, ga108, ga109, ga110, ga111, ga116, ga118, ga104, ga112, ga114, ga115, ga117, ga113, ga121, gf102_5, gf102_13, gf102_14, gf102_0, gf102_6, gf102_7, gf102_8, gf102_9, gf102_10, gf102_11, gf102_12, gf102_15, gf102_19, gf102_20, gr102_1, gr102_2, gr102_3, gr102_4, gr102_16, gr102_17, gr102_18, gr102_21, gr102_22, gr102_23, gr102_24, gr102_25, gr102_26, gr102_27, gr102_28, gr102_29, gr102_30, gr102_31, gr102_32, pa103, pa105, pa119, pa120, pa106, pa107, pa108, pa109, pa110, pa111, pa116, pa118, pa104, pa112, pa114, pa115, pa117, pa113, pa121, pf102_5, pf102_13, pf102_14, pf102_0, pf102_6, pf102_7, pf102_8, pf102_9, pf102_10, pf102_11, pf102_12, pf102_15, pf102_19, pf102_20, s_within, t_isLost, t_fallen, t_isHurt, t_between, t_isPassage, t_isRoom, t_standNow, t_standsAll, t_isIn, t_noComing, t_noStand, t_bitsOf]
  by_cases q : fF (tp 103) m r hu = 0
  · have q' := fF_0 q
    rw [if_pos q, q]
    obtain ⟨ts1, tk1, v1, -, e1⟩ := t_laysFound (κ := κ) (X := X) (ts := bU ts 102 0 0) (tj := tj) (tk := tk) (n := n) (D := d) (m := m) (r := r) (hu := hu) (b := -1) ht (by omega) (by omega) (by omega) (by omega) (by omega) (by omega) (by omega) (by omega) (by omega)
    rw [wy_Nb1 hN _ (by omega) (by omega)] at e1
    have wb := wy_b (to := 6 * r + hu) hN (k := m.toNat) (by omega) (s := 6 * tp 103 42 + tp 103 43) (by omega) (by omega)
    simp (disch := first | assumption | omega) only [e1, lc0, bi_add, bi_sub, bi_mul, bi_neg, bi_div, bi_64, bl_add, bl_sub, bl_mul, bl_neg, bl_div, bl_32, bi_min, bi_max, bl_min, bl_max, bq_I, bq_J, bq_A, bq_Vi, bq_Vl, bq_Vr, bq_cV, bq_cI, bq_cJ, bq_cA, bq_le, bq_lt, bq_eq, bq_z, bq_o, bq_ref, bq_nz, bq_nzJ, bq_bl, bq_blz, bq_T, bq_F, if_true, if_false, Int.reduceEq, Int.reduceLT, Int.reduceLE, Int.reduceAdd, Int.reduceSub, Int.reduceMul, Int.add_sub_cancel, li_0, li_1, li_2, li_4, li_31, li_44, li_79, li_100, li_4087, li_4088, li_4090, ll_0, ll_1, ll_2, ll_4, ll_31, ll_44, ll_79, ll_100, ga103, ga105, ga119, ga120, ga106, ga107, ga108, ga109, ga110, ga111, ga116, ga118, ga104, ga112, ga114, ga115, ga117, ga113, ga121, gf102_5, gf102_13, gf102_14, gf102_0, gf102_6, gf102_7, gf102_8, gf102_9, gf102_10, gf102_11, gf102_12, gf102_15, gf102_19, gf102_20, gr102_1, gr102_2, gr102_3, gr102_4, gr102_16, gr102_17, gr102_18, gr102_21, gr102_22, gr102_23, gr102_24, gr102_25, gr102_26, gr102_27, gr102_28, gr102_29, gr102_30, gr102_31, gr102_32, pa103, pa105, pa119, pa120, pa106, pa107, pa108, pa109, pa110, pa111, pa116, pa118, pa104, pa112, pa114, pa115, pa117, pa113, pa121, pf102_5, pf102_13, pf102_14, pf102_0, pf102_6, pf102_7, pf102_8, pf102_9, pf102_10, pf102_11, pf102_12, pf102_15, pf102_19, pf102_20, s_within, t_isLost, t_fallen, t_isHurt, t_between, t_isPassage, t_isRoom, t_standNow, t_standsAll, t_isIn, t_noComing, t_noStand, t_bitsOf]
    by_cases q3 : wy (nxt (tp 103) (tp 103 44)) (6 * r + hu) m.toNat (6 * tp 103 42 + tp 103 43) = 0
    · rw [if_pos q3]
      exact ⟨_, _, rfl, ts1, tk1, _, rfl, rfl, Or.inr ⟨q, by rw [if_pos q3]⟩⟩
    · rw [if_neg q3]
      refine bk_loop (σ := bF × bFJ) (fun p x => bk_den TX4_surely (bk_call d) 44 [.ref 102, .int (bk_i m), .int (bk_i r), .int (bk_i hu), .int (bk_i 0), .int (bk_i (suM (nxt (tp 103) (tp 103 44)) (6 * r + hu) m.toNat (6 * tp 103 42 + tp 103 43) p.toNat)), .int (bk_i p)] [] (bk_M κ X (tp, tj, x.1, x.2) g n)) (fun p _ => 0 ≤ p) (tp 103 2) ?_ ?_ 0 (ts1, tk1) (by omega) (by omega)
      · rintro p ⟨ts2, tk2⟩ hp p0 cont
        obtain ⟨ts3, tk3, v3, -, e3⟩ := t_laysFound (κ := κ) (X := X) (ts := ts2) (tj := tj) (tk := tk2) (n := n) (D := d) (m := m) (r := r) (hu := hu) (b := p) ht (by omega) (by omega) (by omega) (by omega) (by omega) (by omega) (by omega) (by omega) (by omega)
        have wb := wy_b (to := 6 * r + hu) (Nb_N hN p) (k := m.toNat) (by omega) (s := 6 * tp 103 42 + tp 103 43) (by omega) (by omega)
        have c := cont (ts3, tk3) (by omega)
        rw [suM_succ _ _ _ _ p0] at c
        dsimp only at c ⊢
        rw [eX4_surely_44]
        simp (disch := first | assumption | omega) only [if_neg (show ¬ tp 103 2 ≤ p by omega), e3, lc0, bi_sh, eX4_surely_79, bi_io, bi_add, bi_sub, bi_mul, bi_neg, bi_div, bi_64, bl_add, bl_sub, bl_mul, bl_neg, bl_div, bl_32, bi_min, bi_max, bl_min, bl_max, bq_I, bq_J, bq_A, bq_Vi, bq_Vl, bq_Vr, bq_cV, bq_cI, bq_cJ, bq_cA, bq_le, bq_lt, bq_eq, bq_z, bq_o, bq_ref, bq_nz, bq_nzJ, bq_bl, bq_blz, bq_T, bq_F, if_true, if_false, Int.reduceEq, Int.reduceLT, Int.reduceLE, Int.reduceAdd, Int.reduceSub, Int.reduceMul, Int.add_sub_cancel, li_0, li_1, li_2, li_4, li_31, li_44, li_79, li_100, li_4087, li_4088, li_4090, ll_0, ll_1, ll_2, ll_4, ll_31, ll_44, ll_79, ll_100, ga103, ga105, ga119, ga120, ga106, ga107, ga108, ga109, ga110, ga111, ga116, ga118, ga104, ga112, ga114, ga115, ga117, ga113, ga121, gf102_5, gf102_13, gf102_14, gf102_0, gf102_6, gf102_7, gf102_8, gf102_9, gf102_10, gf102_11, gf102_12, gf102_15, gf102_19, gf102_20, gr102_1, gr102_2, gr102_3, gr102_4, gr102_16, gr102_17, gr102_18, gr102_21, gr102_22, gr102_23, gr102_24, gr102_25, gr102_26, gr102_27, gr102_28, gr102_29, gr102_30, gr102_31, gr102_32, pa103, pa105, pa119, pa120, pa106, pa107, pa108, pa109, pa110, pa111, pa116, pa118, pa104, pa112, pa114, pa115, pa117, pa113, pa121, pf102_5, pf102_13, pf102_14, pf102_0, pf102_6, pf102_7, pf102_8, pf102_9, pf102_10, pf102_11, pf102_12, pf102_15, pf102_19, pf102_20, s_within, t_isLost, t_fallen, t_isHurt, t_between, t_isPassage, t_isRoom, t_standNow, t_standsAll, t_isIn, t_noComing, t_noStand, t_bitsOf]
        by_cases z : wy (Nb (nxt (tp 103) (tp 103 44)) p) (6 * r + hu) m.toNat (6 * tp 103 42 + tp 103 43) = 0
        · rw [if_pos z] at c ⊢; exact c
        · rw [if_neg z] at c ⊢; exact c
      · rintro ⟨ts2, tk2⟩ p0
        dsimp only
        rw [eX4_surely_44]
        simp (disch := first | assumption | omega) only [if_pos (Int.le_refl (tp 103 2)), bi_add, bi_sub, bi_mul, bi_neg, bi_div, bi_64, bl_add, bl_sub, bl_mul, bl_neg, bl_div, bl_32, bi_min, bi_max, bl_min, bl_max, bq_I, bq_J, bq_A, bq_Vi, bq_Vl, bq_Vr, bq_cV, bq_cI, bq_cJ, bq_cA, bq_le, bq_lt, bq_eq, bq_z, bq_o, bq_ref, bq_nz, bq_nzJ, bq_bl, bq_blz, bq_T, bq_F, if_true, if_false, Int.reduceEq, Int.reduceLT, Int.reduceLE, Int.reduceAdd, Int.reduceSub, Int.reduceMul, Int.add_sub_cancel, li_0, li_1, li_2, li_4, li_31, li_44, li_79, li_100, li_4087, li_4088, li_4090, ll_0, ll_1, ll_2, ll_4, ll_31, ll_44, ll_79, ll_100, ga103, ga105, ga119, ga120, ga106, ga107, ga108, ga109, ga110, ga111, ga116, ga118, ga104, ga112, ga114, ga115, ga117, ga113, ga121, gf102_5, gf102_13, gf102_14, gf102_0, gf102_6, gf102_7, gf102_8, gf102_9, gf102_10, gf102_11, gf102_12, gf102_15, gf102_19, gf102_20, gr102_1, gr102_2, gr102_3, gr102_4, gr102_16, gr102_17, gr102_18, gr102_21, gr102_22, gr102_23, gr102_24, gr102_25, gr102_26, gr102_27, gr102_28, gr102_29, gr102_30, gr102_31, gr102_32, pa103, pa105, pa119, pa120, pa106, pa107, pa108, pa109, pa110, pa111, pa116, pa118, pa104, pa112, pa114, pa115, pa117, pa113, pa121, pf102_5, pf102_13, pf102_14, pf102_0, pf102_6, pf102_7, pf102_8, pf102_9, pf102_10, pf102_11, pf102_12, pf102_15, pf102_19, pf102_20, s_within, t_isLost, t_fallen, t_isHurt, t_between, t_isPassage, t_isRoom, t_standNow, t_standsAll, t_isIn, t_noComing, t_noStand, t_bitsOf]
        exact ⟨_, _, rfl, ts2, tk2, _, rfl, rfl, Or.inr ⟨q, by rw [if_neg q3]⟩⟩
  · rw [if_neg q]
    exact ⟨_, _, rfl, _, tk, _, rfl, rfl, Or.inl ⟨q, rfl⟩⟩
end TF
