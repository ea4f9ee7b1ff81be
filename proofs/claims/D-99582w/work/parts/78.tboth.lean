/-! SPECS: the twin: both, watch, ropes -/
set_option maxRecDepth 100000
section TB
variable {κ : Nat → Nat} {X : bX} {Y : bY} {tp ts : bF} {tj tk : bFJ} {g : bG} {n : Nat × Nat} {s p v r hu i to m rooms what : Int} {D : Nat} {N : Int → Int → Int}
theorem t_beginsCan (hF : bFix g) (h0 : 0 ≤ 6 * tp 103 42 + tp 103 43) (h1 : 6 * tp 103 42 + tp 103 43 < 36) (hD : 2 ≤ D) :
    ∃ ts', (∀ a, a ≠ 114 → a ≠ 115 → ts' a = ts a) ∧ (∀ t, 0 ≤ t → t < 36 → ts' 114 t = bzc (rc N rooms (6 * tp 103 42 + tp 103 43) 0 t)) ∧ (∀ t, 0 ≤ t → t < 36 → ts' 115 t = 0)
      ∧ bk_call D 4092 [.ref 102] (bk_M κ X (tp, tj, ts, tk) g n) = some (none, bk_M κ X (tp, tj, ts', tk) g n) := by
  obtain ⟨d, rfl⟩ := dep hD
  generalize hst : 6 * tp 103 42 + tp 103 43 = st0 at h0 h1
  have goal : bk_wp (bk_call (d + 1) 4092 [.ref 102] (bk_M κ X (tp, tj, ts, tk) g n)) (fun v h' => ∃ ts', v = none ∧ h' = bk_M κ X (tp, tj, ts', tk) g n ∧ (∀ a, a ≠ 114 → a ≠ 115 → ts' a = ts a) ∧ (∀ t, 0 ≤ t → t < 36 → ts' 114 t = bzc (rc N rooms st0 0 t)) ∧ (∀ t, 0 ≤ t → t < 36 → ts' 115 t = 0)) := by
    rw [kX4_beginsCan, eX4_beginsCan_0]
    refine bk_loop (σ := bF) (fun s x => bk_den TX4_beginsCan (bk_call d) 2 [.ref 102, .int (bk_i s)] [] (bk_M κ X (tp, tj, x, tk) g n))
      (fun s x => 0 ≤ s ∧ (∀ a, a ≠ 114 → a ≠ 115 → x a = ts a) ∧ (∀ t, 0 ≤ t → t < s → x 114 t = bzc (rc N rooms st0 0 t)) ∧ (∀ t, 0 ≤ t → t < s → x 115 t = 0)) 36 ?_ ?_ 0 ts (by omega) ⟨by omega, fun _ _ _ => rfl, fun t _ _ => by omega, fun t _ _ => by omega⟩
    · rintro s x hs ⟨s0, fr, vl, vl2⟩ cont
      have fin : ∀ val : Int, (val = bzc (s = st0)) → bk_wp (bk_den TX4_beginsCan (bk_call d) 2 [.ref 102, .int (bk_i (s + 1))] [] (bk_M κ X (tp, tj, bU (bU x 114 s val) 115 s 0, tk) g n)) (fun v h' => ∃ ts', v = none ∧ h' = bk_M κ X (tp, tj, ts', tk) g n ∧ (∀ a, a ≠ 114 → a ≠ 115 → ts' a = ts a) ∧ (∀ t, 0 ≤ t → t < 36 → ts' 114 t = bzc (rc N rooms st0 0 t)) ∧ (∀ t, 0 ≤ t → t < 36 → ts' 115 t = 0)) := by
        intro val hv
        refine cont _ ⟨by omega, fun a ha hb => ?_, fun t t0 t1 => ?_, fun t t0 t1 => ?_⟩
        · funext j; rw [bU_ne _ _ _ _ _ _ hb, bU_ne _ _ _ _ _ _ ha, fr a ha hb]
        · rw [bU_ne _ _ _ _ _ _ (by decide), bU_same]
          by_cases c : t = s
          · subst c; rw [if_pos rfl, hv]; rfl
          · rw [if_neg (by omega)]; exact vl t t0 (by omega)
        · rw [bU_same]
          by_cases c : t = s
          · rw [if_pos c]
          · rw [if_neg c, bU_ne _ _ _ _ _ _ (by decide)]; exact vl2 t t0 (by omega)
      rw [eX4_beginsCan_2]
      simp (disch := first | assumption | omega) only [if_neg (show ¬ 36 ≤ s by omega), eX4_beginsCan_26, hst, bi_add, bi_sub, bi_mul, bi_neg, bi_div, bi_64, bl_add, bl_sub, bl_mul, bl_neg, bl_div, bl_32, bi_min, bi_max, bl_min, bl_max, bq_I, bq_J, bq_A, bq_Vi, bq_Vl, bq_Vr, bq_cV, bq_cI, bq_cJ, bq_cA, bq_le, bq_lt, bq_eq, bq_z, bq_o, bq_ref, bq_nz, bq_nzJ, bq_bl, bq_blz, bq_T, bq_F, if_true, if_false, Int.reduceEq, Int.reduceLT, Int.reduceLE, Int.reduceAdd, Int.reduceSub, Int.reduceMul, Int.add_sub_cancel, li_0, li_1, li_2, li_4, li_25, li_26, li_36, li_102, li_4035, li_4092, ll_0, ll_1, ll_2, ll_4, ll_25, ll_26, ll_36, ll_102, ga103, ga105, ga119, ga120, ga106, ga107, ga108, ga109, ga110, ga111, ga116, ga118, ga104, ga112, ga114, ga115, ga117, ga113, ga121, gf102_5, gf102_13, gf102_14, gf102_0, gf102_6, gf102_7, gf102_8, gf102_9, gf102_10, gf102_11, gf102_12, gf102_15, gf102_19, gf102_20, gr102_1, gr102_2, gr102_3, gr102_4, gr102_16, gr102_17, gr102_18, gr102_21, gr102_22, gr102_23, gr102_24, gr102_25, gr102_26, gr102_27, gr102_28, gr102_29, gr102_30, gr102_31, gr102_32, pa103, pa105, pa119, pa120, pa106, pa107, pa108, pa109, pa110, pa111, pa116, pa118, pa104, pa112, pa114, pa115, pa117, pa113, pa121, pf102_5, pf102_13, pf102_14, pf102_0, pf102_6, pf102_7, pf102_8, pf102_9, pf102_10, pf102_11, pf102_12, pf102_15, pf102_19, pf102_20, s_within, t_isLost, t_fallen, t_isHurt, t_between, t_isPassage, t_isRoom, t_standNow, t_standsAll, t_isIn, t_noComing, t_noStand, t_bitsOf]
      by_cases c : s = st0
      · rw [if_pos c]; exact fin _ (by rw [bzc_t c])
      · rw [if_neg c]; exact fin _ (by rw [bzc_f c])
    · rintro x ⟨s0, fr, vl, vl2⟩
      rw [eX4_beginsCan_2]
      simp (disch := first | assumption | omega) only [if_pos (Int.le_refl 36), bi_add, bi_sub, bi_mul, bi_neg, bi_div, bi_64, bl_add, bl_sub, bl_mul, bl_neg, bl_div, bl_32, bi_min, bi_max, bl_min, bl_max, bq_I, bq_J, bq_A, bq_Vi, bq_Vl, bq_Vr, bq_cV, bq_cI, bq_cJ, bq_cA, bq_le, bq_lt, bq_eq, bq_z, bq_o, bq_ref, bq_nz, bq_nzJ, bq_bl, bq_blz, bq_T, bq_F, if_true, if_false, Int.reduceEq, Int.reduceLT, Int.reduceLE, Int.reduceAdd, Int.reduceSub, Int.reduceMul, Int.add_sub_cancel, li_0, li_1, li_2, li_4, li_25, li_26, li_36, li_102, li_4035, li_4092, ll_0, ll_1, ll_2, ll_4, ll_25, ll_26, ll_36, ll_102, ga103, ga105, ga119, ga120, ga106, ga107, ga108, ga109, ga110, ga111, ga116, ga118, ga104, ga112, ga114, ga115, ga117, ga113, ga121, gf102_5, gf102_13, gf102_14, gf102_0, gf102_6, gf102_7, gf102_8, gf102_9, gf102_10, gf102_11, gf102_12, gf102_15, gf102_19, gf102_20, gr102_1, gr102_2, gr102_3, gr102_4, gr102_16, gr102_17, gr102_18, gr102_21, gr102_22, gr102_23, gr102_24, gr102_25, gr102_26, gr102_27, gr102_28, gr102_29, gr102_30, gr102_31, gr102_32, pa103, pa105, pa119, pa120, pa106, pa107, pa108, pa109, pa110, pa111, pa116, pa118, pa104, pa112, pa114, pa115, pa117, pa113, pa121, pf102_5, pf102_13, pf102_14, pf102_0, pf102_6, pf102_7, pf102_8, pf102_9, pf102_10, pf102_11, pf102_12, pf102_15, pf102_19, pf102_20, s_within, t_isLost, t_fallen, t_isHurt, t_between, t_isPassage, t_isRoom, t_standNow, t_standsAll, t_isIn, t_noComing, t_noStand, t_bitsOf]
      exact ⟨_, _, rfl, x, rfl, rfl, fr, vl, vl2⟩
  obtain ⟨z, h', e, ts', rfl, rfl, h1, h2, h3⟩ := goal
  exact ⟨ts', h1, h2, h3, e⟩
theorem t_goesCan (hF : bFix g) {st0 : Int} {k : Nat} (h1 : 1 ≤ tp 103 1) (h2 : tp 103 1 ≤ 6) (hN : ∀ s p, 0 ≤ s → s < 6 * tp 103 1 → 0 ≤ p → p < 8 → ts 110 (8 * s + p) = N s p) (hr : isN N (6 * tp 103 1)) (hdom : ∀ s p, N s p ≠ -1 → s < 6 * tp 103 1) (r0 : 0 ≤ rooms) (r1 : rooms < 1024)
    (hm : ∀ t, 0 ≤ t → t < 36 → ts 114 t = bzc (rc N rooms st0 k t)) (hz : ∀ t, 0 ≤ t → t < 36 → ts 115 t = 0) (hD : 2 ≤ D) :
    ∃ ts', (∀ a, a ≠ 114 → a ≠ 115 → ts' a = ts a) ∧ (∀ t, 0 ≤ t → t < 36 → ts' 114 t = bzc (rc N rooms st0 (k + 1) t)) ∧ (∀ t, 0 ≤ t → t < 36 → ts' 115 t = 0)
      ∧ bk_call D 4093 [.ref 102, .int (bk_i rooms)] (bk_M κ X (tp, tj, ts, tk) g n) = some (none, bk_M κ X (tp, tj, ts', tk) g n) := by
  obtain ⟨d, rfl⟩ := dep hD
  have goal : bk_wp (bk_call (d + 1) 4093 [.ref 102, .int (bk_i rooms)] (bk_M κ X (tp, tj, ts, tk) g n)) (fun v h' => ∃ ts', v = none ∧ h' = bk_M κ X (tp, tj, ts', tk) g n ∧ (∀ a, a ≠ 114 → a ≠ 115 → ts' a = ts a) ∧ (∀ t, 0 ≤ t → t < 36 → ts' 114 t = bzc (rc N rooms st0 (k + 1) t)) ∧ (∀ t, 0 ≤ t → t < 36 → ts' 115 t = 0)) := by
    rw [kX4_goesCan, eX4_goesCan_0]
    refine bk_loop (σ := bF × Value) (fun s x => bk_den TX4_goesCan (bk_call d) 2 [.ref 102, .int (bk_i rooms), .int (bk_i s), x.2, bk_u] [] (bk_M κ X (tp, tj, x.1, tk) g n))
      (fun s x => 0 ≤ s ∧ (∀ a, a ≠ 114 → a ≠ 115 → x.1 a = ts a) ∧ (∀ t, 0 ≤ t → t < 36 → x.1 114 t = bzc (rc N rooms st0 k t)) ∧ (∀ t, 0 ≤ t → t < 36 → x.1 115 t = bzc (pr N rooms (rc N rooms st0 k) s 0 t))) (6 * tp 103 1) ?_ ?_ 0 (ts, bk_u) (by omega) ⟨by omega, fun _ _ _ => rfl, hm, fun t a b => by dsimp only; rw [hz t a b, bzc_f pr_0]⟩
    · rintro s ⟨x, w⟩ hs ⟨s0, fr, vl, vl2⟩ cont
      dsimp only at fr vl vl2 ⊢
      rw [eX4_goesCan_2]
      simp (disch := first | assumption | omega) only [if_neg (show ¬ 6 * tp 103 1 ≤ s by omega), bi_add, bi_sub, bi_mul, bi_neg, bi_div, bi_64, bl_add, bl_sub, bl_mul, bl_neg, bl_div, bl_32, bi_min, bi_max, bl_min, bl_max, bq_I, bq_J, bq_A, bq_Vi, bq_Vl, bq_Vr, bq_cV, bq_cI, bq_cJ, bq_cA, bq_le, bq_lt, bq_eq, bq_z, bq_o, bq_ref, bq_nz, bq_nzJ, bq_bl, bq_blz, bq_T, bq_F, if_true, if_false, Int.reduceEq, Int.reduceLT, Int.reduceLE, Int.reduceAdd, Int.reduceSub, Int.reduceMul, Int.add_sub_cancel, li_0, li_1, li_2, li_4, li_6, li_8, li_12, li_21, li_25, li_26, li_36, li_67, li_73, li_81, li_100, li_102, li_4043, li_4069, li_4093, ll_0, ll_1, ll_2, ll_4, ll_6, ll_8, ll_12, ll_21, ll_25, ll_26, ll_36, ll_67, ll_73, ll_81, ll_100, ll_102, ga103, ga105, ga119, ga120, ga106, ga107, ga108, ga109, ga110, ga111, ga116, ga118, ga104, ga112, ga114, ga115, ga117, ga113, ga121, gf102_5, gf102_13, gf102_14, gf102_0, gf102_6, gf102_7, gf102_8, gf102_9, gf102_10, gf102_11, gf102_12, gf102_15, gf102_19, gf102_20, gr102_1, gr102_2, gr102_3, gr102_4, gr102_16, gr102_17, gr102_18, gr102_21, gr102_22, gr102_23, gr102_24, gr102_25, gr102_26, gr102_27, gr102_28, gr102_29, gr102_30, gr102_31, gr102_32, pa103, pa105, pa119, pa120, pa106, pa107, pa108, pa109, pa110, pa111, pa116, pa118, pa104, pa112, pa114, pa115, pa117, pa113, pa121, pf102_5, pf102_13, pf102_14, pf102_0, pf102_6, pf102_7, pf102_8, pf102_9, pf102_10, pf102_11, pf102_12, pf102_15, pf102_19, pf102_20, s_within, t_isLost, t_fallen, t_isHurt, t_between, t_isPassage, t_isRoom, t_standNow, t_standsAll, t_isIn, t_noComing, t_noStand, t_bitsOf]
      refine bk_loop (σ := bF × Value) (fun p x => bk_den TX4_goesCan (bk_call d) 12 [.ref 102, .int (bk_i rooms), .int (bk_i s), .int (bk_i p), x.2] [] (bk_M κ X (tp, tj, x.1, tk) g n))
        (fun p x => 0 ≤ p ∧ (∀ a, a ≠ 114 → a ≠ 115 → x.1 a = ts a) ∧ (∀ t, 0 ≤ t → t < 36 → x.1 114 t = bzc (rc N rooms st0 k t)) ∧ (∀ t, 0 ≤ t → t < 36 → x.1 115 t = bzc (pr N rooms (rc N rooms st0 k) s p t))) 8 ?_ ?_ 0 (x, bk_u) (by omega) ⟨by omega, fr, vl, vl2⟩
      · rintro p ⟨x, w⟩ hp ⟨p0, fr, vl, vl2⟩ cont2
        dsimp only at fr vl vl2 ⊢
        have e110 := fr 110 (by decide) (by decide)
        have np := hr s p s0 hs p0 hp
        have z01 := bzc_01 (rc N rooms st0 k s)
        have vs := vl s s0 (by omega)
        rw [eX4_goesCan_12]
        simp (disch := first | assumption | omega) only [if_neg (show ¬ 8 ≤ p by omega), vs, e110, hN s p s0 hs p0 hp, eX4_goesCan_67, eX4_goesCan_73, bi_add, bi_sub, bi_mul, bi_neg, bi_div, bi_64, bl_add, bl_sub, bl_mul, bl_neg, bl_div, bl_32, bi_min, bi_max, bl_min, bl_max, bq_I, bq_J, bq_A, bq_Vi, bq_Vl, bq_Vr, bq_cV, bq_cI, bq_cJ, bq_cA, bq_le, bq_lt, bq_eq, bq_z, bq_o, bq_ref, bq_nz, bq_nzJ, bq_bl, bq_blz, bq_T, bq_F, if_true, if_false, Int.reduceEq, Int.reduceLT, Int.reduceLE, Int.reduceAdd, Int.reduceSub, Int.reduceMul, Int.add_sub_cancel, li_0, li_1, li_2, li_4, li_6, li_8, li_12, li_21, li_25, li_26, li_36, li_67, li_73, li_81, li_100, li_102, li_4043, li_4069, li_4093, ll_0, ll_1, ll_2, ll_4, ll_6, ll_8, ll_12, ll_21, ll_25, ll_26, ll_36, ll_67, ll_73, ll_81, ll_100, ll_102, ga103, ga105, ga119, ga120, ga106, ga107, ga108, ga109, ga110, ga111, ga116, ga118, ga104, ga112, ga114, ga115, ga117, ga113, ga121, gf102_5, gf102_13, gf102_14, gf102_0, gf102_6, gf102_7, gf102_8, gf102_9, gf102_10, gf102_11, gf102_12, gf102_15, gf102_19, gf102_20, gr102_1, gr102_2, gr102_3, gr102_4, gr102_16, gr102_17, gr102_18, gr102_21, gr102_22, gr102_23, gr102_24, gr102_25, gr102_26, gr102_27, gr102_28, gr102_29, gr102_30, gr102_31, gr102_32, pa103, pa105, pa119, pa120, pa106, pa107, pa108, pa109, pa110, pa111, pa116, pa118, pa104, pa112, pa114, pa115, pa117, pa113, pa121, pf102_5, pf102_13, pf102_14, pf102_0, pf102_6, pf102_7, pf102_8, pf102_9, pf102_10, pf102_11, pf102_12, pf102_15, pf102_19, pf102_20, s_within, t_isLost, t_fallen, t_isHurt, t_between, t_isPassage, t_isRoom, t_standNow, t_standsAll, t_isIn, t_noComing, t_noStand, t_bitsOf]
        by_cases y2 : rc N rooms st0 k s
        · rw [bzc_t y2, if_neg (by decide)]
          by_cases y : N s p = -1
          · rw [if_pos y]
            exact cont2 (x, .int (bk_i (N s p))) ⟨by omega, fr, vl, fun t a b => by dsimp only; rw [vl2 t a b, bzc_iff (pr_skip (fun k => by have := k.2.1; omega))]⟩
          · rw [if_neg y]
            by_cases y4 : bt rooms (N s p / 6) = 1
            · rw [if_pos y4]
              exact cont2 (x, .int (bk_i (N s p))) ⟨by omega, fr, vl, fun t a b => by dsimp only; rw [vl2 t a b, bzc_iff (pr_skip (fun k => by rw [← k.2.1] at k; exact k.2.2 y4))]⟩
            · rw [if_neg y4]
              refine cont2 (bU x 115 (N s p) 1, .int (bk_i (N s p))) ⟨by omega, fun a ha hb => ?_, fun t a b => ?_, fun t a b => ?_⟩
              · funext j; show bU x 115 (N s p) 1 a j = _; rw [bU_ne _ _ _ _ _ _ hb, fr a ha hb]
              · show bU x 115 (N s p) 1 114 t = _; rw [bU_ne _ _ _ _ _ _ (by decide)]; exact vl t a b
              · show bU x 115 (N s p) 1 115 t = _
                rw [bU_same, bzc_iff (pr_hit s0 (by omega) p0 (by omega) y2 rfl y4)]
                by_cases y3 : t = N s p
                · rw [if_pos y3, bzc_t (Or.inl y3)]
                · rw [if_neg y3, vl2 t a b]
                  exact bzc_iff ⟨Or.inr, fun k => k.resolve_left y3⟩
        · rw [bzc_f y2, if_pos rfl]
          refine cont (x, .int (bk_i p)) ⟨by omega, fr, vl, fun t a b => ?_⟩
          dsimp only
          rw [vl2 t a b, bzc_iff (pr_row a (P := p) fun q qa qb => Or.inl y2)]
      · rintro ⟨x, w⟩ ⟨p0, fr, vl, vl2⟩
        dsimp only at fr vl vl2 ⊢
        rw [eX4_goesCan_12]
        simp (disch := first | assumption | omega) only [if_pos (Int.le_refl 8), eX4_goesCan_73, bi_add, bi_sub, bi_mul, bi_neg, bi_div, bi_64, bl_add, bl_sub, bl_mul, bl_neg, bl_div, bl_32, bi_min, bi_max, bl_min, bl_max, bq_I, bq_J, bq_A, bq_Vi, bq_Vl, bq_Vr, bq_cV, bq_cI, bq_cJ, bq_cA, bq_le, bq_lt, bq_eq, bq_z, bq_o, bq_ref, bq_nz, bq_nzJ, bq_bl, bq_blz, bq_T, bq_F, if_true, if_false, Int.reduceEq, Int.reduceLT, Int.reduceLE, Int.reduceAdd, Int.reduceSub, Int.reduceMul, Int.add_sub_cancel, li_0, li_1, li_2, li_4, li_6, li_8, li_12, li_21, li_25, li_26, li_36, li_67, li_73, li_81, li_100, li_102, li_4043, li_4069, li_4093, ll_0, ll_1, ll_2, ll_4, ll_6, ll_8, ll_12, ll_21, ll_25, ll_26, ll_36, ll_67, ll_73, ll_81, ll_100, ll_102, ga103, ga105, ga119, ga120, ga106, ga107, ga108, ga109, ga110, ga111, ga116, ga118, ga104, ga112, ga114, ga115, ga117, ga113, ga121, gf102_5, gf102_13, gf102_14, gf102_0, gf102_6, gf102_7, gf102_8, gf102_9, gf102_10, gf102_11, gf102_12, gf102_15, gf102_19, gf102_20, gr102_1, gr102_2, gr102_3, gr102_4, gr102_16, gr102_17, gr102_18, gr102_21, gr102_22, gr102_23, gr102_24, gr102_25, gr102_26, gr102_27, gr102_28, gr102_29, gr102_30, gr102_31, gr102_32, pa103, pa105, pa119, pa120, pa106, pa107, pa108, pa109, pa110, pa111, pa116, pa118, pa104, pa112, pa114, pa115, pa117, pa113, pa121, pf102_5, pf102_13, pf102_14, pf102_0, pf102_6, pf102_7, pf102_8, pf102_9, pf102_10, pf102_11, pf102_12, pf102_15, pf102_19, pf102_20, s_within, t_isLost, t_fallen, t_isHurt, t_between, t_isPassage, t_isRoom, t_standNow, t_standsAll, t_isIn, t_noComing, t_noStand, t_bitsOf]
        refine cont (x, .int (bk_i 8)) ⟨by omega, fr, vl, fun t a b => ?_⟩
        dsimp only
        rw [vl2 t a b, bzc_iff (pr_row a (P := 8) fun q qa qb => by omega)]
    · rintro ⟨x, w⟩ ⟨s0, fr, vl, vl2⟩
      dsimp only at fr vl vl2 ⊢
      have vl3 : ∀ t, 0 ≤ t → t < 36 → x 115 t = bzc (rc N rooms st0 (k + 1) t) := by
        intro t a b
        rw [vl2 t a b, bzc_iff (pr_end (k := k) (st := st0) (fun u => Iff.rfl) a fun u q ua qa qb => ?_)]
        by_cases y : N u q = -1
        · exact y
        · have := hdom u q y; omega
      rw [eX4_goesCan_2]
      simp (disch := first | assumption | omega) only [if_pos (Int.le_refl (6 * tp 103 1)), bi_add, bi_sub, bi_mul, bi_neg, bi_div, bi_64, bl_add, bl_sub, bl_mul, bl_neg, bl_div, bl_32, bi_min, bi_max, bl_min, bl_max, bq_I, bq_J, bq_A, bq_Vi, bq_Vl, bq_Vr, bq_cV, bq_cI, bq_cJ, bq_cA, bq_le, bq_lt, bq_eq, bq_z, bq_o, bq_ref, bq_nz, bq_nzJ, bq_bl, bq_blz, bq_T, bq_F, if_true, if_false, Int.reduceEq, Int.reduceLT, Int.reduceLE, Int.reduceAdd, Int.reduceSub, Int.reduceMul, Int.add_sub_cancel, li_0, li_1, li_2, li_4, li_6, li_8, li_12, li_21, li_25, li_26, li_36, li_67, li_73, li_81, li_100, li_102, li_4043, li_4069, li_4093, ll_0, ll_1, ll_2, ll_4, ll_6, ll_8, ll_12, ll_21, ll_25, ll_26, ll_36, ll_67, ll_73, ll_81, ll_100, ll_102, ga103, ga105, ga119, ga120, ga106, ga107, ga108, ga109, ga110, ga111, ga116, ga118, ga104, ga112, ga114, ga115, ga117, ga113, ga121, gf102_5, gf102_13, gf102_14, gf102_0, gf102_6, gf102_7, gf102_8, gf102_9, gf102_10, gf102_11, gf102_12, gf102_15, gf102_19, gf102_20, gr102_1, gr102_2, gr102_3, gr102_4, gr102_16, gr102_17, gr102_18, gr102_21, gr102_22, gr102_23, gr102_24, gr102_25, gr102_26, gr102_27, gr102_28, gr102_29, gr102_30, gr102_31, gr102_32, pa103, pa105, pa119, pa120, pa106, pa107, pa108, pa109, pa110, pa111, pa116, pa118, pa104, pa112, pa114, pa115, pa117, pa113, pa121, pf102_5, pf102_13, pf102_14, pf102_0, pf102_6, pf102_7, pf102_8, pf102_9, pf102_10, pf102_11, pf102_12, pf102_15, pf102_19, pf102_20, s_within, t_isLost, t_fallen, t_isHurt, t_between, t_isPassage, t_isRoom, t_standNow, t_standsAll, t_isIn, t_noComing, t_noStand, t_bitsOf]
      refine bk_loop (σ := bF) (fun s x => bk_den TX4_goesCan (bk_call d) 81 [.ref 102, .int (bk_i rooms), .int (bk_i s), bk_u, bk_u] [] (bk_M κ X (tp, tj, x, tk) g n))
        (fun s x => 0 ≤ s ∧ (∀ a, a ≠ 114 → a ≠ 115 → x a = ts a) ∧ (∀ t, s ≤ t → t < 36 → x 115 t = bzc (rc N rooms st0 (k + 1) t)) ∧ (∀ t, 0 ≤ t → t < s → x 114 t = bzc (rc N rooms st0 (k + 1) t)) ∧ (∀ t, 0 ≤ t → t < s → x 115 t = 0)) 36 ?_ ?_ 0 x (by omega) ⟨by omega, fr, vl3, fun t _ _ => by omega, fun t _ _ => by omega⟩
      · rintro s x hs ⟨s0, fr, va, vb, vc⟩ cont
        have vs := va s (Int.le_refl s) hs
        have z01 := bzc_01 (rc N rooms st0 (k + 1) s)
        rw [eX4_goesCan_81]
        simp (disch := first | assumption | omega) only [if_neg (show ¬ 36 ≤ s by omega), vs, bi_add, bi_sub, bi_mul, bi_neg, bi_div, bi_64, bl_add, bl_sub, bl_mul, bl_neg, bl_div, bl_32, bi_min, bi_max, bl_min, bl_max, bq_I, bq_J, bq_A, bq_Vi, bq_Vl, bq_Vr, bq_cV, bq_cI, bq_cJ, bq_cA, bq_le, bq_lt, bq_eq, bq_z, bq_o, bq_ref, bq_nz, bq_nzJ, bq_bl, bq_blz, bq_T, bq_F, if_true, if_false, Int.reduceEq, Int.reduceLT, Int.reduceLE, Int.reduceAdd, Int.reduceSub, Int.reduceMul, Int.add_sub_cancel, li_0, li_1, li_2, li_4, li_6, li_8, li_12, li_21, li_25, li_26, li_36, li_67, li_73, li_81, li_100, li_102, li_4043, li_4069, li_4093, ll_0, ll_1, ll_2, ll_4, ll_6, ll_8, ll_12, ll_21, ll_25, ll_26, ll_36, ll_67, ll_73, ll_81, ll_100, ll_102, ga103, ga105, ga119, ga120, ga106, ga107, ga108, ga109, ga110, ga111, ga116, ga118, ga104, ga112, ga114, ga115, ga117, ga113, ga121, gf102_5, gf102_13, gf102_14, gf102_0, gf102_6, gf102_7, gf102_8, gf102_9, gf102_10, gf102_11, gf102_12, gf102_15, gf102_19, gf102_20, gr102_1, gr102_2, gr102_3, gr102_4, gr102_16, gr102_17, gr102_18, gr102_21, gr102_22, gr102_23, gr102_24, gr102_25, gr102_26, gr102_27, gr102_28, gr102_29, gr102_30, gr102_31, gr102_32, pa103, pa105, pa119, pa120, pa106, pa107, pa108, pa109, pa110, pa111, pa116, pa118, pa104, pa112, pa114, pa115, pa117, pa113, pa121, pf102_5, pf102_13, pf102_14, pf102_0, pf102_6, pf102_7, pf102_8, pf102_9, pf102_10, pf102_11, pf102_12, pf102_15, pf102_19, pf102_20, s_within, t_isLost, t_fallen, t_isHurt, t_between, t_isPassage, t_isRoom, t_standNow, t_standsAll, t_isIn, t_noComing, t_noStand, t_bitsOf]
        refine cont _ ⟨by omega, fun a ha hb => ?_, fun t a b => ?_, fun t a b => ?_, fun t a b => ?_⟩
        · funext j; rw [bU_ne _ _ _ _ _ _ hb, bU_ne _ _ _ _ _ _ ha, fr a ha hb]
        · rw [bU_same, if_neg (by omega), bU_ne _ _ _ _ _ _ (by decide)]; exact va t (by omega) b
        · rw [bU_ne _ _ _ _ _ _ (by decide), bU_same]
          by_cases y : t = s
          · rw [if_pos y, y]
          · rw [if_neg y]; exact vb t a (by omega)
        · rw [bU_same]
          by_cases y : t = s
          · rw [if_pos y]
          · rw [if_neg y, bU_ne _ _ _ _ _ _ (by decide)]; exact vc t a (by omega)
      · rintro x ⟨s0, fr, va, vb, vc⟩
        rw [eX4_goesCan_81]
        simp (disch := first | assumption | omega) only [if_pos (Int.le_refl 36), bi_add, bi_sub, bi_mul, bi_neg, bi_div, bi_64, bl_add, bl_sub, bl_mul, bl_neg, bl_div, bl_32, bi_min, bi_max, bl_min, bl_max, bq_I, bq_J, bq_A, bq_Vi, bq_Vl, bq_Vr, bq_cV, bq_cI, bq_cJ, bq_cA, bq_le, bq_lt, bq_eq, bq_z, bq_o, bq_ref, bq_nz, bq_nzJ, bq_bl, bq_blz, bq_T, bq_F, if_true, if_false, Int.reduceEq, Int.reduceLT, Int.reduceLE, Int.reduceAdd, Int.reduceSub, Int.reduceMul, Int.add_sub_cancel, li_0, li_1, li_2, li_4, li_6, li_8, li_12, li_21, li_25, li_26, li_36, li_67, li_73, li_81, li_100, li_102, li_4043, li_4069, li_4093, ll_0, ll_1, ll_2, ll_4, ll_6, ll_8, ll_12, ll_21, ll_25, ll_26, ll_36, ll_67, ll_73, ll_81, ll_100, ll_102, ga103, ga105, ga119, ga120, ga106, ga107, ga108, ga109, ga110, ga111, ga116, ga118, ga104, ga112, ga114, ga115, ga117, ga113, ga121, gf102_5, gf102_13, gf102_14, gf102_0, gf102_6, gf102_7, gf102_8, gf102_9, gf102_10, gf102_11, gf102_12, gf102_15, gf102_19, gf102_20, gr102_1, gr102_2, gr102_3, gr102_4, gr102_16, gr102_17, gr102_18, gr102_21, gr102_22, gr102_23, gr102_24, gr102_25, gr102_26, gr102_27, gr102_28, gr102_29, gr102_30, gr102_31, gr102_32, pa103, pa105, pa119, pa120, pa106, pa107, pa108, pa109, pa110, pa111, pa116, pa118, pa104, pa112, pa114, pa115, pa117, pa113, pa121, pf102_5, pf102_13, pf102_14, pf102_0, pf102_6, pf102_7, pf102_8, pf102_9, pf102_10, pf102_11, pf102_12, pf102_15, pf102_19, pf102_20, s_within, t_isLost, t_fallen, t_isHurt, t_between, t_isPassage, t_isRoom, t_standNow, t_standsAll, t_isIn, t_noComing, t_noStand, t_bitsOf]
        exact ⟨_, _, rfl, x, rfl, rfl, fr, vb, vc⟩
  obtain ⟨z, h', e, ts', rfl, rfl, h1, h2, h3⟩ := goal
  exact ⟨ts', h1, h2, h3, e⟩
theorem m_both (h : bTt g (tp 103)) (h0 : -2147483648 ≤ m) (h00 : m < 2147483648) (h3 : -2147483648 ≤ r) (h4 : r < 2147483648) (h5 : -2147483648 ≤ hu) (h6 : hu < 2147483648) (h7 : -2147483648 ≤ i) (h8 : i < 2147483648) (hD : 9 ≤ D) :
    bk_wp (bk_call D 4091 [.ref 102, .int (bk_i m), .int (bk_i r), .int (bk_i hu), .int (bk_i i)] (bk_M κ X (tp, tj, ts, tk) g n)) (bTq κ X tp tj g n (rBoth (tp 103) m r hu i)) := by
  obtain ⟨d, rfl⟩ := dep hD
  have st := bTt_st h
  have ht := h
  have fr := fF_rng (tp 103) m r hu
  obtain ⟨hF, hw, hs⟩ := h
  have hN := nxt_N hw (tp 103 44) (Int.le_refl (6 * tp 103 1))
  have ef := t_noFound (κ := κ) (X := X) (tp := tp) (ts := bU ts 102 0 0) (tj := tj) (tk := tk) (n := n) (D := d) hF (by omega) (by omega) h0 h00 h3 h4 h5 h6 (by omega)
  rw [kX4_both, eX4_both_0]
  simp (disch := first | assumption | omega) only [ef, bi_add, bi_sub, bi_mul, bi_neg, bi_div, bi_64, bl_add, bl_sub, bl_mul, bl_neg, bl_div, bl_32, bi_min, bi_max, bl_min, bl_max, bq_I, bq_J, bq_A, bq_Vi, bq_Vl, bq_Vr, bq_cV, bq_cI, bq_cJ, bq_cA, bq_le, bq_lt, bq_eq, bq_z, bq_o, bq_ref, bq_nz, bq_nzJ, bq_bl, bq_blz, bq_T, bq_F, if_true, if_false, Int.reduceEq, Int.reduceLT, Int.reduceLE, Int.reduceAdd, Int.reduceSub, Int.reduceMul, Int.add_sub_cancel, li_0, li_1, li_3, li_4, li_24, li_25, li_36, li_53, li_77, li_102, li_104, li_122, li_123, li_4004, li_4069, li_4087, li_4088, li_4091, li_4092, li_4093, ll_0, ll_1, ll_3, ll_4, ll_24, ll_25, ll_36, ll_53, ll_77, ll_102, ll_104, ll_122, ll_123, ga103, ga105, ga119, ga120, ga106, ga107, ga108, ga109, ga110, ga111, ga116, ga118, ga104, ga112, ga114, ga115, ga117, ga113, ga121, gf102_5, gf102_13, gf102_14, gf102_0, gf102_6, gf102_7, gf102_8, gf102_9, gf102_10, gf102_11, gf102_12, gf102_15, gf102_19, gf102_20, gr102_1, gr102_2, gr102_3, gr102_4, gr102_16, gr102_17, gr102_18, gr102_21, gr102_22, gr102_23, gr102_24, gr102_25, gr102_26, gr102_27, gr102_28, gr102_29, gr102_30, gr102_31, gr102_32, pa103, pa105, pa119, pa120, pa106, pa107, pa108, pa109, pa110, pa111, pa116, pa118, pa104, pa112, pa114, pa115, pa117, pa113, pa121, pf102_5, pf102_13, pf102_14, pf102_0, pf102_6, pf102_7, pf102_8, pf102_9, pf102_10, pf102_11, pf102_12, pf102_15, pf102_19, pf102_20, s_within, t_isLost, t_fallen, t_isHurt, t_between, t_isPassage, t_isRoom, t_standNow, t_standsAll, t_isIn, t_noComing, t_noStand, t_bitsOf]
  by_cases q : fF (tp 103) m r hu = 0
  · have q' := fF_0 q
    rw [if_pos q, q]
    by_cases q2 : 0 ≤ i ∧ i ≤ m
    · rw [if_pos q2]
      obtain ⟨ts1, tk1, v1, v2', e1⟩ := t_laysFound (κ := κ) (X := X) (ts := bU ts 102 0 0) (tj := tj) (tk := tk) (n := n) (D := d) (m := m) (r := r) (hu := hu) (b := -1) ht (by omega) (by omega) (by omega) (by omega) (by omega) (by omega) (by omega) (by omega) (by omega)
      have v2 : ∀ k s, 0 ≤ k → k ≤ m → 0 ≤ s → s < 6 * tp 103 1 → tk1 113 (36 * k + s) = bk_l (wy (nxt (tp 103) (tp 103 44)) (6 * r + hu) k.toNat s) := fun k s a b c e => by rw [v2' k s a b c e, wy_Nb1 hN _ c e]
      obtain ⟨ts2, f2, b2, z2, e2⟩ := t_beginsCan (κ := κ) (X := X) (tp := tp) (ts := ts1) (tj := tj) (tk := tk1) (n := n) (D := d) (N := nxt (tp 103) (tp 103 44)) (rooms := 0) hF (by omega) (by omega) (by omega)
      simp (disch := first | assumption | omega) only [e1, e2, bi_add, bi_sub, bi_mul, bi_neg, bi_div, bi_64, bl_add, bl_sub, bl_mul, bl_neg, bl_div, bl_32, bi_min, bi_max, bl_min, bl_max, bq_I, bq_J, bq_A, bq_Vi, bq_Vl, bq_Vr, bq_cV, bq_cI, bq_cJ, bq_cA, bq_le, bq_lt, bq_eq, bq_z, bq_o, bq_ref, bq_nz, bq_nzJ, bq_bl, bq_blz, bq_T, bq_F, if_true, if_false, Int.reduceEq, Int.reduceLT, Int.reduceLE, Int.reduceAdd, Int.reduceSub, Int.reduceMul, Int.add_sub_cancel, li_0, li_1, li_3, li_4, li_24, li_25, li_36, li_53, li_77, li_102, li_104, li_122, li_123, li_4004, li_4069, li_4087, li_4088, li_4091, li_4092, li_4093, ll_0, ll_1, ll_3, ll_4, ll_24, ll_25, ll_36, ll_53, ll_77, ll_102, ll_104, ll_122, ll_123, ga103, ga105, ga119, ga120, ga106, ga107, ga108, ga109, ga110, ga111, ga116, ga118, ga104, ga112, ga114, ga115, ga117, ga113, ga121, gf102_5, gf102_13, gf102_14, gf102_0, gf102_6, gf102_7, gf102_8, gf102_9, gf102_10, gf102_11, gf102_12, gf102_15, gf102_19, gf102_20, gr102_1, gr102_2, gr102_3, gr102_4, gr102_16, gr102_17, gr102_18, gr102_21, gr102_22, gr102_23, gr102_24, gr102_25, gr102_26, gr102_27, gr102_28, gr102_29, gr102_30, gr102_31, gr102_32, pa103, pa105, pa119, pa120, pa106, pa107, pa108, pa109, pa110, pa111, pa116, pa118, pa104, pa112, pa114, pa115, pa117, pa113, pa121, pf102_5, pf102_13, pf102_14, pf102_0, pf102_6, pf102_7, pf102_8, pf102_9, pf102_10, pf102_11, pf102_12, pf102_15, pf102_19, pf102_20, s_within, t_isLost, t_fallen, t_isHurt, t_between, t_isPassage, t_isRoom, t_standNow, t_standsAll, t_isIn, t_noComing, t_noStand, t_bitsOf]
      refine bk_loop (σ := bF) (fun k x => bk_den TX4_both (bk_call d) 53 [.ref 102, .int (bk_i m), .int (bk_i r), .int (bk_i hu), .int (bk_i i), .int (bk_i 0), .int (bk_i k), bk_u] [] (bk_M κ X (tp, tj, x, tk1) g n))
        (fun k x => 0 ≤ k ∧ (∀ s p, 0 ≤ s → s < 6 * tp 103 1 → 0 ≤ p → p < 8 → x 110 (8 * s + p) = nxt (tp 103) (tp 103 44) s p) ∧ (∀ t, 0 ≤ t → t < 36 → x 114 t = bzc (rc (nxt (tp 103) (tp 103 44)) 0 (6 * tp 103 42 + tp 103 43) k.toNat t)) ∧ (∀ t, 0 ≤ t → t < 36 → x 115 t = 0)) i ?_ ?_ 0 ts2 q2.1 ⟨by omega, fun s p a b c e => by rw [f2 110 (by decide) (by decide)]; exact v1 s p a b c e, b2, z2⟩
      · rintro k x hk ⟨k0, va, vb, vc⟩ cont
        obtain ⟨ts3, f3, b3, z3, e3⟩ := t_goesCan (κ := κ) (X := X) (tp := tp) (ts := x) (tj := tj) (tk := tk1) (n := n) (D := d) (N := nxt (tp 103) (tp 103 44)) (rooms := 0) hF (by omega) (by omega) va hN (fun s p y => (nxt_dom y).2.2.2.1) (by omega) (by omega) vb vc (by omega)
        have e : (k + 1).toNat = k.toNat + 1 := by omega
        rw [eX4_both_53]
        simp (disch := first | assumption | omega) only [if_neg (show ¬ i ≤ k by omega), e3, bi_add, bi_sub, bi_mul, bi_neg, bi_div, bi_64, bl_add, bl_sub, bl_mul, bl_neg, bl_div, bl_32, bi_min, bi_max, bl_min, bl_max, bq_I, bq_J, bq_A, bq_Vi, bq_Vl, bq_Vr, bq_cV, bq_cI, bq_cJ, bq_cA, bq_le, bq_lt, bq_eq, bq_z, bq_o, bq_ref, bq_nz, bq_nzJ, bq_bl, bq_blz, bq_T, bq_F, if_true, if_false, Int.reduceEq, Int.reduceLT, Int.reduceLE, Int.reduceAdd, Int.reduceSub, Int.reduceMul, Int.add_sub_cancel, li_0, li_1, li_3, li_4, li_24, li_25, li_36, li_53, li_77, li_102, li_104, li_122, li_123, li_4004, li_4069, li_4087, li_4088, li_4091, li_4092, li_4093, ll_0, ll_1, ll_3, ll_4, ll_24, ll_25, ll_36, ll_53, ll_77, ll_102, ll_104, ll_122, ll_123, ga103, ga105, ga119, ga120, ga106, ga107, ga108, ga109, ga110, ga111, ga116, ga118, ga104, ga112, ga114, ga115, ga117, ga113, ga121, gf102_5, gf102_13, gf102_14, gf102_0, gf102_6, gf102_7, gf102_8, gf102_9, gf102_10, gf102_11, gf102_12, gf102_15, gf102_19, gf102_20, gr102_1, gr102_2, gr102_3, gr102_4, gr102_16, gr102_17, gr102_18, gr102_21, gr102_22, gr102_23, gr102_24, gr102_25, gr102_26, gr102_27, gr102_28, gr102_29, gr102_30, gr102_31, gr102_32, pa103, pa105, pa119, pa120, pa106, pa107, pa108, pa109, pa110, pa111, pa116, pa118, pa104, pa112, pa114, pa115, pa117, pa113, pa121, pf102_5, pf102_13, pf102_14, pf102_0, pf102_6, pf102_7, pf102_8, pf102_9, pf102_10, pf102_11, pf102_12, pf102_15, pf102_19, pf102_20, s_within, t_isLost, t_fallen, t_isHurt, t_between, t_isPassage, t_isRoom, t_standNow, t_standsAll, t_isIn, t_noComing, t_noStand, t_bitsOf]
        exact cont ts3 ⟨by omega, fun s p a b c e => by rw [f3 110 (by decide) (by decide)]; exact va s p a b c e, by rw [e]; exact b3, z3⟩
      · rintro x ⟨k0, va, vb, vc⟩
        rw [eX4_both_53]
        simp (disch := first | assumption | omega) only [if_pos (Int.le_refl i), bi_add, bi_sub, bi_mul, bi_neg, bi_div, bi_64, bl_add, bl_sub, bl_mul, bl_neg, bl_div, bl_32, bi_min, bi_max, bl_min, bl_max, bq_I, bq_J, bq_A, bq_Vi, bq_Vl, bq_Vr, bq_cV, bq_cI, bq_cJ, bq_cA, bq_le, bq_lt, bq_eq, bq_z, bq_o, bq_ref, bq_nz, bq_nzJ, bq_bl, bq_blz, bq_T, bq_F, if_true, if_false, Int.reduceEq, Int.reduceLT, Int.reduceLE, Int.reduceAdd, Int.reduceSub, Int.reduceMul, Int.add_sub_cancel, li_0, li_1, li_3, li_4, li_24, li_25, li_36, li_53, li_77, li_102, li_104, li_122, li_123, li_4004, li_4069, li_4087, li_4088, li_4091, li_4092, li_4093, ll_0, ll_1, ll_3, ll_4, ll_24, ll_25, ll_36, ll_53, ll_77, ll_102, ll_104, ll_122, ll_123, ga103, ga105, ga119, ga120, ga106, ga107, ga108, ga109, ga110, ga111, ga116, ga118, ga104, ga112, ga114, ga115, ga117, ga113, ga121, gf102_5, gf102_13, gf102_14, gf102_0, gf102_6, gf102_7, gf102_8, gf102_9, gf102_10, gf102_11, gf102_12, gf102_15, gf102_19, gf102_20, gr102_1, gr102_2, gr102_3, gr102_4, gr102_16, gr102_17, gr102_18, gr102_21, gr102_22, gr102_23, gr102_24, gr102_25, gr102_26, gr102_27, gr102_28, gr102_29, gr102_30, gr102_31, gr102_32, pa103, pa105, pa119, pa120, pa106, pa107, pa108, pa109, pa110, pa111, pa116, pa118, pa104, pa112, pa114, pa115, pa117, pa113, pa121, pf102_5, pf102_13, pf102_14, pf102_0, pf102_6, pf102_7, pf102_8, pf102_9, pf102_10, pf102_11, pf102_12, pf102_15, pf102_19, pf102_20, s_within, t_isLost, t_fallen, t_isHurt, t_between, t_isPassage, t_isRoom, t_standNow, t_standsAll, t_isIn, t_noComing, t_noStand, t_bitsOf]
        refine bk_loop (σ := Unit) (fun s _ => bk_den TX4_both (bk_call d) 77 [.ref 102, .int (bk_i m), .int (bk_i r), .int (bk_i hu), .int (bk_i i), .int (bk_i 0), .int (bk_i (sumZ (fun s => bzc (rc (nxt (tp 103) (tp 103 44)) 0 (6 * tp 103 42 + tp 103 43) i.toNat s ∧ 0 < wy (nxt (tp 103) (tp 103 44)) (6 * r + hu) (m - i).toNat s)) s.toNat)), .int (bk_i s)] [] (bk_M κ X (tp, tj, x, tk1) g n)) (fun s _ => 0 ≤ s) (6 * tp 103 1) ?_ ?_ 0 () (by omega) (by omega)
        · rintro s - hs s0 cont2
          have c := cont2 () (by omega)
          rw [sumZ_succ _ s0] at c
          have wb := wy_b (to := 6 * r + hu) hN (k := (m - i).toNat) (by omega) s0 hs
          have vr := v2 (m - i) s (by omega) (by omega) s0 hs
          have z01 := bzc_01 (rc (nxt (tp 103) (tp 103 44)) 0 (6 * tp 103 42 + tp 103 43) i.toNat s)
          rw [eX4_both_77]
          simp (disch := first | assumption | omega) only [if_neg (show ¬ 6 * tp 103 1 ≤ s by omega), vb s s0 (by omega), lcle, vr, eX4_both_122, eX4_both_123, bi_add, bi_sub, bi_mul, bi_neg, bi_div, bi_64, bl_add, bl_sub, bl_mul, bl_neg, bl_div, bl_32, bi_min, bi_max, bl_min, bl_max, bq_I, bq_J, bq_A, bq_Vi, bq_Vl, bq_Vr, bq_cV, bq_cI, bq_cJ, bq_cA, bq_le, bq_lt, bq_eq, bq_z, bq_o, bq_ref, bq_nz, bq_nzJ, bq_bl, bq_blz, bq_T, bq_F, if_true, if_false, Int.reduceEq, Int.reduceLT, Int.reduceLE, Int.reduceAdd, Int.reduceSub, Int.reduceMul, Int.add_sub_cancel, li_0, li_1, li_3, li_4, li_24, li_25, li_36, li_53, li_77, li_102, li_104, li_122, li_123, li_4004, li_4069, li_4087, li_4088, li_4091, li_4092, li_4093, ll_0, ll_1, ll_3, ll_4, ll_24, ll_25, ll_36, ll_53, ll_77, ll_102, ll_104, ll_122, ll_123, ga103, ga105, ga119, ga120, ga106, ga107, ga108, ga109, ga110, ga111, ga116, ga118, ga104, ga112, ga114, ga115, ga117, ga113, ga121, gf102_5, gf102_13, gf102_14, gf102_0, gf102_6, gf102_7, gf102_8, gf102_9, gf102_10, gf102_11, gf102_12, gf102_15, gf102_19, gf102_20, gr102_1, gr102_2, gr102_3, gr102_4, gr102_16, gr102_17, gr102_18, gr102_21, gr102_22, gr102_23, gr102_24, gr102_25, gr102_26, gr102_27, gr102_28, gr102_29, gr102_30, gr102_31, gr102_32, pa103, pa105, pa119, pa120, pa106, pa107, pa108, pa109, pa110, pa111, pa116, pa118, pa104, pa112, pa114, pa115, pa117, pa113, pa121, pf102_5, pf102_13, pf102_14, pf102_0, pf102_6, pf102_7, pf102_8, pf102_9, pf102_10, pf102_11, pf102_12, pf102_15, pf102_19, pf102_20, s_within, t_isLost, t_fallen, t_isHurt, t_between, t_isPassage, t_isRoom, t_standNow, t_standsAll, t_isIn, t_noComing, t_noStand, t_bitsOf]
          by_cases y2 : rc (nxt (tp 103) (tp 103 44)) 0 (6 * tp 103 42 + tp 103 43) i.toNat s
          · rw [bzc_t y2, if_neg (by decide)]
            by_cases y3 : wy (nxt (tp 103) (tp 103 44)) (6 * r + hu) (m - i).toNat s ≤ 0
            · rw [if_pos y3]
              rw [bzc_f (fun k => by have := k.2; omega)] at c
              exact c
            · rw [if_neg y3]
              rw [bzc_t ⟨y2, by omega⟩] at c
              exact c
          · rw [bzc_f y2, if_pos rfl]
            rw [bzc_f (fun k => y2 k.1)] at c
            exact c
        · rintro - s0
          rw [eX4_both_77]
          simp (disch := first | assumption | omega) only [if_pos (Int.le_refl (6 * tp 103 1)), bi_add, bi_sub, bi_mul, bi_neg, bi_div, bi_64, bl_add, bl_sub, bl_mul, bl_neg, bl_div, bl_32, bi_min, bi_max, bl_min, bl_max, bq_I, bq_J, bq_A, bq_Vi, bq_Vl, bq_Vr, bq_cV, bq_cI, bq_cJ, bq_cA, bq_le, bq_lt, bq_eq, bq_z, bq_o, bq_ref, bq_nz, bq_nzJ, bq_bl, bq_blz, bq_T, bq_F, if_true, if_false, Int.reduceEq, Int.reduceLT, Int.reduceLE, Int.reduceAdd, Int.reduceSub, Int.reduceMul, Int.add_sub_cancel, li_0, li_1, li_3, li_4, li_24, li_25, li_36, li_53, li_77, li_102, li_104, li_122, li_123, li_4004, li_4069, li_4087, li_4088, li_4091, li_4092, li_4093, ll_0, ll_1, ll_3, ll_4, ll_24, ll_25, ll_36, ll_53, ll_77, ll_102, ll_104, ll_122, ll_123, ga103, ga105, ga119, ga120, ga106, ga107, ga108, ga109, ga110, ga111, ga116, ga118, ga104, ga112, ga114, ga115, ga117, ga113, ga121, gf102_5, gf102_13, gf102_14, gf102_0, gf102_6, gf102_7, gf102_8, gf102_9, gf102_10, gf102_11, gf102_12, gf102_15, gf102_19, gf102_20, gr102_1, gr102_2, gr102_3, gr102_4, gr102_16, gr102_17, gr102_18, gr102_21, gr102_22, gr102_23, gr102_24, gr102_25, gr102_26, gr102_27, gr102_28, gr102_29, gr102_30, gr102_31, gr102_32, pa103, pa105, pa119, pa120, pa106, pa107, pa108, pa109, pa110, pa111, pa116, pa118, pa104, pa112, pa114, pa115, pa117, pa113, pa121, pf102_5, pf102_13, pf102_14, pf102_0, pf102_6, pf102_7, pf102_8, pf102_9, pf102_10, pf102_11, pf102_12, pf102_15, pf102_19, pf102_20, s_within, t_isLost, t_fallen, t_isHurt, t_between, t_isPassage, t_isRoom, t_standNow, t_standsAll, t_isIn, t_noComing, t_noStand, t_bitsOf]
          exact ⟨_, _, rfl, x, tk1, _, rfl, rfl, Or.inr (Or.inr ⟨q, q2, rfl⟩)⟩
    · rw [if_neg q2]
      exact ⟨_, _, rfl, _, tk, _, rfl, rfl, Or.inr (Or.inl ⟨q, q2, rfl⟩)⟩
  · rw [if_neg q]
    exact ⟨_, _, rfl, _, tk, _, rfl, rfl, Or.inl ⟨q, rfl⟩⟩
theorem t_isWatched (h : bTt g (tp 103)) (hN : ∀ s p, 0 ≤ s → s < 6 * tp 103 1 → 0 ≤ p → p < 8 → ts 110 (8 * s + p) = nxt (tp 103) (tp 103 44) s p) (r0 : 0 ≤ rooms) (r1 : rooms < 1024) (m0 : 0 ≤ m) (m1 : m ≤ 10) (hD : 4 ≤ D) :
    ∃ ts', (∀ a, a ≠ 114 → a ≠ 115 → ts' a = ts a) ∧ bk_call D 4097 [.ref 102, .int (bk_i rooms), .int (bk_i m)] (bk_M κ X (tp, tj, ts, tk) g n) = some (some (.int (bk_i (bzc (¬ ∃ s, 0 ≤ s ∧ s < 36 ∧ rc (nxt (tp 103) (tp 103 44)) rooms (6 * tp 103 42 + tp 103 43) m.toNat s)))), bk_M κ X (tp, tj, ts', tk) g n) := by
  obtain ⟨d, rfl⟩ := dep hD
  have st := bTt_st h
  obtain ⟨hF, hw, hs⟩ := h
  have hr := nxt_N hw (tp 103 44) (Int.le_refl (6 * tp 103 1))
  obtain ⟨ts2, f2, b2, z2, e2⟩ := t_beginsCan (κ := κ) (X := X) (tp := tp) (ts := ts) (tj := tj) (tk := tk) (n := n) (D := d) (N := nxt (tp 103) (tp 103 44)) (rooms := rooms) hF (by omega) (by omega) (by omega)
  have goal : bk_wp (bk_call (d + 1) 4097 [.ref 102, .int (bk_i rooms), .int (bk_i m)] (bk_M κ X (tp, tj, ts, tk) g n)) (fun v h' => ∃ ts', v = some (.int (bk_i (bzc (¬ ∃ s, 0 ≤ s ∧ s < 36 ∧ rc (nxt (tp 103) (tp 103 44)) rooms (6 * tp 103 42 + tp 103 43) m.toNat s)))) ∧ h' = bk_M κ X (tp, tj, ts', tk) g n ∧ (∀ a, a ≠ 114 → a ≠ 115 → ts' a = ts a)) := by
    rw [kX4_isWatched, eX4_isWatched_0]
    simp (disch := first | assumption | omega) only [e2, bi_add, bi_sub, bi_mul, bi_neg, bi_div, bi_64, bl_add, bl_sub, bl_mul, bl_neg, bl_div, bl_32, bi_min, bi_max, bl_min, bl_max, bq_I, bq_J, bq_A, bq_Vi, bq_Vl, bq_Vr, bq_cV, bq_cI, bq_cJ, bq_cA, bq_le, bq_lt, bq_eq, bq_z, bq_o, bq_ref, bq_nz, bq_nzJ, bq_bl, bq_blz, bq_T, bq_F, if_true, if_false, Int.reduceEq, Int.reduceLT, Int.reduceLE, Int.reduceAdd, Int.reduceSub, Int.reduceMul, Int.add_sub_cancel, li_0, li_1, li_4, li_6, li_24, li_25, li_36, li_102, li_4092, li_4093, li_4097, ll_0, ll_1, ll_4, ll_6, ll_24, ll_25, ll_36, ll_102, ga103, ga105, ga119, ga120, ga106, ga107, ga108, ga109, ga110, ga111, ga116, ga118, ga104, ga112, ga114, ga115, ga117, ga113, ga121, gf102_5, gf102_13, gf102_14, gf102_0, gf102_6, gf102_7, gf102_8, gf102_9, gf102_10, gf102_11, gf102_12, gf102_15, gf102_19, gf102_20, gr102_1, gr102_2, gr102_3, gr102_4, gr102_16, gr102_17, gr102_18, gr102_21, gr102_22, gr102_23, gr102_24, gr102_25, gr102_26, gr102_27, gr102_28, gr102_29, gr102_30, gr102_31, gr102_32, pa103, pa105, pa119, pa120, pa106, pa107, pa108, pa109, pa110, pa111, pa116, pa118, pa104, pa112, pa114, pa115, pa117, pa113, pa121, pf102_5, pf102_13, pf102_14, pf102_0, pf102_6, pf102_7, pf102_8, pf102_9, pf102_10, pf102_11, pf102_12, pf102_15, pf102_19, pf102_20, s_within, t_isLost, t_fallen, t_isHurt, t_between, t_isPassage, t_isRoom, t_standNow, t_standsAll, t_isIn, t_noComing, t_noStand, t_bitsOf]
    refine bk_loop (σ := bF) (fun k x => bk_den TX4_isWatched (bk_call d) 6 [.ref 102, .int (bk_i rooms), .int (bk_i m), .int (bk_i k)] [] (bk_M κ X (tp, tj, x, tk) g n))
      (fun k x => 0 ≤ k ∧ (∀ a, a ≠ 114 → a ≠ 115 → x a = ts a) ∧ (∀ t, 0 ≤ t → t < 36 → x 114 t = bzc (rc (nxt (tp 103) (tp 103 44)) rooms (6 * tp 103 42 + tp 103 43) k.toNat t)) ∧ (∀ t, 0 ≤ t → t < 36 → x 115 t = 0)) m ?_ ?_ 0 ts2 m0 ⟨by omega, f2, b2, z2⟩
    · rintro k x hk ⟨k0, fr, vb, vc⟩ cont
      obtain ⟨ts3, f3, b3, z3, e3⟩ := t_goesCan (κ := κ) (X := X) (tp := tp) (ts := x) (tj := tj) (tk := tk) (n := n) (D := d) (N := nxt (tp 103) (tp 103 44)) (rooms := rooms) hF (by omega) (by omega) (fun s p a b c e => by rw [fr 110 (by decide) (by decide)]; exact hN s p a b c e) hr (fun s p y => (nxt_dom y).2.2.2.1) r0 r1 vb vc (by omega)
      have e : (k + 1).toNat = k.toNat + 1 := by omega
      rw [eX4_isWatched_6]
      simp (disch := first | assumption | omega) only [if_neg (show ¬ m ≤ k by omega), e3, bi_add, bi_sub, bi_mul, bi_neg, bi_div, bi_64, bl_add, bl_sub, bl_mul, bl_neg, bl_div, bl_32, bi_min, bi_max, bl_min, bl_max, bq_I, bq_J, bq_A, bq_Vi, bq_Vl, bq_Vr, bq_cV, bq_cI, bq_cJ, bq_cA, bq_le, bq_lt, bq_eq, bq_z, bq_o, bq_ref, bq_nz, bq_nzJ, bq_bl, bq_blz, bq_T, bq_F, if_true, if_false, Int.reduceEq, Int.reduceLT, Int.reduceLE, Int.reduceAdd, Int.reduceSub, Int.reduceMul, Int.add_sub_cancel, li_0, li_1, li_4, li_6, li_24, li_25, li_36, li_102, li_4092, li_4093, li_4097, ll_0, ll_1, ll_4, ll_6, ll_24, ll_25, ll_36, ll_102, ga103, ga105, ga119, ga120, ga106, ga107, ga108, ga109, ga110, ga111, ga116, ga118, ga104, ga112, ga114, ga115, ga117, ga113, ga121, gf102_5, gf102_13, gf102_14, gf102_0, gf102_6, gf102_7, gf102_8, gf102_9, gf102_10, gf102_11, gf102_12, gf102_15, gf102_19, gf102_20, gr102_1, gr102_2, gr102_3, gr102_4, gr102_16, gr102_17, gr102_18, gr102_21, gr102_22, gr102_23, gr102_24, gr102_25, gr102_26, gr102_27, gr102_28, gr102_29, gr102_30, gr102_31, gr102_32, pa103, pa105, pa119, pa120, pa106, pa107, pa108, pa109, pa110, pa111, pa116, pa118, pa104, pa112, pa114, pa115, pa117, pa113, pa121, pf102_5, pf102_13, pf102_14, pf102_0, pf102_6, pf102_7, pf102_8, pf102_9, pf102_10, pf102_11, pf102_12, pf102_15, pf102_19, pf102_20, s_within, t_isLost, t_fallen, t_isHurt, t_between, t_isPassage, t_isRoom, t_standNow, t_standsAll, t_isIn, t_noComing, t_noStand, t_bitsOf]
      exact cont ts3 ⟨by omega, fun a ha hb => by rw [f3 a ha hb, fr a ha hb], by rw [e]; exact b3, z3⟩
    · rintro x ⟨k0, fr, vb, vc⟩
      rw [eX4_isWatched_6]
      simp (disch := first | assumption | omega) only [if_pos (Int.le_refl m), bi_add, bi_sub, bi_mul, bi_neg, bi_div, bi_64, bl_add, bl_sub, bl_mul, bl_neg, bl_div, bl_32, bi_min, bi_max, bl_min, bl_max, bq_I, bq_J, bq_A, bq_Vi, bq_Vl, bq_Vr, bq_cV, bq_cI, bq_cJ, bq_cA, bq_le, bq_lt, bq_eq, bq_z, bq_o, bq_ref, bq_nz, bq_nzJ, bq_bl, bq_blz, bq_T, bq_F, if_true, if_false, Int.reduceEq, Int.reduceLT, Int.reduceLE, Int.reduceAdd, Int.reduceSub, Int.reduceMul, Int.add_sub_cancel, li_0, li_1, li_4, li_6, li_24, li_25, li_36, li_102, li_4092, li_4093, li_4097, ll_0, ll_1, ll_4, ll_6, ll_24, ll_25, ll_36, ll_102, ga103, ga105, ga119, ga120, ga106, ga107, ga108, ga109, ga110, ga111, ga116, ga118, ga104, ga112, ga114, ga115, ga117, ga113, ga121, gf102_5, gf102_13, gf102_14, gf102_0, gf102_6, gf102_7, gf102_8, gf102_9, gf102_10, gf102_11, gf102_12, gf102_15, gf102_19, gf102_20, gr102_1, gr102_2, gr102_3, gr102_4, gr102_16, gr102_17, gr102_18, gr102_21, gr102_22, gr102_23, gr102_24, gr102_25, gr102_26, gr102_27, gr102_28, gr102_29, gr102_30, gr102_31, gr102_32, pa103, pa105, pa119, pa120, pa106, pa107, pa108, pa109, pa110, pa111, pa116, pa118, pa104, pa112, pa114, pa115, pa117, pa113, pa121, pf102_5, pf102_13, pf102_14, pf102_0, pf102_6, pf102_7, pf102_8, pf102_9, pf102_10, pf102_11, pf102_12, pf102_15, pf102_19, pf102_20, s_within, t_isLost, t_fallen, t_isHurt, t_between, t_isPassage, t_isRoom, t_standNow, t_standsAll, t_isIn, t_noComing, t_noStand, t_bitsOf]
      refine bk_loop (σ := Unit) (fun s _ => bk_den TX4_isWatched (bk_call d) 24 [.ref 102, .int (bk_i rooms), .int (bk_i m), .int (bk_i s)] [] (bk_M κ X (tp, tj, x, tk) g n)) (fun s _ => 0 ≤ s ∧ ∀ t, 0 ≤ t → t < s → ¬ rc (nxt (tp 103) (tp 103 44)) rooms (6 * tp 103 42 + tp 103 43) m.toNat t) 36 ?_ ?_ 0 () (by omega) ⟨by omega, fun t _ _ => by omega⟩
      · rintro s - hs ⟨s0, hv⟩ cont2
        have z01 := bzc_01 (rc (nxt (tp 103) (tp 103 44)) rooms (6 * tp 103 42 + tp 103 43) m.toNat s)
        have vs := vb s s0 hs
        rw [eX4_isWatched_24]
        simp (disch := first | assumption | omega) only [if_neg (show ¬ 36 ≤ s by omega), vs, bi_add, bi_sub, bi_mul, bi_neg, bi_div, bi_64, bl_add, bl_sub, bl_mul, bl_neg, bl_div, bl_32, bi_min, bi_max, bl_min, bl_max, bq_I, bq_J, bq_A, bq_Vi, bq_Vl, bq_Vr, bq_cV, bq_cI, bq_cJ, bq_cA, bq_le, bq_lt, bq_eq, bq_z, bq_o, bq_ref, bq_nz, bq_nzJ, bq_bl, bq_blz, bq_T, bq_F, if_true, if_false, Int.reduceEq, Int.reduceLT, Int.reduceLE, Int.reduceAdd, Int.reduceSub, Int.reduceMul, Int.add_sub_cancel, li_0, li_1, li_4, li_6, li_24, li_25, li_36, li_102, li_4092, li_4093, li_4097, ll_0, ll_1, ll_4, ll_6, ll_24, ll_25, ll_36, ll_102, ga103, ga105, ga119, ga120, ga106, ga107, ga108, ga109, ga110, ga111, ga116, ga118, ga104, ga112, ga114, ga115, ga117, ga113, ga121, gf102_5, gf102_13, gf102_14, gf102_0, gf102_6, gf102_7, gf102_8, gf102_9, gf102_10, gf102_11, gf102_12, gf102_15, gf102_19, gf102_20, gr102_1, gr102_2, gr102_3, gr102_4, gr102_16, gr102_17, gr102_18, gr102_21, gr102_22, gr102_23, gr102_24, gr102_25, gr102_26, gr102_27, gr102_28, gr102_29, gr102_30, gr102_31, gr102_32, pa103, pa105, pa119, pa120, pa106, pa107, pa108, pa109, pa110, pa111, pa116, pa118, pa104, pa112, pa114, pa115, pa117, pa113, pa121, pf102_5, pf102_13, pf102_14, pf102_0, pf102_6, pf102_7, pf102_8, pf102_9, pf102_10, pf102_11, pf102_12, pf102_15, pf102_19, pf102_20, s_within, t_isLost, t_fallen, t_isHurt, t_between, t_isPassage, t_isRoom, t_standNow, t_standsAll, t_isIn, t_noComing, t_noStand, t_bitsOf]
        by_cases y : rc (nxt (tp 103) (tp 103 44)) rooms (6 * tp 103 42 + tp 103 43) m.toNat s
        · rw [bzc_t y, if_neg (by decide)]
          exact ⟨_, _, rfl, x, by rw [bzc_f (fun k => k ⟨s, s0, hs, y⟩)], rfl, fr⟩
        · rw [bzc_f y, if_pos rfl]
          refine cont2 () ⟨by omega, fun t a b => ?_⟩
          by_cases z : t = s
          · subst z; exact y
          · exact hv t a (by omega)
      · rintro - ⟨s0, hv⟩
        rw [eX4_isWatched_24]
        simp (disch := first | assumption | omega) only [if_pos (Int.le_refl 36), bi_add, bi_sub, bi_mul, bi_neg, bi_div, bi_64, bl_add, bl_sub, bl_mul, bl_neg, bl_div, bl_32, bi_min, bi_max, bl_min, bl_max, bq_I, bq_J, bq_A, bq_Vi, bq_Vl, bq_Vr, bq_cV, bq_cI, bq_cJ, bq_cA, bq_le, bq_lt, bq_eq, bq_z, bq_o, bq_ref, bq_nz, bq_nzJ, bq_bl, bq_blz, bq_T, bq_F, if_true, if_false, Int.reduceEq, Int.reduceLT, Int.reduceLE, Int.reduceAdd, Int.reduceSub, Int.reduceMul, Int.add_sub_cancel, li_0, li_1, li_4, li_6, li_24, li_25, li_36, li_102, li_4092, li_4093, li_4097, ll_0, ll_1, ll_4, ll_6, ll_24, ll_25, ll_36, ll_102, ga103, ga105, ga119, ga120, ga106, ga107, ga108, ga109, ga110, ga111, ga116, ga118, ga104, ga112, ga114, ga115, ga117, ga113, ga121, gf102_5, gf102_13, gf102_14, gf102_0, gf102_6, gf102_7, gf102_8, gf102_9, gf102_10, gf102_11, gf102_12, gf102_15, gf102_19, gf102_20, gr102_1, gr102_2, gr102_3, gr102_4, gr102_16, gr102_17, gr102_18, gr102_21, gr102_22, gr102_23, gr102_24, gr102_25, gr102_26, gr102_27, gr102_28, gr102_29, gr102_30, gr102_31, gr102_32, pa103, pa105, pa119, pa120, pa106, pa107, pa108, pa109, pa110, pa111, pa116, pa118, pa104, pa112, pa114, pa115, pa117, pa113, pa121, pf102_5, pf102_13, pf102_14, pf102_0, pf102_6, pf102_7, pf102_8, pf102_9, pf102_10, pf102_11, pf102_12, pf102_15, pf102_19, pf102_20, s_within, t_isLost, t_fallen, t_isHurt, t_between, t_isPassage, t_isRoom, t_standNow, t_standsAll, t_isIn, t_noComing, t_noStand, t_bitsOf]
        exact ⟨_, _, rfl, x, by rw [bzc_t]; rintro ⟨t, a, b, c⟩; exact hv t a b c, rfl, fr⟩
  obtain ⟨z, h', e, ts', rfl, rfl, h1⟩ := goal
  exact ⟨ts', h1, e⟩
theorem m_watch (h : bTt g (tp 103)) (h0 : -2147483648 ≤ m) (h00 : m < 2147483648) (h3 : -2147483648 ≤ what) (h4 : what < 2147483648) (hD : 9 ≤ D) :
    bk_wp (bk_call D 4096 [.ref 102, .int (bk_i m), .int (bk_i what)] (bk_M κ X (tp, tj, ts, tk) g n)) (bTq κ X tp tj g n (rWatch (tp 103) m what)) := by
  obtain ⟨d, rfl⟩ := dep hD
  have st := bTt_st h
  have ht := h
  obtain ⟨hF, hw, hs⟩ := h
  obtain ⟨ts1, f1, v1, e1⟩ := t_laysThen (κ := κ) (X := X) (tp := tp) (ts := bU ts 102 0 0) (tj := tj) (tk := tk) (n := n) (rop := tp 103 44) (D := d) hF hw (by omega) (by omega) (by omega) (by omega) (by omega)
  have shr := sh_rng8 (p := tp 103 1) (by omega) (by omega)
  rw [kX4_watch, eX4_watch_0]
  simp (disch := first | assumption | omega) only [e1, bi_add, bi_sub, bi_mul, bi_neg, bi_div, bi_64, bl_add, bl_sub, bl_mul, bl_neg, bl_div, bl_32, bi_min, bi_max, bl_min, bl_max, bq_I, bq_J, bq_A, bq_Vi, bq_Vl, bq_Vr, bq_cV, bq_cI, bq_cJ, bq_cA, bq_le, bq_lt, bq_eq, bq_z, bq_o, bq_ref, bq_nz, bq_nzJ, bq_bl, bq_blz, bq_T, bq_F, if_true, if_false, Int.reduceEq, Int.reduceLT, Int.reduceLE, Int.reduceAdd, Int.reduceSub, Int.reduceMul, Int.add_sub_cancel, li_0, li_1, li_2, li_3, li_4, li_10, li_31, li_42, li_44, li_49, li_98, li_100, li_111, li_127, li_4004, li_4043, li_4068, li_4095, li_4096, li_4097, ll_0, ll_1, ll_2, ll_3, ll_4, ll_10, ll_31, ll_42, ll_44, ll_49, ll_98, ll_100, ll_111, ll_127, ga103, ga105, ga119, ga120, ga106, ga107, ga108, ga109, ga110, ga111, ga116, ga118, ga104, ga112, ga114, ga115, ga117, ga113, ga121, gf102_5, gf102_13, gf102_14, gf102_0, gf102_6, gf102_7, gf102_8, gf102_9, gf102_10, gf102_11, gf102_12, gf102_15, gf102_19, gf102_20, gr102_1, gr102_2, gr102_3, gr102_4, gr102_16, gr102_17, gr102_18, gr102_21, gr102_22, gr102_23, gr102_24, gr102_25, gr102_26, gr102_27, gr102_28, gr102_29, gr102_30, gr102_31, gr102_32, pa103, pa105, pa119, pa120, pa106, pa107, pa108, pa109, pa110, pa111, pa116, pa118, pa104, pa112, pa114, pa115, pa117, pa113, pa121, pf102_5, pf102_13, pf102_14, pf102_0, pf102_6, pf102_7, pf102_8, pf102_9, pf102_10, pf102_11, pf102_12, pf102_15, pf102_19, pf102_20, s_within, t_isLost, t_fallen, t_isHurt, t_between, t_isPassage, t_isRoom, t_standNow, t_standsAll, t_isIn, t_noComing, t_noStand, t_bitsOf]
  by_cases q : 0 ≤ what ∧ what ≤ 1
  · rw [if_pos q]
    by_cases q2 : 1 ≤ m ∧ m ≤ 10
    · rw [if_pos q2]
      refine bk_loop (σ := bF) (fun k x => bk_den TX4_watch (bk_call d) 49 [.ref 102, .int (bk_i m), .int (bk_i what), .int (bk_i (best (okW (tp 103) m) k.toNat)), .int (bk_i k)] [] (bk_M κ X (tp, tj, x, tk) g n)) (fun k x => 0 ≤ k ∧ ∀ s p, 0 ≤ s → s < 6 * tp 103 1 → 0 ≤ p → p < 8 → x 110 (8 * s + p) = nxt (tp 103) (tp 103 44) s p) (sh (tp 103 1)) ?_ ?_ 0 ts1 (by omega) ⟨by omega, v1⟩
      · rintro k x hk ⟨k0, vx⟩ cont
        have br := best_rng (okW (tp 103) m) k.toNat
        obtain ⟨ts2, f2, e2⟩ := t_isWatched (κ := κ) (X := X) (ts := x) (tj := tj) (tk := tk) (n := n) (D := d) (rooms := k) (m := m) ht vx k0 (by omega) (by omega) (by omega) (by omega)
        have g1 := cont ts2
        have g0 := cont x
        have v3 : ∀ s p, 0 ≤ s → s < 6 * tp 103 1 → 0 ≤ p → p < 8 → ts2 110 (8 * s + p) = nxt (tp 103) (tp 103 44) s p := fun s p a b c d => by rw [f2 110 (by decide) (by decide)]; exact vx s p a b c d
        have sk := szM_rng k
        have sb := szM_rng (best (okW (tp 103) m) k.toNat)
        have tail : (best (okW (tp 103) m) k.toNat = -1 ∨ szM k < szM (best (okW (tp 103) m) k.toNat)) → bt k (tp 103 42) ≠ 1 → bk_wp (bk_den TX4_watch (bk_call d) 98 [.ref 102, .int (bk_i m), .int (bk_i what), .int (bk_i (best (okW (tp 103) m) k.toNat)), .int (bk_i k)] [] (bk_M κ X (tp, tj, x, tk) g n)) (bTq κ X tp tj g n (rWatch (tp 103) m what)) := by
          intro hb hbt
          have z01 := bzc_01 (¬ ∃ s, 0 ≤ s ∧ s < 36 ∧ rc (nxt (tp 103) (tp 103 44)) k (6 * tp 103 42 + tp 103 43) m.toNat s)
          rw [eX4_watch_98]
          simp (disch := first | assumption | omega) only [e2, eX4_watch_111, bi_add, bi_sub, bi_mul, bi_neg, bi_div, bi_64, bl_add, bl_sub, bl_mul, bl_neg, bl_div, bl_32, bi_min, bi_max, bl_min, bl_max, bq_I, bq_J, bq_A, bq_Vi, bq_Vl, bq_Vr, bq_cV, bq_cI, bq_cJ, bq_cA, bq_le, bq_lt, bq_eq, bq_z, bq_o, bq_ref, bq_nz, bq_nzJ, bq_bl, bq_blz, bq_T, bq_F, if_true, if_false, Int.reduceEq, Int.reduceLT, Int.reduceLE, Int.reduceAdd, Int.reduceSub, Int.reduceMul, Int.add_sub_cancel, li_0, li_1, li_2, li_3, li_4, li_10, li_31, li_42, li_44, li_49, li_98, li_100, li_111, li_127, li_4004, li_4043, li_4068, li_4095, li_4096, li_4097, ll_0, ll_1, ll_2, ll_3, ll_4, ll_10, ll_31, ll_42, ll_44, ll_49, ll_98, ll_100, ll_111, ll_127, ga103, ga105, ga119, ga120, ga106, ga107, ga108, ga109, ga110, ga111, ga116, ga118, ga104, ga112, ga114, ga115, ga117, ga113, ga121, gf102_5, gf102_13, gf102_14, gf102_0, gf102_6, gf102_7, gf102_8, gf102_9, gf102_10, gf102_11, gf102_12, gf102_15, gf102_19, gf102_20, gr102_1, gr102_2, gr102_3, gr102_4, gr102_16, gr102_17, gr102_18, gr102_21, gr102_22, gr102_23, gr102_24, gr102_25, gr102_26, gr102_27, gr102_28, gr102_29, gr102_30, gr102_31, gr102_32, pa103, pa105, pa119, pa120, pa106, pa107, pa108, pa109, pa110, pa111, pa116, pa118, pa104, pa112, pa114, pa115, pa117, pa113, pa121, pf102_5, pf102_13, pf102_14, pf102_0, pf102_6, pf102_7, pf102_8, pf102_9, pf102_10, pf102_11, pf102_12, pf102_15, pf102_19, pf102_20, s_within, t_isLost, t_fallen, t_isHurt, t_between, t_isPassage, t_isRoom, t_standNow, t_standsAll, t_isIn, t_noComing, t_noStand, t_bitsOf]
          by_cases z : ∃ s, 0 ≤ s ∧ s < 36 ∧ rc (nxt (tp 103) (tp 103 44)) k (6 * tp 103 42 + tp 103 43) m.toNat s
          · rw [bzc_f (fun k => k z), if_pos rfl]
            rw [best_no k0 (fun y => y.2.2 z)] at g1
            exact g1 ⟨by omega, v3⟩
          · rw [bzc_t z, if_neg (by decide)]
            rw [best_yes k0 hb ⟨hbt, z⟩] at g1
            exact g1 ⟨by omega, v3⟩
        rw [eX4_watch_49]
        simp (disch := first | assumption | omega) only [bi_sh, if_neg (show ¬ sh (tp 103 1) ≤ k by omega), eX4_watch_111, bi_add, bi_sub, bi_mul, bi_neg, bi_div, bi_64, bl_add, bl_sub, bl_mul, bl_neg, bl_div, bl_32, bi_min, bi_max, bl_min, bl_max, bq_I, bq_J, bq_A, bq_Vi, bq_Vl, bq_Vr, bq_cV, bq_cI, bq_cJ, bq_cA, bq_le, bq_lt, bq_eq, bq_z, bq_o, bq_ref, bq_nz, bq_nzJ, bq_bl, bq_blz, bq_T, bq_F, if_true, if_false, Int.reduceEq, Int.reduceLT, Int.reduceLE, Int.reduceAdd, Int.reduceSub, Int.reduceMul, Int.add_sub_cancel, li_0, li_1, li_2, li_3, li_4, li_10, li_31, li_42, li_44, li_49, li_98, li_100, li_111, li_127, li_4004, li_4043, li_4068, li_4095, li_4096, li_4097, ll_0, ll_1, ll_2, ll_3, ll_4, ll_10, ll_31, ll_42, ll_44, ll_49, ll_98, ll_100, ll_111, ll_127, ga103, ga105, ga119, ga120, ga106, ga107, ga108, ga109, ga110, ga111, ga116, ga118, ga104, ga112, ga114, ga115, ga117, ga113, ga121, gf102_5, gf102_13, gf102_14, gf102_0, gf102_6, gf102_7, gf102_8, gf102_9, gf102_10, gf102_11, gf102_12, gf102_15, gf102_19, gf102_20, gr102_1, gr102_2, gr102_3, gr102_4, gr102_16, gr102_17, gr102_18, gr102_21, gr102_22, gr102_23, gr102_24, gr102_25, gr102_26, gr102_27, gr102_28, gr102_29, gr102_30, gr102_31, gr102_32, pa103, pa105, pa119, pa120, pa106, pa107, pa108, pa109, pa110, pa111, pa116, pa118, pa104, pa112, pa114, pa115, pa117, pa113, pa121, pf102_5, pf102_13, pf102_14, pf102_0, pf102_6, pf102_7, pf102_8, pf102_9, pf102_10, pf102_11, pf102_12, pf102_15, pf102_19, pf102_20, s_within, t_isLost, t_fallen, t_isHurt, t_between, t_isPassage, t_isRoom, t_standNow, t_standsAll, t_isIn, t_noComing, t_noStand, t_bitsOf]
        by_cases y2 : bt k (tp 103 42) = 1
        · rw [if_pos y2]
          rw [best_no k0 (fun y => y.2.1 y2)] at g0
          exact g0 ⟨by omega, vx⟩
        · rw [if_neg y2]
          by_cases y3 : best (okW (tp 103) m) k.toNat = -1
          · rw [if_pos y3]; exact tail (Or.inl y3) y2
          · rw [if_neg y3]
            by_cases y4 : szM k < szM (best (okW (tp 103) m) k.toNat)
            · rw [if_pos y4]; exact tail (Or.inr y4) y2
            · rw [if_neg y4]
              rw [best_no k0 (fun y => by rcases y.1 with z | z <;> omega)] at g0
              exact g0 ⟨by omega, vx⟩
      · rintro x ⟨k0, vx⟩
        have br := best_rng (okW (tp 103) m) (sh (tp 103 1)).toNat
        rw [eX4_watch_49]
        simp (disch := first | assumption | omega) only [bi_sh, if_pos (Int.le_refl (sh (tp 103 1))), eX4_watch_127, bi_add, bi_sub, bi_mul, bi_neg, bi_div, bi_64, bl_add, bl_sub, bl_mul, bl_neg, bl_div, bl_32, bi_min, bi_max, bl_min, bl_max, bq_I, bq_J, bq_A, bq_Vi, bq_Vl, bq_Vr, bq_cV, bq_cI, bq_cJ, bq_cA, bq_le, bq_lt, bq_eq, bq_z, bq_o, bq_ref, bq_nz, bq_nzJ, bq_bl, bq_blz, bq_T, bq_F, if_true, if_false, Int.reduceEq, Int.reduceLT, Int.reduceLE, Int.reduceAdd, Int.reduceSub, Int.reduceMul, Int.add_sub_cancel, li_0, li_1, li_2, li_3, li_4, li_10, li_31, li_42, li_44, li_49, li_98, li_100, li_111, li_127, li_4004, li_4043, li_4068, li_4095, li_4096, li_4097, ll_0, ll_1, ll_2, ll_3, ll_4, ll_10, ll_31, ll_42, ll_44, ll_49, ll_98, ll_100, ll_111, ll_127, ga103, ga105, ga119, ga120, ga106, ga107, ga108, ga109, ga110, ga111, ga116, ga118, ga104, ga112, ga114, ga115, ga117, ga113, ga121, gf102_5, gf102_13, gf102_14, gf102_0, gf102_6, gf102_7, gf102_8, gf102_9, gf102_10, gf102_11, gf102_12, gf102_15, gf102_19, gf102_20, gr102_1, gr102_2, gr102_3, gr102_4, gr102_16, gr102_17, gr102_18, gr102_21, gr102_22, gr102_23, gr102_24, gr102_25, gr102_26, gr102_27, gr102_28, gr102_29, gr102_30, gr102_31, gr102_32, pa103, pa105, pa119, pa120, pa106, pa107, pa108, pa109, pa110, pa111, pa116, pa118, pa104, pa112, pa114, pa115, pa117, pa113, pa121, pf102_5, pf102_13, pf102_14, pf102_0, pf102_6, pf102_7, pf102_8, pf102_9, pf102_10, pf102_11, pf102_12, pf102_15, pf102_19, pf102_20, s_within, t_isLost, t_fallen, t_isHurt, t_between, t_isPassage, t_isRoom, t_standNow, t_standsAll, t_isIn, t_noComing, t_noStand, t_bitsOf]
        by_cases y : best (okW (tp 103) m) (sh (tp 103 1)).toNat = -1
        · rw [if_pos y]
          exact ⟨_, _, rfl, x, tk, _, rfl, rfl, Or.inr (Or.inr ⟨q, q2, by unfold asked; rw [if_pos (Or.inl y)]⟩)⟩
        · rw [if_neg y]
          by_cases y2 : what = 1
          · rw [if_pos y2]
            exact ⟨_, _, rfl, x, tk, _, rfl, rfl, Or.inr (Or.inr ⟨q, q2, by unfold asked; rw [if_pos (Or.inr y2)]⟩)⟩
          · rw [if_neg y2]
            exact ⟨_, _, rfl, x, tk, _, rfl, rfl, Or.inr (Or.inr ⟨q, q2, by unfold asked; rw [if_neg (by omega)]⟩)⟩
    · rw [if_neg q2]
      exact ⟨_, _, rfl, _, tk, _, rfl, rfl, Or.inr (Or.inl ⟨q, q2, rfl⟩)⟩
  · rw [if_neg q]
    exact ⟨_, _, rfl, _, tk, _, rfl, rfl, Or.inl ⟨q, rfl⟩⟩
theorem m_ropes (h : bTt g (tp 103)) (h3 : -2147483648 ≤ r) (h4 : r < 2147483648) (h5 : -2147483648 ≤ hu) (h6 : hu < 2147483648) (h7 : -2147483648 ≤ what) (h8 : what < 2147483648) (hD : 9 ≤ D) :
    bk_wp (bk_call D 4094 [.ref 102, .int (bk_i r), .int (bk_i hu), .int (bk_i what)] (bk_M κ X (tp, tj, ts, tk) g n)) (bTq κ X tp tj g n (rRopes (tp 103) r hu what)) := by
  obtain ⟨d, rfl⟩ := dep hD
  have st := bTt_st h
  have ht := h
  obtain ⟨hF, hw, hs⟩ := h
  have shr := sh_rng8 (p := tp 103 2) (by omega) (by omega)
  rw [kX4_ropes, eX4_ropes_0]
  simp (disch := first | assumption | omega) only [bi_add, bi_sub, bi_mul, bi_neg, bi_div, bi_64, bl_add, bl_sub, bl_mul, bl_neg, bl_div, bl_32, bi_min, bi_max, bl_min, bl_max, bq_I, bq_J, bq_A, bq_Vi, bq_Vl, bq_Vr, bq_cV, bq_cI, bq_cJ, bq_cA, bq_le, bq_lt, bq_eq, bq_z, bq_o, bq_ref, bq_nz, bq_nzJ, bq_bl, bq_blz, bq_T, bq_F, if_true, if_false, Int.reduceEq, Int.reduceLT, Int.reduceLE, Int.reduceAdd, Int.reduceSub, Int.reduceMul, Int.add_sub_cancel, li_0, li_1, li_2, li_3, li_4, li_31, li_44, li_48, li_96, li_100, li_122, li_139, li_4004, li_4051, li_4067, li_4094, li_4095, li_268435456, ll_0, ll_1, ll_2, ll_3, ll_4, ll_31, ll_44, ll_48, ll_96, ll_100, ll_122, ll_139, ga103, ga105, ga119, ga120, ga106, ga107, ga108, ga109, ga110, ga111, ga116, ga118, ga104, ga112, ga114, ga115, ga117, ga113, ga121, gf102_5, gf102_13, gf102_14, gf102_0, gf102_6, gf102_7, gf102_8, gf102_9, gf102_10, gf102_11, gf102_12, gf102_15, gf102_19, gf102_20, gr102_1, gr102_2, gr102_3, gr102_4, gr102_16, gr102_17, gr102_18, gr102_21, gr102_22, gr102_23, gr102_24, gr102_25, gr102_26, gr102_27, gr102_28, gr102_29, gr102_30, gr102_31, gr102_32, pa103, pa105, pa119, pa120, pa106, pa107, pa108, pa109, pa110, pa111, pa116, pa118, pa104, pa112, pa114, pa115, pa117, pa113, pa121, pf102_5, pf102_13, pf102_14, pf102_0, pf102_6, pf102_7, pf102_8, pf102_9, pf102_10, pf102_11, pf102_12, pf102_15, pf102_19, pf102_20, s_within, t_isLost, t_fallen, t_isHurt, t_between, t_isPassage, t_isRoom, t_standNow, t_standsAll, t_isIn, t_noComing, t_noStand, t_bitsOf]
  by_cases q : 0 ≤ r ∧ r ≤ tp 103 1 - 1
  · rw [if_pos q]
    by_cases q2 : 0 ≤ what ∧ what ≤ 1
    · rw [if_pos q2]
      by_cases q3 : 0 ≤ hu ∧ hu ≤ 4
      · rw [if_pos q3]
        refine bk_loop (σ := bF) (fun k x => bk_den TX4_ropes (bk_call d) 48 [.ref 102, .int (bk_i r), .int (bk_i hu), .int (bk_i what), .int (bk_i (best (okR (tp 103) r hu) k.toNat)), .int (bk_i k)] [] (bk_M κ X (tp, tj, x, tk) g n)) (fun k x => 0 ≤ k) (sh (tp 103 2)) ?_ ?_ 0 _ (by omega) (by omega)
        · rintro k x hk k0 cont
          have br := best_rng (okR (tp 103) r hu) k.toNat
          have sk := szM_rng k
          have sb := szM_rng (best (okR (tp 103) r hu) k.toNat)
          have ir := ia_rng (a := k) (b := tp 103 44) k0 (by omega) (by omega) (by omega)
          have or := io_rng (a := tp 103 44) (b := k) (by omega) (by omega) k0 (by omega)
          have g0 := cont x (by omega)
          have tail : (best (okR (tp 103) r hu) k.toNat = -1 ∨ szM k < szM (best (okR (tp 103) r hu) k.toNat)) → ia k (tp 103 44) = 0 → bk_wp (bk_den TX4_ropes (bk_call d) 96 [.ref 102, .int (bk_i r), .int (bk_i hu), .int (bk_i what), .int (bk_i (best (okR (tp 103) r hu) k.toNat)), .int (bk_i k)] [] (bk_M κ X (tp, tj, x, tk) g n)) (bTq κ X tp tj g n (rRopes (tp 103) r hu what)) := by
            intro hb hz
            obtain ⟨ts3, v3, i3, e3⟩ := t_laysComing (κ := κ) (X := X) (ts := x) (tj := tj) (tk := tk) (n := n) (rop := io (tp 103 44) k) (D := d) ht h3 h4 h5 h6 (by omega) (by omega) (by omega)
            have b := i3.1.1 (6 * tp 103 42 + tp 103 43) (by omega) (by omega)
            have dz : rDist (tp 103) (io (tp 103 44) k) (Zc r hu) (6 * tp 103 42 + tp 103 43) (if ts3 111 (6 * tp 103 42 + tp 103 43) < 268435456 then ts3 111 (6 * tp 103 42 + tp 103 43) else -1) := ⟨_, _, by decide, i3, rfl⟩
            have g1 := cont ts3 (by omega)
            rw [eX4_ropes_96]
            simp (disch := first | assumption | omega) only [bi_io, e3, eX4_ropes_122, bi_add, bi_sub, bi_mul, bi_neg, bi_div, bi_64, bl_add, bl_sub, bl_mul, bl_neg, bl_div, bl_32, bi_min, bi_max, bl_min, bl_max, bq_I, bq_J, bq_A, bq_Vi, bq_Vl, bq_Vr, bq_cV, bq_cI, bq_cJ, bq_cA, bq_le, bq_lt, bq_eq, bq_z, bq_o, bq_ref, bq_nz, bq_nzJ, bq_bl, bq_blz, bq_T, bq_F, if_true, if_false, Int.reduceEq, Int.reduceLT, Int.reduceLE, Int.reduceAdd, Int.reduceSub, Int.reduceMul, Int.add_sub_cancel, li_0, li_1, li_2, li_3, li_4, li_31, li_44, li_48, li_96, li_100, li_122, li_139, li_4004, li_4051, li_4067, li_4094, li_4095, li_268435456, ll_0, ll_1, ll_2, ll_3, ll_4, ll_31, ll_44, ll_48, ll_96, ll_100, ll_122, ll_139, ga103, ga105, ga119, ga120, ga106, ga107, ga108, ga109, ga110, ga111, ga116, ga118, ga104, ga112, ga114, ga115, ga117, ga113, ga121, gf102_5, gf102_13, gf102_14, gf102_0, gf102_6, gf102_7, gf102_8, gf102_9, gf102_10, gf102_11, gf102_12, gf102_15, gf102_19, gf102_20, gr102_1, gr102_2, gr102_3, gr102_4, gr102_16, gr102_17, gr102_18, gr102_21, gr102_22, gr102_23, gr102_24, gr102_25, gr102_26, gr102_27, gr102_28, gr102_29, gr102_30, gr102_31, gr102_32, pa103, pa105, pa119, pa120, pa106, pa107, pa108, pa109, pa110, pa111, pa116, pa118, pa104, pa112, pa114, pa115, pa117, pa113, pa121, pf102_5, pf102_13, pf102_14, pf102_0, pf102_6, pf102_7, pf102_8, pf102_9, pf102_10, pf102_11, pf102_12, pf102_15, pf102_19, pf102_20, s_within, t_isLost, t_fallen, t_isHurt, t_between, t_isPassage, t_isRoom, t_standNow, t_standsAll, t_isIn, t_noComing, t_noStand, t_bitsOf]
            by_cases z : 268435456 ≤ ts3 111 (6 * tp 103 42 + tp 103 43)
            · rw [if_neg (by omega)] at dz
              rw [if_pos z]
              rw [best_no k0 (fun y => y.2.2 dz)] at g1
              exact g1
            · rw [if_pos (by omega)] at dz
              rw [if_neg z]
              rw [best_yes k0 hb ⟨hz, fun y => by have := rDist_uniq hw (by omega) (by omega) y dz; omega⟩] at g1
              exact g1
          rw [eX4_ropes_48]
          simp (disch := first | assumption | omega) only [bi_sh, if_neg (show ¬ sh (tp 103 2) ≤ k by omega), bi_add, bi_sub, bi_mul, bi_neg, bi_div, bi_64, bl_add, bl_sub, bl_mul, bl_neg, bl_div, bl_32, bi_min, bi_max, bl_min, bl_max, bq_I, bq_J, bq_A, bq_Vi, bq_Vl, bq_Vr, bq_cV, bq_cI, bq_cJ, bq_cA, bq_le, bq_lt, bq_eq, bq_z, bq_o, bq_ref, bq_nz, bq_nzJ, bq_bl, bq_blz, bq_T, bq_F, if_true, if_false, Int.reduceEq, Int.reduceLT, Int.reduceLE, Int.reduceAdd, Int.reduceSub, Int.reduceMul, Int.add_sub_cancel, li_0, li_1, li_2, li_3, li_4, li_31, li_44, li_48, li_96, li_100, li_122, li_139, li_4004, li_4051, li_4067, li_4094, li_4095, li_268435456, ll_0, ll_1, ll_2, ll_3, ll_4, ll_31, ll_44, ll_48, ll_96, ll_100, ll_122, ll_139, ga103, ga105, ga119, ga120, ga106, ga107, ga108, ga109, ga110, ga111, ga116, ga118, ga104, ga112, ga114, ga115, ga117, ga113, ga121, gf102_5, gf102_13, gf102_14, gf102_0, gf102_6, gf102_7, gf102_8, gf102_9, gf102_10, gf102_11, gf102_12, gf102_15, gf102_19, gf102_20, gr102_1, gr102_2, gr102_3, gr102_4, gr102_16, gr102_17, gr102_18, gr102_21, gr102_22, gr102_23, gr102_24, gr102_25, gr102_26, gr102_27, gr102_28, gr102_29, gr102_30, gr102_31, gr102_32, pa103, pa105, pa119, pa120, pa106, pa107, pa108, pa109, pa110, pa111, pa116, pa118, pa104, pa112, pa114, pa115, pa117, pa113, pa121, pf102_5, pf102_13, pf102_14, pf102_0, pf102_6, pf102_7, pf102_8, pf102_9, pf102_10, pf102_11, pf102_12, pf102_15, pf102_19, pf102_20, s_within, t_isLost, t_fallen, t_isHurt, t_between, t_isPassage, t_isRoom, t_standNow, t_standsAll, t_isIn, t_noComing, t_noStand, t_bitsOf]
          simp (disch := first | assumption | omega) only [bi_ia, eX4_ropes_122, bi_add, bi_sub, bi_mul, bi_neg, bi_div, bi_64, bl_add, bl_sub, bl_mul, bl_neg, bl_div, bl_32, bi_min, bi_max, bl_min, bl_max, bq_I, bq_J, bq_A, bq_Vi, bq_Vl, bq_Vr, bq_cV, bq_cI, bq_cJ, bq_cA, bq_le, bq_lt, bq_eq, bq_z, bq_o, bq_ref, bq_nz, bq_nzJ, bq_bl, bq_blz, bq_T, bq_F, if_true, if_false, Int.reduceEq, Int.reduceLT, Int.reduceLE, Int.reduceAdd, Int.reduceSub, Int.reduceMul, Int.add_sub_cancel, li_0, li_1, li_2, li_3, li_4, li_31, li_44, li_48, li_96, li_100, li_122, li_139, li_4004, li_4051, li_4067, li_4094, li_4095, li_268435456, ll_0, ll_1, ll_2, ll_3, ll_4, ll_31, ll_44, ll_48, ll_96, ll_100, ll_122, ll_139, ga103, ga105, ga119, ga120, ga106, ga107, ga108, ga109, ga110, ga111, ga116, ga118, ga104, ga112, ga114, ga115, ga117, ga113, ga121, gf102_5, gf102_13, gf102_14, gf102_0, gf102_6, gf102_7, gf102_8, gf102_9, gf102_10, gf102_11, gf102_12, gf102_15, gf102_19, gf102_20, gr102_1, gr102_2, gr102_3, gr102_4, gr102_16, gr102_17, gr102_18, gr102_21, gr102_22, gr102_23, gr102_24, gr102_25, gr102_26, gr102_27, gr102_28, gr102_29, gr102_30, gr102_31, gr102_32, pa103, pa105, pa119, pa120, pa106, pa107, pa108, pa109, pa110, pa111, pa116, pa118, pa104, pa112, pa114, pa115, pa117, pa113, pa121, pf102_5, pf102_13, pf102_14, pf102_0, pf102_6, pf102_7, pf102_8, pf102_9, pf102_10, pf102_11, pf102_12, pf102_15, pf102_19, pf102_20, s_within, t_isLost, t_fallen, t_isHurt, t_between, t_isPassage, t_isRoom, t_standNow, t_standsAll, t_isIn, t_noComing, t_noStand, t_bitsOf]
          by_cases y2 : ia k (tp 103 44) = 0
          · rw [if_pos y2]
            by_cases y3 : best (okR (tp 103) r hu) k.toNat = -1
            · rw [if_pos y3]; exact tail (Or.inl y3) y2
            · rw [if_neg y3]
              by_cases y4 : szM k < szM (best (okR (tp 103) r hu) k.toNat)
              · rw [if_pos y4]; exact tail (Or.inr y4) y2
              · rw [if_neg y4]
                rw [best_no k0 (fun y => by rcases y.1 with z | z <;> omega)] at g0
                exact g0
          · rw [if_neg y2]
            rw [best_no k0 (fun y => y2 y.2.1)] at g0
            exact g0
        · rintro x k0
          have br := best_rng (okR (tp 103) r hu) (sh (tp 103 2)).toNat
          rw [eX4_ropes_48]
          simp (disch := first | assumption | omega) only [bi_sh, if_pos (Int.le_refl (sh (tp 103 2))), eX4_ropes_139, bi_add, bi_sub, bi_mul, bi_neg, bi_div, bi_64, bl_add, bl_sub, bl_mul, bl_neg, bl_div, bl_32, bi_min, bi_max, bl_min, bl_max, bq_I, bq_J, bq_A, bq_Vi, bq_Vl, bq_Vr, bq_cV, bq_cI, bq_cJ, bq_cA, bq_le, bq_lt, bq_eq, bq_z, bq_o, bq_ref, bq_nz, bq_nzJ, bq_bl, bq_blz, bq_T, bq_F, if_true, if_false, Int.reduceEq, Int.reduceLT, Int.reduceLE, Int.reduceAdd, Int.reduceSub, Int.reduceMul, Int.add_sub_cancel, li_0, li_1, li_2, li_3, li_4, li_31, li_44, li_48, li_96, li_100, li_122, li_139, li_4004, li_4051, li_4067, li_4094, li_4095, li_268435456, ll_0, ll_1, ll_2, ll_3, ll_4, ll_31, ll_44, ll_48, ll_96, ll_100, ll_122, ll_139, ga103, ga105, ga119, ga120, ga106, ga107, ga108, ga109, ga110, ga111, ga116, ga118, ga104, ga112, ga114, ga115, ga117, ga113, ga121, gf102_5, gf102_13, gf102_14, gf102_0, gf102_6, gf102_7, gf102_8, gf102_9, gf102_10, gf102_11, gf102_12, gf102_15, gf102_19, gf102_20, gr102_1, gr102_2, gr102_3, gr102_4, gr102_16, gr102_17, gr102_18, gr102_21, gr102_22, gr102_23, gr102_24, gr102_25, gr102_26, gr102_27, gr102_28, gr102_29, gr102_30, gr102_31, gr102_32, pa103, pa105, pa119, pa120, pa106, pa107, pa108, pa109, pa110, pa111, pa116, pa118, pa104, pa112, pa114, pa115, pa117, pa113, pa121, pf102_5, pf102_13, pf102_14, pf102_0, pf102_6, pf102_7, pf102_8, pf102_9, pf102_10, pf102_11, pf102_12, pf102_15, pf102_19, pf102_20, s_within, t_isLost, t_fallen, t_isHurt, t_between, t_isPassage, t_isRoom, t_standNow, t_standsAll, t_isIn, t_noComing, t_noStand, t_bitsOf]
          by_cases y : best (okR (tp 103) r hu) (sh (tp 103 2)).toNat = -1
          · rw [if_pos y]
            exact ⟨_, _, rfl, x, tk, _, rfl, rfl, Or.inr (Or.inr ⟨⟨q, q2⟩, q3, by unfold asked; rw [if_pos (Or.inl y)]⟩)⟩
          · rw [if_neg y]
            by_cases y2 : what = 1
            · rw [if_pos y2]
              exact ⟨_, _, rfl, x, tk, _, rfl, rfl, Or.inr (Or.inr ⟨⟨q, q2⟩, q3, by unfold asked; rw [if_pos (Or.inr y2)]⟩)⟩
            · rw [if_neg y2]
              exact ⟨_, _, rfl, x, tk, _, rfl, rfl, Or.inr (Or.inr ⟨⟨q, q2⟩, q3, by unfold asked; rw [if_neg (by omega)]⟩)⟩
      · rw [if_neg q3]
        exact ⟨_, _, rfl, _, tk, _, rfl, rfl, Or.inr (Or.inl ⟨⟨q, q2⟩, q3, rfl⟩)⟩
    · rw [if_neg q2]
      exact ⟨_, _, rfl, _, tk, _, rfl, rfl, Or.inl ⟨fun k => q2 k.2, rfl⟩⟩
  · rw [if_neg q]
    exact ⟨_, _, rfl, _, tk, _, rfl, rfl, Or.inl ⟨fun k => q k.1, rfl⟩⟩
end TB
