/-! SPECS: the twin: stands, before, ahead, orphans, ring -/
set_option maxRecDepth 100000
section TN
variable {κ : Nat → Nat} {X : bX} {Y : bY} {tp ts : bF} {tj tk : bFJ} {g : bG} {n : Nat × Nat} {s p v r hu i fm to : Int} {D : Nat} {N : Int → Int → Int}
/-- back or on: which is come to from which -/
def Ex (N : Int → Int → Int) (b : Int) : Int → Int → Prop := fun u v => if b = 0 then Ef N u v else Eb N u v
theorem t_laysReached (hF : bFix g) {R b : Int} (hR : R = 6 * tp 103 1) (h1 : 1 ≤ tp 103 1) (h2 : tp 103 1 ≤ 6) (hb : b = 0 ∨ b = 1) (hN : ∀ s p, 0 ≤ s → s < R → 0 ≤ p → p < 8 → ts 110 (8 * s + p) = N s p) (hr : isN N R) (t0 : 0 ≤ fm) (t1 : fm < R) (hD : 2 ≤ D) :
    ∃ ts', (∀ a, a ≠ 112 → ts' a = ts a) ∧ isCl (Ex N b) R fm (ts' 112) ∧ bk_call D 4076 [.ref 102, .int (bk_i fm), .int (bk_i b)] (bk_M κ X (tp, tj, ts, tk) g n) = some (none, bk_M κ X (tp, tj, ts', tk) g n) := by
  obtain ⟨d, rfl⟩ := dep hD
  have goal : bk_wp (bk_call (d + 1) 4076 [.ref 102, .int (bk_i fm), .int (bk_i b)] (bk_M κ X (tp, tj, ts, tk) g n)) (fun v h' => ∃ ts', v = none ∧ h' = bk_M κ X (tp, tj, ts', tk) g n ∧ (∀ a, a ≠ 112 → ts' a = ts a) ∧ isCl (Ex N b) R fm (ts' 112)) := by
    rw [kX4_laysReached, eX4_laysReached_0]
    refine bk_loop (σ := bF) (fun s x => bk_den TX4_laysReached (bk_call d) 2 [.ref 102, .int (bk_i fm), .int (bk_i b), .int (bk_i s), bk_u, bk_u, bk_u, bk_u, bk_u] [] (bk_M κ X (tp, tj, x, tk) g n))
      (fun s x => 0 ≤ s ∧ (∀ a, a ≠ 112 → x a = ts a) ∧ ∀ t, 0 ≤ t → t < s → x 112 t = if t = fm then 1 else 0) 36 ?_ ?_ 0 ts (by omega) ⟨by omega, fun _ _ => rfl, fun t _ _ => by omega⟩
    · rintro s ts1 hs ⟨s0, fr, vl⟩ cont
      rw [eX4_laysReached_2]
      have fin : ∀ val : Int, (val = if s = fm then 1 else 0) → bk_wp (bk_den TX4_laysReached (bk_call d) 2 [.ref 102, .int (bk_i fm), .int (bk_i b), .int (bk_i (s + 1)), bk_u, bk_u, bk_u, bk_u, bk_u] [] (bk_M κ X (tp, tj, bU ts1 112 s val, tk) g n)) (fun v h' => ∃ ts', v = none ∧ h' = bk_M κ X (tp, tj, ts', tk) g n ∧ (∀ a, a ≠ 112 → ts' a = ts a) ∧ isCl (Ex N b) R fm (ts' 112)) := by
        intro val hv
        refine cont (bU ts1 112 s val) ⟨by omega, fun a ha => ?_, fun t t0 t1 => ?_⟩
        · funext j; rw [bU_ne _ _ _ _ _ _ ha, fr a ha]
        · rw [bU_same]
          by_cases c : t = s
          · subst c; rw [if_pos rfl]; exact hv
          · rw [if_neg c]; exact vl t t0 (by omega)
      simp (disch := first | assumption | omega) only [if_neg (show ¬ 36 ≤ s by omega), eX4_laysReached_23, bi_add, bi_sub, bi_mul, bi_neg, bi_div, bi_64, bl_add, bl_sub, bl_mul, bl_neg, bl_div, bl_32, bi_min, bi_max, bl_min, bl_max, bq_I, bq_J, bq_A, bq_Vi, bq_Vl, bq_Vr, bq_cV, bq_cI, bq_cJ, bq_cA, bq_le, bq_lt, bq_eq, bq_z, bq_o, bq_ref, bq_nz, bq_nzJ, bq_bl, bq_blz, bq_T, bq_F, if_true, if_false, Int.reduceEq, Int.reduceLT, Int.reduceLE, Int.reduceAdd, Int.reduceSub, Int.reduceMul, Int.add_sub_cancel, li_0, li_1, li_2, li_4, li_8, li_21, li_23, li_32, li_36, li_41, li_53, li_95, li_100, li_102, li_108, li_143, li_4069, li_4076, ll_0, ll_1, ll_2, ll_4, ll_8, ll_21, ll_23, ll_32, ll_36, ll_41, ll_53, ll_95, ll_100, ll_102, ll_108, ll_143, ga103, ga105, ga119, ga120, ga106, ga107, ga108, ga109, ga110, ga111, ga116, ga118, ga104, ga112, ga114, ga115, ga117, ga113, ga121, gf102_5, gf102_13, gf102_14, gf102_0, gf102_6, gf102_7, gf102_8, gf102_9, gf102_10, gf102_11, gf102_12, gf102_15, gf102_19, gf102_20, gr102_1, gr102_2, gr102_3, gr102_4, gr102_16, gr102_17, gr102_18, gr102_21, gr102_22, gr102_23, gr102_24, gr102_25, gr102_26, gr102_27, gr102_28, gr102_29, gr102_30, gr102_31, gr102_32, pa103, pa105, pa119, pa120, pa106, pa107, pa108, pa109, pa110, pa111, pa116, pa118, pa104, pa112, pa114, pa115, pa117, pa113, pa121, pf102_5, pf102_13, pf102_14, pf102_0, pf102_6, pf102_7, pf102_8, pf102_9, pf102_10, pf102_11, pf102_12, pf102_15, pf102_19, pf102_20, s_within, t_isLost, t_fallen, t_isHurt, t_between, t_isPassage, t_isRoom, t_standNow, t_standsAll, t_isIn, t_noComing, t_noStand]
      by_cases q : s = fm
      · rw [if_pos q]; exact fin _ (by rw [if_pos q])
      · rw [if_neg q]; exact fin _ (by rw [if_neg q])
    · rintro ts1 ⟨s0, fr, vl⟩
      have I0 : cInv (Ex N b) R fm (ts1 112) := cInv_start t0 (fun s a b => vl s a (by omega)) t1
      rw [eX4_laysReached_2]
      simp (disch := first | assumption | omega) only [if_pos (Int.le_refl 36), bi_add, bi_sub, bi_mul, bi_neg, bi_div, bi_64, bl_add, bl_sub, bl_mul, bl_neg, bl_div, bl_32, bi_min, bi_max, bl_min, bl_max, bq_I, bq_J, bq_A, bq_Vi, bq_Vl, bq_Vr, bq_cV, bq_cI, bq_cJ, bq_cA, bq_le, bq_lt, bq_eq, bq_z, bq_o, bq_ref, bq_nz, bq_nzJ, bq_bl, bq_blz, bq_T, bq_F, if_true, if_false, Int.reduceEq, Int.reduceLT, Int.reduceLE, Int.reduceAdd, Int.reduceSub, Int.reduceMul, Int.add_sub_cancel, li_0, li_1, li_2, li_4, li_8, li_21, li_23, li_32, li_36, li_41, li_53, li_95, li_100, li_102, li_108, li_143, li_4069, li_4076, ll_0, ll_1, ll_2, ll_4, ll_8, ll_21, ll_23, ll_32, ll_36, ll_41, ll_53, ll_95, ll_100, ll_102, ll_108, ll_143, ga103, ga105, ga119, ga120, ga106, ga107, ga108, ga109, ga110, ga111, ga116, ga118, ga104, ga112, ga114, ga115, ga117, ga113, ga121, gf102_5, gf102_13, gf102_14, gf102_0, gf102_6, gf102_7, gf102_8, gf102_9, gf102_10, gf102_11, gf102_12, gf102_15, gf102_19, gf102_20, gr102_1, gr102_2, gr102_3, gr102_4, gr102_16, gr102_17, gr102_18, gr102_21, gr102_22, gr102_23, gr102_24, gr102_25, gr102_26, gr102_27, gr102_28, gr102_29, gr102_30, gr102_31, gr102_32, pa103, pa105, pa119, pa120, pa106, pa107, pa108, pa109, pa110, pa111, pa116, pa118, pa104, pa112, pa114, pa115, pa117, pa113, pa121, pf102_5, pf102_13, pf102_14, pf102_0, pf102_6, pf102_7, pf102_8, pf102_9, pf102_10, pf102_11, pf102_12, pf102_15, pf102_19, pf102_20, s_within, t_isLost, t_fallen, t_isHurt, t_between, t_isPassage, t_isRoom, t_standNow, t_standsAll, t_isIn, t_noComing, t_noStand]
      refine bk_while (σ := bF × Int × Value) (fun x => bk_den TX4_laysReached (bk_call d) 32 [.ref 102, .int (bk_i fm), .int (bk_i b), .int (bk_i x.2.1), x.2.2, bk_u, bk_u, bk_u, bk_u] [] (bk_M κ X (tp, tj, x.1, tk) g n)) (fun x => 2 * (zS (x.1 112) R).toNat + x.2.1.toNat)
        (fun x => (∀ a, a ≠ 112 → x.1 a = ts a) ∧ cInv (Ex N b) R fm (x.1 112) ∧ (x.2.1 = 0 ∨ x.2.1 = 1) ∧ (x.2.1 = 0 → isCl (Ex N b) R fm (x.1 112))) ?_ (ts1, 1, bk_u) ⟨fr, I0, Or.inr rfl, fun q => absurd q (by simp)⟩
      rintro ⟨ts2, more, w1⟩ ⟨fr2, hI1, m01, hex⟩ again
      dsimp only at fr2 hI1 m01 hex again ⊢
      rcases m01 with rfl | rfl
      · rw [eX4_laysReached_32]
        simp (disch := first | assumption | omega) only [if_true, bi_add, bi_sub, bi_mul, bi_neg, bi_div, bi_64, bl_add, bl_sub, bl_mul, bl_neg, bl_div, bl_32, bi_min, bi_max, bl_min, bl_max, bq_I, bq_J, bq_A, bq_Vi, bq_Vl, bq_Vr, bq_cV, bq_cI, bq_cJ, bq_cA, bq_le, bq_lt, bq_eq, bq_z, bq_o, bq_ref, bq_nz, bq_nzJ, bq_bl, bq_blz, bq_T, bq_F, if_true, if_false, Int.reduceEq, Int.reduceLT, Int.reduceLE, Int.reduceAdd, Int.reduceSub, Int.reduceMul, Int.add_sub_cancel, li_0, li_1, li_2, li_4, li_8, li_21, li_23, li_32, li_36, li_41, li_53, li_95, li_100, li_102, li_108, li_143, li_4069, li_4076, ll_0, ll_1, ll_2, ll_4, ll_8, ll_21, ll_23, ll_32, ll_36, ll_41, ll_53, ll_95, ll_100, ll_102, ll_108, ll_143, ga103, ga105, ga119, ga120, ga106, ga107, ga108, ga109, ga110, ga111, ga116, ga118, ga104, ga112, ga114, ga115, ga117, ga113, ga121, gf102_5, gf102_13, gf102_14, gf102_0, gf102_6, gf102_7, gf102_8, gf102_9, gf102_10, gf102_11, gf102_12, gf102_15, gf102_19, gf102_20, gr102_1, gr102_2, gr102_3, gr102_4, gr102_16, gr102_17, gr102_18, gr102_21, gr102_22, gr102_23, gr102_24, gr102_25, gr102_26, gr102_27, gr102_28, gr102_29, gr102_30, gr102_31, gr102_32, pa103, pa105, pa119, pa120, pa106, pa107, pa108, pa109, pa110, pa111, pa116, pa118, pa104, pa112, pa114, pa115, pa117, pa113, pa121, pf102_5, pf102_13, pf102_14, pf102_0, pf102_6, pf102_7, pf102_8, pf102_9, pf102_10, pf102_11, pf102_12, pf102_15, pf102_19, pf102_20, s_within, t_isLost, t_fallen, t_isHurt, t_between, t_isPassage, t_isRoom, t_standNow, t_standsAll, t_isIn, t_noComing, t_noStand]
        exact ⟨_, _, rfl, ts2, rfl, rfl, fr2, hex rfl⟩
      · have nn0 := zS_nn hI1
        rw [eX4_laysReached_32]
        simp (disch := first | assumption | omega) only [if_neg (show ¬ (1 : Int) = 0 by decide), bi_add, bi_sub, bi_mul, bi_neg, bi_div, bi_64, bl_add, bl_sub, bl_mul, bl_neg, bl_div, bl_32, bi_min, bi_max, bl_min, bl_max, bq_I, bq_J, bq_A, bq_Vi, bq_Vl, bq_Vr, bq_cV, bq_cI, bq_cJ, bq_cA, bq_le, bq_lt, bq_eq, bq_z, bq_o, bq_ref, bq_nz, bq_nzJ, bq_bl, bq_blz, bq_T, bq_F, if_true, if_false, Int.reduceEq, Int.reduceLT, Int.reduceLE, Int.reduceAdd, Int.reduceSub, Int.reduceMul, Int.add_sub_cancel, li_0, li_1, li_2, li_4, li_8, li_21, li_23, li_32, li_36, li_41, li_53, li_95, li_100, li_102, li_108, li_143, li_4069, li_4076, ll_0, ll_1, ll_2, ll_4, ll_8, ll_21, ll_23, ll_32, ll_36, ll_41, ll_53, ll_95, ll_100, ll_102, ll_108, ll_143, ga103, ga105, ga119, ga120, ga106, ga107, ga108, ga109, ga110, ga111, ga116, ga118, ga104, ga112, ga114, ga115, ga117, ga113, ga121, gf102_5, gf102_13, gf102_14, gf102_0, gf102_6, gf102_7, gf102_8, gf102_9, gf102_10, gf102_11, gf102_12, gf102_15, gf102_19, gf102_20, gr102_1, gr102_2, gr102_3, gr102_4, gr102_16, gr102_17, gr102_18, gr102_21, gr102_22, gr102_23, gr102_24, gr102_25, gr102_26, gr102_27, gr102_28, gr102_29, gr102_30, gr102_31, gr102_32, pa103, pa105, pa119, pa120, pa106, pa107, pa108, pa109, pa110, pa111, pa116, pa118, pa104, pa112, pa114, pa115, pa117, pa113, pa121, pf102_5, pf102_13, pf102_14, pf102_0, pf102_6, pf102_7, pf102_8, pf102_9, pf102_10, pf102_11, pf102_12, pf102_15, pf102_19, pf102_20, s_within, t_isLost, t_fallen, t_isHurt, t_between, t_isPassage, t_isRoom, t_standNow, t_standsAll, t_isIn, t_noComing, t_noStand]
        refine bk_loop (σ := bF × Int × Value) (fun t x => bk_den TX4_laysReached (bk_call d) 41 [.ref 102, .int (bk_i fm), .int (bk_i b), .int (bk_i x.2.1), .int (bk_i t), x.2.2, bk_u, bk_u, bk_u] [] (bk_M κ X (tp, tj, x.1, tk) g n))
          (fun t x => 0 ≤ t ∧ (∀ a, a ≠ 112 → x.1 a = ts a) ∧ cPass (fun m u => ∀ p, 0 ≤ p → p < 8 → N u p ≠ -1 → m (if b = 0 then u else N u p) = 1 → m (if b = 0 then N u p else u) = 1) (Ex N b) R fm (ts2 112) t (x.1 112) x.2.1) R ?_ ?_ 0 (ts2, 0, bk_u) (by omega) ⟨by omega, fr2, hI1, Int.le_refl _, Or.inl rfl, fun _ u u0 u1 => by omega, fun q => absurd q (by simp)⟩
        · rintro t ⟨ts3, m, w3⟩ ht ⟨tt0, fr3, hp⟩ cont
          dsimp only at fr3 hp ⊢
          rw [eX4_laysReached_41]
          simp (disch := first | assumption | omega) only [← hR, if_neg (show ¬ R ≤ t by omega), bi_add, bi_sub, bi_mul, bi_neg, bi_div, bi_64, bl_add, bl_sub, bl_mul, bl_neg, bl_div, bl_32, bi_min, bi_max, bl_min, bl_max, bq_I, bq_J, bq_A, bq_Vi, bq_Vl, bq_Vr, bq_cV, bq_cI, bq_cJ, bq_cA, bq_le, bq_lt, bq_eq, bq_z, bq_o, bq_ref, bq_nz, bq_nzJ, bq_bl, bq_blz, bq_T, bq_F, if_true, if_false, Int.reduceEq, Int.reduceLT, Int.reduceLE, Int.reduceAdd, Int.reduceSub, Int.reduceMul, Int.add_sub_cancel, li_0, li_1, li_2, li_4, li_8, li_21, li_23, li_32, li_36, li_41, li_53, li_95, li_100, li_102, li_108, li_143, li_4069, li_4076, ll_0, ll_1, ll_2, ll_4, ll_8, ll_21, ll_23, ll_32, ll_36, ll_41, ll_53, ll_95, ll_100, ll_102, ll_108, ll_143, ga103, ga105, ga119, ga120, ga106, ga107, ga108, ga109, ga110, ga111, ga116, ga118, ga104, ga112, ga114, ga115, ga117, ga113, ga121, gf102_5, gf102_13, gf102_14, gf102_0, gf102_6, gf102_7, gf102_8, gf102_9, gf102_10, gf102_11, gf102_12, gf102_15, gf102_19, gf102_20, gr102_1, gr102_2, gr102_3, gr102_4, gr102_16, gr102_17, gr102_18, gr102_21, gr102_22, gr102_23, gr102_24, gr102_25, gr102_26, gr102_27, gr102_28, gr102_29, gr102_30, gr102_31, gr102_32, pa103, pa105, pa119, pa120, pa106, pa107, pa108, pa109, pa110, pa111, pa116, pa118, pa104, pa112, pa114, pa115, pa117, pa113, pa121, pf102_5, pf102_13, pf102_14, pf102_0, pf102_6, pf102_7, pf102_8, pf102_9, pf102_10, pf102_11, pf102_12, pf102_15, pf102_19, pf102_20, s_within, t_isLost, t_fallen, t_isHurt, t_between, t_isPassage, t_isRoom, t_standNow, t_standsAll, t_isIn, t_noComing, t_noStand]
          refine bk_loop (σ := bF × Int × Value) (fun p x => bk_den TX4_laysReached (bk_call d) 53 [.ref 102, .int (bk_i fm), .int (bk_i b), .int (bk_i x.2.1), .int (bk_i t), .int (bk_i p), x.2.2, bk_u, bk_u] [] (bk_M κ X (tp, tj, x.1, tk) g n))
            (fun p x => 0 ≤ p ∧ (∀ a, a ≠ 112 → x.1 a = ts a) ∧ cPass (fun m u => ∀ p, 0 ≤ p → p < 8 → N u p ≠ -1 → m (if b = 0 then u else N u p) = 1 → m (if b = 0 then N u p else u) = 1) (Ex N b) R fm (ts2 112) t (x.1 112) x.2.1 ∧ (x.2.1 = 0 → ∀ q, 0 ≤ q → q < p → N t q ≠ -1 → x.1 112 (if b = 0 then t else N t q) = 1 → x.1 112 (if b = 0 then N t q else t) = 1)) 8 ?_ ?_ 0 (ts3, m, bk_u) (by omega) ⟨by omega, fr3, hp, fun _ q q0 q1 => by omega⟩
          · rintro p ⟨ts4, m4, w4⟩ hp8 ⟨p0, fr4, hp4, hq4⟩ cont2
            dsimp only at fr4 hp4 hq4 ⊢
            have rng := hp4.1.1
            have e110 := fr4 110 (by decide)
            have np := hr t p tt0 ht p0 (by omega)
            rw [eX4_laysReached_53]
            simp (disch := first | assumption | omega) only [if_neg (show ¬ 8 ≤ p by omega), e110, hN t p tt0 ht p0 hp8, bi_add, bi_sub, bi_mul, bi_neg, bi_div, bi_64, bl_add, bl_sub, bl_mul, bl_neg, bl_div, bl_32, bi_min, bi_max, bl_min, bl_max, bq_I, bq_J, bq_A, bq_Vi, bq_Vl, bq_Vr, bq_cV, bq_cI, bq_cJ, bq_cA, bq_le, bq_lt, bq_eq, bq_z, bq_o, bq_ref, bq_nz, bq_nzJ, bq_bl, bq_blz, bq_T, bq_F, if_true, if_false, Int.reduceEq, Int.reduceLT, Int.reduceLE, Int.reduceAdd, Int.reduceSub, Int.reduceMul, Int.add_sub_cancel, li_0, li_1, li_2, li_4, li_8, li_21, li_23, li_32, li_36, li_41, li_53, li_95, li_100, li_102, li_108, li_143, li_4069, li_4076, ll_0, ll_1, ll_2, ll_4, ll_8, ll_21, ll_23, ll_32, ll_36, ll_41, ll_53, ll_95, ll_100, ll_102, ll_108, ll_143, ga103, ga105, ga119, ga120, ga106, ga107, ga108, ga109, ga110, ga111, ga116, ga118, ga104, ga112, ga114, ga115, ga117, ga113, ga121, gf102_5, gf102_13, gf102_14, gf102_0, gf102_6, gf102_7, gf102_8, gf102_9, gf102_10, gf102_11, gf102_12, gf102_15, gf102_19, gf102_20, gr102_1, gr102_2, gr102_3, gr102_4, gr102_16, gr102_17, gr102_18, gr102_21, gr102_22, gr102_23, gr102_24, gr102_25, gr102_26, gr102_27, gr102_28, gr102_29, gr102_30, gr102_31, gr102_32, pa103, pa105, pa119, pa120, pa106, pa107, pa108, pa109, pa110, pa111, pa116, pa118, pa104, pa112, pa114, pa115, pa117, pa113, pa121, pf102_5, pf102_13, pf102_14, pf102_0, pf102_6, pf102_7, pf102_8, pf102_9, pf102_10, pf102_11, pf102_12, pf102_15, pf102_19, pf102_20, s_within, t_isLost, t_fallen, t_isHurt, t_between, t_isPassage, t_isRoom, t_standNow, t_standsAll, t_isIn, t_noComing, t_noStand]
            by_cases q1 : N t p = -1
            · rw [if_pos q1, eX4_laysReached_143]
              simp (disch := first | assumption | omega) only [bi_add, bi_sub, bi_mul, bi_neg, bi_div, bi_64, bl_add, bl_sub, bl_mul, bl_neg, bl_div, bl_32, bi_min, bi_max, bl_min, bl_max, bq_I, bq_J, bq_A, bq_Vi, bq_Vl, bq_Vr, bq_cV, bq_cI, bq_cJ, bq_cA, bq_le, bq_lt, bq_eq, bq_z, bq_o, bq_ref, bq_nz, bq_nzJ, bq_bl, bq_blz, bq_T, bq_F, if_true, if_false, Int.reduceEq, Int.reduceLT, Int.reduceLE, Int.reduceAdd, Int.reduceSub, Int.reduceMul, Int.add_sub_cancel, li_0, li_1, li_2, li_4, li_8, li_21, li_23, li_32, li_36, li_41, li_53, li_95, li_100, li_102, li_108, li_143, li_4069, li_4076, ll_0, ll_1, ll_2, ll_4, ll_8, ll_21, ll_23, ll_32, ll_36, ll_41, ll_53, ll_95, ll_100, ll_102, ll_108, ll_143, ga103, ga105, ga119, ga120, ga106, ga107, ga108, ga109, ga110, ga111, ga116, ga118, ga104, ga112, ga114, ga115, ga117, ga113, ga121, gf102_5, gf102_13, gf102_14, gf102_0, gf102_6, gf102_7, gf102_8, gf102_9, gf102_10, gf102_11, gf102_12, gf102_15, gf102_19, gf102_20, gr102_1, gr102_2, gr102_3, gr102_4, gr102_16, gr102_17, gr102_18, gr102_21, gr102_22, gr102_23, gr102_24, gr102_25, gr102_26, gr102_27, gr102_28, gr102_29, gr102_30, gr102_31, gr102_32, pa103, pa105, pa119, pa120, pa106, pa107, pa108, pa109, pa110, pa111, pa116, pa118, pa104, pa112, pa114, pa115, pa117, pa113, pa121, pf102_5, pf102_13, pf102_14, pf102_0, pf102_6, pf102_7, pf102_8, pf102_9, pf102_10, pf102_11, pf102_12, pf102_15, pf102_19, pf102_20, s_within, t_isLost, t_fallen, t_isHurt, t_between, t_isPassage, t_isRoom, t_standNow, t_standsAll, t_isIn, t_noComing, t_noStand]
              refine cont2 (ts4, m4, .int (bk_i (N t p))) ⟨by omega, fr4, hp4, fun z q a1 a2 a3 a4 => ?_⟩
              dsimp only at a4 ⊢
              by_cases c : q = p
              · subst c; exact absurd q1 a3
              · exact hq4 z q a1 (by omega) a3 a4
            · -- one leads to other
              have two : ∀ one other : Int, 0 ≤ one → one < R → 0 ≤ other → other < R → one = (if b = 0 then t else N t p) → other = (if b = 0 then N t p else t) → Ex N b one other →
                  bk_wp (bk_den TX4_laysReached (bk_call d) 108 [.ref 102, .int (bk_i fm), .int (bk_i b), .int (bk_i m4), .int (bk_i t), .int (bk_i p), .int (bk_i (N t p)), .int (bk_i one), bk_u] [.int (bk_i other)] (bk_M κ X (tp, tj, ts4, tk) g n)) (fun v h' => ∃ ts', v = none ∧ h' = bk_M κ X (tp, tj, ts', tk) g n ∧ (∀ a, a ≠ 112 → ts' a = ts a) ∧ isCl (Ex N b) R fm (ts' 112)) := by
                intro one other b1 b2 b3 b4 b5 b6 b7
                have r1 := rng one b1 b2
                have r2 := rng other b3 b4
                rw [eX4_laysReached_108]
                simp (disch := first | assumption | omega) only [eX4_laysReached_143, bi_add, bi_sub, bi_mul, bi_neg, bi_div, bi_64, bl_add, bl_sub, bl_mul, bl_neg, bl_div, bl_32, bi_min, bi_max, bl_min, bl_max, bq_I, bq_J, bq_A, bq_Vi, bq_Vl, bq_Vr, bq_cV, bq_cI, bq_cJ, bq_cA, bq_le, bq_lt, bq_eq, bq_z, bq_o, bq_ref, bq_nz, bq_nzJ, bq_bl, bq_blz, bq_T, bq_F, if_true, if_false, Int.reduceEq, Int.reduceLT, Int.reduceLE, Int.reduceAdd, Int.reduceSub, Int.reduceMul, Int.add_sub_cancel, li_0, li_1, li_2, li_4, li_8, li_21, li_23, li_32, li_36, li_41, li_53, li_95, li_100, li_102, li_108, li_143, li_4069, li_4076, ll_0, ll_1, ll_2, ll_4, ll_8, ll_21, ll_23, ll_32, ll_36, ll_41, ll_53, ll_95, ll_100, ll_102, ll_108, ll_143, ga103, ga105, ga119, ga120, ga106, ga107, ga108, ga109, ga110, ga111, ga116, ga118, ga104, ga112, ga114, ga115, ga117, ga113, ga121, gf102_5, gf102_13, gf102_14, gf102_0, gf102_6, gf102_7, gf102_8, gf102_9, gf102_10, gf102_11, gf102_12, gf102_15, gf102_19, gf102_20, gr102_1, gr102_2, gr102_3, gr102_4, gr102_16, gr102_17, gr102_18, gr102_21, gr102_22, gr102_23, gr102_24, gr102_25, gr102_26, gr102_27, gr102_28, gr102_29, gr102_30, gr102_31, gr102_32, pa103, pa105, pa119, pa120, pa106, pa107, pa108, pa109, pa110, pa111, pa116, pa118, pa104, pa112, pa114, pa115, pa117, pa113, pa121, pf102_5, pf102_13, pf102_14, pf102_0, pf102_6, pf102_7, pf102_8, pf102_9, pf102_10, pf102_11, pf102_12, pf102_15, pf102_19, pf102_20, s_within, t_isLost, t_fallen, t_isHurt, t_between, t_isPassage, t_isRoom, t_standNow, t_standsAll, t_isIn, t_noComing, t_noStand]
                by_cases c1 : ts4 112 one = 0
                · rw [if_pos c1]
                  refine cont2 (ts4, m4, .int (bk_i (N t p))) ⟨by omega, fr4, hp4, fun z q a1 a2 a3 a4 => ?_⟩
                  dsimp only at a4 ⊢
                  by_cases c : q = p
                  · subst c
                    rw [← b5] at a4
                    omega
                  · exact hq4 z q a1 (by omega) a3 a4
                · rw [if_neg c1]
                  by_cases c2 : ts4 112 other = 0
                  · rw [if_pos c2]
                    have e : bU ts4 112 other 1 112 = fU (ts4 112) other 1 := by funext j; rw [bU_same]; rfl
                    refine cont2 (bU ts4 112 other 1, 1, .int (bk_i (N t p))) ⟨by omega, fun a ha => ?_, ?_, fun q => absurd q (by simp)⟩
                    · funext j; show bU ts4 112 other 1 a j = _; rw [bU_ne _ _ _ _ _ _ ha, fr4 a ha]
                    · show cPass _ _ _ _ _ _ (bU ts4 112 other 1 112) _
                      rw [e]
                      exact cPass_add hp4 b1 b2 b3 b4 b7 (by omega) c2
                  · rw [if_neg c2]
                    refine cont2 (ts4, m4, .int (bk_i (N t p))) ⟨by omega, fr4, hp4, fun z q a1 a2 a3 a4 => ?_⟩
                    dsimp only at a4 ⊢
                    by_cases c : q = p
                    · subst c
                      rw [← b6]; omega
                    · exact hq4 z q a1 (by omega) a3 a4
              rw [if_neg q1]
              rcases hb with rfl | rfl
              · simp (disch := first | assumption | omega) only [eX4_laysReached_95, if_true, bi_add, bi_sub, bi_mul, bi_neg, bi_div, bi_64, bl_add, bl_sub, bl_mul, bl_neg, bl_div, bl_32, bi_min, bi_max, bl_min, bl_max, bq_I, bq_J, bq_A, bq_Vi, bq_Vl, bq_Vr, bq_cV, bq_cI, bq_cJ, bq_cA, bq_le, bq_lt, bq_eq, bq_z, bq_o, bq_ref, bq_nz, bq_nzJ, bq_bl, bq_blz, bq_T, bq_F, if_true, if_false, Int.reduceEq, Int.reduceLT, Int.reduceLE, Int.reduceAdd, Int.reduceSub, Int.reduceMul, Int.add_sub_cancel, li_0, li_1, li_2, li_4, li_8, li_21, li_23, li_32, li_36, li_41, li_53, li_95, li_100, li_102, li_108, li_143, li_4069, li_4076, ll_0, ll_1, ll_2, ll_4, ll_8, ll_21, ll_23, ll_32, ll_36, ll_41, ll_53, ll_95, ll_100, ll_102, ll_108, ll_143, ga103, ga105, ga119, ga120, ga106, ga107, ga108, ga109, ga110, ga111, ga116, ga118, ga104, ga112, ga114, ga115, ga117, ga113, ga121, gf102_5, gf102_13, gf102_14, gf102_0, gf102_6, gf102_7, gf102_8, gf102_9, gf102_10, gf102_11, gf102_12, gf102_15, gf102_19, gf102_20, gr102_1, gr102_2, gr102_3, gr102_4, gr102_16, gr102_17, gr102_18, gr102_21, gr102_22, gr102_23, gr102_24, gr102_25, gr102_26, gr102_27, gr102_28, gr102_29, gr102_30, gr102_31, gr102_32, pa103, pa105, pa119, pa120, pa106, pa107, pa108, pa109, pa110, pa111, pa116, pa118, pa104, pa112, pa114, pa115, pa117, pa113, pa121, pf102_5, pf102_13, pf102_14, pf102_0, pf102_6, pf102_7, pf102_8, pf102_9, pf102_10, pf102_11, pf102_12, pf102_15, pf102_19, pf102_20, s_within, t_isLost, t_fallen, t_isHurt, t_between, t_isPassage, t_isRoom, t_standNow, t_standsAll, t_isIn, t_noComing, t_noStand]
                refine two t (N t p) tt0 ht (by omega) (by omega) (by rw [if_pos rfl]) (by rw [if_pos rfl]) ?_
                unfold Ex; rw [if_pos rfl]; exact ⟨p, p0, hp8, rfl⟩
              · simp (disch := first | assumption | omega) only [eX4_laysReached_95, if_neg (show ¬ (1 : Int) = 0 by decide), bi_add, bi_sub, bi_mul, bi_neg, bi_div, bi_64, bl_add, bl_sub, bl_mul, bl_neg, bl_div, bl_32, bi_min, bi_max, bl_min, bl_max, bq_I, bq_J, bq_A, bq_Vi, bq_Vl, bq_Vr, bq_cV, bq_cI, bq_cJ, bq_cA, bq_le, bq_lt, bq_eq, bq_z, bq_o, bq_ref, bq_nz, bq_nzJ, bq_bl, bq_blz, bq_T, bq_F, if_true, if_false, Int.reduceEq, Int.reduceLT, Int.reduceLE, Int.reduceAdd, Int.reduceSub, Int.reduceMul, Int.add_sub_cancel, li_0, li_1, li_2, li_4, li_8, li_21, li_23, li_32, li_36, li_41, li_53, li_95, li_100, li_102, li_108, li_143, li_4069, li_4076, ll_0, ll_1, ll_2, ll_4, ll_8, ll_21, ll_23, ll_32, ll_36, ll_41, ll_53, ll_95, ll_100, ll_102, ll_108, ll_143, ga103, ga105, ga119, ga120, ga106, ga107, ga108, ga109, ga110, ga111, ga116, ga118, ga104, ga112, ga114, ga115, ga117, ga113, ga121, gf102_5, gf102_13, gf102_14, gf102_0, gf102_6, gf102_7, gf102_8, gf102_9, gf102_10, gf102_11, gf102_12, gf102_15, gf102_19, gf102_20, gr102_1, gr102_2, gr102_3, gr102_4, gr102_16, gr102_17, gr102_18, gr102_21, gr102_22, gr102_23, gr102_24, gr102_25, gr102_26, gr102_27, gr102_28, gr102_29, gr102_30, gr102_31, gr102_32, pa103, pa105, pa119, pa120, pa106, pa107, pa108, pa109, pa110, pa111, pa116, pa118, pa104, pa112, pa114, pa115, pa117, pa113, pa121, pf102_5, pf102_13, pf102_14, pf102_0, pf102_6, pf102_7, pf102_8, pf102_9, pf102_10, pf102_11, pf102_12, pf102_15, pf102_19, pf102_20, s_within, t_isLost, t_fallen, t_isHurt, t_between, t_isPassage, t_isRoom, t_standNow, t_standsAll, t_isIn, t_noComing, t_noStand]
                refine two (N t p) t (by omega) (by omega) tt0 ht (by rw [if_neg (by decide)]) (by rw [if_neg (by decide)]) ?_
                unfold Ex; rw [if_neg (by decide)]; exact ⟨p, p0, hp8, rfl⟩
          · rintro ⟨ts4, m4, w4⟩ ⟨p0, fr4, hp4, hq4⟩
            dsimp only at fr4 hp4 hq4 ⊢
            rw [eX4_laysReached_53]
            simp (disch := first | assumption | omega) only [if_pos (Int.le_refl 8), bi_add, bi_sub, bi_mul, bi_neg, bi_div, bi_64, bl_add, bl_sub, bl_mul, bl_neg, bl_div, bl_32, bi_min, bi_max, bl_min, bl_max, bq_I, bq_J, bq_A, bq_Vi, bq_Vl, bq_Vr, bq_cV, bq_cI, bq_cJ, bq_cA, bq_le, bq_lt, bq_eq, bq_z, bq_o, bq_ref, bq_nz, bq_nzJ, bq_bl, bq_blz, bq_T, bq_F, if_true, if_false, Int.reduceEq, Int.reduceLT, Int.reduceLE, Int.reduceAdd, Int.reduceSub, Int.reduceMul, Int.add_sub_cancel, li_0, li_1, li_2, li_4, li_8, li_21, li_23, li_32, li_36, li_41, li_53, li_95, li_100, li_102, li_108, li_143, li_4069, li_4076, ll_0, ll_1, ll_2, ll_4, ll_8, ll_21, ll_23, ll_32, ll_36, ll_41, ll_53, ll_95, ll_100, ll_102, ll_108, ll_143, ga103, ga105, ga119, ga120, ga106, ga107, ga108, ga109, ga110, ga111, ga116, ga118, ga104, ga112, ga114, ga115, ga117, ga113, ga121, gf102_5, gf102_13, gf102_14, gf102_0, gf102_6, gf102_7, gf102_8, gf102_9, gf102_10, gf102_11, gf102_12, gf102_15, gf102_19, gf102_20, gr102_1, gr102_2, gr102_3, gr102_4, gr102_16, gr102_17, gr102_18, gr102_21, gr102_22, gr102_23, gr102_24, gr102_25, gr102_26, gr102_27, gr102_28, gr102_29, gr102_30, gr102_31, gr102_32, pa103, pa105, pa119, pa120, pa106, pa107, pa108, pa109, pa110, pa111, pa116, pa118, pa104, pa112, pa114, pa115, pa117, pa113, pa121, pf102_5, pf102_13, pf102_14, pf102_0, pf102_6, pf102_7, pf102_8, pf102_9, pf102_10, pf102_11, pf102_12, pf102_15, pf102_19, pf102_20, s_within, t_isLost, t_fallen, t_isHurt, t_between, t_isPassage, t_isRoom, t_standNow, t_standsAll, t_isIn, t_noComing, t_noStand]
            exact cont (ts4, m4, .int (bk_i 8)) ⟨by omega, fr4, cPass_next hp4 fun z q a1 a2 a3 a4 => hq4 z q a1 a2 a3 a4⟩
        · rintro ⟨ts3, m, w3⟩ ⟨tt0, fr3, hp⟩
          dsimp only at fr3 hp ⊢
          have nn1 := zS_nn hp.1
          obtain ⟨p1, p2, p3, p4, p5⟩ := hp
          rw [eX4_laysReached_41]
          simp (disch := first | assumption | omega) only [← hR, if_pos (Int.le_refl R), bi_add, bi_sub, bi_mul, bi_neg, bi_div, bi_64, bl_add, bl_sub, bl_mul, bl_neg, bl_div, bl_32, bi_min, bi_max, bl_min, bl_max, bq_I, bq_J, bq_A, bq_Vi, bq_Vl, bq_Vr, bq_cV, bq_cI, bq_cJ, bq_cA, bq_le, bq_lt, bq_eq, bq_z, bq_o, bq_ref, bq_nz, bq_nzJ, bq_bl, bq_blz, bq_T, bq_F, if_true, if_false, Int.reduceEq, Int.reduceLT, Int.reduceLE, Int.reduceAdd, Int.reduceSub, Int.reduceMul, Int.add_sub_cancel, li_0, li_1, li_2, li_4, li_8, li_21, li_23, li_32, li_36, li_41, li_53, li_95, li_100, li_102, li_108, li_143, li_4069, li_4076, ll_0, ll_1, ll_2, ll_4, ll_8, ll_21, ll_23, ll_32, ll_36, ll_41, ll_53, ll_95, ll_100, ll_102, ll_108, ll_143, ga103, ga105, ga119, ga120, ga106, ga107, ga108, ga109, ga110, ga111, ga116, ga118, ga104, ga112, ga114, ga115, ga117, ga113, ga121, gf102_5, gf102_13, gf102_14, gf102_0, gf102_6, gf102_7, gf102_8, gf102_9, gf102_10, gf102_11, gf102_12, gf102_15, gf102_19, gf102_20, gr102_1, gr102_2, gr102_3, gr102_4, gr102_16, gr102_17, gr102_18, gr102_21, gr102_22, gr102_23, gr102_24, gr102_25, gr102_26, gr102_27, gr102_28, gr102_29, gr102_30, gr102_31, gr102_32, pa103, pa105, pa119, pa120, pa106, pa107, pa108, pa109, pa110, pa111, pa116, pa118, pa104, pa112, pa114, pa115, pa117, pa113, pa121, pf102_5, pf102_13, pf102_14, pf102_0, pf102_6, pf102_7, pf102_8, pf102_9, pf102_10, pf102_11, pf102_12, pf102_15, pf102_19, pf102_20, s_within, t_isLost, t_fallen, t_isHurt, t_between, t_isPassage, t_isRoom, t_standNow, t_standsAll, t_isIn, t_noComing, t_noStand]
          refine again (ts3, m, .int (bk_i R)) ?_ ⟨fr3, p1, p3, fun q => ⟨p1, ?_⟩⟩
          · dsimp only
            rcases p3 with rfl | rfl
            · omega
            · have := p5 rfl
              omega
          · intro u v u0 u1 v0 v1 e hu
            have p6 := p4 q
            rcases hb with rfl | rfl
            · unfold Ex at e; rw [if_pos rfl] at e
              obtain ⟨p, a1, a2, rfl⟩ := e
              have := p6 u u0 u1 p a1 a2 (by omega)
              simp only [if_true] at this
              exact this hu
            · unfold Ex at e; rw [if_neg (by decide)] at e
              obtain ⟨p, a1, a2, rfl⟩ := e
              have := p6 v v0 v1 p a1 a2 (by omega)
              simp only [if_neg (show ¬ (1 : Int) = 0 by decide)] at this
              exact this hu
  obtain ⟨z, h', e, ts', rfl, rfl, h1, h2⟩ := goal
  exact ⟨ts', h1, h2, e⟩
theorem t_unlost (hF : bFix g) (h1 : 1 ≤ tp 103 1) (h2 : tp 103 1 ≤ 6) (hm : ∀ s, 0 ≤ s → s < 6 * tp 103 1 → ts 112 s = 0 ∨ ts 112 s = 1) (hD : 2 ≤ D) :
    bk_call D 4077 [.ref 102] (bk_M κ X (tp, tj, ts, tk) g n) = some (some (.int (bk_i (sumZ (fun s => bz (ts 112 s = 1 ∧ s % 6 ≠ 5)) (6 * tp 103 1).toNat))), bk_M κ X (tp, tj, ts, tk) g n) := by
  obtain ⟨d, rfl⟩ := dep hD
  have goal : bk_wp (bk_call (d + 1) 4077 [.ref 102] (bk_M κ X (tp, tj, ts, tk) g n)) (fun v h' => v = some (.int (bk_i (sumZ (fun s => bz (ts 112 s = 1 ∧ s % 6 ≠ 5)) (6 * tp 103 1).toNat))) ∧ h' = bk_M κ X (tp, tj, ts, tk) g n) := by
    rw [kX4_unlost, eX4_unlost_0]
    refine bk_loop (σ := Unit) (fun s _ => bk_den TX4_unlost (bk_call d) 4 [.ref 102, .int (bk_i (sumZ (fun s => bz (ts 112 s = 1 ∧ s % 6 ≠ 5)) s.toNat)), .int (bk_i s)] [] (bk_M κ X (tp, tj, ts, tk) g n)) (fun s _ => 0 ≤ s) (6 * tp 103 1) ?_ ?_ 0 () (by omega) (by omega)
    · rintro s - hs s0 cont
      have c := cont () (by omega)
      rw [sumZ_succ _ s0] at c
      have m01 := hm s s0 hs
      rw [eX4_unlost_4]
      simp (disch := first | assumption | omega) only [if_neg (show ¬ 6 * tp 103 1 ≤ s by omega), eX4_unlost_33, eX4_unlost_34, bi_add, bi_sub, bi_mul, bi_neg, bi_div, bi_64, bl_add, bl_sub, bl_mul, bl_neg, bl_div, bl_32, bi_min, bi_max, bl_min, bl_max, bq_I, bq_J, bq_A, bq_Vi, bq_Vl, bq_Vr, bq_cV, bq_cI, bq_cJ, bq_cA, bq_le, bq_lt, bq_eq, bq_z, bq_o, bq_ref, bq_nz, bq_nzJ, bq_bl, bq_blz, bq_T, bq_F, if_true, if_false, Int.reduceEq, Int.reduceLT, Int.reduceLE, Int.reduceAdd, Int.reduceSub, Int.reduceMul, Int.add_sub_cancel, li_0, li_1, li_4, li_23, li_33, li_34, li_102, li_4037, li_4069, li_4077, ll_0, ll_1, ll_4, ll_23, ll_33, ll_34, ll_102, ga103, ga105, ga119, ga120, ga106, ga107, ga108, ga109, ga110, ga111, ga116, ga118, ga104, ga112, ga114, ga115, ga117, ga113, ga121, gf102_5, gf102_13, gf102_14, gf102_0, gf102_6, gf102_7, gf102_8, gf102_9, gf102_10, gf102_11, gf102_12, gf102_15, gf102_19, gf102_20, gr102_1, gr102_2, gr102_3, gr102_4, gr102_16, gr102_17, gr102_18, gr102_21, gr102_22, gr102_23, gr102_24, gr102_25, gr102_26, gr102_27, gr102_28, gr102_29, gr102_30, gr102_31, gr102_32, pa103, pa105, pa119, pa120, pa106, pa107, pa108, pa109, pa110, pa111, pa116, pa118, pa104, pa112, pa114, pa115, pa117, pa113, pa121, pf102_5, pf102_13, pf102_14, pf102_0, pf102_6, pf102_7, pf102_8, pf102_9, pf102_10, pf102_11, pf102_12, pf102_15, pf102_19, pf102_20, s_within, t_isLost, t_fallen, t_isHurt, t_between, t_isPassage, t_isRoom, t_standNow, t_standsAll, t_isIn, t_noComing, t_noStand]
      by_cases q : ts 112 s = 0
      · rw [if_pos q]
        rw [bz_f (by omega)] at c
        exact c
      · rw [if_neg q]
        by_cases q2 : s % 6 = 5
        · rw [if_pos q2]
          rw [bz_f (by omega)] at c
          exact c
        · rw [if_neg q2]
          rw [bz_t (by omega)] at c
          exact c
    · rintro - s0
      rw [eX4_unlost_4]
      simp (disch := first | assumption | omega) only [if_pos (Int.le_refl (6 * tp 103 1)), bi_add, bi_sub, bi_mul, bi_neg, bi_div, bi_64, bl_add, bl_sub, bl_mul, bl_neg, bl_div, bl_32, bi_min, bi_max, bl_min, bl_max, bq_I, bq_J, bq_A, bq_Vi, bq_Vl, bq_Vr, bq_cV, bq_cI, bq_cJ, bq_cA, bq_le, bq_lt, bq_eq, bq_z, bq_o, bq_ref, bq_nz, bq_nzJ, bq_bl, bq_blz, bq_T, bq_F, if_true, if_false, Int.reduceEq, Int.reduceLT, Int.reduceLE, Int.reduceAdd, Int.reduceSub, Int.reduceMul, Int.add_sub_cancel, li_0, li_1, li_4, li_23, li_33, li_34, li_102, li_4037, li_4069, li_4077, ll_0, ll_1, ll_4, ll_23, ll_33, ll_34, ll_102, ga103, ga105, ga119, ga120, ga106, ga107, ga108, ga109, ga110, ga111, ga116, ga118, ga104, ga112, ga114, ga115, ga117, ga113, ga121, gf102_5, gf102_13, gf102_14, gf102_0, gf102_6, gf102_7, gf102_8, gf102_9, gf102_10, gf102_11, gf102_12, gf102_15, gf102_19, gf102_20, gr102_1, gr102_2, gr102_3, gr102_4, gr102_16, gr102_17, gr102_18, gr102_21, gr102_22, gr102_23, gr102_24, gr102_25, gr102_26, gr102_27, gr102_28, gr102_29, gr102_30, gr102_31, gr102_32, pa103, pa105, pa119, pa120, pa106, pa107, pa108, pa109, pa110, pa111, pa116, pa118, pa104, pa112, pa114, pa115, pa117, pa113, pa121, pf102_5, pf102_13, pf102_14, pf102_0, pf102_6, pf102_7, pf102_8, pf102_9, pf102_10, pf102_11, pf102_12, pf102_15, pf102_19, pf102_20, s_within, t_isLost, t_fallen, t_isHurt, t_between, t_isPassage, t_isRoom, t_standNow, t_standsAll, t_isIn, t_noComing, t_noStand]
      exact ⟨_, _, rfl, rfl, rfl⟩
  obtain ⟨z, h', e, rfl, rfl⟩ := goal
  exact e
theorem m_stands (h : bTt g (tp 103)) (hD : 9 ≤ D) :
    bk_wp (bk_call D 4075 [.ref 102] (bk_M κ X (tp, tj, ts, tk) g n)) (bTq κ X tp tj g n (rUn (Ef (nxt (tp 103) (tp 103 44))) (6 * tp 103 1) (6 * tp 103 42 + tp 103 43))) := by
  obtain ⟨d, rfl⟩ := dep hD
  have st := bTt_st h
  obtain ⟨hF, hw, hs⟩ := h
  obtain ⟨ts1, f1, v1, e1⟩ := t_laysThen (κ := κ) (X := X) (tp := tp) (ts := bU ts 102 0 0) (tj := tj) (tk := tk) (n := n) (rop := tp 103 44) (D := d) hF hw (by omega) (by omega) (by omega) (by omega) (by omega)
  obtain ⟨ts2, f2, i2, e2⟩ := t_laysReached (κ := κ) (X := X) (tp := tp) (ts := ts1) (tj := tj) (tk := tk) (n := n) (b := 0) (fm := 6 * tp 103 42 + tp 103 43) (D := d) (N := nxt (tp 103) (tp 103 44)) hF rfl (by omega) (by omega) (Or.inl rfl) v1 (nxt_N hw _ (Int.le_refl _)) (by omega) (by omega) (by omega)
  have e3 := t_unlost (κ := κ) (X := X) (tp := tp) (ts := ts2) (tj := tj) (tk := tk) (n := n) (D := d) hF (by omega) (by omega) i2.1.1 (by omega)
  rw [kX4_stands, eX4_stands_0]
  simp (disch := first | assumption | omega) only [e1, e2, e3, bi_add, bi_sub, bi_mul, bi_neg, bi_div, bi_64, bl_add, bl_sub, bl_mul, bl_neg, bl_div, bl_32, bi_min, bi_max, bl_min, bl_max, bq_I, bq_J, bq_A, bq_Vi, bq_Vl, bq_Vr, bq_cV, bq_cI, bq_cJ, bq_cA, bq_le, bq_lt, bq_eq, bq_z, bq_o, bq_ref, bq_nz, bq_nzJ, bq_bl, bq_blz, bq_T, bq_F, if_true, if_false, Int.reduceEq, Int.reduceLT, Int.reduceLE, Int.reduceAdd, Int.reduceSub, Int.reduceMul, Int.add_sub_cancel, li_0, li_1, li_4, li_44, li_100, li_4035, li_4068, li_4075, li_4076, li_4077, ll_0, ll_1, ll_4, ll_44, ll_100, ga103, ga105, ga119, ga120, ga106, ga107, ga108, ga109, ga110, ga111, ga116, ga118, ga104, ga112, ga114, ga115, ga117, ga113, ga121, gf102_5, gf102_13, gf102_14, gf102_0, gf102_6, gf102_7, gf102_8, gf102_9, gf102_10, gf102_11, gf102_12, gf102_15, gf102_19, gf102_20, gr102_1, gr102_2, gr102_3, gr102_4, gr102_16, gr102_17, gr102_18, gr102_21, gr102_22, gr102_23, gr102_24, gr102_25, gr102_26, gr102_27, gr102_28, gr102_29, gr102_30, gr102_31, gr102_32, pa103, pa105, pa119, pa120, pa106, pa107, pa108, pa109, pa110, pa111, pa116, pa118, pa104, pa112, pa114, pa115, pa117, pa113, pa121, pf102_5, pf102_13, pf102_14, pf102_0, pf102_6, pf102_7, pf102_8, pf102_9, pf102_10, pf102_11, pf102_12, pf102_15, pf102_19, pf102_20, s_within, t_isLost, t_fallen, t_isHurt, t_between, t_isPassage, t_isRoom, t_standNow, t_standsAll, t_isIn, t_noComing, t_noStand]
  exact ⟨_, _, rfl, ts2, tk, _, rfl, rfl, _, i2, rfl⟩
theorem m_ahead (h : bTt g (tp 103)) (h3 : -2147483648 ≤ r) (h4 : r < 2147483648) (h5 : -2147483648 ≤ hu) (h6 : hu < 2147483648) (hD : 9 ≤ D) :
    bk_wp (bk_call D 4081 [.ref 102, .int (bk_i r), .int (bk_i hu)] (bk_M κ X (tp, tj, ts, tk) g n)) (bTq κ X tp tj g n (rAhead (tp 103) r hu)) := by
  obtain ⟨d, rfl⟩ := dep hD
  have st := bTt_st h
  have fr := fS_rng (tp 103) r hu 5
  obtain ⟨hF, hw, hs⟩ := h
  obtain ⟨ts1, f1, v1, e1⟩ := t_laysThen (κ := κ) (X := X) (tp := tp) (ts := bU ts 102 0 0) (tj := tj) (tk := tk) (n := n) (rop := tp 103 44) (D := d) hF hw (by omega) (by omega) (by omega) (by omega) (by omega)
  rw [kX4_ahead, eX4_ahead_0]
  simp (disch := first | assumption | omega) only [e1, bi_add, bi_sub, bi_mul, bi_neg, bi_div, bi_64, bl_add, bl_sub, bl_mul, bl_neg, bl_div, bl_32, bi_min, bi_max, bl_min, bl_max, bq_I, bq_J, bq_A, bq_Vi, bq_Vl, bq_Vr, bq_cV, bq_cI, bq_cJ, bq_cA, bq_le, bq_lt, bq_eq, bq_z, bq_o, bq_ref, bq_nz, bq_nzJ, bq_bl, bq_blz, bq_T, bq_F, if_true, if_false, Int.reduceEq, Int.reduceLT, Int.reduceLE, Int.reduceAdd, Int.reduceSub, Int.reduceMul, Int.add_sub_cancel, li_0, li_1, li_4, li_6, li_44, li_100, li_4068, li_4076, li_4077, li_4079, li_4081, ll_0, ll_1, ll_4, ll_6, ll_44, ll_100, ga103, ga105, ga119, ga120, ga106, ga107, ga108, ga109, ga110, ga111, ga116, ga118, ga104, ga112, ga114, ga115, ga117, ga113, ga121, gf102_5, gf102_13, gf102_14, gf102_0, gf102_6, gf102_7, gf102_8, gf102_9, gf102_10, gf102_11, gf102_12, gf102_15, gf102_19, gf102_20, gr102_1, gr102_2, gr102_3, gr102_4, gr102_16, gr102_17, gr102_18, gr102_21, gr102_22, gr102_23, gr102_24, gr102_25, gr102_26, gr102_27, gr102_28, gr102_29, gr102_30, gr102_31, gr102_32, pa103, pa105, pa119, pa120, pa106, pa107, pa108, pa109, pa110, pa111, pa116, pa118, pa104, pa112, pa114, pa115, pa117, pa113, pa121, pf102_5, pf102_13, pf102_14, pf102_0, pf102_6, pf102_7, pf102_8, pf102_9, pf102_10, pf102_11, pf102_12, pf102_15, pf102_19, pf102_20, s_within, t_isLost, t_fallen, t_isHurt, t_between, t_isPassage, t_isRoom, t_standNow, t_standsAll, t_isIn, t_noComing, t_noStand]
  by_cases q : fS (tp 103) r hu 5 = 0
  · have q' := fS_0 q
    obtain ⟨ts2, f2, i2, e2⟩ := t_laysReached (κ := κ) (X := X) (tp := tp) (ts := ts1) (tj := tj) (tk := tk) (n := n) (b := 1) (fm := 6 * r + hu) (D := d) (N := nxt (tp 103) (tp 103 44)) hF rfl (by omega) (by omega) (Or.inr rfl) v1 (nxt_N hw _ (Int.le_refl _)) (by omega) (by omega) (by omega)
    have e3 := t_unlost (κ := κ) (X := X) (tp := tp) (ts := ts2) (tj := tj) (tk := tk) (n := n) (D := d) hF (by omega) (by omega) i2.1.1 (by omega)
    rw [if_pos q]
    simp (disch := first | assumption | omega) only [e2, e3, bi_add, bi_sub, bi_mul, bi_neg, bi_div, bi_64, bl_add, bl_sub, bl_mul, bl_neg, bl_div, bl_32, bi_min, bi_max, bl_min, bl_max, bq_I, bq_J, bq_A, bq_Vi, bq_Vl, bq_Vr, bq_cV, bq_cI, bq_cJ, bq_cA, bq_le, bq_lt, bq_eq, bq_z, bq_o, bq_ref, bq_nz, bq_nzJ, bq_bl, bq_blz, bq_T, bq_F, if_true, if_false, Int.reduceEq, Int.reduceLT, Int.reduceLE, Int.reduceAdd, Int.reduceSub, Int.reduceMul, Int.add_sub_cancel, li_0, li_1, li_4, li_6, li_44, li_100, li_4068, li_4076, li_4077, li_4079, li_4081, ll_0, ll_1, ll_4, ll_6, ll_44, ll_100, ga103, ga105, ga119, ga120, ga106, ga107, ga108, ga109, ga110, ga111, ga116, ga118, ga104, ga112, ga114, ga115, ga117, ga113, ga121, gf102_5, gf102_13, gf102_14, gf102_0, gf102_6, gf102_7, gf102_8, gf102_9, gf102_10, gf102_11, gf102_12, gf102_15, gf102_19, gf102_20, gr102_1, gr102_2, gr102_3, gr102_4, gr102_16, gr102_17, gr102_18, gr102_21, gr102_22, gr102_23, gr102_24, gr102_25, gr102_26, gr102_27, gr102_28, gr102_29, gr102_30, gr102_31, gr102_32, pa103, pa105, pa119, pa120, pa106, pa107, pa108, pa109, pa110, pa111, pa116, pa118, pa104, pa112, pa114, pa115, pa117, pa113, pa121, pf102_5, pf102_13, pf102_14, pf102_0, pf102_6, pf102_7, pf102_8, pf102_9, pf102_10, pf102_11, pf102_12, pf102_15, pf102_19, pf102_20, s_within, t_isLost, t_fallen, t_isHurt, t_between, t_isPassage, t_isRoom, t_standNow, t_standsAll, t_isIn, t_noComing, t_noStand]
    exact ⟨_, _, rfl, ts2, tk, _, rfl, rfl, Or.inr ⟨q, _, i2, rfl⟩⟩
  · rw [if_neg q]
    exact ⟨_, _, rfl, _, tk, _, rfl, rfl, Or.inl ⟨q, rfl⟩⟩
theorem t_beforeOf (hF : bFix g) (h1 : 1 ≤ tp 103 1) (h2 : tp 103 1 ≤ 6) (hN : ∀ s p, 0 ≤ s → s < 6 * tp 103 1 → 0 ≤ p → p < 8 → ts 110 (8 * s + p) = N s p) (hr : isN N (6 * tp 103 1)) (t0 : 0 ≤ to) (t1 : to < 36) (hD : 2 ≤ D) :
    bk_call D 4080 [.ref 102, .int (bk_i to)] (bk_M κ X (tp, tj, ts, tk) g n) = some (some (.int (bk_i (befM N (6 * tp 103 1) to))), bk_M κ X (tp, tj, ts, tk) g n) := by
  obtain ⟨d, rfl⟩ := dep hD
  have goal : bk_wp (bk_call (d + 1) 4080 [.ref 102, .int (bk_i to)] (bk_M κ X (tp, tj, ts, tk) g n)) (fun v h' => v = some (.int (bk_i (befM N (6 * tp 103 1) to))) ∧ h' = bk_M κ X (tp, tj, ts, tk) g n) := by
    rw [kX4_beforeOf, eX4_beforeOf_0]
    refine bk_loop (σ := Value × Value) (fun s x => bk_den TX4_beforeOf (bk_call d) 4 [.ref 102, .int (bk_i to), .int (bk_i (sumZ (fun s => bzc (∃ p, 0 ≤ p ∧ p < 8 ∧ N s p = to)) s.toNat)), .int (bk_i s), x.1, x.2] [] (bk_M κ X (tp, tj, ts, tk) g n)) (fun s _ => 0 ≤ s) (6 * tp 103 1) ?_ ?_ 0 (bk_u, bk_u) (by omega) (by omega)
    · rintro s ⟨w1, w2⟩ hs s0 cont
      dsimp only
      have ss := sumZ_succ (fun s => bzc (∃ p, 0 ≤ p ∧ p < 8 ∧ N s p = to)) s0
      rw [eX4_beforeOf_4]
      simp (disch := first | assumption | omega) only [if_neg (show ¬ 6 * tp 103 1 ≤ s by omega), bi_add, bi_sub, bi_mul, bi_neg, bi_div, bi_64, bl_add, bl_sub, bl_mul, bl_neg, bl_div, bl_32, bi_min, bi_max, bl_min, bl_max, bq_I, bq_J, bq_A, bq_Vi, bq_Vl, bq_Vr, bq_cV, bq_cI, bq_cJ, bq_cA, bq_le, bq_lt, bq_eq, bq_z, bq_o, bq_ref, bq_nz, bq_nzJ, bq_bl, bq_blz, bq_T, bq_F, if_true, if_false, Int.reduceEq, Int.reduceLT, Int.reduceLE, Int.reduceAdd, Int.reduceSub, Int.reduceMul, Int.add_sub_cancel, li_0, li_1, li_4, li_8, li_18, li_21, li_48, li_68, li_100, li_4069, li_4080, ll_0, ll_1, ll_4, ll_8, ll_18, ll_21, ll_48, ll_68, ll_100, ga103, ga105, ga119, ga120, ga106, ga107, ga108, ga109, ga110, ga111, ga116, ga118, ga104, ga112, ga114, ga115, ga117, ga113, ga121, gf102_5, gf102_13, gf102_14, gf102_0, gf102_6, gf102_7, gf102_8, gf102_9, gf102_10, gf102_11, gf102_12, gf102_15, gf102_19, gf102_20, gr102_1, gr102_2, gr102_3, gr102_4, gr102_16, gr102_17, gr102_18, gr102_21, gr102_22, gr102_23, gr102_24, gr102_25, gr102_26, gr102_27, gr102_28, gr102_29, gr102_30, gr102_31, gr102_32, pa103, pa105, pa119, pa120, pa106, pa107, pa108, pa109, pa110, pa111, pa116, pa118, pa104, pa112, pa114, pa115, pa117, pa113, pa121, pf102_5, pf102_13, pf102_14, pf102_0, pf102_6, pf102_7, pf102_8, pf102_9, pf102_10, pf102_11, pf102_12, pf102_15, pf102_19, pf102_20, s_within, t_isLost, t_fallen, t_isHurt, t_between, t_isPassage, t_isRoom, t_standNow, t_standsAll, t_isIn, t_noComing, t_noStand]
      refine bk_loop (σ := Int) (fun p x => bk_den TX4_beforeOf (bk_call d) 18 [.ref 102, .int (bk_i to), .int (bk_i (sumZ (fun s => bzc (∃ p, 0 ≤ p ∧ p < 8 ∧ N s p = to)) s.toNat)), .int (bk_i s), .int (bk_i x), .int (bk_i p)] [] (bk_M κ X (tp, tj, ts, tk) g n)) (fun p x => 0 ≤ p ∧ x = bzc (∃ q, 0 ≤ q ∧ q < p ∧ N s q = to)) 8 ?_ ?_ 0 0 (by omega) ⟨by omega, by rw [bzc_f]; rintro ⟨q, a, b, -⟩; omega⟩
      · rintro p x hp ⟨p0, rfl⟩ cont2
        have np := hr s p s0 hs p0 hp
        have z01 := bzc_01 (∃ q, 0 ≤ q ∧ q < p ∧ N s q = to)
        have og0 := bi_or01 z01 (b := 0) (Or.inl rfl)
        have og1 := bi_or01 z01 (b := 1) (Or.inr rfl)
        rw [eX4_beforeOf_18]
        simp (disch := first | assumption | omega) only [if_neg (show ¬ 8 ≤ p by omega), hN s p s0 hs p0 hp, eX4_beforeOf_48, og0, og1, bi_add, bi_sub, bi_mul, bi_neg, bi_div, bi_64, bl_add, bl_sub, bl_mul, bl_neg, bl_div, bl_32, bi_min, bi_max, bl_min, bl_max, bq_I, bq_J, bq_A, bq_Vi, bq_Vl, bq_Vr, bq_cV, bq_cI, bq_cJ, bq_cA, bq_le, bq_lt, bq_eq, bq_z, bq_o, bq_ref, bq_nz, bq_nzJ, bq_bl, bq_blz, bq_T, bq_F, if_true, if_false, Int.reduceEq, Int.reduceLT, Int.reduceLE, Int.reduceAdd, Int.reduceSub, Int.reduceMul, Int.add_sub_cancel, li_0, li_1, li_4, li_8, li_18, li_21, li_48, li_68, li_100, li_4069, li_4080, ll_0, ll_1, ll_4, ll_8, ll_18, ll_21, ll_48, ll_68, ll_100, ga103, ga105, ga119, ga120, ga106, ga107, ga108, ga109, ga110, ga111, ga116, ga118, ga104, ga112, ga114, ga115, ga117, ga113, ga121, gf102_5, gf102_13, gf102_14, gf102_0, gf102_6, gf102_7, gf102_8, gf102_9, gf102_10, gf102_11, gf102_12, gf102_15, gf102_19, gf102_20, gr102_1, gr102_2, gr102_3, gr102_4, gr102_16, gr102_17, gr102_18, gr102_21, gr102_22, gr102_23, gr102_24, gr102_25, gr102_26, gr102_27, gr102_28, gr102_29, gr102_30, gr102_31, gr102_32, pa103, pa105, pa119, pa120, pa106, pa107, pa108, pa109, pa110, pa111, pa116, pa118, pa104, pa112, pa114, pa115, pa117, pa113, pa121, pf102_5, pf102_13, pf102_14, pf102_0, pf102_6, pf102_7, pf102_8, pf102_9, pf102_10, pf102_11, pf102_12, pf102_15, pf102_19, pf102_20, s_within, t_isLost, t_fallen, t_isHurt, t_between, t_isPassage, t_isRoom, t_standNow, t_standsAll, t_isIn, t_noComing, t_noStand]
        by_cases q : N s p = to
        · rw [if_pos q]
          refine cont2 _ ⟨by omega, ?_⟩
          rw [bzc_t (p := ∃ q, 0 ≤ q ∧ q < p + 1 ∧ N s q = to) ⟨p, p0, by omega, q⟩]; omega
        · rw [if_neg q]
          refine cont2 _ ⟨by omega, ?_⟩
          have e : (∃ q, 0 ≤ q ∧ q < p + 1 ∧ N s q = to) ↔ (∃ q, 0 ≤ q ∧ q < p ∧ N s q = to) := by
            constructor
            · rintro ⟨u, a, b, c⟩
              refine ⟨u, a, ?_, c⟩
              by_cases x : u = p
              · subst x; exact absurd c q
              · omega
            · rintro ⟨u, a, b, c⟩
              exact ⟨u, a, by omega, c⟩
          rw [bzc_iff e]; omega
      · rintro x ⟨p0, rfl⟩
        have c := cont (.int (bk_i (bzc (∃ q, 0 ≤ q ∧ q < 8 ∧ N s q = to))), .int (bk_i 8)) (by omega)
        dsimp only at c
        rw [ss] at c
        have z01 := bzc_01 (∃ q, 0 ≤ q ∧ q < 8 ∧ N s q = to)
        rw [eX4_beforeOf_18]
        simp (disch := first | assumption | omega) only [if_pos (Int.le_refl 8), eX4_beforeOf_68, bi_add, bi_sub, bi_mul, bi_neg, bi_div, bi_64, bl_add, bl_sub, bl_mul, bl_neg, bl_div, bl_32, bi_min, bi_max, bl_min, bl_max, bq_I, bq_J, bq_A, bq_Vi, bq_Vl, bq_Vr, bq_cV, bq_cI, bq_cJ, bq_cA, bq_le, bq_lt, bq_eq, bq_z, bq_o, bq_ref, bq_nz, bq_nzJ, bq_bl, bq_blz, bq_T, bq_F, if_true, if_false, Int.reduceEq, Int.reduceLT, Int.reduceLE, Int.reduceAdd, Int.reduceSub, Int.reduceMul, Int.add_sub_cancel, li_0, li_1, li_4, li_8, li_18, li_21, li_48, li_68, li_100, li_4069, li_4080, ll_0, ll_1, ll_4, ll_8, ll_18, ll_21, ll_48, ll_68, ll_100, ga103, ga105, ga119, ga120, ga106, ga107, ga108, ga109, ga110, ga111, ga116, ga118, ga104, ga112, ga114, ga115, ga117, ga113, ga121, gf102_5, gf102_13, gf102_14, gf102_0, gf102_6, gf102_7, gf102_8, gf102_9, gf102_10, gf102_11, gf102_12, gf102_15, gf102_19, gf102_20, gr102_1, gr102_2, gr102_3, gr102_4, gr102_16, gr102_17, gr102_18, gr102_21, gr102_22, gr102_23, gr102_24, gr102_25, gr102_26, gr102_27, gr102_28, gr102_29, gr102_30, gr102_31, gr102_32, pa103, pa105, pa119, pa120, pa106, pa107, pa108, pa109, pa110, pa111, pa116, pa118, pa104, pa112, pa114, pa115, pa117, pa113, pa121, pf102_5, pf102_13, pf102_14, pf102_0, pf102_6, pf102_7, pf102_8, pf102_9, pf102_10, pf102_11, pf102_12, pf102_15, pf102_19, pf102_20, s_within, t_isLost, t_fallen, t_isHurt, t_between, t_isPassage, t_isRoom, t_standNow, t_standsAll, t_isIn, t_noComing, t_noStand]
        rcases z01 with q | q
        · rw [q] at c ⊢
          rw [if_pos rfl]
          exact c
        · rw [q] at c ⊢
          rw [if_neg (by decide)]
          exact c
    · rintro ⟨w1, w2⟩ s0
      dsimp only
      rw [eX4_beforeOf_4]
      simp (disch := first | assumption | omega) only [if_pos (Int.le_refl (6 * tp 103 1)), bi_add, bi_sub, bi_mul, bi_neg, bi_div, bi_64, bl_add, bl_sub, bl_mul, bl_neg, bl_div, bl_32, bi_min, bi_max, bl_min, bl_max, bq_I, bq_J, bq_A, bq_Vi, bq_Vl, bq_Vr, bq_cV, bq_cI, bq_cJ, bq_cA, bq_le, bq_lt, bq_eq, bq_z, bq_o, bq_ref, bq_nz, bq_nzJ, bq_bl, bq_blz, bq_T, bq_F, if_true, if_false, Int.reduceEq, Int.reduceLT, Int.reduceLE, Int.reduceAdd, Int.reduceSub, Int.reduceMul, Int.add_sub_cancel, li_0, li_1, li_4, li_8, li_18, li_21, li_48, li_68, li_100, li_4069, li_4080, ll_0, ll_1, ll_4, ll_8, ll_18, ll_21, ll_48, ll_68, ll_100, ga103, ga105, ga119, ga120, ga106, ga107, ga108, ga109, ga110, ga111, ga116, ga118, ga104, ga112, ga114, ga115, ga117, ga113, ga121, gf102_5, gf102_13, gf102_14, gf102_0, gf102_6, gf102_7, gf102_8, gf102_9, gf102_10, gf102_11, gf102_12, gf102_15, gf102_19, gf102_20, gr102_1, gr102_2, gr102_3, gr102_4, gr102_16, gr102_17, gr102_18, gr102_21, gr102_22, gr102_23, gr102_24, gr102_25, gr102_26, gr102_27, gr102_28, gr102_29, gr102_30, gr102_31, gr102_32, pa103, pa105, pa119, pa120, pa106, pa107, pa108, pa109, pa110, pa111, pa116, pa118, pa104, pa112, pa114, pa115, pa117, pa113, pa121, pf102_5, pf102_13, pf102_14, pf102_0, pf102_6, pf102_7, pf102_8, pf102_9, pf102_10, pf102_11, pf102_12, pf102_15, pf102_19, pf102_20, s_within, t_isLost, t_fallen, t_isHurt, t_between, t_isPassage, t_isRoom, t_standNow, t_standsAll, t_isIn, t_noComing, t_noStand]
      exact ⟨_, _, rfl, rfl, rfl⟩
  obtain ⟨z, h', e, rfl, rfl⟩ := goal
  exact e
theorem m_before (h : bTt g (tp 103)) (h3 : -2147483648 ≤ r) (h4 : r < 2147483648) (h5 : -2147483648 ≤ hu) (h6 : hu < 2147483648) (hD : 9 ≤ D) :
    bk_wp (bk_call D 4078 [.ref 102, .int (bk_i r), .int (bk_i hu)] (bk_M κ X (tp, tj, ts, tk) g n)) (bTq κ X tp tj g n (rBefore (tp 103) r hu)) := by
  obtain ⟨d, rfl⟩ := dep hD
  have st := bTt_st h
  have fr := fS_rng (tp 103) r hu 5
  obtain ⟨hF, hw, hs⟩ := h
  obtain ⟨ts1, f1, v1, e1⟩ := t_laysThen (κ := κ) (X := X) (tp := tp) (ts := bU ts 102 0 0) (tj := tj) (tk := tk) (n := n) (rop := tp 103 44) (D := d) hF hw (by omega) (by omega) (by omega) (by omega) (by omega)
  rw [kX4_before, eX4_before_0]
  simp (disch := first | assumption | omega) only [e1, bi_add, bi_sub, bi_mul, bi_neg, bi_div, bi_64, bl_add, bl_sub, bl_mul, bl_neg, bl_div, bl_32, bi_min, bi_max, bl_min, bl_max, bq_I, bq_J, bq_A, bq_Vi, bq_Vl, bq_Vr, bq_cV, bq_cI, bq_cJ, bq_cA, bq_le, bq_lt, bq_eq, bq_z, bq_o, bq_ref, bq_nz, bq_nzJ, bq_bl, bq_blz, bq_T, bq_F, if_true, if_false, Int.reduceEq, Int.reduceLT, Int.reduceLE, Int.reduceAdd, Int.reduceSub, Int.reduceMul, Int.add_sub_cancel, li_0, li_1, li_4, li_6, li_44, li_100, li_4068, li_4078, li_4079, li_4080, ll_0, ll_1, ll_4, ll_6, ll_44, ll_100, ga103, ga105, ga119, ga120, ga106, ga107, ga108, ga109, ga110, ga111, ga116, ga118, ga104, ga112, ga114, ga115, ga117, ga113, ga121, gf102_5, gf102_13, gf102_14, gf102_0, gf102_6, gf102_7, gf102_8, gf102_9, gf102_10, gf102_11, gf102_12, gf102_15, gf102_19, gf102_20, gr102_1, gr102_2, gr102_3, gr102_4, gr102_16, gr102_17, gr102_18, gr102_21, gr102_22, gr102_23, gr102_24, gr102_25, gr102_26, gr102_27, gr102_28, gr102_29, gr102_30, gr102_31, gr102_32, pa103, pa105, pa119, pa120, pa106, pa107, pa108, pa109, pa110, pa111, pa116, pa118, pa104, pa112, pa114, pa115, pa117, pa113, pa121, pf102_5, pf102_13, pf102_14, pf102_0, pf102_6, pf102_7, pf102_8, pf102_9, pf102_10, pf102_11, pf102_12, pf102_15, pf102_19, pf102_20, s_within, t_isLost, t_fallen, t_isHurt, t_between, t_isPassage, t_isRoom, t_standNow, t_standsAll, t_isIn, t_noComing, t_noStand]
  by_cases q : fS (tp 103) r hu 5 = 0
  · have q' := fS_0 q
    have e2 := t_beforeOf (κ := κ) (X := X) (tp := tp) (ts := ts1) (tj := tj) (tk := tk) (n := n) (to := 6 * r + hu) (D := d) (N := nxt (tp 103) (tp 103 44)) hF (by omega) (by omega) v1 (nxt_N hw _ (Int.le_refl _)) (by omega) (by omega) (by omega)
    rw [if_pos q]
    simp (disch := first | assumption | omega) only [e2, bi_add, bi_sub, bi_mul, bi_neg, bi_div, bi_64, bl_add, bl_sub, bl_mul, bl_neg, bl_div, bl_32, bi_min, bi_max, bl_min, bl_max, bq_I, bq_J, bq_A, bq_Vi, bq_Vl, bq_Vr, bq_cV, bq_cI, bq_cJ, bq_cA, bq_le, bq_lt, bq_eq, bq_z, bq_o, bq_ref, bq_nz, bq_nzJ, bq_bl, bq_blz, bq_T, bq_F, if_true, if_false, Int.reduceEq, Int.reduceLT, Int.reduceLE, Int.reduceAdd, Int.reduceSub, Int.reduceMul, Int.add_sub_cancel, li_0, li_1, li_4, li_6, li_44, li_100, li_4068, li_4078, li_4079, li_4080, ll_0, ll_1, ll_4, ll_6, ll_44, ll_100, ga103, ga105, ga119, ga120, ga106, ga107, ga108, ga109, ga110, ga111, ga116, ga118, ga104, ga112, ga114, ga115, ga117, ga113, ga121, gf102_5, gf102_13, gf102_14, gf102_0, gf102_6, gf102_7, gf102_8, gf102_9, gf102_10, gf102_11, gf102_12, gf102_15, gf102_19, gf102_20, gr102_1, gr102_2, gr102_3, gr102_4, gr102_16, gr102_17, gr102_18, gr102_21, gr102_22, gr102_23, gr102_24, gr102_25, gr102_26, gr102_27, gr102_28, gr102_29, gr102_30, gr102_31, gr102_32, pa103, pa105, pa119, pa120, pa106, pa107, pa108, pa109, pa110, pa111, pa116, pa118, pa104, pa112, pa114, pa115, pa117, pa113, pa121, pf102_5, pf102_13, pf102_14, pf102_0, pf102_6, pf102_7, pf102_8, pf102_9, pf102_10, pf102_11, pf102_12, pf102_15, pf102_19, pf102_20, s_within, t_isLost, t_fallen, t_isHurt, t_between, t_isPassage, t_isRoom, t_standNow, t_standsAll, t_isIn, t_noComing, t_noStand]
    exact ⟨_, _, rfl, ts1, tk, _, rfl, rfl, Or.inr ⟨q, rfl⟩⟩
  · rw [if_neg q]
    exact ⟨_, _, rfl, _, tk, _, rfl, rfl, Or.inl ⟨q, rfl⟩⟩
theorem t_orphanAt (h : bTt g (tp 103)) {k : Int} (h3 : -1 ≤ k) (h4 : k < 2147483648) (hD : 8 ≤ D) :
    bk_wp (bk_call D 4083 [.ref 102, .int (bk_i k)] (bk_M κ X (tp, tj, ts, tk) g n)) (bTq κ X tp tj g n (fun z => (k < 0 ∧ z = orphN (nxt (tp 103) (tp 103 44)) (6 * tp 103 1) (6 * tp 103 1).toNat) ∨ (0 ≤ k ∧ rOrph (nxt (tp 103) (tp 103 44)) (6 * tp 103 1) k z))) := by
  obtain ⟨d, rfl⟩ := dep hD
  have st := bTt_st h
  obtain ⟨hF, hw, hs⟩ := h
  obtain ⟨ts1, f1, v1, e1⟩ := t_laysThen (κ := κ) (X := X) (tp := tp) (ts := ts) (tj := tj) (tk := tk) (n := n) (rop := tp 103 44) (D := d) hF hw (by omega) (by omega) (by omega) (by omega) (by omega)
  rw [kX4_orphanAt, eX4_orphanAt_0]
  simp (disch := first | assumption | omega) only [e1, bi_add, bi_sub, bi_mul, bi_neg, bi_div, bi_64, bl_add, bl_sub, bl_mul, bl_neg, bl_div, bl_32, bi_min, bi_max, bl_min, bl_max, bq_I, bq_J, bq_A, bq_Vi, bq_Vl, bq_Vr, bq_cV, bq_cI, bq_cJ, bq_cA, bq_le, bq_lt, bq_eq, bq_z, bq_o, bq_ref, bq_nz, bq_nzJ, bq_bl, bq_blz, bq_T, bq_F, if_true, if_false, Int.reduceEq, Int.reduceLT, Int.reduceLE, Int.reduceAdd, Int.reduceSub, Int.reduceMul, Int.add_sub_cancel, li_0, li_1, li_4, li_6, li_10, li_15, li_44, li_62, li_100, li_4037, li_4068, li_4069, li_4080, li_4083, ll_0, ll_1, ll_4, ll_6, ll_10, ll_15, ll_44, ll_62, ll_100, ga103, ga105, ga119, ga120, ga106, ga107, ga108, ga109, ga110, ga111, ga116, ga118, ga104, ga112, ga114, ga115, ga117, ga113, ga121, gf102_5, gf102_13, gf102_14, gf102_0, gf102_6, gf102_7, gf102_8, gf102_9, gf102_10, gf102_11, gf102_12, gf102_15, gf102_19, gf102_20, gr102_1, gr102_2, gr102_3, gr102_4, gr102_16, gr102_17, gr102_18, gr102_21, gr102_22, gr102_23, gr102_24, gr102_25, gr102_26, gr102_27, gr102_28, gr102_29, gr102_30, gr102_31, gr102_32, pa103, pa105, pa119, pa120, pa106, pa107, pa108, pa109, pa110, pa111, pa116, pa118, pa104, pa112, pa114, pa115, pa117, pa113, pa121, pf102_5, pf102_13, pf102_14, pf102_0, pf102_6, pf102_7, pf102_8, pf102_9, pf102_10, pf102_11, pf102_12, pf102_15, pf102_19, pf102_20, s_within, t_isLost, t_fallen, t_isHurt, t_between, t_isPassage, t_isRoom, t_standNow, t_standsAll, t_isIn, t_noComing, t_noStand]
  refine bk_loop (σ := Unit) (fun s _ => bk_den TX4_orphanAt (bk_call d) 15 [.ref 102, .int (bk_i k), .int (bk_i (orphN (nxt (tp 103) (tp 103 44)) (6 * tp 103 1) s.toNat)), .int (bk_i s)] [] (bk_M κ X (tp, tj, ts1, tk) g n)) (fun s _ => 0 ≤ s ∧ (0 ≤ k → orphN (nxt (tp 103) (tp 103 44)) (6 * tp 103 1) s.toNat ≤ k)) (6 * tp 103 1) ?_ ?_ 0 () (by omega) ⟨by omega, fun q => q⟩
  · rintro s - hs ⟨s0, hk⟩ cont
    have ss : orphN (nxt (tp 103) (tp 103 44)) (6 * tp 103 1) (s + 1).toNat = orphN (nxt (tp 103) (tp 103 44)) (6 * tp 103 1) s.toNat + bzc (orphM (nxt (tp 103) (tp 103 44)) (6 * tp 103 1) s) := sumZ_succ _ s0
    have e2 := t_beforeOf (κ := κ) (X := X) (tp := tp) (ts := ts1) (tj := tj) (tk := tk) (n := n) (to := s) (D := d) (N := nxt (tp 103) (tp 103 44)) hF (by omega) (by omega) v1 (nxt_N hw _ (Int.le_refl _)) s0 (by omega) (by omega)
    have b : 0 ≤ befM (nxt (tp 103) (tp 103 44)) (6 * tp 103 1) s ∧ befM (nxt (tp 103) (tp 103 44)) (6 * tp 103 1) s ≤ (6 * tp 103 1).toNat := sumZ_bzc _
    have ob : 0 ≤ orphN (nxt (tp 103) (tp 103 44)) (6 * tp 103 1) s.toNat ∧ orphN (nxt (tp 103) (tp 103 44)) (6 * tp 103 1) s.toNat ≤ s.toNat := sumZ_bzc _
    have sm : s - s / 6 * 6 = s % 6 := by omega
    have c := cont ()
    rw [ss] at c
    rw [eX4_orphanAt_15]
    simp (disch := first | assumption | omega) only [if_neg (show ¬ 6 * tp 103 1 ≤ s by omega), e2, eX4_orphanAt_62, sm, bi_add, bi_sub, bi_mul, bi_neg, bi_div, bi_64, bl_add, bl_sub, bl_mul, bl_neg, bl_div, bl_32, bi_min, bi_max, bl_min, bl_max, bq_I, bq_J, bq_A, bq_Vi, bq_Vl, bq_Vr, bq_cV, bq_cI, bq_cJ, bq_cA, bq_le, bq_lt, bq_eq, bq_z, bq_o, bq_ref, bq_nz, bq_nzJ, bq_bl, bq_blz, bq_T, bq_F, if_true, if_false, Int.reduceEq, Int.reduceLT, Int.reduceLE, Int.reduceAdd, Int.reduceSub, Int.reduceMul, Int.add_sub_cancel, li_0, li_1, li_4, li_6, li_10, li_15, li_44, li_62, li_100, li_4037, li_4068, li_4069, li_4080, li_4083, ll_0, ll_1, ll_4, ll_6, ll_10, ll_15, ll_44, ll_62, ll_100, ga103, ga105, ga119, ga120, ga106, ga107, ga108, ga109, ga110, ga111, ga116, ga118, ga104, ga112, ga114, ga115, ga117, ga113, ga121, gf102_5, gf102_13, gf102_14, gf102_0, gf102_6, gf102_7, gf102_8, gf102_9, gf102_10, gf102_11, gf102_12, gf102_15, gf102_19, gf102_20, gr102_1, gr102_2, gr102_3, gr102_4, gr102_16, gr102_17, gr102_18, gr102_21, gr102_22, gr102_23, gr102_24, gr102_25, gr102_26, gr102_27, gr102_28, gr102_29, gr102_30, gr102_31, gr102_32, pa103, pa105, pa119, pa120, pa106, pa107, pa108, pa109, pa110, pa111, pa116, pa118, pa104, pa112, pa114, pa115, pa117, pa113, pa121, pf102_5, pf102_13, pf102_14, pf102_0, pf102_6, pf102_7, pf102_8, pf102_9, pf102_10, pf102_11, pf102_12, pf102_15, pf102_19, pf102_20, s_within, t_isLost, t_fallen, t_isHurt, t_between, t_isPassage, t_isRoom, t_standNow, t_standsAll, t_isIn, t_noComing, t_noStand]
    by_cases q2 : s % 6 = 5
    · rw [bzc_f (fun k => k.1 q2)] at c
      rw [if_pos q2]
      simp only [Int.add_zero] at c
      exact c ⟨by omega, hk⟩
    · rw [if_neg q2]
      by_cases q3 : befM (nxt (tp 103) (tp 103 44)) (6 * tp 103 1) s ≤ 0
      · have o : orphM (nxt (tp 103) (tp 103 44)) (6 * tp 103 1) s := ⟨q2, by omega⟩
        rw [bzc_t o] at c
        rw [if_pos q3]
        by_cases q4 : orphN (nxt (tp 103) (tp 103 44)) (6 * tp 103 1) s.toNat = k
        · rw [if_pos q4]
          exact ⟨_, _, rfl, ts1, tk, _, rfl, rfl, Or.inr ⟨by omega, Or.inl ⟨s, s0, hs, o, q4, rfl⟩⟩⟩
        · rw [if_neg q4]
          exact c ⟨by omega, fun z => by have := hk z; omega⟩
      · have o : ¬ orphM (nxt (tp 103) (tp 103 44)) (6 * tp 103 1) s := fun k => by have := k.2; omega
        rw [bzc_f o] at c
        simp only [Int.add_zero] at c
        rw [if_neg q3]
        exact c ⟨by omega, hk⟩
  · rintro - ⟨s0, hk⟩
    rw [eX4_orphanAt_15]
    simp (disch := first | assumption | omega) only [if_pos (Int.le_refl (6 * tp 103 1)), bi_add, bi_sub, bi_mul, bi_neg, bi_div, bi_64, bl_add, bl_sub, bl_mul, bl_neg, bl_div, bl_32, bi_min, bi_max, bl_min, bl_max, bq_I, bq_J, bq_A, bq_Vi, bq_Vl, bq_Vr, bq_cV, bq_cI, bq_cJ, bq_cA, bq_le, bq_lt, bq_eq, bq_z, bq_o, bq_ref, bq_nz, bq_nzJ, bq_bl, bq_blz, bq_T, bq_F, if_true, if_false, Int.reduceEq, Int.reduceLT, Int.reduceLE, Int.reduceAdd, Int.reduceSub, Int.reduceMul, Int.add_sub_cancel, li_0, li_1, li_4, li_6, li_10, li_15, li_44, li_62, li_100, li_4037, li_4068, li_4069, li_4080, li_4083, ll_0, ll_1, ll_4, ll_6, ll_10, ll_15, ll_44, ll_62, ll_100, ga103, ga105, ga119, ga120, ga106, ga107, ga108, ga109, ga110, ga111, ga116, ga118, ga104, ga112, ga114, ga115, ga117, ga113, ga121, gf102_5, gf102_13, gf102_14, gf102_0, gf102_6, gf102_7, gf102_8, gf102_9, gf102_10, gf102_11, gf102_12, gf102_15, gf102_19, gf102_20, gr102_1, gr102_2, gr102_3, gr102_4, gr102_16, gr102_17, gr102_18, gr102_21, gr102_22, gr102_23, gr102_24, gr102_25, gr102_26, gr102_27, gr102_28, gr102_29, gr102_30, gr102_31, gr102_32, pa103, pa105, pa119, pa120, pa106, pa107, pa108, pa109, pa110, pa111, pa116, pa118, pa104, pa112, pa114, pa115, pa117, pa113, pa121, pf102_5, pf102_13, pf102_14, pf102_0, pf102_6, pf102_7, pf102_8, pf102_9, pf102_10, pf102_11, pf102_12, pf102_15, pf102_19, pf102_20, s_within, t_isLost, t_fallen, t_isHurt, t_between, t_isPassage, t_isRoom, t_standNow, t_standsAll, t_isIn, t_noComing, t_noStand]
    by_cases q : 0 ≤ k
    · rw [if_pos q]
      exact ⟨_, _, rfl, ts1, tk, _, rfl, rfl, Or.inr ⟨q, Or.inr ⟨rfl, hk q⟩⟩⟩
    · rw [if_neg q]
      exact ⟨_, _, rfl, ts1, tk, _, rfl, rfl, Or.inl ⟨by omega, rfl⟩⟩
theorem m_orphans (h : bTt g (tp 103)) (hD : 9 ≤ D) :
    bk_wp (bk_call D 4082 [.ref 102] (bk_M κ X (tp, tj, ts, tk) g n)) (bTq κ X tp tj g n (fun z => z = orphN (nxt (tp 103) (tp 103 44)) (6 * tp 103 1) (6 * tp 103 1).toNat)) := by
  obtain ⟨d, rfl⟩ := dep hD
  obtain ⟨_, _, e, ts1, tk1, z, rfl, rfl, hz⟩ := t_orphanAt (κ := κ) (X := X) (tp := tp) (ts := bU ts 102 0 0) (tj := tj) (tk := tk) (n := n) (k := -1) (D := d) h (by omega) (by omega) (by omega)
  obtain ⟨hF, hw, hs⟩ := h
  rw [kX4_orphans, eX4_orphans_0]
  simp (disch := first | assumption | omega) only [e, bi_add, bi_sub, bi_mul, bi_neg, bi_div, bi_64, bl_add, bl_sub, bl_mul, bl_neg, bl_div, bl_32, bi_min, bi_max, bl_min, bl_max, bq_I, bq_J, bq_A, bq_Vi, bq_Vl, bq_Vr, bq_cV, bq_cI, bq_cJ, bq_cA, bq_le, bq_lt, bq_eq, bq_z, bq_o, bq_ref, bq_nz, bq_nzJ, bq_bl, bq_blz, bq_T, bq_F, if_true, if_false, Int.reduceEq, Int.reduceLT, Int.reduceLE, Int.reduceAdd, Int.reduceSub, Int.reduceMul, Int.add_sub_cancel, li_0, li_1, li_4, li_4082, li_4083, ll_0, ll_1, ll_4, ga103, ga105, ga119, ga120, ga106, ga107, ga108, ga109, ga110, ga111, ga116, ga118, ga104, ga112, ga114, ga115, ga117, ga113, ga121, gf102_5, gf102_13, gf102_14, gf102_0, gf102_6, gf102_7, gf102_8, gf102_9, gf102_10, gf102_11, gf102_12, gf102_15, gf102_19, gf102_20, gr102_1, gr102_2, gr102_3, gr102_4, gr102_16, gr102_17, gr102_18, gr102_21, gr102_22, gr102_23, gr102_24, gr102_25, gr102_26, gr102_27, gr102_28, gr102_29, gr102_30, gr102_31, gr102_32, pa103, pa105, pa119, pa120, pa106, pa107, pa108, pa109, pa110, pa111, pa116, pa118, pa104, pa112, pa114, pa115, pa117, pa113, pa121, pf102_5, pf102_13, pf102_14, pf102_0, pf102_6, pf102_7, pf102_8, pf102_9, pf102_10, pf102_11, pf102_12, pf102_15, pf102_19, pf102_20, s_within, t_isLost, t_fallen, t_isHurt, t_between, t_isPassage, t_isRoom, t_standNow, t_standsAll, t_isIn, t_noComing, t_noStand]
  refine ⟨_, _, rfl, ts1, tk1, _, rfl, rfl, ?_⟩
  rcases hz with ⟨-, hz⟩ | ⟨hz, -⟩
  · exact hz
  · omega
theorem m_orphan (h : bTt g (tp 103)) {k : Int} (h3 : -2147483648 ≤ k) (h4 : k < 2147483648) (hD : 9 ≤ D) :
    bk_wp (bk_call D 4084 [.ref 102, .int (bk_i k)] (bk_M κ X (tp, tj, ts, tk) g n)) (bTq κ X tp tj g n (rOrphan (tp 103) k)) := by
  obtain ⟨d, rfl⟩ := dep hD
  have hF := h.1
  rw [kX4_orphan, eX4_orphan_0]
  simp (disch := first | assumption | omega) only [bi_add, bi_sub, bi_mul, bi_neg, bi_div, bi_64, bl_add, bl_sub, bl_mul, bl_neg, bl_div, bl_32, bi_min, bi_max, bl_min, bl_max, bq_I, bq_J, bq_A, bq_Vi, bq_Vl, bq_Vr, bq_cV, bq_cI, bq_cJ, bq_cA, bq_le, bq_lt, bq_eq, bq_z, bq_o, bq_ref, bq_nz, bq_nzJ, bq_bl, bq_blz, bq_T, bq_F, if_true, if_false, Int.reduceEq, Int.reduceLT, Int.reduceLE, Int.reduceAdd, Int.reduceSub, Int.reduceMul, Int.add_sub_cancel, li_0, li_1, li_3, li_4, li_4083, li_4084, ll_0, ll_1, ll_3, ll_4, ga103, ga105, ga119, ga120, ga106, ga107, ga108, ga109, ga110, ga111, ga116, ga118, ga104, ga112, ga114, ga115, ga117, ga113, ga121, gf102_5, gf102_13, gf102_14, gf102_0, gf102_6, gf102_7, gf102_8, gf102_9, gf102_10, gf102_11, gf102_12, gf102_15, gf102_19, gf102_20, gr102_1, gr102_2, gr102_3, gr102_4, gr102_16, gr102_17, gr102_18, gr102_21, gr102_22, gr102_23, gr102_24, gr102_25, gr102_26, gr102_27, gr102_28, gr102_29, gr102_30, gr102_31, gr102_32, pa103, pa105, pa119, pa120, pa106, pa107, pa108, pa109, pa110, pa111, pa116, pa118, pa104, pa112, pa114, pa115, pa117, pa113, pa121, pf102_5, pf102_13, pf102_14, pf102_0, pf102_6, pf102_7, pf102_8, pf102_9, pf102_10, pf102_11, pf102_12, pf102_15, pf102_19, pf102_20, s_within, t_isLost, t_fallen, t_isHurt, t_between, t_isPassage, t_isRoom, t_standNow, t_standsAll, t_isIn, t_noComing, t_noStand]
  by_cases q : 0 ≤ k
  · obtain ⟨_, _, e, ts1, tk1, z, rfl, rfl, hz⟩ := t_orphanAt (κ := κ) (X := X) (tp := tp) (ts := bU ts 102 0 0) (tj := tj) (tk := tk) (n := n) (k := k) (D := d) h (by omega) (by omega) (by omega)
    rw [if_pos q]
    simp (disch := first | assumption | omega) only [e, bi_add, bi_sub, bi_mul, bi_neg, bi_div, bi_64, bl_add, bl_sub, bl_mul, bl_neg, bl_div, bl_32, bi_min, bi_max, bl_min, bl_max, bq_I, bq_J, bq_A, bq_Vi, bq_Vl, bq_Vr, bq_cV, bq_cI, bq_cJ, bq_cA, bq_le, bq_lt, bq_eq, bq_z, bq_o, bq_ref, bq_nz, bq_nzJ, bq_bl, bq_blz, bq_T, bq_F, if_true, if_false, Int.reduceEq, Int.reduceLT, Int.reduceLE, Int.reduceAdd, Int.reduceSub, Int.reduceMul, Int.add_sub_cancel, li_0, li_1, li_3, li_4, li_4083, li_4084, ll_0, ll_1, ll_3, ll_4, ga103, ga105, ga119, ga120, ga106, ga107, ga108, ga109, ga110, ga111, ga116, ga118, ga104, ga112, ga114, ga115, ga117, ga113, ga121, gf102_5, gf102_13, gf102_14, gf102_0, gf102_6, gf102_7, gf102_8, gf102_9, gf102_10, gf102_11, gf102_12, gf102_15, gf102_19, gf102_20, gr102_1, gr102_2, gr102_3, gr102_4, gr102_16, gr102_17, gr102_18, gr102_21, gr102_22, gr102_23, gr102_24, gr102_25, gr102_26, gr102_27, gr102_28, gr102_29, gr102_30, gr102_31, gr102_32, pa103, pa105, pa119, pa120, pa106, pa107, pa108, pa109, pa110, pa111, pa116, pa118, pa104, pa112, pa114, pa115, pa117, pa113, pa121, pf102_5, pf102_13, pf102_14, pf102_0, pf102_6, pf102_7, pf102_8, pf102_9, pf102_10, pf102_11, pf102_12, pf102_15, pf102_19, pf102_20, s_within, t_isLost, t_fallen, t_isHurt, t_between, t_isPassage, t_isRoom, t_standNow, t_standsAll, t_isIn, t_noComing, t_noStand]
    refine ⟨_, _, rfl, ts1, tk1, _, rfl, rfl, Or.inr ⟨q, ?_⟩⟩
    rcases hz with ⟨a, hz⟩ | ⟨-, hz⟩
    · omega
    · exact hz
  · rw [if_neg q]
    exact ⟨_, _, rfl, _, tk, _, rfl, rfl, Or.inl ⟨by omega, rfl⟩⟩
theorem m_ring (h : bTt g (tp 103)) (h3 : -2147483648 ≤ r) (h4 : r < 2147483648) (h5 : -2147483648 ≤ hu) (h6 : hu < 2147483648) (hD : 9 ≤ D) :
    bk_wp (bk_call D 4085 [.ref 102, .int (bk_i r), .int (bk_i hu)] (bk_M κ X (tp, tj, ts, tk) g n)) (bTq κ X tp tj g n (rRing (tp 103) r hu)) := by
  obtain ⟨d, rfl⟩ := dep hD
  have st := bTt_st h
  have fr := fS_rng (tp 103) r hu 4
  obtain ⟨hF, hw, hs⟩ := h
  have hN := nxt_N hw (tp 103 44) (Int.le_refl (6 * tp 103 1))
  obtain ⟨ts1, f1, v1, e1⟩ := t_laysThen (κ := κ) (X := X) (tp := tp) (ts := bU ts 102 0 0) (tj := tj) (tk := tk) (n := n) (rop := tp 103 44) (D := d) hF hw (by omega) (by omega) (by omega) (by omega) (by omega)
  rw [kX4_ring, eX4_ring_0]
  simp (disch := first | assumption | omega) only [e1, bi_add, bi_sub, bi_mul, bi_neg, bi_div, bi_64, bl_add, bl_sub, bl_mul, bl_neg, bl_div, bl_32, bi_min, bi_max, bl_min, bl_max, bq_I, bq_J, bq_A, bq_Vi, bq_Vl, bq_Vr, bq_cV, bq_cI, bq_cJ, bq_cA, bq_le, bq_lt, bq_eq, bq_z, bq_o, bq_ref, bq_nz, bq_nzJ, bq_bl, bq_blz, bq_T, bq_F, if_true, if_false, Int.reduceEq, Int.reduceLT, Int.reduceLE, Int.reduceAdd, Int.reduceSub, Int.reduceMul, Int.add_sub_cancel, li_0, li_1, li_4, li_6, li_8, li_22, li_40, li_44, li_69, li_88, li_100, li_121, li_4066, li_4068, li_4069, li_4070, li_4071, li_4085, li_268435456, ll_0, ll_1, ll_4, ll_6, ll_8, ll_22, ll_40, ll_44, ll_69, ll_88, ll_100, ll_121, ga103, ga105, ga119, ga120, ga106, ga107, ga108, ga109, ga110, ga111, ga116, ga118, ga104, ga112, ga114, ga115, ga117, ga113, ga121, gf102_5, gf102_13, gf102_14, gf102_0, gf102_6, gf102_7, gf102_8, gf102_9, gf102_10, gf102_11, gf102_12, gf102_15, gf102_19, gf102_20, gr102_1, gr102_2, gr102_3, gr102_4, gr102_16, gr102_17, gr102_18, gr102_21, gr102_22, gr102_23, gr102_24, gr102_25, gr102_26, gr102_27, gr102_28, gr102_29, gr102_30, gr102_31, gr102_32, pa103, pa105, pa119, pa120, pa106, pa107, pa108, pa109, pa110, pa111, pa116, pa118, pa104, pa112, pa114, pa115, pa117, pa113, pa121, pf102_5, pf102_13, pf102_14, pf102_0, pf102_6, pf102_7, pf102_8, pf102_9, pf102_10, pf102_11, pf102_12, pf102_15, pf102_19, pf102_20, s_within, t_isLost, t_fallen, t_isHurt, t_between, t_isPassage, t_isRoom, t_standNow, t_standsAll, t_isIn, t_noComing, t_noStand]
  by_cases q : fS (tp 103) r hu 4 = 0
  · have q' := fS_0 q
    rw [if_pos q, q]
    generalize hfm : 6 * r + hu = fm
    have fm0 : 0 ≤ fm := by omega
    have fm1 : fm < 6 * tp 103 1 := by omega
    refine bk_loop (σ := bF) (fun s x => bk_den TX4_ring (bk_call d) 40 [.ref 102, .int (bk_i r), .int (bk_i hu), .int (bk_i 0), .int (bk_i fm), .int (bk_i s), bk_u] [] (bk_M κ X (tp, tj, x, tk) g n))
      (fun s x => 0 ≤ s ∧ (∀ a, a ≠ 111 → x a = ts1 a) ∧ ∀ t, 0 ≤ t → t < s → x 111 t = if t = fm then 0 else 268435456) (6 * tp 103 1) ?_ ?_ 0 ts1 (by omega) ⟨by omega, fun _ _ => rfl, fun t _ _ => by omega⟩
    · rintro s ts2 hs ⟨s0, fr2, vl⟩ cont
      have fin : ∀ val : Int, (val = if s = fm then 0 else 268435456) → bk_wp (bk_den TX4_ring (bk_call d) 40 [.ref 102, .int (bk_i r), .int (bk_i hu), .int (bk_i 0), .int (bk_i fm), .int (bk_i (s + 1)), bk_u] [] (bk_M κ X (tp, tj, bU ts2 111 s val, tk) g n)) (bTq κ X tp tj g n (rRing (tp 103) r hu)) := by
        intro val hv
        refine cont (bU ts2 111 s val) ⟨by omega, fun a ha => ?_, fun t t0 t1 => ?_⟩
        · funext j; rw [bU_ne _ _ _ _ _ _ ha, fr2 a ha]
        · rw [bU_same]
          by_cases c : t = s
          · subst c; rw [if_pos rfl]; exact hv
          · rw [if_neg c]; exact vl t t0 (by omega)
      rw [eX4_ring_40]
      simp (disch := first | assumption | omega) only [if_neg (show ¬ 6 * tp 103 1 ≤ s by omega), eX4_ring_69, bi_add, bi_sub, bi_mul, bi_neg, bi_div, bi_64, bl_add, bl_sub, bl_mul, bl_neg, bl_div, bl_32, bi_min, bi_max, bl_min, bl_max, bq_I, bq_J, bq_A, bq_Vi, bq_Vl, bq_Vr, bq_cV, bq_cI, bq_cJ, bq_cA, bq_le, bq_lt, bq_eq, bq_z, bq_o, bq_ref, bq_nz, bq_nzJ, bq_bl, bq_blz, bq_T, bq_F, if_true, if_false, Int.reduceEq, Int.reduceLT, Int.reduceLE, Int.reduceAdd, Int.reduceSub, Int.reduceMul, Int.add_sub_cancel, li_0, li_1, li_4, li_6, li_8, li_22, li_40, li_44, li_69, li_88, li_100, li_121, li_4066, li_4068, li_4069, li_4070, li_4071, li_4085, li_268435456, ll_0, ll_1, ll_4, ll_6, ll_8, ll_22, ll_40, ll_44, ll_69, ll_88, ll_100, ll_121, ga103, ga105, ga119, ga120, ga106, ga107, ga108, ga109, ga110, ga111, ga116, ga118, ga104, ga112, ga114, ga115, ga117, ga113, ga121, gf102_5, gf102_13, gf102_14, gf102_0, gf102_6, gf102_7, gf102_8, gf102_9, gf102_10, gf102_11, gf102_12, gf102_15, gf102_19, gf102_20, gr102_1, gr102_2, gr102_3, gr102_4, gr102_16, gr102_17, gr102_18, gr102_21, gr102_22, gr102_23, gr102_24, gr102_25, gr102_26, gr102_27, gr102_28, gr102_29, gr102_30, gr102_31, gr102_32, pa103, pa105, pa119, pa120, pa106, pa107, pa108, pa109, pa110, pa111, pa116, pa118, pa104, pa112, pa114, pa115, pa117, pa113, pa121, pf102_5, pf102_13, pf102_14, pf102_0, pf102_6, pf102_7, pf102_8, pf102_9, pf102_10, pf102_11, pf102_12, pf102_15, pf102_19, pf102_20, s_within, t_isLost, t_fallen, t_isHurt, t_between, t_isPassage, t_isRoom, t_standNow, t_standsAll, t_isIn, t_noComing, t_noStand]
      by_cases c : s = fm
      · rw [if_pos c]; exact fin _ (by rw [if_pos c])
      · rw [if_neg c]; exact fin _ (by rw [if_neg c])
    · rintro ts2 ⟨s0, fr2, vl⟩
      have I0 : dInv (nxt (tp 103) (tp 103 44)) (6 * tp 103 1) (fun s => s = fm) 268435456 (ts2 111) := by
        refine ⟨fun t t0 t1 => ?_, fun t t0 t1 z => ?_, fun t t0 t1 z => ?_⟩
        · rw [vl t t0 t1]; split <;> omega
        · rw [vl t t0 t1]; exact if_pos z
        · left; rw [vl t t0 t1]; exact if_neg z
      have v2 : ∀ s p, 0 ≤ s → s < 6 * tp 103 1 → 0 ≤ p → p < 8 → ts2 110 (8 * s + p) = nxt (tp 103) (tp 103 44) s p := fun s p a1 a2 a3 a4 => by rw [fr2 110 (by decide)]; exact v1 s p a1 a2 a3 a4
      obtain ⟨ts3, f3, hd, e3⟩ := t_laysFar (κ := κ) (X := X) (tp := tp) (ts := ts2) (tj := tj) (tk := tk) (n := n) (D := d) (N := nxt (tp 103) (tp 103 44)) (Z := fun s => s = fm) hF rfl (by omega) (by omega) v2 hN I0 (by omega)
      have v3 : ∀ s p, 0 ≤ s → s < 6 * tp 103 1 → 0 ≤ p → p < 8 → ts3 110 (8 * s + p) = nxt (tp 103) (tp 103 44) s p := fun s p a1 a2 a3 a4 => by rw [f3 110 (by decide)]; exact v2 s p a1 a2 a3 a4
      rw [eX4_ring_40]
      simp (disch := first | assumption | omega) only [if_pos (Int.le_refl (6 * tp 103 1)), e3, bi_add, bi_sub, bi_mul, bi_neg, bi_div, bi_64, bl_add, bl_sub, bl_mul, bl_neg, bl_div, bl_32, bi_min, bi_max, bl_min, bl_max, bq_I, bq_J, bq_A, bq_Vi, bq_Vl, bq_Vr, bq_cV, bq_cI, bq_cJ, bq_cA, bq_le, bq_lt, bq_eq, bq_z, bq_o, bq_ref, bq_nz, bq_nzJ, bq_bl, bq_blz, bq_T, bq_F, if_true, if_false, Int.reduceEq, Int.reduceLT, Int.reduceLE, Int.reduceAdd, Int.reduceSub, Int.reduceMul, Int.add_sub_cancel, li_0, li_1, li_4, li_6, li_8, li_22, li_40, li_44, li_69, li_88, li_100, li_121, li_4066, li_4068, li_4069, li_4070, li_4071, li_4085, li_268435456, ll_0, ll_1, ll_4, ll_6, ll_8, ll_22, ll_40, ll_44, ll_69, ll_88, ll_100, ll_121, ga103, ga105, ga119, ga120, ga106, ga107, ga108, ga109, ga110, ga111, ga116, ga118, ga104, ga112, ga114, ga115, ga117, ga113, ga121, gf102_5, gf102_13, gf102_14, gf102_0, gf102_6, gf102_7, gf102_8, gf102_9, gf102_10, gf102_11, gf102_12, gf102_15, gf102_19, gf102_20, gr102_1, gr102_2, gr102_3, gr102_4, gr102_16, gr102_17, gr102_18, gr102_21, gr102_22, gr102_23, gr102_24, gr102_25, gr102_26, gr102_27, gr102_28, gr102_29, gr102_30, gr102_31, gr102_32, pa103, pa105, pa119, pa120, pa106, pa107, pa108, pa109, pa110, pa111, pa116, pa118, pa104, pa112, pa114, pa115, pa117, pa113, pa121, pf102_5, pf102_13, pf102_14, pf102_0, pf102_6, pf102_7, pf102_8, pf102_9, pf102_10, pf102_11, pf102_12, pf102_15, pf102_19, pf102_20, s_within, t_isLost, t_fallen, t_isHurt, t_between, t_isPassage, t_isRoom, t_standNow, t_standsAll, t_isIn, t_noComing, t_noStand]
      have fbv : ∀ p, 0 ≤ p → p < 8 → 0 ≤ fb (nxt (tp 103) (tp 103 44)) (ts3 111) fm p ∧ fb (nxt (tp 103) (tp 103 44)) (ts3 111) fm p ≤ 268435456 ∧ (fb (nxt (tp 103) (tp 103 44)) (ts3 111) fm p < 268435456 → nxt (tp 103) (tp 103 44) fm p ≠ -1 ∧ ts3 111 (nxt (tp 103) (tp 103 44) fm p) < 268435456 ∧ fb (nxt (tp 103) (tp 103 44)) (ts3 111) fm p = 1 + ts3 111 (nxt (tp 103) (tp 103 44) fm p))
          ∧ (nxt (tp 103) (tp 103 44) fm p ≠ -1 → ts3 111 (nxt (tp 103) (tp 103 44) fm p) < 268435456 → fb (nxt (tp 103) (tp 103 44)) (ts3 111) fm p = 1 + ts3 111 (nxt (tp 103) (tp 103 44) fm p) ∧ 1 + ts3 111 (nxt (tp 103) (tp 103 44) fm p) < 268435456) := by
        intro p p0 p1
        have np := hN fm p fm0 fm1 p0 p1
        unfold fb
        by_cases c : nxt (tp 103) (tp 103 44) fm p = -1
        · rw [if_pos c]; exact ⟨by omega, by omega, fun k => by omega, fun k => absurd c k⟩
        · have b := hd.1.1 (nxt (tp 103) (tp 103 44) fm p) (by omega) (by omega)
          rw [if_neg c]
          by_cases c2 : ts3 111 (nxt (tp 103) (tp 103 44) fm p) = 268435456
          · rw [if_pos c2]; exact ⟨by omega, by omega, fun k => by omega, fun _ k => by omega⟩
          · have sm := isD_small hN hd (s := nxt (tp 103) (tp 103 44) fm p) (by omega) (by omega) (by omega)
            rw [if_neg c2]; exact ⟨by omega, by omega, fun k => ⟨c, by omega, by omega⟩, fun _ k => ⟨by omega, by omega⟩⟩
      refine bk_loop (σ := Int) (fun p x => bk_den TX4_ring (bk_call d) 88 [.ref 102, .int (bk_i r), .int (bk_i hu), .int (bk_i 0), .int (bk_i fm), .int (bk_i x), .int (bk_i p)] [] (bk_M κ X (tp, tj, ts3, tk) g n))
        (fun p x => 0 ≤ p ∧ 0 ≤ x ∧ x ≤ 268435456 ∧ (x = 268435456 ∨ ∃ q, 0 ≤ q ∧ q < p ∧ x = fb (nxt (tp 103) (tp 103 44)) (ts3 111) fm q) ∧ ∀ q, 0 ≤ q → q < p → x ≤ fb (nxt (tp 103) (tp 103 44)) (ts3 111) fm q) 8 ?_ ?_ 0 268435456 (by omega) ⟨by omega, by omega, by omega, Or.inl rfl, fun q a b => by omega⟩
      · rintro p x hp ⟨p0, x0, x1, x2, x3⟩ cont
        have ef := t_farBy (κ := κ) (X := X) (tp := tp) (ts := ts3) (tj := tj) (tk := tk) (n := n) (D := d) (N := nxt (tp 103) (tp 103 44)) hF (R := 6 * tp 103 1) (by omega) v3 hN hd.1.1 fm0 fm1 p0 hp (by omega)
        have b := fbv p p0 hp
        rw [eX4_ring_88]
        simp (disch := first | assumption | omega) only [if_neg (show ¬ 8 ≤ p by omega), ef, eX4_ring_121, bi_add, bi_sub, bi_mul, bi_neg, bi_div, bi_64, bl_add, bl_sub, bl_mul, bl_neg, bl_div, bl_32, bi_min, bi_max, bl_min, bl_max, bq_I, bq_J, bq_A, bq_Vi, bq_Vl, bq_Vr, bq_cV, bq_cI, bq_cJ, bq_cA, bq_le, bq_lt, bq_eq, bq_z, bq_o, bq_ref, bq_nz, bq_nzJ, bq_bl, bq_blz, bq_T, bq_F, if_true, if_false, Int.reduceEq, Int.reduceLT, Int.reduceLE, Int.reduceAdd, Int.reduceSub, Int.reduceMul, Int.add_sub_cancel, li_0, li_1, li_4, li_6, li_8, li_22, li_40, li_44, li_69, li_88, li_100, li_121, li_4066, li_4068, li_4069, li_4070, li_4071, li_4085, li_268435456, ll_0, ll_1, ll_4, ll_6, ll_8, ll_22, ll_40, ll_44, ll_69, ll_88, ll_100, ll_121, ga103, ga105, ga119, ga120, ga106, ga107, ga108, ga109, ga110, ga111, ga116, ga118, ga104, ga112, ga114, ga115, ga117, ga113, ga121, gf102_5, gf102_13, gf102_14, gf102_0, gf102_6, gf102_7, gf102_8, gf102_9, gf102_10, gf102_11, gf102_12, gf102_15, gf102_19, gf102_20, gr102_1, gr102_2, gr102_3, gr102_4, gr102_16, gr102_17, gr102_18, gr102_21, gr102_22, gr102_23, gr102_24, gr102_25, gr102_26, gr102_27, gr102_28, gr102_29, gr102_30, gr102_31, gr102_32, pa103, pa105, pa119, pa120, pa106, pa107, pa108, pa109, pa110, pa111, pa116, pa118, pa104, pa112, pa114, pa115, pa117, pa113, pa121, pf102_5, pf102_13, pf102_14, pf102_0, pf102_6, pf102_7, pf102_8, pf102_9, pf102_10, pf102_11, pf102_12, pf102_15, pf102_19, pf102_20, s_within, t_isLost, t_fallen, t_isHurt, t_between, t_isPassage, t_isRoom, t_standNow, t_standsAll, t_isIn, t_noComing, t_noStand]
        by_cases c : x ≤ fb (nxt (tp 103) (tp 103 44)) (ts3 111) fm p
        · rw [if_pos c]
          refine cont _ ⟨by omega, x0, x1, ?_, fun q a b => ?_⟩
          · rcases x2 with e | ⟨q, a, b, e⟩
            · exact Or.inl e
            · exact Or.inr ⟨q, a, by omega, e⟩
          · by_cases z : q = p
            · subst z; exact c
            · exact x3 q a (by omega)
        · rw [if_neg c]
          refine cont _ ⟨by omega, by omega, by omega, Or.inr ⟨p, p0, by omega, rfl⟩, fun q a b => ?_⟩
          by_cases z : q = p
          · subst z; exact Int.le_refl _
          · have := x3 q a (by omega); omega
      · rintro x ⟨p0, x0, x1, x2, x3⟩
        rw [eX4_ring_88]
        simp (disch := first | assumption | omega) only [if_pos (Int.le_refl 8), bi_add, bi_sub, bi_mul, bi_neg, bi_div, bi_64, bl_add, bl_sub, bl_mul, bl_neg, bl_div, bl_32, bi_min, bi_max, bl_min, bl_max, bq_I, bq_J, bq_A, bq_Vi, bq_Vl, bq_Vr, bq_cV, bq_cI, bq_cJ, bq_cA, bq_le, bq_lt, bq_eq, bq_z, bq_o, bq_ref, bq_nz, bq_nzJ, bq_bl, bq_blz, bq_T, bq_F, if_true, if_false, Int.reduceEq, Int.reduceLT, Int.reduceLE, Int.reduceAdd, Int.reduceSub, Int.reduceMul, Int.add_sub_cancel, li_0, li_1, li_4, li_6, li_8, li_22, li_40, li_44, li_69, li_88, li_100, li_121, li_4066, li_4068, li_4069, li_4070, li_4071, li_4085, li_268435456, ll_0, ll_1, ll_4, ll_6, ll_8, ll_22, ll_40, ll_44, ll_69, ll_88, ll_100, ll_121, ga103, ga105, ga119, ga120, ga106, ga107, ga108, ga109, ga110, ga111, ga116, ga118, ga104, ga112, ga114, ga115, ga117, ga113, ga121, gf102_5, gf102_13, gf102_14, gf102_0, gf102_6, gf102_7, gf102_8, gf102_9, gf102_10, gf102_11, gf102_12, gf102_15, gf102_19, gf102_20, gr102_1, gr102_2, gr102_3, gr102_4, gr102_16, gr102_17, gr102_18, gr102_21, gr102_22, gr102_23, gr102_24, gr102_25, gr102_26, gr102_27, gr102_28, gr102_29, gr102_30, gr102_31, gr102_32, pa103, pa105, pa119, pa120, pa106, pa107, pa108, pa109, pa110, pa111, pa116, pa118, pa104, pa112, pa114, pa115, pa117, pa113, pa121, pf102_5, pf102_13, pf102_14, pf102_0, pf102_6, pf102_7, pf102_8, pf102_9, pf102_10, pf102_11, pf102_12, pf102_15, pf102_19, pf102_20, s_within, t_isLost, t_fallen, t_isHurt, t_between, t_isPassage, t_isRoom, t_standNow, t_standsAll, t_isIn, t_noComing, t_noStand]
        by_cases c : x = 268435456
        · rw [if_pos c]
          refine ⟨_, _, rfl, ts3, tk, _, rfl, rfl, Or.inr ⟨q, 268435456, ts3 111, by decide, by rw [hfm]; exact hd, Or.inl ⟨rfl, fun p p0 p1 hp => ?_⟩⟩⟩
          rw [hfm] at hp ⊢
          have a := x3 p p0 p1
          have b := fbv p p0 p1
          by_cases f : ts3 111 (nxt (tp 103) (tp 103 44) fm p) < 268435456
          · have := b.2.2.2 hp f; omega
          · omega
        · rw [if_neg c]
          refine ⟨_, _, rfl, ts3, tk, _, rfl, rfl, Or.inr ⟨q, 268435456, ts3 111, by decide, by rw [hfm]; exact hd, Or.inr ?_⟩⟩
          rw [hfm]
          rcases x2 with e | ⟨p, a, b, e⟩
          · exact absurd e c
          · have z := (fbv p a b).2.2.1 (by omega)
            refine ⟨⟨p, a, b, z.1, z.2.1, by omega⟩, fun u u0 u1 hu hf => ?_⟩
            have y := x3 u u0 u1
            have w := (fbv u u0 u1).2.2.2 hu hf
            omega
  · rw [if_neg q]
    exact ⟨_, _, rfl, _, tk, _, rfl, rfl, Or.inl ⟨q, rfl⟩⟩
end TN
