/-! SPECS: the twin: withstands, chance, best -/
set_option maxRecDepth 100000
section TC
variable {κ : Nat → Nat} {X : bX} {Y : bY} {tp ts : bF} {tj tk : bFJ} {g : bG} {n : Nat × Nat} {s p v r hu i to m f k what : Int} {D : Nat} {N : Int → Int → Int}
theorem t_standsBy (hF : bFix g) (hN : ts 110 (8 * s + p) = N s p) (hr : N s p = -1 ∨ (0 ≤ N s p ∧ N s p < 36)) (hl6 : N s p ≠ -1 → 0 ≤ fln (N s p) ∧ fln (N s p) < 36) (f0 : 0 ≤ f) (f1 : f ≤ 9) (s0 : 0 ≤ s) (s1 : s < 36) (p0 : 0 ≤ p) (p1 : p < 8)
    (h01 : N s p ≠ -1 → ts 117 (36 * f + N s p) = 0 ∨ ts 117 (36 * f + N s p) = 1) (h02 : f ≠ 0 → N s p ≠ -1 → ts 117 (36 * (f - 1) + fln (N s p)) = 0 ∨ ts 117 (36 * (f - 1) + fln (N s p)) = 1) (hD : 3 ≤ D) :
    bk_call D 4105 [.ref 102, .int (bk_i s), .int (bk_i p), .int (bk_i f)] (bk_M κ X (tp, tj, ts, tk) g n) = some (some (.int (bk_i (bzc (wOk 117 ts N f s p)))), bk_M κ X (tp, tj, ts, tk) g n) := by
  obtain ⟨d, rfl⟩ := dep hD
  unfold wOk
  rw [kX4_standsBy, eX4_standsBy_0]
  by_cases q : N s p = -1
  · simp (disch := first | assumption | omega) only [hN, bi_add, bi_sub, bi_mul, bi_neg, bi_div, bi_64, bl_add, bl_sub, bl_mul, bl_neg, bl_div, bl_32, bi_min, bi_max, bl_min, bl_max, bq_I, bq_J, bq_A, bq_Vi, bq_Vl, bq_Vr, bq_cV, bq_cI, bq_cJ, bq_cA, bq_le, bq_lt, bq_eq, bq_z, bq_o, bq_ref, bq_nz, bq_nzJ, bq_bl, bq_blz, bq_T, bq_F, if_true, if_false, Int.reduceEq, Int.reduceLT, Int.reduceLE, Int.reduceAdd, Int.reduceSub, Int.reduceMul, Int.add_sub_cancel, li_0, li_1, li_4, li_8, li_21, li_28, li_36, li_58, li_100, li_102, ll_0, ll_1, ll_4, ll_8, ll_21, ll_28, ll_36, ll_58, ll_100, ll_102, ga103, ga105, ga119, ga120, ga106, ga107, ga108, ga109, ga110, ga111, ga116, ga118, ga104, ga112, ga114, ga115, ga117, ga113, ga121, gf102_5, gf102_13, gf102_14, gf102_0, gf102_6, gf102_7, gf102_8, gf102_9, gf102_10, gf102_11, gf102_12, gf102_15, gf102_19, gf102_20, gr102_1, gr102_2, gr102_3, gr102_4, gr102_16, gr102_17, gr102_18, gr102_21, gr102_22, gr102_23, gr102_24, gr102_25, gr102_26, gr102_27, gr102_28, gr102_29, gr102_30, gr102_31, gr102_32, pa103, pa105, pa119, pa120, pa106, pa107, pa108, pa109, pa110, pa111, pa116, pa118, pa104, pa112, pa114, pa115, pa117, pa113, pa121, pf102_5, pf102_13, pf102_14, pf102_0, pf102_6, pf102_7, pf102_8, pf102_9, pf102_10, pf102_11, pf102_12, pf102_15, pf102_19, pf102_20, s_within, t_isLost, t_fallen, t_isHurt, t_between, t_isPassage, t_isRoom, t_standNow, t_standsAll, t_isIn, t_noComing, t_noStand, t_bitsOf, u_tens4109]
    rw [if_pos q, bzc_f (fun k => k.1 q)]
  · have np : 0 ≤ N s p ∧ N s p < 36 := by omega
    have fl := hl6 q
    have a := h01 q
    simp (disch := first | assumption | omega) only [hN, if_neg q, bi_add, bi_sub, bi_mul, bi_neg, bi_div, bi_64, bl_add, bl_sub, bl_mul, bl_neg, bl_div, bl_32, bi_min, bi_max, bl_min, bl_max, bq_I, bq_J, bq_A, bq_Vi, bq_Vl, bq_Vr, bq_cV, bq_cI, bq_cJ, bq_cA, bq_le, bq_lt, bq_eq, bq_z, bq_o, bq_ref, bq_nz, bq_nzJ, bq_bl, bq_blz, bq_T, bq_F, if_true, if_false, Int.reduceEq, Int.reduceLT, Int.reduceLE, Int.reduceAdd, Int.reduceSub, Int.reduceMul, Int.add_sub_cancel, li_0, li_1, li_4, li_8, li_21, li_28, li_36, li_58, li_100, li_102, ll_0, ll_1, ll_4, ll_8, ll_21, ll_28, ll_36, ll_58, ll_100, ll_102, ga103, ga105, ga119, ga120, ga106, ga107, ga108, ga109, ga110, ga111, ga116, ga118, ga104, ga112, ga114, ga115, ga117, ga113, ga121, gf102_5, gf102_13, gf102_14, gf102_0, gf102_6, gf102_7, gf102_8, gf102_9, gf102_10, gf102_11, gf102_12, gf102_15, gf102_19, gf102_20, gr102_1, gr102_2, gr102_3, gr102_4, gr102_16, gr102_17, gr102_18, gr102_21, gr102_22, gr102_23, gr102_24, gr102_25, gr102_26, gr102_27, gr102_28, gr102_29, gr102_30, gr102_31, gr102_32, pa103, pa105, pa119, pa120, pa106, pa107, pa108, pa109, pa110, pa111, pa116, pa118, pa104, pa112, pa114, pa115, pa117, pa113, pa121, pf102_5, pf102_13, pf102_14, pf102_0, pf102_6, pf102_7, pf102_8, pf102_9, pf102_10, pf102_11, pf102_12, pf102_15, pf102_19, pf102_20, s_within, t_isLost, t_fallen, t_isHurt, t_between, t_isPassage, t_isRoom, t_standNow, t_standsAll, t_isIn, t_noComing, t_noStand, t_bitsOf, u_tens4109]
    by_cases q2 : ts 117 (36 * f + N s p) = 0
    · rw [if_pos q2, bzc_f (fun k => by have := k.2.1; omega)]
    · rw [if_neg q2]
      by_cases q3 : f = 0
      · rw [if_pos q3, eX4_standsBy_58, bzc_t ⟨q, by omega, Or.inl q3⟩]; rfl
      · have b := h02 q3 q
        rw [if_neg q3]
        by_cases q4 : ts 117 (36 * (f - 1) + fln (N s p)) = 0
        · rw [if_pos q4, bzc_f (fun k => by have := k.2.2; omega)]
        · rw [if_neg q4, eX4_standsBy_58, bzc_t ⟨q, by omega, Or.inr (by omega)⟩]; rfl
theorem t_laysStood (hF : bFix g) (h1 : 1 ≤ tp 103 1) (h2 : tp 103 1 ≤ 6) (hN : ∀ s p, 0 ≤ s → s < 6 * tp 103 1 → 0 ≤ p → p < 8 → ts 110 (8 * s + p) = N s p) (hr : isN N (6 * tp 103 1)) (f0 : 0 ≤ f) (f1 : f ≤ 9) (r0 : -2147483648 ≤ r) (r1 : r < 2147483648)
    (h02 : f ≠ 0 → ∀ t, 0 ≤ t → t < 6 * tp 103 1 → ts 117 (36 * (f - 1) + t) = 0 ∨ ts 117 (36 * (f - 1) + t) = 1) (hD : 5 ≤ D) :
    ∃ ts', (∀ a, a ≠ 117 → ts' a = ts a) ∧ isW (Ew N (pv91 117 ts f)) (6 * tp 103 1) (wB r) (rw91 117 ts' f) ∧ bk_call D 4104 [.ref 102, .int (bk_i r), .int (bk_i f)] (bk_M κ X (tp, tj, ts, tk) g n) = some (none, bk_M κ X (tp, tj, ts', tk) g n) := by
  obtain ⟨d, rfl⟩ := dep hD
  have hR6 : (6 * tp 103 1) % 6 = 0 := by omega
  have goal : bk_wp (bk_call (d + 1) 4104 [.ref 102, .int (bk_i r), .int (bk_i f)] (bk_M κ X (tp, tj, ts, tk) g n)) (fun v h' => ∃ ts', v = none ∧ h' = bk_M κ X (tp, tj, ts', tk) g n ∧ (∀ a, a ≠ 117 → ts' a = ts a) ∧ isW (Ew N (pv91 117 ts f)) (6 * tp 103 1) (wB r) (rw91 117 ts' f)) := by
    rw [kX4_laysStood, eX4_laysStood_0]
    refine bk_loop (σ := bF) (fun s x => bk_den TX4_laysStood (bk_call d) 2 [.ref 102, .int (bk_i r), .int (bk_i f), .int (bk_i s), bk_u, bk_u] [] (bk_M κ X (tp, tj, x, tk) g n))
      (fun s x => 0 ≤ s ∧ (∀ a, a ≠ 117 → x a = ts a) ∧ (∀ j, j < 36 * f → x 117 j = ts 117 j) ∧ ∀ t, 0 ≤ t → t < s → x 117 (36 * f + t) = bzc (wB r t)) 36 ?_ ?_ 0 ts (by omega) ⟨by omega, fun _ _ => rfl, fun _ _ => rfl, fun t _ _ => by omega⟩
    · rintro s x hs ⟨s0, fr, lo, vl⟩ cont
      have fin : ∀ val : Int, (val = bzc (wB r s)) → bk_wp (bk_den TX4_laysStood (bk_call d) 2 [.ref 102, .int (bk_i r), .int (bk_i f), .int (bk_i (s + 1)), bk_u, bk_u] [] (bk_M κ X (tp, tj, bU x 117 (36 * f + s) val, tk) g n)) (fun v h' => ∃ ts', v = none ∧ h' = bk_M κ X (tp, tj, ts', tk) g n ∧ (∀ a, a ≠ 117 → ts' a = ts a) ∧ isW (Ew N (pv91 117 ts f)) (6 * tp 103 1) (wB r) (rw91 117 ts' f)) := by
        intro val hv
        refine cont _ ⟨by omega, fun a ha => ?_, fun j hj => ?_, fun t t0 t1 => ?_⟩
        · funext j; rw [bU_ne _ _ _ _ _ _ ha, fr a ha]
        · rw [bU_same, if_neg (by omega)]; exact lo j hj
        · rw [bU_same]
          by_cases c : t = s
          · subst c; rw [if_pos rfl, hv]
          · rw [if_neg (by omega)]; exact vl t t0 (by omega)
      rw [eX4_laysStood_2]
      simp (disch := first | assumption | omega) only [if_neg (show ¬ 36 ≤ s by omega), eX4_laysStood_37, eX4_laysStood_38, bi_add, bi_sub, bi_mul, bi_neg, bi_div, bi_64, bl_add, bl_sub, bl_mul, bl_neg, bl_div, bl_32, bi_min, bi_max, bl_min, bl_max, bq_I, bq_J, bq_A, bq_Vi, bq_Vl, bq_Vr, bq_cV, bq_cI, bq_cJ, bq_cA, bq_le, bq_lt, bq_eq, bq_z, bq_o, bq_ref, bq_nz, bq_nzJ, bq_bl, bq_blz, bq_T, bq_F, if_true, if_false, Int.reduceEq, Int.reduceLT, Int.reduceLE, Int.reduceAdd, Int.reduceSub, Int.reduceMul, Int.add_sub_cancel, li_0, li_1, li_2, li_4, li_6, li_8, li_28, li_36, li_37, li_38, li_47, li_56, li_68, li_102, li_120, li_126, li_4037, li_4069, ll_0, ll_1, ll_2, ll_4, ll_6, ll_8, ll_28, ll_36, ll_37, ll_38, ll_47, ll_56, ll_68, ll_102, ll_120, ll_126, ga103, ga105, ga119, ga120, ga106, ga107, ga108, ga109, ga110, ga111, ga116, ga118, ga104, ga112, ga114, ga115, ga117, ga113, ga121, gf102_5, gf102_13, gf102_14, gf102_0, gf102_6, gf102_7, gf102_8, gf102_9, gf102_10, gf102_11, gf102_12, gf102_15, gf102_19, gf102_20, gr102_1, gr102_2, gr102_3, gr102_4, gr102_16, gr102_17, gr102_18, gr102_21, gr102_22, gr102_23, gr102_24, gr102_25, gr102_26, gr102_27, gr102_28, gr102_29, gr102_30, gr102_31, gr102_32, pa103, pa105, pa119, pa120, pa106, pa107, pa108, pa109, pa110, pa111, pa116, pa118, pa104, pa112, pa114, pa115, pa117, pa113, pa121, pf102_5, pf102_13, pf102_14, pf102_0, pf102_6, pf102_7, pf102_8, pf102_9, pf102_10, pf102_11, pf102_12, pf102_15, pf102_19, pf102_20, s_within, t_isLost, t_fallen, t_isHurt, t_between, t_isPassage, t_isRoom, t_standNow, t_standsAll, t_isIn, t_noComing, t_noStand, t_bitsOf, u_tens4109]
      by_cases q : s / 6 = r
      · rw [if_pos q]
        by_cases q2 : s % 6 = 5
        · rw [if_pos q2]; exact fin _ (by rw [bzc_f (fun k => k.2 q2)])
        · rw [if_neg q2]; exact fin _ (by rw [bzc_t ⟨q, q2⟩])
      · rw [if_neg q]; exact fin _ (by rw [bzc_f (fun k => q k.1)])
    · rintro x ⟨s0, fr, lo, vl⟩
      have I0 : wInv (Ew N (pv91 117 ts f)) (6 * tp 103 1) (wB r) (rw91 117 x f) := wInv_start (fun s a b => vl s a (by omega))
      rw [eX4_laysStood_2]
      simp (disch := first | assumption | omega) only [if_pos (Int.le_refl 36), bi_add, bi_sub, bi_mul, bi_neg, bi_div, bi_64, bl_add, bl_sub, bl_mul, bl_neg, bl_div, bl_32, bi_min, bi_max, bl_min, bl_max, bq_I, bq_J, bq_A, bq_Vi, bq_Vl, bq_Vr, bq_cV, bq_cI, bq_cJ, bq_cA, bq_le, bq_lt, bq_eq, bq_z, bq_o, bq_ref, bq_nz, bq_nzJ, bq_bl, bq_blz, bq_T, bq_F, if_true, if_false, Int.reduceEq, Int.reduceLT, Int.reduceLE, Int.reduceAdd, Int.reduceSub, Int.reduceMul, Int.add_sub_cancel, li_0, li_1, li_2, li_4, li_6, li_8, li_28, li_36, li_37, li_38, li_47, li_56, li_68, li_102, li_120, li_126, li_4037, li_4069, ll_0, ll_1, ll_2, ll_4, ll_6, ll_8, ll_28, ll_36, ll_37, ll_38, ll_47, ll_56, ll_68, ll_102, ll_120, ll_126, ga103, ga105, ga119, ga120, ga106, ga107, ga108, ga109, ga110, ga111, ga116, ga118, ga104, ga112, ga114, ga115, ga117, ga113, ga121, gf102_5, gf102_13, gf102_14, gf102_0, gf102_6, gf102_7, gf102_8, gf102_9, gf102_10, gf102_11, gf102_12, gf102_15, gf102_19, gf102_20, gr102_1, gr102_2, gr102_3, gr102_4, gr102_16, gr102_17, gr102_18, gr102_21, gr102_22, gr102_23, gr102_24, gr102_25, gr102_26, gr102_27, gr102_28, gr102_29, gr102_30, gr102_31, gr102_32, pa103, pa105, pa119, pa120, pa106, pa107, pa108, pa109, pa110, pa111, pa116, pa118, pa104, pa112, pa114, pa115, pa117, pa113, pa121, pf102_5, pf102_13, pf102_14, pf102_0, pf102_6, pf102_7, pf102_8, pf102_9, pf102_10, pf102_11, pf102_12, pf102_15, pf102_19, pf102_20, s_within, t_isLost, t_fallen, t_isHurt, t_between, t_isPassage, t_isRoom, t_standNow, t_standsAll, t_isIn, t_noComing, t_noStand, t_bitsOf, u_tens4109]
      refine bk_while (σ := bF × Int × Value) (fun x => bk_den TX4_laysStood (bk_call d) 47 [.ref 102, .int (bk_i r), .int (bk_i f), .int (bk_i x.2.1), x.2.2, bk_u] [] (bk_M κ X (tp, tj, x.1, tk) g n)) (fun x => 2 * (zS (rw91 117 x.1 f) (6 * tp 103 1)).toNat + x.2.1.toNat)
        (fun x => (∀ a, a ≠ 117 → x.1 a = ts a) ∧ (∀ j, j < 36 * f → x.1 117 j = ts 117 j) ∧ wInv (Ew N (pv91 117 ts f)) (6 * tp 103 1) (wB r) (rw91 117 x.1 f) ∧ (x.2.1 = 0 ∨ x.2.1 = 1) ∧ (x.2.1 = 0 → isW (Ew N (pv91 117 ts f)) (6 * tp 103 1) (wB r) (rw91 117 x.1 f))) ?_ (x, 1, bk_u) ⟨fr, lo, I0, Or.inr rfl, fun q => absurd q (by simp)⟩
      rintro ⟨x1, more, w1⟩ ⟨fr1, lo1, hI1, m01, hex⟩ again
      dsimp only at fr1 lo1 hI1 m01 hex again ⊢
      rcases m01 with rfl | rfl
      · rw [eX4_laysStood_47]
        simp (disch := first | assumption | omega) only [if_true, bi_add, bi_sub, bi_mul, bi_neg, bi_div, bi_64, bl_add, bl_sub, bl_mul, bl_neg, bl_div, bl_32, bi_min, bi_max, bl_min, bl_max, bq_I, bq_J, bq_A, bq_Vi, bq_Vl, bq_Vr, bq_cV, bq_cI, bq_cJ, bq_cA, bq_le, bq_lt, bq_eq, bq_z, bq_o, bq_ref, bq_nz, bq_nzJ, bq_bl, bq_blz, bq_T, bq_F, if_true, if_false, Int.reduceEq, Int.reduceLT, Int.reduceLE, Int.reduceAdd, Int.reduceSub, Int.reduceMul, Int.add_sub_cancel, li_0, li_1, li_2, li_4, li_6, li_8, li_28, li_36, li_37, li_38, li_47, li_56, li_68, li_102, li_120, li_126, li_4037, li_4069, ll_0, ll_1, ll_2, ll_4, ll_6, ll_8, ll_28, ll_36, ll_37, ll_38, ll_47, ll_56, ll_68, ll_102, ll_120, ll_126, ga103, ga105, ga119, ga120, ga106, ga107, ga108, ga109, ga110, ga111, ga116, ga118, ga104, ga112, ga114, ga115, ga117, ga113, ga121, gf102_5, gf102_13, gf102_14, gf102_0, gf102_6, gf102_7, gf102_8, gf102_9, gf102_10, gf102_11, gf102_12, gf102_15, gf102_19, gf102_20, gr102_1, gr102_2, gr102_3, gr102_4, gr102_16, gr102_17, gr102_18, gr102_21, gr102_22, gr102_23, gr102_24, gr102_25, gr102_26, gr102_27, gr102_28, gr102_29, gr102_30, gr102_31, gr102_32, pa103, pa105, pa119, pa120, pa106, pa107, pa108, pa109, pa110, pa111, pa116, pa118, pa104, pa112, pa114, pa115, pa117, pa113, pa121, pf102_5, pf102_13, pf102_14, pf102_0, pf102_6, pf102_7, pf102_8, pf102_9, pf102_10, pf102_11, pf102_12, pf102_15, pf102_19, pf102_20, s_within, t_isLost, t_fallen, t_isHurt, t_between, t_isPassage, t_isRoom, t_standNow, t_standsAll, t_isIn, t_noComing, t_noStand, t_bitsOf, u_tens4109]
        exact ⟨_, _, rfl, x1, rfl, rfl, fr1, hex rfl⟩
      · have nn0 := wS_nn hI1
        rw [eX4_laysStood_47]
        simp (disch := first | assumption | omega) only [if_neg (show ¬ (1 : Int) = 0 by decide), bi_add, bi_sub, bi_mul, bi_neg, bi_div, bi_64, bl_add, bl_sub, bl_mul, bl_neg, bl_div, bl_32, bi_min, bi_max, bl_min, bl_max, bq_I, bq_J, bq_A, bq_Vi, bq_Vl, bq_Vr, bq_cV, bq_cI, bq_cJ, bq_cA, bq_le, bq_lt, bq_eq, bq_z, bq_o, bq_ref, bq_nz, bq_nzJ, bq_bl, bq_blz, bq_T, bq_F, if_true, if_false, Int.reduceEq, Int.reduceLT, Int.reduceLE, Int.reduceAdd, Int.reduceSub, Int.reduceMul, Int.add_sub_cancel, li_0, li_1, li_2, li_4, li_6, li_8, li_28, li_36, li_37, li_38, li_47, li_56, li_68, li_102, li_120, li_126, li_4037, li_4069, ll_0, ll_1, ll_2, ll_4, ll_6, ll_8, ll_28, ll_36, ll_37, ll_38, ll_47, ll_56, ll_68, ll_102, ll_120, ll_126, ga103, ga105, ga119, ga120, ga106, ga107, ga108, ga109, ga110, ga111, ga116, ga118, ga104, ga112, ga114, ga115, ga117, ga113, ga121, gf102_5, gf102_13, gf102_14, gf102_0, gf102_6, gf102_7, gf102_8, gf102_9, gf102_10, gf102_11, gf102_12, gf102_15, gf102_19, gf102_20, gr102_1, gr102_2, gr102_3, gr102_4, gr102_16, gr102_17, gr102_18, gr102_21, gr102_22, gr102_23, gr102_24, gr102_25, gr102_26, gr102_27, gr102_28, gr102_29, gr102_30, gr102_31, gr102_32, pa103, pa105, pa119, pa120, pa106, pa107, pa108, pa109, pa110, pa111, pa116, pa118, pa104, pa112, pa114, pa115, pa117, pa113, pa121, pf102_5, pf102_13, pf102_14, pf102_0, pf102_6, pf102_7, pf102_8, pf102_9, pf102_10, pf102_11, pf102_12, pf102_15, pf102_19, pf102_20, s_within, t_isLost, t_fallen, t_isHurt, t_between, t_isPassage, t_isRoom, t_standNow, t_standsAll, t_isIn, t_noComing, t_noStand, t_bitsOf, u_tens4109]
        refine bk_loop (σ := bF × Int × Value) (fun t x => bk_den TX4_laysStood (bk_call d) 56 [.ref 102, .int (bk_i r), .int (bk_i f), .int (bk_i x.2.1), .int (bk_i t), x.2.2] [] (bk_M κ X (tp, tj, x.1, tk) g n))
          (fun t x => 0 ≤ t ∧ (∀ a, a ≠ 117 → x.1 a = ts a) ∧ (∀ j, j < 36 * f → x.1 117 j = ts 117 j) ∧ wPass (fun m v => m v = 1 ∨ ∀ u, 0 ≤ u → u < 6 * tp 103 1 → Ew N (pv91 117 ts f) u v → m u ≠ 1) (Ew N (pv91 117 ts f)) (6 * tp 103 1) (wB r) (rw91 117 x1 f) t (rw91 117 x.1 f) x.2.1) (6 * tp 103 1) ?_ ?_ 0 (x1, 0, bk_u) (by omega) ⟨by omega, fr1, lo1, hI1, Int.le_refl _, Or.inl rfl, fun _ u u0 u1 => by omega, fun q => absurd q (by simp)⟩
        · rintro t ⟨x2, m, w2⟩ ht ⟨t0, fr2, lo2, hp⟩ cont
          dsimp only at fr2 lo2 hp ⊢
          rw [eX4_laysStood_56]
          simp (disch := first | assumption | omega) only [if_neg (show ¬ 6 * tp 103 1 ≤ t by omega), bi_add, bi_sub, bi_mul, bi_neg, bi_div, bi_64, bl_add, bl_sub, bl_mul, bl_neg, bl_div, bl_32, bi_min, bi_max, bl_min, bl_max, bq_I, bq_J, bq_A, bq_Vi, bq_Vl, bq_Vr, bq_cV, bq_cI, bq_cJ, bq_cA, bq_le, bq_lt, bq_eq, bq_z, bq_o, bq_ref, bq_nz, bq_nzJ, bq_bl, bq_blz, bq_T, bq_F, if_true, if_false, Int.reduceEq, Int.reduceLT, Int.reduceLE, Int.reduceAdd, Int.reduceSub, Int.reduceMul, Int.add_sub_cancel, li_0, li_1, li_2, li_4, li_6, li_8, li_28, li_36, li_37, li_38, li_47, li_56, li_68, li_102, li_120, li_126, li_4037, li_4069, ll_0, ll_1, ll_2, ll_4, ll_6, ll_8, ll_28, ll_36, ll_37, ll_38, ll_47, ll_56, ll_68, ll_102, ll_120, ll_126, ga103, ga105, ga119, ga120, ga106, ga107, ga108, ga109, ga110, ga111, ga116, ga118, ga104, ga112, ga114, ga115, ga117, ga113, ga121, gf102_5, gf102_13, gf102_14, gf102_0, gf102_6, gf102_7, gf102_8, gf102_9, gf102_10, gf102_11, gf102_12, gf102_15, gf102_19, gf102_20, gr102_1, gr102_2, gr102_3, gr102_4, gr102_16, gr102_17, gr102_18, gr102_21, gr102_22, gr102_23, gr102_24, gr102_25, gr102_26, gr102_27, gr102_28, gr102_29, gr102_30, gr102_31, gr102_32, pa103, pa105, pa119, pa120, pa106, pa107, pa108, pa109, pa110, pa111, pa116, pa118, pa104, pa112, pa114, pa115, pa117, pa113, pa121, pf102_5, pf102_13, pf102_14, pf102_0, pf102_6, pf102_7, pf102_8, pf102_9, pf102_10, pf102_11, pf102_12, pf102_15, pf102_19, pf102_20, s_within, t_isLost, t_fallen, t_isHurt, t_between, t_isPassage, t_isRoom, t_standNow, t_standsAll, t_isIn, t_noComing, t_noStand, t_bitsOf, u_tens4109]
          have next : ∀ (x3 : bF) (m3 v : Int), (∀ a, a ≠ 117 → x3 a = ts a) → (∀ j, j < 36 * f → x3 117 j = ts 117 j) → wPass (fun m v => m v = 1 ∨ ∀ u, 0 ≤ u → u < 6 * tp 103 1 → Ew N (pv91 117 ts f) u v → m u ≠ 1) (Ew N (pv91 117 ts f)) (6 * tp 103 1) (wB r) (rw91 117 x1 f) t (rw91 117 x3 f) m3
              → (m3 = 0 → rw91 117 x3 f t = 1 ∨ ∀ u, 0 ≤ u → u < 6 * tp 103 1 → Ew N (pv91 117 ts f) u t → rw91 117 x3 f u ≠ 1) → bk_wp (bk_den TX4_laysStood (bk_call d) 126 [.ref 102, .int (bk_i r), .int (bk_i f), .int (bk_i m3), .int (bk_i t), .int (bk_i v)] [] (bk_M κ X (tp, tj, x3, tk) g n)) (fun v h' => ∃ ts', v = none ∧ h' = bk_M κ X (tp, tj, ts', tk) g n ∧ (∀ a, a ≠ 117 → ts' a = ts a) ∧ isW (Ew N (pv91 117 ts f)) (6 * tp 103 1) (wB r) (rw91 117 ts' f)) := by
            intro x3 m3 v b1 b2 b3 b4
            rw [eX4_laysStood_126]
            simp (disch := first | assumption | omega) only [bi_add, bi_sub, bi_mul, bi_neg, bi_div, bi_64, bl_add, bl_sub, bl_mul, bl_neg, bl_div, bl_32, bi_min, bi_max, bl_min, bl_max, bq_I, bq_J, bq_A, bq_Vi, bq_Vl, bq_Vr, bq_cV, bq_cI, bq_cJ, bq_cA, bq_le, bq_lt, bq_eq, bq_z, bq_o, bq_ref, bq_nz, bq_nzJ, bq_bl, bq_blz, bq_T, bq_F, if_true, if_false, Int.reduceEq, Int.reduceLT, Int.reduceLE, Int.reduceAdd, Int.reduceSub, Int.reduceMul, Int.add_sub_cancel, li_0, li_1, li_2, li_4, li_6, li_8, li_28, li_36, li_37, li_38, li_47, li_56, li_68, li_102, li_120, li_126, li_4037, li_4069, ll_0, ll_1, ll_2, ll_4, ll_6, ll_8, ll_28, ll_36, ll_37, ll_38, ll_47, ll_56, ll_68, ll_102, ll_120, ll_126, ga103, ga105, ga119, ga120, ga106, ga107, ga108, ga109, ga110, ga111, ga116, ga118, ga104, ga112, ga114, ga115, ga117, ga113, ga121, gf102_5, gf102_13, gf102_14, gf102_0, gf102_6, gf102_7, gf102_8, gf102_9, gf102_10, gf102_11, gf102_12, gf102_15, gf102_19, gf102_20, gr102_1, gr102_2, gr102_3, gr102_4, gr102_16, gr102_17, gr102_18, gr102_21, gr102_22, gr102_23, gr102_24, gr102_25, gr102_26, gr102_27, gr102_28, gr102_29, gr102_30, gr102_31, gr102_32, pa103, pa105, pa119, pa120, pa106, pa107, pa108, pa109, pa110, pa111, pa116, pa118, pa104, pa112, pa114, pa115, pa117, pa113, pa121, pf102_5, pf102_13, pf102_14, pf102_0, pf102_6, pf102_7, pf102_8, pf102_9, pf102_10, pf102_11, pf102_12, pf102_15, pf102_19, pf102_20, s_within, t_isLost, t_fallen, t_isHurt, t_between, t_isPassage, t_isRoom, t_standNow, t_standsAll, t_isIn, t_noComing, t_noStand, t_bitsOf, u_tens4109]
            exact cont (x3, m3, .int (bk_i v)) ⟨by omega, b1, b2, wPass_next b3 b4⟩
          refine bk_loop (σ := bF × Int) (fun p x => bk_den TX4_laysStood (bk_call d) 68 [.ref 102, .int (bk_i r), .int (bk_i f), .int (bk_i x.2), .int (bk_i t), .int (bk_i p)] [] (bk_M κ X (tp, tj, x.1, tk) g n))
            (fun p x => 0 ≤ p ∧ (∀ a, a ≠ 117 → x.1 a = ts a) ∧ (∀ j, j < 36 * f → x.1 117 j = ts 117 j) ∧ wPass (fun m v => m v = 1 ∨ ∀ u, 0 ≤ u → u < 6 * tp 103 1 → Ew N (pv91 117 ts f) u v → m u ≠ 1) (Ew N (pv91 117 ts f)) (6 * tp 103 1) (wB r) (rw91 117 x1 f) t (rw91 117 x.1 f) x.2
              ∧ (x.2 = 0 → x.1 117 (36 * f + t) = 1 ∨ ∀ q, 0 ≤ q → q < p → ¬ wOk 117 x.1 N f t q)) 8 ?_ ?_ 0 (x2, m) (by omega) ⟨by omega, fr2, lo2, hp, fun _ => Or.inr fun q a b => by omega⟩
          · rintro p ⟨x3, m3⟩ hp8 ⟨p0, fr3, lo3, hp3, hq3⟩ cont2
            dsimp only at fr3 lo3 hp3 hq3 ⊢
            have e110 := fr3 110 (by decide)
            have np := hr t p t0 ht p0 hp8
            have rt := hp3.1.1 t t0 ht
            have rt' : x3 117 (36 * f + t) = 0 ∨ x3 117 (36 * f + t) = 1 := rt
            have ew := t_standsBy (κ := κ) (X := X) (tp := tp) (ts := x3) (tj := tj) (tk := tk) (n := n) (D := d) (N := N) (s := t) (p := p) (f := f) hF (by rw [e110]; exact hN t p t0 ht p0 hp8) (by omega) (fun z => by have := fln_R hR6 (u := N t p) (by omega) (by omega); omega) f0 f1 t0 (by omega) p0 hp8 (fun z => hp3.1.1 (N t p) (by omega) (by omega)) (fun z y => by
              have fl := fln_R hR6 (u := N t p) (by omega) (by omega)
              rw [lo3 _ (by omega)]; exact h02 z _ fl.1 fl.2) (by omega)
            have z01 := bzc_01 (wOk 117 x3 N f t p)
            rw [eX4_laysStood_68]
            simp (disch := first | assumption | omega) only [if_neg (show ¬ 8 ≤ p by omega), ew, bi_add, bi_sub, bi_mul, bi_neg, bi_div, bi_64, bl_add, bl_sub, bl_mul, bl_neg, bl_div, bl_32, bi_min, bi_max, bl_min, bl_max, bq_I, bq_J, bq_A, bq_Vi, bq_Vl, bq_Vr, bq_cV, bq_cI, bq_cJ, bq_cA, bq_le, bq_lt, bq_eq, bq_z, bq_o, bq_ref, bq_nz, bq_nzJ, bq_bl, bq_blz, bq_T, bq_F, if_true, if_false, Int.reduceEq, Int.reduceLT, Int.reduceLE, Int.reduceAdd, Int.reduceSub, Int.reduceMul, Int.add_sub_cancel, li_0, li_1, li_2, li_4, li_6, li_8, li_28, li_36, li_37, li_38, li_47, li_56, li_68, li_102, li_120, li_126, li_4037, li_4069, ll_0, ll_1, ll_2, ll_4, ll_6, ll_8, ll_28, ll_36, ll_37, ll_38, ll_47, ll_56, ll_68, ll_102, ll_120, ll_126, ga103, ga105, ga119, ga120, ga106, ga107, ga108, ga109, ga110, ga111, ga116, ga118, ga104, ga112, ga114, ga115, ga117, ga113, ga121, gf102_5, gf102_13, gf102_14, gf102_0, gf102_6, gf102_7, gf102_8, gf102_9, gf102_10, gf102_11, gf102_12, gf102_15, gf102_19, gf102_20, gr102_1, gr102_2, gr102_3, gr102_4, gr102_16, gr102_17, gr102_18, gr102_21, gr102_22, gr102_23, gr102_24, gr102_25, gr102_26, gr102_27, gr102_28, gr102_29, gr102_30, gr102_31, gr102_32, pa103, pa105, pa119, pa120, pa106, pa107, pa108, pa109, pa110, pa111, pa116, pa118, pa104, pa112, pa114, pa115, pa117, pa113, pa121, pf102_5, pf102_13, pf102_14, pf102_0, pf102_6, pf102_7, pf102_8, pf102_9, pf102_10, pf102_11, pf102_12, pf102_15, pf102_19, pf102_20, s_within, t_isLost, t_fallen, t_isHurt, t_between, t_isPassage, t_isRoom, t_standNow, t_standsAll, t_isIn, t_noComing, t_noStand, t_bitsOf, u_tens4109]
            by_cases z : x3 117 (36 * f + t) = 0
            · rw [if_pos z]
              by_cases w : wOk 117 x3 N f t p
              · rw [bzc_t w, if_neg (by decide), eX4_laysStood_120]
                simp (disch := first | assumption | omega) only [bi_add, bi_sub, bi_mul, bi_neg, bi_div, bi_64, bl_add, bl_sub, bl_mul, bl_neg, bl_div, bl_32, bi_min, bi_max, bl_min, bl_max, bq_I, bq_J, bq_A, bq_Vi, bq_Vl, bq_Vr, bq_cV, bq_cI, bq_cJ, bq_cA, bq_le, bq_lt, bq_eq, bq_z, bq_o, bq_ref, bq_nz, bq_nzJ, bq_bl, bq_blz, bq_T, bq_F, if_true, if_false, Int.reduceEq, Int.reduceLT, Int.reduceLE, Int.reduceAdd, Int.reduceSub, Int.reduceMul, Int.add_sub_cancel, li_0, li_1, li_2, li_4, li_6, li_8, li_28, li_36, li_37, li_38, li_47, li_56, li_68, li_102, li_120, li_126, li_4037, li_4069, ll_0, ll_1, ll_2, ll_4, ll_6, ll_8, ll_28, ll_36, ll_37, ll_38, ll_47, ll_56, ll_68, ll_102, ll_120, ll_126, ga103, ga105, ga119, ga120, ga106, ga107, ga108, ga109, ga110, ga111, ga116, ga118, ga104, ga112, ga114, ga115, ga117, ga113, ga121, gf102_5, gf102_13, gf102_14, gf102_0, gf102_6, gf102_7, gf102_8, gf102_9, gf102_10, gf102_11, gf102_12, gf102_15, gf102_19, gf102_20, gr102_1, gr102_2, gr102_3, gr102_4, gr102_16, gr102_17, gr102_18, gr102_21, gr102_22, gr102_23, gr102_24, gr102_25, gr102_26, gr102_27, gr102_28, gr102_29, gr102_30, gr102_31, gr102_32, pa103, pa105, pa119, pa120, pa106, pa107, pa108, pa109, pa110, pa111, pa116, pa118, pa104, pa112, pa114, pa115, pa117, pa113, pa121, pf102_5, pf102_13, pf102_14, pf102_0, pf102_6, pf102_7, pf102_8, pf102_9, pf102_10, pf102_11, pf102_12, pf102_15, pf102_19, pf102_20, s_within, t_isLost, t_fallen, t_isHurt, t_between, t_isPassage, t_isRoom, t_standNow, t_standsAll, t_isIn, t_noComing, t_noStand, t_bitsOf, u_tens4109]
                have wk := w
                obtain ⟨a, b, c⟩ := w
                have e2 : rw91 117 (bU x3 117 (36 * f + t) 1) f = fU (rw91 117 x3 f) t 1 := by
                  funext j
                  show bU x3 117 (36 * f + t) 1 117 (36 * f + j) = if j = t then 1 else x3 117 (36 * f + j)
                  rw [bU_same]
                  by_cases c : j = t
                  · rw [if_pos (by omega), if_pos c]
                  · rw [if_neg (by omega), if_neg c]
                have hE : Ew N (pv91 117 ts f) (N t p) t := by
                  refine ⟨p, p0, hp8, rfl, ?_⟩
                  unfold pv91
                  by_cases y : f = 0
                  · rw [if_pos y]; trivial
                  · have fl := fln_R hR6 (u := N t p) (by omega) (by omega)
                    rw [if_neg y]
                    show ts 117 (36 * (f - 1) + fln (N t p)) = 1
                    rw [← lo3 _ (by omega)]; omega
                refine cont2 (bU x3 117 (36 * f + t) 1, 1) ⟨by omega, fun a ha => ?_, fun j hj => ?_, ?_, fun q => absurd q (by simp)⟩
                · funext j; show bU x3 117 (36 * f + t) 1 a j = _; rw [bU_ne _ _ _ _ _ _ ha, fr3 a ha]
                · show bU x3 117 (36 * f + t) 1 117 j = _; rw [bU_same, if_neg (by omega)]; exact lo3 j hj
                · show wPass _ _ _ _ _ _ (rw91 117 (bU x3 117 (36 * f + t) 1) f) _
                  rw [e2]
                  exact wPass_add hp3 (by omega) (by omega) t0 ht hE b z
              · rw [bzc_f w, if_pos rfl, eX4_laysStood_120]
                simp (disch := first | assumption | omega) only [bi_add, bi_sub, bi_mul, bi_neg, bi_div, bi_64, bl_add, bl_sub, bl_mul, bl_neg, bl_div, bl_32, bi_min, bi_max, bl_min, bl_max, bq_I, bq_J, bq_A, bq_Vi, bq_Vl, bq_Vr, bq_cV, bq_cI, bq_cJ, bq_cA, bq_le, bq_lt, bq_eq, bq_z, bq_o, bq_ref, bq_nz, bq_nzJ, bq_bl, bq_blz, bq_T, bq_F, if_true, if_false, Int.reduceEq, Int.reduceLT, Int.reduceLE, Int.reduceAdd, Int.reduceSub, Int.reduceMul, Int.add_sub_cancel, li_0, li_1, li_2, li_4, li_6, li_8, li_28, li_36, li_37, li_38, li_47, li_56, li_68, li_102, li_120, li_126, li_4037, li_4069, ll_0, ll_1, ll_2, ll_4, ll_6, ll_8, ll_28, ll_36, ll_37, ll_38, ll_47, ll_56, ll_68, ll_102, ll_120, ll_126, ga103, ga105, ga119, ga120, ga106, ga107, ga108, ga109, ga110, ga111, ga116, ga118, ga104, ga112, ga114, ga115, ga117, ga113, ga121, gf102_5, gf102_13, gf102_14, gf102_0, gf102_6, gf102_7, gf102_8, gf102_9, gf102_10, gf102_11, gf102_12, gf102_15, gf102_19, gf102_20, gr102_1, gr102_2, gr102_3, gr102_4, gr102_16, gr102_17, gr102_18, gr102_21, gr102_22, gr102_23, gr102_24, gr102_25, gr102_26, gr102_27, gr102_28, gr102_29, gr102_30, gr102_31, gr102_32, pa103, pa105, pa119, pa120, pa106, pa107, pa108, pa109, pa110, pa111, pa116, pa118, pa104, pa112, pa114, pa115, pa117, pa113, pa121, pf102_5, pf102_13, pf102_14, pf102_0, pf102_6, pf102_7, pf102_8, pf102_9, pf102_10, pf102_11, pf102_12, pf102_15, pf102_19, pf102_20, s_within, t_isLost, t_fallen, t_isHurt, t_between, t_isPassage, t_isRoom, t_standNow, t_standsAll, t_isIn, t_noComing, t_noStand, t_bitsOf, u_tens4109]
                refine cont2 (x3, m3) ⟨by omega, fr3, lo3, hp3, fun y => ?_⟩
                rcases hq3 y with e | e
                · exact Or.inl e
                · right
                  intro q a b
                  by_cases c : q = p
                  · subst c; exact w
                  · exact e q a (by omega)
            · rw [if_neg z]
              refine next x3 m3 p fr3 lo3 hp3 fun _ => Or.inl ?_
              show x3 117 (36 * f + t) = 1
              omega
          · rintro ⟨x3, m3⟩ ⟨p0, fr3, lo3, hp3, hq3⟩
            dsimp only at fr3 lo3 hp3 hq3 ⊢
            rw [eX4_laysStood_68]
            simp (disch := first | assumption | omega) only [if_pos (Int.le_refl 8), bi_add, bi_sub, bi_mul, bi_neg, bi_div, bi_64, bl_add, bl_sub, bl_mul, bl_neg, bl_div, bl_32, bi_min, bi_max, bl_min, bl_max, bq_I, bq_J, bq_A, bq_Vi, bq_Vl, bq_Vr, bq_cV, bq_cI, bq_cJ, bq_cA, bq_le, bq_lt, bq_eq, bq_z, bq_o, bq_ref, bq_nz, bq_nzJ, bq_bl, bq_blz, bq_T, bq_F, if_true, if_false, Int.reduceEq, Int.reduceLT, Int.reduceLE, Int.reduceAdd, Int.reduceSub, Int.reduceMul, Int.add_sub_cancel, li_0, li_1, li_2, li_4, li_6, li_8, li_28, li_36, li_37, li_38, li_47, li_56, li_68, li_102, li_120, li_126, li_4037, li_4069, ll_0, ll_1, ll_2, ll_4, ll_6, ll_8, ll_28, ll_36, ll_37, ll_38, ll_47, ll_56, ll_68, ll_102, ll_120, ll_126, ga103, ga105, ga119, ga120, ga106, ga107, ga108, ga109, ga110, ga111, ga116, ga118, ga104, ga112, ga114, ga115, ga117, ga113, ga121, gf102_5, gf102_13, gf102_14, gf102_0, gf102_6, gf102_7, gf102_8, gf102_9, gf102_10, gf102_11, gf102_12, gf102_15, gf102_19, gf102_20, gr102_1, gr102_2, gr102_3, gr102_4, gr102_16, gr102_17, gr102_18, gr102_21, gr102_22, gr102_23, gr102_24, gr102_25, gr102_26, gr102_27, gr102_28, gr102_29, gr102_30, gr102_31, gr102_32, pa103, pa105, pa119, pa120, pa106, pa107, pa108, pa109, pa110, pa111, pa116, pa118, pa104, pa112, pa114, pa115, pa117, pa113, pa121, pf102_5, pf102_13, pf102_14, pf102_0, pf102_6, pf102_7, pf102_8, pf102_9, pf102_10, pf102_11, pf102_12, pf102_15, pf102_19, pf102_20, s_within, t_isLost, t_fallen, t_isHurt, t_between, t_isPassage, t_isRoom, t_standNow, t_standsAll, t_isIn, t_noComing, t_noStand, t_bitsOf, u_tens4109]
            refine next x3 m3 8 fr3 lo3 hp3 fun y => ?_
            rcases hq3 y with e | e
            · exact Or.inl e
            · right
              rintro u u0 u1 ⟨p, a, b, rfl, c⟩ hu
              refine e p a b ⟨by omega, hu, ?_⟩
              unfold pv91 at c
              by_cases z : f = 0
              · exact Or.inl z
              · have fl := fln_R hR6 u0 u1
                rw [if_neg z] at c
                have c' : ts 117 (36 * (f - 1) + fln (N t p)) = 1 := c
                right; rw [lo3 _ (by omega)]; exact c'
        · rintro ⟨x2, m, w2⟩ ⟨t0, fr2, lo2, hp⟩
          dsimp only at fr2 lo2 hp ⊢
          have nn1 := wS_nn hp.1
          obtain ⟨p1, p2, p3, p4, p5⟩ := hp
          rw [eX4_laysStood_56]
          simp (disch := first | assumption | omega) only [if_pos (Int.le_refl (6 * tp 103 1)), bi_add, bi_sub, bi_mul, bi_neg, bi_div, bi_64, bl_add, bl_sub, bl_mul, bl_neg, bl_div, bl_32, bi_min, bi_max, bl_min, bl_max, bq_I, bq_J, bq_A, bq_Vi, bq_Vl, bq_Vr, bq_cV, bq_cI, bq_cJ, bq_cA, bq_le, bq_lt, bq_eq, bq_z, bq_o, bq_ref, bq_nz, bq_nzJ, bq_bl, bq_blz, bq_T, bq_F, if_true, if_false, Int.reduceEq, Int.reduceLT, Int.reduceLE, Int.reduceAdd, Int.reduceSub, Int.reduceMul, Int.add_sub_cancel, li_0, li_1, li_2, li_4, li_6, li_8, li_28, li_36, li_37, li_38, li_47, li_56, li_68, li_102, li_120, li_126, li_4037, li_4069, ll_0, ll_1, ll_2, ll_4, ll_6, ll_8, ll_28, ll_36, ll_37, ll_38, ll_47, ll_56, ll_68, ll_102, ll_120, ll_126, ga103, ga105, ga119, ga120, ga106, ga107, ga108, ga109, ga110, ga111, ga116, ga118, ga104, ga112, ga114, ga115, ga117, ga113, ga121, gf102_5, gf102_13, gf102_14, gf102_0, gf102_6, gf102_7, gf102_8, gf102_9, gf102_10, gf102_11, gf102_12, gf102_15, gf102_19, gf102_20, gr102_1, gr102_2, gr102_3, gr102_4, gr102_16, gr102_17, gr102_18, gr102_21, gr102_22, gr102_23, gr102_24, gr102_25, gr102_26, gr102_27, gr102_28, gr102_29, gr102_30, gr102_31, gr102_32, pa103, pa105, pa119, pa120, pa106, pa107, pa108, pa109, pa110, pa111, pa116, pa118, pa104, pa112, pa114, pa115, pa117, pa113, pa121, pf102_5, pf102_13, pf102_14, pf102_0, pf102_6, pf102_7, pf102_8, pf102_9, pf102_10, pf102_11, pf102_12, pf102_15, pf102_19, pf102_20, s_within, t_isLost, t_fallen, t_isHurt, t_between, t_isPassage, t_isRoom, t_standNow, t_standsAll, t_isIn, t_noComing, t_noStand, t_bitsOf, u_tens4109]
          refine again (x2, m, .int (bk_i (6 * tp 103 1))) ?_ ⟨fr2, lo2, p1, p3, fun q => ⟨p1, fun u v u0 u1 v0 v1 e hu => ?_⟩⟩
          · dsimp only
            rcases p3 with rfl | rfl
            · omega
            · have := p5 rfl
              omega
          · rcases p4 q v v0 v1 with z | z
            · exact z
            · exact absurd hu (z u u0 u1 e)
  obtain ⟨z, h', e, ts', rfl, rfl, h1, h2⟩ := goal
  exact ⟨ts', h1, h2, e⟩
theorem m_withstands (h : bTt g (tp 103)) (h3 : -2147483648 ≤ r) (h4 : r < 2147483648) (hD : 9 ≤ D) :
    bk_wp (bk_call D 4103 [.ref 102, .int (bk_i r)] (bk_M κ X (tp, tj, ts, tk) g n)) (bTq κ X tp tj g n (rWith (tp 103) r)) := by
  obtain ⟨d, rfl⟩ := dep hD
  have st := bTt_st h
  obtain ⟨hF, hw, hs⟩ := h
  have hN := nxt_N hw (tp 103 44) (Int.le_refl (6 * tp 103 1))
  have hR6 : (6 * tp 103 1) % 6 = 0 := by omega
  obtain ⟨ts1, f1, v1, e1⟩ := t_laysThen (κ := κ) (X := X) (tp := tp) (ts := bU ts 102 0 0) (tj := tj) (tk := tk) (n := n) (rop := tp 103 44) (D := d) hF hw (by omega) (by omega) (by omega) (by omega) (by omega)
  rw [kX4_withstands, eX4_withstands_0]
  simp (disch := first | assumption | omega) only [e1, bi_add, bi_sub, bi_mul, bi_neg, bi_div, bi_64, bl_add, bl_sub, bl_mul, bl_neg, bl_div, bl_32, bi_min, bi_max, bl_min, bl_max, bq_I, bq_J, bq_A, bq_Vi, bq_Vl, bq_Vr, bq_cV, bq_cI, bq_cJ, bq_cA, bq_le, bq_lt, bq_eq, bq_z, bq_o, bq_ref, bq_nz, bq_nzJ, bq_bl, bq_blz, bq_T, bq_F, if_true, if_false, Int.reduceEq, Int.reduceLT, Int.reduceLE, Int.reduceAdd, Int.reduceSub, Int.reduceMul, Int.add_sub_cancel, li_0, li_1, li_2, li_4, li_10, li_28, li_32, li_36, li_44, li_63, li_100, li_102, li_4035, li_4051, li_4068, ll_0, ll_1, ll_2, ll_4, ll_10, ll_28, ll_32, ll_36, ll_44, ll_63, ll_100, ll_102, ga103, ga105, ga119, ga120, ga106, ga107, ga108, ga109, ga110, ga111, ga116, ga118, ga104, ga112, ga114, ga115, ga117, ga113, ga121, gf102_5, gf102_13, gf102_14, gf102_0, gf102_6, gf102_7, gf102_8, gf102_9, gf102_10, gf102_11, gf102_12, gf102_15, gf102_19, gf102_20, gr102_1, gr102_2, gr102_3, gr102_4, gr102_16, gr102_17, gr102_18, gr102_21, gr102_22, gr102_23, gr102_24, gr102_25, gr102_26, gr102_27, gr102_28, gr102_29, gr102_30, gr102_31, gr102_32, pa103, pa105, pa119, pa120, pa106, pa107, pa108, pa109, pa110, pa111, pa116, pa118, pa104, pa112, pa114, pa115, pa117, pa113, pa121, pf102_5, pf102_13, pf102_14, pf102_0, pf102_6, pf102_7, pf102_8, pf102_9, pf102_10, pf102_11, pf102_12, pf102_15, pf102_19, pf102_20, s_within, t_isLost, t_fallen, t_isHurt, t_between, t_isPassage, t_isRoom, t_standNow, t_standsAll, t_isIn, t_noComing, t_noStand, t_bitsOf, u_tens4109]
  by_cases q : 0 ≤ r ∧ r ≤ tp 103 1 - 1
  · rw [if_pos q]
    refine bk_loop (σ := bF × Int) (fun f x => bk_den TX4_withstands (bk_call d) 32 [.ref 102, .int (bk_i r), .int (bk_i x.2), .int (bk_i f)] [] (bk_M κ X (tp, tj, x.1, tk) g n))
      (fun f x => 0 ≤ f ∧ (∀ s p, 0 ≤ s → s < 6 * tp 103 1 → 0 ≤ p → p < 8 → x.1 110 (8 * s + p) = nxt (tp 103) (tp 103 44) s p) ∧ (f ≠ 0 → (∀ t, 0 ≤ t → t < 6 * tp 103 1 → x.1 117 (36 * (f - 1) + t) = 0 ∨ x.1 117 (36 * (f - 1) + t) = 1) ∧ isWs (nxt (tp 103) (tp 103 44)) (6 * tp 103 1) r (f - 1).toNat (rw91 117 x.1 (f - 1)))
        ∧ ((x.2 = -1 ∧ (f ≠ 0 → ¬ holds (nxt (tp 103) (tp 103 44)) (6 * tp 103 1) r (6 * tp 103 42 + tp 103 43) 0)) ∨ (0 ≤ x.2 ∧ x.2 < f ∧ holds (nxt (tp 103) (tp 103 44)) (6 * tp 103 1) r (6 * tp 103 42 + tp 103 43) x.2.toNat ∧ (x.2 = f - 1 ∨ ¬ holds (nxt (tp 103) (tp 103 44)) (6 * tp 103 1) r (6 * tp 103 42 + tp 103 43) (x.2.toNat + 1))))) 10 ?_ ?_ 0 (ts1, -1) (by omega) ⟨by omega, v1, fun z => absurd rfl z, Or.inl ⟨rfl, fun z => absurd rfl z⟩⟩
    · rintro f ⟨x, mo⟩ hf ⟨f0, va, vb, vc⟩ cont
      dsimp only at va vb vc ⊢
      obtain ⟨ts2, f2, w3, e2⟩ := t_laysStood (κ := κ) (X := X) (tp := tp) (ts := x) (tj := tj) (tk := tk) (n := n) (r := r) (f := f) (D := d) (N := nxt (tp 103) (tp 103 44)) hF (by omega) (by omega) va hN f0 (by omega) h3 h4 (fun z => (vb z).1) (by omega)
      have ws : isWs (nxt (tp 103) (tp 103 44)) (6 * tp 103 1) r f.toNat (rw91 117 ts2 f) := by
        unfold pv91 at w3
        by_cases z : f = 0
        · subst z
          rw [if_pos rfl] at w3
          exact w3
        · rw [if_neg z] at w3
          have e : f.toNat = (f - 1).toNat + 1 := by omega
          rw [e]
          exact ⟨_, (vb z).2, w3⟩
      have m01 : ts2 117 (36 * f + (6 * tp 103 42 + tp 103 43)) = 0 ∨ ts2 117 (36 * f + (6 * tp 103 42 + tp 103 43)) = 1 := w3.1.1 (6 * tp 103 42 + tp 103 43) (by omega) (by omega)
      have e : f + 1 - 1 = f := by omega
      have va2 : ∀ s p, 0 ≤ s → s < 6 * tp 103 1 → 0 ≤ p → p < 8 → ts2 110 (8 * s + p) = nxt (tp 103) (tp 103 44) s p := fun s p a b c e => by rw [f2 110 (by decide)]; exact va s p a b c e
      have vb2 : f + 1 ≠ 0 → (∀ t, 0 ≤ t → t < 6 * tp 103 1 → ts2 117 (36 * (f + 1 - 1) + t) = 0 ∨ ts2 117 (36 * (f + 1 - 1) + t) = 1) ∧ isWs (nxt (tp 103) (tp 103 44)) (6 * tp 103 1) r (f + 1 - 1).toNat (rw91 117 ts2 (f + 1 - 1)) := by
        intro _
        rw [e]
        exact ⟨fun t a b => w3.1.1 t a b, ws⟩
      have no : ts2 117 (36 * f + (6 * tp 103 42 + tp 103 43)) = 0 → ¬ holds (nxt (tp 103) (tp 103 44)) (6 * tp 103 1) r (6 * tp 103 42 + tp 103 43) f.toNat := by
        rintro z ⟨w, hw1, hw2⟩
        have := isWs_uniq hR6 _ _ _ ws hw1 (6 * tp 103 42 + tp 103 43) (by omega) (by omega)
        rw [← this] at hw2
        have hw3 : ts2 117 (36 * f + (6 * tp 103 42 + tp 103 43)) = 1 := hw2
        omega
      rw [eX4_withstands_32]
      simp (disch := first | assumption | omega) only [if_neg (show ¬ 10 ≤ f by omega), e2, eX4_withstands_63, bi_add, bi_sub, bi_mul, bi_neg, bi_div, bi_64, bl_add, bl_sub, bl_mul, bl_neg, bl_div, bl_32, bi_min, bi_max, bl_min, bl_max, bq_I, bq_J, bq_A, bq_Vi, bq_Vl, bq_Vr, bq_cV, bq_cI, bq_cJ, bq_cA, bq_le, bq_lt, bq_eq, bq_z, bq_o, bq_ref, bq_nz, bq_nzJ, bq_bl, bq_blz, bq_T, bq_F, if_true, if_false, Int.reduceEq, Int.reduceLT, Int.reduceLE, Int.reduceAdd, Int.reduceSub, Int.reduceMul, Int.add_sub_cancel, li_0, li_1, li_2, li_4, li_10, li_28, li_32, li_36, li_44, li_63, li_100, li_102, li_4035, li_4051, li_4068, ll_0, ll_1, ll_2, ll_4, ll_10, ll_28, ll_32, ll_36, ll_44, ll_63, ll_100, ll_102, ga103, ga105, ga119, ga120, ga106, ga107, ga108, ga109, ga110, ga111, ga116, ga118, ga104, ga112, ga114, ga115, ga117, ga113, ga121, gf102_5, gf102_13, gf102_14, gf102_0, gf102_6, gf102_7, gf102_8, gf102_9, gf102_10, gf102_11, gf102_12, gf102_15, gf102_19, gf102_20, gr102_1, gr102_2, gr102_3, gr102_4, gr102_16, gr102_17, gr102_18, gr102_21, gr102_22, gr102_23, gr102_24, gr102_25, gr102_26, gr102_27, gr102_28, gr102_29, gr102_30, gr102_31, gr102_32, pa103, pa105, pa119, pa120, pa106, pa107, pa108, pa109, pa110, pa111, pa116, pa118, pa104, pa112, pa114, pa115, pa117, pa113, pa121, pf102_5, pf102_13, pf102_14, pf102_0, pf102_6, pf102_7, pf102_8, pf102_9, pf102_10, pf102_11, pf102_12, pf102_15, pf102_19, pf102_20, s_within, t_isLost, t_fallen, t_isHurt, t_between, t_isPassage, t_isRoom, t_standNow, t_standsAll, t_isIn, t_noComing, t_noStand, t_bitsOf, u_tens4109]
      by_cases z : ts2 117 (36 * f + (6 * tp 103 42 + tp 103 43)) = 0
      · rw [if_pos z]
        refine cont (ts2, mo) ⟨by omega, va2, vb2, ?_⟩
        dsimp only
        rcases vc with ⟨c1, c2⟩ | ⟨c1, c2, c3, c4⟩
        · refine Or.inl ⟨c1, fun _ => ?_⟩
          by_cases z0 : f = 0
          · have := no z
            rw [z0] at this
            exact this
          · exact c2 z0
        · refine Or.inr ⟨c1, by omega, c3, Or.inr ?_⟩
          rcases c4 with c4 | c4
          · have e3 : mo.toNat + 1 = f.toNat := by omega
            rw [e3]; exact no z
          · exact c4
      · rw [if_neg z]
        exact cont (ts2, f) ⟨by omega, va2, vb2, Or.inr ⟨f0, by show f < f + 1; omega, ⟨_, ws, show ts2 117 (36 * f + (6 * tp 103 42 + tp 103 43)) = 1 by omega⟩, Or.inl e.symm⟩⟩
    · rintro ⟨x, mo⟩ ⟨f0, va, vb, vc⟩
      dsimp only at va vb vc ⊢
      rw [eX4_withstands_32]
      simp (disch := first | assumption | omega) only [if_pos (Int.le_refl 10), bi_add, bi_sub, bi_mul, bi_neg, bi_div, bi_64, bl_add, bl_sub, bl_mul, bl_neg, bl_div, bl_32, bi_min, bi_max, bl_min, bl_max, bq_I, bq_J, bq_A, bq_Vi, bq_Vl, bq_Vr, bq_cV, bq_cI, bq_cJ, bq_cA, bq_le, bq_lt, bq_eq, bq_z, bq_o, bq_ref, bq_nz, bq_nzJ, bq_bl, bq_blz, bq_T, bq_F, if_true, if_false, Int.reduceEq, Int.reduceLT, Int.reduceLE, Int.reduceAdd, Int.reduceSub, Int.reduceMul, Int.add_sub_cancel, li_0, li_1, li_2, li_4, li_10, li_28, li_32, li_36, li_44, li_63, li_100, li_102, li_4035, li_4051, li_4068, ll_0, ll_1, ll_2, ll_4, ll_10, ll_28, ll_32, ll_36, ll_44, ll_63, ll_100, ll_102, ga103, ga105, ga119, ga120, ga106, ga107, ga108, ga109, ga110, ga111, ga116, ga118, ga104, ga112, ga114, ga115, ga117, ga113, ga121, gf102_5, gf102_13, gf102_14, gf102_0, gf102_6, gf102_7, gf102_8, gf102_9, gf102_10, gf102_11, gf102_12, gf102_15, gf102_19, gf102_20, gr102_1, gr102_2, gr102_3, gr102_4, gr102_16, gr102_17, gr102_18, gr102_21, gr102_22, gr102_23, gr102_24, gr102_25, gr102_26, gr102_27, gr102_28, gr102_29, gr102_30, gr102_31, gr102_32, pa103, pa105, pa119, pa120, pa106, pa107, pa108, pa109, pa110, pa111, pa116, pa118, pa104, pa112, pa114, pa115, pa117, pa113, pa121, pf102_5, pf102_13, pf102_14, pf102_0, pf102_6, pf102_7, pf102_8, pf102_9, pf102_10, pf102_11, pf102_12, pf102_15, pf102_19, pf102_20, s_within, t_isLost, t_fallen, t_isHurt, t_between, t_isPassage, t_isRoom, t_standNow, t_standsAll, t_isIn, t_noComing, t_noStand, t_bitsOf, u_tens4109]
      refine ⟨_, _, rfl, x, tk, _, rfl, rfl, Or.inr ⟨q, ?_⟩⟩
      rcases vc with ⟨c1, c2⟩ | ⟨c1, c2, c3, c4⟩
      · exact Or.inl ⟨c1, c2 (by decide)⟩
      · exact Or.inr ⟨c1, by omega, c3, by rcases c4 with c4 | c4
                                           · exact Or.inl (by omega)
                                           · exact Or.inr c4⟩
  · rw [if_neg q]
    exact ⟨_, _, rfl, _, tk, _, rfl, rfl, Or.inl ⟨q, rfl⟩⟩
end TC
