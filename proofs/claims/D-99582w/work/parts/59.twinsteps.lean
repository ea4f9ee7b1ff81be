/-! SPECS: the twin: a law, why a step can't be made, where it leads -/
set_option maxRecDepth 100000
section TW
variable {κ : Nat → Nat} {X : bX} {Y : bY} {tp ts : bF} {tj tk : bFJ} {g : bG} {n : Nat × Nat} {s p v : Int} {D : Nat}
theorem t_reckons (hF : bFix g) (hw : bWF (tp 103) 0) {law rop sl : Int} (hl : law = 0 ∨ law = 1) (ht : tp 103 (4 + law) = 1) (h1 : 0 ≤ p) (h2 : p < tp 103 2) (h3 : 0 ≤ s) (h4 : s < 36) (h5 : 0 ≤ sl) (h6 : sl ≤ 9) (hd : tp 103 (10 + p) = s / 6 ∨ tp 103 (18 + p) = s / 6) (hD : 2 ≤ D) :
    ∃ ts', (∀ a, a ≠ 107 → a ≠ 108 → ts' a = ts a) ∧ bk_call D 4038 [.ref 102, .int (bk_i law), .int (bk_i s), .int (bk_i p), .int (bk_i rop), .int (bk_i sl)] (bk_M κ X (tp, tj, ts, tk) g n)
      = some (some (.int (bk_i (eV (mW (tp 103) s p rop sl) (mL (tp 103) 0 law)))), bk_M κ X (tp, tj, ts', tk) g n) := by
  obtain ⟨d, rfl⟩ := dep hD
  have w4 : tp 103 2 ≤ 8 := by have := hw.2.2.2.1; simpa using this
  have w9' := hw.2.2.2.2.2.2.2.2.1 p h1 (by simpa using h2)
  have w2 := hw.2.1
  simp only [Int.zero_add] at w9' w2
  have hwr := fun (k : Int) (_ : 0 ≤ k) (_ : k < (if law = 0 then 6 else 7)) => w_rng (rop := rop) hw h1 h2 h3 h4 h5 h6 k
  have hcode : 0 ≤ tp 103 (6 + law) ∧ 0 ≤ tp 103 (8 + law) ∧ tp 103 (6 + law) + tp 103 (8 + law) ≤ 900 ∧ ∃ tr d, wfc d tr (if law = 0 then 6 else 7) (mL (tp 103) 0 law) := by
    rcases hl with rfl | rfl
    · obtain ⟨a1, a2, a3, d, a4, a5⟩ := hw.2.2.2.2.2.2.2.2.2.1 (by simpa using ht)
      simp only [Int.zero_add] at a1 a2 a3
      exact ⟨by simpa using a1, by simpa using a2, by simpa using a3, _, _, a5⟩
    · obtain ⟨a1, a2, a3, d, a4, a5⟩ := hw.2.2.2.2.2.2.2.2.2.2 (by simpa using ht)
      simp only [Int.zero_add] at a1 a2 a3
      exact ⟨by simpa using a1, by simpa using a2, by simpa using a3, _, _, a5⟩
  obtain ⟨m1, m2, m3, tr, dd, hcs⟩ := hcode
  -- the words laid
  have words : ∀ (Q : Option Value → bk_H → Prop) (v6 : Int32), (∀ ts1, (∀ a, a ≠ 108 → ts1 a = ts a) → (∀ j, 0 ≤ j → j < 7 → ts1 108 j = mW (tp 103) s p rop sl j) → ∀ v6, bk_wp (bk_den TX4_reckons (bk_call d) 123 [.ref 102, .int (bk_i law), .int (bk_i s), .int (bk_i p), .int (bk_i rop), .int (bk_i sl), .int v6, .int (bk_i 0), .int (bk_i 0), bk_u] [] (bk_M κ X (tp, tj, ts1, tk) g n)) Q)
      → bk_wp (bk_call (d + 1) 4038 [.ref 102, .int (bk_i law), .int (bk_i s), .int (bk_i p), .int (bk_i rop), .int (bk_i sl)] (bk_M κ X (tp, tj, ts, tk) g n)) Q := by
    intro Q _ cont
    have sm : s - s / 6 * 6 = s % 6 := by omega
    have fr : ∀ (f : Int → Int), ∀ a, a ≠ 108 → (bU (bU (bU (bU (bU (bU (bU ts 108 0 (f 0)) 108 1 (f 1)) 108 2 (f 2)) 108 3 (f 3)) 108 4 (f 4)) 108 5 (f 5)) 108 6 (f 6)) a = ts a := by
      intro f a ha
      funext j
      rw [bU_ne _ _ _ _ _ _ ha, bU_ne _ _ _ _ _ _ ha, bU_ne _ _ _ _ _ _ ha, bU_ne _ _ _ _ _ _ ha, bU_ne _ _ _ _ _ _ ha, bU_ne _ _ _ _ _ _ ha, bU_ne _ _ _ _ _ _ ha]
    have vl : ∀ (f : Int → Int), ∀ j, 0 ≤ j → j < 7 → (bU (bU (bU (bU (bU (bU (bU ts 108 0 (f 0)) 108 1 (f 1)) 108 2 (f 2)) 108 3 (f 3)) 108 4 (f 4)) 108 5 (f 5)) 108 6 (f 6)) 108 j = f j := by
      intro f j j0 j1
      simp only [bU_same]
      have : j = 0 ∨ j = 1 ∨ j = 2 ∨ j = 3 ∨ j = 4 ∨ j = 5 ∨ j = 6 := by omega
      rcases this with rfl | rfl | rfl | rfl | rfl | rfl | rfl <;> simp
    rw [kX4_reckons, eX4_reckons_0]
    by_cases q : tp 103 (18 + p) = s / 6
    · have q2 : ¬ tp 103 (10 + p) = s / 6 := by omega
      simp (disch := first | assumption | omega) only [if_pos q.symm, eX4_reckons_21, eX4_reckons_55, eX4_reckons_83, eX4_reckons_116, if_true, bi_bt, sm, bi_add, bi_sub, bi_mul, bi_neg, bi_div, bi_64, bl_add, bl_sub, bl_mul, bl_neg, bl_div, bl_32, bi_min, bi_max, bl_min, bl_max, bq_I, bq_J, bq_A, bq_Vi, bq_Vl, bq_Vr, bq_cV, bq_cI, bq_cJ, bq_cA, bq_le, bq_lt, bq_eq, bq_z, bq_o, bq_ref, bq_nz, bq_nzJ, bq_bl, bq_blz, bq_T, bq_F, if_true, if_false, Int.reduceEq, Int.reduceLT, Int.reduceLE, Int.reduceAdd, Int.reduceSub, Int.reduceMul, Int.add_sub_cancel, li_0, li_1, li_2, li_3, li_4, li_5, li_6, li_8, li_10, li_16, li_17, li_18, li_21, li_26, li_31, li_55, li_83, li_99, li_100, li_116, li_123, li_197, li_286, li_323, li_1000, li_3000, li_3006, li_3009, li_4038, li_4039, ll_0, ll_1, ll_2, ll_3, ll_4, ll_5, ll_6, ll_8, ll_10, ll_16, ll_17, ll_18, ll_21, ll_26, ll_31, ll_55, ll_83, ll_99, ll_100, ll_116, ll_123, ll_197, ll_286, ga103, ga105, ga119, ga120, ga106, ga107, ga108, ga109, ga110, ga111, ga116, ga118, ga104, ga112, ga114, ga115, ga117, ga113, ga121, gf102_5, gf102_13, gf102_14, gf102_0, gf102_6, gf102_7, gf102_8, gf102_9, gf102_10, gf102_11, gf102_12, gf102_15, gf102_19, gf102_20, gr102_1, gr102_2, gr102_3, gr102_4, gr102_16, gr102_17, gr102_18, gr102_21, gr102_22, gr102_23, gr102_24, gr102_25, gr102_26, gr102_27, gr102_28, gr102_29, gr102_30, gr102_31, gr102_32, pa103, pa105, pa119, pa120, pa106, pa107, pa108, pa109, pa110, pa111, pa116, pa118, pa104, pa112, pa114, pa115, pa117, pa113, pa121, pf102_5, pf102_13, pf102_14, pf102_0, pf102_6, pf102_7, pf102_8, pf102_9, pf102_10, pf102_11, pf102_12, pf102_15, pf102_19, pf102_20, s_within, t_isLost, t_fallen, t_isHurt, t_between]
      have c := cont _ (fr (mW (tp 103) s p rop sl)) (vl (mW (tp 103) s p rop sl)) (bk_i 1)
      unfold mW at c
      simp [q2] at c
      exact c
    · have q2 : tp 103 (10 + p) = s / 6 := by omega
      simp (disch := first | assumption | omega) only [if_neg (fun k => q (Eq.symm k)), eX4_reckons_21, eX4_reckons_55, eX4_reckons_83, eX4_reckons_116, if_neg (show ¬ (0 : Int) = 1 by decide), bi_bt, sm, bi_add, bi_sub, bi_mul, bi_neg, bi_div, bi_64, bl_add, bl_sub, bl_mul, bl_neg, bl_div, bl_32, bi_min, bi_max, bl_min, bl_max, bq_I, bq_J, bq_A, bq_Vi, bq_Vl, bq_Vr, bq_cV, bq_cI, bq_cJ, bq_cA, bq_le, bq_lt, bq_eq, bq_z, bq_o, bq_ref, bq_nz, bq_nzJ, bq_bl, bq_blz, bq_T, bq_F, if_true, if_false, Int.reduceEq, Int.reduceLT, Int.reduceLE, Int.reduceAdd, Int.reduceSub, Int.reduceMul, Int.add_sub_cancel, li_0, li_1, li_2, li_3, li_4, li_5, li_6, li_8, li_10, li_16, li_17, li_18, li_21, li_26, li_31, li_55, li_83, li_99, li_100, li_116, li_123, li_197, li_286, li_323, li_1000, li_3000, li_3006, li_3009, li_4038, li_4039, ll_0, ll_1, ll_2, ll_3, ll_4, ll_5, ll_6, ll_8, ll_10, ll_16, ll_17, ll_18, ll_21, ll_26, ll_31, ll_55, ll_83, ll_99, ll_100, ll_116, ll_123, ll_197, ll_286, ga103, ga105, ga119, ga120, ga106, ga107, ga108, ga109, ga110, ga111, ga116, ga118, ga104, ga112, ga114, ga115, ga117, ga113, ga121, gf102_5, gf102_13, gf102_14, gf102_0, gf102_6, gf102_7, gf102_8, gf102_9, gf102_10, gf102_11, gf102_12, gf102_15, gf102_19, gf102_20, gr102_1, gr102_2, gr102_3, gr102_4, gr102_16, gr102_17, gr102_18, gr102_21, gr102_22, gr102_23, gr102_24, gr102_25, gr102_26, gr102_27, gr102_28, gr102_29, gr102_30, gr102_31, gr102_32, pa103, pa105, pa119, pa120, pa106, pa107, pa108, pa109, pa110, pa111, pa116, pa118, pa104, pa112, pa114, pa115, pa117, pa113, pa121, pf102_5, pf102_13, pf102_14, pf102_0, pf102_6, pf102_7, pf102_8, pf102_9, pf102_10, pf102_11, pf102_12, pf102_15, pf102_19, pf102_20, s_within, t_isLost, t_fallen, t_isHurt, t_between]
      have c := cont _ (fr (mW (tp 103) s p rop sl)) (vl (mW (tp 103) s p rop sl)) (bk_i 0)
      unfold mW at c
      simp [q2] at c
      exact c
  obtain ⟨z, h', e, ts', he, hz, hf⟩ : bk_wp (bk_call (d + 1) 4038 [.ref 102, .int (bk_i law), .int (bk_i s), .int (bk_i p), .int (bk_i rop), .int (bk_i sl)] (bk_M κ X (tp, tj, ts, tk) g n))
      (fun v h' => ∃ ts', h' = bk_M κ X (tp, tj, ts', tk) g n ∧ v = some (.int (bk_i (eV (mW (tp 103) s p rop sl) (mL (tp 103) 0 law)))) ∧ (∀ a, a ≠ 107 → a ≠ 108 → ts' a = ts a)) := by
    refine words _ 0 fun ts1 u1 u2 v6 => ?_
    obtain ⟨v, f1, r1, r2, o1, n1, q⟩ := t_codes (κ := κ) (X := X) (tj := tj) (tk := tk) (n := n) (s := s) (p := p) (rop := rop) (sl := sl) (v6 := v6) (D := d) (Q := fun v h' => ∃ ts', h' = bk_M κ X (tp, tj, ts', tk) g n ∧ v = some (.int (bk_i (eV (mW (tp 103) s p rop sl) (mL (tp 103) 0 law)))) ∧ (∀ a, a ≠ 107 → a ≠ 108 → ts' a = ts a)) hF hwr (by split <;> omega) hl m1 m3 (by omega) dd tr _ hcs
    have lm : (((mL (tp 103) 0 law).length : Nat) : Int) = tp 103 (8 + law) := by
      unfold mL
      rw [List.length_map, List.length_range]
      have e : (0 : Int) + 8 + law = 8 + law := by omega
      rw [e, Int.toNat_of_nonneg m2]
    refine q 0 0 ts1 bk_u (seg_mL _ _) (by omega) (by omega) (by omega) (by omega) (fun j j0 j1 => u2 j j0 (by split at j1 <;> omega)) fun ts2 v9 g1 g2 g3 => ?_
    rw [lm, eX4_reckons_123]
    have ev : eV (mW (tp 103) s p rop sl) (mL (tp 103) 0 law) = v := by unfold eV; rw [f1]; rfl
    rw [ev]
    have ez : (0 : Int) + tp 103 (8 + law) = tp 103 (8 + law) := by omega
    rw [ez]
    simp (disch := first | assumption | omega) only [if_pos (Int.le_refl (tp 103 (8 + law))), g3, bi_add, bi_sub, bi_mul, bi_neg, bi_div, bi_64, bl_add, bl_sub, bl_mul, bl_neg, bl_div, bl_32, bi_min, bi_max, bl_min, bl_max, bq_I, bq_J, bq_A, bq_Vi, bq_Vl, bq_Vr, bq_cV, bq_cI, bq_cJ, bq_cA, bq_le, bq_lt, bq_eq, bq_z, bq_o, bq_ref, bq_nz, bq_nzJ, bq_bl, bq_blz, bq_T, bq_F, if_true, if_false, Int.reduceEq, Int.reduceLT, Int.reduceLE, Int.reduceAdd, Int.reduceSub, Int.reduceMul, Int.add_sub_cancel, li_0, li_1, li_2, li_3, li_4, li_5, li_6, li_8, li_10, li_16, li_17, li_18, li_21, li_26, li_31, li_55, li_83, li_99, li_100, li_116, li_123, li_197, li_286, li_323, li_1000, li_3000, li_3006, li_3009, li_4038, li_4039, ll_0, ll_1, ll_2, ll_3, ll_4, ll_5, ll_6, ll_8, ll_10, ll_16, ll_17, ll_18, ll_21, ll_26, ll_31, ll_55, ll_83, ll_99, ll_100, ll_116, ll_123, ll_197, ll_286, ga103, ga105, ga119, ga120, ga106, ga107, ga108, ga109, ga110, ga111, ga116, ga118, ga104, ga112, ga114, ga115, ga117, ga113, ga121, gf102_5, gf102_13, gf102_14, gf102_0, gf102_6, gf102_7, gf102_8, gf102_9, gf102_10, gf102_11, gf102_12, gf102_15, gf102_19, gf102_20, gr102_1, gr102_2, gr102_3, gr102_4, gr102_16, gr102_17, gr102_18, gr102_21, gr102_22, gr102_23, gr102_24, gr102_25, gr102_26, gr102_27, gr102_28, gr102_29, gr102_30, gr102_31, gr102_32, pa103, pa105, pa119, pa120, pa106, pa107, pa108, pa109, pa110, pa111, pa116, pa118, pa104, pa112, pa114, pa115, pa117, pa113, pa121, pf102_5, pf102_13, pf102_14, pf102_0, pf102_6, pf102_7, pf102_8, pf102_9, pf102_10, pf102_11, pf102_12, pf102_15, pf102_19, pf102_20, s_within, t_isLost, t_fallen, t_isHurt, t_between]
    exact ⟨_, _, rfl, ts2, rfl, rfl, fun a ha hb => by rw [g1 a ha, u1 a hb]⟩
  subst he hz
  exact ⟨ts', hf, e⟩
theorem t_isPassage (hF : bFix g) (h1 : -9223372036854775808 ≤ v) (h2 : v < 9223372036854775808) (h3 : 0 ≤ tp 103 2) (h4 : tp 103 2 ≤ 8) (hD : 2 ≤ D) :
    bk_call D 4032 [.ref 102, .long (bk_l v)] (bk_M κ X (tp, tj, ts, tk) g n) = some (some (.int (bk_i (bz (0 ≤ v ∧ v ≤ tp 103 2 - 1)))), bk_M κ X (tp, tj, ts, tk) g n) := by
  obtain ⟨d, rfl⟩ := dep hD
  rw [kX4_isPassage, eX4_isPassage_0]
  simp (disch := first | assumption | omega) only [bi_add, bi_sub, bi_mul, bi_neg, bi_div, bi_64, bl_add, bl_sub, bl_mul, bl_neg, bl_div, bl_32, bi_min, bi_max, bl_min, bl_max, bq_I, bq_J, bq_A, bq_Vi, bq_Vl, bq_Vr, bq_cV, bq_cI, bq_cJ, bq_cA, bq_le, bq_lt, bq_eq, bq_z, bq_o, bq_ref, bq_nz, bq_nzJ, bq_bl, bq_blz, bq_T, bq_F, if_true, if_false, Int.reduceEq, Int.reduceLT, Int.reduceLE, Int.reduceAdd, Int.reduceSub, Int.reduceMul, Int.add_sub_cancel, li_0, li_1, li_2, li_4, li_100, li_4004, li_4032, ll_0, ll_1, ll_2, ll_4, ll_100, ga103, ga105, ga119, ga120, ga106, ga107, ga108, ga109, ga110, ga111, ga116, ga118, ga104, ga112, ga114, ga115, ga117, ga113, ga121, gf102_5, gf102_13, gf102_14, gf102_0, gf102_6, gf102_7, gf102_8, gf102_9, gf102_10, gf102_11, gf102_12, gf102_15, gf102_19, gf102_20, gr102_1, gr102_2, gr102_3, gr102_4, gr102_16, gr102_17, gr102_18, gr102_21, gr102_22, gr102_23, gr102_24, gr102_25, gr102_26, gr102_27, gr102_28, gr102_29, gr102_30, gr102_31, gr102_32, pa103, pa105, pa119, pa120, pa106, pa107, pa108, pa109, pa110, pa111, pa116, pa118, pa104, pa112, pa114, pa115, pa117, pa113, pa121, pf102_5, pf102_13, pf102_14, pf102_0, pf102_6, pf102_7, pf102_8, pf102_9, pf102_10, pf102_11, pf102_12, pf102_15, pf102_19, pf102_20, s_within, t_isLost, t_fallen, t_isHurt, t_between]
theorem t_isRoom (hF : bFix g) (h1 : -9223372036854775808 ≤ v) (h2 : v < 9223372036854775808) (h3 : 1 ≤ tp 103 1) (h4 : tp 103 1 ≤ 6) (hD : 2 ≤ D) :
    bk_call D 4051 [.ref 102, .long (bk_l v)] (bk_M κ X (tp, tj, ts, tk) g n) = some (some (.int (bk_i (bz (0 ≤ v ∧ v ≤ tp 103 1 - 1)))), bk_M κ X (tp, tj, ts, tk) g n) := by
  obtain ⟨d, rfl⟩ := dep hD
  rw [kX4_isRoom, eX4_isRoom_0]
  simp (disch := first | assumption | omega) only [bi_add, bi_sub, bi_mul, bi_neg, bi_div, bi_64, bl_add, bl_sub, bl_mul, bl_neg, bl_div, bl_32, bi_min, bi_max, bl_min, bl_max, bq_I, bq_J, bq_A, bq_Vi, bq_Vl, bq_Vr, bq_cV, bq_cI, bq_cJ, bq_cA, bq_le, bq_lt, bq_eq, bq_z, bq_o, bq_ref, bq_nz, bq_nzJ, bq_bl, bq_blz, bq_T, bq_F, if_true, if_false, Int.reduceEq, Int.reduceLT, Int.reduceLE, Int.reduceAdd, Int.reduceSub, Int.reduceMul, Int.add_sub_cancel, li_0, li_1, li_4, li_100, li_4004, li_4051, ll_0, ll_1, ll_4, ll_100, ga103, ga105, ga119, ga120, ga106, ga107, ga108, ga109, ga110, ga111, ga116, ga118, ga104, ga112, ga114, ga115, ga117, ga113, ga121, gf102_5, gf102_13, gf102_14, gf102_0, gf102_6, gf102_7, gf102_8, gf102_9, gf102_10, gf102_11, gf102_12, gf102_15, gf102_19, gf102_20, gr102_1, gr102_2, gr102_3, gr102_4, gr102_16, gr102_17, gr102_18, gr102_21, gr102_22, gr102_23, gr102_24, gr102_25, gr102_26, gr102_27, gr102_28, gr102_29, gr102_30, gr102_31, gr102_32, pa103, pa105, pa119, pa120, pa106, pa107, pa108, pa109, pa110, pa111, pa116, pa118, pa104, pa112, pa114, pa115, pa117, pa113, pa121, pf102_5, pf102_13, pf102_14, pf102_0, pf102_6, pf102_7, pf102_8, pf102_9, pf102_10, pf102_11, pf102_12, pf102_15, pf102_19, pf102_20, s_within, t_isLost, t_fallen, t_isHurt, t_between]
theorem t_standNow (hF : bFix g) (hD : 1 ≤ D) :
    bk_call D 4035 [.ref 102] (bk_M κ X (tp, tj, ts, tk) g n) = some (some (.int (bk_i (6 * tp 103 42 + tp 103 43))), bk_M κ X (tp, tj, ts, tk) g n) := by
  obtain ⟨d, rfl⟩ := dep hD
  rw [kX4_standNow, eX4_standNow_0]
  simp (disch := first | assumption | omega) only [bi_add, bi_sub, bi_mul, bi_neg, bi_div, bi_64, bl_add, bl_sub, bl_mul, bl_neg, bl_div, bl_32, bi_min, bi_max, bl_min, bl_max, bq_I, bq_J, bq_A, bq_Vi, bq_Vl, bq_Vr, bq_cV, bq_cI, bq_cJ, bq_cA, bq_le, bq_lt, bq_eq, bq_z, bq_o, bq_ref, bq_nz, bq_nzJ, bq_bl, bq_blz, bq_T, bq_F, if_true, if_false, Int.reduceEq, Int.reduceLT, Int.reduceLE, Int.reduceAdd, Int.reduceSub, Int.reduceMul, Int.add_sub_cancel, li_0, li_1, li_4, li_6, li_42, li_43, li_100, li_4035, ll_0, ll_1, ll_4, ll_6, ll_42, ll_43, ll_100, ga103, ga105, ga119, ga120, ga106, ga107, ga108, ga109, ga110, ga111, ga116, ga118, ga104, ga112, ga114, ga115, ga117, ga113, ga121, gf102_5, gf102_13, gf102_14, gf102_0, gf102_6, gf102_7, gf102_8, gf102_9, gf102_10, gf102_11, gf102_12, gf102_15, gf102_19, gf102_20, gr102_1, gr102_2, gr102_3, gr102_4, gr102_16, gr102_17, gr102_18, gr102_21, gr102_22, gr102_23, gr102_24, gr102_25, gr102_26, gr102_27, gr102_28, gr102_29, gr102_30, gr102_31, gr102_32, pa103, pa105, pa119, pa120, pa106, pa107, pa108, pa109, pa110, pa111, pa116, pa118, pa104, pa112, pa114, pa115, pa117, pa113, pa121, pf102_5, pf102_13, pf102_14, pf102_0, pf102_6, pf102_7, pf102_8, pf102_9, pf102_10, pf102_11, pf102_12, pf102_15, pf102_19, pf102_20, s_within, t_isLost, t_fallen, t_isHurt, t_between]
theorem t_standsAll (hF : bFix g) (hD : 1 ≤ D) :
    bk_call D 4069 [.ref 102] (bk_M κ X (tp, tj, ts, tk) g n) = some (some (.int (bk_i (6 * tp 103 1))), bk_M κ X (tp, tj, ts, tk) g n) := by
  obtain ⟨d, rfl⟩ := dep hD
  rw [kX4_standsAll, eX4_standsAll_0]
  simp (disch := first | assumption | omega) only [bi_add, bi_sub, bi_mul, bi_neg, bi_div, bi_64, bl_add, bl_sub, bl_mul, bl_neg, bl_div, bl_32, bi_min, bi_max, bl_min, bl_max, bq_I, bq_J, bq_A, bq_Vi, bq_Vl, bq_Vr, bq_cV, bq_cI, bq_cJ, bq_cA, bq_le, bq_lt, bq_eq, bq_z, bq_o, bq_ref, bq_nz, bq_nzJ, bq_bl, bq_blz, bq_T, bq_F, if_true, if_false, Int.reduceEq, Int.reduceLT, Int.reduceLE, Int.reduceAdd, Int.reduceSub, Int.reduceMul, Int.add_sub_cancel, li_0, li_1, li_4, li_6, li_100, li_4069, ll_0, ll_1, ll_4, ll_6, ll_100, ga103, ga105, ga119, ga120, ga106, ga107, ga108, ga109, ga110, ga111, ga116, ga118, ga104, ga112, ga114, ga115, ga117, ga113, ga121, gf102_5, gf102_13, gf102_14, gf102_0, gf102_6, gf102_7, gf102_8, gf102_9, gf102_10, gf102_11, gf102_12, gf102_15, gf102_19, gf102_20, gr102_1, gr102_2, gr102_3, gr102_4, gr102_16, gr102_17, gr102_18, gr102_21, gr102_22, gr102_23, gr102_24, gr102_25, gr102_26, gr102_27, gr102_28, gr102_29, gr102_30, gr102_31, gr102_32, pa103, pa105, pa119, pa120, pa106, pa107, pa108, pa109, pa110, pa111, pa116, pa118, pa104, pa112, pa114, pa115, pa117, pa113, pa121, pf102_5, pf102_13, pf102_14, pf102_0, pf102_6, pf102_7, pf102_8, pf102_9, pf102_10, pf102_11, pf102_12, pf102_15, pf102_19, pf102_20, s_within, t_isLost, t_fallen, t_isHurt, t_between]
theorem t_whyBy (hF : bFix g) (hw : bWF (tp 103) 0) {rop sl : Int} (h1 : 0 ≤ p) (h2 : p < tp 103 2) (h3 : 0 ≤ s) (h4 : s < 36) (h5 : 0 ≤ sl) (h6 : sl ≤ 9) (hD : 3 ≤ D) :
    ∃ ts', (∀ a, a ≠ 107 → a ≠ 108 → ts' a = ts a) ∧ bk_call D 4036 [.ref 102, .int (bk_i s), .int (bk_i p), .int (bk_i rop), .int (bk_i sl)] (bk_M κ X (tp, tj, ts, tk) g n)
      = some (some (.int (bk_i (whyM (tp 103) s p rop sl))), bk_M κ X (tp, tj, ts', tk) g n) := by
  obtain ⟨d, rfl⟩ := dep hD
  have w4 : tp 103 2 ≤ 8 := by have := hw.2.2.2.1; simpa using this
  have w9' := hw.2.2.2.2.2.2.2.2.1 p h1 (by simpa using h2)
  have w2 := hw.2.1
  have w5 := hw.2.2.2.2.2.2.2.1
  simp only [Int.zero_add] at w9' w2 w5
  unfold whyM
  by_cases q : tp 103 (10 + p) = s / 6 ∨ (tp 103 (34 + p) = 1 ∧ tp 103 (18 + p) = s / 6)
  · rw [if_pos q]
    have key : ∃ ts', (∀ a, a ≠ 107 → a ≠ 108 → ts' a = ts a) ∧ ∀ v5, bk_den TX4_whyBy (bk_call d) 48 [.ref 102, .int (bk_i s), .int (bk_i p), .int (bk_i rop), .int (bk_i sl), .int v5] [] (bk_M κ X (tp, tj, ts, tk) g n) = some (some (.int (bk_i (if s % 6 = 5 then 3 else if tp 103 5 = 0 ∨ eV (mW (tp 103) s p rop sl) (mL (tp 103) 0 1) = 1 then 0 else 4))), bk_M κ X (tp, tj, ts', tk) g n) := by
      by_cases q2 : s % 6 = 5
      · refine ⟨ts, fun _ _ _ => rfl, fun v5 => ?_⟩
        rw [if_pos q2, eX4_whyBy_48]
        simp (disch := first | assumption | omega) only [if_pos q2, bi_add, bi_sub, bi_mul, bi_neg, bi_div, bi_64, bl_add, bl_sub, bl_mul, bl_neg, bl_div, bl_32, bi_min, bi_max, bl_min, bl_max, bq_I, bq_J, bq_A, bq_Vi, bq_Vl, bq_Vr, bq_cV, bq_cI, bq_cJ, bq_cA, bq_le, bq_lt, bq_eq, bq_z, bq_o, bq_ref, bq_nz, bq_nzJ, bq_bl, bq_blz, bq_T, bq_F, if_true, if_false, Int.reduceEq, Int.reduceLT, Int.reduceLE, Int.reduceAdd, Int.reduceSub, Int.reduceMul, Int.add_sub_cancel, li_0, li_1, li_2, li_3, li_4, li_5, li_6, li_10, li_18, li_34, li_48, li_80, li_100, li_4036, li_4037, li_4038, ll_0, ll_1, ll_2, ll_3, ll_4, ll_5, ll_6, ll_10, ll_18, ll_34, ll_48, ll_80, ll_100, ga103, ga105, ga119, ga120, ga106, ga107, ga108, ga109, ga110, ga111, ga116, ga118, ga104, ga112, ga114, ga115, ga117, ga113, ga121, gf102_5, gf102_13, gf102_14, gf102_0, gf102_6, gf102_7, gf102_8, gf102_9, gf102_10, gf102_11, gf102_12, gf102_15, gf102_19, gf102_20, gr102_1, gr102_2, gr102_3, gr102_4, gr102_16, gr102_17, gr102_18, gr102_21, gr102_22, gr102_23, gr102_24, gr102_25, gr102_26, gr102_27, gr102_28, gr102_29, gr102_30, gr102_31, gr102_32, pa103, pa105, pa119, pa120, pa106, pa107, pa108, pa109, pa110, pa111, pa116, pa118, pa104, pa112, pa114, pa115, pa117, pa113, pa121, pf102_5, pf102_13, pf102_14, pf102_0, pf102_6, pf102_7, pf102_8, pf102_9, pf102_10, pf102_11, pf102_12, pf102_15, pf102_19, pf102_20, s_within, t_isLost, t_fallen, t_isHurt, t_between, t_isPassage, t_isRoom, t_standNow, t_standsAll]
      · rw [if_neg q2]
        by_cases q3 : tp 103 5 = 0
        · refine ⟨ts, fun _ _ _ => rfl, fun v5 => ?_⟩
          rw [if_pos (Or.inl q3), eX4_whyBy_48]
          simp (disch := first | assumption | omega) only [if_neg q2, if_pos q3, eX4_whyBy_80, bi_add, bi_sub, bi_mul, bi_neg, bi_div, bi_64, bl_add, bl_sub, bl_mul, bl_neg, bl_div, bl_32, bi_min, bi_max, bl_min, bl_max, bq_I, bq_J, bq_A, bq_Vi, bq_Vl, bq_Vr, bq_cV, bq_cI, bq_cJ, bq_cA, bq_le, bq_lt, bq_eq, bq_z, bq_o, bq_ref, bq_nz, bq_nzJ, bq_bl, bq_blz, bq_T, bq_F, if_true, if_false, Int.reduceEq, Int.reduceLT, Int.reduceLE, Int.reduceAdd, Int.reduceSub, Int.reduceMul, Int.add_sub_cancel, li_0, li_1, li_2, li_3, li_4, li_5, li_6, li_10, li_18, li_34, li_48, li_80, li_100, li_4036, li_4037, li_4038, ll_0, ll_1, ll_2, ll_3, ll_4, ll_5, ll_6, ll_10, ll_18, ll_34, ll_48, ll_80, ll_100, ga103, ga105, ga119, ga120, ga106, ga107, ga108, ga109, ga110, ga111, ga116, ga118, ga104, ga112, ga114, ga115, ga117, ga113, ga121, gf102_5, gf102_13, gf102_14, gf102_0, gf102_6, gf102_7, gf102_8, gf102_9, gf102_10, gf102_11, gf102_12, gf102_15, gf102_19, gf102_20, gr102_1, gr102_2, gr102_3, gr102_4, gr102_16, gr102_17, gr102_18, gr102_21, gr102_22, gr102_23, gr102_24, gr102_25, gr102_26, gr102_27, gr102_28, gr102_29, gr102_30, gr102_31, gr102_32, pa103, pa105, pa119, pa120, pa106, pa107, pa108, pa109, pa110, pa111, pa116, pa118, pa104, pa112, pa114, pa115, pa117, pa113, pa121, pf102_5, pf102_13, pf102_14, pf102_0, pf102_6, pf102_7, pf102_8, pf102_9, pf102_10, pf102_11, pf102_12, pf102_15, pf102_19, pf102_20, s_within, t_isLost, t_fallen, t_isHurt, t_between, t_isPassage, t_isRoom, t_standNow, t_standsAll]
        · have ht5 : tp 103 (4 + 1) = 1 := by
            show tp 103 5 = 1
            omega
          obtain ⟨ts', f1, e1⟩ := t_reckons (κ := κ) (X := X) (ts := ts) (tj := tj) (tk := tk) (n := n) (rop := rop) (sl := sl) (D := d) hF hw (Or.inr rfl) ht5 h1 h2 h3 h4 h5 h6 (by omega) (by omega)
          refine ⟨ts', f1, fun v5 => ?_⟩
          have r := law_rng (rop := rop) hw (Or.inr rfl) ht5 h1 h2 h3 h4 h5 h6
          rw [eX4_whyBy_48]
          simp (disch := first | assumption | omega) only [if_neg q2, if_neg q3, e1, bi_add, bi_sub, bi_mul, bi_neg, bi_div, bi_64, bl_add, bl_sub, bl_mul, bl_neg, bl_div, bl_32, bi_min, bi_max, bl_min, bl_max, bq_I, bq_J, bq_A, bq_Vi, bq_Vl, bq_Vr, bq_cV, bq_cI, bq_cJ, bq_cA, bq_le, bq_lt, bq_eq, bq_z, bq_o, bq_ref, bq_nz, bq_nzJ, bq_bl, bq_blz, bq_T, bq_F, if_true, if_false, Int.reduceEq, Int.reduceLT, Int.reduceLE, Int.reduceAdd, Int.reduceSub, Int.reduceMul, Int.add_sub_cancel, li_0, li_1, li_2, li_3, li_4, li_5, li_6, li_10, li_18, li_34, li_48, li_80, li_100, li_4036, li_4037, li_4038, ll_0, ll_1, ll_2, ll_3, ll_4, ll_5, ll_6, ll_10, ll_18, ll_34, ll_48, ll_80, ll_100, ga103, ga105, ga119, ga120, ga106, ga107, ga108, ga109, ga110, ga111, ga116, ga118, ga104, ga112, ga114, ga115, ga117, ga113, ga121, gf102_5, gf102_13, gf102_14, gf102_0, gf102_6, gf102_7, gf102_8, gf102_9, gf102_10, gf102_11, gf102_12, gf102_15, gf102_19, gf102_20, gr102_1, gr102_2, gr102_3, gr102_4, gr102_16, gr102_17, gr102_18, gr102_21, gr102_22, gr102_23, gr102_24, gr102_25, gr102_26, gr102_27, gr102_28, gr102_29, gr102_30, gr102_31, gr102_32, pa103, pa105, pa119, pa120, pa106, pa107, pa108, pa109, pa110, pa111, pa116, pa118, pa104, pa112, pa114, pa115, pa117, pa113, pa121, pf102_5, pf102_13, pf102_14, pf102_0, pf102_6, pf102_7, pf102_8, pf102_9, pf102_10, pf102_11, pf102_12, pf102_15, pf102_19, pf102_20, s_within, t_isLost, t_fallen, t_isHurt, t_between, t_isPassage, t_isRoom, t_standNow, t_standsAll]
          by_cases q4 : eV (mW (tp 103) s p rop sl) (mL (tp 103) 0 1) = 1
          · rw [if_pos q4, if_pos (Or.inr q4), eX4_whyBy_80]; rfl
          · rw [if_neg q4, if_neg (by omega)]
    obtain ⟨ts', f1, e1⟩ := key
    refine ⟨ts', f1, ?_⟩
    rw [kX4_whyBy, eX4_whyBy_0]
    by_cases q1 : tp 103 (10 + p) = s / 6
    · simp (disch := first | assumption | omega) only [if_pos q1.symm, e1, bi_add, bi_sub, bi_mul, bi_neg, bi_div, bi_64, bl_add, bl_sub, bl_mul, bl_neg, bl_div, bl_32, bi_min, bi_max, bl_min, bl_max, bq_I, bq_J, bq_A, bq_Vi, bq_Vl, bq_Vr, bq_cV, bq_cI, bq_cJ, bq_cA, bq_le, bq_lt, bq_eq, bq_z, bq_o, bq_ref, bq_nz, bq_nzJ, bq_bl, bq_blz, bq_T, bq_F, if_true, if_false, Int.reduceEq, Int.reduceLT, Int.reduceLE, Int.reduceAdd, Int.reduceSub, Int.reduceMul, Int.add_sub_cancel, li_0, li_1, li_2, li_3, li_4, li_5, li_6, li_10, li_18, li_34, li_48, li_80, li_100, li_4036, li_4037, li_4038, ll_0, ll_1, ll_2, ll_3, ll_4, ll_5, ll_6, ll_10, ll_18, ll_34, ll_48, ll_80, ll_100, ga103, ga105, ga119, ga120, ga106, ga107, ga108, ga109, ga110, ga111, ga116, ga118, ga104, ga112, ga114, ga115, ga117, ga113, ga121, gf102_5, gf102_13, gf102_14, gf102_0, gf102_6, gf102_7, gf102_8, gf102_9, gf102_10, gf102_11, gf102_12, gf102_15, gf102_19, gf102_20, gr102_1, gr102_2, gr102_3, gr102_4, gr102_16, gr102_17, gr102_18, gr102_21, gr102_22, gr102_23, gr102_24, gr102_25, gr102_26, gr102_27, gr102_28, gr102_29, gr102_30, gr102_31, gr102_32, pa103, pa105, pa119, pa120, pa106, pa107, pa108, pa109, pa110, pa111, pa116, pa118, pa104, pa112, pa114, pa115, pa117, pa113, pa121, pf102_5, pf102_13, pf102_14, pf102_0, pf102_6, pf102_7, pf102_8, pf102_9, pf102_10, pf102_11, pf102_12, pf102_15, pf102_19, pf102_20, s_within, t_isLost, t_fallen, t_isHurt, t_between, t_isPassage, t_isRoom, t_standNow, t_standsAll]
    · have q2 : tp 103 (18 + p) = s / 6 := by omega
      have q3 : ¬ tp 103 (34 + p) = 0 := by omega
      simp (disch := first | assumption | omega) only [if_neg (fun k => q1 (Eq.symm k)), if_pos q2.symm, if_neg q3, e1, bi_add, bi_sub, bi_mul, bi_neg, bi_div, bi_64, bl_add, bl_sub, bl_mul, bl_neg, bl_div, bl_32, bi_min, bi_max, bl_min, bl_max, bq_I, bq_J, bq_A, bq_Vi, bq_Vl, bq_Vr, bq_cV, bq_cI, bq_cJ, bq_cA, bq_le, bq_lt, bq_eq, bq_z, bq_o, bq_ref, bq_nz, bq_nzJ, bq_bl, bq_blz, bq_T, bq_F, if_true, if_false, Int.reduceEq, Int.reduceLT, Int.reduceLE, Int.reduceAdd, Int.reduceSub, Int.reduceMul, Int.add_sub_cancel, li_0, li_1, li_2, li_3, li_4, li_5, li_6, li_10, li_18, li_34, li_48, li_80, li_100, li_4036, li_4037, li_4038, ll_0, ll_1, ll_2, ll_3, ll_4, ll_5, ll_6, ll_10, ll_18, ll_34, ll_48, ll_80, ll_100, ga103, ga105, ga119, ga120, ga106, ga107, ga108, ga109, ga110, ga111, ga116, ga118, ga104, ga112, ga114, ga115, ga117, ga113, ga121, gf102_5, gf102_13, gf102_14, gf102_0, gf102_6, gf102_7, gf102_8, gf102_9, gf102_10, gf102_11, gf102_12, gf102_15, gf102_19, gf102_20, gr102_1, gr102_2, gr102_3, gr102_4, gr102_16, gr102_17, gr102_18, gr102_21, gr102_22, gr102_23, gr102_24, gr102_25, gr102_26, gr102_27, gr102_28, gr102_29, gr102_30, gr102_31, gr102_32, pa103, pa105, pa119, pa120, pa106, pa107, pa108, pa109, pa110, pa111, pa116, pa118, pa104, pa112, pa114, pa115, pa117, pa113, pa121, pf102_5, pf102_13, pf102_14, pf102_0, pf102_6, pf102_7, pf102_8, pf102_9, pf102_10, pf102_11, pf102_12, pf102_15, pf102_19, pf102_20, s_within, t_isLost, t_fallen, t_isHurt, t_between, t_isPassage, t_isRoom, t_standNow, t_standsAll]
  · refine ⟨ts, fun _ _ _ => rfl, ?_⟩
    rw [if_neg q, kX4_whyBy, eX4_whyBy_0]
    have q1 : ¬ tp 103 (10 + p) = s / 6 := fun k => q (Or.inl k)
    by_cases q2 : tp 103 (18 + p) = s / 6
    · have q3 : tp 103 (34 + p) = 0 := by omega
      simp (disch := first | assumption | omega) only [if_neg (fun k => q1 (Eq.symm k)), if_pos q2.symm, if_pos q3, bi_add, bi_sub, bi_mul, bi_neg, bi_div, bi_64, bl_add, bl_sub, bl_mul, bl_neg, bl_div, bl_32, bi_min, bi_max, bl_min, bl_max, bq_I, bq_J, bq_A, bq_Vi, bq_Vl, bq_Vr, bq_cV, bq_cI, bq_cJ, bq_cA, bq_le, bq_lt, bq_eq, bq_z, bq_o, bq_ref, bq_nz, bq_nzJ, bq_bl, bq_blz, bq_T, bq_F, if_true, if_false, Int.reduceEq, Int.reduceLT, Int.reduceLE, Int.reduceAdd, Int.reduceSub, Int.reduceMul, Int.add_sub_cancel, li_0, li_1, li_2, li_3, li_4, li_5, li_6, li_10, li_18, li_34, li_48, li_80, li_100, li_4036, li_4037, li_4038, ll_0, ll_1, ll_2, ll_3, ll_4, ll_5, ll_6, ll_10, ll_18, ll_34, ll_48, ll_80, ll_100, ga103, ga105, ga119, ga120, ga106, ga107, ga108, ga109, ga110, ga111, ga116, ga118, ga104, ga112, ga114, ga115, ga117, ga113, ga121, gf102_5, gf102_13, gf102_14, gf102_0, gf102_6, gf102_7, gf102_8, gf102_9, gf102_10, gf102_11, gf102_12, gf102_15, gf102_19, gf102_20, gr102_1, gr102_2, gr102_3, gr102_4, gr102_16, gr102_17, gr102_18, gr102_21, gr102_22, gr102_23, gr102_24, gr102_25, gr102_26, gr102_27, gr102_28, gr102_29, gr102_30, gr102_31, gr102_32, pa103, pa105, pa119, pa120, pa106, pa107, pa108, pa109, pa110, pa111, pa116, pa118, pa104, pa112, pa114, pa115, pa117, pa113, pa121, pf102_5, pf102_13, pf102_14, pf102_0, pf102_6, pf102_7, pf102_8, pf102_9, pf102_10, pf102_11, pf102_12, pf102_15, pf102_19, pf102_20, s_within, t_isLost, t_fallen, t_isHurt, t_between, t_isPassage, t_isRoom, t_standNow, t_standsAll]
    · simp (disch := first | assumption | omega) only [if_neg (fun k => q1 (Eq.symm k)), if_neg (fun k => q2 (Eq.symm k)), bi_add, bi_sub, bi_mul, bi_neg, bi_div, bi_64, bl_add, bl_sub, bl_mul, bl_neg, bl_div, bl_32, bi_min, bi_max, bl_min, bl_max, bq_I, bq_J, bq_A, bq_Vi, bq_Vl, bq_Vr, bq_cV, bq_cI, bq_cJ, bq_cA, bq_le, bq_lt, bq_eq, bq_z, bq_o, bq_ref, bq_nz, bq_nzJ, bq_bl, bq_blz, bq_T, bq_F, if_true, if_false, Int.reduceEq, Int.reduceLT, Int.reduceLE, Int.reduceAdd, Int.reduceSub, Int.reduceMul, Int.add_sub_cancel, li_0, li_1, li_2, li_3, li_4, li_5, li_6, li_10, li_18, li_34, li_48, li_80, li_100, li_4036, li_4037, li_4038, ll_0, ll_1, ll_2, ll_3, ll_4, ll_5, ll_6, ll_10, ll_18, ll_34, ll_48, ll_80, ll_100, ga103, ga105, ga119, ga120, ga106, ga107, ga108, ga109, ga110, ga111, ga116, ga118, ga104, ga112, ga114, ga115, ga117, ga113, ga121, gf102_5, gf102_13, gf102_14, gf102_0, gf102_6, gf102_7, gf102_8, gf102_9, gf102_10, gf102_11, gf102_12, gf102_15, gf102_19, gf102_20, gr102_1, gr102_2, gr102_3, gr102_4, gr102_16, gr102_17, gr102_18, gr102_21, gr102_22, gr102_23, gr102_24, gr102_25, gr102_26, gr102_27, gr102_28, gr102_29, gr102_30, gr102_31, gr102_32, pa103, pa105, pa119, pa120, pa106, pa107, pa108, pa109, pa110, pa111, pa116, pa118, pa104, pa112, pa114, pa115, pa117, pa113, pa121, pf102_5, pf102_13, pf102_14, pf102_0, pf102_6, pf102_7, pf102_8, pf102_9, pf102_10, pf102_11, pf102_12, pf102_15, pf102_19, pf102_20, s_within, t_isLost, t_fallen, t_isHurt, t_between, t_isPassage, t_isRoom, t_standNow, t_standsAll]
theorem and1L (x : Int64) : x &&& 1 = 0 ∨ x &&& 1 = 1 := by
  have e : (x &&& 1).toBitVec = x.toBitVec &&& 1#64 := rfl
  have e2 := BitVec.and_one_eq_setWidth_ofBool_getLsbD (x := x.toBitVec)
  rw [← e] at e2
  cases hb : x.toBitVec.getLsbD 0 with
  | false => rw [hb] at e2; exact Or.inl (Int64.toBitVec.inj e2)
  | true => rw [hb] at e2; exact Or.inr (Int64.toBitVec.inj e2)
/-- a set seen as a long: the same members -/
theorem bt_long : ∀ s : Fin 1024, ∀ k : Fin 10, ((bk_l s.val >>> (Int32.toInt64 (bk_i k.val) &&& 63)) &&& 1 = 1) ↔ ((bk_i s.val >>> (bk_i k.val &&& 31)) &&& 1 = 1) := by decide +kernel
theorem t_isIn {k : Int} (h1 : 0 ≤ s) (h2 : s < 1024) (h3 : 0 ≤ k) (h4 : k < 10) (h : bk_H) (hD : 1 ≤ D) : bk_call D 4043 [.long (bk_l s), .int (bk_i k)] h = some (some (.int (bk_i (bz (bt s k = 1)))), h) := by
  obtain ⟨d, rfl⟩ := dep hD
  have q := bt_long ⟨s.toNat, by omega⟩ ⟨k.toNat, by omega⟩
  simp only [Int.toNat_of_nonneg h1, Int.toNat_of_nonneg h3] at q
  have q2 : bt s k = 1 ↔ (bk_i s >>> (bk_i k &&& 31)) &&& 1 = 1 := by
    unfold bt
    rcases and1 (bk_i s >>> (bk_i k &&& 31)) with e | e <;> rw [e] <;> decide
  rw [kX4_isIn, eX4_isIn_0]
  rcases and1L (bk_l s >>> (Int32.toInt64 (bk_i k) &&& 63)) with e | e
  · rw [e] at q ⊢
    have nq : ¬ bt s k = 1 := fun c => absurd (q.mpr (q2.mp c)) (by decide)
    rw [bz_f nq]; rfl
  · rw [e] at q ⊢
    have nq : bt s k = 1 := q2.mpr (q.mp rfl)
    rw [bz_t nq]; rfl
theorem t_goneTo (hF : bFix g) (hw : bWF (tp 103) 0) {rop sl : Int} (h1 : 0 ≤ p) (h2 : p < tp 103 2) (h3 : 0 ≤ s) (h4 : s < 36) (h5 : 0 ≤ sl) (h6 : sl ≤ 9) (h7 : 0 ≤ rop) (h8 : rop < 256) (hl : tp 103 (10 + p) = s / 6 ∨ tp 103 (18 + p) = s / 6) (hD : 3 ≤ D) :
    ∃ ts', (∀ a, a ≠ 107 → a ≠ 108 → ts' a = ts a) ∧ bk_call D 4042 [.ref 102, .int (bk_i s), .int (bk_i p), .int (bk_i rop), .int (bk_i sl)] (bk_M κ X (tp, tj, ts, tk) g n)
      = some (some (.int (bk_i (thenM (tp 103) s p rop sl))), bk_M κ X (tp, tj, ts', tk) g n) := by
  obtain ⟨d, rfl⟩ := dep hD
  have w4 : tp 103 2 ≤ 8 := by have := hw.2.2.2.1; simpa using this
  have w9' := hw.2.2.2.2.2.2.2.2.1 p h1 (by simpa using h2)
  have w2 := hw.2.1
  have w5 := hw.2.2.2.2.2.2.1
  simp only [Int.zero_add] at w9' w2 w5
  have sm : s - s / 6 * 6 = s % 6 := by omega
  have fin : ∀ (c hu : Int) (ts' : bF), -1000000 ≤ hu → hu ≤ 1000000 → bk_den TX4_goneTo (bk_call d) 95 [.ref 102, .int (bk_i s), .int (bk_i p), .int (bk_i rop), .int (bk_i sl), .int (bk_i c), .int (bk_i hu)] [] (bk_M κ X (tp, tj, ts', tk) g n) = some (some (.int (bk_i (6 * c + max 0 (min 5 hu)))), bk_M κ X (tp, tj, ts', tk) g n) := by
    intro c hu ts' r1 r2
    rw [eX4_goneTo_95]
    simp (disch := first | assumption | omega) only [bi_add, bi_sub, bi_mul, bi_neg, bi_div, bi_64, bl_add, bl_sub, bl_mul, bl_neg, bl_div, bl_32, bi_min, bi_max, bl_min, bl_max, bq_I, bq_J, bq_A, bq_Vi, bq_Vl, bq_Vr, bq_cV, bq_cI, bq_cJ, bq_cA, bq_le, bq_lt, bq_eq, bq_z, bq_o, bq_ref, bq_nz, bq_nzJ, bq_bl, bq_blz, bq_T, bq_F, if_true, if_false, Int.reduceEq, Int.reduceLT, Int.reduceLE, Int.reduceAdd, Int.reduceSub, Int.reduceMul, Int.add_sub_cancel, li_0, li_1, li_4, li_5, li_6, li_10, li_18, li_26, li_37, li_95, li_100, li_4038, li_4042, li_4043, ll_0, ll_1, ll_4, ll_5, ll_6, ll_10, ll_18, ll_26, ll_37, ll_95, ll_100, ga103, ga105, ga119, ga120, ga106, ga107, ga108, ga109, ga110, ga111, ga116, ga118, ga104, ga112, ga114, ga115, ga117, ga113, ga121, gf102_5, gf102_13, gf102_14, gf102_0, gf102_6, gf102_7, gf102_8, gf102_9, gf102_10, gf102_11, gf102_12, gf102_15, gf102_19, gf102_20, gr102_1, gr102_2, gr102_3, gr102_4, gr102_16, gr102_17, gr102_18, gr102_21, gr102_22, gr102_23, gr102_24, gr102_25, gr102_26, gr102_27, gr102_28, gr102_29, gr102_30, gr102_31, gr102_32, pa103, pa105, pa119, pa120, pa106, pa107, pa108, pa109, pa110, pa111, pa116, pa118, pa104, pa112, pa114, pa115, pa117, pa113, pa121, pf102_5, pf102_13, pf102_14, pf102_0, pf102_6, pf102_7, pf102_8, pf102_9, pf102_10, pf102_11, pf102_12, pf102_15, pf102_19, pf102_20, s_within, t_isLost, t_fallen, t_isHurt, t_between, t_isPassage, t_isRoom, t_standNow, t_standsAll, t_isIn]
    by_cases q : 0 ≤ hu
    · rw [if_pos q]
      by_cases q2 : hu ≤ 5
      · have e : max 0 (min 5 hu) = hu := by omega
        rw [if_pos q2, e]
      · have e : max 0 (min 5 hu) = 5 := by omega
        rw [if_neg q2, e]
    · have e : max 0 (min 5 hu) = 0 := by omega
      rw [if_neg q, e]
  have key : ∀ c, ∃ ts', (∀ a, a ≠ 107 → a ≠ 108 → ts' a = ts a) ∧ bk_den TX4_goneTo (bk_call d) 37 [.ref 102, .int (bk_i s), .int (bk_i p), .int (bk_i rop), .int (bk_i sl), bk_u, bk_u] [.int (bk_i c)] (bk_M κ X (tp, tj, ts, tk) g n) = some (some (.int (bk_i (6 * c + hurtM (tp 103) s p rop sl))), bk_M κ X (tp, tj, ts', tk) g n) := by
    intro c
    unfold hurtM
    by_cases q : tp 103 4 = 1
    · obtain ⟨ts', f1, e1⟩ := t_reckons (κ := κ) (X := X) (ts := ts) (tj := tj) (tk := tk) (n := n) (rop := rop) (sl := sl) (D := d) hF hw (Or.inl rfl) (show tp 103 (4 + 0) = 1 from q) h1 h2 h3 h4 h5 h6 hl (by omega)
      have r := law_rng (rop := rop) hw (Or.inl rfl) (show tp 103 (4 + 0) = 1 from q) h1 h2 h3 h4 h5 h6
      refine ⟨ts', f1, ?_⟩
      rw [if_pos q, eX4_goneTo_37]
      simp (disch := first | assumption | omega) only [if_pos q, e1, fin _ _ ts' r.1 r.2, bi_add, bi_sub, bi_mul, bi_neg, bi_div, bi_64, bl_add, bl_sub, bl_mul, bl_neg, bl_div, bl_32, bi_min, bi_max, bl_min, bl_max, bq_I, bq_J, bq_A, bq_Vi, bq_Vl, bq_Vr, bq_cV, bq_cI, bq_cJ, bq_cA, bq_le, bq_lt, bq_eq, bq_z, bq_o, bq_ref, bq_nz, bq_nzJ, bq_bl, bq_blz, bq_T, bq_F, if_true, if_false, Int.reduceEq, Int.reduceLT, Int.reduceLE, Int.reduceAdd, Int.reduceSub, Int.reduceMul, Int.add_sub_cancel, li_0, li_1, li_4, li_5, li_6, li_10, li_18, li_26, li_37, li_95, li_100, li_4038, li_4042, li_4043, ll_0, ll_1, ll_4, ll_5, ll_6, ll_10, ll_18, ll_26, ll_37, ll_95, ll_100, ga103, ga105, ga119, ga120, ga106, ga107, ga108, ga109, ga110, ga111, ga116, ga118, ga104, ga112, ga114, ga115, ga117, ga113, ga121, gf102_5, gf102_13, gf102_14, gf102_0, gf102_6, gf102_7, gf102_8, gf102_9, gf102_10, gf102_11, gf102_12, gf102_15, gf102_19, gf102_20, gr102_1, gr102_2, gr102_3, gr102_4, gr102_16, gr102_17, gr102_18, gr102_21, gr102_22, gr102_23, gr102_24, gr102_25, gr102_26, gr102_27, gr102_28, gr102_29, gr102_30, gr102_31, gr102_32, pa103, pa105, pa119, pa120, pa106, pa107, pa108, pa109, pa110, pa111, pa116, pa118, pa104, pa112, pa114, pa115, pa117, pa113, pa121, pf102_5, pf102_13, pf102_14, pf102_0, pf102_6, pf102_7, pf102_8, pf102_9, pf102_10, pf102_11, pf102_12, pf102_15, pf102_19, pf102_20, s_within, t_isLost, t_fallen, t_isHurt, t_between, t_isPassage, t_isRoom, t_standNow, t_standsAll, t_isIn]
    · refine ⟨ts, fun _ _ _ => rfl, ?_⟩
      rw [if_neg q, eX4_goneTo_37]
      have f0 := fin c (s % 6) ts (by omega) (by omega)
      have f1 := fin c (s % 6 + 1) ts (by omega) (by omega)
      have b01 := bt_01 rop p
      simp (disch := first | assumption | omega) only [if_neg q, sm, bi_add, bi_sub, bi_mul, bi_neg, bi_div, bi_64, bl_add, bl_sub, bl_mul, bl_neg, bl_div, bl_32, bi_min, bi_max, bl_min, bl_max, bq_I, bq_J, bq_A, bq_Vi, bq_Vl, bq_Vr, bq_cV, bq_cI, bq_cJ, bq_cA, bq_le, bq_lt, bq_eq, bq_z, bq_o, bq_ref, bq_nz, bq_nzJ, bq_bl, bq_blz, bq_T, bq_F, if_true, if_false, Int.reduceEq, Int.reduceLT, Int.reduceLE, Int.reduceAdd, Int.reduceSub, Int.reduceMul, Int.add_sub_cancel, li_0, li_1, li_4, li_5, li_6, li_10, li_18, li_26, li_37, li_95, li_100, li_4038, li_4042, li_4043, ll_0, ll_1, ll_4, ll_5, ll_6, ll_10, ll_18, ll_26, ll_37, ll_95, ll_100, ga103, ga105, ga119, ga120, ga106, ga107, ga108, ga109, ga110, ga111, ga116, ga118, ga104, ga112, ga114, ga115, ga117, ga113, ga121, gf102_5, gf102_13, gf102_14, gf102_0, gf102_6, gf102_7, gf102_8, gf102_9, gf102_10, gf102_11, gf102_12, gf102_15, gf102_19, gf102_20, gr102_1, gr102_2, gr102_3, gr102_4, gr102_16, gr102_17, gr102_18, gr102_21, gr102_22, gr102_23, gr102_24, gr102_25, gr102_26, gr102_27, gr102_28, gr102_29, gr102_30, gr102_31, gr102_32, pa103, pa105, pa119, pa120, pa106, pa107, pa108, pa109, pa110, pa111, pa116, pa118, pa104, pa112, pa114, pa115, pa117, pa113, pa121, pf102_5, pf102_13, pf102_14, pf102_0, pf102_6, pf102_7, pf102_8, pf102_9, pf102_10, pf102_11, pf102_12, pf102_15, pf102_19, pf102_20, s_within, t_isLost, t_fallen, t_isHurt, t_between, t_isPassage, t_isRoom, t_standNow, t_standsAll, t_isIn]
      by_cases q2 : tp 103 (26 + p) ≤ 4
      · have e : max 0 (min 5 (s % 6)) = min 5 (s % 6) := by omega
        rw [if_pos q2, f0, if_neg (by omega), e]
      · rw [if_neg q2]
        by_cases q3 : bt rop p = 1
        · have e : max 0 (min 5 (s % 6)) = min 5 (s % 6) := by omega
          rw [if_pos q3, f0, if_neg (by omega), e]
        · have e : max 0 (min 5 (s % 6 + 1)) = min 5 (s % 6 + 1) := by omega
          rw [if_neg q3, f1, if_pos (by omega), e]
  unfold thenM
  by_cases q : tp 103 (10 + p) = s / 6
  · obtain ⟨ts', f1, e1⟩ := key (tp 103 (18 + p))
    refine ⟨ts', f1, ?_⟩
    rw [if_pos q, kX4_goneTo, eX4_goneTo_0]
    simp (disch := first | assumption | omega) only [if_pos q.symm, e1, bi_add, bi_sub, bi_mul, bi_neg, bi_div, bi_64, bl_add, bl_sub, bl_mul, bl_neg, bl_div, bl_32, bi_min, bi_max, bl_min, bl_max, bq_I, bq_J, bq_A, bq_Vi, bq_Vl, bq_Vr, bq_cV, bq_cI, bq_cJ, bq_cA, bq_le, bq_lt, bq_eq, bq_z, bq_o, bq_ref, bq_nz, bq_nzJ, bq_bl, bq_blz, bq_T, bq_F, if_true, if_false, Int.reduceEq, Int.reduceLT, Int.reduceLE, Int.reduceAdd, Int.reduceSub, Int.reduceMul, Int.add_sub_cancel, li_0, li_1, li_4, li_5, li_6, li_10, li_18, li_26, li_37, li_95, li_100, li_4038, li_4042, li_4043, ll_0, ll_1, ll_4, ll_5, ll_6, ll_10, ll_18, ll_26, ll_37, ll_95, ll_100, ga103, ga105, ga119, ga120, ga106, ga107, ga108, ga109, ga110, ga111, ga116, ga118, ga104, ga112, ga114, ga115, ga117, ga113, ga121, gf102_5, gf102_13, gf102_14, gf102_0, gf102_6, gf102_7, gf102_8, gf102_9, gf102_10, gf102_11, gf102_12, gf102_15, gf102_19, gf102_20, gr102_1, gr102_2, gr102_3, gr102_4, gr102_16, gr102_17, gr102_18, gr102_21, gr102_22, gr102_23, gr102_24, gr102_25, gr102_26, gr102_27, gr102_28, gr102_29, gr102_30, gr102_31, gr102_32, pa103, pa105, pa119, pa120, pa106, pa107, pa108, pa109, pa110, pa111, pa116, pa118, pa104, pa112, pa114, pa115, pa117, pa113, pa121, pf102_5, pf102_13, pf102_14, pf102_0, pf102_6, pf102_7, pf102_8, pf102_9, pf102_10, pf102_11, pf102_12, pf102_15, pf102_19, pf102_20, s_within, t_isLost, t_fallen, t_isHurt, t_between, t_isPassage, t_isRoom, t_standNow, t_standsAll, t_isIn]
  · obtain ⟨ts', f1, e1⟩ := key (tp 103 (10 + p))
    refine ⟨ts', f1, ?_⟩
    rw [if_neg q, kX4_goneTo, eX4_goneTo_0]
    simp (disch := first | assumption | omega) only [if_neg (fun k => q (Eq.symm k)), e1, bi_add, bi_sub, bi_mul, bi_neg, bi_div, bi_64, bl_add, bl_sub, bl_mul, bl_neg, bl_div, bl_32, bi_min, bi_max, bl_min, bl_max, bq_I, bq_J, bq_A, bq_Vi, bq_Vl, bq_Vr, bq_cV, bq_cI, bq_cJ, bq_cA, bq_le, bq_lt, bq_eq, bq_z, bq_o, bq_ref, bq_nz, bq_nzJ, bq_bl, bq_blz, bq_T, bq_F, if_true, if_false, Int.reduceEq, Int.reduceLT, Int.reduceLE, Int.reduceAdd, Int.reduceSub, Int.reduceMul, Int.add_sub_cancel, li_0, li_1, li_4, li_5, li_6, li_10, li_18, li_26, li_37, li_95, li_100, li_4038, li_4042, li_4043, ll_0, ll_1, ll_4, ll_5, ll_6, ll_10, ll_18, ll_26, ll_37, ll_95, ll_100, ga103, ga105, ga119, ga120, ga106, ga107, ga108, ga109, ga110, ga111, ga116, ga118, ga104, ga112, ga114, ga115, ga117, ga113, ga121, gf102_5, gf102_13, gf102_14, gf102_0, gf102_6, gf102_7, gf102_8, gf102_9, gf102_10, gf102_11, gf102_12, gf102_15, gf102_19, gf102_20, gr102_1, gr102_2, gr102_3, gr102_4, gr102_16, gr102_17, gr102_18, gr102_21, gr102_22, gr102_23, gr102_24, gr102_25, gr102_26, gr102_27, gr102_28, gr102_29, gr102_30, gr102_31, gr102_32, pa103, pa105, pa119, pa120, pa106, pa107, pa108, pa109, pa110, pa111, pa116, pa118, pa104, pa112, pa114, pa115, pa117, pa113, pa121, pf102_5, pf102_13, pf102_14, pf102_0, pf102_6, pf102_7, pf102_8, pf102_9, pf102_10, pf102_11, pf102_12, pf102_15, pf102_19, pf102_20, s_within, t_isLost, t_fallen, t_isHurt, t_between, t_isPassage, t_isRoom, t_standNow, t_standsAll, t_isIn]
end TW
