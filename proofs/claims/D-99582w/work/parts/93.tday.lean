/-! SPECS: a day of drawn deeds: the twin -/
set_option maxRecDepth 100000
theorem mW_congr {A A' : Int → Int} (h : ∀ k, k < 42 ∨ 98 ≤ k → A' k = A k) {s p rop sl : Int} (p1 : p < 8) : mW A' s p rop sl = mW A s p rop sl := by
  funext k
  unfold mW
  rw [h (26 + p) (by omega), h (10 + p) (by omega), h (18 + p) (by omega)]
theorem whyM_congr {A A' : Int → Int} (h : ∀ k, k < 42 ∨ 98 ≤ k → A' k = A k) (hw : bWF A 0) {s p rop sl : Int} (p1 : p < 8) : whyM A' s p rop sl = whyM A s p rop sl := by
  unfold whyM
  rw [mW_congr h p1, h (10 + p) (by omega), h (34 + p) (by omega), h (18 + p) (by omega), h 5 (by omega)]
  by_cases c : A 5 = 1
  · have l1 : mL A' 0 1 = mL A 0 1 := mL_congr h (Or.inr rfl) (by have := (hw.2.2.2.2.2.2.2.2.2.2 (by simpa using c)).1; simpa using this)
    rw [l1]
  · have c0 : A 5 = 0 := by
      have := hw.2.2.2.2.2.2.2.1
      simp only [Int.zero_add] at this
      omega
    simp only [c0, true_or, if_true]
theorem thenM_congr {A A' : Int → Int} (h : ∀ k, k < 42 ∨ 98 ≤ k → A' k = A k) (hw : bWF A 0) {s p rop sl : Int} (p1 : p < 8) : thenM A' s p rop sl = thenM A s p rop sl := by
  unfold thenM hurtM
  rw [mW_congr h p1, h (10 + p) (by omega), h (18 + p) (by omega), h (26 + p) (by omega), h 4 (by omega)]
  by_cases c : A 4 = 1
  · have l0 : mL A' 0 0 = mL A 0 0 := mL_congr h (Or.inl rfl) (by have := (hw.2.2.2.2.2.2.2.2.2.1 (by simpa using c)).1; simpa using this)
    rw [l0]
  · rw [if_neg c, if_neg c]
theorem whyD_congr {A A' S : Int → Int} (h : ∀ k, k < 42 ∨ 98 ≤ k → A' k = A k) (hw : bWF A 0) {y : Int} : whyD A' S y = whyD A S y := by
  have w4 : A 2 ≤ 8 := by have := hw.2.2.2.1; simpa using this
  have g : whyG A' (S 0) (S 1) (S 2) y = whyG A (S 0) (S 1) (S 2) y := by
    unfold whyG
    rw [h 2 (by omega)]
    by_cases c : 0 ≤ y ∧ y ≤ A 2 - 1
    · rw [if_pos c, if_pos c, whyM_congr h hw (by omega)]
    · rw [if_neg c, if_neg c]
  unfold whyD
  rw [g, h 1 (by omega), h 2 (by omega)]
theorem doD_congr {A A' S : Int → Int} (h : ∀ k, k < 42 ∨ 98 ≤ k → A' k = A k) (hw : bWF A 0) {y : Int} (hy : whyD A S y = 0) : doD A' S y = doD A S y := by
  have w4 : A 2 ≤ 8 := by have := hw.2.2.2.1; simpa using this
  unfold doD
  by_cases c : y < 10
  · rw [if_pos c, if_pos c, thenM_congr h hw (by have := whyD_0 hy; omega)]
  · rw [if_neg c, if_neg c]
section TY
variable {κ : Nat → Nat} {X : bX} {tp ts : bF} {tj tk : bFJ} {g : bG} {n : Nat × Nat} {m sd : Int} {D : Nat}
theorem m_day (h : bTt g (tp 103)) (m0 : 0 ≤ tp 103 47) (m1 : tp 103 47 ≤ 10) (h3 : -2147483648 ≤ m) (h4 : m < 2147483648) (hD : 8 ≤ D) :
    bk_wp (bk_call D 4062 [.ref 102, .int (bk_i sd), .int (bk_i m)] (bk_M κ X (tp, tj, ts, tk) g n)) (bTd κ X tp tj g n ((1 ≤ m ∧ m ≤ 40) ∧ (dy (tp 103) (tS (tp 103)) sd m.toNat).2.2 ≠ 0) (if 1 ≤ m ∧ m ≤ 40 then 0 else -3)
      (fv ((dy (tp 103) (tS (tp 103)) sd m.toNat).1 0 / 6) ((dy (tp 103) (tS (tp 103)) sd m.toNat).1 0 % 6) ((dy (tp 103) (tS (tp 103)) sd m.toNat).1 1) ((dy (tp 103) (tS (tp 103)) sd m.toNat).1 2) ((dy (tp 103) (tS (tp 103)) sd m.toNat).1 3)) ((dy (tp 103) (tS (tp 103)) sd m.toNat).2.2)) := by
  obtain ⟨d, rfl⟩ := dep hD
  obtain ⟨hF, hw, hs⟩ := h
  have dk := dy_ok (sd := sd) hw (tS_ok hs)
  obtain ⟨ts1, f1, k1, e1⟩ := t_keeps (κ := κ) (X := X) (tp := tp) (ts := bU ts 102 0 0) (tj := tj) (tk := tk) (n := n) (D := d) hF (by omega)
  rw [kX4_day, eX4_day_0]
  by_cases q : 1 ≤ m ∧ m ≤ 40
  · simp (disch := first | assumption | omega) only [if_pos q, e1, bi_add, bi_sub, bi_mul, bi_neg, bi_div, bi_64, bl_add, bl_sub, bl_mul, bl_neg, bl_div, bl_32, bi_min, bi_max, bl_min, bl_max, bq_I, bq_J, bq_A, bq_Vi, bq_Vl, bq_Vr, bq_cV, bq_cI, bq_cJ, bq_cA, bq_le, bq_lt, bq_eq, bq_z, bq_o, bq_ref, bq_nz, bq_nzJ, bq_bl, bq_blz, bq_T, bq_F, if_true, if_false, Int.reduceEq, Int.reduceLT, Int.reduceLE, Int.reduceAdd, Int.reduceSub, Int.reduceMul, Int.add_sub_cancel, li_0, li_1, li_3, li_4, li_20, li_34, li_40, li_68, li_4004, li_4045, li_4048, li_4058, li_4059, li_4062, li_4063, ll_0, ll_1, ll_3, ll_4, ll_20, ll_34, ll_40, ll_68, ga103, ga105, ga119, ga120, ga106, ga107, ga108, ga109, ga110, ga111, ga116, ga118, ga104, ga112, ga114, ga115, ga117, ga113, ga121, gf102_5, gf102_13, gf102_14, gf102_0, gf102_6, gf102_7, gf102_8, gf102_9, gf102_10, gf102_11, gf102_12, gf102_15, gf102_19, gf102_20, gr102_1, gr102_2, gr102_3, gr102_4, gr102_16, gr102_17, gr102_18, gr102_21, gr102_22, gr102_23, gr102_24, gr102_25, gr102_26, gr102_27, gr102_28, gr102_29, gr102_30, gr102_31, gr102_32, pa103, pa105, pa119, pa120, pa106, pa107, pa108, pa109, pa110, pa111, pa116, pa118, pa104, pa112, pa114, pa115, pa117, pa113, pa121, pf102_5, pf102_13, pf102_14, pf102_0, pf102_6, pf102_7, pf102_8, pf102_9, pf102_10, pf102_11, pf102_12, pf102_15, pf102_19, pf102_20, s_within, t_isLost, t_fallen, t_isHurt, t_between, t_isPassage, t_isRoom, t_standNow, t_standsAll, t_isIn, t_noComing, t_noStand, t_bitsOf, u_tens4109, t_draw]
    refine bk_loop (σ := bF × bF × Value) (fun j x => bk_den TX4_day (bk_call d) 34 [.ref 102, .int (bk_i sd), .int (bk_i m), .int (bk_i (dy (tp 103) (tS (tp 103)) sd j.toNat).2.2), .int (bk_i j), x.2.2] [] (bk_M κ X (x.1, tj, x.2.1, tk) g n))
      (fun j x => 0 ≤ j ∧ (∀ a, a ≠ 103 → x.1 a = tp a) ∧ (∀ k, k < 42 ∨ 47 ≤ k → x.1 103 k = tp 103 k) ∧ (∀ k, 0 ≤ k → k < 4 → tS (x.1 103) k = (dy (tp 103) (tS (tp 103)) sd j.toNat).1 k) ∧ bSt (x.1 103) 42 (x.1 103 1) ∧ x.2.1 102 20 = (dy (tp 103) (tS (tp 103)) sd j.toNat).2.1 ∧ (∀ i, 0 ≤ i → i < 5 → x.2.1 109 i = tp 103 (42 + i)) ∧ ((dy (tp 103) (tS (tp 103)) sd j.toNat).2.2 = 0 → x.1 = tp)) m ?_ ?_ 0 (tp, bU ts1 102 20 sd, bk_u) (by omega) ⟨by omega, fun _ _ => rfl, fun _ _ => rfl, fun _ _ _ => rfl, hs, rfl, fun i i0 i1 => by show bU ts1 102 20 sd 109 i = _; rw [bU_ne _ _ _ _ _ _ (by decide)]; exact k1 i i0 i1, fun _ => rfl⟩
    · rintro j ⟨x, t, w⟩ hj ⟨j0, xa, xb, xc, xs, xz, xw, x0⟩ cont
      dsimp only at xa xb xc xs xz xw x0 ⊢
      have dj := dk j.toNat
      have hcg : ∀ k, k < 42 ∨ 98 ≤ k → x 103 k = tp 103 k := fun k hk => xb k (by omega)
      have hx : bTt g (x 103) := ⟨hF, bWF_congr hcg hw, xs⟩
      obtain ⟨t1, g1, z1, e1⟩ := t_drawn (κ := κ) (X := X) (tp := x) (ts := t) (tj := tj) (tk := tk) (g := g) (n := n) (D := d) (by omega)
      rw [xz] at e1 z1
      have dv := dwV_rng (dy (tp 103) (tS (tp 103)) sd j.toNat).2.1
      obtain ⟨t2, g2, e2⟩ := t_whyNot (κ := κ) (X := X) (tp := x) (ts := t1) (tj := tj) (tk := tk) (n := n) (D := d) (y := dwV (dy (tp 103) (tS (tp 103)) sd j.toNat).2.1) hx (by omega) (by omega) (by omega)
      have ey : whyD (x 103) (tS (x 103)) (dwV (dy (tp 103) (tS (tp 103)) sd j.toNat).2.1) = whyD (tp 103) (dy (tp 103) (tS (tp 103)) sd j.toNat).1 (dwV (dy (tp 103) (tS (tp 103)) sd j.toNat).2.1) := (whyD_congr hcg hw).trans (whyD_ext xc)
      have ds := dy_succ (A := tp 103) (S := tS (tp 103)) (sd := sd) j0
      rw [ey] at e2
      rw [eX4_day_34]
      by_cases c : whyD (tp 103) (dy (tp 103) (tS (tp 103)) sd j.toNat).1 (dwV (dy (tp 103) (tS (tp 103)) sd j.toNat).2.1) = 0
      · rw [c] at e2
        rw [if_pos c] at ds
        obtain ⟨x3, t3, g3, ⟨y1, y2, y3, y4⟩, e3⟩ := t_does (κ := κ) (X := X) (tp := x) (ts := t2) (tj := tj) (tk := tk) (n := n) (D := d) hx (ey.trans c) (by omega)
        have ct := cont (x3, t3, .int (bk_i (dwV (dy (tp 103) (tS (tp 103)) sd j.toNat).2.1))) ⟨by omega, fun a ha => (y1 a ha).trans (xa a ha), fun k hk => (y2 k hk).trans (xb k hk), fun k k0 k1 => by rw [ds]; exact (y3 k k0 k1).trans (congrFun ((doD_congr hcg hw ((whyD_ext xc).trans c)).trans (doD_ext xc)) k), y4, by rw [ds]; show t3 102 20 = _; rw [g3 102 (by decide) (by decide), g2 102 (by decide) (by decide)]; exact z1, fun i i0 i1 => by show t3 109 i = _; rw [g3 109 (by decide) (by decide), g2 109 (by decide) (by decide), g1 109 (by decide)]; exact xw i i0 i1, fun z => by rw [ds] at z; dsimp only at z; omega⟩
        rw [ds] at ct
        simp (disch := first | assumption | omega) only [if_neg (show ¬ m ≤ j by omega), e1, e2, e3, eX4_day_68, bi_add, bi_sub, bi_mul, bi_neg, bi_div, bi_64, bl_add, bl_sub, bl_mul, bl_neg, bl_div, bl_32, bi_min, bi_max, bl_min, bl_max, bq_I, bq_J, bq_A, bq_Vi, bq_Vl, bq_Vr, bq_cV, bq_cI, bq_cJ, bq_cA, bq_le, bq_lt, bq_eq, bq_z, bq_o, bq_ref, bq_nz, bq_nzJ, bq_bl, bq_blz, bq_T, bq_F, if_true, if_false, Int.reduceEq, Int.reduceLT, Int.reduceLE, Int.reduceAdd, Int.reduceSub, Int.reduceMul, Int.add_sub_cancel, li_0, li_1, li_3, li_4, li_20, li_34, li_40, li_68, li_4004, li_4045, li_4048, li_4058, li_4059, li_4062, li_4063, ll_0, ll_1, ll_3, ll_4, ll_20, ll_34, ll_40, ll_68, ga103, ga105, ga119, ga120, ga106, ga107, ga108, ga109, ga110, ga111, ga116, ga118, ga104, ga112, ga114, ga115, ga117, ga113, ga121, gf102_5, gf102_13, gf102_14, gf102_0, gf102_6, gf102_7, gf102_8, gf102_9, gf102_10, gf102_11, gf102_12, gf102_15, gf102_19, gf102_20, gr102_1, gr102_2, gr102_3, gr102_4, gr102_16, gr102_17, gr102_18, gr102_21, gr102_22, gr102_23, gr102_24, gr102_25, gr102_26, gr102_27, gr102_28, gr102_29, gr102_30, gr102_31, gr102_32, pa103, pa105, pa119, pa120, pa106, pa107, pa108, pa109, pa110, pa111, pa116, pa118, pa104, pa112, pa114, pa115, pa117, pa113, pa121, pf102_5, pf102_13, pf102_14, pf102_0, pf102_6, pf102_7, pf102_8, pf102_9, pf102_10, pf102_11, pf102_12, pf102_15, pf102_19, pf102_20, s_within, t_isLost, t_fallen, t_isHurt, t_between, t_isPassage, t_isRoom, t_standNow, t_standsAll, t_isIn, t_noComing, t_noStand, t_bitsOf, u_tens4109, t_draw]
        exact ct
      · rw [if_neg c] at ds
        have ct := cont (x, t2, .int (bk_i (dwV (dy (tp 103) (tS (tp 103)) sd j.toNat).2.1))) ⟨by omega, xa, xb, fun k k0 k1 => by rw [ds]; exact xc k k0 k1, xs, by rw [ds]; show t2 102 20 = _; rw [g2 102 (by decide) (by decide)]; exact z1, fun i i0 i1 => by show t2 109 i = _; rw [g2 109 (by decide) (by decide), g1 109 (by decide)]; exact xw i i0 i1, fun z => by rw [ds] at z; exact x0 z⟩
        rw [ds] at ct
        have wr : 0 ≤ whyD (tp 103) (dy (tp 103) (tS (tp 103)) sd j.toNat).1 (dwV (dy (tp 103) (tS (tp 103)) sd j.toNat).2.1) ∧ whyD (tp 103) (dy (tp 103) (tS (tp 103)) sd j.toNat).1 (dwV (dy (tp 103) (tS (tp 103)) sd j.toNat).2.1) ≤ 4 := by
          unfold whyD
          have := whyG_rng (tp 103) ((dy (tp 103) (tS (tp 103)) sd j.toNat).1 0) ((dy (tp 103) (tS (tp 103)) sd j.toNat).1 1) ((dy (tp 103) (tS (tp 103)) sd j.toNat).1 2) (dwV (dy (tp 103) (tS (tp 103)) sd j.toNat).2.1)
          repeat' (first | omega | split)
        simp (disch := first | assumption | omega) only [if_neg (show ¬ m ≤ j by omega), e1, e2, if_neg c, eX4_day_68, bi_add, bi_sub, bi_mul, bi_neg, bi_div, bi_64, bl_add, bl_sub, bl_mul, bl_neg, bl_div, bl_32, bi_min, bi_max, bl_min, bl_max, bq_I, bq_J, bq_A, bq_Vi, bq_Vl, bq_Vr, bq_cV, bq_cI, bq_cJ, bq_cA, bq_le, bq_lt, bq_eq, bq_z, bq_o, bq_ref, bq_nz, bq_nzJ, bq_bl, bq_blz, bq_T, bq_F, if_true, if_false, Int.reduceEq, Int.reduceLT, Int.reduceLE, Int.reduceAdd, Int.reduceSub, Int.reduceMul, Int.add_sub_cancel, li_0, li_1, li_3, li_4, li_20, li_34, li_40, li_68, li_4004, li_4045, li_4048, li_4058, li_4059, li_4062, li_4063, ll_0, ll_1, ll_3, ll_4, ll_20, ll_34, ll_40, ll_68, ga103, ga105, ga119, ga120, ga106, ga107, ga108, ga109, ga110, ga111, ga116, ga118, ga104, ga112, ga114, ga115, ga117, ga113, ga121, gf102_5, gf102_13, gf102_14, gf102_0, gf102_6, gf102_7, gf102_8, gf102_9, gf102_10, gf102_11, gf102_12, gf102_15, gf102_19, gf102_20, gr102_1, gr102_2, gr102_3, gr102_4, gr102_16, gr102_17, gr102_18, gr102_21, gr102_22, gr102_23, gr102_24, gr102_25, gr102_26, gr102_27, gr102_28, gr102_29, gr102_30, gr102_31, gr102_32, pa103, pa105, pa119, pa120, pa106, pa107, pa108, pa109, pa110, pa111, pa116, pa118, pa104, pa112, pa114, pa115, pa117, pa113, pa121, pf102_5, pf102_13, pf102_14, pf102_0, pf102_6, pf102_7, pf102_8, pf102_9, pf102_10, pf102_11, pf102_12, pf102_15, pf102_19, pf102_20, s_within, t_isLost, t_fallen, t_isHurt, t_between, t_isPassage, t_isRoom, t_standNow, t_standsAll, t_isIn, t_noComing, t_noStand, t_bitsOf, u_tens4109, t_draw]
        exact ct
    · rintro ⟨x, t, w⟩ ⟨j0, xa, xb, xc, xs, xz, xw, x0⟩
      dsimp only at xa xb xc xs xz xw x0 ⊢
      have dm := dk m.toNat
      have sl := bTt_sl xs
      rw [eX4_day_34]
      by_cases c : (dy (tp 103) (tS (tp 103)) sd m.toNat).2.2 = 0
      · rw [x0 c, c]
        simp (disch := first | assumption | omega) only [if_pos (Int.le_refl m), bi_add, bi_sub, bi_mul, bi_neg, bi_div, bi_64, bl_add, bl_sub, bl_mul, bl_neg, bl_div, bl_32, bi_min, bi_max, bl_min, bl_max, bq_I, bq_J, bq_A, bq_Vi, bq_Vl, bq_Vr, bq_cV, bq_cI, bq_cJ, bq_cA, bq_le, bq_lt, bq_eq, bq_z, bq_o, bq_ref, bq_nz, bq_nzJ, bq_bl, bq_blz, bq_T, bq_F, if_true, if_false, Int.reduceEq, Int.reduceLT, Int.reduceLE, Int.reduceAdd, Int.reduceSub, Int.reduceMul, Int.add_sub_cancel, li_0, li_1, li_3, li_4, li_20, li_34, li_40, li_68, li_4004, li_4045, li_4048, li_4058, li_4059, li_4062, li_4063, ll_0, ll_1, ll_3, ll_4, ll_20, ll_34, ll_40, ll_68, ga103, ga105, ga119, ga120, ga106, ga107, ga108, ga109, ga110, ga111, ga116, ga118, ga104, ga112, ga114, ga115, ga117, ga113, ga121, gf102_5, gf102_13, gf102_14, gf102_0, gf102_6, gf102_7, gf102_8, gf102_9, gf102_10, gf102_11, gf102_12, gf102_15, gf102_19, gf102_20, gr102_1, gr102_2, gr102_3, gr102_4, gr102_16, gr102_17, gr102_18, gr102_21, gr102_22, gr102_23, gr102_24, gr102_25, gr102_26, gr102_27, gr102_28, gr102_29, gr102_30, gr102_31, gr102_32, pa103, pa105, pa119, pa120, pa106, pa107, pa108, pa109, pa110, pa111, pa116, pa118, pa104, pa112, pa114, pa115, pa117, pa113, pa121, pf102_5, pf102_13, pf102_14, pf102_0, pf102_6, pf102_7, pf102_8, pf102_9, pf102_10, pf102_11, pf102_12, pf102_15, pf102_19, pf102_20, s_within, t_isLost, t_fallen, t_isHurt, t_between, t_isPassage, t_isRoom, t_standNow, t_standsAll, t_isIn, t_noComing, t_noStand, t_bitsOf, u_tens4109, t_draw]
        exact ⟨_, _, rfl, tp, t, tk, rfl, Or.inl ⟨fun k => k.2 rfl, rfl, rfl⟩⟩
      · obtain ⟨tp2, n2, e4⟩ := t_notes (κ := κ) (X := X) (tp := x) (ts := t) (tj := tj) (tk := tk) (n := n) (D := d) hF (by rw [xb 47 (by omega)]; exact m0) (by rw [xb 47 (by omega)]; exact m1) (by omega)
        have s0 : 6 * x 103 42 + x 103 43 = (dy (tp 103) (tS (tp 103)) sd m.toNat).1 0 := xc 0 (by decide) (by decide)
        have n3 := bNo_base (tp := tp) (w' := fun k => tp 103 (42 + k)) (st' := fv ((dy (tp 103) (tS (tp 103)) sd m.toNat).1 0 / 6) ((dy (tp 103) (tS (tp 103)) sd m.toNat).1 0 % 6) ((dy (tp 103) (tS (tp 103)) sd m.toNat).1 1) ((dy (tp 103) (tS (tp 103)) sd m.toNat).1 2) ((dy (tp 103) (tS (tp 103)) sd m.toNat).1 3)) n2 xa (fun k hk => xb k (by omega)) xw (five (show x 103 42 = _ / 6 by omega) (show x 103 43 = _ % 6 by omega) (xc 1 (by decide) (by decide)) (xc 2 (by decide) (by decide)) (xc 3 (by decide) (by decide)))
        simp (disch := first | assumption | omega) only [if_pos (Int.le_refl m), if_neg (show ¬ (dy (tp 103) (tS (tp 103)) sd m.toNat).2.2 ≤ 0 by omega), e4, bi_add, bi_sub, bi_mul, bi_neg, bi_div, bi_64, bl_add, bl_sub, bl_mul, bl_neg, bl_div, bl_32, bi_min, bi_max, bl_min, bl_max, bq_I, bq_J, bq_A, bq_Vi, bq_Vl, bq_Vr, bq_cV, bq_cI, bq_cJ, bq_cA, bq_le, bq_lt, bq_eq, bq_z, bq_o, bq_ref, bq_nz, bq_nzJ, bq_bl, bq_blz, bq_T, bq_F, if_true, if_false, Int.reduceEq, Int.reduceLT, Int.reduceLE, Int.reduceAdd, Int.reduceSub, Int.reduceMul, Int.add_sub_cancel, li_0, li_1, li_3, li_4, li_20, li_34, li_40, li_68, li_4004, li_4045, li_4048, li_4058, li_4059, li_4062, li_4063, ll_0, ll_1, ll_3, ll_4, ll_20, ll_34, ll_40, ll_68, ga103, ga105, ga119, ga120, ga106, ga107, ga108, ga109, ga110, ga111, ga116, ga118, ga104, ga112, ga114, ga115, ga117, ga113, ga121, gf102_5, gf102_13, gf102_14, gf102_0, gf102_6, gf102_7, gf102_8, gf102_9, gf102_10, gf102_11, gf102_12, gf102_15, gf102_19, gf102_20, gr102_1, gr102_2, gr102_3, gr102_4, gr102_16, gr102_17, gr102_18, gr102_21, gr102_22, gr102_23, gr102_24, gr102_25, gr102_26, gr102_27, gr102_28, gr102_29, gr102_30, gr102_31, gr102_32, pa103, pa105, pa119, pa120, pa106, pa107, pa108, pa109, pa110, pa111, pa116, pa118, pa104, pa112, pa114, pa115, pa117, pa113, pa121, pf102_5, pf102_13, pf102_14, pf102_0, pf102_6, pf102_7, pf102_8, pf102_9, pf102_10, pf102_11, pf102_12, pf102_15, pf102_19, pf102_20, s_within, t_isLost, t_fallen, t_isHurt, t_between, t_isPassage, t_isRoom, t_standNow, t_standsAll, t_isIn, t_noComing, t_noStand, t_bitsOf, u_tens4109, t_draw]
        exact ⟨_, _, rfl, tp2, t, tk, rfl, Or.inr ⟨⟨q, c⟩, rfl, n3⟩⟩
  · simp (disch := first | assumption | omega) only [if_neg q, bi_add, bi_sub, bi_mul, bi_neg, bi_div, bi_64, bl_add, bl_sub, bl_mul, bl_neg, bl_div, bl_32, bi_min, bi_max, bl_min, bl_max, bq_I, bq_J, bq_A, bq_Vi, bq_Vl, bq_Vr, bq_cV, bq_cI, bq_cJ, bq_cA, bq_le, bq_lt, bq_eq, bq_z, bq_o, bq_ref, bq_nz, bq_nzJ, bq_bl, bq_blz, bq_T, bq_F, if_true, if_false, Int.reduceEq, Int.reduceLT, Int.reduceLE, Int.reduceAdd, Int.reduceSub, Int.reduceMul, Int.add_sub_cancel, li_0, li_1, li_3, li_4, li_20, li_34, li_40, li_68, li_4004, li_4045, li_4048, li_4058, li_4059, li_4062, li_4063, ll_0, ll_1, ll_3, ll_4, ll_20, ll_34, ll_40, ll_68, ga103, ga105, ga119, ga120, ga106, ga107, ga108, ga109, ga110, ga111, ga116, ga118, ga104, ga112, ga114, ga115, ga117, ga113, ga121, gf102_5, gf102_13, gf102_14, gf102_0, gf102_6, gf102_7, gf102_8, gf102_9, gf102_10, gf102_11, gf102_12, gf102_15, gf102_19, gf102_20, gr102_1, gr102_2, gr102_3, gr102_4, gr102_16, gr102_17, gr102_18, gr102_21, gr102_22, gr102_23, gr102_24, gr102_25, gr102_26, gr102_27, gr102_28, gr102_29, gr102_30, gr102_31, gr102_32, pa103, pa105, pa119, pa120, pa106, pa107, pa108, pa109, pa110, pa111, pa116, pa118, pa104, pa112, pa114, pa115, pa117, pa113, pa121, pf102_5, pf102_13, pf102_14, pf102_0, pf102_6, pf102_7, pf102_8, pf102_9, pf102_10, pf102_11, pf102_12, pf102_15, pf102_19, pf102_20, s_within, t_isLost, t_fallen, t_isHurt, t_between, t_isPassage, t_isRoom, t_standNow, t_standsAll, t_isIn, t_noComing, t_noStand, t_bitsOf, u_tens4109, t_draw]
    exact ⟨_, _, rfl, tp, _, tk, rfl, Or.inl ⟨fun k => q k.1, rfl, rfl⟩⟩
end TY
