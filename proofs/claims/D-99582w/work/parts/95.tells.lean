/-! SPECS: a tray's deeds, one after another: the twin -/
set_option maxRecDepth 100000
section TT
variable {κ : Nat → Nat} {X : bX} {tp ts : bF} {tj tk : bFJ} {g : bG} {n : Nat × Nat} {f : Int → Int} {i m : Int} {D : Nat}
theorem t_tells (h : bTt g (tp 103)) (i0 : 0 ≤ i) (i1 : i < 4) (m0 : 0 ≤ m) (m1 : m ≤ 40) (hm : tp 120 i = m) (hf : ∀ k, -9223372036854775808 ≤ f k ∧ f k < 9223372036854775808) (hj : ∀ k, 0 ≤ k → k < m → tj 121 (40 * i + k) = bk_l (f k)) (hD : 7 ≤ D) :
    ∃ tp' ts' J, isJ (tp 103) (tS (tp 103)) f m J ∧ (∀ a, a ≠ 103 → tp' a = tp a) ∧ (∀ k, k < 42 ∨ 47 ≤ k → tp' 103 k = tp 103 k) ∧ (∀ k, 0 ≤ k → k < 4 → tS (tp' 103) k = goS (tp 103) (tS (tp 103)) f J.toNat k) ∧ bSt (tp' 103) 42 (tp' 103 1)
      ∧ ts' 109 = ts 109 ∧ ts' 102 19 = (if J = m then 0 else whyD (tp 103) (goS (tp 103) (tS (tp 103)) f J.toNat) (f J)) ∧ (J = 0 → tp' = tp)
      ∧ bk_call D 4057 [.ref 102, .int (bk_i i)] (bk_M κ X (tp, tj, ts, tk) g n) = some (some (.int (bk_i J)), bk_M κ X (tp', tj, ts', tk) g n) := by
  obtain ⟨d, rfl⟩ := dep hD
  obtain ⟨hF, hw, hs⟩ := h
  have e19 : ∀ (q : bF) v, bU q 102 19 v 102 19 = v := fun q v => by rw [bU_same, if_pos rfl]
  have goal : bk_wp (bk_call (d + 1) 4057 [.ref 102, .int (bk_i i)] (bk_M κ X (tp, tj, ts, tk) g n)) (fun v h' => ∃ tp' ts' J, v = some (.int (bk_i J)) ∧ h' = bk_M κ X (tp', tj, ts', tk) g n ∧ isJ (tp 103) (tS (tp 103)) f m J ∧ (∀ a, a ≠ 103 → tp' a = tp a) ∧ (∀ k, k < 42 ∨ 47 ≤ k → tp' 103 k = tp 103 k) ∧ (∀ k, 0 ≤ k → k < 4 → tS (tp' 103) k = goS (tp 103) (tS (tp 103)) f J.toNat k) ∧ bSt (tp' 103) 42 (tp' 103 1)
      ∧ ts' 109 = ts 109 ∧ ts' 102 19 = (if J = m then 0 else whyD (tp 103) (goS (tp 103) (tS (tp 103)) f J.toNat) (f J)) ∧ (J = 0 → tp' = tp)) := by
    rw [kX4_tells, eX4_tells_0]
    simp (disch := first | assumption | omega) only [bi_add, bi_sub, bi_mul, bi_neg, bi_div, bi_64, bl_add, bl_sub, bl_mul, bl_neg, bl_div, bl_32, bi_min, bi_max, bl_min, bl_max, bq_I, bq_J, bq_A, bq_Vi, bq_Vl, bq_Vr, bq_cV, bq_cI, bq_cJ, bq_cA, bq_le, bq_lt, bq_eq, bq_z, bq_o, bq_ref, bq_nz, bq_nzJ, bq_bl, bq_blz, bq_T, bq_F, if_true, if_false, Int.reduceEq, Int.reduceLT, Int.reduceLE, Int.reduceAdd, Int.reduceSub, Int.reduceMul, Int.add_sub_cancel, li_0, li_1, li_4, li_7, li_19, li_31, li_32, li_40, li_100, li_104, li_4057, li_4058, li_4059, ll_0, ll_1, ll_4, ll_7, ll_19, ll_31, ll_32, ll_40, ll_100, ll_104, ga103, ga105, ga119, ga120, ga106, ga107, ga108, ga109, ga110, ga111, ga116, ga118, ga104, ga112, ga114, ga115, ga117, ga113, ga121, gf102_5, gf102_13, gf102_14, gf102_0, gf102_6, gf102_7, gf102_8, gf102_9, gf102_10, gf102_11, gf102_12, gf102_15, gf102_19, gf102_20, gr102_1, gr102_2, gr102_3, gr102_4, gr102_16, gr102_17, gr102_18, gr102_21, gr102_22, gr102_23, gr102_24, gr102_25, gr102_26, gr102_27, gr102_28, gr102_29, gr102_30, gr102_31, gr102_32, pa103, pa105, pa119, pa120, pa106, pa107, pa108, pa109, pa110, pa111, pa116, pa118, pa104, pa112, pa114, pa115, pa117, pa113, pa121, pf102_5, pf102_13, pf102_14, pf102_0, pf102_6, pf102_7, pf102_8, pf102_9, pf102_10, pf102_11, pf102_12, pf102_15, pf102_19, pf102_20, s_within, t_isLost, t_fallen, t_isHurt, t_between, t_isPassage, t_isRoom, t_standNow, t_standsAll, t_isIn, t_noComing, t_noStand, t_bitsOf, u_tens4109, t_draw]
    refine bk_loop (σ := bF × bF) (fun j x => bk_den TX4_tells (bk_call d) 7 [.ref 102, .int (bk_i i), .int (bk_i j)] [] (bk_M κ X (x.1, tj, x.2, tk) g n)) (fun j x => 0 ≤ j ∧ (∀ k, 0 ≤ k → k < j → whyD (tp 103) (goS (tp 103) (tS (tp 103)) f k.toNat) (f k) = 0) ∧ (∀ a, a ≠ 103 → x.1 a = tp a) ∧ (∀ k, k < 42 ∨ 47 ≤ k → x.1 103 k = tp 103 k) ∧ (∀ k, 0 ≤ k → k < 4 → tS (x.1 103) k = goS (tp 103) (tS (tp 103)) f j.toNat k) ∧ bSt (x.1 103) 42 (x.1 103 1) ∧ x.2 109 = ts 109 ∧ x.2 102 19 = 0 ∧ (j = 0 → x.1 = tp)) m ?_ ?_ 0 (tp, bU ts 102 19 0) m0 ⟨by omega, fun k _ _ => by omega, fun _ _ => rfl, fun _ _ => rfl, fun _ _ _ => rfl, hs, by funext k; exact bU_ne ts 102 109 19 0 k (by decide), e19 ts 0, fun _ => rfl⟩
    · rintro j ⟨x, t⟩ hjm ⟨j0, hb, xa, xb, xc, xs, xw, xz, x0⟩ cont
      dsimp only at xa xb xc xs xw xz x0 ⊢
      have hcg : ∀ k, k < 42 ∨ 98 ≤ k → x 103 k = tp 103 k := fun k hk => xb k (by omega)
      have hx : bTt g (x 103) := ⟨hF, bWF_congr hcg hw, xs⟩
      have fr := hf j
      have ej := hj j j0 hjm
      have em : x 120 i = m := by rw [xa 120 (by decide)]; exact hm
      obtain ⟨t2, g2, e2⟩ := t_whyNot (κ := κ) (X := X) (tp := x) (ts := t) (tj := tj) (tk := tk) (n := n) (D := d) (y := f j) hx fr.1 fr.2 (by omega)
      have ey : whyD (x 103) (tS (x 103)) (f j) = whyD (tp 103) (goS (tp 103) (tS (tp 103)) f j.toNat) (f j) := (whyD_congr hcg hw).trans (whyD_ext xc)
      rw [ey] at e2
      have wr := whyD_rng (tp 103) (goS (tp 103) (tS (tp 103)) f j.toNat) (f j)
      rw [eX4_tells_7]
      by_cases c : whyD (tp 103) (goS (tp 103) (tS (tp 103)) f j.toNat) (f j) = 0
      · rw [c] at e2
        obtain ⟨x3, t3, g3, ⟨y1, y2, y3, y4⟩, e3⟩ := t_does (κ := κ) (X := X) (tp := x) (ts := bU t2 102 19 0) (tj := tj) (tk := tk) (n := n) (D := d) hx (ey.trans c) (by omega)
        simp (disch := first | assumption | omega) only [em, if_neg (show ¬ m ≤ j by omega), ej, e2, e19, e3, bi_add, bi_sub, bi_mul, bi_neg, bi_div, bi_64, bl_add, bl_sub, bl_mul, bl_neg, bl_div, bl_32, bi_min, bi_max, bl_min, bl_max, bq_I, bq_J, bq_A, bq_Vi, bq_Vl, bq_Vr, bq_cV, bq_cI, bq_cJ, bq_cA, bq_le, bq_lt, bq_eq, bq_z, bq_o, bq_ref, bq_nz, bq_nzJ, bq_bl, bq_blz, bq_T, bq_F, if_true, if_false, Int.reduceEq, Int.reduceLT, Int.reduceLE, Int.reduceAdd, Int.reduceSub, Int.reduceMul, Int.add_sub_cancel, li_0, li_1, li_4, li_7, li_19, li_31, li_32, li_40, li_100, li_104, li_4057, li_4058, li_4059, ll_0, ll_1, ll_4, ll_7, ll_19, ll_31, ll_32, ll_40, ll_100, ll_104, ga103, ga105, ga119, ga120, ga106, ga107, ga108, ga109, ga110, ga111, ga116, ga118, ga104, ga112, ga114, ga115, ga117, ga113, ga121, gf102_5, gf102_13, gf102_14, gf102_0, gf102_6, gf102_7, gf102_8, gf102_9, gf102_10, gf102_11, gf102_12, gf102_15, gf102_19, gf102_20, gr102_1, gr102_2, gr102_3, gr102_4, gr102_16, gr102_17, gr102_18, gr102_21, gr102_22, gr102_23, gr102_24, gr102_25, gr102_26, gr102_27, gr102_28, gr102_29, gr102_30, gr102_31, gr102_32, pa103, pa105, pa119, pa120, pa106, pa107, pa108, pa109, pa110, pa111, pa116, pa118, pa104, pa112, pa114, pa115, pa117, pa113, pa121, pf102_5, pf102_13, pf102_14, pf102_0, pf102_6, pf102_7, pf102_8, pf102_9, pf102_10, pf102_11, pf102_12, pf102_15, pf102_19, pf102_20, s_within, t_isLost, t_fallen, t_isHurt, t_between, t_isPassage, t_isRoom, t_standNow, t_standsAll, t_isIn, t_noComing, t_noStand, t_bitsOf, u_tens4109, t_draw]
        refine cont (x3, t3) ⟨by omega, fun k k0 k1 => ?_, fun a ha => (y1 a ha).trans (xa a ha), fun k hk => (y2 k hk).trans (xb k hk), fun k k0 k1 => by rw [goS_succ j0]; exact (y3 k k0 k1).trans (congrFun ((doD_congr hcg hw ((whyD_ext xc).trans c)).trans (doD_ext xc)) k), y4, ?_, ?_, fun z => by omega⟩
        · by_cases y : k = j
          · rw [y]; exact c
          · exact hb k k0 (by omega)
        · show t3 109 = _
          rw [g3 109 (by decide) (by decide)]
          funext k
          rw [bU_ne _ _ _ _ _ _ (by decide), g2 109 (by decide) (by decide), xw]
        · show t3 102 19 = 0
          rw [g3 102 (by decide) (by decide), e19]
      · simp (disch := first | assumption | omega) only [em, if_neg (show ¬ m ≤ j by omega), ej, e2, e19, if_neg c, bi_add, bi_sub, bi_mul, bi_neg, bi_div, bi_64, bl_add, bl_sub, bl_mul, bl_neg, bl_div, bl_32, bi_min, bi_max, bl_min, bl_max, bq_I, bq_J, bq_A, bq_Vi, bq_Vl, bq_Vr, bq_cV, bq_cI, bq_cJ, bq_cA, bq_le, bq_lt, bq_eq, bq_z, bq_o, bq_ref, bq_nz, bq_nzJ, bq_bl, bq_blz, bq_T, bq_F, if_true, if_false, Int.reduceEq, Int.reduceLT, Int.reduceLE, Int.reduceAdd, Int.reduceSub, Int.reduceMul, Int.add_sub_cancel, li_0, li_1, li_4, li_7, li_19, li_31, li_32, li_40, li_100, li_104, li_4057, li_4058, li_4059, ll_0, ll_1, ll_4, ll_7, ll_19, ll_31, ll_32, ll_40, ll_100, ll_104, ga103, ga105, ga119, ga120, ga106, ga107, ga108, ga109, ga110, ga111, ga116, ga118, ga104, ga112, ga114, ga115, ga117, ga113, ga121, gf102_5, gf102_13, gf102_14, gf102_0, gf102_6, gf102_7, gf102_8, gf102_9, gf102_10, gf102_11, gf102_12, gf102_15, gf102_19, gf102_20, gr102_1, gr102_2, gr102_3, gr102_4, gr102_16, gr102_17, gr102_18, gr102_21, gr102_22, gr102_23, gr102_24, gr102_25, gr102_26, gr102_27, gr102_28, gr102_29, gr102_30, gr102_31, gr102_32, pa103, pa105, pa119, pa120, pa106, pa107, pa108, pa109, pa110, pa111, pa116, pa118, pa104, pa112, pa114, pa115, pa117, pa113, pa121, pf102_5, pf102_13, pf102_14, pf102_0, pf102_6, pf102_7, pf102_8, pf102_9, pf102_10, pf102_11, pf102_12, pf102_15, pf102_19, pf102_20, s_within, t_isLost, t_fallen, t_isHurt, t_between, t_isPassage, t_isRoom, t_standNow, t_standsAll, t_isIn, t_noComing, t_noStand, t_bitsOf, u_tens4109, t_draw]
        refine ⟨_, _, rfl, x, _, j, rfl, rfl, ⟨j0, by omega, hb, Or.inr c⟩, xa, xb, xc, xs, ?_, ?_, x0⟩
        · funext k
          rw [bU_ne _ _ _ _ _ _ (by decide), g2 109 (by decide) (by decide), xw]
        · rw [e19, if_neg (by omega)]
    · rintro ⟨x, t⟩ ⟨j0, hb, xa, xb, xc, xs, xw, xz, x0⟩
      dsimp only at xa xb xc xs xw xz x0 ⊢
      have em : x 120 i = m := by rw [xa 120 (by decide)]; exact hm
      rw [eX4_tells_7]
      simp (disch := first | assumption | omega) only [em, if_pos (Int.le_refl m), bi_add, bi_sub, bi_mul, bi_neg, bi_div, bi_64, bl_add, bl_sub, bl_mul, bl_neg, bl_div, bl_32, bi_min, bi_max, bl_min, bl_max, bq_I, bq_J, bq_A, bq_Vi, bq_Vl, bq_Vr, bq_cV, bq_cI, bq_cJ, bq_cA, bq_le, bq_lt, bq_eq, bq_z, bq_o, bq_ref, bq_nz, bq_nzJ, bq_bl, bq_blz, bq_T, bq_F, if_true, if_false, Int.reduceEq, Int.reduceLT, Int.reduceLE, Int.reduceAdd, Int.reduceSub, Int.reduceMul, Int.add_sub_cancel, li_0, li_1, li_4, li_7, li_19, li_31, li_32, li_40, li_100, li_104, li_4057, li_4058, li_4059, ll_0, ll_1, ll_4, ll_7, ll_19, ll_31, ll_32, ll_40, ll_100, ll_104, ga103, ga105, ga119, ga120, ga106, ga107, ga108, ga109, ga110, ga111, ga116, ga118, ga104, ga112, ga114, ga115, ga117, ga113, ga121, gf102_5, gf102_13, gf102_14, gf102_0, gf102_6, gf102_7, gf102_8, gf102_9, gf102_10, gf102_11, gf102_12, gf102_15, gf102_19, gf102_20, gr102_1, gr102_2, gr102_3, gr102_4, gr102_16, gr102_17, gr102_18, gr102_21, gr102_22, gr102_23, gr102_24, gr102_25, gr102_26, gr102_27, gr102_28, gr102_29, gr102_30, gr102_31, gr102_32, pa103, pa105, pa119, pa120, pa106, pa107, pa108, pa109, pa110, pa111, pa116, pa118, pa104, pa112, pa114, pa115, pa117, pa113, pa121, pf102_5, pf102_13, pf102_14, pf102_0, pf102_6, pf102_7, pf102_8, pf102_9, pf102_10, pf102_11, pf102_12, pf102_15, pf102_19, pf102_20, s_within, t_isLost, t_fallen, t_isHurt, t_between, t_isPassage, t_isRoom, t_standNow, t_standsAll, t_isIn, t_noComing, t_noStand, t_bitsOf, u_tens4109, t_draw]
      exact ⟨_, _, rfl, x, t, m, rfl, rfl, ⟨j0, Int.le_refl m, hb, Or.inl rfl⟩, xa, xb, xc, xs, xw, by rw [if_pos rfl]; exact xz, x0⟩
  obtain ⟨z, h', e, tp', ts', J, rfl, rfl, h1, h2, h3, h4, h5, h6, h7, h8⟩ := goal
  exact ⟨tp', ts', J, h1, h2, h3, h4, h5, h6, h7, h8, e⟩
end TT
