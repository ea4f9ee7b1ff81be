/-! SPECS: the twin: judge, perform -/
set_option maxRecDepth 100000
theorem isJ_ex (A S f : Int → Int) {m : Int} (m0 : 0 ≤ m) : ∃ J, isJ A S f m J := by
  have q : ∀ k : Nat, (k : Int) ≤ m → (∀ j : Int, 0 ≤ j → j < k → whyD A (goS A S f j.toNat) (f j) = 0) ∨ ∃ J, isJ A S f m J := by
    intro k
    induction k with
    | zero => intro _; exact Or.inl fun j j0 j1 => by omega
    | succ k ih =>
      intro hk
      rcases ih (by omega) with a | a
      · by_cases c : whyD A (goS A S f k) (f k) = 0
        · refine Or.inl fun j j0 j1 => ?_
          by_cases y : j = k
          · rw [y]; exact c
          · exact a j j0 (by omega)
        · exact Or.inr ⟨k, by omega, by omega, a, Or.inr c⟩
      · exact Or.inr a
  rcases q m.toNat (by omega) with a | a
  · exact ⟨m, m0, Int.le_refl m, fun k k0 k1 => a k k0 (by omega), Or.inl rfl⟩
  · exact a
/-- no tray: why -/
def noT (r i : Int) : Int := if 0 ≤ i ∧ i ≤ 3 then (if r = -1 then -6 else 0) else -2
section JU
variable {κ : Nat → Nat} {X : bX} {tp ts : bF} {tj tk : bFJ} {g : bG} {n : Nat × Nat} {f : Int → Int} {i m J what : Int} {D : Nat}
/-- the twin's tray i holds m numbers f -/
def bTy (tp : bF) (tj : bFJ) (i m : Int) (f : Int → Int) : Prop := tp 120 i = m ∧ (∀ k, 0 ≤ k → k < m → tj 121 (40 * i + k) = bk_l (f k))
def stS (S : Int → Int) : Int → Int := fv (S 0 / 6) (S 0 % 6) (S 1) (S 2) (S 3)
theorem m_perform (h : bTt g (tp 103)) (u0 : 0 ≤ tp 103 47) (u1 : tp 103 47 ≤ 10) (h3 : -2147483648 ≤ i) (h4 : i < 2147483648) (hr : 0 ≤ i → i < 4 → -1 ≤ tp 119 i ∧ tp 119 i < 4) (m0 : 0 ≤ m) (m1 : m ≤ 40) (hf : ∀ k, -9223372036854775808 ≤ f k ∧ f k < 9223372036854775808) (ht : noT (tp 119 i) i = 0 → bTy tp tj i m f) (hJ : isJ (tp 103) (tS (tp 103)) f m J) (hD : 9 ≤ D) :
    bk_wp (bk_call D 4061 [.ref 102, .int (bk_i i)] (bk_M κ X (tp, tj, ts, tk) g n)) (bTd κ X tp tj g n (noT (tp 119 i) i = 0 ∧ J ≠ 0) (noT (tp 119 i) i) (stS (goS (tp 103) (tS (tp 103)) f J.toNat)) J) := by
  obtain ⟨d, rfl⟩ := dep hD
  have hh := h
  obtain ⟨hF, hw, hs⟩ := h
  have eN := t_noTray (κ := κ) (X := X) (tp := tp) (ts := bU ts 102 0 0) (tj := tj) (tk := tk) (n := n) (i := i) (D := d) hF h3 h4 hr (by omega)
  have nr : -6 ≤ noT (tp 119 i) i ∧ noT (tp 119 i) i ≤ 0 := by
    unfold noT
    repeat' (first | omega | split)
  have eN : bk_call d 4056 [.ref 102, .int (bk_i i)] (bk_M κ X (tp, tj, bU ts 102 0 0, tk) g n) = some (some (.int (bk_i (noT (tp 119 i) i))), bk_M κ X (tp, tj, bU ts 102 0 0, tk) g n) := eN
  rw [kX4_perform, eX4_perform_0]
  by_cases q : noT (tp 119 i) i = 0
  · have qi : 0 ≤ i ∧ i ≤ 3 := by
      unfold noT at q
      by_cases c : 0 ≤ i ∧ i ≤ 3
      · exact c
      · rw [if_neg c] at q; exact absurd q (by decide)
    obtain ⟨hm, hj⟩ := ht q
    obtain ⟨ts1, f1, k1, e1⟩ := t_keeps (κ := κ) (X := X) (tp := tp) (ts := bU ts 102 0 0) (tj := tj) (tk := tk) (n := n) (D := d) hF (by omega)
    obtain ⟨x, t, K, xJ, xa, xb, xc, xs, xw, xz, x0, e2⟩ := t_tells (κ := κ) (X := X) (tp := tp) (ts := ts1) (tj := tj) (tk := tk) (n := n) (D := d) hh qi.1 (by omega) m0 m1 hm hf hj (by omega)
    have eK := isJ_uniq xJ hJ
    subst eK
    have jb := xJ.1
    have jc := xJ.2.1
    by_cases c : K = 0
    · have e3 := x0 c
      subst c
      subst e3
      simp (disch := first | assumption | omega) only [eN, if_pos q, e1, e2, if_pos (Int.le_refl 0), bi_add, bi_sub, bi_mul, bi_neg, bi_div, bi_64, bl_add, bl_sub, bl_mul, bl_neg, bl_div, bl_32, bi_min, bi_max, bl_min, bl_max, bq_I, bq_J, bq_A, bq_Vi, bq_Vl, bq_Vr, bq_cV, bq_cI, bq_cJ, bq_cA, bq_le, bq_lt, bq_eq, bq_z, bq_o, bq_ref, bq_nz, bq_nzJ, bq_bl, bq_blz, bq_T, bq_F, if_true, if_false, Int.reduceEq, Int.reduceLT, Int.reduceLE, Int.reduceAdd, Int.reduceSub, Int.reduceMul, Int.add_sub_cancel, li_0, li_1, li_4, li_4045, li_4048, li_4056, li_4057, li_4061, ll_0, ll_1, ll_4, ga103, ga105, ga119, ga120, ga106, ga107, ga108, ga109, ga110, ga111, ga116, ga118, ga104, ga112, ga114, ga115, ga117, ga113, ga121, gf102_5, gf102_13, gf102_14, gf102_0, gf102_6, gf102_7, gf102_8, gf102_9, gf102_10, gf102_11, gf102_12, gf102_15, gf102_19, gf102_20, gr102_1, gr102_2, gr102_3, gr102_4, gr102_16, gr102_17, gr102_18, gr102_21, gr102_22, gr102_23, gr102_24, gr102_25, gr102_26, gr102_27, gr102_28, gr102_29, gr102_30, gr102_31, gr102_32, pa103, pa105, pa119, pa120, pa106, pa107, pa108, pa109, pa110, pa111, pa116, pa118, pa104, pa112, pa114, pa115, pa117, pa113, pa121, pf102_5, pf102_13, pf102_14, pf102_0, pf102_6, pf102_7, pf102_8, pf102_9, pf102_10, pf102_11, pf102_12, pf102_15, pf102_19, pf102_20, s_within, t_isLost, t_fallen, t_isHurt, t_between, t_isPassage, t_isRoom, t_standNow, t_standsAll, t_isIn, t_noComing, t_noStand, t_bitsOf, u_tens4109, t_draw]
      exact ⟨_, _, rfl, x, t, tk, rfl, Or.inl ⟨fun k => k.2 rfl, by rw [q], rfl⟩⟩
    · obtain ⟨tp2, n2, e4⟩ := t_notes (κ := κ) (X := X) (tp := x) (ts := t) (tj := tj) (tk := tk) (n := n) (D := d) hF (by rw [xb 47 (by omega)]; exact u0) (by rw [xb 47 (by omega)]; exact u1) (by omega)
      have s0 : 6 * x 103 42 + x 103 43 = goS (tp 103) (tS (tp 103)) f K.toNat 0 := xc 0 (by decide) (by decide)
      have sl := bTt_sl xs
      have n3 := bNo_base (tp := tp) (w' := fun k => tp 103 (42 + k)) (st' := stS (goS (tp 103) (tS (tp 103)) f K.toNat)) n2 xa (fun k hk => xb k (by omega)) (fun k k0 k1' => by rw [xw]; exact k1 k k0 k1') (five (show x 103 42 = _ / 6 by omega) (show x 103 43 = _ % 6 by omega) (xc 1 (by decide) (by decide)) (xc 2 (by decide) (by decide)) (xc 3 (by decide) (by decide)))
      simp (disch := first | assumption | omega) only [eN, if_pos q, e1, e2, if_neg (show ¬ K ≤ 0 by omega), e4, bi_add, bi_sub, bi_mul, bi_neg, bi_div, bi_64, bl_add, bl_sub, bl_mul, bl_neg, bl_div, bl_32, bi_min, bi_max, bl_min, bl_max, bq_I, bq_J, bq_A, bq_Vi, bq_Vl, bq_Vr, bq_cV, bq_cI, bq_cJ, bq_cA, bq_le, bq_lt, bq_eq, bq_z, bq_o, bq_ref, bq_nz, bq_nzJ, bq_bl, bq_blz, bq_T, bq_F, if_true, if_false, Int.reduceEq, Int.reduceLT, Int.reduceLE, Int.reduceAdd, Int.reduceSub, Int.reduceMul, Int.add_sub_cancel, li_0, li_1, li_4, li_4045, li_4048, li_4056, li_4057, li_4061, ll_0, ll_1, ll_4, ga103, ga105, ga119, ga120, ga106, ga107, ga108, ga109, ga110, ga111, ga116, ga118, ga104, ga112, ga114, ga115, ga117, ga113, ga121, gf102_5, gf102_13, gf102_14, gf102_0, gf102_6, gf102_7, gf102_8, gf102_9, gf102_10, gf102_11, gf102_12, gf102_15, gf102_19, gf102_20, gr102_1, gr102_2, gr102_3, gr102_4, gr102_16, gr102_17, gr102_18, gr102_21, gr102_22, gr102_23, gr102_24, gr102_25, gr102_26, gr102_27, gr102_28, gr102_29, gr102_30, gr102_31, gr102_32, pa103, pa105, pa119, pa120, pa106, pa107, pa108, pa109, pa110, pa111, pa116, pa118, pa104, pa112, pa114, pa115, pa117, pa113, pa121, pf102_5, pf102_13, pf102_14, pf102_0, pf102_6, pf102_7, pf102_8, pf102_9, pf102_10, pf102_11, pf102_12, pf102_15, pf102_19, pf102_20, s_within, t_isLost, t_fallen, t_isHurt, t_between, t_isPassage, t_isRoom, t_standNow, t_standsAll, t_isIn, t_noComing, t_noStand, t_bitsOf, u_tens4109, t_draw]
      exact ⟨_, _, rfl, tp2, t, tk, rfl, Or.inr ⟨⟨q, c⟩, rfl, n3⟩⟩
  · simp (disch := first | assumption | omega) only [eN, if_neg q, bi_add, bi_sub, bi_mul, bi_neg, bi_div, bi_64, bl_add, bl_sub, bl_mul, bl_neg, bl_div, bl_32, bi_min, bi_max, bl_min, bl_max, bq_I, bq_J, bq_A, bq_Vi, bq_Vl, bq_Vr, bq_cV, bq_cI, bq_cJ, bq_cA, bq_le, bq_lt, bq_eq, bq_z, bq_o, bq_ref, bq_nz, bq_nzJ, bq_bl, bq_blz, bq_T, bq_F, if_true, if_false, Int.reduceEq, Int.reduceLT, Int.reduceLE, Int.reduceAdd, Int.reduceSub, Int.reduceMul, Int.add_sub_cancel, li_0, li_1, li_4, li_4045, li_4048, li_4056, li_4057, li_4061, ll_0, ll_1, ll_4, ga103, ga105, ga119, ga120, ga106, ga107, ga108, ga109, ga110, ga111, ga116, ga118, ga104, ga112, ga114, ga115, ga117, ga113, ga121, gf102_5, gf102_13, gf102_14, gf102_0, gf102_6, gf102_7, gf102_8, gf102_9, gf102_10, gf102_11, gf102_12, gf102_15, gf102_19, gf102_20, gr102_1, gr102_2, gr102_3, gr102_4, gr102_16, gr102_17, gr102_18, gr102_21, gr102_22, gr102_23, gr102_24, gr102_25, gr102_26, gr102_27, gr102_28, gr102_29, gr102_30, gr102_31, gr102_32, pa103, pa105, pa119, pa120, pa106, pa107, pa108, pa109, pa110, pa111, pa116, pa118, pa104, pa112, pa114, pa115, pa117, pa113, pa121, pf102_5, pf102_13, pf102_14, pf102_0, pf102_6, pf102_7, pf102_8, pf102_9, pf102_10, pf102_11, pf102_12, pf102_15, pf102_19, pf102_20, s_within, t_isLost, t_fallen, t_isHurt, t_between, t_isPassage, t_isRoom, t_standNow, t_standsAll, t_isIn, t_noComing, t_noStand, t_bitsOf, u_tens4109, t_draw]
    exact ⟨_, _, rfl, tp, _, tk, rfl, Or.inl ⟨fun k => q k.1, rfl, rfl⟩⟩
end JU
