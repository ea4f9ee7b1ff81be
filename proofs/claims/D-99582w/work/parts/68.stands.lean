/-! SPECS: the component: stands, before, orphans, orphan -/
set_option maxRecDepth 100000
section SN
variable {κ : Nat → Nat} {cp cs : bF} {cj : bFJ} {Y : bY} {X : bX} {g : bG} {n : Nat × Nat} {ca : Nat} {A : Int → Int} {s p v r hu i to : Int} {D : Nat} {N : Int → Int → Int}
theorem s_leadsTo (hF : bFix g) (hc : bRC κ g ca A) (h0 : 0 ≤ A 2) (h1 : A 2 ≤ 8) (hN : ∀ s p, 0 ≤ s → s < 36 → 0 ≤ p → p < A 2 → cs 84 (8 * s + p) = N s p) (hr : isN N 36) (hdom : ∀ s p, N s p ≠ -1 → p < A 2) (s0 : 0 ≤ s) (s1 : s < 36) (t0 : 0 ≤ to) (t1 : to < 36) (hD : 1 ≤ D) :
    bk_call D 46 [.ref 64, .int (bk_i s), .int (bk_i to)] (bk_M κ (cp, cs, cj) Y g n) = some (some (.int (bk_i (bzc (∃ p, 0 ≤ p ∧ p < 8 ∧ N s p = to)))), bk_M κ (cp, cs, cj) Y g n) := by
  obtain ⟨d, rfl⟩ := dep hD
  obtain ⟨c0, c1, c2, c3, c4, c5, c6, c7, c8, ⟨tw, ctw, htw⟩, cb, ce, cd, cw, cwp, hca, -, -⟩ := hc
  have goal : bk_wp (bk_call (d + 1) 46 [.ref 64, .int (bk_i s), .int (bk_i to)] (bk_M κ (cp, cs, cj) Y g n)) (fun v h' => v = some (.int (bk_i (bzc (∃ p, 0 ≤ p ∧ p < 8 ∧ N s p = to)))) ∧ h' = bk_M κ (cp, cs, cj) Y g n) := by
    rw [kX0_leadsTo, eX0_leadsTo_0]
    refine bk_loop (σ := Unit) (fun p _ => bk_den TX0_leadsTo (bk_call d) 2 [.ref 64, .int (bk_i s), .int (bk_i to), .int (bk_i p)] [] (bk_M κ (cp, cs, cj) Y g n)) (fun p _ => 0 ≤ p ∧ ∀ q, 0 ≤ q → q < p → N s q ≠ to) (A 2) ?_ ?_ 0 () h0 ⟨by omega, fun q _ _ => by omega⟩
    · rintro p - hp ⟨p0, hv⟩ cont
      have np := hr s p s0 s1 p0 (by omega)
      rw [eX0_leadsTo_2]
      simp (disch := first | assumption | omega) only [c0, c1, c2, c3, c4, c5, c6, c7, c8, ctw, cb, ce, cd, cw, cwp, if_neg (show ¬ A 2 ≤ p by omega), hN s p s0 s1 p0 hp, bi_add, bi_sub, bi_mul, bi_neg, bi_div, bi_64, bl_add, bl_sub, bl_mul, bl_neg, bl_div, bl_32, bi_min, bi_max, bl_min, bl_max, bq_I, bq_J, bq_A, bq_Vi, bq_Vl, bq_Vr, bq_cV, bq_cI, bq_cJ, bq_cA, bq_le, bq_lt, bq_eq, bq_z, bq_o, bq_ref, bq_nz, bq_nzJ, bq_bl, bq_blz, bq_T, bq_F, if_true, if_false, Int.reduceEq, Int.reduceLT, Int.reduceLE, Int.reduceAdd, Int.reduceSub, Int.reduceMul, Int.add_sub_cancel, li_0, li_1, li_2, li_5, li_8, li_11, li_46, li_100, ll_0, ll_1, ll_2, ll_5, ll_8, ll_11, ll_46, ll_100, ga72, ga84, ga85, ga86, ga90, ga92, ga87, ga91, ga88, ga89, gf64_4, gf64_5, gf64_6, gf64_8, gf64_9, gf64_10, gf64_14, gf70_0, gf70_1, gf70_2, gf70_3, gf71_0, gf71_1, gf71_2, gf71_3, gs74_0, gs74_1, gs74_2, gs74_3, gs100_0, gs100_1, gs100_2, gs100_3, gr64_1, gr64_2, gr64_3, gr64_7, gr64_11, gr64_12, gr64_13, gr64_15, gr64_16, gr64_17, gr64_18, gr64_19, gr64_20, gr64_21, gr64_22, gr64_23, gr70_4, gr71_4, gu73, gu99, gu93, pa72, pa84, pa85, pa86, pa90, pa92, pa87, pa91, pa88, pa89, pf64_4, pf64_5, pf64_6, pf64_8, pf64_9, pf64_10, pf64_14, pf70_0, pf70_1, pf70_2, pf70_3, pf71_0, pf71_1, pf71_2, pf71_3, ps74_0, ps74_1, ps74_2, ps74_3, ps100_0, ps100_1, ps100_2, ps100_3, s_in, s_has, s_one, s_roomOf, s_hurtOf, s_isLost, s_standOf, s_isTray, s_isSoon, s_fallen, s_isPassage, s_isRoom, s_isPassage70, s_leads70, s_isBack70, s_isPassage, s_isRoom, s_isPassage71, s_leads71, s_isBack71]
      by_cases q : N s p = to
      · rw [if_pos q]
        exact ⟨_, _, rfl, by rw [bzc_t ⟨p, p0, by omega, q⟩], rfl⟩
      · rw [if_neg q]
        refine cont () ⟨by omega, fun u a b => ?_⟩
        by_cases c : u = p
        · subst c; exact q
        · exact hv u a (by omega)
    · rintro - ⟨p0, hv⟩
      rw [eX0_leadsTo_2]
      simp (disch := first | assumption | omega) only [c0, c1, c2, c3, c4, c5, c6, c7, c8, ctw, cb, ce, cd, cw, cwp, if_pos (Int.le_refl (A 2)), bi_add, bi_sub, bi_mul, bi_neg, bi_div, bi_64, bl_add, bl_sub, bl_mul, bl_neg, bl_div, bl_32, bi_min, bi_max, bl_min, bl_max, bq_I, bq_J, bq_A, bq_Vi, bq_Vl, bq_Vr, bq_cV, bq_cI, bq_cJ, bq_cA, bq_le, bq_lt, bq_eq, bq_z, bq_o, bq_ref, bq_nz, bq_nzJ, bq_bl, bq_blz, bq_T, bq_F, if_true, if_false, Int.reduceEq, Int.reduceLT, Int.reduceLE, Int.reduceAdd, Int.reduceSub, Int.reduceMul, Int.add_sub_cancel, li_0, li_1, li_2, li_5, li_8, li_11, li_46, li_100, ll_0, ll_1, ll_2, ll_5, ll_8, ll_11, ll_46, ll_100, ga72, ga84, ga85, ga86, ga90, ga92, ga87, ga91, ga88, ga89, gf64_4, gf64_5, gf64_6, gf64_8, gf64_9, gf64_10, gf64_14, gf70_0, gf70_1, gf70_2, gf70_3, gf71_0, gf71_1, gf71_2, gf71_3, gs74_0, gs74_1, gs74_2, gs74_3, gs100_0, gs100_1, gs100_2, gs100_3, gr64_1, gr64_2, gr64_3, gr64_7, gr64_11, gr64_12, gr64_13, gr64_15, gr64_16, gr64_17, gr64_18, gr64_19, gr64_20, gr64_21, gr64_22, gr64_23, gr70_4, gr71_4, gu73, gu99, gu93, pa72, pa84, pa85, pa86, pa90, pa92, pa87, pa91, pa88, pa89, pf64_4, pf64_5, pf64_6, pf64_8, pf64_9, pf64_10, pf64_14, pf70_0, pf70_1, pf70_2, pf70_3, pf71_0, pf71_1, pf71_2, pf71_3, ps74_0, ps74_1, ps74_2, ps74_3, ps100_0, ps100_1, ps100_2, ps100_3, s_in, s_has, s_one, s_roomOf, s_hurtOf, s_isLost, s_standOf, s_isTray, s_isSoon, s_fallen, s_isPassage, s_isRoom, s_isPassage70, s_leads70, s_isBack70, s_isPassage, s_isRoom, s_isPassage71, s_leads71, s_isBack71]
      refine ⟨_, _, rfl, ?_, rfl⟩
      rw [bzc_f]
      rintro ⟨p, a1, a2, a3⟩
      exact hv p a1 (hdom s p (by omega)) a3
  obtain ⟨z, h', e, rfl, rfl⟩ := goal
  exact e
theorem s_onec (P : Prop) (hD : 1 ≤ D) (h : bk_H) : bk_call D 10 [.int (bk_i (bzc P))] h = some (some (.int (bk_i (bzc P))), h) := by
  obtain ⟨d, rfl⟩ := dep hD
  rw [kX0_one, eX0_one_0]
  rcases bzc_01 P with q | q
  · rw [q]; rfl
  · rw [q]; rfl
theorem s_manyBefore (hF : bFix g) (hc : bRC κ g ca A) (h0 : 0 ≤ A 2) (h1 : A 2 ≤ 8) (hN : ∀ s p, 0 ≤ s → s < 36 → 0 ≤ p → p < A 2 → cs 84 (8 * s + p) = N s p) (hr : isN N 36) (hdom : ∀ s p, N s p ≠ -1 → p < A 2) (t0 : 0 ≤ to) (t1 : to < 36) (hD : 2 ≤ D) :
    bk_call D 45 [.ref 64, .int (bk_i to)] (bk_M κ (cp, cs, cj) Y g n) = some (some (.int (bk_i (befM N 36 to))), bk_M κ (cp, cs, cj) Y g n) := by
  obtain ⟨d, rfl⟩ := dep hD
  have hc' := hc
  obtain ⟨c0, c1, c2, c3, c4, c5, c6, c7, c8, ⟨tw, ctw, htw⟩, cb, ce, cd, cw, cwp, hca, -, -⟩ := hc
  have goal : bk_wp (bk_call (d + 1) 45 [.ref 64, .int (bk_i to)] (bk_M κ (cp, cs, cj) Y g n)) (fun v h' => v = some (.int (bk_i (befM N 36 to))) ∧ h' = bk_M κ (cp, cs, cj) Y g n) := by
    rw [kX0_manyBefore, eX0_manyBefore_0]
    refine bk_loop (σ := Unit) (fun s _ => bk_den TX0_manyBefore (bk_call d) 4 [.ref 64, .int (bk_i to), .int (bk_i (sumZ (fun s => bzc (∃ p, 0 ≤ p ∧ p < 8 ∧ N s p = to)) s.toNat)), .int (bk_i s)] [] (bk_M κ (cp, cs, cj) Y g n)) (fun s _ => 0 ≤ s) 36 ?_ ?_ 0 () (by omega) (by omega)
    · rintro s - hs s0 cont
      have el := s_leadsTo (κ := κ) (cp := cp) (cs := cs) (cj := cj) (Y := Y) (n := n) (D := d) hF hc' h0 h1 hN hr hdom s0 hs t0 t1 (by omega)
      rw [eX0_manyBefore_4]
      simp (disch := first | assumption | omega) only [c0, c1, c2, c3, c4, c5, c6, c7, c8, ctw, cb, ce, cd, cw, cwp, if_neg (show ¬ 36 ≤ s by omega), el, bi_add, bi_sub, bi_mul, bi_neg, bi_div, bi_64, bl_add, bl_sub, bl_mul, bl_neg, bl_div, bl_32, bi_min, bi_max, bl_min, bl_max, bq_I, bq_J, bq_A, bq_Vi, bq_Vl, bq_Vr, bq_cV, bq_cI, bq_cJ, bq_cA, bq_le, bq_lt, bq_eq, bq_z, bq_o, bq_ref, bq_nz, bq_nzJ, bq_bl, bq_blz, bq_T, bq_F, if_true, if_false, Int.reduceEq, Int.reduceLT, Int.reduceLE, Int.reduceAdd, Int.reduceSub, Int.reduceMul, Int.add_sub_cancel, li_0, li_1, li_4, li_10, li_36, li_45, li_46, ll_0, ll_1, ll_4, ll_10, ll_36, ll_45, ll_46, ga72, ga84, ga85, ga86, ga90, ga92, ga87, ga91, ga88, ga89, gf64_4, gf64_5, gf64_6, gf64_8, gf64_9, gf64_10, gf64_14, gf70_0, gf70_1, gf70_2, gf70_3, gf71_0, gf71_1, gf71_2, gf71_3, gs74_0, gs74_1, gs74_2, gs74_3, gs100_0, gs100_1, gs100_2, gs100_3, gr64_1, gr64_2, gr64_3, gr64_7, gr64_11, gr64_12, gr64_13, gr64_15, gr64_16, gr64_17, gr64_18, gr64_19, gr64_20, gr64_21, gr64_22, gr64_23, gr70_4, gr71_4, gu73, gu99, gu93, pa72, pa84, pa85, pa86, pa90, pa92, pa87, pa91, pa88, pa89, pf64_4, pf64_5, pf64_6, pf64_8, pf64_9, pf64_10, pf64_14, pf70_0, pf70_1, pf70_2, pf70_3, pf71_0, pf71_1, pf71_2, pf71_3, ps74_0, ps74_1, ps74_2, ps74_3, ps100_0, ps100_1, ps100_2, ps100_3, s_in, s_has, s_one, s_roomOf, s_hurtOf, s_isLost, s_standOf, s_isTray, s_isSoon, s_fallen, s_isPassage, s_isRoom, s_isPassage70, s_leads70, s_isBack70, s_isPassage, s_isRoom, s_isPassage71, s_leads71, s_isBack71, s_onec]
      have c := cont () (by omega)
      rw [sumZ_succ _ s0] at c
      exact c
    · rintro - s0
      rw [eX0_manyBefore_4]
      simp (disch := first | assumption | omega) only [if_pos (Int.le_refl 36), bi_add, bi_sub, bi_mul, bi_neg, bi_div, bi_64, bl_add, bl_sub, bl_mul, bl_neg, bl_div, bl_32, bi_min, bi_max, bl_min, bl_max, bq_I, bq_J, bq_A, bq_Vi, bq_Vl, bq_Vr, bq_cV, bq_cI, bq_cJ, bq_cA, bq_le, bq_lt, bq_eq, bq_z, bq_o, bq_ref, bq_nz, bq_nzJ, bq_bl, bq_blz, bq_T, bq_F, if_true, if_false, Int.reduceEq, Int.reduceLT, Int.reduceLE, Int.reduceAdd, Int.reduceSub, Int.reduceMul, Int.add_sub_cancel, li_0, li_1, li_4, li_10, li_36, li_45, li_46, ll_0, ll_1, ll_4, ll_10, ll_36, ll_45, ll_46, ga72, ga84, ga85, ga86, ga90, ga92, ga87, ga91, ga88, ga89, gf64_4, gf64_5, gf64_6, gf64_8, gf64_9, gf64_10, gf64_14, gf70_0, gf70_1, gf70_2, gf70_3, gf71_0, gf71_1, gf71_2, gf71_3, gs74_0, gs74_1, gs74_2, gs74_3, gs100_0, gs100_1, gs100_2, gs100_3, gr64_1, gr64_2, gr64_3, gr64_7, gr64_11, gr64_12, gr64_13, gr64_15, gr64_16, gr64_17, gr64_18, gr64_19, gr64_20, gr64_21, gr64_22, gr64_23, gr70_4, gr71_4, gu73, gu99, gu93, pa72, pa84, pa85, pa86, pa90, pa92, pa87, pa91, pa88, pa89, pf64_4, pf64_5, pf64_6, pf64_8, pf64_9, pf64_10, pf64_14, pf70_0, pf70_1, pf70_2, pf70_3, pf71_0, pf71_1, pf71_2, pf71_3, ps74_0, ps74_1, ps74_2, ps74_3, ps100_0, ps100_1, ps100_2, ps100_3, s_in, s_has, s_one, s_roomOf, s_hurtOf, s_isLost, s_standOf, s_isTray, s_isSoon, s_fallen, s_isPassage, s_isRoom, s_isPassage70, s_leads70, s_isBack70, s_isPassage, s_isRoom, s_isPassage71, s_leads71, s_isBack71, s_onec]
      exact ⟨_, _, rfl, rfl, rfl⟩
  obtain ⟨z, h', e, rfl, rfl⟩ := goal
  exact e
theorem befM_cut {A : Int → Int} {rop to : Int} (h0 : 0 ≤ to) (h1 : 1 ≤ A 1) (h2 : A 1 ≤ 6) : befM (nxt A rop) 36 to = befM (nxt A rop) (6 * A 1) to :=
  sumZ_cut (by omega) 36 (by omega) (fun s a b => bzc_f (by
    rintro ⟨p, p0, p1, e⟩
    have := nxt_dom (A := A) (rop := rop) (s := s) (p := p) (by omega)
    omega))
def rBefore (A : Int → Int) (r hu z : Int) : Prop := (fS A r hu 5 ≠ 0 ∧ z = fS A r hu 5) ∨ (fS A r hu 5 = 0 ∧ z = befM (nxt A (A 44)) (6 * A 1) (6 * r + hu))
theorem c_before (h : bCt κ g ca A cp) (h3 : -2147483648 ≤ r) (h4 : r < 2147483648) (h5 : -2147483648 ≤ hu) (h6 : hu < 2147483648) (hD : 912 ≤ D) :
    bk_wp (bk_call D 43 [.ref 64, .int (bk_i r), .int (bk_i hu)] (bk_M κ (cp, cs, cj) Y g n)) (bCq κ cp Y g n (rBefore A r hu)) := by
  obtain ⟨d, rfl⟩ := dep hD
  have st := bCt_st h
  have fr := fS_rng A r hu 5
  obtain ⟨cs1, f1, v1, e1⟩ := s_laysNow (cs := cs) (cj := cj) (Y := Y) (n := n) (D := d) h (by omega)
  obtain ⟨hF, hc, hw, hs, n0, n1, n2, n3⟩ := h
  have ef := s_standFault (κ := κ) (X := (cp, cs, cj)) (Y := Y) (n := n) (D := d) (m := 5) hF hc hw h3 h4 h5 h6 (by omega) (by omega) (by omega)
  have hc' := hc
  obtain ⟨c0, c1, c2, c3, c4, c5, c6, c7, c8, ⟨tw, ctw, htw⟩, cb, ce, cd, cw, cwp, hca, -, -⟩ := hc
  rw [kX0_before, eX0_before_0]
  simp (disch := first | assumption | omega) only [c0, c1, c2, c3, c4, c5, c6, c7, c8, ctw, cb, ce, cd, cw, cwp, ef, e1, bi_add, bi_sub, bi_mul, bi_neg, bi_div, bi_64, bl_add, bl_sub, bl_mul, bl_neg, bl_div, bl_32, bi_min, bi_max, bl_min, bl_max, bq_I, bq_J, bq_A, bq_Vi, bq_Vl, bq_Vr, bq_cV, bq_cI, bq_cJ, bq_cA, bq_le, bq_lt, bq_eq, bq_z, bq_o, bq_ref, bq_nz, bq_nzJ, bq_bl, bq_blz, bq_T, bq_F, if_true, if_false, Int.reduceEq, Int.reduceLT, Int.reduceLE, Int.reduceAdd, Int.reduceSub, Int.reduceMul, Int.add_sub_cancel, li_0, li_1, li_5, li_34, li_43, li_44, li_45, ll_0, ll_1, ll_5, ll_34, ll_43, ll_44, ll_45, ga72, ga84, ga85, ga86, ga90, ga92, ga87, ga91, ga88, ga89, gf64_4, gf64_5, gf64_6, gf64_8, gf64_9, gf64_10, gf64_14, gf70_0, gf70_1, gf70_2, gf70_3, gf71_0, gf71_1, gf71_2, gf71_3, gs74_0, gs74_1, gs74_2, gs74_3, gs100_0, gs100_1, gs100_2, gs100_3, gr64_1, gr64_2, gr64_3, gr64_7, gr64_11, gr64_12, gr64_13, gr64_15, gr64_16, gr64_17, gr64_18, gr64_19, gr64_20, gr64_21, gr64_22, gr64_23, gr70_4, gr71_4, gu73, gu99, gu93, pa72, pa84, pa85, pa86, pa90, pa92, pa87, pa91, pa88, pa89, pf64_4, pf64_5, pf64_6, pf64_8, pf64_9, pf64_10, pf64_14, pf70_0, pf70_1, pf70_2, pf70_3, pf71_0, pf71_1, pf71_2, pf71_3, ps74_0, ps74_1, ps74_2, ps74_3, ps100_0, ps100_1, ps100_2, ps100_3, s_in, s_has, s_one, s_roomOf, s_hurtOf, s_isLost, s_standOf, s_isTray, s_isSoon, s_fallen, s_isPassage, s_isRoom, s_isPassage70, s_leads70, s_isBack70, s_isPassage, s_isRoom, s_isPassage71, s_leads71, s_isBack71, s_onec]
  by_cases q : fS A r hu 5 = 0
  · have q' := fS_0 q
    have eb := s_manyBefore (κ := κ) (cp := cp) (cs := cs1) (cj := cj) (Y := Y) (n := n) (D := d) (to := 6 * r + hu) (N := nxt A (A 44)) hF hc' (by omega) (by omega) v1 (nxt_N hw _ (by omega)) (fun s p q => (nxt_dom q).2.1) (by omega) (by omega) (by omega)
    rw [if_pos q]
    simp (disch := first | assumption | omega) only [eb, bi_add, bi_sub, bi_mul, bi_neg, bi_div, bi_64, bl_add, bl_sub, bl_mul, bl_neg, bl_div, bl_32, bi_min, bi_max, bl_min, bl_max, bq_I, bq_J, bq_A, bq_Vi, bq_Vl, bq_Vr, bq_cV, bq_cI, bq_cJ, bq_cA, bq_le, bq_lt, bq_eq, bq_z, bq_o, bq_ref, bq_nz, bq_nzJ, bq_bl, bq_blz, bq_T, bq_F, if_true, if_false, Int.reduceEq, Int.reduceLT, Int.reduceLE, Int.reduceAdd, Int.reduceSub, Int.reduceMul, Int.add_sub_cancel, li_0, li_1, li_5, li_34, li_43, li_44, li_45, ll_0, ll_1, ll_5, ll_34, ll_43, ll_44, ll_45, ga72, ga84, ga85, ga86, ga90, ga92, ga87, ga91, ga88, ga89, gf64_4, gf64_5, gf64_6, gf64_8, gf64_9, gf64_10, gf64_14, gf70_0, gf70_1, gf70_2, gf70_3, gf71_0, gf71_1, gf71_2, gf71_3, gs74_0, gs74_1, gs74_2, gs74_3, gs100_0, gs100_1, gs100_2, gs100_3, gr64_1, gr64_2, gr64_3, gr64_7, gr64_11, gr64_12, gr64_13, gr64_15, gr64_16, gr64_17, gr64_18, gr64_19, gr64_20, gr64_21, gr64_22, gr64_23, gr70_4, gr71_4, gu73, gu99, gu93, pa72, pa84, pa85, pa86, pa90, pa92, pa87, pa91, pa88, pa89, pf64_4, pf64_5, pf64_6, pf64_8, pf64_9, pf64_10, pf64_14, pf70_0, pf70_1, pf70_2, pf70_3, pf71_0, pf71_1, pf71_2, pf71_3, ps74_0, ps74_1, ps74_2, ps74_3, ps100_0, ps100_1, ps100_2, ps100_3, s_in, s_has, s_one, s_roomOf, s_hurtOf, s_isLost, s_standOf, s_isTray, s_isSoon, s_fallen, s_isPassage, s_isRoom, s_isPassage70, s_leads70, s_isBack70, s_isPassage, s_isRoom, s_isPassage71, s_leads71, s_isBack71, s_onec]
    exact ⟨_, _, rfl, cs1, cj, _, rfl, rfl, Or.inr ⟨q, befM_cut (by omega) (by omega) (by omega)⟩⟩
  · rw [if_neg q]
    exact ⟨_, _, rfl, cs, cj, _, rfl, rfl, Or.inl ⟨q, rfl⟩⟩
theorem s_isOrphan (hF : bFix g) (hc : bRC κ g ca A) (h0 : 0 ≤ A 2) (h1 : A 2 ≤ 8) (h2 : 1 ≤ A 1) (h3 : A 1 ≤ 6) (hN : ∀ s p, 0 ≤ s → s < 36 → 0 ≤ p → p < A 2 → cs 84 (8 * s + p) = N s p) (hr : isN N 36) (hdom : ∀ s p, N s p ≠ -1 → p < A 2) (t0 : 0 ≤ s) (t1 : s < 36) (hD : 3 ≤ D) :
    bk_call D 49 [.ref 64, .int (bk_i s)] (bk_M κ (cp, cs, cj) Y g n) = some (some (.int (bk_i (bzc (s < 6 * A 1 ∧ orphM N 36 s)))), bk_M κ (cp, cs, cj) Y g n) := by
  obtain ⟨d, rfl⟩ := dep hD
  have em := s_manyBefore (κ := κ) (cp := cp) (cs := cs) (cj := cj) (Y := Y) (n := n) (D := d) hF hc h0 h1 hN hr hdom t0 t1 (by omega)
  have b : 0 ≤ befM N 36 s ∧ befM N 36 s ≤ 36 := sumZ_bzc 36
  obtain ⟨c0, c1, c2, c3, c4, c5, c6, c7, c8, ⟨tw, ctw, htw⟩, cb, ce, cd, cw, cwp, hca, -, -⟩ := hc
  rw [kX0_isOrphan, eX0_isOrphan_0]
  simp (disch := first | assumption | omega) only [c0, c1, c2, c3, c4, c5, c6, c7, c8, ctw, cb, ce, cd, cw, cwp, em, bi_add, bi_sub, bi_mul, bi_neg, bi_div, bi_64, bl_add, bl_sub, bl_mul, bl_neg, bl_div, bl_32, bi_min, bi_max, bl_min, bl_max, bq_I, bq_J, bq_A, bq_Vi, bq_Vl, bq_Vr, bq_cV, bq_cI, bq_cJ, bq_cA, bq_le, bq_lt, bq_eq, bq_z, bq_o, bq_ref, bq_nz, bq_nzJ, bq_bl, bq_blz, bq_T, bq_F, if_true, if_false, Int.reduceEq, Int.reduceLT, Int.reduceLE, Int.reduceAdd, Int.reduceSub, Int.reduceMul, Int.add_sub_cancel, li_0, li_1, li_4, li_12, li_13, li_45, li_49, ll_0, ll_1, ll_4, ll_12, ll_13, ll_45, ll_49, ga72, ga84, ga85, ga86, ga90, ga92, ga87, ga91, ga88, ga89, gf64_4, gf64_5, gf64_6, gf64_8, gf64_9, gf64_10, gf64_14, gf70_0, gf70_1, gf70_2, gf70_3, gf71_0, gf71_1, gf71_2, gf71_3, gs74_0, gs74_1, gs74_2, gs74_3, gs100_0, gs100_1, gs100_2, gs100_3, gr64_1, gr64_2, gr64_3, gr64_7, gr64_11, gr64_12, gr64_13, gr64_15, gr64_16, gr64_17, gr64_18, gr64_19, gr64_20, gr64_21, gr64_22, gr64_23, gr70_4, gr71_4, gu73, gu99, gu93, pa72, pa84, pa85, pa86, pa90, pa92, pa87, pa91, pa88, pa89, pf64_4, pf64_5, pf64_6, pf64_8, pf64_9, pf64_10, pf64_14, pf70_0, pf70_1, pf70_2, pf70_3, pf71_0, pf71_1, pf71_2, pf71_3, ps74_0, ps74_1, ps74_2, ps74_3, ps100_0, ps100_1, ps100_2, ps100_3, s_in, s_has, s_one, s_roomOf, s_hurtOf, s_isLost, s_standOf, s_isTray, s_isSoon, s_fallen, s_isPassage, s_isRoom, s_isPassage70, s_leads70, s_isBack70, s_isPassage, s_isRoom, s_isPassage71, s_leads71, s_isBack71, s_onec]
  by_cases q : A 1 ≤ s / 6
  · rw [if_pos q, bzc_f (by omega)]
  · rw [if_neg q]
    by_cases q2 : s % 6 = 5
    · rw [if_pos q2, bzc_f (fun k => k.2.1 q2)]
    · rw [if_neg q2]
      by_cases q3 : befM N 36 s = 0
      · rw [if_pos q3, bzc_t ⟨by omega, q2, q3⟩]
      · rw [if_neg q3, bzc_f (fun k => q3 k.2.2)]
theorem orph_cut {A : Int → Int} {rop s : Int} (h0 : 0 ≤ s) (h1 : 1 ≤ A 1) (h2 : A 1 ≤ 6) : orphM (nxt A rop) 36 s ↔ orphM (nxt A rop) (6 * A 1) s := by
  unfold orphM; rw [befM_cut h0 h1 h2]
theorem orphS_cut {A : Int → Int} {rop : Int} (h1 : 1 ≤ A 1) (h2 : A 1 ≤ 6) {t : Int} (t0 : 0 ≤ t) (t1 : t ≤ 6 * A 1) : sumZ (fun s => bzc (s < 6 * A 1 ∧ orphM (nxt A rop) 36 s)) t.toNat = orphN (nxt A rop) (6 * A 1) t.toNat :=
  sumZ_ext t.toNat (fun s a b => bzc_iff ⟨fun k => (orph_cut a h1 h2).mp k.2, fun k => ⟨by omega, (orph_cut a h1 h2).mpr k⟩⟩)
theorem orphS_all {A : Int → Int} {rop : Int} (h1 : 1 ≤ A 1) (h2 : A 1 ≤ 6) : sumZ (fun s => bzc (s < 6 * A 1 ∧ orphM (nxt A rop) 36 s)) 36 = orphN (nxt A rop) (6 * A 1) (6 * A 1).toNat := by
  rw [sumZ_cut (R := 6 * A 1) (by omega) 36 (by omega) (fun s a b => bzc_f (by omega))]
  exact orphS_cut h1 h2 (by omega) (Int.le_refl _)
theorem c_orphans (h : bCt κ g ca A cp) (hD : 912 ≤ D) :
    bk_wp (bk_call D 48 [.ref 64] (bk_M κ (cp, cs, cj) Y g n)) (bCq κ cp Y g n (fun z => z = orphN (nxt A (A 44)) (6 * A 1) (6 * A 1).toNat)) := by
  obtain ⟨d, rfl⟩ := dep hD
  have st := bCt_st h
  obtain ⟨cs1, f1, v1, e1⟩ := s_laysNow (cs := cs) (cj := cj) (Y := Y) (n := n) (D := d) h (by omega)
  obtain ⟨hF, hc, hw, hs, n0, n1, n2, n3⟩ := h
  have hc' := hc
  obtain ⟨c0, c1, c2, c3, c4, c5, c6, c7, c8, ⟨tw, ctw, htw⟩, cb, ce, cd, cw, cwp, hca, -, -⟩ := hc
  rw [kX0_orphans, eX0_orphans_0]
  simp (disch := first | assumption | omega) only [c0, c1, c2, c3, c4, c5, c6, c7, c8, ctw, cb, ce, cd, cw, cwp, e1, bi_add, bi_sub, bi_mul, bi_neg, bi_div, bi_64, bl_add, bl_sub, bl_mul, bl_neg, bl_div, bl_32, bi_min, bi_max, bl_min, bl_max, bq_I, bq_J, bq_A, bq_Vi, bq_Vl, bq_Vr, bq_cV, bq_cI, bq_cJ, bq_cA, bq_le, bq_lt, bq_eq, bq_z, bq_o, bq_ref, bq_nz, bq_nzJ, bq_bl, bq_blz, bq_T, bq_F, if_true, if_false, Int.reduceEq, Int.reduceLT, Int.reduceLE, Int.reduceAdd, Int.reduceSub, Int.reduceMul, Int.add_sub_cancel, li_0, li_1, li_8, li_10, li_34, li_36, li_48, li_49, ll_0, ll_1, ll_8, ll_10, ll_34, ll_36, ll_48, ll_49, ga72, ga84, ga85, ga86, ga90, ga92, ga87, ga91, ga88, ga89, gf64_4, gf64_5, gf64_6, gf64_8, gf64_9, gf64_10, gf64_14, gf70_0, gf70_1, gf70_2, gf70_3, gf71_0, gf71_1, gf71_2, gf71_3, gs74_0, gs74_1, gs74_2, gs74_3, gs100_0, gs100_1, gs100_2, gs100_3, gr64_1, gr64_2, gr64_3, gr64_7, gr64_11, gr64_12, gr64_13, gr64_15, gr64_16, gr64_17, gr64_18, gr64_19, gr64_20, gr64_21, gr64_22, gr64_23, gr70_4, gr71_4, gu73, gu99, gu93, pa72, pa84, pa85, pa86, pa90, pa92, pa87, pa91, pa88, pa89, pf64_4, pf64_5, pf64_6, pf64_8, pf64_9, pf64_10, pf64_14, pf70_0, pf70_1, pf70_2, pf70_3, pf71_0, pf71_1, pf71_2, pf71_3, ps74_0, ps74_1, ps74_2, ps74_3, ps100_0, ps100_1, ps100_2, ps100_3, s_in, s_has, s_one, s_roomOf, s_hurtOf, s_isLost, s_standOf, s_isTray, s_isSoon, s_fallen, s_isPassage, s_isRoom, s_isPassage70, s_leads70, s_isBack70, s_isPassage, s_isRoom, s_isPassage71, s_leads71, s_isBack71, s_onec]
  refine bk_loop (σ := Unit) (fun s _ => bk_den TX0_orphans (bk_call d) 8 [.ref 64, .int (bk_i (sumZ (fun s => bzc (s < 6 * A 1 ∧ orphM (nxt A (A 44)) 36 s)) s.toNat)), .int (bk_i s)] [] (bk_M κ (cp, cs1, cj) Y g n)) (fun s _ => 0 ≤ s) 36 ?_ ?_ 0 () (by omega) (by omega)
  · rintro s - hs s0 cont
    have el := s_isOrphan (κ := κ) (cp := cp) (cs := cs1) (cj := cj) (Y := Y) (n := n) (D := d) (N := nxt A (A 44)) hF hc' (by omega) (by omega) (by omega) (by omega) v1 (nxt_N hw _ (by omega)) (fun s p q => (nxt_dom q).2.1) s0 hs (by omega)
    rw [eX0_orphans_8]
    simp (disch := first | assumption | omega) only [c0, c1, c2, c3, c4, c5, c6, c7, c8, ctw, cb, ce, cd, cw, cwp, if_neg (show ¬ 36 ≤ s by omega), el, bi_add, bi_sub, bi_mul, bi_neg, bi_div, bi_64, bl_add, bl_sub, bl_mul, bl_neg, bl_div, bl_32, bi_min, bi_max, bl_min, bl_max, bq_I, bq_J, bq_A, bq_Vi, bq_Vl, bq_Vr, bq_cV, bq_cI, bq_cJ, bq_cA, bq_le, bq_lt, bq_eq, bq_z, bq_o, bq_ref, bq_nz, bq_nzJ, bq_bl, bq_blz, bq_T, bq_F, if_true, if_false, Int.reduceEq, Int.reduceLT, Int.reduceLE, Int.reduceAdd, Int.reduceSub, Int.reduceMul, Int.add_sub_cancel, li_0, li_1, li_8, li_10, li_34, li_36, li_48, li_49, ll_0, ll_1, ll_8, ll_10, ll_34, ll_36, ll_48, ll_49, ga72, ga84, ga85, ga86, ga90, ga92, ga87, ga91, ga88, ga89, gf64_4, gf64_5, gf64_6, gf64_8, gf64_9, gf64_10, gf64_14, gf70_0, gf70_1, gf70_2, gf70_3, gf71_0, gf71_1, gf71_2, gf71_3, gs74_0, gs74_1, gs74_2, gs74_3, gs100_0, gs100_1, gs100_2, gs100_3, gr64_1, gr64_2, gr64_3, gr64_7, gr64_11, gr64_12, gr64_13, gr64_15, gr64_16, gr64_17, gr64_18, gr64_19, gr64_20, gr64_21, gr64_22, gr64_23, gr70_4, gr71_4, gu73, gu99, gu93, pa72, pa84, pa85, pa86, pa90, pa92, pa87, pa91, pa88, pa89, pf64_4, pf64_5, pf64_6, pf64_8, pf64_9, pf64_10, pf64_14, pf70_0, pf70_1, pf70_2, pf70_3, pf71_0, pf71_1, pf71_2, pf71_3, ps74_0, ps74_1, ps74_2, ps74_3, ps100_0, ps100_1, ps100_2, ps100_3, s_in, s_has, s_one, s_roomOf, s_hurtOf, s_isLost, s_standOf, s_isTray, s_isSoon, s_fallen, s_isPassage, s_isRoom, s_isPassage70, s_leads70, s_isBack70, s_isPassage, s_isRoom, s_isPassage71, s_leads71, s_isBack71, s_onec]
    have c := cont () (by omega)
    rw [sumZ_succ _ s0] at c
    exact c
  · rintro - s0
    rw [eX0_orphans_8]
    simp (disch := first | assumption | omega) only [if_pos (Int.le_refl 36), bi_add, bi_sub, bi_mul, bi_neg, bi_div, bi_64, bl_add, bl_sub, bl_mul, bl_neg, bl_div, bl_32, bi_min, bi_max, bl_min, bl_max, bq_I, bq_J, bq_A, bq_Vi, bq_Vl, bq_Vr, bq_cV, bq_cI, bq_cJ, bq_cA, bq_le, bq_lt, bq_eq, bq_z, bq_o, bq_ref, bq_nz, bq_nzJ, bq_bl, bq_blz, bq_T, bq_F, if_true, if_false, Int.reduceEq, Int.reduceLT, Int.reduceLE, Int.reduceAdd, Int.reduceSub, Int.reduceMul, Int.add_sub_cancel, li_0, li_1, li_8, li_10, li_34, li_36, li_48, li_49, ll_0, ll_1, ll_8, ll_10, ll_34, ll_36, ll_48, ll_49, ga72, ga84, ga85, ga86, ga90, ga92, ga87, ga91, ga88, ga89, gf64_4, gf64_5, gf64_6, gf64_8, gf64_9, gf64_10, gf64_14, gf70_0, gf70_1, gf70_2, gf70_3, gf71_0, gf71_1, gf71_2, gf71_3, gs74_0, gs74_1, gs74_2, gs74_3, gs100_0, gs100_1, gs100_2, gs100_3, gr64_1, gr64_2, gr64_3, gr64_7, gr64_11, gr64_12, gr64_13, gr64_15, gr64_16, gr64_17, gr64_18, gr64_19, gr64_20, gr64_21, gr64_22, gr64_23, gr70_4, gr71_4, gu73, gu99, gu93, pa72, pa84, pa85, pa86, pa90, pa92, pa87, pa91, pa88, pa89, pf64_4, pf64_5, pf64_6, pf64_8, pf64_9, pf64_10, pf64_14, pf70_0, pf70_1, pf70_2, pf70_3, pf71_0, pf71_1, pf71_2, pf71_3, ps74_0, ps74_1, ps74_2, ps74_3, ps100_0, ps100_1, ps100_2, ps100_3, s_in, s_has, s_one, s_roomOf, s_hurtOf, s_isLost, s_standOf, s_isTray, s_isSoon, s_fallen, s_isPassage, s_isRoom, s_isPassage70, s_leads70, s_isBack70, s_isPassage, s_isRoom, s_isPassage71, s_leads71, s_isBack71, s_onec]
    exact ⟨_, _, rfl, cs1, cj, _, rfl, rfl, orphS_all (by omega) (by omega)⟩
def rOrphan (A : Int → Int) (k z : Int) : Prop := (k < 0 ∧ z = -3) ∨ (0 ≤ k ∧ rOrph (nxt A (A 44)) (6 * A 1) k z)
theorem c_orphan (h : bCt κ g ca A cp) {k : Int} (h3 : -2147483648 ≤ k) (h4 : k < 2147483648) (hD : 912 ≤ D) :
    bk_wp (bk_call D 50 [.ref 64, .int (bk_i k)] (bk_M κ (cp, cs, cj) Y g n)) (bCq κ cp Y g n (rOrphan A k)) := by
  obtain ⟨d, rfl⟩ := dep hD
  have st := bCt_st h
  obtain ⟨cs1, f1, v1, e1⟩ := s_laysNow (cs := cs) (cj := cj) (Y := Y) (n := n) (D := d) h (by omega)
  obtain ⟨hF, hc, hw, hs, n0, n1, n2, n3⟩ := h
  have hc' := hc
  obtain ⟨c0, c1, c2, c3, c4, c5, c6, c7, c8, ⟨tw, ctw, htw⟩, cb, ce, cd, cw, cwp, hca, -, -⟩ := hc
  rw [kX0_orphan, eX0_orphan_0]
  simp (disch := first | assumption | omega) only [c0, c1, c2, c3, c4, c5, c6, c7, c8, ctw, cb, ce, cd, cw, cwp, e1, bi_add, bi_sub, bi_mul, bi_neg, bi_div, bi_64, bl_add, bl_sub, bl_mul, bl_neg, bl_div, bl_32, bi_min, bi_max, bl_min, bl_max, bq_I, bq_J, bq_A, bq_Vi, bq_Vl, bq_Vr, bq_cV, bq_cI, bq_cJ, bq_cA, bq_le, bq_lt, bq_eq, bq_z, bq_o, bq_ref, bq_nz, bq_nzJ, bq_bl, bq_blz, bq_T, bq_F, if_true, if_false, Int.reduceEq, Int.reduceLT, Int.reduceLE, Int.reduceAdd, Int.reduceSub, Int.reduceMul, Int.add_sub_cancel, li_0, li_1, li_3, li_10, li_12, li_14, li_15, li_34, li_36, li_49, li_50, li_52, ll_0, ll_1, ll_3, ll_10, ll_12, ll_14, ll_15, ll_34, ll_36, ll_49, ll_50, ll_52, ga72, ga84, ga85, ga86, ga90, ga92, ga87, ga91, ga88, ga89, gf64_4, gf64_5, gf64_6, gf64_8, gf64_9, gf64_10, gf64_14, gf70_0, gf70_1, gf70_2, gf70_3, gf71_0, gf71_1, gf71_2, gf71_3, gs74_0, gs74_1, gs74_2, gs74_3, gs100_0, gs100_1, gs100_2, gs100_3, gr64_1, gr64_2, gr64_3, gr64_7, gr64_11, gr64_12, gr64_13, gr64_15, gr64_16, gr64_17, gr64_18, gr64_19, gr64_20, gr64_21, gr64_22, gr64_23, gr70_4, gr71_4, gu73, gu99, gu93, pa72, pa84, pa85, pa86, pa90, pa92, pa87, pa91, pa88, pa89, pf64_4, pf64_5, pf64_6, pf64_8, pf64_9, pf64_10, pf64_14, pf70_0, pf70_1, pf70_2, pf70_3, pf71_0, pf71_1, pf71_2, pf71_3, ps74_0, ps74_1, ps74_2, ps74_3, ps100_0, ps100_1, ps100_2, ps100_3, s_in, s_has, s_one, s_roomOf, s_hurtOf, s_isLost, s_standOf, s_isTray, s_isSoon, s_fallen, s_isPassage, s_isRoom, s_isPassage70, s_leads70, s_isBack70, s_isPassage, s_isRoom, s_isPassage71, s_leads71, s_isBack71, s_onec]
  by_cases q : 0 ≤ k
  · rw [if_pos q]
    refine bk_loop (σ := Int) (fun s x => bk_den TX0_orphan (bk_call d) 15 [.ref 64, .int (bk_i k), .int (bk_i x), .int (bk_i s)] [] (bk_M κ (cp, cs1, cj) Y g n)) (fun s x => 0 ≤ s ∧ 0 ≤ x ∧ x = k - sumZ (fun s => bzc (s < 6 * A 1 ∧ orphM (nxt A (A 44)) 36 s)) s.toNat) 36 ?_ ?_ 0 k (by omega) ⟨by omega, q, by show k = k - 0; omega⟩
    · rintro s x hs ⟨s0, x0, rfl⟩ cont
      have el := s_isOrphan (κ := κ) (cp := cp) (cs := cs1) (cj := cj) (Y := Y) (n := n) (D := d) (N := nxt A (A 44)) hF hc' (by omega) (by omega) (by omega) (by omega) v1 (nxt_N hw _ (by omega)) (fun s p q => (nxt_dom q).2.1) s0 hs (by omega)
      have ss := sumZ_succ (fun s => bzc (s < 6 * A 1 ∧ orphM (nxt A (A 44)) 36 s)) s0
      have sb : 0 ≤ sumZ (fun s => bzc (s < 6 * A 1 ∧ orphM (nxt A (A 44)) 36 s)) s.toNat ∧ _ := sumZ_bzc s.toNat
      have z01 := bzc_01 (s < 6 * A 1 ∧ orphM (nxt A (A 44)) 36 s)
      rw [eX0_orphan_15]
      simp (disch := first | assumption | omega) only [c0, c1, c2, c3, c4, c5, c6, c7, c8, ctw, cb, ce, cd, cw, cwp, if_neg (show ¬ 36 ≤ s by omega), el, bi_add, bi_sub, bi_mul, bi_neg, bi_div, bi_64, bl_add, bl_sub, bl_mul, bl_neg, bl_div, bl_32, bi_min, bi_max, bl_min, bl_max, bq_I, bq_J, bq_A, bq_Vi, bq_Vl, bq_Vr, bq_cV, bq_cI, bq_cJ, bq_cA, bq_le, bq_lt, bq_eq, bq_z, bq_o, bq_ref, bq_nz, bq_nzJ, bq_bl, bq_blz, bq_T, bq_F, if_true, if_false, Int.reduceEq, Int.reduceLT, Int.reduceLE, Int.reduceAdd, Int.reduceSub, Int.reduceMul, Int.add_sub_cancel, li_0, li_1, li_3, li_10, li_12, li_14, li_15, li_34, li_36, li_49, li_50, li_52, ll_0, ll_1, ll_3, ll_10, ll_12, ll_14, ll_15, ll_34, ll_36, ll_49, ll_50, ll_52, ga72, ga84, ga85, ga86, ga90, ga92, ga87, ga91, ga88, ga89, gf64_4, gf64_5, gf64_6, gf64_8, gf64_9, gf64_10, gf64_14, gf70_0, gf70_1, gf70_2, gf70_3, gf71_0, gf71_1, gf71_2, gf71_3, gs74_0, gs74_1, gs74_2, gs74_3, gs100_0, gs100_1, gs100_2, gs100_3, gr64_1, gr64_2, gr64_3, gr64_7, gr64_11, gr64_12, gr64_13, gr64_15, gr64_16, gr64_17, gr64_18, gr64_19, gr64_20, gr64_21, gr64_22, gr64_23, gr70_4, gr71_4, gu73, gu99, gu93, pa72, pa84, pa85, pa86, pa90, pa92, pa87, pa91, pa88, pa89, pf64_4, pf64_5, pf64_6, pf64_8, pf64_9, pf64_10, pf64_14, pf70_0, pf70_1, pf70_2, pf70_3, pf71_0, pf71_1, pf71_2, pf71_3, ps74_0, ps74_1, ps74_2, ps74_3, ps100_0, ps100_1, ps100_2, ps100_3, s_in, s_has, s_one, s_roomOf, s_hurtOf, s_isLost, s_standOf, s_isTray, s_isSoon, s_fallen, s_isPassage, s_isRoom, s_isPassage70, s_leads70, s_isBack70, s_isPassage, s_isRoom, s_isPassage71, s_leads71, s_isBack71, s_onec]
      by_cases o : s < 6 * A 1 ∧ orphM (nxt A (A 44)) 36 s
      · have ot := bzc_t o
        rw [if_neg (by omega)]
        by_cases q2 : k - sumZ (fun s => bzc (s < 6 * A 1 ∧ orphM (nxt A (A 44)) 36 s)) s.toNat = 0
        · rw [if_pos q2]
          refine ⟨_, _, rfl, cs1, cj, _, rfl, rfl, Or.inr ⟨q, Or.inl ⟨s, s0, o.1, (orph_cut s0 (by omega) (by omega)).mp o.2, ?_, rfl⟩⟩⟩
          rw [← orphS_cut (by omega) (by omega) s0 (by omega)]; omega
        · rw [if_neg q2, eX0_orphan_52]
          simp (disch := first | assumption | omega) only [bi_add, bi_sub, bi_mul, bi_neg, bi_div, bi_64, bl_add, bl_sub, bl_mul, bl_neg, bl_div, bl_32, bi_min, bi_max, bl_min, bl_max, bq_I, bq_J, bq_A, bq_Vi, bq_Vl, bq_Vr, bq_cV, bq_cI, bq_cJ, bq_cA, bq_le, bq_lt, bq_eq, bq_z, bq_o, bq_ref, bq_nz, bq_nzJ, bq_bl, bq_blz, bq_T, bq_F, if_true, if_false, Int.reduceEq, Int.reduceLT, Int.reduceLE, Int.reduceAdd, Int.reduceSub, Int.reduceMul, Int.add_sub_cancel, li_0, li_1, li_3, li_10, li_12, li_14, li_15, li_34, li_36, li_49, li_50, li_52, ll_0, ll_1, ll_3, ll_10, ll_12, ll_14, ll_15, ll_34, ll_36, ll_49, ll_50, ll_52, ga72, ga84, ga85, ga86, ga90, ga92, ga87, ga91, ga88, ga89, gf64_4, gf64_5, gf64_6, gf64_8, gf64_9, gf64_10, gf64_14, gf70_0, gf70_1, gf70_2, gf70_3, gf71_0, gf71_1, gf71_2, gf71_3, gs74_0, gs74_1, gs74_2, gs74_3, gs100_0, gs100_1, gs100_2, gs100_3, gr64_1, gr64_2, gr64_3, gr64_7, gr64_11, gr64_12, gr64_13, gr64_15, gr64_16, gr64_17, gr64_18, gr64_19, gr64_20, gr64_21, gr64_22, gr64_23, gr70_4, gr71_4, gu73, gu99, gu93, pa72, pa84, pa85, pa86, pa90, pa92, pa87, pa91, pa88, pa89, pf64_4, pf64_5, pf64_6, pf64_8, pf64_9, pf64_10, pf64_14, pf70_0, pf70_1, pf70_2, pf70_3, pf71_0, pf71_1, pf71_2, pf71_3, ps74_0, ps74_1, ps74_2, ps74_3, ps100_0, ps100_1, ps100_2, ps100_3, s_in, s_has, s_one, s_roomOf, s_hurtOf, s_isLost, s_standOf, s_isTray, s_isSoon, s_fallen, s_isPassage, s_isRoom, s_isPassage70, s_leads70, s_isBack70, s_isPassage, s_isRoom, s_isPassage71, s_leads71, s_isBack71, s_onec]
          exact cont _ ⟨by omega, by omega, by rw [ss]; omega⟩
      · have ot := bzc_f o
        rw [if_pos ot, eX0_orphan_52]
        simp (disch := first | assumption | omega) only [bi_add, bi_sub, bi_mul, bi_neg, bi_div, bi_64, bl_add, bl_sub, bl_mul, bl_neg, bl_div, bl_32, bi_min, bi_max, bl_min, bl_max, bq_I, bq_J, bq_A, bq_Vi, bq_Vl, bq_Vr, bq_cV, bq_cI, bq_cJ, bq_cA, bq_le, bq_lt, bq_eq, bq_z, bq_o, bq_ref, bq_nz, bq_nzJ, bq_bl, bq_blz, bq_T, bq_F, if_true, if_false, Int.reduceEq, Int.reduceLT, Int.reduceLE, Int.reduceAdd, Int.reduceSub, Int.reduceMul, Int.add_sub_cancel, li_0, li_1, li_3, li_10, li_12, li_14, li_15, li_34, li_36, li_49, li_50, li_52, ll_0, ll_1, ll_3, ll_10, ll_12, ll_14, ll_15, ll_34, ll_36, ll_49, ll_50, ll_52, ga72, ga84, ga85, ga86, ga90, ga92, ga87, ga91, ga88, ga89, gf64_4, gf64_5, gf64_6, gf64_8, gf64_9, gf64_10, gf64_14, gf70_0, gf70_1, gf70_2, gf70_3, gf71_0, gf71_1, gf71_2, gf71_3, gs74_0, gs74_1, gs74_2, gs74_3, gs100_0, gs100_1, gs100_2, gs100_3, gr64_1, gr64_2, gr64_3, gr64_7, gr64_11, gr64_12, gr64_13, gr64_15, gr64_16, gr64_17, gr64_18, gr64_19, gr64_20, gr64_21, gr64_22, gr64_23, gr70_4, gr71_4, gu73, gu99, gu93, pa72, pa84, pa85, pa86, pa90, pa92, pa87, pa91, pa88, pa89, pf64_4, pf64_5, pf64_6, pf64_8, pf64_9, pf64_10, pf64_14, pf70_0, pf70_1, pf70_2, pf70_3, pf71_0, pf71_1, pf71_2, pf71_3, ps74_0, ps74_1, ps74_2, ps74_3, ps100_0, ps100_1, ps100_2, ps100_3, s_in, s_has, s_one, s_roomOf, s_hurtOf, s_isLost, s_standOf, s_isTray, s_isSoon, s_fallen, s_isPassage, s_isRoom, s_isPassage70, s_leads70, s_isBack70, s_isPassage, s_isRoom, s_isPassage71, s_leads71, s_isBack71, s_onec]
        exact cont _ ⟨by omega, by omega, by rw [ss]; omega⟩
    · rintro x ⟨s0, x0, rfl⟩
      rw [eX0_orphan_15]
      simp (disch := first | assumption | omega) only [if_pos (Int.le_refl 36), bi_add, bi_sub, bi_mul, bi_neg, bi_div, bi_64, bl_add, bl_sub, bl_mul, bl_neg, bl_div, bl_32, bi_min, bi_max, bl_min, bl_max, bq_I, bq_J, bq_A, bq_Vi, bq_Vl, bq_Vr, bq_cV, bq_cI, bq_cJ, bq_cA, bq_le, bq_lt, bq_eq, bq_z, bq_o, bq_ref, bq_nz, bq_nzJ, bq_bl, bq_blz, bq_T, bq_F, if_true, if_false, Int.reduceEq, Int.reduceLT, Int.reduceLE, Int.reduceAdd, Int.reduceSub, Int.reduceMul, Int.add_sub_cancel, li_0, li_1, li_3, li_10, li_12, li_14, li_15, li_34, li_36, li_49, li_50, li_52, ll_0, ll_1, ll_3, ll_10, ll_12, ll_14, ll_15, ll_34, ll_36, ll_49, ll_50, ll_52, ga72, ga84, ga85, ga86, ga90, ga92, ga87, ga91, ga88, ga89, gf64_4, gf64_5, gf64_6, gf64_8, gf64_9, gf64_10, gf64_14, gf70_0, gf70_1, gf70_2, gf70_3, gf71_0, gf71_1, gf71_2, gf71_3, gs74_0, gs74_1, gs74_2, gs74_3, gs100_0, gs100_1, gs100_2, gs100_3, gr64_1, gr64_2, gr64_3, gr64_7, gr64_11, gr64_12, gr64_13, gr64_15, gr64_16, gr64_17, gr64_18, gr64_19, gr64_20, gr64_21, gr64_22, gr64_23, gr70_4, gr71_4, gu73, gu99, gu93, pa72, pa84, pa85, pa86, pa90, pa92, pa87, pa91, pa88, pa89, pf64_4, pf64_5, pf64_6, pf64_8, pf64_9, pf64_10, pf64_14, pf70_0, pf70_1, pf70_2, pf70_3, pf71_0, pf71_1, pf71_2, pf71_3, ps74_0, ps74_1, ps74_2, ps74_3, ps100_0, ps100_1, ps100_2, ps100_3, s_in, s_has, s_one, s_roomOf, s_hurtOf, s_isLost, s_standOf, s_isTray, s_isSoon, s_fallen, s_isPassage, s_isRoom, s_isPassage70, s_leads70, s_isBack70, s_isPassage, s_isRoom, s_isPassage71, s_leads71, s_isBack71, s_onec]
      refine ⟨_, _, rfl, cs1, cj, _, rfl, rfl, Or.inr ⟨q, Or.inr ⟨rfl, ?_⟩⟩⟩
      rw [← orphS_all (by omega) (by omega)]
      have e : ((36 : Int).toNat) = 36 := rfl
      rw [e] at x0
      omega
  · rw [if_neg q]
    exact ⟨_, _, rfl, cs, cj, _, rfl, rfl, Or.inl ⟨by omega, rfl⟩⟩
end SN
