/-! SPECS: the component: how far each stand is -/
set_option maxRecDepth 100000
theorem bt_0 {p : Int} (h0 : 0 ≤ p) (h1 : p < 32) : bt 0 p = 0 := by
  have k : ∀ q : Fin 32, bt 0 q.val = 0 := by decide +kernel
  have := k ⟨p.toNat, by omega⟩
  simp only [Int.toNat_of_nonneg h0] at this
  exact this
section FA
variable {κ : Nat → Nat} {cp cs : bF} {cj : bFJ} {Y : bY} {X : bX} {g : bG} {n : Nat × Nat} {ca : Nat} {A : Int → Int} {s p v : Int} {D : Nat} {N : Int → Int → Int}
theorem s_lowers (hF : bFix g) (hc : bRC κ g ca A) (h0 : 0 ≤ A 2) (h1 : A 2 ≤ 8) (hN : ∀ p, 0 ≤ p → p < A 2 → cs 84 (8 * s + p) = N s p) (hr : isN N 36) (hf : ∀ t, 0 ≤ t → t < 36 → 0 ≤ cs 85 t ∧ cs 85 t ≤ 536870912) (s0 : 0 ≤ s) (s1 : s < 36) (hD : 1 ≤ D) :
    bk_call D 37 [.ref 64, .int (bk_i s)] (bk_M κ (cp, cs, cj) Y g n) = some (some (.int (bk_i (bz (lw N (cs 85) s (A 2).toNat < cs 85 s)))), bk_M κ (cp, if lw N (cs 85) s (A 2).toNat < cs 85 s then bU cs 85 s (lw N (cs 85) s (A 2).toNat) else cs, cj) Y g n) := by
  obtain ⟨d, rfl⟩ := dep hD
  obtain ⟨c0, c1, c2, c3, c4, c5, c6, c7, c8, ⟨tw, ctw, htw⟩, cb, ce, cd, cw, cwp, hca, -, -⟩ := hc
  have goal : bk_wp (bk_call (d + 1) 37 [.ref 64, .int (bk_i s)] (bk_M κ (cp, cs, cj) Y g n)) (fun v h' => v = some (.int (bk_i (bz (lw N (cs 85) s (A 2).toNat < cs 85 s)))) ∧ h' = bk_M κ (cp, if lw N (cs 85) s (A 2).toNat < cs 85 s then bU cs 85 s (lw N (cs 85) s (A 2).toNat) else cs, cj) Y g n) := by
    rw [kX0_lowers, eX0_lowers_0]
    simp (disch := first | assumption | omega) only [bi_add, bi_sub, bi_mul, bi_neg, bi_div, bi_64, bl_add, bl_sub, bl_mul, bl_neg, bl_div, bl_32, bi_min, bi_max, bl_min, bl_max, bq_I, bq_J, bq_A, bq_Vi, bq_Vl, bq_Vr, bq_cV, bq_cI, bq_cJ, bq_cA, bq_le, bq_lt, bq_eq, bq_z, bq_o, bq_ref, bq_nz, bq_nzJ, bq_bl, bq_blz, bq_T, bq_F, if_true, if_false, Int.reduceEq, Int.reduceLT, Int.reduceLE, Int.reduceAdd, Int.reduceSub, Int.reduceMul, Int.add_sub_cancel, li_0, li_1, li_5, li_8, li_11, li_12, li_37, li_54, li_100, li_536870912, ll_0, ll_1, ll_5, ll_8, ll_11, ll_12, ll_37, ll_54, ll_100, ga72, ga84, ga85, ga86, ga90, ga92, ga87, ga91, ga88, ga89, gf64_4, gf64_5, gf64_6, gf64_8, gf64_9, gf64_10, gf64_14, gf70_0, gf70_1, gf70_2, gf70_3, gf71_0, gf71_1, gf71_2, gf71_3, gs74_0, gs74_1, gs74_2, gs74_3, gs100_0, gs100_1, gs100_2, gs100_3, gr64_1, gr64_2, gr64_3, gr64_7, gr64_11, gr64_12, gr64_13, gr64_15, gr64_16, gr64_17, gr64_18, gr64_19, gr64_20, gr64_21, gr64_22, gr64_23, gr70_4, gr71_4, gu73, gu99, gu93, pa72, pa84, pa85, pa86, pa90, pa92, pa87, pa91, pa88, pa89, pf64_4, pf64_5, pf64_6, pf64_8, pf64_9, pf64_10, pf64_14, pf70_0, pf70_1, pf70_2, pf70_3, pf71_0, pf71_1, pf71_2, pf71_3, ps74_0, ps74_1, ps74_2, ps74_3, ps100_0, ps100_1, ps100_2, ps100_3, s_in, s_has, s_one, s_roomOf, s_hurtOf, s_isLost, s_standOf, s_isTray, s_isSoon, s_fallen, s_isPassage, s_isRoom, s_isPassage70, s_leads70, s_isBack70, s_isPassage, s_isRoom, s_isPassage71, s_leads71, s_isBack71]
    refine bk_loop (σ := Int) (fun p x => bk_den TX0_lowers (bk_call d) 5 [.ref 64, .int (bk_i s), .int (bk_i x), .int (bk_i p)] [] (bk_M κ (cp, cs, cj) Y g n)) (fun p x => 0 ≤ p ∧ x = lw N (cs 85) s p.toNat) (A 2) ?_ ?_ 0 _ h0 ⟨by omega, rfl⟩
    · rintro p x hp ⟨p0, rfl⟩ cont
      have np := hr s p s0 s1 p0 (by omega)
      have le := lw_le N (cs 85) s p.toNat
      have nn := lw_nn (N := N) (f := cs 85) (s := s) p.toNat (fun q q0 q1 q2 => by
        have := hr s q s0 s1 q0 (by omega)
        exact (hf _ (by omega) (by omega)).1)
      have sc : lw N (cs 85) s (p + 1).toNat = if N s p = -1 then lw N (cs 85) s p.toNat else min (lw N (cs 85) s p.toNat) (1 + cs 85 (N s p)) := by
        have e : (p + 1).toNat = p.toNat + 1 := by omega
        rw [e]
        show (if N s (p.toNat : Int) = -1 then _ else _) = _
        rw [Int.toNat_of_nonneg p0]
      rw [eX0_lowers_5]
      simp (disch := first | assumption | omega) only [c0, c1, c2, c3, c4, c5, c6, c7, c8, ctw, cb, ce, cd, cw, cwp, if_neg (show ¬ A 2 ≤ p by omega), hN p p0 hp, bi_add, bi_sub, bi_mul, bi_neg, bi_div, bi_64, bl_add, bl_sub, bl_mul, bl_neg, bl_div, bl_32, bi_min, bi_max, bl_min, bl_max, bq_I, bq_J, bq_A, bq_Vi, bq_Vl, bq_Vr, bq_cV, bq_cI, bq_cJ, bq_cA, bq_le, bq_lt, bq_eq, bq_z, bq_o, bq_ref, bq_nz, bq_nzJ, bq_bl, bq_blz, bq_T, bq_F, if_true, if_false, Int.reduceEq, Int.reduceLT, Int.reduceLE, Int.reduceAdd, Int.reduceSub, Int.reduceMul, Int.add_sub_cancel, li_0, li_1, li_5, li_8, li_11, li_12, li_37, li_54, li_100, li_536870912, ll_0, ll_1, ll_5, ll_8, ll_11, ll_12, ll_37, ll_54, ll_100, ga72, ga84, ga85, ga86, ga90, ga92, ga87, ga91, ga88, ga89, gf64_4, gf64_5, gf64_6, gf64_8, gf64_9, gf64_10, gf64_14, gf70_0, gf70_1, gf70_2, gf70_3, gf71_0, gf71_1, gf71_2, gf71_3, gs74_0, gs74_1, gs74_2, gs74_3, gs100_0, gs100_1, gs100_2, gs100_3, gr64_1, gr64_2, gr64_3, gr64_7, gr64_11, gr64_12, gr64_13, gr64_15, gr64_16, gr64_17, gr64_18, gr64_19, gr64_20, gr64_21, gr64_22, gr64_23, gr70_4, gr71_4, gu73, gu99, gu93, pa72, pa84, pa85, pa86, pa90, pa92, pa87, pa91, pa88, pa89, pf64_4, pf64_5, pf64_6, pf64_8, pf64_9, pf64_10, pf64_14, pf70_0, pf70_1, pf70_2, pf70_3, pf71_0, pf71_1, pf71_2, pf71_3, ps74_0, ps74_1, ps74_2, ps74_3, ps100_0, ps100_1, ps100_2, ps100_3, s_in, s_has, s_one, s_roomOf, s_hurtOf, s_isLost, s_standOf, s_isTray, s_isSoon, s_fallen, s_isPassage, s_isRoom, s_isPassage70, s_leads70, s_isBack70, s_isPassage, s_isRoom, s_isPassage71, s_leads71, s_isBack71]
      by_cases q : N s p = -1
      · rw [if_pos q, eX0_lowers_54]
        simp (disch := first | assumption | omega) only [bi_add, bi_sub, bi_mul, bi_neg, bi_div, bi_64, bl_add, bl_sub, bl_mul, bl_neg, bl_div, bl_32, bi_min, bi_max, bl_min, bl_max, bq_I, bq_J, bq_A, bq_Vi, bq_Vl, bq_Vr, bq_cV, bq_cI, bq_cJ, bq_cA, bq_le, bq_lt, bq_eq, bq_z, bq_o, bq_ref, bq_nz, bq_nzJ, bq_bl, bq_blz, bq_T, bq_F, if_true, if_false, Int.reduceEq, Int.reduceLT, Int.reduceLE, Int.reduceAdd, Int.reduceSub, Int.reduceMul, Int.add_sub_cancel, li_0, li_1, li_5, li_8, li_11, li_12, li_37, li_54, li_100, li_536870912, ll_0, ll_1, ll_5, ll_8, ll_11, ll_12, ll_37, ll_54, ll_100, ga72, ga84, ga85, ga86, ga90, ga92, ga87, ga91, ga88, ga89, gf64_4, gf64_5, gf64_6, gf64_8, gf64_9, gf64_10, gf64_14, gf70_0, gf70_1, gf70_2, gf70_3, gf71_0, gf71_1, gf71_2, gf71_3, gs74_0, gs74_1, gs74_2, gs74_3, gs100_0, gs100_1, gs100_2, gs100_3, gr64_1, gr64_2, gr64_3, gr64_7, gr64_11, gr64_12, gr64_13, gr64_15, gr64_16, gr64_17, gr64_18, gr64_19, gr64_20, gr64_21, gr64_22, gr64_23, gr70_4, gr71_4, gu73, gu99, gu93, pa72, pa84, pa85, pa86, pa90, pa92, pa87, pa91, pa88, pa89, pf64_4, pf64_5, pf64_6, pf64_8, pf64_9, pf64_10, pf64_14, pf70_0, pf70_1, pf70_2, pf70_3, pf71_0, pf71_1, pf71_2, pf71_3, ps74_0, ps74_1, ps74_2, ps74_3, ps100_0, ps100_1, ps100_2, ps100_3, s_in, s_has, s_one, s_roomOf, s_hurtOf, s_isLost, s_standOf, s_isTray, s_isSoon, s_fallen, s_isPassage, s_isRoom, s_isPassage70, s_leads70, s_isBack70, s_isPassage, s_isRoom, s_isPassage71, s_leads71, s_isBack71]
        exact cont _ ⟨by omega, by rw [sc, if_pos q]⟩
      · have fr := hf (N s p) (by omega) (by omega)
        rw [if_neg q]
        simp (disch := first | assumption | omega) only [eX0_lowers_54, bi_add, bi_sub, bi_mul, bi_neg, bi_div, bi_64, bl_add, bl_sub, bl_mul, bl_neg, bl_div, bl_32, bi_min, bi_max, bl_min, bl_max, bq_I, bq_J, bq_A, bq_Vi, bq_Vl, bq_Vr, bq_cV, bq_cI, bq_cJ, bq_cA, bq_le, bq_lt, bq_eq, bq_z, bq_o, bq_ref, bq_nz, bq_nzJ, bq_bl, bq_blz, bq_T, bq_F, if_true, if_false, Int.reduceEq, Int.reduceLT, Int.reduceLE, Int.reduceAdd, Int.reduceSub, Int.reduceMul, Int.add_sub_cancel, li_0, li_1, li_5, li_8, li_11, li_12, li_37, li_54, li_100, li_536870912, ll_0, ll_1, ll_5, ll_8, ll_11, ll_12, ll_37, ll_54, ll_100, ga72, ga84, ga85, ga86, ga90, ga92, ga87, ga91, ga88, ga89, gf64_4, gf64_5, gf64_6, gf64_8, gf64_9, gf64_10, gf64_14, gf70_0, gf70_1, gf70_2, gf70_3, gf71_0, gf71_1, gf71_2, gf71_3, gs74_0, gs74_1, gs74_2, gs74_3, gs100_0, gs100_1, gs100_2, gs100_3, gr64_1, gr64_2, gr64_3, gr64_7, gr64_11, gr64_12, gr64_13, gr64_15, gr64_16, gr64_17, gr64_18, gr64_19, gr64_20, gr64_21, gr64_22, gr64_23, gr70_4, gr71_4, gu73, gu99, gu93, pa72, pa84, pa85, pa86, pa90, pa92, pa87, pa91, pa88, pa89, pf64_4, pf64_5, pf64_6, pf64_8, pf64_9, pf64_10, pf64_14, pf70_0, pf70_1, pf70_2, pf70_3, pf71_0, pf71_1, pf71_2, pf71_3, ps74_0, ps74_1, ps74_2, ps74_3, ps100_0, ps100_1, ps100_2, ps100_3, s_in, s_has, s_one, s_roomOf, s_hurtOf, s_isLost, s_standOf, s_isTray, s_isSoon, s_fallen, s_isPassage, s_isRoom, s_isPassage70, s_leads70, s_isBack70, s_isPassage, s_isRoom, s_isPassage71, s_leads71, s_isBack71]
        exact cont _ ⟨by omega, by rw [sc, if_neg q]⟩
    · rintro x ⟨-, rfl⟩
      have le := lw_le N (cs 85) s (A 2).toNat
      have nn := lw_nn (N := N) (f := cs 85) (s := s) (A 2).toNat (fun q q0 q1 q2 => by
        have := hr s q s0 s1 q0 (by omega)
        exact (hf _ (by omega) (by omega)).1)
      have fr := hf s s0 s1
      rw [eX0_lowers_5]
      simp (disch := first | assumption | omega) only [c0, c1, c2, c3, c4, c5, c6, c7, c8, ctw, cb, ce, cd, cw, cwp, if_pos (Int.le_refl (A 2)), bi_add, bi_sub, bi_mul, bi_neg, bi_div, bi_64, bl_add, bl_sub, bl_mul, bl_neg, bl_div, bl_32, bi_min, bi_max, bl_min, bl_max, bq_I, bq_J, bq_A, bq_Vi, bq_Vl, bq_Vr, bq_cV, bq_cI, bq_cJ, bq_cA, bq_le, bq_lt, bq_eq, bq_z, bq_o, bq_ref, bq_nz, bq_nzJ, bq_bl, bq_blz, bq_T, bq_F, if_true, if_false, Int.reduceEq, Int.reduceLT, Int.reduceLE, Int.reduceAdd, Int.reduceSub, Int.reduceMul, Int.add_sub_cancel, li_0, li_1, li_5, li_8, li_11, li_12, li_37, li_54, li_100, li_536870912, ll_0, ll_1, ll_5, ll_8, ll_11, ll_12, ll_37, ll_54, ll_100, ga72, ga84, ga85, ga86, ga90, ga92, ga87, ga91, ga88, ga89, gf64_4, gf64_5, gf64_6, gf64_8, gf64_9, gf64_10, gf64_14, gf70_0, gf70_1, gf70_2, gf70_3, gf71_0, gf71_1, gf71_2, gf71_3, gs74_0, gs74_1, gs74_2, gs74_3, gs100_0, gs100_1, gs100_2, gs100_3, gr64_1, gr64_2, gr64_3, gr64_7, gr64_11, gr64_12, gr64_13, gr64_15, gr64_16, gr64_17, gr64_18, gr64_19, gr64_20, gr64_21, gr64_22, gr64_23, gr70_4, gr71_4, gu73, gu99, gu93, pa72, pa84, pa85, pa86, pa90, pa92, pa87, pa91, pa88, pa89, pf64_4, pf64_5, pf64_6, pf64_8, pf64_9, pf64_10, pf64_14, pf70_0, pf70_1, pf70_2, pf70_3, pf71_0, pf71_1, pf71_2, pf71_3, ps74_0, ps74_1, ps74_2, ps74_3, ps100_0, ps100_1, ps100_2, ps100_3, s_in, s_has, s_one, s_roomOf, s_hurtOf, s_isLost, s_standOf, s_isTray, s_isSoon, s_fallen, s_isPassage, s_isRoom, s_isPassage70, s_leads70, s_isBack70, s_isPassage, s_isRoom, s_isPassage71, s_leads71, s_isBack71]
      by_cases q : lw N (cs 85) s (A 2).toNat < cs 85 s
      · simp only [if_pos q, bz_t q]
        exact ⟨_, _, rfl, rfl, rfl⟩
      · simp only [if_neg q, bz_f q]
        exact ⟨_, _, rfl, rfl, rfl⟩
  obtain ⟨z, h', e, rfl, rfl⟩ := goal
  exact e
theorem while_X0_laysComing (hF : bFix g) (hc : bRC κ g ca A) (h0 : 0 ≤ A 2) (h1 : A 2 ≤ 8) {Z : Int → Prop} (hN : ∀ s p, 0 ≤ s → s < 36 → 0 ≤ p → p < A 2 → cs 84 (8 * s + p) = N s p) (hr : isN N 36) (hdom : ∀ s p, N s p ≠ -1 → p < A 2) (hI : dInv N 36 Z 536870912 (cs 85)) (hD : 2 ≤ D) {Q : Option Value → bk_H → Prop} (v1 v2 : Int32) (w : Value)
    (hcont : ∀ (cs' : bF) (w : Value), (∀ a, a ≠ 85 → cs' a = cs a) → isD N 36 Z 536870912 (cs' 85) → bk_wp (bk_den TX0_laysComing (bk_call D) 44 [.ref 64, .int v1, .int v2, .int (bk_i 0), w] [] (bk_M κ (cp, cs', cj) Y g n)) Q) :
    bk_wp (bk_den TX0_laysComing (bk_call D) 44 [.ref 64, .int v1, .int v2, .int (bk_i 1), w] [] (bk_M κ (cp, cs, cj) Y g n)) Q := by
  obtain ⟨d, rfl⟩ := dep hD
  have hc' := hc
  obtain ⟨c0, c1, c2, c3, c4, c5, c6, c7, c8, ⟨tw, ctw, htw⟩, cb, ce, cd, cw, cwp, hca, -, -⟩ := hc
  refine bk_while (σ := bF × Int × Value) (fun x => bk_den TX0_laysComing (bk_call (d + 1)) 44 [.ref 64, .int v1, .int v2, .int (bk_i x.2.1), x.2.2] [] (bk_M κ (cp, x.1, cj) Y g n)) (fun x => 2 * (dS (x.1 85) 36).toNat + x.2.1.toNat)
    (fun x => (∀ a, a ≠ 85 → x.1 a = cs a) ∧ dInv N 36 Z 536870912 (x.1 85) ∧ (x.2.1 = 0 ∨ x.2.1 = 1) ∧ (x.2.1 = 0 → isD N 36 Z 536870912 (x.1 85))) ?_ (cs, 1, w) ⟨fun _ _ => rfl, hI, Or.inr rfl, fun q => absurd q (by simp)⟩
  rintro ⟨cs1, more, w1⟩ ⟨fr, hI1, m01, hex⟩ again
  dsimp only at fr hI1 m01 hex again ⊢
  rcases m01 with rfl | rfl
  · exact hcont cs1 w1 fr (hex rfl)
  · have nn0 := dS_nn (f := cs1 85) (R := 36) (fun s s0 s1 => (hI1.1 s s0 s1).1)
    rw [eX0_laysComing_44]
    simp (disch := first | assumption | omega) only [if_neg (show ¬ (1 : Int) = 0 by decide), bi_add, bi_sub, bi_mul, bi_neg, bi_div, bi_64, bl_add, bl_sub, bl_mul, bl_neg, bl_div, bl_32, bi_min, bi_max, bl_min, bl_max, bq_I, bq_J, bq_A, bq_Vi, bq_Vl, bq_Vr, bq_cV, bq_cI, bq_cJ, bq_cA, bq_le, bq_lt, bq_eq, bq_z, bq_o, bq_ref, bq_nz, bq_nzJ, bq_bl, bq_blz, bq_T, bq_F, if_true, if_false, Int.reduceEq, Int.reduceLT, Int.reduceLE, Int.reduceAdd, Int.reduceSub, Int.reduceMul, Int.add_sub_cancel, li_0, li_1, li_2, li_12, li_14, li_33, li_35, li_36, li_37, li_44, li_53, li_100, li_536870912, ll_0, ll_1, ll_2, ll_12, ll_14, ll_33, ll_35, ll_36, ll_37, ll_44, ll_53, ll_100, ga72, ga84, ga85, ga86, ga90, ga92, ga87, ga91, ga88, ga89, gf64_4, gf64_5, gf64_6, gf64_8, gf64_9, gf64_10, gf64_14, gf70_0, gf70_1, gf70_2, gf70_3, gf71_0, gf71_1, gf71_2, gf71_3, gs74_0, gs74_1, gs74_2, gs74_3, gs100_0, gs100_1, gs100_2, gs100_3, gr64_1, gr64_2, gr64_3, gr64_7, gr64_11, gr64_12, gr64_13, gr64_15, gr64_16, gr64_17, gr64_18, gr64_19, gr64_20, gr64_21, gr64_22, gr64_23, gr70_4, gr71_4, gu73, gu99, gu93, pa72, pa84, pa85, pa86, pa90, pa92, pa87, pa91, pa88, pa89, pf64_4, pf64_5, pf64_6, pf64_8, pf64_9, pf64_10, pf64_14, pf70_0, pf70_1, pf70_2, pf70_3, pf71_0, pf71_1, pf71_2, pf71_3, ps74_0, ps74_1, ps74_2, ps74_3, ps100_0, ps100_1, ps100_2, ps100_3, s_in, s_has, s_one, s_roomOf, s_hurtOf, s_isLost, s_standOf, s_isTray, s_isSoon, s_fallen, s_isPassage, s_isRoom, s_isPassage70, s_leads70, s_isBack70, s_isPassage, s_isRoom, s_isPassage71, s_leads71, s_isBack71]
    refine bk_loop (σ := bF × Int) (fun t x => bk_den TX0_laysComing (bk_call (d + 1)) 53 [.ref 64, .int v1, .int v2, .int (bk_i x.2), .int (bk_i t)] [] (bk_M κ (cp, x.1, cj) Y g n))
      (fun t x => 0 ≤ t ∧ (∀ a, a ≠ 85 → x.1 a = cs a) ∧ dPass N 36 Z 536870912 (cs1 85) t (x.1 85) x.2) 36 ?_ ?_ 0 (cs1, 0) (by omega) ⟨by omega, fr, hI1, Int.le_refl _, Or.inl rfl, fun _ u u0 u1 => by omega, fun q => absurd q (by simp)⟩
    · rintro t ⟨cs2, m⟩ ht ⟨t0, fr2, hp⟩ cont
      dsimp only at fr2 hp ⊢
      have e84 := fr2 84 (by decide)
      have el := s_lowers (κ := κ) (cp := cp) (cs := cs2) (cj := cj) (Y := Y) (n := n) (D := d + 1) (N := N) hF hc' h0 h1 (fun p p0 p1 => by rw [e84]; exact hN t p t0 ht p0 p1) hr (fun u u0 u1 => hp.1.1 u u0 u1) t0 ht (by omega)
      rw [eX0_laysComing_53]
      simp (disch := first | assumption | omega) only [c0, c1, c2, c3, c4, c5, c6, c7, c8, ctw, cb, ce, cd, cw, cwp, if_neg (show ¬ 36 ≤ t by omega), el, bi_add, bi_sub, bi_mul, bi_neg, bi_div, bi_64, bl_add, bl_sub, bl_mul, bl_neg, bl_div, bl_32, bi_min, bi_max, bl_min, bl_max, bq_I, bq_J, bq_A, bq_Vi, bq_Vl, bq_Vr, bq_cV, bq_cI, bq_cJ, bq_cA, bq_le, bq_lt, bq_eq, bq_z, bq_o, bq_ref, bq_nz, bq_nzJ, bq_bl, bq_blz, bq_T, bq_F, if_true, if_false, Int.reduceEq, Int.reduceLT, Int.reduceLE, Int.reduceAdd, Int.reduceSub, Int.reduceMul, Int.add_sub_cancel, li_0, li_1, li_2, li_12, li_14, li_33, li_35, li_36, li_37, li_44, li_53, li_100, li_536870912, ll_0, ll_1, ll_2, ll_12, ll_14, ll_33, ll_35, ll_36, ll_37, ll_44, ll_53, ll_100, ga72, ga84, ga85, ga86, ga90, ga92, ga87, ga91, ga88, ga89, gf64_4, gf64_5, gf64_6, gf64_8, gf64_9, gf64_10, gf64_14, gf70_0, gf70_1, gf70_2, gf70_3, gf71_0, gf71_1, gf71_2, gf71_3, gs74_0, gs74_1, gs74_2, gs74_3, gs100_0, gs100_1, gs100_2, gs100_3, gr64_1, gr64_2, gr64_3, gr64_7, gr64_11, gr64_12, gr64_13, gr64_15, gr64_16, gr64_17, gr64_18, gr64_19, gr64_20, gr64_21, gr64_22, gr64_23, gr70_4, gr71_4, gu73, gu99, gu93, pa72, pa84, pa85, pa86, pa90, pa92, pa87, pa91, pa88, pa89, pf64_4, pf64_5, pf64_6, pf64_8, pf64_9, pf64_10, pf64_14, pf70_0, pf70_1, pf70_2, pf70_3, pf71_0, pf71_1, pf71_2, pf71_3, ps74_0, ps74_1, ps74_2, ps74_3, ps100_0, ps100_1, ps100_2, ps100_3, s_in, s_has, s_one, s_roomOf, s_hurtOf, s_isLost, s_standOf, s_isTray, s_isSoon, s_fallen, s_isPassage, s_isRoom, s_isPassage70, s_leads70, s_isBack70, s_isPassage, s_isRoom, s_isPassage71, s_leads71, s_isBack71]
      have m01 := hp.2.2.1
      by_cases q : lw N (cs2 85) t (A 2).toNat < cs2 85 t
      · rw [if_pos q, bz_t q, bi_or01 m01 (Or.inr rfl)]
        refine cont (bU cs2 85 t (lw N (cs2 85) t (A 2).toNat), max m 1) ⟨by omega, fun a ha => ?_, ?_⟩
        · funext j; show bU cs2 85 t (lw N (cs2 85) t (A 2).toNat) a j = _; rw [bU_ne _ _ _ _ _ _ ha, fr2 a ha]
        · have e : bU cs2 85 t (lw N (cs2 85) t (A 2).toNat) 85 = fU (cs2 85) t (lw N (cs2 85) t (A 2).toNat) := by
            funext j; rw [bU_same]; rfl
          show dPass _ _ _ _ _ _ (bU cs2 85 t (lw N (cs2 85) t (A 2).toNat) 85) _
          rw [e]
          exact dPass_hit (by omega) hr t0 ht hp q
      · rw [if_neg q, bz_f q, bi_or01 m01 (Or.inl rfl)]
        exact cont (cs2, max m 0) ⟨by omega, fr2, dPass_not (fun p p0 p1 p2 => by have := hdom t p p2; omega) hp q⟩
    · rintro ⟨cs2, m⟩ ⟨t0, fr2, hp⟩
      dsimp only at fr2 hp ⊢
      have nn1 := dS_nn (f := cs2 85) (R := 36) (fun s s0 s1 => (hp.1.1 s s0 s1).1)
      obtain ⟨p1, p2, p3, p4, p5⟩ := hp
      rw [eX0_laysComing_53]
      simp (disch := first | assumption | omega) only [if_pos (Int.le_refl 36), bi_add, bi_sub, bi_mul, bi_neg, bi_div, bi_64, bl_add, bl_sub, bl_mul, bl_neg, bl_div, bl_32, bi_min, bi_max, bl_min, bl_max, bq_I, bq_J, bq_A, bq_Vi, bq_Vl, bq_Vr, bq_cV, bq_cI, bq_cJ, bq_cA, bq_le, bq_lt, bq_eq, bq_z, bq_o, bq_ref, bq_nz, bq_nzJ, bq_bl, bq_blz, bq_T, bq_F, if_true, if_false, Int.reduceEq, Int.reduceLT, Int.reduceLE, Int.reduceAdd, Int.reduceSub, Int.reduceMul, Int.add_sub_cancel, li_0, li_1, li_2, li_12, li_14, li_33, li_35, li_36, li_37, li_44, li_53, li_100, li_536870912, ll_0, ll_1, ll_2, ll_12, ll_14, ll_33, ll_35, ll_36, ll_37, ll_44, ll_53, ll_100, ga72, ga84, ga85, ga86, ga90, ga92, ga87, ga91, ga88, ga89, gf64_4, gf64_5, gf64_6, gf64_8, gf64_9, gf64_10, gf64_14, gf70_0, gf70_1, gf70_2, gf70_3, gf71_0, gf71_1, gf71_2, gf71_3, gs74_0, gs74_1, gs74_2, gs74_3, gs100_0, gs100_1, gs100_2, gs100_3, gr64_1, gr64_2, gr64_3, gr64_7, gr64_11, gr64_12, gr64_13, gr64_15, gr64_16, gr64_17, gr64_18, gr64_19, gr64_20, gr64_21, gr64_22, gr64_23, gr70_4, gr71_4, gu73, gu99, gu93, pa72, pa84, pa85, pa86, pa90, pa92, pa87, pa91, pa88, pa89, pf64_4, pf64_5, pf64_6, pf64_8, pf64_9, pf64_10, pf64_14, pf70_0, pf70_1, pf70_2, pf70_3, pf71_0, pf71_1, pf71_2, pf71_3, ps74_0, ps74_1, ps74_2, ps74_3, ps100_0, ps100_1, ps100_2, ps100_3, s_in, s_has, s_one, s_roomOf, s_hurtOf, s_isLost, s_standOf, s_isTray, s_isSoon, s_fallen, s_isPassage, s_isRoom, s_isPassage70, s_leads70, s_isBack70, s_isPassage, s_isRoom, s_isPassage71, s_leads71, s_isBack71]
      refine again (cs2, m, .int (bk_i 36)) ?_ ⟨fr2, p1, p3, fun q => ⟨p1, fun u u0 u1 uz => p4 q u u0 u1 uz⟩⟩
      dsimp only
      rcases p3 with rfl | rfl
      · omega
      · have := p5 rfl
        omega
theorem while_X0_ahead (hF : bFix g) (hc : bRC κ g ca A) (h0 : 0 ≤ A 2) (h1 : A 2 ≤ 8) {Z : Int → Prop} (hN : ∀ s p, 0 ≤ s → s < 36 → 0 ≤ p → p < A 2 → cs 84 (8 * s + p) = N s p) (hr : isN N 36) (hdom : ∀ s p, N s p ≠ -1 → p < A 2) (hI : dInv N 36 Z 536870912 (cs 85)) (hD : 2 ≤ D) {Q : Option Value → bk_H → Prop} (v1 v2 v3 : Int32) (w : Value)
    (hcont : ∀ (cs' : bF) (w : Value), (∀ a, a ≠ 85 → cs' a = cs a) → isD N 36 Z 536870912 (cs' 85) → bk_wp (bk_den TX0_ahead (bk_call D) 60 [.ref 64, .int v1, .int v2, .int v3, .int (bk_i 0), w, bk_u] [] (bk_M κ (cp, cs', cj) Y g n)) Q) :
    bk_wp (bk_den TX0_ahead (bk_call D) 60 [.ref 64, .int v1, .int v2, .int v3, .int (bk_i 1), w, bk_u] [] (bk_M κ (cp, cs, cj) Y g n)) Q := by
  obtain ⟨d, rfl⟩ := dep hD
  have hc' := hc
  obtain ⟨c0, c1, c2, c3, c4, c5, c6, c7, c8, ⟨tw, ctw, htw⟩, cb, ce, cd, cw, cwp, hca, -, -⟩ := hc
  refine bk_while (σ := bF × Int × Value) (fun x => bk_den TX0_ahead (bk_call (d + 1)) 60 [.ref 64, .int v1, .int v2, .int v3, .int (bk_i x.2.1), x.2.2, bk_u] [] (bk_M κ (cp, x.1, cj) Y g n)) (fun x => 2 * (dS (x.1 85) 36).toNat + x.2.1.toNat)
    (fun x => (∀ a, a ≠ 85 → x.1 a = cs a) ∧ dInv N 36 Z 536870912 (x.1 85) ∧ (x.2.1 = 0 ∨ x.2.1 = 1) ∧ (x.2.1 = 0 → isD N 36 Z 536870912 (x.1 85))) ?_ (cs, 1, w) ⟨fun _ _ => rfl, hI, Or.inr rfl, fun q => absurd q (by simp)⟩
  rintro ⟨cs1, more, w1⟩ ⟨fr, hI1, m01, hex⟩ again
  dsimp only at fr hI1 m01 hex again ⊢
  rcases m01 with rfl | rfl
  · exact hcont cs1 w1 fr (hex rfl)
  · have nn0 := dS_nn (f := cs1 85) (R := 36) (fun s s0 s1 => (hI1.1 s s0 s1).1)
    rw [eX0_ahead_60]
    simp (disch := first | assumption | omega) only [if_neg (show ¬ (1 : Int) = 0 by decide), bi_add, bi_sub, bi_mul, bi_neg, bi_div, bi_64, bl_add, bl_sub, bl_mul, bl_neg, bl_div, bl_32, bi_min, bi_max, bl_min, bl_max, bq_I, bq_J, bq_A, bq_Vi, bq_Vl, bq_Vr, bq_cV, bq_cI, bq_cJ, bq_cA, bq_le, bq_lt, bq_eq, bq_z, bq_o, bq_ref, bq_nz, bq_nzJ, bq_bl, bq_blz, bq_T, bq_F, if_true, if_false, Int.reduceEq, Int.reduceLT, Int.reduceLE, Int.reduceAdd, Int.reduceSub, Int.reduceMul, Int.add_sub_cancel, li_0, li_1, li_5, li_10, li_12, li_13, li_21, li_34, li_36, li_37, li_44, li_47, li_50, li_60, li_71, li_100, li_104, li_137, li_138, li_536870912, ll_0, ll_1, ll_5, ll_10, ll_12, ll_13, ll_21, ll_34, ll_36, ll_37, ll_44, ll_47, ll_50, ll_60, ll_71, ll_100, ll_104, ll_137, ll_138, ga72, ga84, ga85, ga86, ga90, ga92, ga87, ga91, ga88, ga89, gf64_4, gf64_5, gf64_6, gf64_8, gf64_9, gf64_10, gf64_14, gf70_0, gf70_1, gf70_2, gf70_3, gf71_0, gf71_1, gf71_2, gf71_3, gs74_0, gs74_1, gs74_2, gs74_3, gs100_0, gs100_1, gs100_2, gs100_3, gr64_1, gr64_2, gr64_3, gr64_7, gr64_11, gr64_12, gr64_13, gr64_15, gr64_16, gr64_17, gr64_18, gr64_19, gr64_20, gr64_21, gr64_22, gr64_23, gr70_4, gr71_4, gu73, gu99, gu93, pa72, pa84, pa85, pa86, pa90, pa92, pa87, pa91, pa88, pa89, pf64_4, pf64_5, pf64_6, pf64_8, pf64_9, pf64_10, pf64_14, pf70_0, pf70_1, pf70_2, pf70_3, pf71_0, pf71_1, pf71_2, pf71_3, ps74_0, ps74_1, ps74_2, ps74_3, ps100_0, ps100_1, ps100_2, ps100_3, s_in, s_has, s_one, s_roomOf, s_hurtOf, s_isLost, s_standOf, s_isTray, s_isSoon, s_fallen, s_isPassage, s_isRoom, s_isPassage70, s_leads70, s_isBack70, s_isPassage, s_isRoom, s_isPassage71, s_leads71, s_isBack71]
    refine bk_loop (σ := bF × Int) (fun t x => bk_den TX0_ahead (bk_call (d + 1)) 71 [.ref 64, .int v1, .int v2, .int v3, .int (bk_i x.2), .int (bk_i t), bk_u] [] (bk_M κ (cp, x.1, cj) Y g n))
      (fun t x => 0 ≤ t ∧ (∀ a, a ≠ 85 → x.1 a = cs a) ∧ dPass N 36 Z 536870912 (cs1 85) t (x.1 85) x.2) 36 ?_ ?_ 0 (cs1, 0) (by omega) ⟨by omega, fr, hI1, Int.le_refl _, Or.inl rfl, fun _ u u0 u1 => by omega, fun q => absurd q (by simp)⟩
    · rintro t ⟨cs2, m⟩ ht ⟨t0, fr2, hp⟩ cont
      dsimp only at fr2 hp ⊢
      have e84 := fr2 84 (by decide)
      have el := s_lowers (κ := κ) (cp := cp) (cs := cs2) (cj := cj) (Y := Y) (n := n) (D := d + 1) (N := N) hF hc' h0 h1 (fun p p0 p1 => by rw [e84]; exact hN t p t0 ht p0 p1) hr (fun u u0 u1 => hp.1.1 u u0 u1) t0 ht (by omega)
      rw [eX0_ahead_71]
      simp (disch := first | assumption | omega) only [c0, c1, c2, c3, c4, c5, c6, c7, c8, ctw, cb, ce, cd, cw, cwp, if_neg (show ¬ 36 ≤ t by omega), el, bi_add, bi_sub, bi_mul, bi_neg, bi_div, bi_64, bl_add, bl_sub, bl_mul, bl_neg, bl_div, bl_32, bi_min, bi_max, bl_min, bl_max, bq_I, bq_J, bq_A, bq_Vi, bq_Vl, bq_Vr, bq_cV, bq_cI, bq_cJ, bq_cA, bq_le, bq_lt, bq_eq, bq_z, bq_o, bq_ref, bq_nz, bq_nzJ, bq_bl, bq_blz, bq_T, bq_F, if_true, if_false, Int.reduceEq, Int.reduceLT, Int.reduceLE, Int.reduceAdd, Int.reduceSub, Int.reduceMul, Int.add_sub_cancel, li_0, li_1, li_5, li_10, li_12, li_13, li_21, li_34, li_36, li_37, li_44, li_47, li_50, li_60, li_71, li_100, li_104, li_137, li_138, li_536870912, ll_0, ll_1, ll_5, ll_10, ll_12, ll_13, ll_21, ll_34, ll_36, ll_37, ll_44, ll_47, ll_50, ll_60, ll_71, ll_100, ll_104, ll_137, ll_138, ga72, ga84, ga85, ga86, ga90, ga92, ga87, ga91, ga88, ga89, gf64_4, gf64_5, gf64_6, gf64_8, gf64_9, gf64_10, gf64_14, gf70_0, gf70_1, gf70_2, gf70_3, gf71_0, gf71_1, gf71_2, gf71_3, gs74_0, gs74_1, gs74_2, gs74_3, gs100_0, gs100_1, gs100_2, gs100_3, gr64_1, gr64_2, gr64_3, gr64_7, gr64_11, gr64_12, gr64_13, gr64_15, gr64_16, gr64_17, gr64_18, gr64_19, gr64_20, gr64_21, gr64_22, gr64_23, gr70_4, gr71_4, gu73, gu99, gu93, pa72, pa84, pa85, pa86, pa90, pa92, pa87, pa91, pa88, pa89, pf64_4, pf64_5, pf64_6, pf64_8, pf64_9, pf64_10, pf64_14, pf70_0, pf70_1, pf70_2, pf70_3, pf71_0, pf71_1, pf71_2, pf71_3, ps74_0, ps74_1, ps74_2, ps74_3, ps100_0, ps100_1, ps100_2, ps100_3, s_in, s_has, s_one, s_roomOf, s_hurtOf, s_isLost, s_standOf, s_isTray, s_isSoon, s_fallen, s_isPassage, s_isRoom, s_isPassage70, s_leads70, s_isBack70, s_isPassage, s_isRoom, s_isPassage71, s_leads71, s_isBack71]
      have m01 := hp.2.2.1
      by_cases q : lw N (cs2 85) t (A 2).toNat < cs2 85 t
      · rw [if_pos q, bz_t q, bi_or01 m01 (Or.inr rfl)]
        refine cont (bU cs2 85 t (lw N (cs2 85) t (A 2).toNat), max m 1) ⟨by omega, fun a ha => ?_, ?_⟩
        · funext j; show bU cs2 85 t (lw N (cs2 85) t (A 2).toNat) a j = _; rw [bU_ne _ _ _ _ _ _ ha, fr2 a ha]
        · have e : bU cs2 85 t (lw N (cs2 85) t (A 2).toNat) 85 = fU (cs2 85) t (lw N (cs2 85) t (A 2).toNat) := by
            funext j; rw [bU_same]; rfl
          show dPass _ _ _ _ _ _ (bU cs2 85 t (lw N (cs2 85) t (A 2).toNat) 85) _
          rw [e]
          exact dPass_hit (by omega) hr t0 ht hp q
      · rw [if_neg q, bz_f q, bi_or01 m01 (Or.inl rfl)]
        exact cont (cs2, max m 0) ⟨by omega, fr2, dPass_not (fun p p0 p1 p2 => by have := hdom t p p2; omega) hp q⟩
    · rintro ⟨cs2, m⟩ ⟨t0, fr2, hp⟩
      dsimp only at fr2 hp ⊢
      have nn1 := dS_nn (f := cs2 85) (R := 36) (fun s s0 s1 => (hp.1.1 s s0 s1).1)
      obtain ⟨p1, p2, p3, p4, p5⟩ := hp
      rw [eX0_ahead_71]
      simp (disch := first | assumption | omega) only [if_pos (Int.le_refl 36), bi_add, bi_sub, bi_mul, bi_neg, bi_div, bi_64, bl_add, bl_sub, bl_mul, bl_neg, bl_div, bl_32, bi_min, bi_max, bl_min, bl_max, bq_I, bq_J, bq_A, bq_Vi, bq_Vl, bq_Vr, bq_cV, bq_cI, bq_cJ, bq_cA, bq_le, bq_lt, bq_eq, bq_z, bq_o, bq_ref, bq_nz, bq_nzJ, bq_bl, bq_blz, bq_T, bq_F, if_true, if_false, Int.reduceEq, Int.reduceLT, Int.reduceLE, Int.reduceAdd, Int.reduceSub, Int.reduceMul, Int.add_sub_cancel, li_0, li_1, li_5, li_10, li_12, li_13, li_21, li_34, li_36, li_37, li_44, li_47, li_50, li_60, li_71, li_100, li_104, li_137, li_138, li_536870912, ll_0, ll_1, ll_5, ll_10, ll_12, ll_13, ll_21, ll_34, ll_36, ll_37, ll_44, ll_47, ll_50, ll_60, ll_71, ll_100, ll_104, ll_137, ll_138, ga72, ga84, ga85, ga86, ga90, ga92, ga87, ga91, ga88, ga89, gf64_4, gf64_5, gf64_6, gf64_8, gf64_9, gf64_10, gf64_14, gf70_0, gf70_1, gf70_2, gf70_3, gf71_0, gf71_1, gf71_2, gf71_3, gs74_0, gs74_1, gs74_2, gs74_3, gs100_0, gs100_1, gs100_2, gs100_3, gr64_1, gr64_2, gr64_3, gr64_7, gr64_11, gr64_12, gr64_13, gr64_15, gr64_16, gr64_17, gr64_18, gr64_19, gr64_20, gr64_21, gr64_22, gr64_23, gr70_4, gr71_4, gu73, gu99, gu93, pa72, pa84, pa85, pa86, pa90, pa92, pa87, pa91, pa88, pa89, pf64_4, pf64_5, pf64_6, pf64_8, pf64_9, pf64_10, pf64_14, pf70_0, pf70_1, pf70_2, pf70_3, pf71_0, pf71_1, pf71_2, pf71_3, ps74_0, ps74_1, ps74_2, ps74_3, ps100_0, ps100_1, ps100_2, ps100_3, s_in, s_has, s_one, s_roomOf, s_hurtOf, s_isLost, s_standOf, s_isTray, s_isSoon, s_fallen, s_isPassage, s_isRoom, s_isPassage70, s_leads70, s_isBack70, s_isPassage, s_isRoom, s_isPassage71, s_leads71, s_isBack71]
      refine again (cs2, m, .int (bk_i 36)) ?_ ⟨fr2, p1, p3, fun q => ⟨p1, fun u u0 u1 uz => p4 q u u0 u1 uz⟩⟩
      dsimp only
      rcases p3 with rfl | rfl
      · omega
      · have := p5 rfl
        omega
end FA
