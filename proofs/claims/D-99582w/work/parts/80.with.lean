/-! SPECS: the component: withstands, chance, best -/
set_option maxRecDepth 100000
section WS
variable {κ : Nat → Nat} {cp cs : bF} {cj : bFJ} {Y : bY} {X : bX} {g : bG} {n : Nat × Nat} {ca : Nat} {A : Int → Int} {s p v r hu i to m f what : Int} {D : Nat} {N : Int → Int → Int}
def rw91 (a : Nat) (cs : bF) (f : Int) : Int → Int := fun s => cs a (36 * f + s)
def pv91 (a : Nat) (cs : bF) (f : Int) : Option (Int → Int) := if f = 0 then none else some (rw91 a cs (f - 1))
/-- a step after which he stands well, fallen or not -/
def wOk (a : Nat) (cs : bF) (N : Int → Int → Int) (f s p : Int) : Prop := N s p ≠ -1 ∧ cs a (36 * f + N s p) = 1 ∧ (f = 0 ∨ cs a (36 * (f - 1) + fln (N s p)) = 1)
theorem s_winsBy (hF : bFix g) (hN : cs 84 (8 * s + p) = N s p) (hr : N s p = -1 ∨ (0 ≤ N s p ∧ N s p < 36)) (f0 : 0 ≤ f) (f1 : f ≤ 9) (s0 : 0 ≤ s) (s1 : s < 36) (p0 : 0 ≤ p) (p1 : p < 8)
    (h01 : ∀ t, 0 ≤ t → t < 36 → cs 91 (36 * f + t) = 0 ∨ cs 91 (36 * f + t) = 1) (h02 : f ≠ 0 → ∀ t, 0 ≤ t → t < 36 → cs 91 (36 * (f - 1) + t) = 0 ∨ cs 91 (36 * (f - 1) + t) = 1) (hD : 4 ≤ D) :
    bk_call D 71 [.ref 64, .int (bk_i s), .int (bk_i p), .int (bk_i f)] (bk_M κ (cp, cs, cj) Y g n) = some (some (.int (bk_i (bzc (wOk 91 cs N f s p)))), bk_M κ (cp, cs, cj) Y g n) := by
  obtain ⟨d, rfl⟩ := dep hD
  unfold wOk
  rw [kX0_winsBy, eX0_winsBy_0]
  by_cases q : N s p = -1
  · simp (disch := first | assumption | omega) only [hN, bi_add, bi_sub, bi_mul, bi_neg, bi_div, bi_64, bl_add, bl_sub, bl_mul, bl_neg, bl_div, bl_32, bi_min, bi_max, bl_min, bl_max, bq_I, bq_J, bq_A, bq_Vi, bq_Vl, bq_Vr, bq_cV, bq_cI, bq_cJ, bq_cA, bq_le, bq_lt, bq_eq, bq_z, bq_o, bq_ref, bq_nz, bq_nzJ, bq_bl, bq_blz, bq_T, bq_F, if_true, if_false, Int.reduceEq, Int.reduceLT, Int.reduceLE, Int.reduceAdd, Int.reduceSub, Int.reduceMul, Int.add_sub_cancel, li_0, li_1, li_8, li_11, li_19, li_36, li_58, li_71, li_72, li_100, li_102, ll_0, ll_1, ll_8, ll_11, ll_19, ll_36, ll_58, ll_71, ll_72, ll_100, ll_102, ga72, ga84, ga85, ga86, ga90, ga92, ga87, ga91, ga88, ga89, gf64_4, gf64_5, gf64_6, gf64_8, gf64_9, gf64_10, gf64_14, gf70_0, gf70_1, gf70_2, gf70_3, gf71_0, gf71_1, gf71_2, gf71_3, gs74_0, gs74_1, gs74_2, gs74_3, gs100_0, gs100_1, gs100_2, gs100_3, gr64_1, gr64_2, gr64_3, gr64_7, gr64_11, gr64_12, gr64_13, gr64_15, gr64_16, gr64_17, gr64_18, gr64_19, gr64_20, gr64_21, gr64_22, gr64_23, gr70_4, gr71_4, gu73, gu99, gu93, pa72, pa84, pa85, pa86, pa90, pa92, pa87, pa91, pa88, pa89, pf64_4, pf64_5, pf64_6, pf64_8, pf64_9, pf64_10, pf64_14, pf70_0, pf70_1, pf70_2, pf70_3, pf71_0, pf71_1, pf71_2, pf71_3, ps74_0, ps74_1, ps74_2, ps74_3, ps100_0, ps100_1, ps100_2, ps100_3, s_in, s_has, s_one, s_roomOf, s_hurtOf, s_isLost, s_standOf, s_isTray, s_isSoon, s_fallen, s_isPassage, s_isRoom, s_isPassage70, s_leads70, s_isBack70, s_isPassage, s_isRoom, s_isPassage71, s_leads71, s_isBack71, s_onec, s_bitCount, s_be7170, s_be7071, u_tens77]
    rw [if_pos q, bzc_f (fun k => k.1 q)]
  · have np : 0 ≤ N s p ∧ N s p < 36 := by omega
    have fl := fln_R (R := 36) rfl np.1 np.2
    have a := h01 _ np.1 np.2
    simp (disch := first | assumption | omega) only [hN, if_neg q, bi_add, bi_sub, bi_mul, bi_neg, bi_div, bi_64, bl_add, bl_sub, bl_mul, bl_neg, bl_div, bl_32, bi_min, bi_max, bl_min, bl_max, bq_I, bq_J, bq_A, bq_Vi, bq_Vl, bq_Vr, bq_cV, bq_cI, bq_cJ, bq_cA, bq_le, bq_lt, bq_eq, bq_z, bq_o, bq_ref, bq_nz, bq_nzJ, bq_bl, bq_blz, bq_T, bq_F, if_true, if_false, Int.reduceEq, Int.reduceLT, Int.reduceLE, Int.reduceAdd, Int.reduceSub, Int.reduceMul, Int.add_sub_cancel, li_0, li_1, li_8, li_11, li_19, li_36, li_58, li_71, li_72, li_100, li_102, ll_0, ll_1, ll_8, ll_11, ll_19, ll_36, ll_58, ll_71, ll_72, ll_100, ll_102, ga72, ga84, ga85, ga86, ga90, ga92, ga87, ga91, ga88, ga89, gf64_4, gf64_5, gf64_6, gf64_8, gf64_9, gf64_10, gf64_14, gf70_0, gf70_1, gf70_2, gf70_3, gf71_0, gf71_1, gf71_2, gf71_3, gs74_0, gs74_1, gs74_2, gs74_3, gs100_0, gs100_1, gs100_2, gs100_3, gr64_1, gr64_2, gr64_3, gr64_7, gr64_11, gr64_12, gr64_13, gr64_15, gr64_16, gr64_17, gr64_18, gr64_19, gr64_20, gr64_21, gr64_22, gr64_23, gr70_4, gr71_4, gu73, gu99, gu93, pa72, pa84, pa85, pa86, pa90, pa92, pa87, pa91, pa88, pa89, pf64_4, pf64_5, pf64_6, pf64_8, pf64_9, pf64_10, pf64_14, pf70_0, pf70_1, pf70_2, pf70_3, pf71_0, pf71_1, pf71_2, pf71_3, ps74_0, ps74_1, ps74_2, ps74_3, ps100_0, ps100_1, ps100_2, ps100_3, s_in, s_has, s_one, s_roomOf, s_hurtOf, s_isLost, s_standOf, s_isTray, s_isSoon, s_fallen, s_isPassage, s_isRoom, s_isPassage70, s_leads70, s_isBack70, s_isPassage, s_isRoom, s_isPassage71, s_leads71, s_isBack71, s_onec, s_bitCount, s_be7170, s_be7071, u_tens77]
    by_cases q2 : cs 91 (36 * f + N s p) = 0
    · rw [if_pos q2, bzc_f (fun k => by have := k.2.1; omega)]
    · rw [if_neg q2]
      by_cases q3 : f = 0
      · rw [if_pos q3, eX0_winsBy_58, bzc_t ⟨q, by omega, Or.inl q3⟩]; rfl
      · have b := h02 q3 _ fl.1 fl.2
        rw [if_neg q3]
        simp (disch := first | assumption | omega) only [bi_add, bi_sub, bi_mul, bi_neg, bi_div, bi_64, bl_add, bl_sub, bl_mul, bl_neg, bl_div, bl_32, bi_min, bi_max, bl_min, bl_max, bq_I, bq_J, bq_A, bq_Vi, bq_Vl, bq_Vr, bq_cV, bq_cI, bq_cJ, bq_cA, bq_le, bq_lt, bq_eq, bq_z, bq_o, bq_ref, bq_nz, bq_nzJ, bq_bl, bq_blz, bq_T, bq_F, if_true, if_false, Int.reduceEq, Int.reduceLT, Int.reduceLE, Int.reduceAdd, Int.reduceSub, Int.reduceMul, Int.add_sub_cancel, li_0, li_1, li_8, li_11, li_19, li_36, li_58, li_71, li_72, li_100, li_102, ll_0, ll_1, ll_8, ll_11, ll_19, ll_36, ll_58, ll_71, ll_72, ll_100, ll_102, ga72, ga84, ga85, ga86, ga90, ga92, ga87, ga91, ga88, ga89, gf64_4, gf64_5, gf64_6, gf64_8, gf64_9, gf64_10, gf64_14, gf70_0, gf70_1, gf70_2, gf70_3, gf71_0, gf71_1, gf71_2, gf71_3, gs74_0, gs74_1, gs74_2, gs74_3, gs100_0, gs100_1, gs100_2, gs100_3, gr64_1, gr64_2, gr64_3, gr64_7, gr64_11, gr64_12, gr64_13, gr64_15, gr64_16, gr64_17, gr64_18, gr64_19, gr64_20, gr64_21, gr64_22, gr64_23, gr70_4, gr71_4, gu73, gu99, gu93, pa72, pa84, pa85, pa86, pa90, pa92, pa87, pa91, pa88, pa89, pf64_4, pf64_5, pf64_6, pf64_8, pf64_9, pf64_10, pf64_14, pf70_0, pf70_1, pf70_2, pf70_3, pf71_0, pf71_1, pf71_2, pf71_3, ps74_0, ps74_1, ps74_2, ps74_3, ps100_0, ps100_1, ps100_2, ps100_3, s_in, s_has, s_one, s_roomOf, s_hurtOf, s_isLost, s_standOf, s_isTray, s_isSoon, s_fallen, s_isPassage, s_isRoom, s_isPassage70, s_leads70, s_isBack70, s_isPassage, s_isRoom, s_isPassage71, s_leads71, s_isBack71, s_onec, s_bitCount, s_be7170, s_be7071, u_tens77]
        by_cases q4 : cs 91 (36 * (f - 1) + fln (N s p)) = 0
        · rw [if_pos q4, bzc_f (fun k => by have := k.2.2; omega)]
        · rw [if_neg q4, eX0_winsBy_58, bzc_t ⟨q, by omega, Or.inr (by omega)⟩]; rfl
theorem s_gains (hF : bFix g) (hc : bRC κ g ca A) (h0 : 0 ≤ A 2) (h1 : A 2 ≤ 8) (hN : ∀ p, 0 ≤ p → p < A 2 → cs 84 (8 * s + p) = N s p) (hr : isN N 36) (hdom : ∀ s p, N s p ≠ -1 → p < A 2) (f0 : 0 ≤ f) (f1 : f ≤ 9) (s0 : 0 ≤ s) (s1 : s < 36)
    (h01 : ∀ t, 0 ≤ t → t < 36 → cs 91 (36 * f + t) = 0 ∨ cs 91 (36 * f + t) = 1) (h02 : f ≠ 0 → ∀ t, 0 ≤ t → t < 36 → cs 91 (36 * (f - 1) + t) = 0 ∨ cs 91 (36 * (f - 1) + t) = 1) (hD : 5 ≤ D) :
    (∃ p, 0 ≤ p ∧ p < 8 ∧ wOk 91 cs N f s p ∧ cs 91 (36 * f + s) = 0 ∧ bk_call D 70 [.ref 64, .int (bk_i s), .int (bk_i f)] (bk_M κ (cp, cs, cj) Y g n) = some (some (.int (bk_i 1)), bk_M κ (cp, bU cs 91 (36 * f + s) 1, cj) Y g n))
    ∨ ((cs 91 (36 * f + s) = 1 ∨ ∀ p, 0 ≤ p → p < 8 → ¬ wOk 91 cs N f s p) ∧ bk_call D 70 [.ref 64, .int (bk_i s), .int (bk_i f)] (bk_M κ (cp, cs, cj) Y g n) = some (some (.int (bk_i 0)), bk_M κ (cp, cs, cj) Y g n)) := by
  obtain ⟨d, rfl⟩ := dep hD
  have hc' := hc
  have a := h01 s s0 s1
  obtain ⟨c0, c1, c2, c3, c4, c5, c6, c7, c8, ⟨tw, ctw, htw⟩, cb, ce, cd, cw, cwp, hca, -, -⟩ := hc
  have goal : bk_wp (bk_call (d + 1) 70 [.ref 64, .int (bk_i s), .int (bk_i f)] (bk_M κ (cp, cs, cj) Y g n)) (fun v h' => (∃ p, 0 ≤ p ∧ p < 8 ∧ wOk 91 cs N f s p ∧ cs 91 (36 * f + s) = 0 ∧ v = some (.int (bk_i 1)) ∧ h' = bk_M κ (cp, bU cs 91 (36 * f + s) 1, cj) Y g n)
      ∨ ((cs 91 (36 * f + s) = 1 ∨ ∀ p, 0 ≤ p → p < 8 → ¬ wOk 91 cs N f s p) ∧ v = some (.int (bk_i 0)) ∧ h' = bk_M κ (cp, cs, cj) Y g n)) := by
    rw [kX0_gains, eX0_gains_0]
    simp (disch := first | assumption | omega) only [bi_add, bi_sub, bi_mul, bi_neg, bi_div, bi_64, bl_add, bl_sub, bl_mul, bl_neg, bl_div, bl_32, bi_min, bi_max, bl_min, bl_max, bq_I, bq_J, bq_A, bq_Vi, bq_Vl, bq_Vr, bq_cV, bq_cI, bq_cJ, bq_cA, bq_le, bq_lt, bq_eq, bq_z, bq_o, bq_ref, bq_nz, bq_nzJ, bq_bl, bq_blz, bq_T, bq_F, if_true, if_false, Int.reduceEq, Int.reduceLT, Int.reduceLE, Int.reduceAdd, Int.reduceSub, Int.reduceMul, Int.add_sub_cancel, li_0, li_1, li_5, li_18, li_19, li_36, li_70, li_71, li_102, ll_0, ll_1, ll_5, ll_18, ll_19, ll_36, ll_70, ll_71, ll_102, ga72, ga84, ga85, ga86, ga90, ga92, ga87, ga91, ga88, ga89, gf64_4, gf64_5, gf64_6, gf64_8, gf64_9, gf64_10, gf64_14, gf70_0, gf70_1, gf70_2, gf70_3, gf71_0, gf71_1, gf71_2, gf71_3, gs74_0, gs74_1, gs74_2, gs74_3, gs100_0, gs100_1, gs100_2, gs100_3, gr64_1, gr64_2, gr64_3, gr64_7, gr64_11, gr64_12, gr64_13, gr64_15, gr64_16, gr64_17, gr64_18, gr64_19, gr64_20, gr64_21, gr64_22, gr64_23, gr70_4, gr71_4, gu73, gu99, gu93, pa72, pa84, pa85, pa86, pa90, pa92, pa87, pa91, pa88, pa89, pf64_4, pf64_5, pf64_6, pf64_8, pf64_9, pf64_10, pf64_14, pf70_0, pf70_1, pf70_2, pf70_3, pf71_0, pf71_1, pf71_2, pf71_3, ps74_0, ps74_1, ps74_2, ps74_3, ps100_0, ps100_1, ps100_2, ps100_3, s_in, s_has, s_one, s_roomOf, s_hurtOf, s_isLost, s_standOf, s_isTray, s_isSoon, s_fallen, s_isPassage, s_isRoom, s_isPassage70, s_leads70, s_isBack70, s_isPassage, s_isRoom, s_isPassage71, s_leads71, s_isBack71, s_onec, s_bitCount, s_be7170, s_be7071, u_tens77]
    by_cases q : cs 91 (36 * f + s) = 0
    · rw [if_pos q]
      refine bk_loop (σ := Unit) (fun p _ => bk_den TX0_gains (bk_call d) 18 [.ref 64, .int (bk_i s), .int (bk_i f), .int (bk_i p)] [] (bk_M κ (cp, cs, cj) Y g n)) (fun p _ => 0 ≤ p ∧ ∀ u, 0 ≤ u → u < p → ¬ wOk 91 cs N f s u) (A 2) ?_ ?_ 0 () h0 ⟨by omega, fun u _ _ => by omega⟩
      · rintro p - hp ⟨p0, hv⟩ cont
        have ew := s_winsBy (κ := κ) (cp := cp) (cs := cs) (cj := cj) (Y := Y) (n := n) (D := d) (N := N) hF (hN p p0 hp) (hr s p s0 s1 p0 (by omega)) f0 f1 s0 s1 p0 (by omega) h01 h02 (by omega)
        have z01 := bzc_01 (wOk 91 cs N f s p)
        rw [eX0_gains_18]
        simp (disch := first | assumption | omega) only [c0, c1, c2, c3, c4, c5, c6, c7, c8, ctw, cb, ce, cd, cw, cwp, if_neg (show ¬ A 2 ≤ p by omega), ew, bi_add, bi_sub, bi_mul, bi_neg, bi_div, bi_64, bl_add, bl_sub, bl_mul, bl_neg, bl_div, bl_32, bi_min, bi_max, bl_min, bl_max, bq_I, bq_J, bq_A, bq_Vi, bq_Vl, bq_Vr, bq_cV, bq_cI, bq_cJ, bq_cA, bq_le, bq_lt, bq_eq, bq_z, bq_o, bq_ref, bq_nz, bq_nzJ, bq_bl, bq_blz, bq_T, bq_F, if_true, if_false, Int.reduceEq, Int.reduceLT, Int.reduceLE, Int.reduceAdd, Int.reduceSub, Int.reduceMul, Int.add_sub_cancel, li_0, li_1, li_5, li_18, li_19, li_36, li_70, li_71, li_102, ll_0, ll_1, ll_5, ll_18, ll_19, ll_36, ll_70, ll_71, ll_102, ga72, ga84, ga85, ga86, ga90, ga92, ga87, ga91, ga88, ga89, gf64_4, gf64_5, gf64_6, gf64_8, gf64_9, gf64_10, gf64_14, gf70_0, gf70_1, gf70_2, gf70_3, gf71_0, gf71_1, gf71_2, gf71_3, gs74_0, gs74_1, gs74_2, gs74_3, gs100_0, gs100_1, gs100_2, gs100_3, gr64_1, gr64_2, gr64_3, gr64_7, gr64_11, gr64_12, gr64_13, gr64_15, gr64_16, gr64_17, gr64_18, gr64_19, gr64_20, gr64_21, gr64_22, gr64_23, gr70_4, gr71_4, gu73, gu99, gu93, pa72, pa84, pa85, pa86, pa90, pa92, pa87, pa91, pa88, pa89, pf64_4, pf64_5, pf64_6, pf64_8, pf64_9, pf64_10, pf64_14, pf70_0, pf70_1, pf70_2, pf70_3, pf71_0, pf71_1, pf71_2, pf71_3, ps74_0, ps74_1, ps74_2, ps74_3, ps100_0, ps100_1, ps100_2, ps100_3, s_in, s_has, s_one, s_roomOf, s_hurtOf, s_isLost, s_standOf, s_isTray, s_isSoon, s_fallen, s_isPassage, s_isRoom, s_isPassage70, s_leads70, s_isBack70, s_isPassage, s_isRoom, s_isPassage71, s_leads71, s_isBack71, s_onec, s_bitCount, s_be7170, s_be7071, u_tens77]
        by_cases w : wOk 91 cs N f s p
        · rw [bzc_t w, if_neg (by decide)]
          exact ⟨_, _, rfl, Or.inl ⟨p, p0, by omega, w, q, rfl, rfl⟩⟩
        · rw [bzc_f w, if_pos rfl]
          refine cont () ⟨by omega, fun u a b => ?_⟩
          by_cases e : u = p
          · subst e; exact w
          · exact hv u a (by omega)
      · rintro - ⟨p0, hv⟩
        rw [eX0_gains_18]
        simp (disch := first | assumption | omega) only [c0, c1, c2, c3, c4, c5, c6, c7, c8, ctw, cb, ce, cd, cw, cwp, if_pos (Int.le_refl (A 2)), bi_add, bi_sub, bi_mul, bi_neg, bi_div, bi_64, bl_add, bl_sub, bl_mul, bl_neg, bl_div, bl_32, bi_min, bi_max, bl_min, bl_max, bq_I, bq_J, bq_A, bq_Vi, bq_Vl, bq_Vr, bq_cV, bq_cI, bq_cJ, bq_cA, bq_le, bq_lt, bq_eq, bq_z, bq_o, bq_ref, bq_nz, bq_nzJ, bq_bl, bq_blz, bq_T, bq_F, if_true, if_false, Int.reduceEq, Int.reduceLT, Int.reduceLE, Int.reduceAdd, Int.reduceSub, Int.reduceMul, Int.add_sub_cancel, li_0, li_1, li_5, li_18, li_19, li_36, li_70, li_71, li_102, ll_0, ll_1, ll_5, ll_18, ll_19, ll_36, ll_70, ll_71, ll_102, ga72, ga84, ga85, ga86, ga90, ga92, ga87, ga91, ga88, ga89, gf64_4, gf64_5, gf64_6, gf64_8, gf64_9, gf64_10, gf64_14, gf70_0, gf70_1, gf70_2, gf70_3, gf71_0, gf71_1, gf71_2, gf71_3, gs74_0, gs74_1, gs74_2, gs74_3, gs100_0, gs100_1, gs100_2, gs100_3, gr64_1, gr64_2, gr64_3, gr64_7, gr64_11, gr64_12, gr64_13, gr64_15, gr64_16, gr64_17, gr64_18, gr64_19, gr64_20, gr64_21, gr64_22, gr64_23, gr70_4, gr71_4, gu73, gu99, gu93, pa72, pa84, pa85, pa86, pa90, pa92, pa87, pa91, pa88, pa89, pf64_4, pf64_5, pf64_6, pf64_8, pf64_9, pf64_10, pf64_14, pf70_0, pf70_1, pf70_2, pf70_3, pf71_0, pf71_1, pf71_2, pf71_3, ps74_0, ps74_1, ps74_2, ps74_3, ps100_0, ps100_1, ps100_2, ps100_3, s_in, s_has, s_one, s_roomOf, s_hurtOf, s_isLost, s_standOf, s_isTray, s_isSoon, s_fallen, s_isPassage, s_isRoom, s_isPassage70, s_leads70, s_isBack70, s_isPassage, s_isRoom, s_isPassage71, s_leads71, s_isBack71, s_onec, s_bitCount, s_be7170, s_be7071, u_tens77]
        exact ⟨_, _, rfl, Or.inr ⟨Or.inr fun p a b w => hv p a (hdom s p w.1) w, rfl, rfl⟩⟩
    · rw [if_neg q]
      exact ⟨_, _, rfl, Or.inr ⟨Or.inl (by omega), rfl, rfl⟩⟩
  obtain ⟨z, h', e, ⟨p, a1, a2, a3, a4, rfl, rfl⟩ | ⟨a1, rfl, rfl⟩⟩ := goal
  · exact Or.inl ⟨p, a1, a2, a3, a4, e⟩
  · exact Or.inr ⟨a1, e⟩
theorem s_laysFalls (hF : bFix g) (hc : bRC κ g ca A) (h0 : 0 ≤ A 2) (h1 : A 2 ≤ 8) (hN : ∀ s p, 0 ≤ s → s < 36 → 0 ≤ p → p < A 2 → cs 84 (8 * s + p) = N s p) (hr : isN N 36) (hdom : ∀ s p, N s p ≠ -1 → p < A 2) (f0 : 0 ≤ f) (f1 : f ≤ 9) (r0 : -2147483648 ≤ r) (r1 : r < 2147483648)
    (h02 : f ≠ 0 → ∀ t, 0 ≤ t → t < 36 → cs 91 (36 * (f - 1) + t) = 0 ∨ cs 91 (36 * (f - 1) + t) = 1) (hD : 6 ≤ D) :
    ∃ cs', (∀ a, a ≠ 91 → cs' a = cs a) ∧ isW (Ew N (pv91 91 cs f)) 36 (wB r) (rw91 91 cs' f) ∧ bk_call D 69 [.ref 64, .int (bk_i r), .int (bk_i f)] (bk_M κ (cp, cs, cj) Y g n) = some (none, bk_M κ (cp, cs', cj) Y g n) := by
  obtain ⟨d, rfl⟩ := dep hD
  have hc' := hc
  obtain ⟨c0, c1, c2, c3, c4, c5, c6, c7, c8, ⟨tw, ctw, htw⟩, cb, ce, cd, cw, cwp, hca, -, -⟩ := hc
  have goal : bk_wp (bk_call (d + 1) 69 [.ref 64, .int (bk_i r), .int (bk_i f)] (bk_M κ (cp, cs, cj) Y g n)) (fun v h' => ∃ cs', v = none ∧ h' = bk_M κ (cp, cs', cj) Y g n ∧ (∀ a, a ≠ 91 → cs' a = cs a) ∧ isW (Ew N (pv91 91 cs f)) 36 (wB r) (rw91 91 cs' f)) := by
    rw [kX0_laysFalls, eX0_laysFalls_0]
    refine bk_loop (σ := bF) (fun s x => bk_den TX0_laysFalls (bk_call d) 2 [.ref 64, .int (bk_i r), .int (bk_i f), .int (bk_i s), bk_u] [] (bk_M κ (cp, x, cj) Y g n))
      (fun s x => 0 ≤ s ∧ (∀ a, a ≠ 91 → x a = cs a) ∧ (∀ j, j < 36 * f → x 91 j = cs 91 j) ∧ ∀ t, 0 ≤ t → t < s → x 91 (36 * f + t) = bzc (wB r t)) 36 ?_ ?_ 0 cs (by omega) ⟨by omega, fun _ _ => rfl, fun _ _ => rfl, fun t _ _ => by omega⟩
    · rintro s x hs ⟨s0, fr, lo, vl⟩ cont
      have fin : ∀ val : Int, (val = bzc (wB r s)) → bk_wp (bk_den TX0_laysFalls (bk_call d) 2 [.ref 64, .int (bk_i r), .int (bk_i f), .int (bk_i (s + 1)), bk_u] [] (bk_M κ (cp, bU x 91 (36 * f + s) val, cj) Y g n)) (fun v h' => ∃ cs', v = none ∧ h' = bk_M κ (cp, cs', cj) Y g n ∧ (∀ a, a ≠ 91 → cs' a = cs a) ∧ isW (Ew N (pv91 91 cs f)) 36 (wB r) (rw91 91 cs' f)) := by
        intro val hv
        refine cont _ ⟨by omega, fun a ha => ?_, fun j hj => ?_, fun t t0 t1 => ?_⟩
        · funext j; rw [bU_ne _ _ _ _ _ _ ha, fr a ha]
        · rw [bU_same, if_neg (by omega)]; exact lo j hj
        · rw [bU_same]
          by_cases c : t = s
          · subst c; rw [if_pos rfl, hv]
          · rw [if_neg (by omega)]; exact vl t t0 (by omega)
      rw [eX0_laysFalls_2]
      simp (disch := first | assumption | omega) only [if_neg (show ¬ 36 ≤ s by omega), eX0_laysFalls_37, eX0_laysFalls_38, bi_add, bi_sub, bi_mul, bi_neg, bi_div, bi_64, bl_add, bl_sub, bl_mul, bl_neg, bl_div, bl_32, bi_min, bi_max, bl_min, bl_max, bq_I, bq_J, bq_A, bq_Vi, bq_Vl, bq_Vr, bq_cV, bq_cI, bq_cJ, bq_cA, bq_le, bq_lt, bq_eq, bq_z, bq_o, bq_ref, bq_nz, bq_nzJ, bq_bl, bq_blz, bq_T, bq_F, if_true, if_false, Int.reduceEq, Int.reduceLT, Int.reduceLE, Int.reduceAdd, Int.reduceSub, Int.reduceMul, Int.add_sub_cancel, li_0, li_1, li_2, li_12, li_13, li_19, li_36, li_37, li_38, li_47, li_56, li_69, li_70, li_102, ll_0, ll_1, ll_2, ll_12, ll_13, ll_19, ll_36, ll_37, ll_38, ll_47, ll_56, ll_69, ll_70, ll_102, ga72, ga84, ga85, ga86, ga90, ga92, ga87, ga91, ga88, ga89, gf64_4, gf64_5, gf64_6, gf64_8, gf64_9, gf64_10, gf64_14, gf70_0, gf70_1, gf70_2, gf70_3, gf71_0, gf71_1, gf71_2, gf71_3, gs74_0, gs74_1, gs74_2, gs74_3, gs100_0, gs100_1, gs100_2, gs100_3, gr64_1, gr64_2, gr64_3, gr64_7, gr64_11, gr64_12, gr64_13, gr64_15, gr64_16, gr64_17, gr64_18, gr64_19, gr64_20, gr64_21, gr64_22, gr64_23, gr70_4, gr71_4, gu73, gu99, gu93, pa72, pa84, pa85, pa86, pa90, pa92, pa87, pa91, pa88, pa89, pf64_4, pf64_5, pf64_6, pf64_8, pf64_9, pf64_10, pf64_14, pf70_0, pf70_1, pf70_2, pf70_3, pf71_0, pf71_1, pf71_2, pf71_3, ps74_0, ps74_1, ps74_2, ps74_3, ps100_0, ps100_1, ps100_2, ps100_3, s_in, s_has, s_one, s_roomOf, s_hurtOf, s_isLost, s_standOf, s_isTray, s_isSoon, s_fallen, s_isPassage, s_isRoom, s_isPassage70, s_leads70, s_isBack70, s_isPassage, s_isRoom, s_isPassage71, s_leads71, s_isBack71, s_onec, s_bitCount, s_be7170, s_be7071, u_tens77]
      by_cases q : s / 6 = r
      · rw [if_pos q]
        by_cases q2 : s % 6 = 5
        · rw [if_pos q2]; exact fin _ (by rw [bzc_f (fun k => k.2 q2)])
        · rw [if_neg q2]; exact fin _ (by rw [bzc_t ⟨q, q2⟩])
      · rw [if_neg q]; exact fin _ (by rw [bzc_f (fun k => q k.1)])
    · rintro x ⟨s0, fr, lo, vl⟩
      have I0 : wInv (Ew N (pv91 91 cs f)) 36 (wB r) (rw91 91 x f) := wInv_start vl
      rw [eX0_laysFalls_2]
      simp (disch := first | assumption | omega) only [if_pos (Int.le_refl 36), bi_add, bi_sub, bi_mul, bi_neg, bi_div, bi_64, bl_add, bl_sub, bl_mul, bl_neg, bl_div, bl_32, bi_min, bi_max, bl_min, bl_max, bq_I, bq_J, bq_A, bq_Vi, bq_Vl, bq_Vr, bq_cV, bq_cI, bq_cJ, bq_cA, bq_le, bq_lt, bq_eq, bq_z, bq_o, bq_ref, bq_nz, bq_nzJ, bq_bl, bq_blz, bq_T, bq_F, if_true, if_false, Int.reduceEq, Int.reduceLT, Int.reduceLE, Int.reduceAdd, Int.reduceSub, Int.reduceMul, Int.add_sub_cancel, li_0, li_1, li_2, li_12, li_13, li_19, li_36, li_37, li_38, li_47, li_56, li_69, li_70, li_102, ll_0, ll_1, ll_2, ll_12, ll_13, ll_19, ll_36, ll_37, ll_38, ll_47, ll_56, ll_69, ll_70, ll_102, ga72, ga84, ga85, ga86, ga90, ga92, ga87, ga91, ga88, ga89, gf64_4, gf64_5, gf64_6, gf64_8, gf64_9, gf64_10, gf64_14, gf70_0, gf70_1, gf70_2, gf70_3, gf71_0, gf71_1, gf71_2, gf71_3, gs74_0, gs74_1, gs74_2, gs74_3, gs100_0, gs100_1, gs100_2, gs100_3, gr64_1, gr64_2, gr64_3, gr64_7, gr64_11, gr64_12, gr64_13, gr64_15, gr64_16, gr64_17, gr64_18, gr64_19, gr64_20, gr64_21, gr64_22, gr64_23, gr70_4, gr71_4, gu73, gu99, gu93, pa72, pa84, pa85, pa86, pa90, pa92, pa87, pa91, pa88, pa89, pf64_4, pf64_5, pf64_6, pf64_8, pf64_9, pf64_10, pf64_14, pf70_0, pf70_1, pf70_2, pf70_3, pf71_0, pf71_1, pf71_2, pf71_3, ps74_0, ps74_1, ps74_2, ps74_3, ps100_0, ps100_1, ps100_2, ps100_3, s_in, s_has, s_one, s_roomOf, s_hurtOf, s_isLost, s_standOf, s_isTray, s_isSoon, s_fallen, s_isPassage, s_isRoom, s_isPassage70, s_leads70, s_isBack70, s_isPassage, s_isRoom, s_isPassage71, s_leads71, s_isBack71, s_onec, s_bitCount, s_be7170, s_be7071, u_tens77]
      refine bk_while (σ := bF × Int × Value) (fun x => bk_den TX0_laysFalls (bk_call d) 47 [.ref 64, .int (bk_i r), .int (bk_i f), .int (bk_i x.2.1), x.2.2] [] (bk_M κ (cp, x.1, cj) Y g n)) (fun x => 2 * (zS (rw91 91 x.1 f) 36).toNat + x.2.1.toNat)
        (fun x => (∀ a, a ≠ 91 → x.1 a = cs a) ∧ (∀ j, j < 36 * f → x.1 91 j = cs 91 j) ∧ wInv (Ew N (pv91 91 cs f)) 36 (wB r) (rw91 91 x.1 f) ∧ (x.2.1 = 0 ∨ x.2.1 = 1) ∧ (x.2.1 = 0 → isW (Ew N (pv91 91 cs f)) 36 (wB r) (rw91 91 x.1 f))) ?_ (x, 1, bk_u) ⟨fr, lo, I0, Or.inr rfl, fun q => absurd q (by simp)⟩
      rintro ⟨x1, more, w1⟩ ⟨fr1, lo1, hI1, m01, hex⟩ again
      dsimp only at fr1 lo1 hI1 m01 hex again ⊢
      rcases m01 with rfl | rfl
      · rw [eX0_laysFalls_47]
        simp (disch := first | assumption | omega) only [if_true, bi_add, bi_sub, bi_mul, bi_neg, bi_div, bi_64, bl_add, bl_sub, bl_mul, bl_neg, bl_div, bl_32, bi_min, bi_max, bl_min, bl_max, bq_I, bq_J, bq_A, bq_Vi, bq_Vl, bq_Vr, bq_cV, bq_cI, bq_cJ, bq_cA, bq_le, bq_lt, bq_eq, bq_z, bq_o, bq_ref, bq_nz, bq_nzJ, bq_bl, bq_blz, bq_T, bq_F, if_true, if_false, Int.reduceEq, Int.reduceLT, Int.reduceLE, Int.reduceAdd, Int.reduceSub, Int.reduceMul, Int.add_sub_cancel, li_0, li_1, li_2, li_12, li_13, li_19, li_36, li_37, li_38, li_47, li_56, li_69, li_70, li_102, ll_0, ll_1, ll_2, ll_12, ll_13, ll_19, ll_36, ll_37, ll_38, ll_47, ll_56, ll_69, ll_70, ll_102, ga72, ga84, ga85, ga86, ga90, ga92, ga87, ga91, ga88, ga89, gf64_4, gf64_5, gf64_6, gf64_8, gf64_9, gf64_10, gf64_14, gf70_0, gf70_1, gf70_2, gf70_3, gf71_0, gf71_1, gf71_2, gf71_3, gs74_0, gs74_1, gs74_2, gs74_3, gs100_0, gs100_1, gs100_2, gs100_3, gr64_1, gr64_2, gr64_3, gr64_7, gr64_11, gr64_12, gr64_13, gr64_15, gr64_16, gr64_17, gr64_18, gr64_19, gr64_20, gr64_21, gr64_22, gr64_23, gr70_4, gr71_4, gu73, gu99, gu93, pa72, pa84, pa85, pa86, pa90, pa92, pa87, pa91, pa88, pa89, pf64_4, pf64_5, pf64_6, pf64_8, pf64_9, pf64_10, pf64_14, pf70_0, pf70_1, pf70_2, pf70_3, pf71_0, pf71_1, pf71_2, pf71_3, ps74_0, ps74_1, ps74_2, ps74_3, ps100_0, ps100_1, ps100_2, ps100_3, s_in, s_has, s_one, s_roomOf, s_hurtOf, s_isLost, s_standOf, s_isTray, s_isSoon, s_fallen, s_isPassage, s_isRoom, s_isPassage70, s_leads70, s_isBack70, s_isPassage, s_isRoom, s_isPassage71, s_leads71, s_isBack71, s_onec, s_bitCount, s_be7170, s_be7071, u_tens77]
        exact ⟨_, _, rfl, x1, rfl, rfl, fr1, hex rfl⟩
      · have nn0 := wS_nn hI1
        rw [eX0_laysFalls_47]
        simp (disch := first | assumption | omega) only [if_neg (show ¬ (1 : Int) = 0 by decide), bi_add, bi_sub, bi_mul, bi_neg, bi_div, bi_64, bl_add, bl_sub, bl_mul, bl_neg, bl_div, bl_32, bi_min, bi_max, bl_min, bl_max, bq_I, bq_J, bq_A, bq_Vi, bq_Vl, bq_Vr, bq_cV, bq_cI, bq_cJ, bq_cA, bq_le, bq_lt, bq_eq, bq_z, bq_o, bq_ref, bq_nz, bq_nzJ, bq_bl, bq_blz, bq_T, bq_F, if_true, if_false, Int.reduceEq, Int.reduceLT, Int.reduceLE, Int.reduceAdd, Int.reduceSub, Int.reduceMul, Int.add_sub_cancel, li_0, li_1, li_2, li_12, li_13, li_19, li_36, li_37, li_38, li_47, li_56, li_69, li_70, li_102, ll_0, ll_1, ll_2, ll_12, ll_13, ll_19, ll_36, ll_37, ll_38, ll_47, ll_56, ll_69, ll_70, ll_102, ga72, ga84, ga85, ga86, ga90, ga92, ga87, ga91, ga88, ga89, gf64_4, gf64_5, gf64_6, gf64_8, gf64_9, gf64_10, gf64_14, gf70_0, gf70_1, gf70_2, gf70_3, gf71_0, gf71_1, gf71_2, gf71_3, gs74_0, gs74_1, gs74_2, gs74_3, gs100_0, gs100_1, gs100_2, gs100_3, gr64_1, gr64_2, gr64_3, gr64_7, gr64_11, gr64_12, gr64_13, gr64_15, gr64_16, gr64_17, gr64_18, gr64_19, gr64_20, gr64_21, gr64_22, gr64_23, gr70_4, gr71_4, gu73, gu99, gu93, pa72, pa84, pa85, pa86, pa90, pa92, pa87, pa91, pa88, pa89, pf64_4, pf64_5, pf64_6, pf64_8, pf64_9, pf64_10, pf64_14, pf70_0, pf70_1, pf70_2, pf70_3, pf71_0, pf71_1, pf71_2, pf71_3, ps74_0, ps74_1, ps74_2, ps74_3, ps100_0, ps100_1, ps100_2, ps100_3, s_in, s_has, s_one, s_roomOf, s_hurtOf, s_isLost, s_standOf, s_isTray, s_isSoon, s_fallen, s_isPassage, s_isRoom, s_isPassage70, s_leads70, s_isBack70, s_isPassage, s_isRoom, s_isPassage71, s_leads71, s_isBack71, s_onec, s_bitCount, s_be7170, s_be7071, u_tens77]
        refine bk_loop (σ := bF × Int) (fun t x => bk_den TX0_laysFalls (bk_call d) 56 [.ref 64, .int (bk_i r), .int (bk_i f), .int (bk_i x.2), .int (bk_i t)] [] (bk_M κ (cp, x.1, cj) Y g n))
          (fun t x => 0 ≤ t ∧ (∀ a, a ≠ 91 → x.1 a = cs a) ∧ (∀ j, j < 36 * f → x.1 91 j = cs 91 j) ∧ wPass (fun m v => m v = 1 ∨ ∀ u, 0 ≤ u → u < 36 → Ew N (pv91 91 cs f) u v → m u ≠ 1) (Ew N (pv91 91 cs f)) 36 (wB r) (rw91 91 x1 f) t (rw91 91 x.1 f) x.2) 36 ?_ ?_ 0 (x1, 0) (by omega) ⟨by omega, fr1, lo1, hI1, Int.le_refl _, Or.inl rfl, fun _ u u0 u1 => by omega, fun q => absurd q (by simp)⟩
        · rintro t ⟨x2, m⟩ ht ⟨t0, fr2, lo2, hp⟩ cont
          dsimp only at fr2 lo2 hp ⊢
          have e84 := fr2 84 (by decide)
          have m01 := hp.2.2.1
          have og0 := bi_or01 m01 (b := 0) (Or.inl rfl)
          have og1 := bi_or01 m01 (b := 1) (Or.inr rfl)
          have pe : pv91 91 x2 f = pv91 91 cs f ∨ True := Or.inr trivial
          have ok_E : ∀ v p, 0 ≤ v → v < 36 → 0 ≤ p → p < 8 → wOk 91 x2 N f v p → 0 ≤ N v p ∧ N v p < 36 ∧ Ew N (pv91 91 cs f) (N v p) v ∧ rw91 91 x2 f (N v p) = 1 := by
            rintro v p v0 v1 p0 p1 ⟨a, b, c⟩
            have np := hr v p v0 v1 p0 p1
            have fl := fln_R (R := 36) rfl (u := N v p) (by omega) (by omega)
            refine ⟨by omega, by omega, ⟨p, p0, p1, rfl, ?_⟩, b⟩
            unfold pv91
            by_cases z : f = 0
            · rw [if_pos z]; trivial
            · rw [if_neg z]
              show cs 91 (36 * (f - 1) + fln (N v p)) = 1
              rw [← lo2 _ (by omega)]; omega
          have E_ok : ∀ u v, 0 ≤ u → u < 36 → Ew N (pv91 91 cs f) u v → rw91 91 x2 f u = 1 → ∃ p, 0 ≤ p ∧ p < 8 ∧ wOk 91 x2 N f v p := by
            rintro u v u0 u1 ⟨p, p0, p1, rfl, c⟩ hu
            have fl := fln_R (R := 36) rfl u0 u1
            refine ⟨p, p0, p1, by omega, hu, ?_⟩
            unfold pv91 at c
            by_cases z : f = 0
            · exact Or.inl z
            · rw [if_neg z] at c
              have c' : cs 91 (36 * (f - 1) + fln (N v p)) = 1 := c
              right; rw [lo2 _ (by omega)]; exact c'
          have gz := s_gains (κ := κ) (cp := cp) (cs := x2) (cj := cj) (Y := Y) (n := n) (D := d) (N := N) (s := t) hF hc' h0 h1 (fun p a b => by rw [e84]; exact hN t p t0 ht a b) hr hdom f0 f1 t0 ht hp.1.1 (fun z u a b => by rw [lo2 _ (by omega)]; exact h02 z u a b) (by omega)
          rw [eX0_laysFalls_56]
          rcases gz with ⟨p, p0, p1, w, hz, e⟩ | ⟨no, e⟩
          · simp (disch := first | assumption | omega) only [c0, c1, c2, c3, c4, c5, c6, c7, c8, ctw, cb, ce, cd, cw, cwp, if_neg (show ¬ 36 ≤ t by omega), e, og1, bi_add, bi_sub, bi_mul, bi_neg, bi_div, bi_64, bl_add, bl_sub, bl_mul, bl_neg, bl_div, bl_32, bi_min, bi_max, bl_min, bl_max, bq_I, bq_J, bq_A, bq_Vi, bq_Vl, bq_Vr, bq_cV, bq_cI, bq_cJ, bq_cA, bq_le, bq_lt, bq_eq, bq_z, bq_o, bq_ref, bq_nz, bq_nzJ, bq_bl, bq_blz, bq_T, bq_F, if_true, if_false, Int.reduceEq, Int.reduceLT, Int.reduceLE, Int.reduceAdd, Int.reduceSub, Int.reduceMul, Int.add_sub_cancel, li_0, li_1, li_2, li_12, li_13, li_19, li_36, li_37, li_38, li_47, li_56, li_69, li_70, li_102, ll_0, ll_1, ll_2, ll_12, ll_13, ll_19, ll_36, ll_37, ll_38, ll_47, ll_56, ll_69, ll_70, ll_102, ga72, ga84, ga85, ga86, ga90, ga92, ga87, ga91, ga88, ga89, gf64_4, gf64_5, gf64_6, gf64_8, gf64_9, gf64_10, gf64_14, gf70_0, gf70_1, gf70_2, gf70_3, gf71_0, gf71_1, gf71_2, gf71_3, gs74_0, gs74_1, gs74_2, gs74_3, gs100_0, gs100_1, gs100_2, gs100_3, gr64_1, gr64_2, gr64_3, gr64_7, gr64_11, gr64_12, gr64_13, gr64_15, gr64_16, gr64_17, gr64_18, gr64_19, gr64_20, gr64_21, gr64_22, gr64_23, gr70_4, gr71_4, gu73, gu99, gu93, pa72, pa84, pa85, pa86, pa90, pa92, pa87, pa91, pa88, pa89, pf64_4, pf64_5, pf64_6, pf64_8, pf64_9, pf64_10, pf64_14, pf70_0, pf70_1, pf70_2, pf70_3, pf71_0, pf71_1, pf71_2, pf71_3, ps74_0, ps74_1, ps74_2, ps74_3, ps100_0, ps100_1, ps100_2, ps100_3, s_in, s_has, s_one, s_roomOf, s_hurtOf, s_isLost, s_standOf, s_isTray, s_isSoon, s_fallen, s_isPassage, s_isRoom, s_isPassage70, s_leads70, s_isBack70, s_isPassage, s_isRoom, s_isPassage71, s_leads71, s_isBack71, s_onec, s_bitCount, s_be7170, s_be7071, u_tens77]
            obtain ⟨a1, a2, a3, a4⟩ := ok_E t p t0 ht p0 p1 w
            have e2 : rw91 91 (bU x2 91 (36 * f + t) 1) f = fU (rw91 91 x2 f) t 1 := by
              funext j
              show bU x2 91 (36 * f + t) 1 91 (36 * f + j) = if j = t then 1 else x2 91 (36 * f + j)
              rw [bU_same]
              by_cases c : j = t
              · rw [if_pos (by omega), if_pos c]
              · rw [if_neg (by omega), if_neg c]
            have e3 : max m 1 = 1 := by omega
            rw [e3]
            refine cont (bU x2 91 (36 * f + t) 1, 1) ⟨by omega, fun a ha => ?_, fun j hj => ?_, ?_⟩
            · funext j; show bU x2 91 (36 * f + t) 1 a j = _; rw [bU_ne _ _ _ _ _ _ ha, fr2 a ha]
            · show bU x2 91 (36 * f + t) 1 91 j = _; rw [bU_same, if_neg (by omega)]; exact lo2 j hj
            · show wPass _ _ _ _ _ _ (rw91 91 (bU x2 91 (36 * f + t) 1) f) _
              rw [e2]
              exact wPass_next (wPass_add hp a1 a2 t0 ht a3 a4 hz) (fun q => by omega)
          · simp (disch := first | assumption | omega) only [c0, c1, c2, c3, c4, c5, c6, c7, c8, ctw, cb, ce, cd, cw, cwp, if_neg (show ¬ 36 ≤ t by omega), e, og0, bi_add, bi_sub, bi_mul, bi_neg, bi_div, bi_64, bl_add, bl_sub, bl_mul, bl_neg, bl_div, bl_32, bi_min, bi_max, bl_min, bl_max, bq_I, bq_J, bq_A, bq_Vi, bq_Vl, bq_Vr, bq_cV, bq_cI, bq_cJ, bq_cA, bq_le, bq_lt, bq_eq, bq_z, bq_o, bq_ref, bq_nz, bq_nzJ, bq_bl, bq_blz, bq_T, bq_F, if_true, if_false, Int.reduceEq, Int.reduceLT, Int.reduceLE, Int.reduceAdd, Int.reduceSub, Int.reduceMul, Int.add_sub_cancel, li_0, li_1, li_2, li_12, li_13, li_19, li_36, li_37, li_38, li_47, li_56, li_69, li_70, li_102, ll_0, ll_1, ll_2, ll_12, ll_13, ll_19, ll_36, ll_37, ll_38, ll_47, ll_56, ll_69, ll_70, ll_102, ga72, ga84, ga85, ga86, ga90, ga92, ga87, ga91, ga88, ga89, gf64_4, gf64_5, gf64_6, gf64_8, gf64_9, gf64_10, gf64_14, gf70_0, gf70_1, gf70_2, gf70_3, gf71_0, gf71_1, gf71_2, gf71_3, gs74_0, gs74_1, gs74_2, gs74_3, gs100_0, gs100_1, gs100_2, gs100_3, gr64_1, gr64_2, gr64_3, gr64_7, gr64_11, gr64_12, gr64_13, gr64_15, gr64_16, gr64_17, gr64_18, gr64_19, gr64_20, gr64_21, gr64_22, gr64_23, gr70_4, gr71_4, gu73, gu99, gu93, pa72, pa84, pa85, pa86, pa90, pa92, pa87, pa91, pa88, pa89, pf64_4, pf64_5, pf64_6, pf64_8, pf64_9, pf64_10, pf64_14, pf70_0, pf70_1, pf70_2, pf70_3, pf71_0, pf71_1, pf71_2, pf71_3, ps74_0, ps74_1, ps74_2, ps74_3, ps100_0, ps100_1, ps100_2, ps100_3, s_in, s_has, s_one, s_roomOf, s_hurtOf, s_isLost, s_standOf, s_isTray, s_isSoon, s_fallen, s_isPassage, s_isRoom, s_isPassage70, s_leads70, s_isBack70, s_isPassage, s_isRoom, s_isPassage71, s_leads71, s_isBack71, s_onec, s_bitCount, s_be7170, s_be7071, u_tens77]
            have e3 : max m 0 = m := by omega
            rw [e3]
            refine cont (x2, m) ⟨by omega, fr2, lo2, wPass_next hp fun _ => ?_⟩
            rcases no with z | z
            · exact Or.inl z
            · right
              intro u u0 u1 hE hu
              obtain ⟨p, p0, p1, w⟩ := E_ok u t u0 u1 hE hu
              exact z p p0 p1 w
        · rintro ⟨x2, m⟩ ⟨t0, fr2, lo2, hp⟩
          dsimp only at fr2 lo2 hp ⊢
          have nn1 := wS_nn hp.1
          obtain ⟨p1, p2, p3, p4, p5⟩ := hp
          rw [eX0_laysFalls_56]
          simp (disch := first | assumption | omega) only [if_pos (Int.le_refl 36), bi_add, bi_sub, bi_mul, bi_neg, bi_div, bi_64, bl_add, bl_sub, bl_mul, bl_neg, bl_div, bl_32, bi_min, bi_max, bl_min, bl_max, bq_I, bq_J, bq_A, bq_Vi, bq_Vl, bq_Vr, bq_cV, bq_cI, bq_cJ, bq_cA, bq_le, bq_lt, bq_eq, bq_z, bq_o, bq_ref, bq_nz, bq_nzJ, bq_bl, bq_blz, bq_T, bq_F, if_true, if_false, Int.reduceEq, Int.reduceLT, Int.reduceLE, Int.reduceAdd, Int.reduceSub, Int.reduceMul, Int.add_sub_cancel, li_0, li_1, li_2, li_12, li_13, li_19, li_36, li_37, li_38, li_47, li_56, li_69, li_70, li_102, ll_0, ll_1, ll_2, ll_12, ll_13, ll_19, ll_36, ll_37, ll_38, ll_47, ll_56, ll_69, ll_70, ll_102, ga72, ga84, ga85, ga86, ga90, ga92, ga87, ga91, ga88, ga89, gf64_4, gf64_5, gf64_6, gf64_8, gf64_9, gf64_10, gf64_14, gf70_0, gf70_1, gf70_2, gf70_3, gf71_0, gf71_1, gf71_2, gf71_3, gs74_0, gs74_1, gs74_2, gs74_3, gs100_0, gs100_1, gs100_2, gs100_3, gr64_1, gr64_2, gr64_3, gr64_7, gr64_11, gr64_12, gr64_13, gr64_15, gr64_16, gr64_17, gr64_18, gr64_19, gr64_20, gr64_21, gr64_22, gr64_23, gr70_4, gr71_4, gu73, gu99, gu93, pa72, pa84, pa85, pa86, pa90, pa92, pa87, pa91, pa88, pa89, pf64_4, pf64_5, pf64_6, pf64_8, pf64_9, pf64_10, pf64_14, pf70_0, pf70_1, pf70_2, pf70_3, pf71_0, pf71_1, pf71_2, pf71_3, ps74_0, ps74_1, ps74_2, ps74_3, ps100_0, ps100_1, ps100_2, ps100_3, s_in, s_has, s_one, s_roomOf, s_hurtOf, s_isLost, s_standOf, s_isTray, s_isSoon, s_fallen, s_isPassage, s_isRoom, s_isPassage70, s_leads70, s_isBack70, s_isPassage, s_isRoom, s_isPassage71, s_leads71, s_isBack71, s_onec, s_bitCount, s_be7170, s_be7071, u_tens77]
          refine again (x2, m, .int (bk_i 36)) ?_ ⟨fr2, lo2, p1, p3, fun q => ⟨p1, fun u v u0 u1 v0 v1 e hu => ?_⟩⟩
          · dsimp only
            rcases p3 with rfl | rfl
            · omega
            · have := p5 rfl
              omega
          · rcases p4 q v v0 v1 with z | z
            · exact z
            · exact absurd hu (z u u0 u1 e)
  obtain ⟨z, h', e, cs', rfl, rfl, h1, h2⟩ := goal
  exact ⟨cs', h1, h2, e⟩
end WS
