/-! SPECS: the component: withstands, chance, best -/
set_option maxRecDepth 100000
section CH
variable {κ : Nat → Nat} {cp cs : bF} {cj : bFJ} {Y : bY} {X : bX} {g : bG} {n : Nat × Nat} {ca : Nat} {A : Int → Int} {s p v r hu i to m f k what : Int} {D : Nat} {N : Int → Int → Int}
def rWith (A : Int → Int) (r z : Int) : Prop := (¬ (0 ≤ r ∧ r ≤ A 1 - 1) ∧ z = -2) ∨ ((0 ≤ r ∧ r ≤ A 1 - 1) ∧ rHold (nxt A (A 44)) (6 * A 1) r (6 * A 42 + A 43) z)
theorem Ew_dom {A : Int → Int} {rop : Int} (hw : bWF A 0) {pv : Option (Int → Int)} {u v : Int} (u0 : 0 ≤ u) (e : Ew (nxt A rop) pv u v) : u < 6 * A 1 ∧ v < 6 * A 1 := by
  obtain ⟨p, p0, p1, rfl, -⟩ := e
  have := nxt_dom (A := A) (rop := rop) (s := v) (p := p) (by omega)
  have := nxt_rng hw (s := v) (p := p) rop
  omega
theorem c_withstands (h : bCt κ g ca A cp) (h3 : -2147483648 ≤ r) (h4 : r < 2147483648) (hD : 912 ≤ D) :
    bk_wp (bk_call D 68 [.ref 64, .int (bk_i r)] (bk_M κ (cp, cs, cj) Y g n)) (bCq κ cp Y g n (rWith A r)) := by
  obtain ⟨d, rfl⟩ := dep hD
  have st := bCt_st h
  obtain ⟨cs1, f1, v1, e1⟩ := s_laysNow (cs := cs) (cj := cj) (Y := Y) (n := n) (D := d) h (by omega)
  obtain ⟨hF, hc, hw, hs, n0, n1, n2, n3⟩ := h
  have er := s_isRoom (κ := κ) (X := (cp, cs, cj)) (Y := Y) (n := n) (D := d) hc h3 h4 (by omega) (by omega) (by omega)
  have hN := nxt_N hw (A 44) (R := 36) (by omega)
  have hc' := hc
  have hR6 : (6 * A 1) % 6 = 0 := by omega
  obtain ⟨c0, c1, c2, c3, c4, c5, c6, c7, c8, ⟨tw, ctw, htw⟩, cb, ce, cd, cw, cwp, hca, -, -⟩ := hc
  rw [kX0_withstands, eX0_withstands_0]
  simp (disch := first | assumption | omega) only [c0, c1, c2, c3, c4, c5, c6, c7, c8, ctw, cb, ce, cd, cw, cwp, er, e1, bi_add, bi_sub, bi_mul, bi_neg, bi_div, bi_64, bl_add, bl_sub, bl_mul, bl_neg, bl_div, bl_32, bi_min, bi_max, bl_min, bl_max, bq_I, bq_J, bq_A, bq_Vi, bq_Vl, bq_Vr, bq_cV, bq_cI, bq_cJ, bq_cA, bq_le, bq_lt, bq_eq, bq_z, bq_o, bq_ref, bq_nz, bq_nzJ, bq_bl, bq_blz, bq_T, bq_F, if_true, if_false, Int.reduceEq, Int.reduceLT, Int.reduceLE, Int.reduceAdd, Int.reduceSub, Int.reduceMul, Int.add_sub_cancel, li_0, li_1, li_2, li_9, li_19, li_32, li_34, li_36, li_68, li_69, li_102, ll_0, ll_1, ll_2, ll_9, ll_19, ll_32, ll_34, ll_36, ll_68, ll_69, ll_102, ga72, ga84, ga85, ga86, ga90, ga92, ga87, ga91, ga88, ga89, gf64_4, gf64_5, gf64_6, gf64_8, gf64_9, gf64_10, gf64_14, gf70_0, gf70_1, gf70_2, gf70_3, gf71_0, gf71_1, gf71_2, gf71_3, gs74_0, gs74_1, gs74_2, gs74_3, gs100_0, gs100_1, gs100_2, gs100_3, gr64_1, gr64_2, gr64_3, gr64_7, gr64_11, gr64_12, gr64_13, gr64_15, gr64_16, gr64_17, gr64_18, gr64_19, gr64_20, gr64_21, gr64_22, gr64_23, gr70_4, gr71_4, gu73, gu99, gu93, pa72, pa84, pa85, pa86, pa90, pa92, pa87, pa91, pa88, pa89, pf64_4, pf64_5, pf64_6, pf64_8, pf64_9, pf64_10, pf64_14, pf70_0, pf70_1, pf70_2, pf70_3, pf71_0, pf71_1, pf71_2, pf71_3, ps74_0, ps74_1, ps74_2, ps74_3, ps100_0, ps100_1, ps100_2, ps100_3, s_in, s_has, s_one, s_roomOf, s_hurtOf, s_isLost, s_standOf, s_isTray, s_isSoon, s_fallen, s_isPassage, s_isRoom, s_isPassage70, s_leads70, s_isBack70, s_isPassage, s_isRoom, s_isPassage71, s_leads71, s_isBack71, s_onec, s_bitCount, s_be7170, s_be7071, u_tens77]
  by_cases q : 0 ≤ r ∧ r ≤ A 1 - 1
  · rw [if_pos q]
    refine bk_loop (σ := bF) (fun f x => bk_den TX0_withstands (bk_call d) 19 [.ref 64, .int (bk_i r), .int (bk_i (f - 1)), .int (bk_i f)] [] (bk_M κ (cp, x, cj) Y g n))
      (fun f x => 0 ≤ f ∧ (∀ s p, 0 ≤ s → s < 36 → 0 ≤ p → p < A 2 → x 84 (8 * s + p) = nxt A (A 44) s p) ∧ (f ≠ 0 → (∀ t, 0 ≤ t → t < 36 → x 91 (36 * (f - 1) + t) = 0 ∨ x 91 (36 * (f - 1) + t) = 1) ∧ isWs (nxt A (A 44)) (6 * A 1) r (f - 1).toNat (rw91 91 x (f - 1)) ∧ x 91 (36 * (f - 1) + (6 * A 42 + A 43)) = 1)) 10 ?_ ?_ 0 cs1 (by omega) ⟨by omega, v1, fun z => absurd rfl z⟩
    · rintro f x hf ⟨f0, va, vb⟩ cont
      obtain ⟨cs2, f2, w2, e2⟩ := s_laysFalls (κ := κ) (cp := cp) (cs := x) (cj := cj) (Y := Y) (n := n) (r := r) (f := f) (D := d) (N := nxt A (A 44)) hF hc' (by omega) (by omega) va hN (fun s p q => (nxt_dom q).2.1) f0 (by omega) h3 h4 (fun z => (vb z).1) (by omega)
      have w3 := isW_sub w2 (R' := 6 * A 1) (by omega) (fun s a b hb => by have := hb.1; omega) (fun u v u0 u1 v0 v1 e => Ew_dom hw u0 e)
      have ws : isWs (nxt A (A 44)) (6 * A 1) r f.toNat (rw91 91 cs2 f) := by
        unfold pv91 at w3
        by_cases z : f = 0
        · subst z
          rw [if_pos rfl] at w3
          exact w3
        · rw [if_neg z] at w3
          have e : f.toNat = (f - 1).toNat + 1 := by omega
          rw [e]
          exact ⟨_, (vb z).2.1, w3⟩
      have m01 : cs2 91 (36 * f + cp 70 0) = 0 ∨ cs2 91 (36 * f + cp 70 0) = 1 := w2.1.1 (cp 70 0) st.1 (by omega)
      rw [eX0_withstands_19]
      simp (disch := first | assumption | omega) only [c0, c1, c2, c3, c4, c5, c6, c7, c8, ctw, cb, ce, cd, cw, cwp, if_neg (show ¬ 9 < f by omega), e2, bi_add, bi_sub, bi_mul, bi_neg, bi_div, bi_64, bl_add, bl_sub, bl_mul, bl_neg, bl_div, bl_32, bi_min, bi_max, bl_min, bl_max, bq_I, bq_J, bq_A, bq_Vi, bq_Vl, bq_Vr, bq_cV, bq_cI, bq_cJ, bq_cA, bq_le, bq_lt, bq_eq, bq_z, bq_o, bq_ref, bq_nz, bq_nzJ, bq_bl, bq_blz, bq_T, bq_F, if_true, if_false, Int.reduceEq, Int.reduceLT, Int.reduceLE, Int.reduceAdd, Int.reduceSub, Int.reduceMul, Int.add_sub_cancel, li_0, li_1, li_2, li_9, li_19, li_32, li_34, li_36, li_68, li_69, li_102, ll_0, ll_1, ll_2, ll_9, ll_19, ll_32, ll_34, ll_36, ll_68, ll_69, ll_102, ga72, ga84, ga85, ga86, ga90, ga92, ga87, ga91, ga88, ga89, gf64_4, gf64_5, gf64_6, gf64_8, gf64_9, gf64_10, gf64_14, gf70_0, gf70_1, gf70_2, gf70_3, gf71_0, gf71_1, gf71_2, gf71_3, gs74_0, gs74_1, gs74_2, gs74_3, gs100_0, gs100_1, gs100_2, gs100_3, gr64_1, gr64_2, gr64_3, gr64_7, gr64_11, gr64_12, gr64_13, gr64_15, gr64_16, gr64_17, gr64_18, gr64_19, gr64_20, gr64_21, gr64_22, gr64_23, gr70_4, gr71_4, gu73, gu99, gu93, pa72, pa84, pa85, pa86, pa90, pa92, pa87, pa91, pa88, pa89, pf64_4, pf64_5, pf64_6, pf64_8, pf64_9, pf64_10, pf64_14, pf70_0, pf70_1, pf70_2, pf70_3, pf71_0, pf71_1, pf71_2, pf71_3, ps74_0, ps74_1, ps74_2, ps74_3, ps100_0, ps100_1, ps100_2, ps100_3, s_in, s_has, s_one, s_roomOf, s_hurtOf, s_isLost, s_standOf, s_isTray, s_isSoon, s_fallen, s_isPassage, s_isRoom, s_isPassage70, s_leads70, s_isBack70, s_isPassage, s_isRoom, s_isPassage71, s_leads71, s_isBack71, s_onec, s_bitCount, s_be7170, s_be7071, u_tens77]
      by_cases z : cs2 91 (36 * f + cp 70 0) = 0
      · rw [if_pos z]
        have no : ¬ holds (nxt A (A 44)) (6 * A 1) r (6 * A 42 + A 43) f.toNat := by
          rintro ⟨w, hw1, hw2⟩
          have := isWs_uniq hR6 _ _ _ ws hw1 (cp 70 0) st.1 st.2.1
          rw [← n0, ← this] at hw2
          have hw3 : cs2 91 (36 * f + cp 70 0) = 1 := hw2
          omega
        by_cases z0 : f = 0
        · subst z0
          exact ⟨_, _, rfl, cs2, cj, _, rfl, rfl, Or.inr ⟨q, Or.inl ⟨by omega, no⟩⟩⟩
        · refine ⟨_, _, rfl, cs2, cj, _, rfl, rfl, Or.inr ⟨q, Or.inr ⟨by omega, by omega, ⟨_, (vb z0).2.1, (vb z0).2.2⟩, Or.inr ?_⟩⟩⟩
          have e : (f - 1).toNat + 1 = f.toNat := by omega
          rw [e]; exact no
      · rw [if_neg z]
        have e : f = f + 1 - 1 := by omega
        have c := cont cs2 ⟨by omega, fun s p a b c e => by rw [f2 84 (by decide)]; exact va s p a b c e, fun _ => ?_⟩
        · rw [← e] at c; exact c
        · rw [← e]
          exact ⟨fun t a b => w2.1.1 t a b, ws, by rw [← n0]; omega⟩
    · rintro x ⟨f0, va, vb⟩
      rw [eX0_withstands_19]
      simp (disch := first | assumption | omega) only [if_pos (show (9 : Int) < 10 by omega), bi_add, bi_sub, bi_mul, bi_neg, bi_div, bi_64, bl_add, bl_sub, bl_mul, bl_neg, bl_div, bl_32, bi_min, bi_max, bl_min, bl_max, bq_I, bq_J, bq_A, bq_Vi, bq_Vl, bq_Vr, bq_cV, bq_cI, bq_cJ, bq_cA, bq_le, bq_lt, bq_eq, bq_z, bq_o, bq_ref, bq_nz, bq_nzJ, bq_bl, bq_blz, bq_T, bq_F, if_true, if_false, Int.reduceEq, Int.reduceLT, Int.reduceLE, Int.reduceAdd, Int.reduceSub, Int.reduceMul, Int.add_sub_cancel, li_0, li_1, li_2, li_9, li_19, li_32, li_34, li_36, li_68, li_69, li_102, ll_0, ll_1, ll_2, ll_9, ll_19, ll_32, ll_34, ll_36, ll_68, ll_69, ll_102, ga72, ga84, ga85, ga86, ga90, ga92, ga87, ga91, ga88, ga89, gf64_4, gf64_5, gf64_6, gf64_8, gf64_9, gf64_10, gf64_14, gf70_0, gf70_1, gf70_2, gf70_3, gf71_0, gf71_1, gf71_2, gf71_3, gs74_0, gs74_1, gs74_2, gs74_3, gs100_0, gs100_1, gs100_2, gs100_3, gr64_1, gr64_2, gr64_3, gr64_7, gr64_11, gr64_12, gr64_13, gr64_15, gr64_16, gr64_17, gr64_18, gr64_19, gr64_20, gr64_21, gr64_22, gr64_23, gr70_4, gr71_4, gu73, gu99, gu93, pa72, pa84, pa85, pa86, pa90, pa92, pa87, pa91, pa88, pa89, pf64_4, pf64_5, pf64_6, pf64_8, pf64_9, pf64_10, pf64_14, pf70_0, pf70_1, pf70_2, pf70_3, pf71_0, pf71_1, pf71_2, pf71_3, ps74_0, ps74_1, ps74_2, ps74_3, ps100_0, ps100_1, ps100_2, ps100_3, s_in, s_has, s_one, s_roomOf, s_hurtOf, s_isLost, s_standOf, s_isTray, s_isSoon, s_fallen, s_isPassage, s_isRoom, s_isPassage70, s_leads70, s_isBack70, s_isPassage, s_isRoom, s_isPassage71, s_leads71, s_isBack71, s_onec, s_bitCount, s_be7170, s_be7071, u_tens77]
      have b := vb (by decide)
      exact ⟨_, _, rfl, x, cj, _, rfl, rfl, Or.inr ⟨q, Or.inr ⟨by omega, by omega, ⟨_, b.2.1, b.2.2⟩, Or.inl rfl⟩⟩⟩
  · rw [if_neg q]
    exact ⟨_, _, rfl, cs, cj, _, rfl, rfl, Or.inl ⟨q, rfl⟩⟩
theorem s_chanceBy (hF : bFix g) (hc : bRC κ g ca A) (hf : 0 ≤ A 3 ∧ A 3 ≤ 10) (hN : cs 84 (8 * s + p) = N s p) (hr : N s p = -1 ∨ (0 ≤ N s p ∧ N s p < 36)) (k0 : 1 ≤ k) (k1 : k ≤ 8) (s0 : 0 ≤ s) (s1 : s < 36) (p0 : 0 ≤ p) (p1 : p < 8) {l : Int → Int}
    (hl : ∀ t, 0 ≤ t → t < 36 → cs 92 (36 * (k - 1) + t) = l t) (hD : 4 ≤ D) :
    bk_call D 78 [.ref 64, .int (bk_i s), .int (bk_i k), .int (bk_i p)] (bk_M κ (cp, cs, cj) Y g n) = some (some (.int (bk_i (chB N (A 3) l s p))), bk_M κ (cp, cs, cj) Y g n) := by
  obtain ⟨d, rfl⟩ := dep hD
  obtain ⟨c0, c1, c2, c3, c4, c5, c6, c7, c8, ⟨tw, ctw, htw⟩, cb, ce, cd, cw, cwp, hca, -, -⟩ := hc
  unfold chB
  rw [kX0_chanceBy, eX0_chanceBy_0]
  by_cases q : N s p = -1
  · simp (disch := first | assumption | omega) only [hN, bi_add, bi_sub, bi_mul, bi_neg, bi_div, bi_64, bl_add, bl_sub, bl_mul, bl_neg, bl_div, bl_32, bi_min, bi_max, bl_min, bl_max, bq_I, bq_J, bq_A, bq_Vi, bq_Vl, bq_Vr, bq_cV, bq_cI, bq_cJ, bq_cA, bq_le, bq_lt, bq_eq, bq_z, bq_o, bq_ref, bq_nz, bq_nzJ, bq_bl, bq_blz, bq_T, bq_F, if_true, if_false, Int.reduceEq, Int.reduceLT, Int.reduceLE, Int.reduceAdd, Int.reduceSub, Int.reduceMul, Int.add_sub_cancel, li_0, li_1, li_8, li_10, li_11, li_20, li_36, li_72, li_78, li_100, ll_0, ll_1, ll_8, ll_10, ll_11, ll_20, ll_36, ll_72, ll_78, ll_100, ga72, ga84, ga85, ga86, ga90, ga92, ga87, ga91, ga88, ga89, gf64_4, gf64_5, gf64_6, gf64_8, gf64_9, gf64_10, gf64_14, gf70_0, gf70_1, gf70_2, gf70_3, gf71_0, gf71_1, gf71_2, gf71_3, gs74_0, gs74_1, gs74_2, gs74_3, gs100_0, gs100_1, gs100_2, gs100_3, gr64_1, gr64_2, gr64_3, gr64_7, gr64_11, gr64_12, gr64_13, gr64_15, gr64_16, gr64_17, gr64_18, gr64_19, gr64_20, gr64_21, gr64_22, gr64_23, gr70_4, gr71_4, gu73, gu99, gu93, pa72, pa84, pa85, pa86, pa90, pa92, pa87, pa91, pa88, pa89, pf64_4, pf64_5, pf64_6, pf64_8, pf64_9, pf64_10, pf64_14, pf70_0, pf70_1, pf70_2, pf70_3, pf71_0, pf71_1, pf71_2, pf71_3, ps74_0, ps74_1, ps74_2, ps74_3, ps100_0, ps100_1, ps100_2, ps100_3, s_in, s_has, s_one, s_roomOf, s_hurtOf, s_isLost, s_standOf, s_isTray, s_isSoon, s_fallen, s_isPassage, s_isRoom, s_isPassage70, s_leads70, s_isBack70, s_isPassage, s_isRoom, s_isPassage71, s_leads71, s_isBack71, s_onec, s_bitCount, s_be7170, s_be7071, u_tens77]
    rw [if_pos q, if_pos q]
  · have np : 0 ≤ N s p ∧ N s p < 36 := by omega
    have fl := fln_R (R := 36) rfl np.1 np.2
    simp (disch := first | assumption | omega) only [c0, c1, c2, c3, c4, c5, c6, c7, c8, ctw, cb, ce, cd, cw, cwp, hN, if_neg q, hl _ np.1 np.2, hl _ fl.1 fl.2, bi_add, bi_sub, bi_mul, bi_neg, bi_div, bi_64, bl_add, bl_sub, bl_mul, bl_neg, bl_div, bl_32, bi_min, bi_max, bl_min, bl_max, bq_I, bq_J, bq_A, bq_Vi, bq_Vl, bq_Vr, bq_cV, bq_cI, bq_cJ, bq_cA, bq_le, bq_lt, bq_eq, bq_z, bq_o, bq_ref, bq_nz, bq_nzJ, bq_bl, bq_blz, bq_T, bq_F, if_true, if_false, Int.reduceEq, Int.reduceLT, Int.reduceLE, Int.reduceAdd, Int.reduceSub, Int.reduceMul, Int.add_sub_cancel, li_0, li_1, li_8, li_10, li_11, li_20, li_36, li_72, li_78, li_100, ll_0, ll_1, ll_8, ll_10, ll_11, ll_20, ll_36, ll_72, ll_78, ll_100, ga72, ga84, ga85, ga86, ga90, ga92, ga87, ga91, ga88, ga89, gf64_4, gf64_5, gf64_6, gf64_8, gf64_9, gf64_10, gf64_14, gf70_0, gf70_1, gf70_2, gf70_3, gf71_0, gf71_1, gf71_2, gf71_3, gs74_0, gs74_1, gs74_2, gs74_3, gs100_0, gs100_1, gs100_2, gs100_3, gr64_1, gr64_2, gr64_3, gr64_7, gr64_11, gr64_12, gr64_13, gr64_15, gr64_16, gr64_17, gr64_18, gr64_19, gr64_20, gr64_21, gr64_22, gr64_23, gr70_4, gr71_4, gu73, gu99, gu93, pa72, pa84, pa85, pa86, pa90, pa92, pa87, pa91, pa88, pa89, pf64_4, pf64_5, pf64_6, pf64_8, pf64_9, pf64_10, pf64_14, pf70_0, pf70_1, pf70_2, pf70_3, pf71_0, pf71_1, pf71_2, pf71_3, ps74_0, ps74_1, ps74_2, ps74_3, ps100_0, ps100_1, ps100_2, ps100_3, s_in, s_has, s_one, s_roomOf, s_hurtOf, s_isLost, s_standOf, s_isTray, s_isSoon, s_fallen, s_isPassage, s_isRoom, s_isPassage70, s_leads70, s_isBack70, s_isPassage, s_isRoom, s_isPassage71, s_leads71, s_isBack71, s_onec, s_bitCount, s_be7170, s_be7071, u_tens77]
theorem s_chanceFrom (hF : bFix g) (hc : bRC κ g ca A) (h0 : 0 ≤ A 2) (h1 : A 2 ≤ 8) (hf : 0 ≤ A 3 ∧ A 3 ≤ 10) (hN : ∀ p, 0 ≤ p → p < A 2 → cs 84 (8 * s + p) = N s p) (hr : isN N 36) (hdom : ∀ s p, N s p ≠ -1 → p < A 2) (k0 : 0 ≤ k) (k1 : k ≤ 8) (s0 : 0 ≤ s) (s1 : s < 36) (r0 : -2147483648 ≤ r) (r1 : r < 2147483648)
    (hl : k ≠ 0 → ∀ t, 0 ≤ t → t < 36 → cs 92 (36 * (k - 1) + t) = lk N (A 3) r (k - 1).toNat t) (hD : 5 ≤ D) :
    bk_call D 76 [.ref 64, .int (bk_i r), .int (bk_i s), .int (bk_i k)] (bk_M κ (cp, cs, cj) Y g n) = some (some (.int (bk_i (lk N (A 3) r k.toNat s))), bk_M κ (cp, cs, cj) Y g n) := by
  obtain ⟨d, rfl⟩ := dep hD
  have hc' := hc
  obtain ⟨c0, c1, c2, c3, c4, c5, c6, c7, c8, ⟨tw, ctw, htw⟩, cb, ce, cd, cw, cwp, hca, -, -⟩ := hc
  have t8 := ten8 (k := k.toNat) (by omega)
  have t1 := ten_pos k.toNat
  have goal : bk_wp (bk_call (d + 1) 76 [.ref 64, .int (bk_i r), .int (bk_i s), .int (bk_i k)] (bk_M κ (cp, cs, cj) Y g n)) (fun v h' => v = some (.int (bk_i (lk N (A 3) r k.toNat s))) ∧ h' = bk_M κ (cp, cs, cj) Y g n) := by
    rw [kX0_chanceFrom, eX0_chanceFrom_0]
    simp (disch := first | assumption | omega) only [bi_add, bi_sub, bi_mul, bi_neg, bi_div, bi_64, bl_add, bl_sub, bl_mul, bl_neg, bl_div, bl_32, bi_min, bi_max, bl_min, bl_max, bq_I, bq_J, bq_A, bq_Vi, bq_Vl, bq_Vr, bq_cV, bq_cI, bq_cJ, bq_cA, bq_le, bq_lt, bq_eq, bq_z, bq_o, bq_ref, bq_nz, bq_nzJ, bq_bl, bq_blz, bq_T, bq_F, if_true, if_false, Int.reduceEq, Int.reduceLT, Int.reduceLE, Int.reduceAdd, Int.reduceSub, Int.reduceMul, Int.add_sub_cancel, li_0, li_1, li_5, li_12, li_13, li_28, li_76, li_77, li_78, ll_0, ll_1, ll_5, ll_12, ll_13, ll_28, ll_76, ll_77, ll_78, ga72, ga84, ga85, ga86, ga90, ga92, ga87, ga91, ga88, ga89, gf64_4, gf64_5, gf64_6, gf64_8, gf64_9, gf64_10, gf64_14, gf70_0, gf70_1, gf70_2, gf70_3, gf71_0, gf71_1, gf71_2, gf71_3, gs74_0, gs74_1, gs74_2, gs74_3, gs100_0, gs100_1, gs100_2, gs100_3, gr64_1, gr64_2, gr64_3, gr64_7, gr64_11, gr64_12, gr64_13, gr64_15, gr64_16, gr64_17, gr64_18, gr64_19, gr64_20, gr64_21, gr64_22, gr64_23, gr70_4, gr71_4, gu73, gu99, gu93, pa72, pa84, pa85, pa86, pa90, pa92, pa87, pa91, pa88, pa89, pf64_4, pf64_5, pf64_6, pf64_8, pf64_9, pf64_10, pf64_14, pf70_0, pf70_1, pf70_2, pf70_3, pf71_0, pf71_1, pf71_2, pf71_3, ps74_0, ps74_1, ps74_2, ps74_3, ps100_0, ps100_1, ps100_2, ps100_3, s_in, s_has, s_one, s_roomOf, s_hurtOf, s_isLost, s_standOf, s_isTray, s_isSoon, s_fallen, s_isPassage, s_isRoom, s_isPassage70, s_leads70, s_isBack70, s_isPassage, s_isRoom, s_isPassage71, s_leads71, s_isBack71, s_onec, s_bitCount, s_be7170, s_be7071, u_tens77]
    by_cases q : s % 6 = 5
    · rw [if_pos q]
      refine ⟨_, _, rfl, ?_, rfl⟩
      have e : lk N (A 3) r k.toNat s = 0 := by
        cases k.toNat <;> exact if_pos q
      rw [e]
    · rw [if_neg q]
      by_cases q2 : s / 6 = r
      · rw [if_pos q2]
        refine ⟨_, _, rfl, ?_, rfl⟩
        have e : lk N (A 3) r k.toNat s = (10 : Int) ^ k.toNat := by
          cases k.toNat with
          | zero => show (if s % 6 = 5 then (0 : Int) else if s / 6 = r then 1 else 0) = 1; rw [if_neg q, if_pos q2]
          | succ j => show (if s % 6 = 5 then (0 : Int) else if s / 6 = r then (10 : Int) ^ (j + 1) else _) = _; rw [if_neg q, if_pos q2]
        rw [e]
      · rw [if_neg q2]
        by_cases z : k = 0
        · subst z
          rw [eX0_chanceFrom_28]
          simp (disch := first | assumption | omega) only [c0, c1, c2, c3, c4, c5, c6, c7, c8, ctw, cb, ce, cd, cw, cwp, if_pos (Int.le_refl 0), bi_add, bi_sub, bi_mul, bi_neg, bi_div, bi_64, bl_add, bl_sub, bl_mul, bl_neg, bl_div, bl_32, bi_min, bi_max, bl_min, bl_max, bq_I, bq_J, bq_A, bq_Vi, bq_Vl, bq_Vr, bq_cV, bq_cI, bq_cJ, bq_cA, bq_le, bq_lt, bq_eq, bq_z, bq_o, bq_ref, bq_nz, bq_nzJ, bq_bl, bq_blz, bq_T, bq_F, if_true, if_false, Int.reduceEq, Int.reduceLT, Int.reduceLE, Int.reduceAdd, Int.reduceSub, Int.reduceMul, Int.add_sub_cancel, li_0, li_1, li_5, li_12, li_13, li_28, li_76, li_77, li_78, ll_0, ll_1, ll_5, ll_12, ll_13, ll_28, ll_76, ll_77, ll_78, ga72, ga84, ga85, ga86, ga90, ga92, ga87, ga91, ga88, ga89, gf64_4, gf64_5, gf64_6, gf64_8, gf64_9, gf64_10, gf64_14, gf70_0, gf70_1, gf70_2, gf70_3, gf71_0, gf71_1, gf71_2, gf71_3, gs74_0, gs74_1, gs74_2, gs74_3, gs100_0, gs100_1, gs100_2, gs100_3, gr64_1, gr64_2, gr64_3, gr64_7, gr64_11, gr64_12, gr64_13, gr64_15, gr64_16, gr64_17, gr64_18, gr64_19, gr64_20, gr64_21, gr64_22, gr64_23, gr70_4, gr71_4, gu73, gu99, gu93, pa72, pa84, pa85, pa86, pa90, pa92, pa87, pa91, pa88, pa89, pf64_4, pf64_5, pf64_6, pf64_8, pf64_9, pf64_10, pf64_14, pf70_0, pf70_1, pf70_2, pf70_3, pf71_0, pf71_1, pf71_2, pf71_3, ps74_0, ps74_1, ps74_2, ps74_3, ps100_0, ps100_1, ps100_2, ps100_3, s_in, s_has, s_one, s_roomOf, s_hurtOf, s_isLost, s_standOf, s_isTray, s_isSoon, s_fallen, s_isPassage, s_isRoom, s_isPassage70, s_leads70, s_isBack70, s_isPassage, s_isRoom, s_isPassage71, s_leads71, s_isBack71, s_onec, s_bitCount, s_be7170, s_be7071, u_tens77]
          have e : lk N (A 3) r (0 : Int).toNat s = 0 := by show (if s % 6 = 5 then (0 : Int) else if s / 6 = r then 1 else 0) = 0; rw [if_neg q, if_neg q2]
          split
          · exact ⟨_, _, rfl, by rw [e], rfl⟩
          · exact ⟨_, _, rfl, by rw [e], rfl⟩
        · have ek : k.toNat = (k - 1).toNat + 1 := by omega
          have cr := fun p p0 p1 => chB_rng (N := N) (F := A 3) (room := r) hr (R := 36) rfl hf.1 hf.2 (k - 1).toNat (s := s) (p := p) s0 s1 p0 p1
          rw [← ek] at cr
          refine bk_loop (σ := Unit) (fun p _ => bk_den TX0_chanceFrom (bk_call d) 28 [.ref 64, .int (bk_i r), .int (bk_i s), .int (bk_i k), .int (bk_i (mx (fun p => chB N (A 3) (lk N (A 3) r (k - 1).toNat) s p) p.toNat)), .int (bk_i p)] [] (bk_M κ (cp, cs, cj) Y g n)) (fun p _ => 0 ≤ p) (A 2) ?_ ?_ 0 () h0 (by omega)
          · rintro p - hp p0 cont
            have ec := s_chanceBy (κ := κ) (cp := cp) (cs := cs) (cj := cj) (Y := Y) (n := n) (D := d) (N := N) hF hc' hf (hN p p0 hp) (hr s p s0 s1 p0 (by omega)) (show 1 ≤ k by omega) k1 s0 s1 p0 (by omega) (hl z) (by omega)
            have c1 := cr p p0 (by omega)
            have c2 := mx_bnd (f := fun p => chB N (A 3) (lk N (A 3) r (k - 1).toNat) s p) (b := (10 : Int) ^ k.toNat) (by omega) p.toNat (fun u a b => (cr u a (by omega)).2)
            have g1 := cont () (by omega)
            rw [mx_succ _ p0, Int.max_comm] at g1
            rw [eX0_chanceFrom_28]
            simp (disch := first | assumption | omega) only [c0, c1, c2, c3, c4, c5, c6, c7, c8, ctw, cb, ce, cd, cw, cwp, if_neg (show ¬ A 2 ≤ p by omega), if_neg (show ¬ k ≤ 0 by omega), ec, bi_add, bi_sub, bi_mul, bi_neg, bi_div, bi_64, bl_add, bl_sub, bl_mul, bl_neg, bl_div, bl_32, bi_min, bi_max, bl_min, bl_max, bq_I, bq_J, bq_A, bq_Vi, bq_Vl, bq_Vr, bq_cV, bq_cI, bq_cJ, bq_cA, bq_le, bq_lt, bq_eq, bq_z, bq_o, bq_ref, bq_nz, bq_nzJ, bq_bl, bq_blz, bq_T, bq_F, if_true, if_false, Int.reduceEq, Int.reduceLT, Int.reduceLE, Int.reduceAdd, Int.reduceSub, Int.reduceMul, Int.add_sub_cancel, li_0, li_1, li_5, li_12, li_13, li_28, li_76, li_77, li_78, ll_0, ll_1, ll_5, ll_12, ll_13, ll_28, ll_76, ll_77, ll_78, ga72, ga84, ga85, ga86, ga90, ga92, ga87, ga91, ga88, ga89, gf64_4, gf64_5, gf64_6, gf64_8, gf64_9, gf64_10, gf64_14, gf70_0, gf70_1, gf70_2, gf70_3, gf71_0, gf71_1, gf71_2, gf71_3, gs74_0, gs74_1, gs74_2, gs74_3, gs100_0, gs100_1, gs100_2, gs100_3, gr64_1, gr64_2, gr64_3, gr64_7, gr64_11, gr64_12, gr64_13, gr64_15, gr64_16, gr64_17, gr64_18, gr64_19, gr64_20, gr64_21, gr64_22, gr64_23, gr70_4, gr71_4, gu73, gu99, gu93, pa72, pa84, pa85, pa86, pa90, pa92, pa87, pa91, pa88, pa89, pf64_4, pf64_5, pf64_6, pf64_8, pf64_9, pf64_10, pf64_14, pf70_0, pf70_1, pf70_2, pf70_3, pf71_0, pf71_1, pf71_2, pf71_3, ps74_0, ps74_1, ps74_2, ps74_3, ps100_0, ps100_1, ps100_2, ps100_3, s_in, s_has, s_one, s_roomOf, s_hurtOf, s_isLost, s_standOf, s_isTray, s_isSoon, s_fallen, s_isPassage, s_isRoom, s_isPassage70, s_leads70, s_isBack70, s_isPassage, s_isRoom, s_isPassage71, s_leads71, s_isBack71, s_onec, s_bitCount, s_be7170, s_be7071, u_tens77]
            exact g1
          · rintro - p0
            have e : mx (fun p => chB N (A 3) (lk N (A 3) r (k - 1).toNat) s p) (A 2).toNat = lk N (A 3) r k.toNat s := by
              rw [ek]
              show _ = (if s % 6 = 5 then (0 : Int) else if s / 6 = r then (10 : Int) ^ ((k - 1).toNat + 1) else mx (fun p => chB N (A 3) (lk N (A 3) r (k - 1).toNat) s p) 8)
              rw [if_neg q, if_neg q2]
              exact (mx_cut h0 8 (by omega) (fun p a b => by
                show chB N (A 3) (lk N (A 3) r (k - 1).toNat) s p ≤ 0
                unfold chB
                by_cases y : N s p = -1
                · rw [if_pos y]; exact Int.le_refl 0
                · have := hdom s p y; omega)).symm
            rw [eX0_chanceFrom_28]
            simp (disch := first | assumption | omega) only [c0, c1, c2, c3, c4, c5, c6, c7, c8, ctw, cb, ce, cd, cw, cwp, if_pos (Int.le_refl (A 2)), e, bi_add, bi_sub, bi_mul, bi_neg, bi_div, bi_64, bl_add, bl_sub, bl_mul, bl_neg, bl_div, bl_32, bi_min, bi_max, bl_min, bl_max, bq_I, bq_J, bq_A, bq_Vi, bq_Vl, bq_Vr, bq_cV, bq_cI, bq_cJ, bq_cA, bq_le, bq_lt, bq_eq, bq_z, bq_o, bq_ref, bq_nz, bq_nzJ, bq_bl, bq_blz, bq_T, bq_F, if_true, if_false, Int.reduceEq, Int.reduceLT, Int.reduceLE, Int.reduceAdd, Int.reduceSub, Int.reduceMul, Int.add_sub_cancel, li_0, li_1, li_5, li_12, li_13, li_28, li_76, li_77, li_78, ll_0, ll_1, ll_5, ll_12, ll_13, ll_28, ll_76, ll_77, ll_78, ga72, ga84, ga85, ga86, ga90, ga92, ga87, ga91, ga88, ga89, gf64_4, gf64_5, gf64_6, gf64_8, gf64_9, gf64_10, gf64_14, gf70_0, gf70_1, gf70_2, gf70_3, gf71_0, gf71_1, gf71_2, gf71_3, gs74_0, gs74_1, gs74_2, gs74_3, gs100_0, gs100_1, gs100_2, gs100_3, gr64_1, gr64_2, gr64_3, gr64_7, gr64_11, gr64_12, gr64_13, gr64_15, gr64_16, gr64_17, gr64_18, gr64_19, gr64_20, gr64_21, gr64_22, gr64_23, gr70_4, gr71_4, gu73, gu99, gu93, pa72, pa84, pa85, pa86, pa90, pa92, pa87, pa91, pa88, pa89, pf64_4, pf64_5, pf64_6, pf64_8, pf64_9, pf64_10, pf64_14, pf70_0, pf70_1, pf70_2, pf70_3, pf71_0, pf71_1, pf71_2, pf71_3, ps74_0, ps74_1, ps74_2, ps74_3, ps100_0, ps100_1, ps100_2, ps100_3, s_in, s_has, s_one, s_roomOf, s_hurtOf, s_isLost, s_standOf, s_isTray, s_isSoon, s_fallen, s_isPassage, s_isRoom, s_isPassage70, s_leads70, s_isBack70, s_isPassage, s_isRoom, s_isPassage71, s_leads71, s_isBack71, s_onec, s_bitCount, s_be7170, s_be7071, u_tens77]
            exact ⟨_, _, rfl, rfl, rfl⟩
  obtain ⟨z, h', e, rfl, rfl⟩ := goal
  exact e
theorem s_laysChances (h : bCt κ g ca A cp) (m0 : 0 ≤ m) (m1 : m ≤ 8) (r0 : -2147483648 ≤ r) (r1 : r < 2147483648) (hD : 910 ≤ D) :
    ∃ cs', (∀ s p, 0 ≤ s → s < 36 → 0 ≤ p → p < A 2 → cs' 84 (8 * s + p) = nxt A (A 44) s p) ∧ (∀ k t, 0 ≤ k → k ≤ m → 0 ≤ t → t < 36 → cs' 92 (36 * k + t) = lk (nxt A (A 44)) (A 3) r k.toNat t)
      ∧ bk_call D 75 [.ref 64, .int (bk_i r), .int (bk_i m)] (bk_M κ (cp, cs, cj) Y g n) = some (some (.int (bk_i (lk (nxt A (A 44)) (A 3) r m.toNat (cp 70 0)))), bk_M κ (cp, cs', cj) Y g n) := by
  obtain ⟨d, rfl⟩ := dep hD
  have st := bCt_st h
  obtain ⟨cs1, f1, v1, e1⟩ := s_laysNow (cs := cs) (cj := cj) (Y := Y) (n := n) (D := d) h (by omega)
  obtain ⟨hF, hc, hw, hs, n0, n1, n2, n3⟩ := h
  have hN := nxt_N hw (A 44) (R := 36) (by omega)
  have hf : 0 ≤ A 3 ∧ A 3 ≤ 10 := by
    have a := hw.2.2.2.2.1
    have b := hw.2.2.2.2.2.1
    simp only [Int.zero_add] at a b
    exact ⟨a, b⟩
  have hc' := hc
  obtain ⟨c0, c1, c2, c3, c4, c5, c6, c7, c8, ⟨tw, ctw, htw⟩, cb, ce, cd, cw, cwp, hca, -, -⟩ := hc
  have goal : bk_wp (bk_call (d + 1) 75 [.ref 64, .int (bk_i r), .int (bk_i m)] (bk_M κ (cp, cs, cj) Y g n)) (fun v h' => ∃ cs', v = some (.int (bk_i (lk (nxt A (A 44)) (A 3) r m.toNat (cp 70 0)))) ∧ h' = bk_M κ (cp, cs', cj) Y g n ∧ (∀ s p, 0 ≤ s → s < 36 → 0 ≤ p → p < A 2 → cs' 84 (8 * s + p) = nxt A (A 44) s p) ∧ (∀ k t, 0 ≤ k → k ≤ m → 0 ≤ t → t < 36 → cs' 92 (36 * k + t) = lk (nxt A (A 44)) (A 3) r k.toNat t)) := by
    rw [kX0_laysChances, eX0_laysChances_0]
    simp (disch := first | assumption | omega) only [c0, c1, c2, c3, c4, c5, c6, c7, c8, ctw, cb, ce, cd, cw, cwp, e1, bi_add, bi_sub, bi_mul, bi_neg, bi_div, bi_64, bl_add, bl_sub, bl_mul, bl_neg, bl_div, bl_32, bi_min, bi_max, bl_min, bl_max, bq_I, bq_J, bq_A, bq_Vi, bq_Vl, bq_Vr, bq_cV, bq_cI, bq_cJ, bq_cA, bq_le, bq_lt, bq_eq, bq_z, bq_o, bq_ref, bq_nz, bq_nzJ, bq_bl, bq_blz, bq_T, bq_F, if_true, if_false, Int.reduceEq, Int.reduceLT, Int.reduceLE, Int.reduceAdd, Int.reduceSub, Int.reduceMul, Int.add_sub_cancel, li_0, li_1, li_2, li_6, li_14, li_20, li_34, li_36, li_75, li_76, li_100, ll_0, ll_1, ll_2, ll_6, ll_14, ll_20, ll_34, ll_36, ll_75, ll_76, ll_100, ga72, ga84, ga85, ga86, ga90, ga92, ga87, ga91, ga88, ga89, gf64_4, gf64_5, gf64_6, gf64_8, gf64_9, gf64_10, gf64_14, gf70_0, gf70_1, gf70_2, gf70_3, gf71_0, gf71_1, gf71_2, gf71_3, gs74_0, gs74_1, gs74_2, gs74_3, gs100_0, gs100_1, gs100_2, gs100_3, gr64_1, gr64_2, gr64_3, gr64_7, gr64_11, gr64_12, gr64_13, gr64_15, gr64_16, gr64_17, gr64_18, gr64_19, gr64_20, gr64_21, gr64_22, gr64_23, gr70_4, gr71_4, gu73, gu99, gu93, pa72, pa84, pa85, pa86, pa90, pa92, pa87, pa91, pa88, pa89, pf64_4, pf64_5, pf64_6, pf64_8, pf64_9, pf64_10, pf64_14, pf70_0, pf70_1, pf70_2, pf70_3, pf71_0, pf71_1, pf71_2, pf71_3, ps74_0, ps74_1, ps74_2, ps74_3, ps100_0, ps100_1, ps100_2, ps100_3, s_in, s_has, s_one, s_roomOf, s_hurtOf, s_isLost, s_standOf, s_isTray, s_isSoon, s_fallen, s_isPassage, s_isRoom, s_isPassage70, s_leads70, s_isBack70, s_isPassage, s_isRoom, s_isPassage71, s_leads71, s_isBack71, s_onec, s_bitCount, s_be7170, s_be7071, u_tens77]
    refine bk_loop (σ := bF × Value) (fun k x => bk_den TX0_laysChances (bk_call d) 6 [.ref 64, .int (bk_i r), .int (bk_i m), .int (bk_i k), x.2] [] (bk_M κ (cp, x.1, cj) Y g n))
      (fun k x => 0 ≤ k ∧ (∀ s p, 0 ≤ s → s < 36 → 0 ≤ p → p < A 2 → x.1 84 (8 * s + p) = nxt A (A 44) s p) ∧ (∀ j t, 0 ≤ j → j < k → 0 ≤ t → t < 36 → x.1 92 (36 * j + t) = lk (nxt A (A 44)) (A 3) r j.toNat t)) (m + 1) ?_ ?_ 0 (cs1, bk_u) (by omega) ⟨by omega, v1, fun j t a b => by omega⟩
    · rintro k ⟨x, w⟩ hk ⟨k0, va, vb⟩ cont
      dsimp only at va vb ⊢
      rw [eX0_laysChances_6]
      simp (disch := first | assumption | omega) only [if_neg (show ¬ m < k by omega), bi_add, bi_sub, bi_mul, bi_neg, bi_div, bi_64, bl_add, bl_sub, bl_mul, bl_neg, bl_div, bl_32, bi_min, bi_max, bl_min, bl_max, bq_I, bq_J, bq_A, bq_Vi, bq_Vl, bq_Vr, bq_cV, bq_cI, bq_cJ, bq_cA, bq_le, bq_lt, bq_eq, bq_z, bq_o, bq_ref, bq_nz, bq_nzJ, bq_bl, bq_blz, bq_T, bq_F, if_true, if_false, Int.reduceEq, Int.reduceLT, Int.reduceLE, Int.reduceAdd, Int.reduceSub, Int.reduceMul, Int.add_sub_cancel, li_0, li_1, li_2, li_6, li_14, li_20, li_34, li_36, li_75, li_76, li_100, ll_0, ll_1, ll_2, ll_6, ll_14, ll_20, ll_34, ll_36, ll_75, ll_76, ll_100, ga72, ga84, ga85, ga86, ga90, ga92, ga87, ga91, ga88, ga89, gf64_4, gf64_5, gf64_6, gf64_8, gf64_9, gf64_10, gf64_14, gf70_0, gf70_1, gf70_2, gf70_3, gf71_0, gf71_1, gf71_2, gf71_3, gs74_0, gs74_1, gs74_2, gs74_3, gs100_0, gs100_1, gs100_2, gs100_3, gr64_1, gr64_2, gr64_3, gr64_7, gr64_11, gr64_12, gr64_13, gr64_15, gr64_16, gr64_17, gr64_18, gr64_19, gr64_20, gr64_21, gr64_22, gr64_23, gr70_4, gr71_4, gu73, gu99, gu93, pa72, pa84, pa85, pa86, pa90, pa92, pa87, pa91, pa88, pa89, pf64_4, pf64_5, pf64_6, pf64_8, pf64_9, pf64_10, pf64_14, pf70_0, pf70_1, pf70_2, pf70_3, pf71_0, pf71_1, pf71_2, pf71_3, ps74_0, ps74_1, ps74_2, ps74_3, ps100_0, ps100_1, ps100_2, ps100_3, s_in, s_has, s_one, s_roomOf, s_hurtOf, s_isLost, s_standOf, s_isTray, s_isSoon, s_fallen, s_isPassage, s_isRoom, s_isPassage70, s_leads70, s_isBack70, s_isPassage, s_isRoom, s_isPassage71, s_leads71, s_isBack71, s_onec, s_bitCount, s_be7170, s_be7071, u_tens77]
      refine bk_loop (σ := bF) (fun s x => bk_den TX0_laysChances (bk_call d) 14 [.ref 64, .int (bk_i r), .int (bk_i m), .int (bk_i k), .int (bk_i s)] [] (bk_M κ (cp, x, cj) Y g n))
        (fun s x => 0 ≤ s ∧ (∀ s p, 0 ≤ s → s < 36 → 0 ≤ p → p < A 2 → x 84 (8 * s + p) = nxt A (A 44) s p) ∧ (∀ j t, 0 ≤ j → j < k → 0 ≤ t → t < 36 → x 92 (36 * j + t) = lk (nxt A (A 44)) (A 3) r j.toNat t) ∧ ∀ t, 0 ≤ t → t < s → x 92 (36 * k + t) = lk (nxt A (A 44)) (A 3) r k.toNat t) 36 ?_ ?_ 0 x (by omega) ⟨by omega, va, vb, fun t _ _ => by omega⟩
      · rintro s x hs ⟨s0, va, vb, vc⟩ cont2
        have ec := s_chanceFrom (κ := κ) (cp := cp) (cs := x) (cj := cj) (Y := Y) (n := n) (D := d) (N := nxt A (A 44)) (s := s) (k := k) (r := r) hF hc' (by omega) (by omega) hf (fun p a b => va s p s0 hs a b) hN (fun s p q => (nxt_dom q).2.1) k0 (by omega) s0 hs r0 r1 (fun z t a b => vb (k - 1) t (by omega) (by omega) a b) (by omega)
        rw [eX0_laysChances_14]
        simp (disch := first | assumption | omega) only [c0, c1, c2, c3, c4, c5, c6, c7, c8, ctw, cb, ce, cd, cw, cwp, if_neg (show ¬ 36 ≤ s by omega), ec, bi_add, bi_sub, bi_mul, bi_neg, bi_div, bi_64, bl_add, bl_sub, bl_mul, bl_neg, bl_div, bl_32, bi_min, bi_max, bl_min, bl_max, bq_I, bq_J, bq_A, bq_Vi, bq_Vl, bq_Vr, bq_cV, bq_cI, bq_cJ, bq_cA, bq_le, bq_lt, bq_eq, bq_z, bq_o, bq_ref, bq_nz, bq_nzJ, bq_bl, bq_blz, bq_T, bq_F, if_true, if_false, Int.reduceEq, Int.reduceLT, Int.reduceLE, Int.reduceAdd, Int.reduceSub, Int.reduceMul, Int.add_sub_cancel, li_0, li_1, li_2, li_6, li_14, li_20, li_34, li_36, li_75, li_76, li_100, ll_0, ll_1, ll_2, ll_6, ll_14, ll_20, ll_34, ll_36, ll_75, ll_76, ll_100, ga72, ga84, ga85, ga86, ga90, ga92, ga87, ga91, ga88, ga89, gf64_4, gf64_5, gf64_6, gf64_8, gf64_9, gf64_10, gf64_14, gf70_0, gf70_1, gf70_2, gf70_3, gf71_0, gf71_1, gf71_2, gf71_3, gs74_0, gs74_1, gs74_2, gs74_3, gs100_0, gs100_1, gs100_2, gs100_3, gr64_1, gr64_2, gr64_3, gr64_7, gr64_11, gr64_12, gr64_13, gr64_15, gr64_16, gr64_17, gr64_18, gr64_19, gr64_20, gr64_21, gr64_22, gr64_23, gr70_4, gr71_4, gu73, gu99, gu93, pa72, pa84, pa85, pa86, pa90, pa92, pa87, pa91, pa88, pa89, pf64_4, pf64_5, pf64_6, pf64_8, pf64_9, pf64_10, pf64_14, pf70_0, pf70_1, pf70_2, pf70_3, pf71_0, pf71_1, pf71_2, pf71_3, ps74_0, ps74_1, ps74_2, ps74_3, ps100_0, ps100_1, ps100_2, ps100_3, s_in, s_has, s_one, s_roomOf, s_hurtOf, s_isLost, s_standOf, s_isTray, s_isSoon, s_fallen, s_isPassage, s_isRoom, s_isPassage70, s_leads70, s_isBack70, s_isPassage, s_isRoom, s_isPassage71, s_leads71, s_isBack71, s_onec, s_bitCount, s_be7170, s_be7071, u_tens77]
        refine cont2 _ ⟨by omega, fun s' p a b c e => ?_, fun j t a b c e => ?_, fun t a b => ?_⟩
        · rw [bU_ne _ _ _ _ _ _ (by decide)]; exact va s' p a b c e
        · rw [bU_same, if_neg (by omega)]; exact vb j t a b c e
        · rw [bU_same]
          by_cases y : t = s
          · subst y; rw [if_pos rfl]
          · rw [if_neg (by omega)]; exact vc t a (by omega)
      · rintro x ⟨s0, va, vb, vc⟩
        rw [eX0_laysChances_14]
        simp (disch := first | assumption | omega) only [if_pos (Int.le_refl 36), bi_add, bi_sub, bi_mul, bi_neg, bi_div, bi_64, bl_add, bl_sub, bl_mul, bl_neg, bl_div, bl_32, bi_min, bi_max, bl_min, bl_max, bq_I, bq_J, bq_A, bq_Vi, bq_Vl, bq_Vr, bq_cV, bq_cI, bq_cJ, bq_cA, bq_le, bq_lt, bq_eq, bq_z, bq_o, bq_ref, bq_nz, bq_nzJ, bq_bl, bq_blz, bq_T, bq_F, if_true, if_false, Int.reduceEq, Int.reduceLT, Int.reduceLE, Int.reduceAdd, Int.reduceSub, Int.reduceMul, Int.add_sub_cancel, li_0, li_1, li_2, li_6, li_14, li_20, li_34, li_36, li_75, li_76, li_100, ll_0, ll_1, ll_2, ll_6, ll_14, ll_20, ll_34, ll_36, ll_75, ll_76, ll_100, ga72, ga84, ga85, ga86, ga90, ga92, ga87, ga91, ga88, ga89, gf64_4, gf64_5, gf64_6, gf64_8, gf64_9, gf64_10, gf64_14, gf70_0, gf70_1, gf70_2, gf70_3, gf71_0, gf71_1, gf71_2, gf71_3, gs74_0, gs74_1, gs74_2, gs74_3, gs100_0, gs100_1, gs100_2, gs100_3, gr64_1, gr64_2, gr64_3, gr64_7, gr64_11, gr64_12, gr64_13, gr64_15, gr64_16, gr64_17, gr64_18, gr64_19, gr64_20, gr64_21, gr64_22, gr64_23, gr70_4, gr71_4, gu73, gu99, gu93, pa72, pa84, pa85, pa86, pa90, pa92, pa87, pa91, pa88, pa89, pf64_4, pf64_5, pf64_6, pf64_8, pf64_9, pf64_10, pf64_14, pf70_0, pf70_1, pf70_2, pf70_3, pf71_0, pf71_1, pf71_2, pf71_3, ps74_0, ps74_1, ps74_2, ps74_3, ps100_0, ps100_1, ps100_2, ps100_3, s_in, s_has, s_one, s_roomOf, s_hurtOf, s_isLost, s_standOf, s_isTray, s_isSoon, s_fallen, s_isPassage, s_isRoom, s_isPassage70, s_leads70, s_isBack70, s_isPassage, s_isRoom, s_isPassage71, s_leads71, s_isBack71, s_onec, s_bitCount, s_be7170, s_be7071, u_tens77]
        refine cont (x, .int (bk_i 36)) ⟨by omega, va, fun j t a b c e => ?_⟩
        by_cases y : j = k
        · subst y; exact vc t c e
        · exact vb j t a (by omega) c e
    · rintro ⟨x, w⟩ ⟨k0, va, vb⟩
      dsimp only at va vb ⊢
      have e := vb m (cp 70 0) m0 (by omega) st.1 (by omega)
      rw [eX0_laysChances_6]
      simp (disch := first | assumption | omega) only [if_pos (show m < m + 1 by omega), e, bi_add, bi_sub, bi_mul, bi_neg, bi_div, bi_64, bl_add, bl_sub, bl_mul, bl_neg, bl_div, bl_32, bi_min, bi_max, bl_min, bl_max, bq_I, bq_J, bq_A, bq_Vi, bq_Vl, bq_Vr, bq_cV, bq_cI, bq_cJ, bq_cA, bq_le, bq_lt, bq_eq, bq_z, bq_o, bq_ref, bq_nz, bq_nzJ, bq_bl, bq_blz, bq_T, bq_F, if_true, if_false, Int.reduceEq, Int.reduceLT, Int.reduceLE, Int.reduceAdd, Int.reduceSub, Int.reduceMul, Int.add_sub_cancel, li_0, li_1, li_2, li_6, li_14, li_20, li_34, li_36, li_75, li_76, li_100, ll_0, ll_1, ll_2, ll_6, ll_14, ll_20, ll_34, ll_36, ll_75, ll_76, ll_100, ga72, ga84, ga85, ga86, ga90, ga92, ga87, ga91, ga88, ga89, gf64_4, gf64_5, gf64_6, gf64_8, gf64_9, gf64_10, gf64_14, gf70_0, gf70_1, gf70_2, gf70_3, gf71_0, gf71_1, gf71_2, gf71_3, gs74_0, gs74_1, gs74_2, gs74_3, gs100_0, gs100_1, gs100_2, gs100_3, gr64_1, gr64_2, gr64_3, gr64_7, gr64_11, gr64_12, gr64_13, gr64_15, gr64_16, gr64_17, gr64_18, gr64_19, gr64_20, gr64_21, gr64_22, gr64_23, gr70_4, gr71_4, gu73, gu99, gu93, pa72, pa84, pa85, pa86, pa90, pa92, pa87, pa91, pa88, pa89, pf64_4, pf64_5, pf64_6, pf64_8, pf64_9, pf64_10, pf64_14, pf70_0, pf70_1, pf70_2, pf70_3, pf71_0, pf71_1, pf71_2, pf71_3, ps74_0, ps74_1, ps74_2, ps74_3, ps100_0, ps100_1, ps100_2, ps100_3, s_in, s_has, s_one, s_roomOf, s_hurtOf, s_isLost, s_standOf, s_isTray, s_isSoon, s_fallen, s_isPassage, s_isRoom, s_isPassage70, s_leads70, s_isBack70, s_isPassage, s_isRoom, s_isPassage71, s_leads71, s_isBack71, s_onec, s_bitCount, s_be7170, s_be7071, u_tens77]
      exact ⟨_, _, rfl, x, rfl, rfl, va, fun k t a b c e => vb k t a (by omega) c e⟩
  obtain ⟨z, h', e, cs', rfl, rfl, h1, h2⟩ := goal
  exact ⟨cs', h1, h2, e⟩
def rChance (A : Int → Int) (r m what z : Int) : Prop := (¬ ((0 ≤ r ∧ r ≤ A 1 - 1) ∧ (0 ≤ what ∧ what ≤ 1)) ∧ z = -2) ∨ (((0 ≤ r ∧ r ≤ A 1 - 1) ∧ (0 ≤ what ∧ what ≤ 1)) ∧ ¬ (0 ≤ m ∧ m ≤ 8) ∧ z = -3)
  ∨ (((0 ≤ r ∧ r ≤ A 1 - 1) ∧ (0 ≤ what ∧ what ≤ 1)) ∧ (0 ≤ m ∧ m ≤ 8) ∧ z = (if what = 0 then lk (nxt A (A 44)) (A 3) r m.toNat (6 * A 42 + A 43) else (10 : Int) ^ m.toNat) / ((Int.gcd ((10 : Int) ^ m.toNat) (lk (nxt A (A 44)) (A 3) r m.toNat (6 * A 42 + A 43)) : Nat) : Int))
theorem gcd_b {a b : Int} (a1 : 1 ≤ a) : 1 ≤ ((Int.gcd a b : Nat) : Int) ∧ ((Int.gcd a b : Nat) : Int) ≤ a := by
  have x := Int.gcd_pos_of_ne_zero_left b (show a ≠ 0 by omega)
  have y := Int.gcd_le_left b (show 0 < a by omega)
  omega
theorem c_chance (h : bCt κ g ca A cp) (h3 : -2147483648 ≤ r) (h4 : r < 2147483648) (h5 : -2147483648 ≤ m) (h6 : m < 2147483648) (h7 : -2147483648 ≤ what) (h8 : what < 2147483648) (hD : 912 ≤ D) :
    bk_wp (bk_call D 73 [.ref 64, .int (bk_i r), .int (bk_i m), .int (bk_i what)] (bk_M κ (cp, cs, cj) Y g n)) (bCq κ cp Y g n (rChance A r m what)) := by
  obtain ⟨d, rfl⟩ := dep hD
  have st := bCt_st h
  have hct := h
  obtain ⟨hF, hc, hw, hs, n0, n1, n2, n3⟩ := h
  have hN := nxt_N hw (A 44) (R := 36) (by omega)
  have hf : 0 ≤ A 3 ∧ A 3 ≤ 10 := by
    have a := hw.2.2.2.2.1
    have b := hw.2.2.2.2.2.1
    simp only [Int.zero_add] at a b
    exact ⟨a, b⟩
  have er := s_isRoom (κ := κ) (X := (cp, cs, cj)) (Y := Y) (n := n) (D := d) hc h3 h4 (by omega) (by omega) (by omega)
  obtain ⟨c0, c1, c2, c3, c4, c5, c6, c7, c8, ⟨tw, ctw, htw⟩, cb, ce, cd, cw, cwp, hca, -, -⟩ := hc
  rw [kX0_chance, eX0_chance_0]
  simp (disch := first | assumption | omega) only [c0, c1, c2, c3, c4, c5, c6, c7, c8, ctw, cb, ce, cd, cw, cwp, er, bi_add, bi_sub, bi_mul, bi_neg, bi_div, bi_64, bl_add, bl_sub, bl_mul, bl_neg, bl_div, bl_32, bi_min, bi_max, bl_min, bl_max, bq_I, bq_J, bq_A, bq_Vi, bq_Vl, bq_Vr, bq_cV, bq_cI, bq_cJ, bq_cA, bq_le, bq_lt, bq_eq, bq_z, bq_o, bq_ref, bq_nz, bq_nzJ, bq_bl, bq_blz, bq_T, bq_F, if_true, if_false, Int.reduceEq, Int.reduceLT, Int.reduceLE, Int.reduceAdd, Int.reduceSub, Int.reduceMul, Int.add_sub_cancel, li_0, li_1, li_2, li_3, li_5, li_32, li_73, li_74, li_75, li_77, li_79, ll_0, ll_1, ll_2, ll_3, ll_5, ll_32, ll_73, ll_74, ll_75, ll_77, ll_79, ga72, ga84, ga85, ga86, ga90, ga92, ga87, ga91, ga88, ga89, gf64_4, gf64_5, gf64_6, gf64_8, gf64_9, gf64_10, gf64_14, gf70_0, gf70_1, gf70_2, gf70_3, gf71_0, gf71_1, gf71_2, gf71_3, gs74_0, gs74_1, gs74_2, gs74_3, gs100_0, gs100_1, gs100_2, gs100_3, gr64_1, gr64_2, gr64_3, gr64_7, gr64_11, gr64_12, gr64_13, gr64_15, gr64_16, gr64_17, gr64_18, gr64_19, gr64_20, gr64_21, gr64_22, gr64_23, gr70_4, gr71_4, gu73, gu99, gu93, pa72, pa84, pa85, pa86, pa90, pa92, pa87, pa91, pa88, pa89, pf64_4, pf64_5, pf64_6, pf64_8, pf64_9, pf64_10, pf64_14, pf70_0, pf70_1, pf70_2, pf70_3, pf71_0, pf71_1, pf71_2, pf71_3, ps74_0, ps74_1, ps74_2, ps74_3, ps100_0, ps100_1, ps100_2, ps100_3, s_in, s_has, s_one, s_roomOf, s_hurtOf, s_isLost, s_standOf, s_isTray, s_isSoon, s_fallen, s_isPassage, s_isRoom, s_isPassage70, s_leads70, s_isBack70, s_isPassage, s_isRoom, s_isPassage71, s_leads71, s_isBack71, s_onec, s_bitCount, s_be7170, s_be7071, u_tens77]
  by_cases q : 0 ≤ r ∧ r ≤ A 1 - 1
  · rw [if_pos q]
    by_cases q2 : 0 ≤ what ∧ what ≤ 1
    · rw [if_pos q2]
      by_cases q3 : 0 ≤ m ∧ m ≤ 8
      · rw [if_pos q3]
        obtain ⟨cs1, va, vb, e1⟩ := s_laysChances (cs := cs) (cj := cj) (Y := Y) (n := n) (D := d) (r := r) (m := m) hct q3.1 q3.2 h3 h4 (by omega)
        have lr := lk_rng (room := r) hN (R := 36) rfl hf.1 hf.2 m.toNat (cp 70 0) st.1 (by omega)
        have t8 := ten8 (k := m.toNat) (by omega)
        have t1 := ten_pos m.toNat
        have gb := gcd_b (a := (10 : Int) ^ m.toNat) (b := lk (nxt A (A 44)) (A 3) r m.toNat (cp 70 0)) t1
        have eg := fun h => u_common79 27 ((10 : Int) ^ m.toNat) (lk (nxt A (A 44)) (A 3) r m.toNat (cp 70 0)) (by omega) (by omega) (by omega) (by omega) (by omega) d (by omega) h
        simp (disch := first | assumption | omega) only [c0, c1, c2, c3, c4, c5, c6, c7, c8, ctw, cb, ce, cd, cw, cwp, e1, eg, bi_add, bi_sub, bi_mul, bi_neg, bi_div, bi_64, bl_add, bl_sub, bl_mul, bl_neg, bl_div, bl_32, bi_min, bi_max, bl_min, bl_max, bq_I, bq_J, bq_A, bq_Vi, bq_Vl, bq_Vr, bq_cV, bq_cI, bq_cJ, bq_cA, bq_le, bq_lt, bq_eq, bq_z, bq_o, bq_ref, bq_nz, bq_nzJ, bq_bl, bq_blz, bq_T, bq_F, if_true, if_false, Int.reduceEq, Int.reduceLT, Int.reduceLE, Int.reduceAdd, Int.reduceSub, Int.reduceMul, Int.add_sub_cancel, li_0, li_1, li_2, li_3, li_5, li_32, li_73, li_74, li_75, li_77, li_79, ll_0, ll_1, ll_2, ll_3, ll_5, ll_32, ll_73, ll_74, ll_75, ll_77, ll_79, ga72, ga84, ga85, ga86, ga90, ga92, ga87, ga91, ga88, ga89, gf64_4, gf64_5, gf64_6, gf64_8, gf64_9, gf64_10, gf64_14, gf70_0, gf70_1, gf70_2, gf70_3, gf71_0, gf71_1, gf71_2, gf71_3, gs74_0, gs74_1, gs74_2, gs74_3, gs100_0, gs100_1, gs100_2, gs100_3, gr64_1, gr64_2, gr64_3, gr64_7, gr64_11, gr64_12, gr64_13, gr64_15, gr64_16, gr64_17, gr64_18, gr64_19, gr64_20, gr64_21, gr64_22, gr64_23, gr70_4, gr71_4, gu73, gu99, gu93, pa72, pa84, pa85, pa86, pa90, pa92, pa87, pa91, pa88, pa89, pf64_4, pf64_5, pf64_6, pf64_8, pf64_9, pf64_10, pf64_14, pf70_0, pf70_1, pf70_2, pf70_3, pf71_0, pf71_1, pf71_2, pf71_3, ps74_0, ps74_1, ps74_2, ps74_3, ps100_0, ps100_1, ps100_2, ps100_3, s_in, s_has, s_one, s_roomOf, s_hurtOf, s_isLost, s_standOf, s_isTray, s_isSoon, s_fallen, s_isPassage, s_isRoom, s_isPassage70, s_leads70, s_isBack70, s_isPassage, s_isRoom, s_isPassage71, s_leads71, s_isBack71, s_onec, s_bitCount, s_be7170, s_be7071, u_tens77]
        by_cases y : what = 0
        · rw [if_pos y]
          exact ⟨_, _, rfl, cs1, cj, _, rfl, rfl, Or.inr (Or.inr ⟨⟨q, q2⟩, q3, by rw [if_pos y, n0]⟩)⟩
        · rw [if_neg y]
          exact ⟨_, _, rfl, cs1, cj, _, rfl, rfl, Or.inr (Or.inr ⟨⟨q, q2⟩, q3, by rw [if_neg y, n0]⟩)⟩
      · rw [if_neg q3]
        exact ⟨_, _, rfl, cs, cj, _, rfl, rfl, Or.inr (Or.inl ⟨⟨q, q2⟩, q3, rfl⟩)⟩
    · rw [if_neg q2]
      exact ⟨_, _, rfl, cs, cj, _, rfl, rfl, Or.inl ⟨fun k => q2 k.2, rfl⟩⟩
  · rw [if_neg q]
    exact ⟨_, _, rfl, cs, cj, _, rfl, rfl, Or.inl ⟨fun k => q k.1, rfl⟩⟩
def rBest (A : Int → Int) (r m z : Int) : Prop := (¬ (0 ≤ r ∧ r ≤ A 1 - 1) ∧ z = -2) ∨ ((0 ≤ r ∧ r ≤ A 1 - 1) ∧ ¬ (0 ≤ m ∧ m ≤ 8) ∧ z = -3)
  ∨ ((0 ≤ r ∧ r ≤ A 1 - 1) ∧ (0 ≤ m ∧ m ≤ 8) ∧ z = if lk (nxt A (A 44)) (A 3) r m.toNat (6 * A 42 + A 43) = 0 ∨ A 42 = r then -1 else fst8 fun p => decide (chB (nxt A (A 44)) (A 3) (lk (nxt A (A 44)) (A 3) r (m - 1).toNat) (6 * A 42 + A 43) p = lk (nxt A (A 44)) (A 3) r m.toNat (6 * A 42 + A 43)))
/-- where there is a chance, a passage brings it -/
theorem lk_hit {N : Int → Int → Int} {F r m s : Int} (m0 : 0 ≤ m) (h : lk N F r m.toNat s ≠ 0) (hr : ¬ s / 6 = r) : 1 ≤ m ∧ s % 6 ≠ 5 ∧ ∃ p, 0 ≤ p ∧ p < 8 ∧ chB N F (lk N F r (m - 1).toNat) s p = lk N F r m.toNat s ∧ ∀ q, 0 ≤ q → q < p → chB N F (lk N F r (m - 1).toNat) s q ≠ lk N F r m.toNat s := by
  by_cases z : m = 0
  · subst z
    exfalso
    apply h
    show (if s % 6 = 5 then (0 : Int) else if s / 6 = r then 1 else 0) = 0
    split
    · rfl
    · first | rfl | rw [if_neg hr]
  · have ek : m.toNat = (m - 1).toNat + 1 := by omega
    have e : lk N F r m.toNat s = if s % 6 = 5 then (0 : Int) else mx (fun p => chB N F (lk N F r (m - 1).toNat) s p) 8 := by
      rw [ek]
      show (if s % 6 = 5 then (0 : Int) else if s / 6 = r then (10 : Int) ^ ((m - 1).toNat + 1) else mx (fun p => chB N F (lk N F r (m - 1).toNat) s p) 8) = _
      rw [if_neg hr]
    by_cases l : s % 6 = 5
    · rw [if_pos l] at e; exact absurd e h
    · rw [if_neg l] at e
      refine ⟨by omega, l, ?_⟩
      rcases mx_hit (f := fun p => chB N F (lk N F r (m - 1).toNat) s p) 8 with y | ⟨p, a, b, c⟩
      · rw [e, y] at h; exact absurd rfl h
      · obtain ⟨u, u0, u1, u2, u3⟩ := first_of (P := fun p => chB N F (lk N F r (m - 1).toNat) s p = lk N F r m.toNat s) a (by rw [e]; exact c)
        exact ⟨u, u0, by omega, u2, u3⟩
theorem c_best (h : bCt κ g ca A cp) (h3 : -2147483648 ≤ r) (h4 : r < 2147483648) (h5 : -2147483648 ≤ m) (h6 : m < 2147483648) (hD : 912 ≤ D) :
    bk_wp (bk_call D 80 [.ref 64, .int (bk_i r), .int (bk_i m)] (bk_M κ (cp, cs, cj) Y g n)) (bCq κ cp Y g n (rBest A r m)) := by
  obtain ⟨d, rfl⟩ := dep hD
  have st := bCt_st h
  have hct := h
  obtain ⟨hF, hc, hw, hs, n0, n1, n2, n3⟩ := h
  have hN := nxt_N hw (A 44) (R := 36) (by omega)
  have hf : 0 ≤ A 3 ∧ A 3 ≤ 10 := by
    have a := hw.2.2.2.2.1
    have b := hw.2.2.2.2.2.1
    simp only [Int.zero_add] at a b
    exact ⟨a, b⟩
  have a1 := hs.1
  have a3 := hs.2.2.1
  have a4 := hs.2.2.2.1
  simp only [show (42 : Int) + 1 = 43 from rfl] at a3 a4
  have r42 : cp 70 0 / 6 = A 42 := by omega
  have er := s_isRoom (κ := κ) (X := (cp, cs, cj)) (Y := Y) (n := n) (D := d) hc h3 h4 (by omega) (by omega) (by omega)
  have hc' := hc
  obtain ⟨c0, c1, c2, c3, c4, c5, c6, c7, c8, ⟨tw, ctw, htw⟩, cb, ce, cd, cw, cwp, hca, -, -⟩ := hc
  rw [kX0_best, eX0_best_0]
  simp (disch := first | assumption | omega) only [c0, c1, c2, c3, c4, c5, c6, c7, c8, ctw, cb, ce, cd, cw, cwp, er, bi_add, bi_sub, bi_mul, bi_neg, bi_div, bi_64, bl_add, bl_sub, bl_mul, bl_neg, bl_div, bl_32, bi_min, bi_max, bl_min, bl_max, bq_I, bq_J, bq_A, bq_Vi, bq_Vl, bq_Vr, bq_cV, bq_cI, bq_cJ, bq_cA, bq_le, bq_lt, bq_eq, bq_z, bq_o, bq_ref, bq_nz, bq_nzJ, bq_bl, bq_blz, bq_T, bq_F, if_true, if_false, Int.reduceEq, Int.reduceLT, Int.reduceLE, Int.reduceAdd, Int.reduceSub, Int.reduceMul, Int.add_sub_cancel, li_0, li_1, li_2, li_3, li_12, li_32, li_51, li_74, li_75, li_78, li_80, ll_0, ll_1, ll_2, ll_3, ll_12, ll_32, ll_51, ll_74, ll_75, ll_78, ll_80, ga72, ga84, ga85, ga86, ga90, ga92, ga87, ga91, ga88, ga89, gf64_4, gf64_5, gf64_6, gf64_8, gf64_9, gf64_10, gf64_14, gf70_0, gf70_1, gf70_2, gf70_3, gf71_0, gf71_1, gf71_2, gf71_3, gs74_0, gs74_1, gs74_2, gs74_3, gs100_0, gs100_1, gs100_2, gs100_3, gr64_1, gr64_2, gr64_3, gr64_7, gr64_11, gr64_12, gr64_13, gr64_15, gr64_16, gr64_17, gr64_18, gr64_19, gr64_20, gr64_21, gr64_22, gr64_23, gr70_4, gr71_4, gu73, gu99, gu93, pa72, pa84, pa85, pa86, pa90, pa92, pa87, pa91, pa88, pa89, pf64_4, pf64_5, pf64_6, pf64_8, pf64_9, pf64_10, pf64_14, pf70_0, pf70_1, pf70_2, pf70_3, pf71_0, pf71_1, pf71_2, pf71_3, ps74_0, ps74_1, ps74_2, ps74_3, ps100_0, ps100_1, ps100_2, ps100_3, s_in, s_has, s_one, s_roomOf, s_hurtOf, s_isLost, s_standOf, s_isTray, s_isSoon, s_fallen, s_isPassage, s_isRoom, s_isPassage70, s_leads70, s_isBack70, s_isPassage, s_isRoom, s_isPassage71, s_leads71, s_isBack71, s_onec, s_bitCount, s_be7170, s_be7071, u_tens77]
  by_cases q : 0 ≤ r ∧ r ≤ A 1 - 1
  · rw [if_pos q]
    by_cases q3 : 0 ≤ m ∧ m ≤ 8
    · rw [if_pos q3]
      obtain ⟨cs1, va, vb, e1⟩ := s_laysChances (cs := cs) (cj := cj) (Y := Y) (n := n) (D := d) (r := r) (m := m) hct q3.1 q3.2 h3 h4 (by omega)
      have lr := lk_rng (room := r) hN (R := 36) rfl hf.1 hf.2 m.toNat (cp 70 0) st.1 (by omega)
      have t8 := ten8 (k := m.toNat) (by omega)
      simp (disch := first | assumption | omega) only [c0, c1, c2, c3, c4, c5, c6, c7, c8, ctw, cb, ce, cd, cw, cwp, e1, r42, bi_add, bi_sub, bi_mul, bi_neg, bi_div, bi_64, bl_add, bl_sub, bl_mul, bl_neg, bl_div, bl_32, bi_min, bi_max, bl_min, bl_max, bq_I, bq_J, bq_A, bq_Vi, bq_Vl, bq_Vr, bq_cV, bq_cI, bq_cJ, bq_cA, bq_le, bq_lt, bq_eq, bq_z, bq_o, bq_ref, bq_nz, bq_nzJ, bq_bl, bq_blz, bq_T, bq_F, if_true, if_false, Int.reduceEq, Int.reduceLT, Int.reduceLE, Int.reduceAdd, Int.reduceSub, Int.reduceMul, Int.add_sub_cancel, li_0, li_1, li_2, li_3, li_12, li_32, li_51, li_74, li_75, li_78, li_80, ll_0, ll_1, ll_2, ll_3, ll_12, ll_32, ll_51, ll_74, ll_75, ll_78, ll_80, ga72, ga84, ga85, ga86, ga90, ga92, ga87, ga91, ga88, ga89, gf64_4, gf64_5, gf64_6, gf64_8, gf64_9, gf64_10, gf64_14, gf70_0, gf70_1, gf70_2, gf70_3, gf71_0, gf71_1, gf71_2, gf71_3, gs74_0, gs74_1, gs74_2, gs74_3, gs100_0, gs100_1, gs100_2, gs100_3, gr64_1, gr64_2, gr64_3, gr64_7, gr64_11, gr64_12, gr64_13, gr64_15, gr64_16, gr64_17, gr64_18, gr64_19, gr64_20, gr64_21, gr64_22, gr64_23, gr70_4, gr71_4, gu73, gu99, gu93, pa72, pa84, pa85, pa86, pa90, pa92, pa87, pa91, pa88, pa89, pf64_4, pf64_5, pf64_6, pf64_8, pf64_9, pf64_10, pf64_14, pf70_0, pf70_1, pf70_2, pf70_3, pf71_0, pf71_1, pf71_2, pf71_3, ps74_0, ps74_1, ps74_2, ps74_3, ps100_0, ps100_1, ps100_2, ps100_3, s_in, s_has, s_one, s_roomOf, s_hurtOf, s_isLost, s_standOf, s_isTray, s_isSoon, s_fallen, s_isPassage, s_isRoom, s_isPassage70, s_leads70, s_isBack70, s_isPassage, s_isRoom, s_isPassage71, s_leads71, s_isBack71, s_onec, s_bitCount, s_be7170, s_be7071, u_tens77]
      by_cases y : lk (nxt A (A 44)) (A 3) r m.toNat (cp 70 0) = 0
      · rw [if_pos y]
        exact ⟨_, _, rfl, cs1, cj, _, rfl, rfl, Or.inr (Or.inr ⟨q, q3, by rw [← n0, if_pos (Or.inl y)]⟩)⟩
      · rw [if_neg y]
        by_cases y2 : A 42 = r
        · rw [if_pos y2]
          exact ⟨_, _, rfl, cs1, cj, _, rfl, rfl, Or.inr (Or.inr ⟨q, q3, by rw [← n0, if_pos (Or.inr y2)]⟩)⟩
        · rw [if_neg y2]
          obtain ⟨m1, nl, u, u0, u1, u2, u3⟩ := lk_hit q3.1 y (by omega)
          have ud : u < A 2 := by
            by_cases z : nxt A (A 44) (cp 70 0) u = -1
            · unfold chB at u2
              rw [if_pos z] at u2
              exact absurd u2.symm y
            · exact (nxt_dom z).2.1
          have fe : fst8 (fun p => decide (chB (nxt A (A 44)) (A 3) (lk (nxt A (A 44)) (A 3) r (m - 1).toNat) (cp 70 0) p = lk (nxt A (A 44)) (A 3) r m.toNat (cp 70 0))) = u := fst8_eq u0 u1 (by simpa using u2) (fun q a b => by simpa using u3 q a b)
          have ek : m.toNat = (m - 1).toNat + 1 := by omega
          have cr := fun p p0 p1 => chB_rng (N := nxt A (A 44)) (F := A 3) (room := r) hN (R := 36) rfl hf.1 hf.2 (m - 1).toNat (s := cp 70 0) (p := p) st.1 (by omega) p0 p1
          rw [← ek] at cr
          have ec := fun p p0 p1 => s_chanceBy (κ := κ) (cp := cp) (cs := cs1) (cj := cj) (Y := Y) (n := n) (D := d) (N := nxt A (A 44)) (s := cp 70 0) (p := p) (k := m) hF hc' hf (va (cp 70 0) p st.1 (by omega) p0 p1) (hN (cp 70 0) p st.1 (by omega) p0 (by omega)) m1 q3.2 st.1 (by omega) p0 (by omega) (l := lk (nxt A (A 44)) (A 3) r (m - 1).toNat) (fun t a b => vb (m - 1) t (by omega) (by omega) a b) (by omega)
          refine bk_loop (σ := Unit) (fun p _ => bk_den TX0_best (bk_call d) 51 [.ref 64, .int (bk_i r), .int (bk_i m), .int (bk_i (lk (nxt A (A 44)) (A 3) r m.toNat (cp 70 0))), .int (bk_i p)] [] (bk_M κ (cp, cs1, cj) Y g n)) (fun p _ => 0 ≤ p) u ?_ ?_ 0 () u0 (by omega)
          · rintro p - hp p0 cont
            have c1 := cr p p0 (by omega)
            rw [eX0_best_51]
            simp (disch := first | assumption | omega) only [c0, c1, c2, c3, c4, c5, c6, c7, c8, ctw, cb, ce, cd, cw, cwp, ec p p0 (by omega), if_neg (u3 p p0 hp), bi_add, bi_sub, bi_mul, bi_neg, bi_div, bi_64, bl_add, bl_sub, bl_mul, bl_neg, bl_div, bl_32, bi_min, bi_max, bl_min, bl_max, bq_I, bq_J, bq_A, bq_Vi, bq_Vl, bq_Vr, bq_cV, bq_cI, bq_cJ, bq_cA, bq_le, bq_lt, bq_eq, bq_z, bq_o, bq_ref, bq_nz, bq_nzJ, bq_bl, bq_blz, bq_T, bq_F, if_true, if_false, Int.reduceEq, Int.reduceLT, Int.reduceLE, Int.reduceAdd, Int.reduceSub, Int.reduceMul, Int.add_sub_cancel, li_0, li_1, li_2, li_3, li_12, li_32, li_51, li_74, li_75, li_78, li_80, ll_0, ll_1, ll_2, ll_3, ll_12, ll_32, ll_51, ll_74, ll_75, ll_78, ll_80, ga72, ga84, ga85, ga86, ga90, ga92, ga87, ga91, ga88, ga89, gf64_4, gf64_5, gf64_6, gf64_8, gf64_9, gf64_10, gf64_14, gf70_0, gf70_1, gf70_2, gf70_3, gf71_0, gf71_1, gf71_2, gf71_3, gs74_0, gs74_1, gs74_2, gs74_3, gs100_0, gs100_1, gs100_2, gs100_3, gr64_1, gr64_2, gr64_3, gr64_7, gr64_11, gr64_12, gr64_13, gr64_15, gr64_16, gr64_17, gr64_18, gr64_19, gr64_20, gr64_21, gr64_22, gr64_23, gr70_4, gr71_4, gu73, gu99, gu93, pa72, pa84, pa85, pa86, pa90, pa92, pa87, pa91, pa88, pa89, pf64_4, pf64_5, pf64_6, pf64_8, pf64_9, pf64_10, pf64_14, pf70_0, pf70_1, pf70_2, pf70_3, pf71_0, pf71_1, pf71_2, pf71_3, ps74_0, ps74_1, ps74_2, ps74_3, ps100_0, ps100_1, ps100_2, ps100_3, s_in, s_has, s_one, s_roomOf, s_hurtOf, s_isLost, s_standOf, s_isTray, s_isSoon, s_fallen, s_isPassage, s_isRoom, s_isPassage70, s_leads70, s_isBack70, s_isPassage, s_isRoom, s_isPassage71, s_leads71, s_isBack71, s_onec, s_bitCount, s_be7170, s_be7071, u_tens77]
            exact cont () (by omega)
          · rintro - p0
            have c1 := cr u u0 u1
            rw [eX0_best_51]
            simp (disch := first | assumption | omega) only [c0, c1, c2, c3, c4, c5, c6, c7, c8, ctw, cb, ce, cd, cw, cwp, ec u u0 ud, if_pos u2, bi_add, bi_sub, bi_mul, bi_neg, bi_div, bi_64, bl_add, bl_sub, bl_mul, bl_neg, bl_div, bl_32, bi_min, bi_max, bl_min, bl_max, bq_I, bq_J, bq_A, bq_Vi, bq_Vl, bq_Vr, bq_cV, bq_cI, bq_cJ, bq_cA, bq_le, bq_lt, bq_eq, bq_z, bq_o, bq_ref, bq_nz, bq_nzJ, bq_bl, bq_blz, bq_T, bq_F, if_true, if_false, Int.reduceEq, Int.reduceLT, Int.reduceLE, Int.reduceAdd, Int.reduceSub, Int.reduceMul, Int.add_sub_cancel, li_0, li_1, li_2, li_3, li_12, li_32, li_51, li_74, li_75, li_78, li_80, ll_0, ll_1, ll_2, ll_3, ll_12, ll_32, ll_51, ll_74, ll_75, ll_78, ll_80, ga72, ga84, ga85, ga86, ga90, ga92, ga87, ga91, ga88, ga89, gf64_4, gf64_5, gf64_6, gf64_8, gf64_9, gf64_10, gf64_14, gf70_0, gf70_1, gf70_2, gf70_3, gf71_0, gf71_1, gf71_2, gf71_3, gs74_0, gs74_1, gs74_2, gs74_3, gs100_0, gs100_1, gs100_2, gs100_3, gr64_1, gr64_2, gr64_3, gr64_7, gr64_11, gr64_12, gr64_13, gr64_15, gr64_16, gr64_17, gr64_18, gr64_19, gr64_20, gr64_21, gr64_22, gr64_23, gr70_4, gr71_4, gu73, gu99, gu93, pa72, pa84, pa85, pa86, pa90, pa92, pa87, pa91, pa88, pa89, pf64_4, pf64_5, pf64_6, pf64_8, pf64_9, pf64_10, pf64_14, pf70_0, pf70_1, pf70_2, pf70_3, pf71_0, pf71_1, pf71_2, pf71_3, ps74_0, ps74_1, ps74_2, ps74_3, ps100_0, ps100_1, ps100_2, ps100_3, s_in, s_has, s_one, s_roomOf, s_hurtOf, s_isLost, s_standOf, s_isTray, s_isSoon, s_fallen, s_isPassage, s_isRoom, s_isPassage70, s_leads70, s_isBack70, s_isPassage, s_isRoom, s_isPassage71, s_leads71, s_isBack71, s_onec, s_bitCount, s_be7170, s_be7071, u_tens77]
            exact ⟨_, _, rfl, cs1, cj, _, rfl, rfl, Or.inr (Or.inr ⟨q, q3, by rw [← n0, if_neg (by omega), fe]⟩)⟩
    · rw [if_neg q3]
      exact ⟨_, _, rfl, cs, cj, _, rfl, rfl, Or.inr (Or.inl ⟨q, q3, rfl⟩)⟩
  · rw [if_neg q]
    exact ⟨_, _, rfl, cs, cj, _, rfl, rfl, Or.inl ⟨q, rfl⟩⟩
end CH
