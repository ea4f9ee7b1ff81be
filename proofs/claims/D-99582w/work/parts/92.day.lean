/-! SPECS: a day of drawn deeds: the component -/
set_option maxRecDepth 100000
theorem whyD_ext {A S S' : Int → Int} {y : Int} (h : ∀ k, 0 ≤ k → k < 4 → S' k = S k) : whyD A S' y = whyD A S y := by
  unfold whyD
  rw [h 0 (by decide) (by decide), h 1 (by decide) (by decide), h 2 (by decide) (by decide)]
theorem doD_ext {A S S' : Int → Int} {y : Int} (h : ∀ k, 0 ≤ k → k < 4 → S' k = S k) : doD A S' y = doD A S y := by
  unfold doD
  rw [h 0 (by decide) (by decide), h 1 (by decide) (by decide), h 2 (by decide) (by decide), h 3 (by decide) (by decide)]
/-- state, seed, deeds done after so many draws -/
def dy (A S : Int → Int) (sd : Int) : Nat → (Int → Int) × Int × Int
  | 0 => (S, sd, 0)
  | j + 1 => if whyD A (dy A S sd j).1 (dwV (dy A S sd j).2.1) = 0 then (doD A (dy A S sd j).1 (dwV (dy A S sd j).2.1), dwS (dy A S sd j).2.1, (dy A S sd j).2.2 + 1) else ((dy A S sd j).1, dwS (dy A S sd j).2.1, (dy A S sd j).2.2)
theorem dy_succ {A S : Int → Int} {sd j : Int} (h : 0 ≤ j) : dy A S sd (j + 1).toNat = if whyD A (dy A S sd j.toNat).1 (dwV (dy A S sd j.toNat).2.1) = 0 then (doD A (dy A S sd j.toNat).1 (dwV (dy A S sd j.toNat).2.1), dwS (dy A S sd j.toNat).2.1, (dy A S sd j.toNat).2.2 + 1) else ((dy A S sd j.toNat).1, dwS (dy A S sd j.toNat).2.1, (dy A S sd j.toNat).2.2) := by
  have e : (j + 1).toNat = j.toNat + 1 := by omega
  rw [e]; rfl
theorem dy_ok {A S : Int → Int} {sd : Int} (hw : bWF A 0) (o : okT A S) : ∀ j : Nat, okT A (dy A S sd j).1 ∧ 0 ≤ (dy A S sd j).2.2 ∧ (dy A S sd j).2.2 ≤ j
  | 0 => ⟨o, Int.le_refl 0, Int.le_refl 0⟩
  | j + 1 => by
    have ih := dy_ok (sd := sd) hw o j
    show okT A (if whyD A (dy A S sd j).1 (dwV (dy A S sd j).2.1) = 0 then (doD A (dy A S sd j).1 (dwV (dy A S sd j).2.1), dwS (dy A S sd j).2.1, (dy A S sd j).2.2 + 1) else ((dy A S sd j).1, dwS (dy A S sd j).2.1, (dy A S sd j).2.2)).1 ∧ 0 ≤ (if whyD A (dy A S sd j).1 (dwV (dy A S sd j).2.1) = 0 then (doD A (dy A S sd j).1 (dwV (dy A S sd j).2.1), dwS (dy A S sd j).2.1, (dy A S sd j).2.2 + 1) else ((dy A S sd j).1, dwS (dy A S sd j).2.1, (dy A S sd j).2.2)).2.2 ∧ (if whyD A (dy A S sd j).1 (dwV (dy A S sd j).2.1) = 0 then (doD A (dy A S sd j).1 (dwV (dy A S sd j).2.1), dwS (dy A S sd j).2.1, (dy A S sd j).2.2 + 1) else ((dy A S sd j).1, dwS (dy A S sd j).2.1, (dy A S sd j).2.2)).2.2 ≤ ((j + 1 : Nat) : Int)
    by_cases c : whyD A (dy A S sd j).1 (dwV (dy A S sd j).2.1) = 0
    · rw [if_pos c]
      exact ⟨doD_ok hw c ih.1, by dsimp only; omega, by dsimp only; omega⟩
    · rw [if_neg c]
      exact ⟨ih.1, ih.2.1, by dsimp only; omega⟩
section DY
variable {κ : Nat → Nat} {cp cs : bF} {cj : bFJ} {Y : bY} {g : bG} {n : Nat × Nat} {ca : Nat} {A : Int → Int} {m sd : Int} {D : Nat}
theorem c_day (h : bCt κ g ca A cp) (u0 : 0 ≤ cp 64 9) (u1 : cp 64 9 < 10) (m0 : 0 ≤ cp 64 8) (m1 : cp 64 8 ≤ 10) (h3 : -2147483648 ≤ m) (h4 : m < 2147483648) (hD : 909 ≤ D) :
    bk_wp (bk_call D 27 [.ref 64, .int (bk_i sd), .int (bk_i m)] (bk_M κ (cp, cs, cj) Y g n)) (bCd κ cp Y g n ((1 ≤ m ∧ m ≤ 40) ∧ (dy A (tS A) sd m.toNat).2.2 ≠ 0) (if 1 ≤ m ∧ m ≤ 40 then 0 else -3)
      (fv ((dy A (tS A) sd m.toNat).1 0 / 6) ((dy A (tS A) sd m.toNat).1 0 % 6) ((dy A (tS A) sd m.toNat).1 1) ((dy A (tS A) sd m.toNat).1 2) ((dy A (tS A) sd m.toNat).1 3)) ((dy A (tS A) sd m.toNat).2.2)) := by
  obtain ⟨d, rfl⟩ := dep hD
  obtain ⟨hF, hc, hw, hs, n0, n1, n2, n3⟩ := h
  have hca : ca = 65 ∨ 122 ≤ ca := by
    have hc2 := hc
    obtain ⟨c0, c1, c2, c3, c4, c5, c6, c7, c8, ⟨tw, ctw, htw⟩, cb, ce, cd, cw, cwp, hca, -, -⟩ := hc2
    exact hca
  have c0 := hc.1
  have dk := dy_ok (sd := sd) hw (tS_ok hs)
  rw [kX0_day, eX0_day_0]
  by_cases q : 1 ≤ m ∧ m ≤ 40
  · simp (disch := first | assumption | omega) only [if_pos q, bi_add, bi_sub, bi_mul, bi_neg, bi_div, bi_64, bl_add, bl_sub, bl_mul, bl_neg, bl_div, bl_32, bi_min, bi_max, bl_min, bl_max, bq_I, bq_J, bq_A, bq_Vi, bq_Vl, bq_Vr, bq_cV, bq_cI, bq_cJ, bq_cA, bq_le, bq_lt, bq_eq, bq_z, bq_o, bq_ref, bq_nz, bq_nzJ, bq_bl, bq_blz, bq_T, bq_F, if_true, if_false, Int.reduceEq, Int.reduceLT, Int.reduceLE, Int.reduceAdd, Int.reduceSub, Int.reduceMul, Int.add_sub_cancel, li_0, li_1, li_2, li_3, li_5, li_10, li_17, li_27, li_28, li_37, li_40, li_77, li_2008, li_2010, li_2012, ll_0, ll_1, ll_2, ll_3, ll_5, ll_10, ll_17, ll_27, ll_28, ll_37, ll_40, ll_77, ga72, ga84, ga85, ga86, ga90, ga92, ga87, ga91, ga88, ga89, gf64_4, gf64_5, gf64_6, gf64_8, gf64_9, gf64_10, gf64_14, gf70_0, gf70_1, gf70_2, gf70_3, gf71_0, gf71_1, gf71_2, gf71_3, gs74_0, gs74_1, gs74_2, gs74_3, gs100_0, gs100_1, gs100_2, gs100_3, gr64_1, gr64_2, gr64_3, gr64_7, gr64_11, gr64_12, gr64_13, gr64_15, gr64_16, gr64_17, gr64_18, gr64_19, gr64_20, gr64_21, gr64_22, gr64_23, gr70_4, gr71_4, gu73, gu99, gu93, pa72, pa84, pa85, pa86, pa90, pa92, pa87, pa91, pa88, pa89, pf64_4, pf64_5, pf64_6, pf64_8, pf64_9, pf64_10, pf64_14, pf70_0, pf70_1, pf70_2, pf70_3, pf71_0, pf71_1, pf71_2, pf71_3, ps74_0, ps74_1, ps74_2, ps74_3, ps100_0, ps100_1, ps100_2, ps100_3, s_in, s_has, s_one, s_roomOf, s_hurtOf, s_isLost, s_standOf, s_isTray, s_isSoon, s_fallen, s_isPassage, s_isRoom, s_isPassage70, s_leads70, s_isBack70, s_isPassage, s_isRoom, s_isPassage71, s_leads71, s_isBack71, s_onec, s_bitCount, s_be7170, s_be7071, u_tens77, kpC_70, s_draw]
    refine bk_loop (σ := bF × Value) (fun j x => bk_den TX0_day (bk_call d) 37 [.ref 64, .int (bk_i sd), .int (bk_i m), .int (bk_i (dy A (tS A) sd j.toNat).2.2), .int (bk_i j), x.2] [] (bk_M κ (cp, x.1, cj) Y g n)) (fun j x => 0 ≤ j ∧ (∀ k, 0 ≤ k → k < 4 → x.1 71 k = (dy A (tS A) sd j.toNat).1 k) ∧ x.1 64 10 = (dy A (tS A) sd j.toNat).2.1) m ?_ ?_ 0 (_, bk_u) (by omega) ⟨by omega, ?_, ?_⟩
    · rintro j ⟨x, w⟩ hj ⟨j0, hx, hz⟩ cont
      dsimp only at hx hz ⊢
      have dj := dk j.toNat
      obtain ⟨cs1, f1, z1, e1⟩ := s_drawn (κ := κ) (cp := cp) (cs := x) (cj := cj) (Y := Y) (g := g) (n := n) (D := d) (fun X Y n => ⟨ca, c0 X Y n⟩) (by omega)
      rw [hz] at e1 z1
      have dv := dwV_rng (dy A (tS A) sd j.toNat).2.1
      have hx1 : ∀ k, 0 ≤ k → k < 4 → cs1 71 k = (dy A (tS A) sd j.toNat).1 k := fun k k0 k1 => by rw [f1 71 (by decide)]; exact hx k k0 k1
      obtain ⟨cs2, f2, e2⟩ := s_whyDeed (κ := κ) (cp := cp) (cs := cs1) (cj := cj) (Y := Y) (n := n) (D := d) (y := dwV (dy A (tS A) sd j.toNat).2.1) hF hc hw (by omega) (by omega) hx1 dj.1 (by omega)
      have hx2 : ∀ k, 0 ≤ k → k < 4 → cs2 71 k = (dy A (tS A) sd j.toNat).1 k := fun k k0 k1 => by rw [f2 71 (by omega)]; exact hx1 k k0 k1
      have ds := dy_succ (A := A) (S := tS A) (sd := sd) j0
      rw [eX0_day_37]
      by_cases c : whyD A (dy A (tS A) sd j.toNat).1 (dwV (dy A (tS A) sd j.toNat).2.1) = 0
      · rw [c] at e2
        rw [if_pos c] at ds
        obtain ⟨cs3, f3, v3, e3⟩ := s_does71 (κ := κ) (cp := cp) (cs := cs2) (cj := cj) (Y := Y) (n := n) (D := d) hF hc hw c hx2 dj.1 (by omega)
        have ct := cont (cs3, .int (bk_i (dwV (dy A (tS A) sd j.toNat).2.1))) ⟨by omega, fun k k0 k1 => by rw [ds]; exact v3 k k0 k1, by rw [ds]; show cs3 64 10 = _; rw [f3 64 (by omega) (by decide), f2 64 (by omega)]; exact z1⟩
        rw [ds] at ct
        simp (disch := first | assumption | omega) only [if_neg (show ¬ m ≤ j by omega), c0, e1, e2, e3, eX0_day_77, bi_add, bi_sub, bi_mul, bi_neg, bi_div, bi_64, bl_add, bl_sub, bl_mul, bl_neg, bl_div, bl_32, bi_min, bi_max, bl_min, bl_max, bq_I, bq_J, bq_A, bq_Vi, bq_Vl, bq_Vr, bq_cV, bq_cI, bq_cJ, bq_cA, bq_le, bq_lt, bq_eq, bq_z, bq_o, bq_ref, bq_nz, bq_nzJ, bq_bl, bq_blz, bq_T, bq_F, if_true, if_false, Int.reduceEq, Int.reduceLT, Int.reduceLE, Int.reduceAdd, Int.reduceSub, Int.reduceMul, Int.add_sub_cancel, li_0, li_1, li_2, li_3, li_5, li_10, li_17, li_27, li_28, li_37, li_40, li_77, li_2008, li_2010, li_2012, ll_0, ll_1, ll_2, ll_3, ll_5, ll_10, ll_17, ll_27, ll_28, ll_37, ll_40, ll_77, ga72, ga84, ga85, ga86, ga90, ga92, ga87, ga91, ga88, ga89, gf64_4, gf64_5, gf64_6, gf64_8, gf64_9, gf64_10, gf64_14, gf70_0, gf70_1, gf70_2, gf70_3, gf71_0, gf71_1, gf71_2, gf71_3, gs74_0, gs74_1, gs74_2, gs74_3, gs100_0, gs100_1, gs100_2, gs100_3, gr64_1, gr64_2, gr64_3, gr64_7, gr64_11, gr64_12, gr64_13, gr64_15, gr64_16, gr64_17, gr64_18, gr64_19, gr64_20, gr64_21, gr64_22, gr64_23, gr70_4, gr71_4, gu73, gu99, gu93, pa72, pa84, pa85, pa86, pa90, pa92, pa87, pa91, pa88, pa89, pf64_4, pf64_5, pf64_6, pf64_8, pf64_9, pf64_10, pf64_14, pf70_0, pf70_1, pf70_2, pf70_3, pf71_0, pf71_1, pf71_2, pf71_3, ps74_0, ps74_1, ps74_2, ps74_3, ps100_0, ps100_1, ps100_2, ps100_3, s_in, s_has, s_one, s_roomOf, s_hurtOf, s_isLost, s_standOf, s_isTray, s_isSoon, s_fallen, s_isPassage, s_isRoom, s_isPassage70, s_leads70, s_isBack70, s_isPassage, s_isRoom, s_isPassage71, s_leads71, s_isBack71, s_onec, s_bitCount, s_be7170, s_be7071, u_tens77, kpC_70, s_draw]
        exact ct
      · rw [if_neg c] at ds
        have ct := cont (cs2, .int (bk_i (dwV (dy A (tS A) sd j.toNat).2.1))) ⟨by omega, fun k k0 k1 => by rw [ds]; exact hx2 k k0 k1, by rw [ds]; show cs2 64 10 = _; rw [f2 64 (by omega)]; exact z1⟩
        rw [ds] at ct
        have wr : 0 ≤ whyD A (dy A (tS A) sd j.toNat).1 (dwV (dy A (tS A) sd j.toNat).2.1) ∧ whyD A (dy A (tS A) sd j.toNat).1 (dwV (dy A (tS A) sd j.toNat).2.1) ≤ 4 := by
          unfold whyD
          have := whyG_rng A ((dy A (tS A) sd j.toNat).1 0) ((dy A (tS A) sd j.toNat).1 1) ((dy A (tS A) sd j.toNat).1 2) (dwV (dy A (tS A) sd j.toNat).2.1)
          repeat' (first | omega | split)
        simp (disch := first | assumption | omega) only [if_neg (show ¬ m ≤ j by omega), c0, e1, e2, if_neg c, eX0_day_77, bi_add, bi_sub, bi_mul, bi_neg, bi_div, bi_64, bl_add, bl_sub, bl_mul, bl_neg, bl_div, bl_32, bi_min, bi_max, bl_min, bl_max, bq_I, bq_J, bq_A, bq_Vi, bq_Vl, bq_Vr, bq_cV, bq_cI, bq_cJ, bq_cA, bq_le, bq_lt, bq_eq, bq_z, bq_o, bq_ref, bq_nz, bq_nzJ, bq_bl, bq_blz, bq_T, bq_F, if_true, if_false, Int.reduceEq, Int.reduceLT, Int.reduceLE, Int.reduceAdd, Int.reduceSub, Int.reduceMul, Int.add_sub_cancel, li_0, li_1, li_2, li_3, li_5, li_10, li_17, li_27, li_28, li_37, li_40, li_77, li_2008, li_2010, li_2012, ll_0, ll_1, ll_2, ll_3, ll_5, ll_10, ll_17, ll_27, ll_28, ll_37, ll_40, ll_77, ga72, ga84, ga85, ga86, ga90, ga92, ga87, ga91, ga88, ga89, gf64_4, gf64_5, gf64_6, gf64_8, gf64_9, gf64_10, gf64_14, gf70_0, gf70_1, gf70_2, gf70_3, gf71_0, gf71_1, gf71_2, gf71_3, gs74_0, gs74_1, gs74_2, gs74_3, gs100_0, gs100_1, gs100_2, gs100_3, gr64_1, gr64_2, gr64_3, gr64_7, gr64_11, gr64_12, gr64_13, gr64_15, gr64_16, gr64_17, gr64_18, gr64_19, gr64_20, gr64_21, gr64_22, gr64_23, gr70_4, gr71_4, gu73, gu99, gu93, pa72, pa84, pa85, pa86, pa90, pa92, pa87, pa91, pa88, pa89, pf64_4, pf64_5, pf64_6, pf64_8, pf64_9, pf64_10, pf64_14, pf70_0, pf70_1, pf70_2, pf70_3, pf71_0, pf71_1, pf71_2, pf71_3, ps74_0, ps74_1, ps74_2, ps74_3, ps100_0, ps100_1, ps100_2, ps100_3, s_in, s_has, s_one, s_roomOf, s_hurtOf, s_isLost, s_standOf, s_isTray, s_isSoon, s_fallen, s_isPassage, s_isRoom, s_isPassage70, s_leads70, s_isBack70, s_isPassage, s_isRoom, s_isPassage71, s_leads71, s_isBack71, s_onec, s_bitCount, s_be7170, s_be7071, u_tens77, kpC_70, s_draw]
        exact ct
    · rintro ⟨x, w⟩ ⟨j0, hx, hz⟩
      dsimp only at hx hz ⊢
      have dm := dk m.toNat
      have ek := s_keeps (κ := κ) (cp := cp) (cs := x) (cj := cj) (Y := Y) (n := n) (D := d) hF u0 u1 m0 m1 (by omega)
      rw [eX0_day_37]
      by_cases c : (dy A (tS A) sd m.toNat).2.2 = 0
      · simp (disch := first | assumption | omega) only [if_pos (Int.le_refl m), if_pos c, bi_add, bi_sub, bi_mul, bi_neg, bi_div, bi_64, bl_add, bl_sub, bl_mul, bl_neg, bl_div, bl_32, bi_min, bi_max, bl_min, bl_max, bq_I, bq_J, bq_A, bq_Vi, bq_Vl, bq_Vr, bq_cV, bq_cI, bq_cJ, bq_cA, bq_le, bq_lt, bq_eq, bq_z, bq_o, bq_ref, bq_nz, bq_nzJ, bq_bl, bq_blz, bq_T, bq_F, if_true, if_false, Int.reduceEq, Int.reduceLT, Int.reduceLE, Int.reduceAdd, Int.reduceSub, Int.reduceMul, Int.add_sub_cancel, li_0, li_1, li_2, li_3, li_5, li_10, li_17, li_27, li_28, li_37, li_40, li_77, li_2008, li_2010, li_2012, ll_0, ll_1, ll_2, ll_3, ll_5, ll_10, ll_17, ll_27, ll_28, ll_37, ll_40, ll_77, ga72, ga84, ga85, ga86, ga90, ga92, ga87, ga91, ga88, ga89, gf64_4, gf64_5, gf64_6, gf64_8, gf64_9, gf64_10, gf64_14, gf70_0, gf70_1, gf70_2, gf70_3, gf71_0, gf71_1, gf71_2, gf71_3, gs74_0, gs74_1, gs74_2, gs74_3, gs100_0, gs100_1, gs100_2, gs100_3, gr64_1, gr64_2, gr64_3, gr64_7, gr64_11, gr64_12, gr64_13, gr64_15, gr64_16, gr64_17, gr64_18, gr64_19, gr64_20, gr64_21, gr64_22, gr64_23, gr70_4, gr71_4, gu73, gu99, gu93, pa72, pa84, pa85, pa86, pa90, pa92, pa87, pa91, pa88, pa89, pf64_4, pf64_5, pf64_6, pf64_8, pf64_9, pf64_10, pf64_14, pf70_0, pf70_1, pf70_2, pf70_3, pf71_0, pf71_1, pf71_2, pf71_3, ps74_0, ps74_1, ps74_2, ps74_3, ps100_0, ps100_1, ps100_2, ps100_3, s_in, s_has, s_one, s_roomOf, s_hurtOf, s_isLost, s_standOf, s_isTray, s_isSoon, s_fallen, s_isPassage, s_isRoom, s_isPassage70, s_leads70, s_isBack70, s_isPassage, s_isRoom, s_isPassage71, s_leads71, s_isBack71, s_onec, s_bitCount, s_be7170, s_be7071, u_tens77, kpC_70, s_draw]
        exact ⟨_, _, rfl, cp, x, cj, rfl, Or.inl ⟨fun k => k.2 c, rfl, rfl⟩⟩
      · simp (disch := first | assumption | omega) only [if_pos (Int.le_refl m), if_neg c, c0, ek, bi_add, bi_sub, bi_mul, bi_neg, bi_div, bi_64, bl_add, bl_sub, bl_mul, bl_neg, bl_div, bl_32, bi_min, bi_max, bl_min, bl_max, bq_I, bq_J, bq_A, bq_Vi, bq_Vl, bq_Vr, bq_cV, bq_cI, bq_cJ, bq_cA, bq_le, bq_lt, bq_eq, bq_z, bq_o, bq_ref, bq_nz, bq_nzJ, bq_bl, bq_blz, bq_T, bq_F, if_true, if_false, Int.reduceEq, Int.reduceLT, Int.reduceLE, Int.reduceAdd, Int.reduceSub, Int.reduceMul, Int.add_sub_cancel, li_0, li_1, li_2, li_3, li_5, li_10, li_17, li_27, li_28, li_37, li_40, li_77, li_2008, li_2010, li_2012, ll_0, ll_1, ll_2, ll_3, ll_5, ll_10, ll_17, ll_27, ll_28, ll_37, ll_40, ll_77, ga72, ga84, ga85, ga86, ga90, ga92, ga87, ga91, ga88, ga89, gf64_4, gf64_5, gf64_6, gf64_8, gf64_9, gf64_10, gf64_14, gf70_0, gf70_1, gf70_2, gf70_3, gf71_0, gf71_1, gf71_2, gf71_3, gs74_0, gs74_1, gs74_2, gs74_3, gs100_0, gs100_1, gs100_2, gs100_3, gr64_1, gr64_2, gr64_3, gr64_7, gr64_11, gr64_12, gr64_13, gr64_15, gr64_16, gr64_17, gr64_18, gr64_19, gr64_20, gr64_21, gr64_22, gr64_23, gr70_4, gr71_4, gu73, gu99, gu93, pa72, pa84, pa85, pa86, pa90, pa92, pa87, pa91, pa88, pa89, pf64_4, pf64_5, pf64_6, pf64_8, pf64_9, pf64_10, pf64_14, pf70_0, pf70_1, pf70_2, pf70_3, pf71_0, pf71_1, pf71_2, pf71_3, ps74_0, ps74_1, ps74_2, ps74_3, ps100_0, ps100_1, ps100_2, ps100_3, s_in, s_has, s_one, s_roomOf, s_hurtOf, s_isLost, s_standOf, s_isTray, s_isSoon, s_fallen, s_isPassage, s_isRoom, s_isPassage70, s_leads70, s_isBack70, s_isPassage, s_isRoom, s_isPassage71, s_leads71, s_isBack71, s_onec, s_bitCount, s_be7170, s_be7071, u_tens77, kpC_70, s_draw]
        refine ⟨_, _, rfl, _, x, cj, rfl, Or.inr ⟨⟨q, c⟩, rfl, bKp_70 (kpC_kp cp) (fun a ha => ?_), ?_⟩⟩
        · funext k; rw [bU_ne _ _ _ _ _ _ ha, bU_ne _ _ _ _ _ _ ha, bU_ne _ _ _ _ _ _ ha, bU_ne _ _ _ _ _ _ ha]
        · unfold sam
          simp only [bU_same]
          rw [hx 0 (by decide) (by decide), hx 1 (by decide) (by decide), hx 2 (by decide) (by decide), hx 3 (by decide) (by decide)]
          refine ⟨?_, rfl, rfl, rfl⟩
          show (dy A (tS A) sd m.toNat).1 0 = 6 * ((dy A (tS A) sd m.toNat).1 0 / 6) + (dy A (tS A) sd m.toNat).1 0 % 6
          omega
    · refine four ?_ ?_ ?_ ?_
      · show bU _ 64 10 sd 71 0 = 6 * A 42 + A 43
        rw [bU_ne _ _ _ _ _ _ (by decide)]; simp only [bU_same]; exact n0
      · show bU _ 64 10 sd 71 1 = A 44
        rw [bU_ne _ _ _ _ _ _ (by decide)]; simp only [bU_same]; exact n1
      · show bU _ 64 10 sd 71 2 = A 45
        rw [bU_ne _ _ _ _ _ _ (by decide)]; simp only [bU_same]; exact n2
      · show bU _ 64 10 sd 71 3 = A 46
        rw [bU_ne _ _ _ _ _ _ (by decide)]; simp only [bU_same]; exact n3
    · rfl
  · simp (disch := first | assumption | omega) only [if_neg q, bi_add, bi_sub, bi_mul, bi_neg, bi_div, bi_64, bl_add, bl_sub, bl_mul, bl_neg, bl_div, bl_32, bi_min, bi_max, bl_min, bl_max, bq_I, bq_J, bq_A, bq_Vi, bq_Vl, bq_Vr, bq_cV, bq_cI, bq_cJ, bq_cA, bq_le, bq_lt, bq_eq, bq_z, bq_o, bq_ref, bq_nz, bq_nzJ, bq_bl, bq_blz, bq_T, bq_F, if_true, if_false, Int.reduceEq, Int.reduceLT, Int.reduceLE, Int.reduceAdd, Int.reduceSub, Int.reduceMul, Int.add_sub_cancel, li_0, li_1, li_2, li_3, li_5, li_10, li_17, li_27, li_28, li_37, li_40, li_77, li_2008, li_2010, li_2012, ll_0, ll_1, ll_2, ll_3, ll_5, ll_10, ll_17, ll_27, ll_28, ll_37, ll_40, ll_77, ga72, ga84, ga85, ga86, ga90, ga92, ga87, ga91, ga88, ga89, gf64_4, gf64_5, gf64_6, gf64_8, gf64_9, gf64_10, gf64_14, gf70_0, gf70_1, gf70_2, gf70_3, gf71_0, gf71_1, gf71_2, gf71_3, gs74_0, gs74_1, gs74_2, gs74_3, gs100_0, gs100_1, gs100_2, gs100_3, gr64_1, gr64_2, gr64_3, gr64_7, gr64_11, gr64_12, gr64_13, gr64_15, gr64_16, gr64_17, gr64_18, gr64_19, gr64_20, gr64_21, gr64_22, gr64_23, gr70_4, gr71_4, gu73, gu99, gu93, pa72, pa84, pa85, pa86, pa90, pa92, pa87, pa91, pa88, pa89, pf64_4, pf64_5, pf64_6, pf64_8, pf64_9, pf64_10, pf64_14, pf70_0, pf70_1, pf70_2, pf70_3, pf71_0, pf71_1, pf71_2, pf71_3, ps74_0, ps74_1, ps74_2, ps74_3, ps100_0, ps100_1, ps100_2, ps100_3, s_in, s_has, s_one, s_roomOf, s_hurtOf, s_isLost, s_standOf, s_isTray, s_isSoon, s_fallen, s_isPassage, s_isRoom, s_isPassage70, s_leads70, s_isBack70, s_isPassage, s_isRoom, s_isPassage71, s_leads71, s_isBack71, s_onec, s_bitCount, s_be7170, s_be7071, u_tens77, kpC_70, s_draw]
    exact ⟨_, _, rfl, cp, cs, cj, rfl, Or.inl ⟨fun k => q k.1, rfl, rfl⟩⟩
end DY
