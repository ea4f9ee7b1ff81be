/-! SPECS: the component's deeds: go, rope, put, slack, undo -/
set_option maxRecDepth 100000
/-- a state of the component is a row of the twin -/
def sam (c r : Int → Int) : Prop := c 0 = 6 * r 0 + r 1 ∧ c 1 = r 2 ∧ c 2 = r 3 ∧ c 3 = r 4
/-- the component has kept what was -/
def bKp (cp cp' : bF) : Prop := cp' 64 9 = (cp 64 9 + 1) % 10 ∧ cp' 64 8 = min 10 (cp 64 8 + 1) ∧ (∀ k, 0 ≤ k → k < 4 → cp' (74 + (cp 64 9).toNat) k = cp 70 k)
  ∧ (∀ a k, ¬ (a = 64 ∧ (k = 8 ∨ k = 9)) → a ≠ 74 + (cp 64 9).toNat → a ≠ 70 → cp' a k = cp a k)
section DE
variable {κ : Nat → Nat} {cp cs : bF} {cj : bFJ} {X : bX} {Y : bY} {g : bG} {n : Nat × Nat} {ca : Nat} {A : Int → Int} {s p v i u what : Int} {D : Nat}
theorem s_beU (hF : bFix g) (u0 : 0 ≤ u) (u1 : u < 10) (hD : 1 ≤ D) : bk_call D 2008 [.ref (74 + u.toNat), .ref 70] (bk_M κ (cp, cs, cj) Y g n) = some (some (.ref (74 + u.toNat)), bk_M κ (bU (bU (bU (bU cp (74 + u.toNat) 0 (cp 70 0)) (74 + u.toNat) 1 (cp 70 1)) (74 + u.toNat) 2 (cp 70 2)) (74 + u.toNat) 3 (cp 70 3), cs, cj) Y g n) := by
  obtain ⟨d, rfl⟩ := dep hD
  have hu : u.toNat < 10 := by omega
  rw [kX2_be, eX2_be_0]
  simp (disch := first | assumption | omega) only [eX2_be_24, bU_ne, bi_add, bi_sub, bi_mul, bi_neg, bi_div, bi_64, bl_add, bl_sub, bl_mul, bl_neg, bl_div, bl_32, bi_min, bi_max, bl_min, bl_max, bq_I, bq_J, bq_A, bq_Vi, bq_Vl, bq_Vr, bq_cV, bq_cI, bq_cJ, bq_cA, bq_le, bq_lt, bq_eq, bq_z, bq_o, bq_ref, bq_nz, bq_nzJ, bq_bl, bq_blz, bq_T, bq_F, if_true, if_false, Int.reduceEq, Int.reduceLT, Int.reduceLE, Int.reduceAdd, Int.reduceSub, Int.reduceMul, Int.add_sub_cancel, li_0, li_1, li_2, li_3, li_24, li_2008, ll_0, ll_1, ll_2, ll_3, ll_24, ga72, ga84, ga85, ga86, ga90, ga92, ga87, ga91, ga88, ga89, gf64_4, gf64_5, gf64_6, gf64_8, gf64_9, gf64_10, gf64_14, gf70_0, gf70_1, gf70_2, gf70_3, gf71_0, gf71_1, gf71_2, gf71_3, gs74_0, gs74_1, gs74_2, gs74_3, gs100_0, gs100_1, gs100_2, gs100_3, gr64_1, gr64_2, gr64_3, gr64_7, gr64_11, gr64_12, gr64_13, gr64_15, gr64_16, gr64_17, gr64_18, gr64_19, gr64_20, gr64_21, gr64_22, gr64_23, gr70_4, gr71_4, gu73, gu99, gu93, pa72, pa84, pa85, pa86, pa90, pa92, pa87, pa91, pa88, pa89, pf64_4, pf64_5, pf64_6, pf64_8, pf64_9, pf64_10, pf64_14, pf70_0, pf70_1, pf70_2, pf70_3, pf71_0, pf71_1, pf71_2, pf71_3, ps74_0, ps74_1, ps74_2, ps74_3, ps100_0, ps100_1, ps100_2, ps100_3, s_in, s_has, s_one, s_roomOf, s_hurtOf, s_isLost, s_standOf, s_isTray, s_isSoon, s_fallen, s_isPassage, s_isRoom, s_isPassage70, s_leads70, s_isBack70, s_isPassage, s_isRoom, s_isPassage71, s_leads71, s_isBack71, s_onec, s_bitCount, s_be7170, s_be7071, u_tens77]
theorem s_be70U (hF : bFix g) (u0 : 0 ≤ u) (u1 : u < 10) (hD : 1 ≤ D) : bk_call D 2008 [.ref 70, .ref (74 + u.toNat)] (bk_M κ (cp, cs, cj) Y g n) = some (some (.ref 70), bk_M κ (bU (bU (bU (bU cp 70 0 (cp (74 + u.toNat) 0)) 70 1 (cp (74 + u.toNat) 1)) 70 2 (cp (74 + u.toNat) 2)) 70 3 (cp (74 + u.toNat) 3), cs, cj) Y g n) := by
  obtain ⟨d, rfl⟩ := dep hD
  have hu : u.toNat < 10 := by omega
  rw [kX2_be, eX2_be_0]
  simp (disch := first | assumption | omega) only [eX2_be_24, bU_ne, bi_add, bi_sub, bi_mul, bi_neg, bi_div, bi_64, bl_add, bl_sub, bl_mul, bl_neg, bl_div, bl_32, bi_min, bi_max, bl_min, bl_max, bq_I, bq_J, bq_A, bq_Vi, bq_Vl, bq_Vr, bq_cV, bq_cI, bq_cJ, bq_cA, bq_le, bq_lt, bq_eq, bq_z, bq_o, bq_ref, bq_nz, bq_nzJ, bq_bl, bq_blz, bq_T, bq_F, if_true, if_false, Int.reduceEq, Int.reduceLT, Int.reduceLE, Int.reduceAdd, Int.reduceSub, Int.reduceMul, Int.add_sub_cancel, li_0, li_1, li_2, li_3, li_24, li_2008, ll_0, ll_1, ll_2, ll_3, ll_24, ga72, ga84, ga85, ga86, ga90, ga92, ga87, ga91, ga88, ga89, gf64_4, gf64_5, gf64_6, gf64_8, gf64_9, gf64_10, gf64_14, gf70_0, gf70_1, gf70_2, gf70_3, gf71_0, gf71_1, gf71_2, gf71_3, gs74_0, gs74_1, gs74_2, gs74_3, gs100_0, gs100_1, gs100_2, gs100_3, gr64_1, gr64_2, gr64_3, gr64_7, gr64_11, gr64_12, gr64_13, gr64_15, gr64_16, gr64_17, gr64_18, gr64_19, gr64_20, gr64_21, gr64_22, gr64_23, gr70_4, gr71_4, gu73, gu99, gu93, pa72, pa84, pa85, pa86, pa90, pa92, pa87, pa91, pa88, pa89, pf64_4, pf64_5, pf64_6, pf64_8, pf64_9, pf64_10, pf64_14, pf70_0, pf70_1, pf70_2, pf70_3, pf71_0, pf71_1, pf71_2, pf71_3, ps74_0, ps74_1, ps74_2, ps74_3, ps100_0, ps100_1, ps100_2, ps100_3, s_in, s_has, s_one, s_roomOf, s_hurtOf, s_isLost, s_standOf, s_isTray, s_isSoon, s_fallen, s_isPassage, s_isRoom, s_isPassage70, s_leads70, s_isBack70, s_isPassage, s_isRoom, s_isPassage71, s_leads71, s_isBack71, s_onec, s_bitCount, s_be7170, s_be7071, u_tens77]
def kpC (cp : bF) : bF := bU (bU (bU (bU (bU (bU cp (74 + (cp 64 9).toNat) 0 (cp 70 0)) (74 + (cp 64 9).toNat) 1 (cp 70 1)) (74 + (cp 64 9).toNat) 2 (cp 70 2)) (74 + (cp 64 9).toNat) 3 (cp 70 3)) 64 9 ((cp 64 9 + 1) % 10)) 64 8 (min 10 (cp 64 8 + 1))
theorem kpC_70 (cp : bF) (k : Int) : kpC cp 70 k = cp 70 k := by
  unfold kpC
  rw [bU_ne _ _ _ _ _ _ (by omega), bU_ne _ _ _ _ _ _ (by omega), bU_ne _ _ _ _ _ _ (by omega), bU_ne _ _ _ _ _ _ (by omega), bU_ne _ _ _ _ _ _ (by omega), bU_ne _ _ _ _ _ _ (by omega)]
theorem kpC_kp (cp : bF) : bKp cp (kpC cp) := by
  generalize hx : 74 + (cp 64 9).toNat = x
  have hx2 : x ≠ 64 := by omega
  unfold bKp kpC
  rw [hx]
  refine ⟨?_, ?_, ?_, ?_⟩
  · rw [bU_same, if_neg (by decide), bU_same, if_pos rfl]
  · rw [bU_same, if_pos rfl]
  · intro k k0 k1
    rw [bU_ne _ _ _ _ _ _ hx2, bU_ne _ _ _ _ _ _ hx2, bU_same, bU_same, bU_same, bU_same]
    by_cases c3 : k = 3
    · rw [if_pos c3, c3]
    · rw [if_neg c3]
      by_cases c2 : k = 2
      · rw [if_pos c2, c2]
      · rw [if_neg c2]
        by_cases c1 : k = 1
        · rw [if_pos c1, c1]
        · have c0 : k = 0 := by omega
          rw [if_neg c1, if_pos c0, c0]
  · intro a k h1 h2 h3
    have q8 : ¬ (a = 64 ∧ k = 8) := fun q => h1 ⟨q.1, Or.inl q.2⟩
    have q9 : ¬ (a = 64 ∧ k = 9) := fun q => h1 ⟨q.1, Or.inr q.2⟩
    unfold bU
    rw [if_neg q8, if_neg q9, if_neg (fun q => h2 q.1), if_neg (fun q => h2 q.1), if_neg (fun q => h2 q.1), if_neg (fun q => h2 q.1)]
theorem s_keeps (hF : bFix g) (u0 : 0 ≤ cp 64 9) (u1 : cp 64 9 < 10) (m0 : 0 ≤ cp 64 8) (m1 : cp 64 8 ≤ 10) (hD : 2 ≤ D) :
    bk_call D 17 [.ref 64] (bk_M κ (cp, cs, cj) Y g n) = some (none, bk_M κ (kpC cp, cs, cj) Y g n) := by
  obtain ⟨d, rfl⟩ := dep hD
  have hu : (cp 64 9).toNat < 10 := by omega
  have e1 := s_beU (κ := κ) (cp := cp) (cs := cs) (cj := cj) (Y := Y) (n := n) (D := d) hF u0 u1 (by omega)
  have em : cp 64 9 + 1 - (cp 64 9 + 1) / 10 * 10 = (cp 64 9 + 1) % 10 := by omega
  have e8 : ∀ (f : bF) v, bU f 64 9 v 64 8 = f 64 8 := fun f v => by rw [bU_same, if_neg (by decide)]
  unfold kpC
  generalize hx : 74 + (cp 64 9).toNat = x at e1
  have hx2 : x ≠ 0 := by omega
  have hx3 : 64 ≠ x := by omega
  have hV : (bk_M κ (cp, cs, cj) Y g n).1 2 x 0 = .int (bk_i (cp x 0)) := by subst hx; exact gs74_0 hu
  have hR : (bk_M κ (cp, cs, cj) Y g n).1 105 73 (bk_ix (bk_i (cp 64 9))) = .ref x := by rw [← hx]; exact gu73 hF u0 u1
  have hE : bk_i (cp 64 9) + 1 - (bk_i (cp 64 9) + 1) / 10 * 10 = bk_i ((cp 64 9 + 1) % 10) := by
    rw [li_1, li_10, bi_add, bi_div (by omega) (by omega) (by omega) (by omega), bi_mul, bi_sub, em]
  have hN : ∀ A, bk_nz 10 A = A := fun A => if_neg (by decide)
  have hK : (if (10 : Int32) ≤ bk_i (cp 64 8) + 1 then 10 else bk_i (cp 64 8) + 1) = bk_i (min 10 (cp 64 8 + 1)) := by
    have : cp 64 8 = 0 ∨ cp 64 8 = 1 ∨ cp 64 8 = 2 ∨ cp 64 8 = 3 ∨ cp 64 8 = 4 ∨ cp 64 8 = 5 ∨ cp 64 8 = 6 ∨ cp 64 8 = 7 ∨ cp 64 8 = 8 ∨ cp 64 8 = 9 ∨ cp 64 8 = 10 := by omega
    rcases this with q | q | q | q | q | q | q | q | q | q | q <;> rw [q] <;> decide
  rw [kX0_keeps, eX0_keeps_0]
  rw [gr64_7 hF, bq_A, gf64_9, bq_I, hR, bq_A, gr64_1 hF, bq_A, hV, bq_Vi, e1, bq_cA, gf64_9, bq_I, bU_ne _ _ _ _ _ _ hx3, bU_ne _ _ _ _ _ _ hx3, bU_ne _ _ _ _ _ _ hx3, bU_ne _ _ _ _ _ _ hx3, hN, hE, pf64_9, gf64_8, bq_I, bq_I, e8, bU_ne _ _ _ _ _ _ hx3, bU_ne _ _ _ _ _ _ hx3, bU_ne _ _ _ _ _ _ hx3, bU_ne _ _ _ _ _ _ hx3]
  rw [hK, pf64_8, bq_I]
theorem bKp_70 {cp cp1 cp2 : bF} (h : bKp cp cp1) (e : ∀ a, a ≠ 70 → cp2 a = cp1 a) : bKp cp cp2 := by
  obtain ⟨h1, h2, h3, h4⟩ := h
  have e64 := e 64 (by decide)
  refine ⟨by rw [e64]; exact h1, by rw [e64]; exact h2, fun k k0 k1 => by rw [e _ (by omega)]; exact h3 k k0 k1, fun a k b c q => by rw [e a q]; exact h4 a k b c q⟩
def bCd (κ : Nat → Nat) (cp : bF) (Y : bY) (g : bG) (n : Nat × Nat) (ok : Prop) (z0 : Int) (st : Int → Int) (z1 : Int) : Option Value → bk_H → Prop := fun v h' =>
  ∃ cp' cs' cj', h' = bk_M κ (cp', cs', cj') Y g n ∧ ((¬ ok ∧ v = some (.int (bk_i z0)) ∧ cp' = cp) ∨ (ok ∧ v = some (.int (bk_i z1)) ∧ bKp cp cp' ∧ sam (cp' 70) st))
/-- five numbers -/
def fv (a b c d e : Int) : Int → Int := fun k => if k = 0 then a else if k = 1 then b else if k = 2 then c else if k = 3 then d else e
theorem s_goes70 (hF : bFix g) (hc : bRC κ g ca A) (hw : bWF A 0) (h1 : 0 ≤ p) (h2 : p < A 2) (h3 : 0 ≤ cp 70 0) (h4 : cp 70 0 < 36) (h5 : 0 ≤ cp 70 2) (h6 : cp 70 2 ≤ 9) (hD : 906 ≤ D) :
    ∃ cs', (∀ a, a ≠ ca + 4 → cs' a = cs a) ∧ bk_call D 2009 [.ref 70, .int (bk_i p)] (bk_M κ (cp, cs, cj) Y g n) = some (none, bk_M κ (bU (bU cp 70 0 (thenM A (cp 70 0) p (cp 70 1) (cp 70 2))) 70 3 (cp 70 3 + 1), cs', cj) Y g n) := by
  obtain ⟨d, rfl⟩ := dep hD
  obtain ⟨cs1, f1, e1⟩ := s_then70 (κ := κ) (cp := cp) (cs := cs) (cj := cj) (Y := Y) (n := n) (D := d) (s := cp 70 0) (p := p) hF hc hw h1 h2 h3 h4 h5 h6 (by omega)
  have e8 : ∀ (f : bF) v, bU f 70 0 v 70 3 = f 70 3 := fun f v => by rw [bU_same, if_neg (by decide)]
  have hca := hc
  obtain ⟨c0, c1, c2, c3, c4, c5, c6, c7, c8, ⟨tw, ctw, htw⟩, cb, ce, cd, cw, cwp, hca, -, -⟩ := hca
  refine ⟨cs1, f1, ?_⟩
  have e9 : cs1 71 = cs 71 := f1 71 (by omega)
  rw [kX2_goes, eX2_goes_0]
  simp (disch := first | assumption | omega) only [e1, e8, e9, bi_add, bi_sub, bi_mul, bi_neg, bi_div, bi_64, bl_add, bl_sub, bl_mul, bl_neg, bl_div, bl_32, bi_min, bi_max, bl_min, bl_max, bq_I, bq_J, bq_A, bq_Vi, bq_Vl, bq_Vr, bq_cV, bq_cI, bq_cJ, bq_cA, bq_le, bq_lt, bq_eq, bq_z, bq_o, bq_ref, bq_nz, bq_nzJ, bq_bl, bq_blz, bq_T, bq_F, if_true, if_false, Int.reduceEq, Int.reduceLT, Int.reduceLE, Int.reduceAdd, Int.reduceSub, Int.reduceMul, Int.add_sub_cancel, li_0, li_1, li_2, li_3, li_2007, li_2009, ll_0, ll_1, ll_2, ll_3, ga72, ga84, ga85, ga86, ga90, ga92, ga87, ga91, ga88, ga89, gf64_4, gf64_5, gf64_6, gf64_8, gf64_9, gf64_10, gf64_14, gf70_0, gf70_1, gf70_2, gf70_3, gf71_0, gf71_1, gf71_2, gf71_3, gs74_0, gs74_1, gs74_2, gs74_3, gs100_0, gs100_1, gs100_2, gs100_3, gr64_1, gr64_2, gr64_3, gr64_7, gr64_11, gr64_12, gr64_13, gr64_15, gr64_16, gr64_17, gr64_18, gr64_19, gr64_20, gr64_21, gr64_22, gr64_23, gr70_4, gr71_4, gu73, gu99, gu93, pa72, pa84, pa85, pa86, pa90, pa92, pa87, pa91, pa88, pa89, pf64_4, pf64_5, pf64_6, pf64_8, pf64_9, pf64_10, pf64_14, pf70_0, pf70_1, pf70_2, pf70_3, pf71_0, pf71_1, pf71_2, pf71_3, ps74_0, ps74_1, ps74_2, ps74_3, ps100_0, ps100_1, ps100_2, ps100_3, s_in, s_has, s_one, s_roomOf, s_hurtOf, s_isLost, s_standOf, s_isTray, s_isSoon, s_fallen, s_isPassage, s_isRoom, s_isPassage70, s_leads70, s_isBack70, s_isPassage, s_isRoom, s_isPassage71, s_leads71, s_isBack71, s_onec, s_bitCount, s_be7170, s_be7071, u_tens77, kpC_70]
theorem s_goes71 (hF : bFix g) (hc : bRC κ g ca A) (hw : bWF A 0) (h1 : 0 ≤ p) (h2 : p < A 2) (h3 : 0 ≤ cs 71 0) (h4 : cs 71 0 < 36) (h5 : 0 ≤ cs 71 2) (h6 : cs 71 2 ≤ 9) (hD : 906 ≤ D) :
    ∃ cs', (∀ a, a ≠ ca + 4 → cs' a = cs a) ∧ bk_call D 2009 [.ref 71, .int (bk_i p)] (bk_M κ (cp, cs, cj) Y g n) = some (none, bk_M κ (cp, bU (bU cs' 71 0 (thenM A (cs 71 0) p (cs 71 1) (cs 71 2))) 71 3 (cs 71 3 + 1), cj) Y g n) := by
  obtain ⟨d, rfl⟩ := dep hD
  obtain ⟨cs1, f1, e1⟩ := s_then71 (κ := κ) (cp := cp) (cs := cs) (cj := cj) (Y := Y) (n := n) (D := d) (s := cs 71 0) (p := p) hF hc hw h1 h2 h3 h4 h5 h6 (by omega)
  have e8 : ∀ (f : bF) v, bU f 71 0 v 71 3 = f 71 3 := fun f v => by rw [bU_same, if_neg (by decide)]
  have hca := hc
  obtain ⟨c0, c1, c2, c3, c4, c5, c6, c7, c8, ⟨tw, ctw, htw⟩, cb, ce, cd, cw, cwp, hca, -, -⟩ := hca
  refine ⟨cs1, f1, ?_⟩
  have e9 : cs1 71 = cs 71 := f1 71 (by omega)
  rw [kX2_goes, eX2_goes_0]
  simp (disch := first | assumption | omega) only [e1, e8, e9, bi_add, bi_sub, bi_mul, bi_neg, bi_div, bi_64, bl_add, bl_sub, bl_mul, bl_neg, bl_div, bl_32, bi_min, bi_max, bl_min, bl_max, bq_I, bq_J, bq_A, bq_Vi, bq_Vl, bq_Vr, bq_cV, bq_cI, bq_cJ, bq_cA, bq_le, bq_lt, bq_eq, bq_z, bq_o, bq_ref, bq_nz, bq_nzJ, bq_bl, bq_blz, bq_T, bq_F, if_true, if_false, Int.reduceEq, Int.reduceLT, Int.reduceLE, Int.reduceAdd, Int.reduceSub, Int.reduceMul, Int.add_sub_cancel, li_0, li_1, li_2, li_3, li_2007, li_2009, ll_0, ll_1, ll_2, ll_3, ga72, ga84, ga85, ga86, ga90, ga92, ga87, ga91, ga88, ga89, gf64_4, gf64_5, gf64_6, gf64_8, gf64_9, gf64_10, gf64_14, gf70_0, gf70_1, gf70_2, gf70_3, gf71_0, gf71_1, gf71_2, gf71_3, gs74_0, gs74_1, gs74_2, gs74_3, gs100_0, gs100_1, gs100_2, gs100_3, gr64_1, gr64_2, gr64_3, gr64_7, gr64_11, gr64_12, gr64_13, gr64_15, gr64_16, gr64_17, gr64_18, gr64_19, gr64_20, gr64_21, gr64_22, gr64_23, gr70_4, gr71_4, gu73, gu99, gu93, pa72, pa84, pa85, pa86, pa90, pa92, pa87, pa91, pa88, pa89, pf64_4, pf64_5, pf64_6, pf64_8, pf64_9, pf64_10, pf64_14, pf70_0, pf70_1, pf70_2, pf70_3, pf71_0, pf71_1, pf71_2, pf71_3, ps74_0, ps74_1, ps74_2, ps74_3, ps100_0, ps100_1, ps100_2, ps100_3, s_in, s_has, s_one, s_roomOf, s_hurtOf, s_isLost, s_standOf, s_isTray, s_isSoon, s_fallen, s_isPassage, s_isRoom, s_isPassage70, s_leads70, s_isBack70, s_isPassage, s_isRoom, s_isPassage71, s_leads71, s_isBack71, s_onec, s_bitCount, s_be7170, s_be7071, u_tens77, kpC_70]
theorem c_go (h : bCt κ g ca A cp) (u0 : 0 ≤ cp 64 9) (u1 : cp 64 9 < 10) (m0 : 0 ≤ cp 64 8) (m1 : cp 64 8 ≤ 10) (h3 : -2147483648 ≤ i) (h4 : i < 2147483648) (hD : 908 ≤ D) :
    bk_wp (bk_call D 16 [.ref 64, .int (bk_i i)] (bk_M κ (cp, cs, cj) Y g n)) (bCd κ cp Y g n (whyG A (6 * A 42 + A 43) (A 44) (A 45) i = 0) (-10 - whyG A (6 * A 42 + A 43) (A 44) (A 45) i) (fv (thenM A (6 * A 42 + A 43) i (A 44) (A 45) / 6) (thenM A (6 * A 42 + A 43) i (A 44) (A 45) % 6) (A 44) (A 45) (A 46 + 1)) (thenM A (6 * A 42 + A 43) i (A 44) (A 45) % 6)) := by
  obtain ⟨d, rfl⟩ := dep hD
  have st := bCt_st h
  obtain ⟨hF, hc, hw, hs, n0, n1, n2, n3⟩ := h
  have sl := bTt_sl hs
  obtain ⟨cs1, f1, e1⟩ := s_whyGo70 (κ := κ) (cp := cp) (cs := cs) (cj := cj) (Y := Y) (n := n) (D := d) (v := i) hF hc hw h3 h4 (by omega) (by omega) (by omega) (by omega) (by omega)
  have wr := whyG_rng A (cp 70 0) (cp 70 1) (cp 70 2) i
  rw [n0, n1, n2] at e1 wr
  have c0 := hc.1
  rw [kX0_go, eX0_go_0]
  by_cases q : whyG A (6 * A 42 + A 43) (A 44) (A 45) i = 0
  · have w0 := whyG_0 q
    have ek := s_keeps (κ := κ) (cp := cp) (cs := cs1) (cj := cj) (Y := Y) (n := n) (D := d) hF u0 u1 m0 m1 (by omega)
    obtain ⟨cs2, f2, e2⟩ := s_goes70 (κ := κ) (cp := kpC cp) (cs := cs1) (cj := cj) (Y := Y) (n := n) (D := d) (p := i) hF hc hw w0.1 w0.2.1 (by rw [kpC_70]; omega) (by rw [kpC_70]; omega) (by rw [kpC_70]; omega) (by rw [kpC_70]; omega) (by omega)
    have tr := thenM_rng (A := A) (s := 6 * A 42 + A 43) (p := i) (rop := A 44) (sl := A 45) hw w0.1 w0.2.1 (by omega)
    rw [kpC_70, kpC_70, kpC_70, kpC_70, n0, n1, n2, n3] at e2
    have e70 : ∀ v w, bU (bU (kpC cp) 70 0 v) 70 3 w 70 0 = v := fun v w => by rw [bU_same, if_neg (by decide), bU_same, if_pos rfl]
    simp (disch := first | assumption | omega) only [c0, e1, if_pos q, ek, e2, e70, bi_add, bi_sub, bi_mul, bi_neg, bi_div, bi_64, bl_add, bl_sub, bl_mul, bl_neg, bl_div, bl_32, bi_min, bi_max, bl_min, bl_max, bq_I, bq_J, bq_A, bq_Vi, bq_Vl, bq_Vr, bq_cV, bq_cI, bq_cJ, bq_cA, bq_le, bq_lt, bq_eq, bq_z, bq_o, bq_ref, bq_nz, bq_nzJ, bq_bl, bq_blz, bq_T, bq_F, if_true, if_false, Int.reduceEq, Int.reduceLT, Int.reduceLE, Int.reduceAdd, Int.reduceSub, Int.reduceMul, Int.add_sub_cancel, li_0, li_1, li_2, li_10, li_14, li_16, li_17, li_2002, li_2009, ll_0, ll_1, ll_2, ll_10, ll_14, ll_16, ll_17, ga72, ga84, ga85, ga86, ga90, ga92, ga87, ga91, ga88, ga89, gf64_4, gf64_5, gf64_6, gf64_8, gf64_9, gf64_10, gf64_14, gf70_0, gf70_1, gf70_2, gf70_3, gf71_0, gf71_1, gf71_2, gf71_3, gs74_0, gs74_1, gs74_2, gs74_3, gs100_0, gs100_1, gs100_2, gs100_3, gr64_1, gr64_2, gr64_3, gr64_7, gr64_11, gr64_12, gr64_13, gr64_15, gr64_16, gr64_17, gr64_18, gr64_19, gr64_20, gr64_21, gr64_22, gr64_23, gr70_4, gr71_4, gu73, gu99, gu93, pa72, pa84, pa85, pa86, pa90, pa92, pa87, pa91, pa88, pa89, pf64_4, pf64_5, pf64_6, pf64_8, pf64_9, pf64_10, pf64_14, pf70_0, pf70_1, pf70_2, pf70_3, pf71_0, pf71_1, pf71_2, pf71_3, ps74_0, ps74_1, ps74_2, ps74_3, ps100_0, ps100_1, ps100_2, ps100_3, s_in, s_has, s_one, s_roomOf, s_hurtOf, s_isLost, s_standOf, s_isTray, s_isSoon, s_fallen, s_isPassage, s_isRoom, s_isPassage70, s_leads70, s_isBack70, s_isPassage, s_isRoom, s_isPassage71, s_leads71, s_isBack71, s_onec, s_bitCount, s_be7170, s_be7071, u_tens77, kpC_70]
    refine ⟨_, _, rfl, _, cs2, cj, rfl, Or.inr ⟨q, rfl, bKp_70 (kpC_kp cp) (fun a ha => ?_), ?_⟩⟩
    · funext k; rw [bU_ne _ _ _ _ _ _ ha, bU_ne _ _ _ _ _ _ ha]
    · unfold sam fv
      simp only [bU_same, kpC_70, n1, n2, n3]
      refine ⟨?_, rfl, rfl, rfl⟩
      show thenM A (6 * A 42 + A 43) i (A 44) (A 45) = 6 * (thenM A (6 * A 42 + A 43) i (A 44) (A 45) / 6) + thenM A (6 * A 42 + A 43) i (A 44) (A 45) % 6
      omega
  · simp (disch := first | assumption | omega) only [c0, e1, if_neg q, bi_add, bi_sub, bi_mul, bi_neg, bi_div, bi_64, bl_add, bl_sub, bl_mul, bl_neg, bl_div, bl_32, bi_min, bi_max, bl_min, bl_max, bq_I, bq_J, bq_A, bq_Vi, bq_Vl, bq_Vr, bq_cV, bq_cI, bq_cJ, bq_cA, bq_le, bq_lt, bq_eq, bq_z, bq_o, bq_ref, bq_nz, bq_nzJ, bq_bl, bq_blz, bq_T, bq_F, if_true, if_false, Int.reduceEq, Int.reduceLT, Int.reduceLE, Int.reduceAdd, Int.reduceSub, Int.reduceMul, Int.add_sub_cancel, li_0, li_1, li_2, li_10, li_14, li_16, li_17, li_2002, li_2009, ll_0, ll_1, ll_2, ll_10, ll_14, ll_16, ll_17, ga72, ga84, ga85, ga86, ga90, ga92, ga87, ga91, ga88, ga89, gf64_4, gf64_5, gf64_6, gf64_8, gf64_9, gf64_10, gf64_14, gf70_0, gf70_1, gf70_2, gf70_3, gf71_0, gf71_1, gf71_2, gf71_3, gs74_0, gs74_1, gs74_2, gs74_3, gs100_0, gs100_1, gs100_2, gs100_3, gr64_1, gr64_2, gr64_3, gr64_7, gr64_11, gr64_12, gr64_13, gr64_15, gr64_16, gr64_17, gr64_18, gr64_19, gr64_20, gr64_21, gr64_22, gr64_23, gr70_4, gr71_4, gu73, gu99, gu93, pa72, pa84, pa85, pa86, pa90, pa92, pa87, pa91, pa88, pa89, pf64_4, pf64_5, pf64_6, pf64_8, pf64_9, pf64_10, pf64_14, pf70_0, pf70_1, pf70_2, pf70_3, pf71_0, pf71_1, pf71_2, pf71_3, ps74_0, ps74_1, ps74_2, ps74_3, ps100_0, ps100_1, ps100_2, ps100_3, s_in, s_has, s_one, s_roomOf, s_hurtOf, s_isLost, s_standOf, s_isTray, s_isSoon, s_fallen, s_isPassage, s_isRoom, s_isPassage70, s_leads70, s_isBack70, s_isPassage, s_isRoom, s_isPassage71, s_leads71, s_isBack71, s_onec, s_bitCount, s_be7170, s_be7071, u_tens77, kpC_70]
    exact ⟨_, _, rfl, cp, cs1, cj, rfl, Or.inl ⟨q, rfl, rfl⟩⟩
/-- a bit turned over -/
def tg (s k : Int) : Int := (bk_i s ^^^ ((1 : Int32) <<< (bk_i k &&& 31))).toInt
theorem bi_tg (s k : Int) : bk_i s ^^^ (1 <<< (bk_i k &&& 31)) = bk_i (tg s k) := bi_self _
theorem tg_rng {s k : Int} (s0 : 0 ≤ s) (s1 : s < 256) (k0 : 0 ≤ k) (k1 : k < 8) : 0 ≤ tg s k ∧ tg s k < 256 := by
  have q : ∀ s : Fin 256, ∀ k : Fin 8, 0 ≤ tg s.val k.val ∧ tg s.val k.val < 256 := by decide +kernel
  have := q ⟨s.toNat, by omega⟩ ⟨k.toNat, by omega⟩
  simp only [Int.toNat_of_nonneg s0, Int.toNat_of_nonneg k0] at this
  exact this
theorem c_put (h : bCt κ g ca A cp) (u0 : 0 ≤ cp 64 9) (u1 : cp 64 9 < 10) (m0 : 0 ≤ cp 64 8) (m1 : cp 64 8 ≤ 10) (h3 : -2147483648 ≤ i) (h4 : i < 2147483648) (h5 : -2147483648 ≤ v) (h6 : v < 2147483648) (hD : 908 ≤ D) :
    bk_wp (bk_call D 19 [.ref 64, .int (bk_i i), .int (bk_i v)] (bk_M κ (cp, cs, cj) Y g n)) (bCd κ cp Y g n ((0 ≤ i ∧ i ≤ A 1 - 1) ∧ (0 ≤ v ∧ v ≤ 5)) (-11) (fv i v (A 44) (A 45) (A 46)) (10 * A 42 + A 43)) := by
  obtain ⟨d, rfl⟩ := dep hD
  have st := bCt_st h
  obtain ⟨hF, hc, hw, hs, n0, n1, n2, n3⟩ := h
  have sl := bTt_sl hs
  have r42 : (6 * A 42 + A 43) / 6 = A 42 := by omega
  have r43 : (6 * A 42 + A 43) % 6 = A 43 := by omega
  have ek := s_keeps (κ := κ) (cp := cp) (cs := cs) (cj := cj) (Y := Y) (n := n) (D := d) hF u0 u1 m0 m1 (by omega)
  have e1 : bk_call d 2011 [.ref 70, .long (bk_l i), .long (bk_l v)] (bk_M κ (cp, cs, cj) Y g n) = some (some (.int (bk_i (if (0 ≤ i ∧ i ≤ A 1 - 1) ∧ (0 ≤ v ∧ v ≤ 5) then 0 else 1))), bk_M κ (cp, cs, cj) Y g n) := by
    obtain ⟨d2, rfl⟩ := dep (show 2 ≤ d by omega)
    have hc2 := hc
    obtain ⟨c0, c1, c2, c3, c4, c5, c6, c7, c8, ⟨tw, ctw, htw⟩, cb, ce, cd, cw, cwp, hca, -, -⟩ := hc2
    rw [kX2_whyPut, eX2_whyPut_0]
    simp (disch := first | assumption | omega) only [c0, c1, c2, c3, c4, c5, c6, c7, c8, ctw, cb, ce, cd, cw, cwp, bi_add, bi_sub, bi_mul, bi_neg, bi_div, bi_64, bl_add, bl_sub, bl_mul, bl_neg, bl_div, bl_32, bi_min, bi_max, bl_min, bl_max, bq_I, bq_J, bq_A, bq_Vi, bq_Vl, bq_Vr, bq_cV, bq_cI, bq_cJ, bq_cA, bq_le, bq_lt, bq_eq, bq_z, bq_o, bq_ref, bq_nz, bq_nzJ, bq_bl, bq_blz, bq_T, bq_F, if_true, if_false, Int.reduceEq, Int.reduceLT, Int.reduceLE, Int.reduceAdd, Int.reduceSub, Int.reduceMul, Int.add_sub_cancel, li_0, li_1, li_2, li_4, li_5, li_2011, ll_0, ll_1, ll_2, ll_4, ll_5, ga72, ga84, ga85, ga86, ga90, ga92, ga87, ga91, ga88, ga89, gf64_4, gf64_5, gf64_6, gf64_8, gf64_9, gf64_10, gf64_14, gf70_0, gf70_1, gf70_2, gf70_3, gf71_0, gf71_1, gf71_2, gf71_3, gs74_0, gs74_1, gs74_2, gs74_3, gs100_0, gs100_1, gs100_2, gs100_3, gr64_1, gr64_2, gr64_3, gr64_7, gr64_11, gr64_12, gr64_13, gr64_15, gr64_16, gr64_17, gr64_18, gr64_19, gr64_20, gr64_21, gr64_22, gr64_23, gr70_4, gr71_4, gu73, gu99, gu93, pa72, pa84, pa85, pa86, pa90, pa92, pa87, pa91, pa88, pa89, pf64_4, pf64_5, pf64_6, pf64_8, pf64_9, pf64_10, pf64_14, pf70_0, pf70_1, pf70_2, pf70_3, pf71_0, pf71_1, pf71_2, pf71_3, ps74_0, ps74_1, ps74_2, ps74_3, ps100_0, ps100_1, ps100_2, ps100_3, s_in, s_has, s_one, s_roomOf, s_hurtOf, s_isLost, s_standOf, s_isTray, s_isSoon, s_fallen, s_isPassage, s_isRoom, s_isPassage70, s_leads70, s_isBack70, s_isPassage, s_isRoom, s_isPassage71, s_leads71, s_isBack71, s_onec, s_bitCount, s_be7170, s_be7071, u_tens77, kpC_70]
    by_cases q : 0 ≤ i ∧ i ≤ A 1 - 1
    · rw [if_pos q]
      by_cases q2 : 0 ≤ v ∧ v ≤ 5
      · rw [if_pos q2, if_pos ⟨q, q2⟩]
      · rw [if_neg q2, if_neg (fun k => q2 k.2)]
    · rw [if_neg q, if_neg (fun k => q k.1)]
  have c0 := hc.1
  rw [kX0_put, eX0_put_0]
  by_cases q : (0 ≤ i ∧ i ≤ A 1 - 1) ∧ (0 ≤ v ∧ v ≤ 5)
  · rw [if_pos q] at e1
    simp (disch := first | assumption | omega) only [c0, e1, ek, kpC_70, n0, r42, r43, bi_add, bi_sub, bi_mul, bi_neg, bi_div, bi_64, bl_add, bl_sub, bl_mul, bl_neg, bl_div, bl_32, bi_min, bi_max, bl_min, bl_max, bq_I, bq_J, bq_A, bq_Vi, bq_Vl, bq_Vr, bq_cV, bq_cI, bq_cJ, bq_cA, bq_le, bq_lt, bq_eq, bq_z, bq_o, bq_ref, bq_nz, bq_nzJ, bq_bl, bq_blz, bq_T, bq_F, if_true, if_false, Int.reduceEq, Int.reduceLT, Int.reduceLE, Int.reduceAdd, Int.reduceSub, Int.reduceMul, Int.add_sub_cancel, li_0, li_1, li_2, li_10, li_12, li_14, li_17, li_19, li_2011, ll_0, ll_1, ll_2, ll_10, ll_12, ll_14, ll_17, ll_19, ga72, ga84, ga85, ga86, ga90, ga92, ga87, ga91, ga88, ga89, gf64_4, gf64_5, gf64_6, gf64_8, gf64_9, gf64_10, gf64_14, gf70_0, gf70_1, gf70_2, gf70_3, gf71_0, gf71_1, gf71_2, gf71_3, gs74_0, gs74_1, gs74_2, gs74_3, gs100_0, gs100_1, gs100_2, gs100_3, gr64_1, gr64_2, gr64_3, gr64_7, gr64_11, gr64_12, gr64_13, gr64_15, gr64_16, gr64_17, gr64_18, gr64_19, gr64_20, gr64_21, gr64_22, gr64_23, gr70_4, gr71_4, gu73, gu99, gu93, pa72, pa84, pa85, pa86, pa90, pa92, pa87, pa91, pa88, pa89, pf64_4, pf64_5, pf64_6, pf64_8, pf64_9, pf64_10, pf64_14, pf70_0, pf70_1, pf70_2, pf70_3, pf71_0, pf71_1, pf71_2, pf71_3, ps74_0, ps74_1, ps74_2, ps74_3, ps100_0, ps100_1, ps100_2, ps100_3, s_in, s_has, s_one, s_roomOf, s_hurtOf, s_isLost, s_standOf, s_isTray, s_isSoon, s_fallen, s_isPassage, s_isRoom, s_isPassage70, s_leads70, s_isBack70, s_isPassage, s_isRoom, s_isPassage71, s_leads71, s_isBack71, s_onec, s_bitCount, s_be7170, s_be7071, u_tens77, kpC_70]
    refine ⟨_, _, rfl, _, cs, cj, rfl, Or.inr ⟨q, rfl, bKp_70 (kpC_kp cp) (fun a ha => ?_), ?_⟩⟩
    · funext k; rw [bU_ne _ _ _ _ _ _ ha]
    · unfold sam fv
      simp only [bU_same, kpC_70, n1, n2, n3]
      exact ⟨rfl, rfl, rfl, rfl⟩
  · rw [if_neg q] at e1
    simp (disch := first | assumption | omega) only [c0, e1, bi_add, bi_sub, bi_mul, bi_neg, bi_div, bi_64, bl_add, bl_sub, bl_mul, bl_neg, bl_div, bl_32, bi_min, bi_max, bl_min, bl_max, bq_I, bq_J, bq_A, bq_Vi, bq_Vl, bq_Vr, bq_cV, bq_cI, bq_cJ, bq_cA, bq_le, bq_lt, bq_eq, bq_z, bq_o, bq_ref, bq_nz, bq_nzJ, bq_bl, bq_blz, bq_T, bq_F, if_true, if_false, Int.reduceEq, Int.reduceLT, Int.reduceLE, Int.reduceAdd, Int.reduceSub, Int.reduceMul, Int.add_sub_cancel, li_0, li_1, li_2, li_10, li_12, li_14, li_17, li_19, li_2011, ll_0, ll_1, ll_2, ll_10, ll_12, ll_14, ll_17, ll_19, ga72, ga84, ga85, ga86, ga90, ga92, ga87, ga91, ga88, ga89, gf64_4, gf64_5, gf64_6, gf64_8, gf64_9, gf64_10, gf64_14, gf70_0, gf70_1, gf70_2, gf70_3, gf71_0, gf71_1, gf71_2, gf71_3, gs74_0, gs74_1, gs74_2, gs74_3, gs100_0, gs100_1, gs100_2, gs100_3, gr64_1, gr64_2, gr64_3, gr64_7, gr64_11, gr64_12, gr64_13, gr64_15, gr64_16, gr64_17, gr64_18, gr64_19, gr64_20, gr64_21, gr64_22, gr64_23, gr70_4, gr71_4, gu73, gu99, gu93, pa72, pa84, pa85, pa86, pa90, pa92, pa87, pa91, pa88, pa89, pf64_4, pf64_5, pf64_6, pf64_8, pf64_9, pf64_10, pf64_14, pf70_0, pf70_1, pf70_2, pf70_3, pf71_0, pf71_1, pf71_2, pf71_3, ps74_0, ps74_1, ps74_2, ps74_3, ps100_0, ps100_1, ps100_2, ps100_3, s_in, s_has, s_one, s_roomOf, s_hurtOf, s_isLost, s_standOf, s_isTray, s_isSoon, s_fallen, s_isPassage, s_isRoom, s_isPassage70, s_leads70, s_isBack70, s_isPassage, s_isRoom, s_isPassage71, s_leads71, s_isBack71, s_onec, s_bitCount, s_be7170, s_be7071, u_tens77, kpC_70]
    exact ⟨_, _, rfl, cp, cs, cj, rfl, Or.inl ⟨q, rfl, rfl⟩⟩
theorem c_slack (h : bCt κ g ca A cp) (u0 : 0 ≤ cp 64 9) (u1 : cp 64 9 < 10) (m0 : 0 ≤ cp 64 8) (m1 : cp 64 8 ≤ 10) (h3 : -2147483648 ≤ i) (h4 : i < 2147483648) (hD : 908 ≤ D) :
    bk_wp (bk_call D 20 [.ref 64, .int (bk_i i)] (bk_M κ (cp, cs, cj) Y g n)) (bCd κ cp Y g n (0 ≤ i ∧ i ≤ 9) (-11) (fv (A 42) (A 43) (A 44) i (A 46)) (A 45)) := by
  obtain ⟨d, rfl⟩ := dep hD
  obtain ⟨hF, hc, hw, hs, n0, n1, n2, n3⟩ := h
  have ek := s_keeps (κ := κ) (cp := cp) (cs := cs) (cj := cj) (Y := Y) (n := n) (D := d) hF u0 u1 m0 m1 (by omega)
  have c0 := hc.1
  rw [kX0_slack, eX0_slack_0]
  by_cases q : 0 ≤ i ∧ i ≤ 9
  · simp (disch := first | assumption | omega) only [c0, if_pos q, ek, kpC_70, n2, bi_add, bi_sub, bi_mul, bi_neg, bi_div, bi_64, bl_add, bl_sub, bl_mul, bl_neg, bl_div, bl_32, bi_min, bi_max, bl_min, bl_max, bq_I, bq_J, bq_A, bq_Vi, bq_Vl, bq_Vr, bq_cV, bq_cI, bq_cJ, bq_cA, bq_le, bq_lt, bq_eq, bq_z, bq_o, bq_ref, bq_nz, bq_nzJ, bq_bl, bq_blz, bq_T, bq_F, if_true, if_false, Int.reduceEq, Int.reduceLT, Int.reduceLE, Int.reduceAdd, Int.reduceSub, Int.reduceMul, Int.add_sub_cancel, li_0, li_1, li_2, li_5, li_9, li_11, li_17, li_20, ll_0, ll_1, ll_2, ll_5, ll_9, ll_11, ll_17, ll_20, ga72, ga84, ga85, ga86, ga90, ga92, ga87, ga91, ga88, ga89, gf64_4, gf64_5, gf64_6, gf64_8, gf64_9, gf64_10, gf64_14, gf70_0, gf70_1, gf70_2, gf70_3, gf71_0, gf71_1, gf71_2, gf71_3, gs74_0, gs74_1, gs74_2, gs74_3, gs100_0, gs100_1, gs100_2, gs100_3, gr64_1, gr64_2, gr64_3, gr64_7, gr64_11, gr64_12, gr64_13, gr64_15, gr64_16, gr64_17, gr64_18, gr64_19, gr64_20, gr64_21, gr64_22, gr64_23, gr70_4, gr71_4, gu73, gu99, gu93, pa72, pa84, pa85, pa86, pa90, pa92, pa87, pa91, pa88, pa89, pf64_4, pf64_5, pf64_6, pf64_8, pf64_9, pf64_10, pf64_14, pf70_0, pf70_1, pf70_2, pf70_3, pf71_0, pf71_1, pf71_2, pf71_3, ps74_0, ps74_1, ps74_2, ps74_3, ps100_0, ps100_1, ps100_2, ps100_3, s_in, s_has, s_one, s_roomOf, s_hurtOf, s_isLost, s_standOf, s_isTray, s_isSoon, s_fallen, s_isPassage, s_isRoom, s_isPassage70, s_leads70, s_isBack70, s_isPassage, s_isRoom, s_isPassage71, s_leads71, s_isBack71, s_onec, s_bitCount, s_be7170, s_be7071, u_tens77, kpC_70]
    refine ⟨_, _, rfl, _, cs, cj, rfl, Or.inr ⟨q, rfl, bKp_70 (kpC_kp cp) (fun a ha => ?_), ?_⟩⟩
    · funext k; rw [bU_ne _ _ _ _ _ _ ha]
    · unfold sam fv
      simp only [bU_same, kpC_70, n0, n1, n3]
      exact ⟨rfl, rfl, rfl, rfl⟩
  · simp (disch := first | assumption | omega) only [c0, if_neg q, bi_add, bi_sub, bi_mul, bi_neg, bi_div, bi_64, bl_add, bl_sub, bl_mul, bl_neg, bl_div, bl_32, bi_min, bi_max, bl_min, bl_max, bq_I, bq_J, bq_A, bq_Vi, bq_Vl, bq_Vr, bq_cV, bq_cI, bq_cJ, bq_cA, bq_le, bq_lt, bq_eq, bq_z, bq_o, bq_ref, bq_nz, bq_nzJ, bq_bl, bq_blz, bq_T, bq_F, if_true, if_false, Int.reduceEq, Int.reduceLT, Int.reduceLE, Int.reduceAdd, Int.reduceSub, Int.reduceMul, Int.add_sub_cancel, li_0, li_1, li_2, li_5, li_9, li_11, li_17, li_20, ll_0, ll_1, ll_2, ll_5, ll_9, ll_11, ll_17, ll_20, ga72, ga84, ga85, ga86, ga90, ga92, ga87, ga91, ga88, ga89, gf64_4, gf64_5, gf64_6, gf64_8, gf64_9, gf64_10, gf64_14, gf70_0, gf70_1, gf70_2, gf70_3, gf71_0, gf71_1, gf71_2, gf71_3, gs74_0, gs74_1, gs74_2, gs74_3, gs100_0, gs100_1, gs100_2, gs100_3, gr64_1, gr64_2, gr64_3, gr64_7, gr64_11, gr64_12, gr64_13, gr64_15, gr64_16, gr64_17, gr64_18, gr64_19, gr64_20, gr64_21, gr64_22, gr64_23, gr70_4, gr71_4, gu73, gu99, gu93, pa72, pa84, pa85, pa86, pa90, pa92, pa87, pa91, pa88, pa89, pf64_4, pf64_5, pf64_6, pf64_8, pf64_9, pf64_10, pf64_14, pf70_0, pf70_1, pf70_2, pf70_3, pf71_0, pf71_1, pf71_2, pf71_3, ps74_0, ps74_1, ps74_2, ps74_3, ps100_0, ps100_1, ps100_2, ps100_3, s_in, s_has, s_one, s_roomOf, s_hurtOf, s_isLost, s_standOf, s_isTray, s_isSoon, s_fallen, s_isPassage, s_isRoom, s_isPassage70, s_leads70, s_isBack70, s_isPassage, s_isRoom, s_isPassage71, s_leads71, s_isBack71, s_onec, s_bitCount, s_be7170, s_be7071, u_tens77, kpC_70]
    exact ⟨_, _, rfl, cp, cs, cj, rfl, Or.inl ⟨q, rfl, rfl⟩⟩
theorem c_rope (h : bCt κ g ca A cp) (u0 : 0 ≤ cp 64 9) (u1 : cp 64 9 < 10) (m0 : 0 ≤ cp 64 8) (m1 : cp 64 8 ≤ 10) (h3 : -2147483648 ≤ i) (h4 : i < 2147483648) (hD : 908 ≤ D) :
    bk_wp (bk_call D 18 [.ref 64, .int (bk_i i)] (bk_M κ (cp, cs, cj) Y g n)) (bCd κ cp Y g n (0 ≤ i ∧ i ≤ A 2 - 1) (-11) (fv (A 42) (A 43) (tg (A 44) i) (A 45) (A 46)) (bt (tg (A 44) i) i)) := by
  obtain ⟨d, rfl⟩ := dep hD
  have st := bCt_st h
  obtain ⟨hF, hc, hw, hs, n0, n1, n2, n3⟩ := h
  have ek := s_keeps (κ := κ) (cp := cp) (cs := cs) (cj := cj) (Y := Y) (n := n) (D := d) hF u0 u1 m0 m1 (by omega)
  have ei := s_isPassage (κ := κ) (X := (cp, cs, cj)) (Y := Y) (n := n) (D := d) (v := i) hc (by omega) (by omega) (by omega) (by omega) (by omega)
  have c0 := hc.1
  rw [kX0_rope, eX0_rope_0]
  by_cases q : 0 ≤ i ∧ i ≤ A 2 - 1
  · have e2 : bk_call d 2010 [.ref 70, .int (bk_i (10 + i))] (bk_M κ (kpC cp, cs, cj) Y g n) = some (none, bk_M κ (bU (kpC cp) 70 1 (tg (A 44) i), cs, cj) Y g n) := by
      obtain ⟨d2, rfl⟩ := dep (show 2 ≤ d by omega)
      have ex : 10 + i - 10 = i := by omega
      rw [kX2_does, eX2_does_0]
      simp (disch := first | assumption | omega) only [if_pos (show 10 ≤ 10 + i by omega), if_neg (show ¬ 20 ≤ 10 + i by omega), kpC_70, n1, ex, bi_add, bi_sub, bi_mul, bi_neg, bi_div, bi_64, bl_add, bl_sub, bl_mul, bl_neg, bl_div, bl_32, bi_min, bi_max, bl_min, bl_max, bq_I, bq_J, bq_A, bq_Vi, bq_Vl, bq_Vr, bq_cV, bq_cI, bq_cJ, bq_cA, bq_le, bq_lt, bq_eq, bq_z, bq_o, bq_ref, bq_nz, bq_nzJ, bq_bl, bq_blz, bq_T, bq_F, if_true, if_false, Int.reduceEq, Int.reduceLT, Int.reduceLE, Int.reduceAdd, Int.reduceSub, Int.reduceMul, Int.add_sub_cancel, li_0, li_1, li_2, li_10, li_20, li_31, li_100, li_2009, li_2010, ll_0, ll_1, ll_2, ll_10, ll_20, ll_31, ll_100, ga72, ga84, ga85, ga86, ga90, ga92, ga87, ga91, ga88, ga89, gf64_4, gf64_5, gf64_6, gf64_8, gf64_9, gf64_10, gf64_14, gf70_0, gf70_1, gf70_2, gf70_3, gf71_0, gf71_1, gf71_2, gf71_3, gs74_0, gs74_1, gs74_2, gs74_3, gs100_0, gs100_1, gs100_2, gs100_3, gr64_1, gr64_2, gr64_3, gr64_7, gr64_11, gr64_12, gr64_13, gr64_15, gr64_16, gr64_17, gr64_18, gr64_19, gr64_20, gr64_21, gr64_22, gr64_23, gr70_4, gr71_4, gu73, gu99, gu93, pa72, pa84, pa85, pa86, pa90, pa92, pa87, pa91, pa88, pa89, pf64_4, pf64_5, pf64_6, pf64_8, pf64_9, pf64_10, pf64_14, pf70_0, pf70_1, pf70_2, pf70_3, pf71_0, pf71_1, pf71_2, pf71_3, ps74_0, ps74_1, ps74_2, ps74_3, ps100_0, ps100_1, ps100_2, ps100_3, s_in, s_has, s_one, s_roomOf, s_hurtOf, s_isLost, s_standOf, s_isTray, s_isSoon, s_fallen, s_isPassage, s_isRoom, s_isPassage70, s_leads70, s_isBack70, s_isPassage, s_isRoom, s_isPassage71, s_leads71, s_isBack71, s_onec, s_bitCount, s_be7170, s_be7071, u_tens77, kpC_70]
      have e3 : bk_i (A 44) ^^^ (bk_i 1 <<< (bk_i i &&& bk_i 31)) = bk_i (tg (A 44) i) := bi_tg _ _
      rw [e3]
      simp (disch := first | assumption | omega) only [bi_add, bi_sub, bi_mul, bi_neg, bi_div, bi_64, bl_add, bl_sub, bl_mul, bl_neg, bl_div, bl_32, bi_min, bi_max, bl_min, bl_max, bq_I, bq_J, bq_A, bq_Vi, bq_Vl, bq_Vr, bq_cV, bq_cI, bq_cJ, bq_cA, bq_le, bq_lt, bq_eq, bq_z, bq_o, bq_ref, bq_nz, bq_nzJ, bq_bl, bq_blz, bq_T, bq_F, if_true, if_false, Int.reduceEq, Int.reduceLT, Int.reduceLE, Int.reduceAdd, Int.reduceSub, Int.reduceMul, Int.add_sub_cancel, li_0, li_1, ll_0, ll_1, ga72, ga84, ga85, ga86, ga90, ga92, ga87, ga91, ga88, ga89, gf64_4, gf64_5, gf64_6, gf64_8, gf64_9, gf64_10, gf64_14, gf70_0, gf70_1, gf70_2, gf70_3, gf71_0, gf71_1, gf71_2, gf71_3, gs74_0, gs74_1, gs74_2, gs74_3, gs100_0, gs100_1, gs100_2, gs100_3, gr64_1, gr64_2, gr64_3, gr64_7, gr64_11, gr64_12, gr64_13, gr64_15, gr64_16, gr64_17, gr64_18, gr64_19, gr64_20, gr64_21, gr64_22, gr64_23, gr70_4, gr71_4, gu73, gu99, gu93, pa72, pa84, pa85, pa86, pa90, pa92, pa87, pa91, pa88, pa89, pf64_4, pf64_5, pf64_6, pf64_8, pf64_9, pf64_10, pf64_14, pf70_0, pf70_1, pf70_2, pf70_3, pf71_0, pf71_1, pf71_2, pf71_3, ps74_0, ps74_1, ps74_2, ps74_3, ps100_0, ps100_1, ps100_2, ps100_3, s_in, s_has, s_one, s_roomOf, s_hurtOf, s_isLost, s_standOf, s_isTray, s_isSoon, s_fallen, s_isPassage, s_isRoom, s_isPassage70, s_leads70, s_isBack70, s_isPassage, s_isRoom, s_isPassage71, s_leads71, s_isBack71, s_onec, s_bitCount, s_be7170, s_be7071, u_tens77, kpC_70]
    simp (disch := first | assumption | omega) only [c0, ei, if_pos q, ek, e2, bi_add, bi_sub, bi_mul, bi_neg, bi_div, bi_64, bl_add, bl_sub, bl_mul, bl_neg, bl_div, bl_32, bi_min, bi_max, bl_min, bl_max, bq_I, bq_J, bq_A, bq_Vi, bq_Vl, bq_Vr, bq_cV, bq_cI, bq_cJ, bq_cA, bq_le, bq_lt, bq_eq, bq_z, bq_o, bq_ref, bq_nz, bq_nzJ, bq_bl, bq_blz, bq_T, bq_F, if_true, if_false, Int.reduceEq, Int.reduceLT, Int.reduceLE, Int.reduceAdd, Int.reduceSub, Int.reduceMul, Int.add_sub_cancel, li_0, li_1, li_2, li_8, li_9, li_10, li_11, li_17, li_18, li_2010, ll_0, ll_1, ll_2, ll_8, ll_9, ll_10, ll_11, ll_17, ll_18, ga72, ga84, ga85, ga86, ga90, ga92, ga87, ga91, ga88, ga89, gf64_4, gf64_5, gf64_6, gf64_8, gf64_9, gf64_10, gf64_14, gf70_0, gf70_1, gf70_2, gf70_3, gf71_0, gf71_1, gf71_2, gf71_3, gs74_0, gs74_1, gs74_2, gs74_3, gs100_0, gs100_1, gs100_2, gs100_3, gr64_1, gr64_2, gr64_3, gr64_7, gr64_11, gr64_12, gr64_13, gr64_15, gr64_16, gr64_17, gr64_18, gr64_19, gr64_20, gr64_21, gr64_22, gr64_23, gr70_4, gr71_4, gu73, gu99, gu93, pa72, pa84, pa85, pa86, pa90, pa92, pa87, pa91, pa88, pa89, pf64_4, pf64_5, pf64_6, pf64_8, pf64_9, pf64_10, pf64_14, pf70_0, pf70_1, pf70_2, pf70_3, pf71_0, pf71_1, pf71_2, pf71_3, ps74_0, ps74_1, ps74_2, ps74_3, ps100_0, ps100_1, ps100_2, ps100_3, s_in, s_has, s_one, s_roomOf, s_hurtOf, s_isLost, s_standOf, s_isTray, s_isSoon, s_fallen, s_isPassage, s_isRoom, s_isPassage70, s_leads70, s_isBack70, s_isPassage, s_isRoom, s_isPassage71, s_leads71, s_isBack71, s_onec, s_bitCount, s_be7170, s_be7071, u_tens77, kpC_70]
    refine ⟨_, _, rfl, _, cs, cj, rfl, Or.inr ⟨q, ?_, bKp_70 (kpC_kp cp) (fun a ha => ?_), ?_⟩⟩
    · rw [bz_bt, bU_same, if_pos rfl]
    · funext k; rw [bU_ne _ _ _ _ _ _ ha]
    · unfold sam fv
      simp only [bU_same, kpC_70, n0, n2, n3]
      exact ⟨rfl, rfl, rfl, rfl⟩
  · simp (disch := first | assumption | omega) only [c0, ei, if_neg q, bi_add, bi_sub, bi_mul, bi_neg, bi_div, bi_64, bl_add, bl_sub, bl_mul, bl_neg, bl_div, bl_32, bi_min, bi_max, bl_min, bl_max, bq_I, bq_J, bq_A, bq_Vi, bq_Vl, bq_Vr, bq_cV, bq_cI, bq_cJ, bq_cA, bq_le, bq_lt, bq_eq, bq_z, bq_o, bq_ref, bq_nz, bq_nzJ, bq_bl, bq_blz, bq_T, bq_F, if_true, if_false, Int.reduceEq, Int.reduceLT, Int.reduceLE, Int.reduceAdd, Int.reduceSub, Int.reduceMul, Int.add_sub_cancel, li_0, li_1, li_2, li_8, li_9, li_10, li_11, li_17, li_18, li_2010, ll_0, ll_1, ll_2, ll_8, ll_9, ll_10, ll_11, ll_17, ll_18, ga72, ga84, ga85, ga86, ga90, ga92, ga87, ga91, ga88, ga89, gf64_4, gf64_5, gf64_6, gf64_8, gf64_9, gf64_10, gf64_14, gf70_0, gf70_1, gf70_2, gf70_3, gf71_0, gf71_1, gf71_2, gf71_3, gs74_0, gs74_1, gs74_2, gs74_3, gs100_0, gs100_1, gs100_2, gs100_3, gr64_1, gr64_2, gr64_3, gr64_7, gr64_11, gr64_12, gr64_13, gr64_15, gr64_16, gr64_17, gr64_18, gr64_19, gr64_20, gr64_21, gr64_22, gr64_23, gr70_4, gr71_4, gu73, gu99, gu93, pa72, pa84, pa85, pa86, pa90, pa92, pa87, pa91, pa88, pa89, pf64_4, pf64_5, pf64_6, pf64_8, pf64_9, pf64_10, pf64_14, pf70_0, pf70_1, pf70_2, pf70_3, pf71_0, pf71_1, pf71_2, pf71_3, ps74_0, ps74_1, ps74_2, ps74_3, ps100_0, ps100_1, ps100_2, ps100_3, s_in, s_has, s_one, s_roomOf, s_hurtOf, s_isLost, s_standOf, s_isTray, s_isSoon, s_fallen, s_isPassage, s_isRoom, s_isPassage70, s_leads70, s_isBack70, s_isPassage, s_isRoom, s_isPassage71, s_leads71, s_isBack71, s_onec, s_bitCount, s_be7170, s_be7071, u_tens77, kpC_70]
    exact ⟨_, _, rfl, cp, cs, cj, rfl, Or.inl ⟨q, rfl, rfl⟩⟩
theorem c_undo (hF : bFix g) (c0 : ∀ X Y n, (bk_M κ X Y g n).1 0 64 0 = .ref ca) (u0 : 0 ≤ cp 64 9) (u1 : cp 64 9 < 10) (m0 : 0 ≤ cp 64 8) (m1 : cp 64 8 ≤ 10) (h3 : -2147483648 ≤ i) (h4 : i < 2147483648) (hD : 3 ≤ D) :
    bk_wp (bk_call D 21 [.ref 64, .int (bk_i i)] (bk_M κ (cp, cs, cj) Y g n)) (fun w h' => ∃ cp' cs' cj', h' = bk_M κ (cp', cs', cj') Y g n ∧ ((¬ (1 ≤ i ∧ i ≤ cp 64 8) ∧ w = some (.int (bk_i (-3))) ∧ cp' = cp)
      ∨ ((1 ≤ i ∧ i ≤ cp 64 8) ∧ w = some (.int (bk_i (cp 64 8 - i))) ∧ cp' 64 9 = (cp 64 9 + 10 - i) % 10 ∧ cp' 64 8 = cp 64 8 - i ∧ (∀ k, 0 ≤ k → k < 4 → cp' 70 k = cp (74 + ((cp 64 9 + 10 - i) % 10).toNat) k) ∧ ∀ a k, a ≠ 70 → ¬ (a = 64 ∧ (k = 8 ∨ k = 9)) → cp' a k = cp a k))) := by
  obtain ⟨d, rfl⟩ := dep hD
  rw [kX0_undo, eX0_undo_0]
  by_cases q : 1 ≤ i ∧ i ≤ cp 64 8
  · have hu : ((cp 64 9 + 10 - i) % 10).toNat < 10 := by omega
    have v0 : 0 ≤ (cp 64 9 + 10 - i) % 10 := by omega
    have v1 : (cp 64 9 + 10 - i) % 10 < 10 := by omega
    have em : cp 64 9 + 10 - i - (cp 64 9 + 10 - i) / 10 * 10 = (cp 64 9 + 10 - i) % 10 := by omega
    have e8 : ∀ (f : bF) v, bU f 64 9 v 64 8 = f 64 8 := fun f v => by rw [bU_same, if_neg (by decide)]
    have e9 : ∀ (f : bF) v, bU f 64 9 v 64 9 = v := fun f v => by rw [bU_same, if_pos rfl]
    have e10 : ∀ (f : bF) v w, bU (bU f 64 9 v) 64 8 w 64 9 = v := fun f v w => by rw [bU_same, if_neg (by decide), bU_same, if_pos rfl]
    have e11 : ∀ (f : bF) v w, bU (bU f 64 9 v) 64 8 w 64 8 = w := fun f v w => by rw [bU_same, if_pos rfl]
    have eb := s_be70U (κ := κ) (cp := bU (bU cp 64 9 ((cp 64 9 + 10 - i) % 10)) 64 8 (cp 64 8 - i)) (cs := cs) (cj := cj) (Y := Y) (n := n) (D := d) hF v0 v1 (by omega)
    simp (disch := first | assumption | omega) only [c0, if_pos q, em, e8, e9, e10, e11, eb, bU_ne, bi_add, bi_sub, bi_mul, bi_neg, bi_div, bi_64, bl_add, bl_sub, bl_mul, bl_neg, bl_div, bl_32, bi_min, bi_max, bl_min, bl_max, bq_I, bq_J, bq_A, bq_Vi, bq_Vl, bq_Vr, bq_cV, bq_cI, bq_cJ, bq_cA, bq_le, bq_lt, bq_eq, bq_z, bq_o, bq_ref, bq_nz, bq_nzJ, bq_bl, bq_blz, bq_T, bq_F, if_true, if_false, Int.reduceEq, Int.reduceLT, Int.reduceLE, Int.reduceAdd, Int.reduceSub, Int.reduceMul, Int.add_sub_cancel, li_0, li_1, li_2, li_3, li_5, li_7, li_8, li_9, li_10, li_21, li_105, li_2008, ll_0, ll_1, ll_2, ll_3, ll_5, ll_7, ll_8, ll_9, ll_10, ll_21, ll_105, ga72, ga84, ga85, ga86, ga90, ga92, ga87, ga91, ga88, ga89, gf64_4, gf64_5, gf64_6, gf64_8, gf64_9, gf64_10, gf64_14, gf70_0, gf70_1, gf70_2, gf70_3, gf71_0, gf71_1, gf71_2, gf71_3, gs74_0, gs74_1, gs74_2, gs74_3, gs100_0, gs100_1, gs100_2, gs100_3, gr64_1, gr64_2, gr64_3, gr64_7, gr64_11, gr64_12, gr64_13, gr64_15, gr64_16, gr64_17, gr64_18, gr64_19, gr64_20, gr64_21, gr64_22, gr64_23, gr70_4, gr71_4, gu73, gu99, gu93, pa72, pa84, pa85, pa86, pa90, pa92, pa87, pa91, pa88, pa89, pf64_4, pf64_5, pf64_6, pf64_8, pf64_9, pf64_10, pf64_14, pf70_0, pf70_1, pf70_2, pf70_3, pf71_0, pf71_1, pf71_2, pf71_3, ps74_0, ps74_1, ps74_2, ps74_3, ps100_0, ps100_1, ps100_2, ps100_3, s_in, s_has, s_one, s_roomOf, s_hurtOf, s_isLost, s_standOf, s_isTray, s_isSoon, s_fallen, s_isPassage, s_isRoom, s_isPassage70, s_leads70, s_isBack70, s_isPassage, s_isRoom, s_isPassage71, s_leads71, s_isBack71, s_onec, s_bitCount, s_be7170, s_be7071, u_tens77, kpC_70]
    refine ⟨_, _, rfl, _, cs, cj, rfl, Or.inr ⟨q, rfl, ?_, ?_, ?_, ?_⟩⟩
    · rw [bU_ne _ _ _ _ _ _ (by decide), bU_ne _ _ _ _ _ _ (by decide), bU_ne _ _ _ _ _ _ (by decide), bU_ne _ _ _ _ _ _ (by decide), e10]
    · rw [bU_ne _ _ _ _ _ _ (by decide), bU_ne _ _ _ _ _ _ (by decide), bU_ne _ _ _ _ _ _ (by decide), bU_ne _ _ _ _ _ _ (by decide), e11]
    · intro k k0 k1
      generalize hx : 74 + ((cp 64 9 + 10 - i) % 10).toNat = x
      have : x ≠ 64 := by omega
      simp only [bU_same, bU_ne _ _ _ _ _ _ this]
      by_cases c3 : k = 3
      · rw [if_pos c3, c3]
      · rw [if_neg c3]
        by_cases c2 : k = 2
        · rw [if_pos c2, c2]
        · rw [if_neg c2]
          by_cases c1 : k = 1
          · rw [if_pos c1, c1]
          · have c0 : k = 0 := by omega
            rw [if_neg c1, if_pos c0, c0]
    · intro a k h1 h2
      have q8 : ¬ (a = 64 ∧ k = 8) := fun q => h2 ⟨q.1, Or.inl q.2⟩
      have q9 : ¬ (a = 64 ∧ k = 9) := fun q => h2 ⟨q.1, Or.inr q.2⟩
      rw [bU_ne _ _ _ _ _ _ h1, bU_ne _ _ _ _ _ _ h1, bU_ne _ _ _ _ _ _ h1, bU_ne _ _ _ _ _ _ h1]
      unfold bU
      rw [if_neg q8, if_neg q9]
  · simp (disch := first | assumption | omega) only [c0, if_neg q, bi_add, bi_sub, bi_mul, bi_neg, bi_div, bi_64, bl_add, bl_sub, bl_mul, bl_neg, bl_div, bl_32, bi_min, bi_max, bl_min, bl_max, bq_I, bq_J, bq_A, bq_Vi, bq_Vl, bq_Vr, bq_cV, bq_cI, bq_cJ, bq_cA, bq_le, bq_lt, bq_eq, bq_z, bq_o, bq_ref, bq_nz, bq_nzJ, bq_bl, bq_blz, bq_T, bq_F, if_true, if_false, Int.reduceEq, Int.reduceLT, Int.reduceLE, Int.reduceAdd, Int.reduceSub, Int.reduceMul, Int.add_sub_cancel, li_0, li_1, li_2, li_3, li_5, li_7, li_8, li_9, li_10, li_21, li_105, li_2008, ll_0, ll_1, ll_2, ll_3, ll_5, ll_7, ll_8, ll_9, ll_10, ll_21, ll_105, ga72, ga84, ga85, ga86, ga90, ga92, ga87, ga91, ga88, ga89, gf64_4, gf64_5, gf64_6, gf64_8, gf64_9, gf64_10, gf64_14, gf70_0, gf70_1, gf70_2, gf70_3, gf71_0, gf71_1, gf71_2, gf71_3, gs74_0, gs74_1, gs74_2, gs74_3, gs100_0, gs100_1, gs100_2, gs100_3, gr64_1, gr64_2, gr64_3, gr64_7, gr64_11, gr64_12, gr64_13, gr64_15, gr64_16, gr64_17, gr64_18, gr64_19, gr64_20, gr64_21, gr64_22, gr64_23, gr70_4, gr71_4, gu73, gu99, gu93, pa72, pa84, pa85, pa86, pa90, pa92, pa87, pa91, pa88, pa89, pf64_4, pf64_5, pf64_6, pf64_8, pf64_9, pf64_10, pf64_14, pf70_0, pf70_1, pf70_2, pf70_3, pf71_0, pf71_1, pf71_2, pf71_3, ps74_0, ps74_1, ps74_2, ps74_3, ps100_0, ps100_1, ps100_2, ps100_3, s_in, s_has, s_one, s_roomOf, s_hurtOf, s_isLost, s_standOf, s_isTray, s_isSoon, s_fallen, s_isPassage, s_isRoom, s_isPassage70, s_leads70, s_isBack70, s_isPassage, s_isRoom, s_isPassage71, s_leads71, s_isBack71, s_onec, s_bitCount, s_be7170, s_be7071, u_tens77, kpC_70]
    exact ⟨_, _, rfl, cp, cs, cj, rfl, Or.inl ⟨q, rfl, rfl⟩⟩
end DE
