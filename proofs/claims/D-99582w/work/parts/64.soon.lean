/-! SPECS: what is asked of distances; the component: soonest, way, least -/
set_option maxRecDepth 100000
/-- the component's world that a question needs -/
def bCt (κ : Nat → Nat) (g : bG) (ca : Nat) (A : Int → Int) (cp : bF) : Prop :=
  bFix g ∧ bRC κ g ca A ∧ bWF A 0 ∧ bSt A 42 (A 1) ∧ cp 70 0 = 6 * A 42 + A 43 ∧ cp 70 1 = A 44 ∧ cp 70 2 = A 45 ∧ cp 70 3 = A 46
def bTt (g : bG) (A : Int → Int) : Prop := bFix g ∧ bWF A 0 ∧ bSt A 42 (A 1)
/-- an answer of the component, of the twin: an int, nothing that lasts changed -/
def bCq (κ : Nat → Nat) (cp : bF) (Y : bY) (g : bG) (n : Nat × Nat) (R : Int → Prop) : Option Value → bk_H → Prop := fun v h' => ∃ cs' cj' z, v = some (.int (bk_i z)) ∧ h' = bk_M κ (cp, cs', cj') Y g n ∧ R z
def bTq (κ : Nat → Nat) (X : bX) (tp : bF) (tj : bFJ) (g : bG) (n : Nat × Nat) (R : Int → Prop) : Option Value → bk_H → Prop := fun v h' => ∃ ts' tk' z, v = some (.int (bk_i z)) ∧ h' = bk_M κ X (tp, tj, ts', tk') g n ∧ R z
/-- why a stand is none -/
def fS (A : Int → Int) (r hu m : Int) : Int := if 0 ≤ r ∧ r ≤ A 1 - 1 then (if 0 ≤ hu ∧ hu ≤ m then 0 else -3) else -2
theorem fS_rng (A : Int → Int) (r hu m : Int) : -3 ≤ fS A r hu m ∧ fS A r hu m ≤ 0 := by
  unfold fS
  split
  · split <;> omega
  · omega
theorem fS_0 {A : Int → Int} {r hu m : Int} (h : fS A r hu m = 0) : 0 ≤ r ∧ r ≤ A 1 - 1 ∧ 0 ≤ hu ∧ hu ≤ m := by
  unfold fS at h
  split at h
  · split at h
    · omega
    · omega
  · omega
def Zc (r hu : Int) : Int → Prop := fun s => s / 6 = r ∧ s % 6 ≤ hu
def rDist (A : Int → Int) (rop : Int) (Z : Int → Prop) (s z : Int) : Prop := ∃ F f, 36 ≤ F ∧ isD (nxt A rop) (6 * A 1) Z F f ∧ z = if f s < F then f s else -1
theorem rDist_uniq {A : Int → Int} {rop s z z' : Int} {Z : Int → Prop} (hw : bWF A 0) (s0 : 0 ≤ s) (s1 : s < 6 * A 1) (h : rDist A rop Z s z) (h' : rDist A rop Z s z') : z = z' := by
  obtain ⟨F, f, a1, a2, rfl⟩ := h
  obtain ⟨F', f', b1, b2, rfl⟩ := h'
  have w2 := hw.2.1
  simp only [Int.zero_add] at w2
  have u := isD_uniq (nxt_N hw rop (Int.le_refl _)) a2 b2 (by omega) (by omega) s0 s1
  by_cases c : f s < F
  · rw [if_pos c, if_pos (u.1.mp c), u.2 c]
  · rw [if_neg c, if_neg (fun q => c (u.1.mpr q))]
/-- of a way: its passages, one by one -/
def rWay (A : Int → Int) (rop : Int) (Z : Int → Prop) (s i z : Int) : Prop := ∃ F f, 36 ≤ F ∧ isD (nxt A rop) (6 * A 1) Z F f ∧ z = if f s < F ∧ i < f s then stp (nxt A rop) f (pos (nxt A rop) f s i.toNat) else -1
theorem rWay_uniq {A : Int → Int} {rop s i z z' : Int} {Z : Int → Prop} (hw : bWF A 0) (s0 : 0 ≤ s) (s1 : s < 6 * A 1) (i0 : 0 ≤ i) (h : rWay A rop Z s i z) (h' : rWay A rop Z s i z') : z = z' := by
  obtain ⟨F, f, a1, a2, rfl⟩ := h
  obtain ⟨F', f', b1, b2, rfl⟩ := h'
  have w2 := hw.2.1
  simp only [Int.zero_add] at w2
  have hN := nxt_N hw rop (Int.le_refl (6 * A 1))
  have u := isD_uniq hN a2 b2 (by omega) (by omega) s0 s1
  by_cases c : f s < F ∧ i < f s
  · have e := u.2 c.1
    have ps := pos_is hN a2 s0 s1 c.1 i.toNat (by omega)
    rw [if_pos c, if_pos ⟨u.1.mp c.1, by omega⟩, ← pos_uniq hN a2 b2 (by omega) (by omega) s0 s1 c.1 i.toNat (by omega), stp_uniq hN a2 b2 (by omega) (by omega) ps.1 ps.2.1 (by omega)]
  · rw [if_neg c, if_neg ?_]
    intro q
    have := u.1.mpr q.1
    have e := u.2 this
    exact c ⟨this, by omega⟩
section SO
variable {κ : Nat → Nat} {cp cs : bF} {cj : bFJ} {Y : bY} {X : bX} {g : bG} {n : Nat × Nat} {ca : Nat} {A : Int → Int} {s p v r hu : Int} {D : Nat} {N : Int → Int → Int}
theorem s_standFault (hF : bFix g) (hc : bRC κ g ca A) (hw : bWF A 0) {m : Int} (h1 : -2147483648 ≤ r) (h2 : r < 2147483648) (h3 : -2147483648 ≤ hu) (h4 : hu < 2147483648) (h5 : 0 ≤ m) (h6 : m < 10) (hD : 3 ≤ D) :
    bk_call D 44 [.ref 64, .int (bk_i r), .int (bk_i hu), .int (bk_i m)] (bk_M κ X Y g n) = some (some (.int (bk_i (fS A r hu m))), bk_M κ X Y g n) := by
  obtain ⟨d, rfl⟩ := dep hD
  have hc' := hc
  obtain ⟨c0, c1, c2, c3, c4, c5, c6, c7, c8, ⟨tw, ctw, htw⟩, cb, ce, cd, cw, cwp, hca, -, -⟩ := hc
  have w1 := hw.1
  have w2 := hw.2.1
  simp only [Int.zero_add] at w1 w2
  unfold fS
  rw [kX0_standFault, eX0_standFault_0]
  simp (disch := first | assumption | omega) only [c0, c1, c2, c3, c4, c5, c6, c7, c8, ctw, cb, ce, cd, cw, cwp, bi_add, bi_sub, bi_mul, bi_neg, bi_div, bi_64, bl_add, bl_sub, bl_mul, bl_neg, bl_div, bl_32, bi_min, bi_max, bl_min, bl_max, bq_I, bq_J, bq_A, bq_Vi, bq_Vl, bq_Vr, bq_cV, bq_cI, bq_cJ, bq_cA, bq_le, bq_lt, bq_eq, bq_z, bq_o, bq_ref, bq_nz, bq_nzJ, bq_bl, bq_blz, bq_T, bq_F, if_true, if_false, Int.reduceEq, Int.reduceLT, Int.reduceLE, Int.reduceAdd, Int.reduceSub, Int.reduceMul, Int.add_sub_cancel, li_0, li_1, li_2, li_3, li_5, li_32, li_44, ll_0, ll_1, ll_2, ll_3, ll_5, ll_32, ll_44, ga72, ga84, ga85, ga86, ga90, ga92, ga87, ga91, ga88, ga89, gf64_4, gf64_5, gf64_6, gf64_8, gf64_9, gf64_10, gf64_14, gf70_0, gf70_1, gf70_2, gf70_3, gf71_0, gf71_1, gf71_2, gf71_3, gs74_0, gs74_1, gs74_2, gs74_3, gs100_0, gs100_1, gs100_2, gs100_3, gr64_1, gr64_2, gr64_3, gr64_7, gr64_11, gr64_12, gr64_13, gr64_15, gr64_16, gr64_17, gr64_18, gr64_19, gr64_20, gr64_21, gr64_22, gr64_23, gr70_4, gr71_4, gu73, gu99, gu93, pa72, pa84, pa85, pa86, pa90, pa92, pa87, pa91, pa88, pa89, pf64_4, pf64_5, pf64_6, pf64_8, pf64_9, pf64_10, pf64_14, pf70_0, pf70_1, pf70_2, pf70_3, pf71_0, pf71_1, pf71_2, pf71_3, ps74_0, ps74_1, ps74_2, ps74_3, ps100_0, ps100_1, ps100_2, ps100_3, s_in, s_has, s_one, s_roomOf, s_hurtOf, s_isLost, s_standOf, s_isTray, s_isSoon, s_fallen, s_isPassage, s_isRoom, s_isPassage70, s_leads70, s_isBack70, s_isPassage, s_isRoom, s_isPassage71, s_leads71, s_isBack71]
  by_cases q : 0 ≤ r ∧ r ≤ A 1 - 1
  · rw [if_pos q, if_pos q]
    by_cases q2 : 0 ≤ hu ∧ hu ≤ m
    · rw [if_pos q2, if_pos q2]
    · rw [if_neg q2, if_neg q2]
  · rw [if_neg q, if_neg q]
theorem s_comingFault (hF : bFix g) (hc : bRC κ g ca A) (hw : bWF A 0) (h1 : -2147483648 ≤ r) (h2 : r < 2147483648) (h3 : -2147483648 ≤ hu) (h4 : hu < 2147483648) (hD : 3 ≤ D) :
    bk_call D 31 [.ref 64, .int (bk_i r), .int (bk_i hu)] (bk_M κ X Y g n) = some (some (.int (bk_i (fS A r hu 4))), bk_M κ X Y g n) := by
  obtain ⟨d, rfl⟩ := dep hD
  have hc' := hc
  obtain ⟨c0, c1, c2, c3, c4, c5, c6, c7, c8, ⟨tw, ctw, htw⟩, cb, ce, cd, cw, cwp, hca, -, -⟩ := hc
  have w1 := hw.1
  have w2 := hw.2.1
  simp only [Int.zero_add] at w1 w2
  unfold fS
  rw [kX0_comingFault, eX0_comingFault_0]
  simp (disch := first | assumption | omega) only [c0, c1, c2, c3, c4, c5, c6, c7, c8, ctw, cb, ce, cd, cw, cwp, bi_add, bi_sub, bi_mul, bi_neg, bi_div, bi_64, bl_add, bl_sub, bl_mul, bl_neg, bl_div, bl_32, bi_min, bi_max, bl_min, bl_max, bq_I, bq_J, bq_A, bq_Vi, bq_Vl, bq_Vr, bq_cV, bq_cI, bq_cJ, bq_cA, bq_le, bq_lt, bq_eq, bq_z, bq_o, bq_ref, bq_nz, bq_nzJ, bq_bl, bq_blz, bq_T, bq_F, if_true, if_false, Int.reduceEq, Int.reduceLT, Int.reduceLE, Int.reduceAdd, Int.reduceSub, Int.reduceMul, Int.add_sub_cancel, li_0, li_1, li_2, li_3, li_4, li_5, li_31, li_32, ll_0, ll_1, ll_2, ll_3, ll_4, ll_5, ll_31, ll_32, ga72, ga84, ga85, ga86, ga90, ga92, ga87, ga91, ga88, ga89, gf64_4, gf64_5, gf64_6, gf64_8, gf64_9, gf64_10, gf64_14, gf70_0, gf70_1, gf70_2, gf70_3, gf71_0, gf71_1, gf71_2, gf71_3, gs74_0, gs74_1, gs74_2, gs74_3, gs100_0, gs100_1, gs100_2, gs100_3, gr64_1, gr64_2, gr64_3, gr64_7, gr64_11, gr64_12, gr64_13, gr64_15, gr64_16, gr64_17, gr64_18, gr64_19, gr64_20, gr64_21, gr64_22, gr64_23, gr70_4, gr71_4, gu73, gu99, gu93, pa72, pa84, pa85, pa86, pa90, pa92, pa87, pa91, pa88, pa89, pf64_4, pf64_5, pf64_6, pf64_8, pf64_9, pf64_10, pf64_14, pf70_0, pf70_1, pf70_2, pf70_3, pf71_0, pf71_1, pf71_2, pf71_3, ps74_0, ps74_1, ps74_2, ps74_3, ps100_0, ps100_1, ps100_2, ps100_3, s_in, s_has, s_one, s_roomOf, s_hurtOf, s_isLost, s_standOf, s_isTray, s_isSoon, s_fallen, s_isPassage, s_isRoom, s_isPassage70, s_leads70, s_isBack70, s_isPassage, s_isRoom, s_isPassage71, s_leads71, s_isBack71]
  by_cases q : 0 ≤ r ∧ r ≤ A 1 - 1
  · rw [if_pos q, if_pos q]
    by_cases q2 : 0 ≤ hu ∧ hu ≤ 4
    · rw [if_pos q2, if_pos q2]
    · rw [if_neg q2, if_neg q2]
  · rw [if_neg q, if_neg q]
theorem s_laysNow (h : bCt κ g ca A cp) (hD : 908 ≤ D) : ∃ cs', (∀ a, a ≠ 84 → a ≠ ca + 4 → cs' a = cs a) ∧ (∀ s p, 0 ≤ s → s < 36 → 0 ≤ p → p < A 2 → cs' 84 (8 * s + p) = nxt A (A 44) s p)
      ∧ bk_call D 34 [.ref 64] (bk_M κ (cp, cs, cj) Y g n) = some (none, bk_M κ (cp, cs', cj) Y g n) := by
  obtain ⟨d, rfl⟩ := dep hD
  obtain ⟨hF, hc, hw, hs, n0, n1, n2, n3⟩ := h
  have w4 := hw.2.2.2.1
  simp only [Int.zero_add] at w4
  obtain ⟨cs', f, vl, e⟩ := s_laysAll70 (κ := κ) (cp := cp) (cs := cs) (cj := cj) (Y := Y) (n := n) (D := d) hF hc hw hs.2.2.2.2.2.2.1 hs.2.2.2.2.2.2.2 n2 0 (by omega)
  refine ⟨cs', f, fun s p s0 s1 p0 p1 => ?_, ?_⟩
  · rw [vl s p s0 s1 p0 p1, bt_0 p0 (by omega), if_neg (by decide), n1]
  · obtain ⟨c0, c1, c2, c3, c4, c5, c6, c7, c8, ⟨tw, ctw, htw⟩, cb, ce, cd, cw, cwp, hca, -, -⟩ := hc
    rw [kX0_laysNow, eX0_laysNow_0]
    simp (disch := first | assumption | omega) only [c0, c1, c2, c3, c4, c5, c6, c7, c8, ctw, cb, ce, cd, cw, cwp, e, bi_add, bi_sub, bi_mul, bi_neg, bi_div, bi_64, bl_add, bl_sub, bl_mul, bl_neg, bl_div, bl_32, bi_min, bi_max, bl_min, bl_max, bq_I, bq_J, bq_A, bq_Vi, bq_Vl, bq_Vr, bq_cV, bq_cI, bq_cJ, bq_cA, bq_le, bq_lt, bq_eq, bq_z, bq_o, bq_ref, bq_nz, bq_nzJ, bq_bl, bq_blz, bq_T, bq_F, if_true, if_false, Int.reduceEq, Int.reduceLT, Int.reduceLE, Int.reduceAdd, Int.reduceSub, Int.reduceMul, Int.add_sub_cancel, li_0, li_1, li_34, li_35, ll_0, ll_1, ll_34, ll_35, ga72, ga84, ga85, ga86, ga90, ga92, ga87, ga91, ga88, ga89, gf64_4, gf64_5, gf64_6, gf64_8, gf64_9, gf64_10, gf64_14, gf70_0, gf70_1, gf70_2, gf70_3, gf71_0, gf71_1, gf71_2, gf71_3, gs74_0, gs74_1, gs74_2, gs74_3, gs100_0, gs100_1, gs100_2, gs100_3, gr64_1, gr64_2, gr64_3, gr64_7, gr64_11, gr64_12, gr64_13, gr64_15, gr64_16, gr64_17, gr64_18, gr64_19, gr64_20, gr64_21, gr64_22, gr64_23, gr70_4, gr71_4, gu73, gu99, gu93, pa72, pa84, pa85, pa86, pa90, pa92, pa87, pa91, pa88, pa89, pf64_4, pf64_5, pf64_6, pf64_8, pf64_9, pf64_10, pf64_14, pf70_0, pf70_1, pf70_2, pf70_3, pf71_0, pf71_1, pf71_2, pf71_3, ps74_0, ps74_1, ps74_2, ps74_3, ps100_0, ps100_1, ps100_2, ps100_3, s_in, s_has, s_one, s_roomOf, s_hurtOf, s_isLost, s_standOf, s_isTray, s_isSoon, s_fallen, s_isPassage, s_isRoom, s_isPassage70, s_leads70, s_isBack70, s_isPassage, s_isRoom, s_isPassage71, s_leads71, s_isBack71]
theorem s_laysComing (hF : bFix g) (hc : bRC κ g ca A) (h0 : 0 ≤ A 2) (h1 : A 2 ≤ 8) (hN : ∀ s p, 0 ≤ s → s < 36 → 0 ≤ p → p < A 2 → cs 84 (8 * s + p) = N s p) (hr : isN N 36) (hdom : ∀ s p, N s p ≠ -1 → p < A 2) (h3 : -2147483648 ≤ r) (h4 : r < 2147483648) (h5 : -2147483648 ≤ hu) (h6 : hu < 2147483648) (h7 : 0 ≤ cp 70 0) (h8 : cp 70 0 < 36) (hD : 3 ≤ D) :
    ∃ cs', (∀ a, a ≠ 85 → cs' a = cs a) ∧ isD N 36 (Zc r hu) 536870912 (cs' 85)
      ∧ bk_call D 36 [.ref 64, .int (bk_i r), .int (bk_i hu)] (bk_M κ (cp, cs, cj) Y g n) = some (some (.int (bk_i (if cs' 85 (cp 70 0) < 536870912 then cs' 85 (cp 70 0) else -1))), bk_M κ (cp, cs', cj) Y g n) := by
  obtain ⟨d, rfl⟩ := dep hD
  have hc' := hc
  obtain ⟨c0, c1, c2, c3, c4, c5, c6, c7, c8, ⟨tw, ctw, htw⟩, cb, ce, cd, cw, cwp, hca, -, -⟩ := hc
  have goal : bk_wp (bk_call (d + 1) 36 [.ref 64, .int (bk_i r), .int (bk_i hu)] (bk_M κ (cp, cs, cj) Y g n)) (fun v h' => ∃ cs', v = some (.int (bk_i (if cs' 85 (cp 70 0) < 536870912 then cs' 85 (cp 70 0) else -1))) ∧ h' = bk_M κ (cp, cs', cj) Y g n ∧ (∀ a, a ≠ 85 → cs' a = cs a) ∧ isD N 36 (Zc r hu) 536870912 (cs' 85)) := by
    rw [kX0_laysComing, eX0_laysComing_0]
    refine bk_loop (σ := bF) (fun s x => bk_den TX0_laysComing (bk_call d) 2 [.ref 64, .int (bk_i r), .int (bk_i hu), .int (bk_i s), bk_u] [] (bk_M κ (cp, x, cj) Y g n))
      (fun s x => 0 ≤ s ∧ (∀ a, a ≠ 85 → x a = cs a) ∧ ∀ t, 0 ≤ t → t < s → x 85 t = if t / 6 = r ∧ t % 6 ≤ hu then 0 else 536870912) 36 ?_ ?_ 0 cs (by omega) ⟨by omega, fun _ _ => rfl, fun t _ _ => by omega⟩
    · rintro s cs1 hs ⟨s0, fr, vl⟩ cont
      rw [eX0_laysComing_2]
      simp (disch := first | assumption | omega) only [if_neg (show ¬ 36 ≤ s by omega), eX0_laysComing_33, eX0_laysComing_35, bi_add, bi_sub, bi_mul, bi_neg, bi_div, bi_64, bl_add, bl_sub, bl_mul, bl_neg, bl_div, bl_32, bi_min, bi_max, bl_min, bl_max, bq_I, bq_J, bq_A, bq_Vi, bq_Vl, bq_Vr, bq_cV, bq_cI, bq_cJ, bq_cA, bq_le, bq_lt, bq_eq, bq_z, bq_o, bq_ref, bq_nz, bq_nzJ, bq_bl, bq_blz, bq_T, bq_F, if_true, if_false, Int.reduceEq, Int.reduceLT, Int.reduceLE, Int.reduceAdd, Int.reduceSub, Int.reduceMul, Int.add_sub_cancel, li_0, li_1, li_2, li_12, li_14, li_33, li_35, li_36, li_37, li_44, li_53, li_100, li_536870912, ll_0, ll_1, ll_2, ll_12, ll_14, ll_33, ll_35, ll_36, ll_37, ll_44, ll_53, ll_100, ga72, ga84, ga85, ga86, ga90, ga92, ga87, ga91, ga88, ga89, gf64_4, gf64_5, gf64_6, gf64_8, gf64_9, gf64_10, gf64_14, gf70_0, gf70_1, gf70_2, gf70_3, gf71_0, gf71_1, gf71_2, gf71_3, gs74_0, gs74_1, gs74_2, gs74_3, gs100_0, gs100_1, gs100_2, gs100_3, gr64_1, gr64_2, gr64_3, gr64_7, gr64_11, gr64_12, gr64_13, gr64_15, gr64_16, gr64_17, gr64_18, gr64_19, gr64_20, gr64_21, gr64_22, gr64_23, gr70_4, gr71_4, gu73, gu99, gu93, pa72, pa84, pa85, pa86, pa90, pa92, pa87, pa91, pa88, pa89, pf64_4, pf64_5, pf64_6, pf64_8, pf64_9, pf64_10, pf64_14, pf70_0, pf70_1, pf70_2, pf70_3, pf71_0, pf71_1, pf71_2, pf71_3, ps74_0, ps74_1, ps74_2, ps74_3, ps100_0, ps100_1, ps100_2, ps100_3, s_in, s_has, s_one, s_roomOf, s_hurtOf, s_isLost, s_standOf, s_isTray, s_isSoon, s_fallen, s_isPassage, s_isRoom, s_isPassage70, s_leads70, s_isBack70, s_isPassage, s_isRoom, s_isPassage71, s_leads71, s_isBack71]
      have fin : ∀ val, (val = if s / 6 = r ∧ s % 6 ≤ hu then 0 else 536870912) → bk_wp (bk_den TX0_laysComing (bk_call d) 2 [.ref 64, .int (bk_i r), .int (bk_i hu), .int (bk_i (s + 1)), bk_u] [] (bk_M κ (cp, bU cs1 85 s val, cj) Y g n)) (fun v h' => ∃ cs', v = some (.int (bk_i (if cs' 85 (cp 70 0) < 536870912 then cs' 85 (cp 70 0) else -1))) ∧ h' = bk_M κ (cp, cs', cj) Y g n ∧ (∀ a, a ≠ 85 → cs' a = cs a) ∧ isD N 36 (Zc r hu) 536870912 (cs' 85)) := by
        intro val hv
        refine cont (bU cs1 85 s val) ⟨by omega, fun a ha => ?_, fun t t0 t1 => ?_⟩
        · funext j; rw [bU_ne _ _ _ _ _ _ ha, fr a ha]
        · rw [bU_same]
          by_cases c : t = s
          · subst c; rw [if_pos rfl]; exact hv
          · rw [if_neg c]; exact vl t t0 (by omega)
      by_cases q : s / 6 = r
      · rw [if_pos q]
        by_cases q2 : hu < s % 6
        · rw [if_pos q2]; exact fin _ (by rw [if_neg (by omega)])
        · rw [if_neg q2]; exact fin _ (by rw [if_pos ⟨q, by omega⟩])
      · rw [if_neg q]; exact fin _ (by rw [if_neg (by omega)])
    · rintro cs1 ⟨s0, fr, vl⟩
      rw [eX0_laysComing_2]
      simp (disch := first | assumption | omega) only [if_pos (Int.le_refl 36), bi_add, bi_sub, bi_mul, bi_neg, bi_div, bi_64, bl_add, bl_sub, bl_mul, bl_neg, bl_div, bl_32, bi_min, bi_max, bl_min, bl_max, bq_I, bq_J, bq_A, bq_Vi, bq_Vl, bq_Vr, bq_cV, bq_cI, bq_cJ, bq_cA, bq_le, bq_lt, bq_eq, bq_z, bq_o, bq_ref, bq_nz, bq_nzJ, bq_bl, bq_blz, bq_T, bq_F, if_true, if_false, Int.reduceEq, Int.reduceLT, Int.reduceLE, Int.reduceAdd, Int.reduceSub, Int.reduceMul, Int.add_sub_cancel, li_0, li_1, li_2, li_12, li_14, li_33, li_35, li_36, li_37, li_44, li_53, li_100, li_536870912, ll_0, ll_1, ll_2, ll_12, ll_14, ll_33, ll_35, ll_36, ll_37, ll_44, ll_53, ll_100, ga72, ga84, ga85, ga86, ga90, ga92, ga87, ga91, ga88, ga89, gf64_4, gf64_5, gf64_6, gf64_8, gf64_9, gf64_10, gf64_14, gf70_0, gf70_1, gf70_2, gf70_3, gf71_0, gf71_1, gf71_2, gf71_3, gs74_0, gs74_1, gs74_2, gs74_3, gs100_0, gs100_1, gs100_2, gs100_3, gr64_1, gr64_2, gr64_3, gr64_7, gr64_11, gr64_12, gr64_13, gr64_15, gr64_16, gr64_17, gr64_18, gr64_19, gr64_20, gr64_21, gr64_22, gr64_23, gr70_4, gr71_4, gu73, gu99, gu93, pa72, pa84, pa85, pa86, pa90, pa92, pa87, pa91, pa88, pa89, pf64_4, pf64_5, pf64_6, pf64_8, pf64_9, pf64_10, pf64_14, pf70_0, pf70_1, pf70_2, pf70_3, pf71_0, pf71_1, pf71_2, pf71_3, ps74_0, ps74_1, ps74_2, ps74_3, ps100_0, ps100_1, ps100_2, ps100_3, s_in, s_has, s_one, s_roomOf, s_hurtOf, s_isLost, s_standOf, s_isTray, s_isSoon, s_fallen, s_isPassage, s_isRoom, s_isPassage70, s_leads70, s_isBack70, s_isPassage, s_isRoom, s_isPassage71, s_leads71, s_isBack71]
      have I0 : dInv N 36 (Zc r hu) 536870912 (cs1 85) := by
        refine ⟨fun t t0 t1 => ?_, fun t t0 t1 z => ?_, fun t t0 t1 z => ?_⟩
        · rw [vl t t0 t1]; split <;> omega
        · rw [vl t t0 t1]; exact if_pos z
        · left; rw [vl t t0 t1]; exact if_neg z
      refine while_X0_laysComing (κ := κ) (cp := cp) (cs := cs1) (cj := cj) (Y := Y) (n := n) (D := d) (N := N) (Z := Zc r hu) hF hc' h0 h1 (fun s p a1 a2 a3 a4 => by rw [fr 84 (by decide)]; exact hN s p a1 a2 a3 a4) hr hdom I0 (by omega) _ _ _ fun cs2 w fr2 hd => ?_
      have b := hd.1.1 (cp 70 0) h7 h8
      rw [eX0_laysComing_44]
      simp (disch := first | assumption | omega) only [bi_add, bi_sub, bi_mul, bi_neg, bi_div, bi_64, bl_add, bl_sub, bl_mul, bl_neg, bl_div, bl_32, bi_min, bi_max, bl_min, bl_max, bq_I, bq_J, bq_A, bq_Vi, bq_Vl, bq_Vr, bq_cV, bq_cI, bq_cJ, bq_cA, bq_le, bq_lt, bq_eq, bq_z, bq_o, bq_ref, bq_nz, bq_nzJ, bq_bl, bq_blz, bq_T, bq_F, if_true, if_false, Int.reduceEq, Int.reduceLT, Int.reduceLE, Int.reduceAdd, Int.reduceSub, Int.reduceMul, Int.add_sub_cancel, li_0, li_1, li_2, li_12, li_14, li_33, li_35, li_36, li_37, li_44, li_53, li_100, li_536870912, ll_0, ll_1, ll_2, ll_12, ll_14, ll_33, ll_35, ll_36, ll_37, ll_44, ll_53, ll_100, ga72, ga84, ga85, ga86, ga90, ga92, ga87, ga91, ga88, ga89, gf64_4, gf64_5, gf64_6, gf64_8, gf64_9, gf64_10, gf64_14, gf70_0, gf70_1, gf70_2, gf70_3, gf71_0, gf71_1, gf71_2, gf71_3, gs74_0, gs74_1, gs74_2, gs74_3, gs100_0, gs100_1, gs100_2, gs100_3, gr64_1, gr64_2, gr64_3, gr64_7, gr64_11, gr64_12, gr64_13, gr64_15, gr64_16, gr64_17, gr64_18, gr64_19, gr64_20, gr64_21, gr64_22, gr64_23, gr70_4, gr71_4, gu73, gu99, gu93, pa72, pa84, pa85, pa86, pa90, pa92, pa87, pa91, pa88, pa89, pf64_4, pf64_5, pf64_6, pf64_8, pf64_9, pf64_10, pf64_14, pf70_0, pf70_1, pf70_2, pf70_3, pf71_0, pf71_1, pf71_2, pf71_3, ps74_0, ps74_1, ps74_2, ps74_3, ps100_0, ps100_1, ps100_2, ps100_3, s_in, s_has, s_one, s_roomOf, s_hurtOf, s_isLost, s_standOf, s_isTray, s_isSoon, s_fallen, s_isPassage, s_isRoom, s_isPassage70, s_leads70, s_isBack70, s_isPassage, s_isRoom, s_isPassage71, s_leads71, s_isBack71]
      by_cases q : cs2 85 (cp 70 0) < 536870912
      · rw [if_pos q]
        exact ⟨_, _, rfl, cs2, by rw [if_pos q], rfl, fun a ha => by rw [fr2 a ha, fr a ha], hd⟩
      · rw [if_neg q]
        exact ⟨_, _, rfl, cs2, by rw [if_neg q], rfl, fun a ha => by rw [fr2 a ha, fr a ha], hd⟩
  obtain ⟨z, h', e, cs', rfl, rfl, h1, h2⟩ := goal
  exact ⟨cs', h1, h2, e⟩
theorem bCt_st (h : bCt κ g ca A cp) : 0 ≤ cp 70 0 ∧ cp 70 0 < 6 * A 1 ∧ A 1 ≤ 6 ∧ 1 ≤ A 1 ∧ 0 ≤ A 2 ∧ A 2 ≤ 8 := by
  obtain ⟨hF, hc, hw, hs, n0, n1, n2, n3⟩ := h
  have w1 := hw.1
  have w2 := hw.2.1
  have w3 := hw.2.2.1
  have w4 := hw.2.2.2.1
  simp only [Int.zero_add] at w1 w2 w3 w4
  have a1 := hs.1
  have a2 := hs.2.1
  have a3 := hs.2.2.1
  have a4 := hs.2.2.2.1
  simp only [show (42 : Int) + 1 = 43 from rfl] at a3 a4
  omega
theorem s_soonestTo (h : bCt κ g ca A cp) (h3 : -2147483648 ≤ r) (h4 : r < 2147483648) (h5 : -2147483648 ≤ hu) (h6 : hu < 2147483648) (hD : 910 ≤ D) :
    ∃ cs', (∀ a, a ≠ 84 → a ≠ 85 → a ≠ ca + 4 → cs' a = cs a) ∧ (∀ s p, 0 ≤ s → s < 36 → 0 ≤ p → p < A 2 → cs' 84 (8 * s + p) = nxt A (A 44) s p) ∧ isD (nxt A (A 44)) 36 (Zc r hu) 536870912 (cs' 85)
      ∧ bk_call D 33 [.ref 64, .int (bk_i r), .int (bk_i hu)] (bk_M κ (cp, cs, cj) Y g n) = some (some (.int (bk_i (if cs' 85 (cp 70 0) < 536870912 then cs' 85 (cp 70 0) else -1))), bk_M κ (cp, cs', cj) Y g n) := by
  obtain ⟨d, rfl⟩ := dep hD
  have st := bCt_st h
  obtain ⟨cs1, f1, v1, e1⟩ := s_laysNow (cs := cs) (cj := cj) (Y := Y) (n := n) (D := d) h (by omega)
  obtain ⟨hF, hc, hw, hs, n0, n1, n2, n3⟩ := h
  obtain ⟨cs2, f2, i2, e2⟩ := s_laysComing (κ := κ) (cp := cp) (cs := cs1) (cj := cj) (Y := Y) (n := n) (r := r) (hu := hu) (D := d) (N := nxt A (A 44)) hF hc (by omega) (by omega) v1 (nxt_N hw _ (by omega)) (fun s p q => (nxt_dom q).2.1) h3 h4 h5 h6 (by omega) (by omega) (by omega)
  refine ⟨cs2, fun a a1 a2 a3 => by rw [f2 a a2, f1 a a1 a3], fun s p a1 a2 a3 a4 => by rw [f2 84 (by decide)]; exact v1 s p a1 a2 a3 a4, i2, ?_⟩
  obtain ⟨c0, c1, c2, c3, c4, c5, c6, c7, c8, ⟨tw, ctw, htw⟩, cb, ce, cd, cw, cwp, hca, -, -⟩ := hc
  rw [kX0_soonestTo, eX0_soonestTo_0]
  simp (disch := first | assumption | omega) only [c0, c1, c2, c3, c4, c5, c6, c7, c8, ctw, cb, ce, cd, cw, cwp, e1, e2, bi_add, bi_sub, bi_mul, bi_neg, bi_div, bi_64, bl_add, bl_sub, bl_mul, bl_neg, bl_div, bl_32, bi_min, bi_max, bl_min, bl_max, bq_I, bq_J, bq_A, bq_Vi, bq_Vl, bq_Vr, bq_cV, bq_cI, bq_cJ, bq_cA, bq_le, bq_lt, bq_eq, bq_z, bq_o, bq_ref, bq_nz, bq_nzJ, bq_bl, bq_blz, bq_T, bq_F, if_true, if_false, Int.reduceEq, Int.reduceLT, Int.reduceLE, Int.reduceAdd, Int.reduceSub, Int.reduceMul, Int.add_sub_cancel, li_0, li_1, li_33, li_34, li_36, ll_0, ll_1, ll_33, ll_34, ll_36, ga72, ga84, ga85, ga86, ga90, ga92, ga87, ga91, ga88, ga89, gf64_4, gf64_5, gf64_6, gf64_8, gf64_9, gf64_10, gf64_14, gf70_0, gf70_1, gf70_2, gf70_3, gf71_0, gf71_1, gf71_2, gf71_3, gs74_0, gs74_1, gs74_2, gs74_3, gs100_0, gs100_1, gs100_2, gs100_3, gr64_1, gr64_2, gr64_3, gr64_7, gr64_11, gr64_12, gr64_13, gr64_15, gr64_16, gr64_17, gr64_18, gr64_19, gr64_20, gr64_21, gr64_22, gr64_23, gr70_4, gr71_4, gu73, gu99, gu93, pa72, pa84, pa85, pa86, pa90, pa92, pa87, pa91, pa88, pa89, pf64_4, pf64_5, pf64_6, pf64_8, pf64_9, pf64_10, pf64_14, pf70_0, pf70_1, pf70_2, pf70_3, pf71_0, pf71_1, pf71_2, pf71_3, ps74_0, ps74_1, ps74_2, ps74_3, ps100_0, ps100_1, ps100_2, ps100_3, s_in, s_has, s_one, s_roomOf, s_hurtOf, s_isLost, s_standOf, s_isTray, s_isSoon, s_fallen, s_isPassage, s_isRoom, s_isPassage70, s_leads70, s_isBack70, s_isPassage, s_isRoom, s_isPassage71, s_leads71, s_isBack71]
def rSoon (A : Int → Int) (r hu z : Int) : Prop := (fS A r hu 4 ≠ 0 ∧ z = fS A r hu 4) ∨ (fS A r hu 4 = 0 ∧ rDist A (A 44) (Zc r hu) (6 * A 42 + A 43) z)
theorem c_soonest (h : bCt κ g ca A cp) (h3 : -2147483648 ≤ r) (h4 : r < 2147483648) (h5 : -2147483648 ≤ hu) (h6 : hu < 2147483648) (hD : 912 ≤ D) :
    bk_wp (bk_call D 30 [.ref 64, .int (bk_i r), .int (bk_i hu)] (bk_M κ (cp, cs, cj) Y g n)) (bCq κ cp Y g n (rSoon A r hu)) := by
  obtain ⟨d, rfl⟩ := dep hD
  have st := bCt_st h
  have fr := fS_rng A r hu 4
  obtain ⟨cs1, f1, v1, i1, e1⟩ := s_soonestTo (cs := cs) (cj := cj) (Y := Y) (n := n) (D := d) h h3 h4 h5 h6 (by omega)
  obtain ⟨hF, hc, hw, hs, n0, n1, n2, n3⟩ := h
  have ef := s_comingFault (κ := κ) (X := (cp, cs, cj)) (Y := Y) (n := n) (D := d) hF hc hw h3 h4 h5 h6 (by omega)
  obtain ⟨c0, c1, c2, c3, c4, c5, c6, c7, c8, ⟨tw, ctw, htw⟩, cb, ce, cd, cw, cwp, hca, -, -⟩ := hc
  rw [kX0_soonest, eX0_soonest_0]
  simp (disch := first | assumption | omega) only [c0, c1, c2, c3, c4, c5, c6, c7, c8, ctw, cb, ce, cd, cw, cwp, ef, e1, bi_add, bi_sub, bi_mul, bi_neg, bi_div, bi_64, bl_add, bl_sub, bl_mul, bl_neg, bl_div, bl_32, bi_min, bi_max, bl_min, bl_max, bq_I, bq_J, bq_A, bq_Vi, bq_Vl, bq_Vr, bq_cV, bq_cI, bq_cJ, bq_cA, bq_le, bq_lt, bq_eq, bq_z, bq_o, bq_ref, bq_nz, bq_nzJ, bq_bl, bq_blz, bq_T, bq_F, if_true, if_false, Int.reduceEq, Int.reduceLT, Int.reduceLE, Int.reduceAdd, Int.reduceSub, Int.reduceMul, Int.add_sub_cancel, li_0, li_1, li_30, li_31, li_33, ll_0, ll_1, ll_30, ll_31, ll_33, ga72, ga84, ga85, ga86, ga90, ga92, ga87, ga91, ga88, ga89, gf64_4, gf64_5, gf64_6, gf64_8, gf64_9, gf64_10, gf64_14, gf70_0, gf70_1, gf70_2, gf70_3, gf71_0, gf71_1, gf71_2, gf71_3, gs74_0, gs74_1, gs74_2, gs74_3, gs100_0, gs100_1, gs100_2, gs100_3, gr64_1, gr64_2, gr64_3, gr64_7, gr64_11, gr64_12, gr64_13, gr64_15, gr64_16, gr64_17, gr64_18, gr64_19, gr64_20, gr64_21, gr64_22, gr64_23, gr70_4, gr71_4, gu73, gu99, gu93, pa72, pa84, pa85, pa86, pa90, pa92, pa87, pa91, pa88, pa89, pf64_4, pf64_5, pf64_6, pf64_8, pf64_9, pf64_10, pf64_14, pf70_0, pf70_1, pf70_2, pf70_3, pf71_0, pf71_1, pf71_2, pf71_3, ps74_0, ps74_1, ps74_2, ps74_3, ps100_0, ps100_1, ps100_2, ps100_3, s_in, s_has, s_one, s_roomOf, s_hurtOf, s_isLost, s_standOf, s_isTray, s_isSoon, s_fallen, s_isPassage, s_isRoom, s_isPassage70, s_leads70, s_isBack70, s_isPassage, s_isRoom, s_isPassage71, s_leads71, s_isBack71]
  by_cases q : fS A r hu 4 = 0
  · rw [if_pos q]
    exact ⟨_, _, rfl, cs1, cj, _, rfl, rfl, Or.inr ⟨q, _, _, by decide, isD_sub i1 (by omega), by rw [n0]⟩⟩
  · rw [if_neg q]
    exact ⟨_, _, rfl, cs, cj, _, rfl, rfl, Or.inl ⟨q, rfl⟩⟩
theorem s_laysPath (hF : bFix g) (hc : bRC κ g ca A) (h0 : 0 ≤ A 2) (h1 : A 2 ≤ 8) {Z : Int → Prop} (hN : ∀ s p, 0 ≤ s → s < 36 → 0 ≤ p → p < A 2 → cs 84 (8 * s + p) = N s p) (hr : isN N 36) (hdom : ∀ s p, N s p ≠ -1 → p < A 2) (hd : isD N 36 Z 536870912 (cs 85)) (h7 : 0 ≤ cp 70 0) (h8 : cp 70 0 < 36) (hf : cs 85 (cp 70 0) < 536870912) (hD : 1 ≤ D) :
    ∃ cs', (∀ a, a ≠ 64 → a ≠ 86 → cs' a = cs a) ∧ cs' 64 14 = cs 85 (cp 70 0) ∧ (∀ k : Int, 0 ≤ k → k < cs 85 (cp 70 0) → cs' 86 k = stp N (cs 85) (pos N (cs 85) (cp 70 0) k.toNat))
      ∧ bk_call D 39 [.ref 64] (bk_M κ (cp, cs, cj) Y g n) = some (none, bk_M κ (cp, cs', cj) Y g n) := by
  obtain ⟨d, rfl⟩ := dep hD
  have b0 := hd.1.1 _ h7 h8
  have sm := isD_small hr hd h7 h8 hf
  have goal : bk_wp (bk_call (d + 1) 39 [.ref 64] (bk_M κ (cp, cs, cj) Y g n)) (fun v h' => ∃ cs', v = none ∧ h' = bk_M κ (cp, cs', cj) Y g n ∧ (∀ a, a ≠ 64 → a ≠ 86 → cs' a = cs a) ∧ cs' 64 14 = cs 85 (cp 70 0) ∧ (∀ k : Int, 0 ≤ k → k < cs 85 (cp 70 0) → cs' 86 k = stp N (cs 85) (pos N (cs 85) (cp 70 0) k.toNat))) := by
    rw [kX0_laysPath, eX0_laysPath_0]
    simp (disch := first | assumption | omega) only [bi_add, bi_sub, bi_mul, bi_neg, bi_div, bi_64, bl_add, bl_sub, bl_mul, bl_neg, bl_div, bl_32, bi_min, bi_max, bl_min, bl_max, bq_I, bq_J, bq_A, bq_Vi, bq_Vl, bq_Vr, bq_cV, bq_cI, bq_cJ, bq_cA, bq_le, bq_lt, bq_eq, bq_z, bq_o, bq_ref, bq_nz, bq_nzJ, bq_bl, bq_blz, bq_T, bq_F, if_true, if_false, Int.reduceEq, Int.reduceLT, Int.reduceLE, Int.reduceAdd, Int.reduceSub, Int.reduceMul, Int.add_sub_cancel, li_0, li_1, li_2, li_8, li_11, li_12, li_13, li_14, li_24, li_39, li_66, li_100, ll_0, ll_1, ll_2, ll_8, ll_11, ll_12, ll_13, ll_14, ll_24, ll_39, ll_66, ll_100, ga72, ga84, ga85, ga86, ga90, ga92, ga87, ga91, ga88, ga89, gf64_4, gf64_5, gf64_6, gf64_8, gf64_9, gf64_10, gf64_14, gf70_0, gf70_1, gf70_2, gf70_3, gf71_0, gf71_1, gf71_2, gf71_3, gs74_0, gs74_1, gs74_2, gs74_3, gs100_0, gs100_1, gs100_2, gs100_3, gr64_1, gr64_2, gr64_3, gr64_7, gr64_11, gr64_12, gr64_13, gr64_15, gr64_16, gr64_17, gr64_18, gr64_19, gr64_20, gr64_21, gr64_22, gr64_23, gr70_4, gr71_4, gu73, gu99, gu93, pa72, pa84, pa85, pa86, pa90, pa92, pa87, pa91, pa88, pa89, pf64_4, pf64_5, pf64_6, pf64_8, pf64_9, pf64_10, pf64_14, pf70_0, pf70_1, pf70_2, pf70_3, pf71_0, pf71_1, pf71_2, pf71_3, ps74_0, ps74_1, ps74_2, ps74_3, ps100_0, ps100_1, ps100_2, ps100_3, s_in, s_has, s_one, s_roomOf, s_hurtOf, s_isLost, s_standOf, s_isTray, s_isSoon, s_fallen, s_isPassage, s_isRoom, s_isPassage70, s_leads70, s_isBack70, s_isPassage, s_isRoom, s_isPassage71, s_leads71, s_isBack71]
    refine bk_loop (σ := bF × Value) (fun k x => bk_den TX0_laysPath (bk_call d) 13 [.ref 64, .int (bk_i (pos N (cs 85) (cp 70 0) k.toNat)), x.2] [] (bk_M κ (cp, x.1, cj) Y g n))
      (fun k x => 0 ≤ k ∧ (∀ a, a ≠ 64 → a ≠ 86 → x.1 a = cs a) ∧ x.1 64 14 = k ∧ ∀ j : Int, 0 ≤ j → j < k → x.1 86 j = stp N (cs 85) (pos N (cs 85) (cp 70 0) j.toNat)) (cs 85 (cp 70 0)) ?_ ?_ 0 (bU cs 64 14 0, bk_u) (by omega) ⟨by omega, fun a ha hb => ?_, ?_, fun j _ _ => by omega⟩
    · rintro k ⟨cs1, w⟩ hk ⟨k0, fr, pm, vl⟩ cont
      dsimp only at fr pm vl ⊢
      obtain ⟨p0, p1, p2⟩ := pos_is hr hd h7 h8 hf k.toNat (by omega)
      have e85 := fr 85 (by decide) (by decide)
      have e84 := fr 84 (by decide) (by decide)
      have kc : ((k.toNat : Nat) : Int) = k := by omega
      have si := stp_is hr hd p0 p1 (by omega) (by omega)
      have sc : pos N (cs 85) (cp 70 0) (k + 1).toNat = N (pos N (cs 85) (cp 70 0) k.toNat) (stp N (cs 85) (pos N (cs 85) (cp 70 0) k.toNat)) := by
        have e : (k + 1).toNat = k.toNat + 1 := by omega
        rw [e]; rfl
      generalize hpu : pos N (cs 85) (cp 70 0) k.toNat = u at p0 p1 p2 si sc ⊢
      rw [eX0_laysPath_13]
      simp (disch := first | assumption | omega) only [e85, if_neg (show ¬ cs 85 u ≤ 0 by omega), bi_add, bi_sub, bi_mul, bi_neg, bi_div, bi_64, bl_add, bl_sub, bl_mul, bl_neg, bl_div, bl_32, bi_min, bi_max, bl_min, bl_max, bq_I, bq_J, bq_A, bq_Vi, bq_Vl, bq_Vr, bq_cV, bq_cI, bq_cJ, bq_cA, bq_le, bq_lt, bq_eq, bq_z, bq_o, bq_ref, bq_nz, bq_nzJ, bq_bl, bq_blz, bq_T, bq_F, if_true, if_false, Int.reduceEq, Int.reduceLT, Int.reduceLE, Int.reduceAdd, Int.reduceSub, Int.reduceMul, Int.add_sub_cancel, li_0, li_1, li_2, li_8, li_11, li_12, li_13, li_14, li_24, li_39, li_66, li_100, ll_0, ll_1, ll_2, ll_8, ll_11, ll_12, ll_13, ll_14, ll_24, ll_39, ll_66, ll_100, ga72, ga84, ga85, ga86, ga90, ga92, ga87, ga91, ga88, ga89, gf64_4, gf64_5, gf64_6, gf64_8, gf64_9, gf64_10, gf64_14, gf70_0, gf70_1, gf70_2, gf70_3, gf71_0, gf71_1, gf71_2, gf71_3, gs74_0, gs74_1, gs74_2, gs74_3, gs100_0, gs100_1, gs100_2, gs100_3, gr64_1, gr64_2, gr64_3, gr64_7, gr64_11, gr64_12, gr64_13, gr64_15, gr64_16, gr64_17, gr64_18, gr64_19, gr64_20, gr64_21, gr64_22, gr64_23, gr70_4, gr71_4, gu73, gu99, gu93, pa72, pa84, pa85, pa86, pa90, pa92, pa87, pa91, pa88, pa89, pf64_4, pf64_5, pf64_6, pf64_8, pf64_9, pf64_10, pf64_14, pf70_0, pf70_1, pf70_2, pf70_3, pf71_0, pf71_1, pf71_2, pf71_3, ps74_0, ps74_1, ps74_2, ps74_3, ps100_0, ps100_1, ps100_2, ps100_3, s_in, s_has, s_one, s_roomOf, s_hurtOf, s_isLost, s_standOf, s_isTray, s_isSoon, s_fallen, s_isPassage, s_isRoom, s_isPassage70, s_leads70, s_isBack70, s_isPassage, s_isRoom, s_isPassage71, s_leads71, s_isBack71]
      refine bk_loop (σ := Unit) (fun q _ => bk_den TX0_laysPath (bk_call d) 24 [.ref 64, .int (bk_i u), .int (bk_i q)] [] (bk_M κ (cp, cs1, cj) Y g n)) (fun q _ => 0 ≤ q) (stp N (cs 85) u) ?_ ?_ 0 () (by omega) (by omega)
      · rintro q - hq q0 cont2
        have nq := hr u q p0 p1 q0 (by omega)
        have no := si.2.2.2.2.2.2 q q0 hq
        have dm := hdom u (stp N (cs 85) u) si.2.2.1
        rw [eX0_laysPath_24]
        simp (disch := first | assumption | omega) only [e84, hN u q p0 p1 q0 (by omega), eX0_laysPath_66, bi_add, bi_sub, bi_mul, bi_neg, bi_div, bi_64, bl_add, bl_sub, bl_mul, bl_neg, bl_div, bl_32, bi_min, bi_max, bl_min, bl_max, bq_I, bq_J, bq_A, bq_Vi, bq_Vl, bq_Vr, bq_cV, bq_cI, bq_cJ, bq_cA, bq_le, bq_lt, bq_eq, bq_z, bq_o, bq_ref, bq_nz, bq_nzJ, bq_bl, bq_blz, bq_T, bq_F, if_true, if_false, Int.reduceEq, Int.reduceLT, Int.reduceLE, Int.reduceAdd, Int.reduceSub, Int.reduceMul, Int.add_sub_cancel, li_0, li_1, li_2, li_8, li_11, li_12, li_13, li_14, li_24, li_39, li_66, li_100, ll_0, ll_1, ll_2, ll_8, ll_11, ll_12, ll_13, ll_14, ll_24, ll_39, ll_66, ll_100, ga72, ga84, ga85, ga86, ga90, ga92, ga87, ga91, ga88, ga89, gf64_4, gf64_5, gf64_6, gf64_8, gf64_9, gf64_10, gf64_14, gf70_0, gf70_1, gf70_2, gf70_3, gf71_0, gf71_1, gf71_2, gf71_3, gs74_0, gs74_1, gs74_2, gs74_3, gs100_0, gs100_1, gs100_2, gs100_3, gr64_1, gr64_2, gr64_3, gr64_7, gr64_11, gr64_12, gr64_13, gr64_15, gr64_16, gr64_17, gr64_18, gr64_19, gr64_20, gr64_21, gr64_22, gr64_23, gr70_4, gr71_4, gu73, gu99, gu93, pa72, pa84, pa85, pa86, pa90, pa92, pa87, pa91, pa88, pa89, pf64_4, pf64_5, pf64_6, pf64_8, pf64_9, pf64_10, pf64_14, pf70_0, pf70_1, pf70_2, pf70_3, pf71_0, pf71_1, pf71_2, pf71_3, ps74_0, ps74_1, ps74_2, ps74_3, ps100_0, ps100_1, ps100_2, ps100_3, s_in, s_has, s_one, s_roomOf, s_hurtOf, s_isLost, s_standOf, s_isTray, s_isSoon, s_fallen, s_isPassage, s_isRoom, s_isPassage70, s_leads70, s_isBack70, s_isPassage, s_isRoom, s_isPassage71, s_leads71, s_isBack71]
        by_cases c : N u q = -1
        · rw [if_pos c]; exact cont2 () (by omega)
        · have b1 := hd.1.1 (N u q) (by omega) (by omega)
          rw [if_neg c]
          simp (disch := first | assumption | omega) only [e85, if_neg (show ¬ cs 85 (N u q) = cs 85 u - 1 from fun k => no ⟨c, k⟩), bi_add, bi_sub, bi_mul, bi_neg, bi_div, bi_64, bl_add, bl_sub, bl_mul, bl_neg, bl_div, bl_32, bi_min, bi_max, bl_min, bl_max, bq_I, bq_J, bq_A, bq_Vi, bq_Vl, bq_Vr, bq_cV, bq_cI, bq_cJ, bq_cA, bq_le, bq_lt, bq_eq, bq_z, bq_o, bq_ref, bq_nz, bq_nzJ, bq_bl, bq_blz, bq_T, bq_F, if_true, if_false, Int.reduceEq, Int.reduceLT, Int.reduceLE, Int.reduceAdd, Int.reduceSub, Int.reduceMul, Int.add_sub_cancel, li_0, li_1, li_2, li_8, li_11, li_12, li_13, li_14, li_24, li_39, li_66, li_100, ll_0, ll_1, ll_2, ll_8, ll_11, ll_12, ll_13, ll_14, ll_24, ll_39, ll_66, ll_100, ga72, ga84, ga85, ga86, ga90, ga92, ga87, ga91, ga88, ga89, gf64_4, gf64_5, gf64_6, gf64_8, gf64_9, gf64_10, gf64_14, gf70_0, gf70_1, gf70_2, gf70_3, gf71_0, gf71_1, gf71_2, gf71_3, gs74_0, gs74_1, gs74_2, gs74_3, gs100_0, gs100_1, gs100_2, gs100_3, gr64_1, gr64_2, gr64_3, gr64_7, gr64_11, gr64_12, gr64_13, gr64_15, gr64_16, gr64_17, gr64_18, gr64_19, gr64_20, gr64_21, gr64_22, gr64_23, gr70_4, gr71_4, gu73, gu99, gu93, pa72, pa84, pa85, pa86, pa90, pa92, pa87, pa91, pa88, pa89, pf64_4, pf64_5, pf64_6, pf64_8, pf64_9, pf64_10, pf64_14, pf70_0, pf70_1, pf70_2, pf70_3, pf71_0, pf71_1, pf71_2, pf71_3, ps74_0, ps74_1, ps74_2, ps74_3, ps100_0, ps100_1, ps100_2, ps100_3, s_in, s_has, s_one, s_roomOf, s_hurtOf, s_isLost, s_standOf, s_isTray, s_isSoon, s_fallen, s_isPassage, s_isRoom, s_isPassage70, s_leads70, s_isBack70, s_isPassage, s_isRoom, s_isPassage71, s_leads71, s_isBack71]
          exact cont2 () (by omega)
      · rintro - q0
        have dm := hdom u (stp N (cs 85) u) si.2.2.1
        have b1 := hd.1.1 (N u (stp N (cs 85) u)) (by omega) (by omega)
        rw [eX0_laysPath_24]
        simp (disch := first | assumption | omega) only [e84, hN u (stp N (cs 85) u) p0 p1 si.1 dm, if_neg si.2.2.1, e85, if_pos si.2.2.2.1, pm, bU_ne, bi_add, bi_sub, bi_mul, bi_neg, bi_div, bi_64, bl_add, bl_sub, bl_mul, bl_neg, bl_div, bl_32, bi_min, bi_max, bl_min, bl_max, bq_I, bq_J, bq_A, bq_Vi, bq_Vl, bq_Vr, bq_cV, bq_cI, bq_cJ, bq_cA, bq_le, bq_lt, bq_eq, bq_z, bq_o, bq_ref, bq_nz, bq_nzJ, bq_bl, bq_blz, bq_T, bq_F, if_true, if_false, Int.reduceEq, Int.reduceLT, Int.reduceLE, Int.reduceAdd, Int.reduceSub, Int.reduceMul, Int.add_sub_cancel, li_0, li_1, li_2, li_8, li_11, li_12, li_13, li_14, li_24, li_39, li_66, li_100, ll_0, ll_1, ll_2, ll_8, ll_11, ll_12, ll_13, ll_14, ll_24, ll_39, ll_66, ll_100, ga72, ga84, ga85, ga86, ga90, ga92, ga87, ga91, ga88, ga89, gf64_4, gf64_5, gf64_6, gf64_8, gf64_9, gf64_10, gf64_14, gf70_0, gf70_1, gf70_2, gf70_3, gf71_0, gf71_1, gf71_2, gf71_3, gs74_0, gs74_1, gs74_2, gs74_3, gs100_0, gs100_1, gs100_2, gs100_3, gr64_1, gr64_2, gr64_3, gr64_7, gr64_11, gr64_12, gr64_13, gr64_15, gr64_16, gr64_17, gr64_18, gr64_19, gr64_20, gr64_21, gr64_22, gr64_23, gr70_4, gr71_4, gu73, gu99, gu93, pa72, pa84, pa85, pa86, pa90, pa92, pa87, pa91, pa88, pa89, pf64_4, pf64_5, pf64_6, pf64_8, pf64_9, pf64_10, pf64_14, pf70_0, pf70_1, pf70_2, pf70_3, pf71_0, pf71_1, pf71_2, pf71_3, ps74_0, ps74_1, ps74_2, ps74_3, ps100_0, ps100_1, ps100_2, ps100_3, s_in, s_has, s_one, s_roomOf, s_hurtOf, s_isLost, s_standOf, s_isTray, s_isSoon, s_fallen, s_isPassage, s_isRoom, s_isPassage70, s_leads70, s_isBack70, s_isPassage, s_isRoom, s_isPassage71, s_leads71, s_isBack71]
        rw [← sc]
        refine cont (bU (bU cs1 86 k (stp N (cs 85) u)) 64 14 (k + 1), .int (bk_i (stp N (cs 85) u))) ⟨by omega, fun a ha hb => ?_, ?_, fun j j0 j1 => ?_⟩
        · funext j; show bU (bU cs1 86 k (stp N (cs 85) u)) 64 14 (k + 1) a j = _; rw [bU_ne _ _ _ _ _ _ ha, bU_ne _ _ _ _ _ _ hb, fr a ha hb]
        · show bU (bU cs1 86 k (stp N (cs 85) u)) 64 14 (k + 1) 64 14 = _; rw [bU_hit]
        · show bU (bU cs1 86 k (stp N (cs 85) u)) 64 14 (k + 1) 86 j = _
          rw [bU_ne _ _ _ _ _ _ (by decide), bU_same]
          by_cases c : j = k
          · subst c; rw [if_pos rfl, hpu]
          · rw [if_neg c]; exact vl j j0 (by omega)
    · rintro ⟨cs1, w⟩ ⟨k0, fr, pm, vl⟩
      dsimp only at fr pm vl ⊢
      obtain ⟨p0, p1, p2⟩ := pos_is hr hd h7 h8 hf (cs 85 (cp 70 0)).toNat (by omega)
      have e85 := fr 85 (by decide) (by decide)
      rw [eX0_laysPath_13]
      simp (disch := first | assumption | omega) only [e85, if_pos (show cs 85 (pos N (cs 85) (cp 70 0) (cs 85 (cp 70 0)).toNat) ≤ 0 by omega), bi_add, bi_sub, bi_mul, bi_neg, bi_div, bi_64, bl_add, bl_sub, bl_mul, bl_neg, bl_div, bl_32, bi_min, bi_max, bl_min, bl_max, bq_I, bq_J, bq_A, bq_Vi, bq_Vl, bq_Vr, bq_cV, bq_cI, bq_cJ, bq_cA, bq_le, bq_lt, bq_eq, bq_z, bq_o, bq_ref, bq_nz, bq_nzJ, bq_bl, bq_blz, bq_T, bq_F, if_true, if_false, Int.reduceEq, Int.reduceLT, Int.reduceLE, Int.reduceAdd, Int.reduceSub, Int.reduceMul, Int.add_sub_cancel, li_0, li_1, li_2, li_8, li_11, li_12, li_13, li_14, li_24, li_39, li_66, li_100, ll_0, ll_1, ll_2, ll_8, ll_11, ll_12, ll_13, ll_14, ll_24, ll_39, ll_66, ll_100, ga72, ga84, ga85, ga86, ga90, ga92, ga87, ga91, ga88, ga89, gf64_4, gf64_5, gf64_6, gf64_8, gf64_9, gf64_10, gf64_14, gf70_0, gf70_1, gf70_2, gf70_3, gf71_0, gf71_1, gf71_2, gf71_3, gs74_0, gs74_1, gs74_2, gs74_3, gs100_0, gs100_1, gs100_2, gs100_3, gr64_1, gr64_2, gr64_3, gr64_7, gr64_11, gr64_12, gr64_13, gr64_15, gr64_16, gr64_17, gr64_18, gr64_19, gr64_20, gr64_21, gr64_22, gr64_23, gr70_4, gr71_4, gu73, gu99, gu93, pa72, pa84, pa85, pa86, pa90, pa92, pa87, pa91, pa88, pa89, pf64_4, pf64_5, pf64_6, pf64_8, pf64_9, pf64_10, pf64_14, pf70_0, pf70_1, pf70_2, pf70_3, pf71_0, pf71_1, pf71_2, pf71_3, ps74_0, ps74_1, ps74_2, ps74_3, ps100_0, ps100_1, ps100_2, ps100_3, s_in, s_has, s_one, s_roomOf, s_hurtOf, s_isLost, s_standOf, s_isTray, s_isSoon, s_fallen, s_isPassage, s_isRoom, s_isPassage70, s_leads70, s_isBack70, s_isPassage, s_isRoom, s_isPassage71, s_leads71, s_isBack71]
      exact ⟨_, _, rfl, cs1, rfl, rfl, fr, pm, vl⟩
    · funext j; show bU cs 64 14 0 a j = _; rw [bU_ne _ _ _ _ _ _ ha]
    · show bU cs 64 14 0 64 14 = 0; rw [bU_hit]
  obtain ⟨z, h', e, cs', rfl, rfl, h1, h2, h3⟩ := goal
  exact ⟨cs', h1, h2, h3, e⟩
end SO
