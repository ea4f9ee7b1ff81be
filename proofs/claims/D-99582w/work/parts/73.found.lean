/-! SPECS: the component: found, foundBy, surely, both -/
set_option maxRecDepth 100000
section FO
variable {κ : Nat → Nat} {cp cs : bF} {cj : bFJ} {Y : bY} {X : bX} {g : bG} {n : Nat × Nat} {ca : Nat} {A : Int → Int} {s p v r hu i to m : Int} {D : Nat} {N : Int → Int → Int}
/-- answers that are long -/
def bCqJ (κ : Nat → Nat) (cp : bF) (Y : bY) (g : bG) (n : Nat × Nat) (R : Int → Prop) : Option Value → bk_H → Prop := fun v h' => ∃ cs' cj' z, v = some (.long (bk_l z)) ∧ h' = bk_M κ (cp, cs', cj') Y g n ∧ R z
def bTqJ (κ : Nat → Nat) (X : bX) (tp : bF) (tj : bFJ) (g : bG) (n : Nat × Nat) (R : Int → Prop) : Option Value → bk_H → Prop := fun v h' => ∃ ts' tk' z, v = some (.long (bk_l z)) ∧ h' = bk_M κ X (tp, tj, ts', tk') g n ∧ R z
def fF (A : Int → Int) (m r hu : Int) : Int := if fS A r hu 5 = 0 then (if 0 ≤ m ∧ m ≤ 10 then 0 else -3) else fS A r hu 5
theorem fF_rng (A : Int → Int) (m r hu : Int) : -3 ≤ fF A m r hu ∧ fF A m r hu ≤ 0 := by
  have := fS_rng A r hu 5
  unfold fF
  split
  · split <;> omega
  · omega
theorem fF_0 {A : Int → Int} {m r hu : Int} (h : fF A m r hu = 0) : 0 ≤ r ∧ r ≤ A 1 - 1 ∧ 0 ≤ hu ∧ hu ≤ 5 ∧ 0 ≤ m ∧ m ≤ 10 := by
  unfold fF at h
  split at h
  · rename_i q
    have := fS_0 q
    split at h
    · omega
    · omega
  · rename_i q; exact absurd h q
theorem s_foundFault (hF : bFix g) (hc : bRC κ g ca A) (hw : bWF A 0) (h0 : -2147483648 ≤ m) (h00 : m < 2147483648) (h1 : -2147483648 ≤ r) (h2 : r < 2147483648) (h3 : -2147483648 ≤ hu) (h4 : hu < 2147483648) (hD : 4 ≤ D) :
    bk_call D 53 [.ref 64, .int (bk_i m), .int (bk_i r), .int (bk_i hu)] (bk_M κ X Y g n) = some (some (.int (bk_i (fF A m r hu))), bk_M κ X Y g n) := by
  obtain ⟨d, rfl⟩ := dep hD
  have fr := fS_rng A r hu 5
  have ef := s_standFault (κ := κ) (X := X) (Y := Y) (n := n) (D := d) (m := 5) hF hc hw h1 h2 h3 h4 (by omega) (by omega) (by omega)
  obtain ⟨c0, c1, c2, c3, c4, c5, c6, c7, c8, ⟨tw, ctw, htw⟩, cb, ce, cd, cw, cwp, hca, -, -⟩ := hc
  unfold fF
  rw [kX0_foundFault, eX0_foundFault_0]
  simp (disch := first | assumption | omega) only [c0, c1, c2, c3, c4, c5, c6, c7, c8, ctw, cb, ce, cd, cw, cwp, ef, bi_add, bi_sub, bi_mul, bi_neg, bi_div, bi_64, bl_add, bl_sub, bl_mul, bl_neg, bl_div, bl_32, bi_min, bi_max, bl_min, bl_max, bq_I, bq_J, bq_A, bq_Vi, bq_Vl, bq_Vr, bq_cV, bq_cI, bq_cJ, bq_cA, bq_le, bq_lt, bq_eq, bq_z, bq_o, bq_ref, bq_nz, bq_nzJ, bq_bl, bq_blz, bq_T, bq_F, if_true, if_false, Int.reduceEq, Int.reduceLT, Int.reduceLE, Int.reduceAdd, Int.reduceSub, Int.reduceMul, Int.add_sub_cancel, li_0, li_1, li_3, li_5, li_10, li_44, li_53, ll_0, ll_1, ll_3, ll_5, ll_10, ll_44, ll_53, ga72, ga84, ga85, ga86, ga90, ga92, ga87, ga91, ga88, ga89, gf64_4, gf64_5, gf64_6, gf64_8, gf64_9, gf64_10, gf64_14, gf70_0, gf70_1, gf70_2, gf70_3, gf71_0, gf71_1, gf71_2, gf71_3, gs74_0, gs74_1, gs74_2, gs74_3, gs100_0, gs100_1, gs100_2, gs100_3, gr64_1, gr64_2, gr64_3, gr64_7, gr64_11, gr64_12, gr64_13, gr64_15, gr64_16, gr64_17, gr64_18, gr64_19, gr64_20, gr64_21, gr64_22, gr64_23, gr70_4, gr71_4, gu73, gu99, gu93, pa72, pa84, pa85, pa86, pa90, pa92, pa87, pa91, pa88, pa89, pf64_4, pf64_5, pf64_6, pf64_8, pf64_9, pf64_10, pf64_14, pf70_0, pf70_1, pf70_2, pf70_3, pf71_0, pf71_1, pf71_2, pf71_3, ps74_0, ps74_1, ps74_2, ps74_3, ps100_0, ps100_1, ps100_2, ps100_3, s_in, s_has, s_one, s_roomOf, s_hurtOf, s_isLost, s_standOf, s_isTray, s_isSoon, s_fallen, s_isPassage, s_isRoom, s_isPassage70, s_leads70, s_isBack70, s_isPassage, s_isRoom, s_isPassage71, s_leads71, s_isBack71, s_onec, s_bitCount]
  by_cases q : fS A r hu 5 = 0
  · rw [if_pos q, if_pos q]
    by_cases q2 : 0 ≤ m ∧ m ≤ 10
    · rw [if_pos q2, if_pos q2]
    · rw [if_neg q2, if_neg q2]
  · rw [if_neg q, if_neg q]
theorem s_laysOnward (h : bCt κ g ca A cp) (m0 : 0 ≤ m) (m1 : m ≤ 10) (to0 : 0 ≤ to) (to1 : to < 36) (but : Int) (hN' : ∀ s p, 0 ≤ s → s < 36 → 0 ≤ p → p < 8 → N s p = if bt but p = 1 then -1 else nxt A (A 44) s p) (hD : 908 ≤ D) :
    ∃ cs' cj', (∀ a, a ≠ 84 → a ≠ ca + 4 → cs' a = cs a) ∧ (∀ s p, 0 ≤ s → s < 36 → 0 ≤ p → p < A 2 → cs' 84 (8 * s + p) = N s p) ∧ (∀ a, a ≠ 88 → cj' a = cj a)
      ∧ (∀ i s, 0 ≤ i → i ≤ m → 0 ≤ s → s < 36 → cj' 88 (36 * i + s) = bk_l (wy N to (m - i).toNat s))
      ∧ bk_call D 54 [.ref 64, .int (bk_i m), .int (bk_i to), .int (bk_i but)] (bk_M κ (cp, cs, cj) Y g n) = some (some (.long (bk_l (wy N to m.toNat (cp 70 0)))), bk_M κ (cp, cs', cj') Y g n) := by
  obtain ⟨d, rfl⟩ := dep hD
  have st := bCt_st h
  obtain ⟨hF, hc, hw, hs, n0, n1, n2, n3⟩ := h
  obtain ⟨cs1, f1, v1, e1⟩ := s_laysAll70 (κ := κ) (cp := cp) (cs := cs) (cj := cj) (Y := Y) (n := n) (D := d) hF hc hw hs.2.2.2.2.2.2.1 hs.2.2.2.2.2.2.2 n2 but (by omega)
  rw [n1] at v1
  have v2 : ∀ s p, 0 ≤ s → s < 36 → 0 ≤ p → p < A 2 → cs1 84 (8 * s + p) = N s p := fun s p a1 a2 a3 a4 => by rw [v1 s p a1 a2 a3 a4, hN' s p a1 a2 a3 (by omega)]
  have hN : isN N 36 := by
    intro s p s0 s1 p0 p1
    rw [hN' s p s0 s1 p0 p1]
    split
    · exact Or.inl rfl
    · exact nxt_N hw _ (by omega) s p s0 s1 p0 p1
  have hdom : ∀ s p, 0 ≤ s → s < 36 → 0 ≤ p → p < 8 → N s p ≠ -1 → p < A 2 := by
    intro s p s0 s1 p0 p1 hp
    rw [hN' s p s0 s1 p0 p1] at hp
    split at hp
    · exact absurd rfl hp
    · exact (nxt_dom hp).2.1
  have hc' := hc
  obtain ⟨c0, c1, c2, c3, c4, c5, c6, c7, c8, ⟨tw, ctw, htw⟩, cb, ce, cd, cw, cwp, hca, -, -⟩ := hc
  have goal : bk_wp (bk_call (d + 1) 54 [.ref 64, .int (bk_i m), .int (bk_i to), .int (bk_i but)] (bk_M κ (cp, cs, cj) Y g n)) (fun v h' => ∃ cj', v = some (.long (bk_l (wy N to m.toNat (cp 70 0)))) ∧ h' = bk_M κ (cp, cs1, cj') Y g n ∧ (∀ a, a ≠ 88 → cj' a = cj a) ∧ (∀ i s, 0 ≤ i → i ≤ m → 0 ≤ s → s < 36 → cj' 88 (36 * i + s) = bk_l (wy N to (m - i).toNat s))) := by
    rw [kX0_laysOnward, eX0_laysOnward_0]
    simp (disch := first | assumption | omega) only [c0, c1, c2, c3, c4, c5, c6, c7, c8, ctw, cb, ce, cd, cw, cwp, e1, bi_add, bi_sub, bi_mul, bi_neg, bi_div, bi_64, bl_add, bl_sub, bl_mul, bl_neg, bl_div, bl_32, bi_min, bi_max, bl_min, bl_max, bq_I, bq_J, bq_A, bq_Vi, bq_Vl, bq_Vr, bq_cV, bq_cI, bq_cJ, bq_cA, bq_le, bq_lt, bq_eq, bq_z, bq_o, bq_ref, bq_nz, bq_nzJ, bq_bl, bq_blz, bq_T, bq_F, if_true, if_false, Int.reduceEq, Int.reduceLT, Int.reduceLE, Int.reduceAdd, Int.reduceSub, Int.reduceMul, Int.add_sub_cancel, li_0, li_1, li_2, li_5, li_8, li_11, li_12, li_16, li_35, li_36, li_41, li_53, li_54, li_61, li_74, li_100, li_104, li_134, ll_0, ll_1, ll_2, ll_5, ll_8, ll_11, ll_12, ll_16, ll_35, ll_36, ll_41, ll_53, ll_54, ll_61, ll_74, ll_100, ll_104, ll_134, ga72, ga84, ga85, ga86, ga90, ga92, ga87, ga91, ga88, ga89, gf64_4, gf64_5, gf64_6, gf64_8, gf64_9, gf64_10, gf64_14, gf70_0, gf70_1, gf70_2, gf70_3, gf71_0, gf71_1, gf71_2, gf71_3, gs74_0, gs74_1, gs74_2, gs74_3, gs100_0, gs100_1, gs100_2, gs100_3, gr64_1, gr64_2, gr64_3, gr64_7, gr64_11, gr64_12, gr64_13, gr64_15, gr64_16, gr64_17, gr64_18, gr64_19, gr64_20, gr64_21, gr64_22, gr64_23, gr70_4, gr71_4, gu73, gu99, gu93, pa72, pa84, pa85, pa86, pa90, pa92, pa87, pa91, pa88, pa89, pf64_4, pf64_5, pf64_6, pf64_8, pf64_9, pf64_10, pf64_14, pf70_0, pf70_1, pf70_2, pf70_3, pf71_0, pf71_1, pf71_2, pf71_3, ps74_0, ps74_1, ps74_2, ps74_3, ps100_0, ps100_1, ps100_2, ps100_3, s_in, s_has, s_one, s_roomOf, s_hurtOf, s_isLost, s_standOf, s_isTray, s_isSoon, s_fallen, s_isPassage, s_isRoom, s_isPassage70, s_leads70, s_isBack70, s_isPassage, s_isRoom, s_isPassage71, s_leads71, s_isBack71, s_onec, s_bitCount]
    refine bk_loop (σ := bFJ) (fun s x => bk_den TX0_laysOnward (bk_call d) 12 [.ref 64, .int (bk_i m), .int (bk_i to), .int (bk_i but), .int (bk_i s), bk_u, bk_u, bk_u, bk_u] [] (bk_M κ (cp, cs1, x) Y g n))
      (fun s x => 0 ≤ s ∧ (∀ a, a ≠ 88 → x a = cj a) ∧ ∀ t, 0 ≤ t → t < s → x 88 (36 * m + t) = bk_l (if t = to then 1 else 0)) 36 ?_ ?_ 0 cj (by omega) ⟨by omega, fun _ _ => rfl, fun t _ _ => by omega⟩
    · rintro s x hs ⟨s0, fr, vl⟩ cont
      have fin : ∀ val : Int, (val = if s = to then 1 else 0) → bk_wp (bk_den TX0_laysOnward (bk_call d) 12 [.ref 64, .int (bk_i m), .int (bk_i to), .int (bk_i but), .int (bk_i (s + 1)), bk_u, bk_u, bk_u, bk_u] [] (bk_M κ (cp, cs1, bUJ x 88 (36 * m + s) (bk_l val)) Y g n)) (fun v h' => ∃ cj', v = some (.long (bk_l (wy N to m.toNat (cp 70 0)))) ∧ h' = bk_M κ (cp, cs1, cj') Y g n ∧ (∀ a, a ≠ 88 → cj' a = cj a) ∧ (∀ i s, 0 ≤ i → i ≤ m → 0 ≤ s → s < 36 → cj' 88 (36 * i + s) = bk_l (wy N to (m - i).toNat s))) := by
        intro val hv
        refine cont (bUJ x 88 (36 * m + s) (bk_l val)) ⟨by omega, fun a ha => ?_, fun t t0 t1 => ?_⟩
        · funext j; rw [bUJ_ne _ _ _ _ _ _ ha, fr a ha]
        · rw [bUJ_same]
          by_cases c : t = s
          · subst c; rw [if_pos rfl, hv]
          · rw [if_neg (by omega)]; exact vl t t0 (by omega)
      rw [eX0_laysOnward_12]
      simp (disch := first | assumption | omega) only [if_neg (show ¬ 36 ≤ s by omega), eX0_laysOnward_41, bi_add, bi_sub, bi_mul, bi_neg, bi_div, bi_64, bl_add, bl_sub, bl_mul, bl_neg, bl_div, bl_32, bi_min, bi_max, bl_min, bl_max, bq_I, bq_J, bq_A, bq_Vi, bq_Vl, bq_Vr, bq_cV, bq_cI, bq_cJ, bq_cA, bq_le, bq_lt, bq_eq, bq_z, bq_o, bq_ref, bq_nz, bq_nzJ, bq_bl, bq_blz, bq_T, bq_F, if_true, if_false, Int.reduceEq, Int.reduceLT, Int.reduceLE, Int.reduceAdd, Int.reduceSub, Int.reduceMul, Int.add_sub_cancel, li_0, li_1, li_2, li_5, li_8, li_11, li_12, li_16, li_35, li_36, li_41, li_53, li_54, li_61, li_74, li_100, li_104, li_134, ll_0, ll_1, ll_2, ll_5, ll_8, ll_11, ll_12, ll_16, ll_35, ll_36, ll_41, ll_53, ll_54, ll_61, ll_74, ll_100, ll_104, ll_134, ga72, ga84, ga85, ga86, ga90, ga92, ga87, ga91, ga88, ga89, gf64_4, gf64_5, gf64_6, gf64_8, gf64_9, gf64_10, gf64_14, gf70_0, gf70_1, gf70_2, gf70_3, gf71_0, gf71_1, gf71_2, gf71_3, gs74_0, gs74_1, gs74_2, gs74_3, gs100_0, gs100_1, gs100_2, gs100_3, gr64_1, gr64_2, gr64_3, gr64_7, gr64_11, gr64_12, gr64_13, gr64_15, gr64_16, gr64_17, gr64_18, gr64_19, gr64_20, gr64_21, gr64_22, gr64_23, gr70_4, gr71_4, gu73, gu99, gu93, pa72, pa84, pa85, pa86, pa90, pa92, pa87, pa91, pa88, pa89, pf64_4, pf64_5, pf64_6, pf64_8, pf64_9, pf64_10, pf64_14, pf70_0, pf70_1, pf70_2, pf70_3, pf71_0, pf71_1, pf71_2, pf71_3, ps74_0, ps74_1, ps74_2, ps74_3, ps100_0, ps100_1, ps100_2, ps100_3, s_in, s_has, s_one, s_roomOf, s_hurtOf, s_isLost, s_standOf, s_isTray, s_isSoon, s_fallen, s_isPassage, s_isRoom, s_isPassage70, s_leads70, s_isBack70, s_isPassage, s_isRoom, s_isPassage71, s_leads71, s_isBack71, s_onec, s_bitCount]
      by_cases c : s = to
      · rw [if_pos c]; exact fin _ (by rw [if_pos c])
      · rw [if_neg c]; exact fin _ (by rw [if_neg c])
    · rintro x ⟨s0, fr, vl⟩
      rw [eX0_laysOnward_12]
      simp (disch := first | assumption | omega) only [if_pos (Int.le_refl 36), bi_add, bi_sub, bi_mul, bi_neg, bi_div, bi_64, bl_add, bl_sub, bl_mul, bl_neg, bl_div, bl_32, bi_min, bi_max, bl_min, bl_max, bq_I, bq_J, bq_A, bq_Vi, bq_Vl, bq_Vr, bq_cV, bq_cI, bq_cJ, bq_cA, bq_le, bq_lt, bq_eq, bq_z, bq_o, bq_ref, bq_nz, bq_nzJ, bq_bl, bq_blz, bq_T, bq_F, if_true, if_false, Int.reduceEq, Int.reduceLT, Int.reduceLE, Int.reduceAdd, Int.reduceSub, Int.reduceMul, Int.add_sub_cancel, li_0, li_1, li_2, li_5, li_8, li_11, li_12, li_16, li_35, li_36, li_41, li_53, li_54, li_61, li_74, li_100, li_104, li_134, ll_0, ll_1, ll_2, ll_5, ll_8, ll_11, ll_12, ll_16, ll_35, ll_36, ll_41, ll_53, ll_54, ll_61, ll_74, ll_100, ll_104, ll_134, ga72, ga84, ga85, ga86, ga90, ga92, ga87, ga91, ga88, ga89, gf64_4, gf64_5, gf64_6, gf64_8, gf64_9, gf64_10, gf64_14, gf70_0, gf70_1, gf70_2, gf70_3, gf71_0, gf71_1, gf71_2, gf71_3, gs74_0, gs74_1, gs74_2, gs74_3, gs100_0, gs100_1, gs100_2, gs100_3, gr64_1, gr64_2, gr64_3, gr64_7, gr64_11, gr64_12, gr64_13, gr64_15, gr64_16, gr64_17, gr64_18, gr64_19, gr64_20, gr64_21, gr64_22, gr64_23, gr70_4, gr71_4, gu73, gu99, gu93, pa72, pa84, pa85, pa86, pa90, pa92, pa87, pa91, pa88, pa89, pf64_4, pf64_5, pf64_6, pf64_8, pf64_9, pf64_10, pf64_14, pf70_0, pf70_1, pf70_2, pf70_3, pf71_0, pf71_1, pf71_2, pf71_3, ps74_0, ps74_1, ps74_2, ps74_3, ps100_0, ps100_1, ps100_2, ps100_3, s_in, s_has, s_one, s_roomOf, s_hurtOf, s_isLost, s_standOf, s_isTray, s_isSoon, s_fallen, s_isPassage, s_isRoom, s_isPassage70, s_leads70, s_isBack70, s_isPassage, s_isRoom, s_isPassage71, s_leads71, s_isBack71, s_onec, s_bitCount]
      have start : m - 1 = m - 1 - 0 := by omega
      rw [start]
      refine bk_loop (σ := bFJ × Value) (fun t x => bk_den TX0_laysOnward (bk_call d) 53 [.ref 64, .int (bk_i m), .int (bk_i to), .int (bk_i but), .int (bk_i (m - 1 - t)), x.2, bk_u, bk_u, bk_u] [] (bk_M κ (cp, cs1, x.1) Y g n))
        (fun t x => 0 ≤ t ∧ (∀ a, a ≠ 88 → x.1 a = cj a) ∧ ∀ i s, m - t ≤ i → i ≤ m → 0 ≤ s → s < 36 → x.1 88 (36 * i + s) = bk_l (wy N to (m - i).toNat s)) m ?_ ?_ 0 (x, bk_u) m0 ⟨by omega, fr, fun i s a b s0 s1 => ?_⟩
      · rintro t ⟨x, w⟩ ht ⟨t0, fr, vl⟩ cont
        dsimp only at fr vl ⊢
        rw [eX0_laysOnward_53]
        simp (disch := first | assumption | omega) only [if_neg (show ¬ m - 1 - t < 0 by omega), bi_add, bi_sub, bi_mul, bi_neg, bi_div, bi_64, bl_add, bl_sub, bl_mul, bl_neg, bl_div, bl_32, bi_min, bi_max, bl_min, bl_max, bq_I, bq_J, bq_A, bq_Vi, bq_Vl, bq_Vr, bq_cV, bq_cI, bq_cJ, bq_cA, bq_le, bq_lt, bq_eq, bq_z, bq_o, bq_ref, bq_nz, bq_nzJ, bq_bl, bq_blz, bq_T, bq_F, if_true, if_false, Int.reduceEq, Int.reduceLT, Int.reduceLE, Int.reduceAdd, Int.reduceSub, Int.reduceMul, Int.add_sub_cancel, li_0, li_1, li_2, li_5, li_8, li_11, li_12, li_16, li_35, li_36, li_41, li_53, li_54, li_61, li_74, li_100, li_104, li_134, ll_0, ll_1, ll_2, ll_5, ll_8, ll_11, ll_12, ll_16, ll_35, ll_36, ll_41, ll_53, ll_54, ll_61, ll_74, ll_100, ll_104, ll_134, ga72, ga84, ga85, ga86, ga90, ga92, ga87, ga91, ga88, ga89, gf64_4, gf64_5, gf64_6, gf64_8, gf64_9, gf64_10, gf64_14, gf70_0, gf70_1, gf70_2, gf70_3, gf71_0, gf71_1, gf71_2, gf71_3, gs74_0, gs74_1, gs74_2, gs74_3, gs100_0, gs100_1, gs100_2, gs100_3, gr64_1, gr64_2, gr64_3, gr64_7, gr64_11, gr64_12, gr64_13, gr64_15, gr64_16, gr64_17, gr64_18, gr64_19, gr64_20, gr64_21, gr64_22, gr64_23, gr70_4, gr71_4, gu73, gu99, gu93, pa72, pa84, pa85, pa86, pa90, pa92, pa87, pa91, pa88, pa89, pf64_4, pf64_5, pf64_6, pf64_8, pf64_9, pf64_10, pf64_14, pf70_0, pf70_1, pf70_2, pf70_3, pf71_0, pf71_1, pf71_2, pf71_3, ps74_0, ps74_1, ps74_2, ps74_3, ps100_0, ps100_1, ps100_2, ps100_3, s_in, s_has, s_one, s_roomOf, s_hurtOf, s_isLost, s_standOf, s_isTray, s_isSoon, s_fallen, s_isPassage, s_isRoom, s_isPassage70, s_leads70, s_isBack70, s_isPassage, s_isRoom, s_isPassage71, s_leads71, s_isBack71, s_onec, s_bitCount]
        refine bk_loop (σ := bFJ × Value × Value) (fun s x => bk_den TX0_laysOnward (bk_call d) 61 [.ref 64, .int (bk_i m), .int (bk_i to), .int (bk_i but), .int (bk_i (m - 1 - t)), .int (bk_i s), x.2.1, bk_u, x.2.2] [] (bk_M κ (cp, cs1, x.1) Y g n))
          (fun s x => 0 ≤ s ∧ (∀ a, a ≠ 88 → x.1 a = cj a) ∧ (∀ i s, m - t ≤ i → i ≤ m → 0 ≤ s → s < 36 → x.1 88 (36 * i + s) = bk_l (wy N to (m - i).toNat s)) ∧ ∀ u, 0 ≤ u → u < s → x.1 88 (36 * (m - 1 - t) + u) = bk_l (wy N to (t + 1).toNat u)) 36 ?_ ?_ 0 (x, bk_u, bk_u) (by omega) ⟨by omega, fr, vl, fun u _ _ => by omega⟩
        · rintro s ⟨x, w1, w2⟩ hs ⟨s0, fr, vl, vl2⟩ cont2
          dsimp only at fr vl vl2 ⊢
          rw [eX0_laysOnward_61]
          simp (disch := first | assumption | omega) only [if_neg (show ¬ 36 ≤ s by omega), bi_add, bi_sub, bi_mul, bi_neg, bi_div, bi_64, bl_add, bl_sub, bl_mul, bl_neg, bl_div, bl_32, bi_min, bi_max, bl_min, bl_max, bq_I, bq_J, bq_A, bq_Vi, bq_Vl, bq_Vr, bq_cV, bq_cI, bq_cJ, bq_cA, bq_le, bq_lt, bq_eq, bq_z, bq_o, bq_ref, bq_nz, bq_nzJ, bq_bl, bq_blz, bq_T, bq_F, if_true, if_false, Int.reduceEq, Int.reduceLT, Int.reduceLE, Int.reduceAdd, Int.reduceSub, Int.reduceMul, Int.add_sub_cancel, li_0, li_1, li_2, li_5, li_8, li_11, li_12, li_16, li_35, li_36, li_41, li_53, li_54, li_61, li_74, li_100, li_104, li_134, ll_0, ll_1, ll_2, ll_5, ll_8, ll_11, ll_12, ll_16, ll_35, ll_36, ll_41, ll_53, ll_54, ll_61, ll_74, ll_100, ll_104, ll_134, ga72, ga84, ga85, ga86, ga90, ga92, ga87, ga91, ga88, ga89, gf64_4, gf64_5, gf64_6, gf64_8, gf64_9, gf64_10, gf64_14, gf70_0, gf70_1, gf70_2, gf70_3, gf71_0, gf71_1, gf71_2, gf71_3, gs74_0, gs74_1, gs74_2, gs74_3, gs100_0, gs100_1, gs100_2, gs100_3, gr64_1, gr64_2, gr64_3, gr64_7, gr64_11, gr64_12, gr64_13, gr64_15, gr64_16, gr64_17, gr64_18, gr64_19, gr64_20, gr64_21, gr64_22, gr64_23, gr70_4, gr71_4, gu73, gu99, gu93, pa72, pa84, pa85, pa86, pa90, pa92, pa87, pa91, pa88, pa89, pf64_4, pf64_5, pf64_6, pf64_8, pf64_9, pf64_10, pf64_14, pf70_0, pf70_1, pf70_2, pf70_3, pf71_0, pf71_1, pf71_2, pf71_3, ps74_0, ps74_1, ps74_2, ps74_3, ps100_0, ps100_1, ps100_2, ps100_3, s_in, s_has, s_one, s_roomOf, s_hurtOf, s_isLost, s_standOf, s_isTray, s_isSoon, s_fallen, s_isPassage, s_isRoom, s_isPassage70, s_leads70, s_isBack70, s_isPassage, s_isRoom, s_isPassage71, s_leads71, s_isBack71, s_onec, s_bitCount]
          refine bk_loop (σ := Unit) (fun p _ => bk_den TX0_laysOnward (bk_call d) 74 [.ref 64, .int (bk_i m), .int (bk_i to), .int (bk_i but), .int (bk_i (m - 1 - t)), .int (bk_i s), .long (bk_l (sw N (wy N to t.toNat) s p.toNat)), bk_u, .int (bk_i p)] [] (bk_M κ (cp, cs1, x) Y g n)) (fun p _ => 0 ≤ p) (A 2) ?_ ?_ 0 () (by omega) (by omega)
          · rintro p - hp p0 cont3
            have np := hN s p s0 hs p0 (by omega)
            have c := cont3 () (by omega)
            rw [sw_succ _ _ _ p0] at c
            rw [eX0_laysOnward_74]
            simp (disch := first | assumption | omega) only [c0, c1, c2, c3, c4, c5, c6, c7, c8, ctw, cb, ce, cd, cw, cwp, if_neg (show ¬ A 2 ≤ p by omega), v2 s p s0 hs p0 hp, eX0_laysOnward_134, bi_add, bi_sub, bi_mul, bi_neg, bi_div, bi_64, bl_add, bl_sub, bl_mul, bl_neg, bl_div, bl_32, bi_min, bi_max, bl_min, bl_max, bq_I, bq_J, bq_A, bq_Vi, bq_Vl, bq_Vr, bq_cV, bq_cI, bq_cJ, bq_cA, bq_le, bq_lt, bq_eq, bq_z, bq_o, bq_ref, bq_nz, bq_nzJ, bq_bl, bq_blz, bq_T, bq_F, if_true, if_false, Int.reduceEq, Int.reduceLT, Int.reduceLE, Int.reduceAdd, Int.reduceSub, Int.reduceMul, Int.add_sub_cancel, li_0, li_1, li_2, li_5, li_8, li_11, li_12, li_16, li_35, li_36, li_41, li_53, li_54, li_61, li_74, li_100, li_104, li_134, ll_0, ll_1, ll_2, ll_5, ll_8, ll_11, ll_12, ll_16, ll_35, ll_36, ll_41, ll_53, ll_54, ll_61, ll_74, ll_100, ll_104, ll_134, ga72, ga84, ga85, ga86, ga90, ga92, ga87, ga91, ga88, ga89, gf64_4, gf64_5, gf64_6, gf64_8, gf64_9, gf64_10, gf64_14, gf70_0, gf70_1, gf70_2, gf70_3, gf71_0, gf71_1, gf71_2, gf71_3, gs74_0, gs74_1, gs74_2, gs74_3, gs100_0, gs100_1, gs100_2, gs100_3, gr64_1, gr64_2, gr64_3, gr64_7, gr64_11, gr64_12, gr64_13, gr64_15, gr64_16, gr64_17, gr64_18, gr64_19, gr64_20, gr64_21, gr64_22, gr64_23, gr70_4, gr71_4, gu73, gu99, gu93, pa72, pa84, pa85, pa86, pa90, pa92, pa87, pa91, pa88, pa89, pf64_4, pf64_5, pf64_6, pf64_8, pf64_9, pf64_10, pf64_14, pf70_0, pf70_1, pf70_2, pf70_3, pf71_0, pf71_1, pf71_2, pf71_3, ps74_0, ps74_1, ps74_2, ps74_3, ps100_0, ps100_1, ps100_2, ps100_3, s_in, s_has, s_one, s_roomOf, s_hurtOf, s_isLost, s_standOf, s_isTray, s_isSoon, s_fallen, s_isPassage, s_isRoom, s_isPassage70, s_leads70, s_isBack70, s_isPassage, s_isRoom, s_isPassage71, s_leads71, s_isBack71, s_onec, s_bitCount]
            by_cases q : N s p = -1
            · rw [if_pos q] at c ⊢
              simp only [Int.add_zero] at c
              exact c
            · rw [if_neg q] at c ⊢
              have e : x 88 (36 * (m - 1 - t + 1) + N s p) = bk_l (wy N to t.toNat (N s p)) := by
                have e2 : (m - (m - 1 - t + 1)).toNat = t.toNat := by omega
                rw [vl (m - 1 - t + 1) (N s p) (by omega) (by omega) (by omega) (by omega), e2]
              simp (disch := first | assumption | omega) only [e, eX0_laysOnward_134, bi_add, bi_sub, bi_mul, bi_neg, bi_div, bi_64, bl_add, bl_sub, bl_mul, bl_neg, bl_div, bl_32, bi_min, bi_max, bl_min, bl_max, bq_I, bq_J, bq_A, bq_Vi, bq_Vl, bq_Vr, bq_cV, bq_cI, bq_cJ, bq_cA, bq_le, bq_lt, bq_eq, bq_z, bq_o, bq_ref, bq_nz, bq_nzJ, bq_bl, bq_blz, bq_T, bq_F, if_true, if_false, Int.reduceEq, Int.reduceLT, Int.reduceLE, Int.reduceAdd, Int.reduceSub, Int.reduceMul, Int.add_sub_cancel, li_0, li_1, li_2, li_5, li_8, li_11, li_12, li_16, li_35, li_36, li_41, li_53, li_54, li_61, li_74, li_100, li_104, li_134, ll_0, ll_1, ll_2, ll_5, ll_8, ll_11, ll_12, ll_16, ll_35, ll_36, ll_41, ll_53, ll_54, ll_61, ll_74, ll_100, ll_104, ll_134, ga72, ga84, ga85, ga86, ga90, ga92, ga87, ga91, ga88, ga89, gf64_4, gf64_5, gf64_6, gf64_8, gf64_9, gf64_10, gf64_14, gf70_0, gf70_1, gf70_2, gf70_3, gf71_0, gf71_1, gf71_2, gf71_3, gs74_0, gs74_1, gs74_2, gs74_3, gs100_0, gs100_1, gs100_2, gs100_3, gr64_1, gr64_2, gr64_3, gr64_7, gr64_11, gr64_12, gr64_13, gr64_15, gr64_16, gr64_17, gr64_18, gr64_19, gr64_20, gr64_21, gr64_22, gr64_23, gr70_4, gr71_4, gu73, gu99, gu93, pa72, pa84, pa85, pa86, pa90, pa92, pa87, pa91, pa88, pa89, pf64_4, pf64_5, pf64_6, pf64_8, pf64_9, pf64_10, pf64_14, pf70_0, pf70_1, pf70_2, pf70_3, pf71_0, pf71_1, pf71_2, pf71_3, ps74_0, ps74_1, ps74_2, ps74_3, ps100_0, ps100_1, ps100_2, ps100_3, s_in, s_has, s_one, s_roomOf, s_hurtOf, s_isLost, s_standOf, s_isTray, s_isSoon, s_fallen, s_isPassage, s_isRoom, s_isPassage70, s_leads70, s_isBack70, s_isPassage, s_isRoom, s_isPassage71, s_leads71, s_isBack71, s_onec, s_bitCount]
              exact c
          · rintro - p0
            have cut : sw N (wy N to t.toNat) s (A 2).toNat = wy N to (t + 1).toNat s := by
              have e : (t + 1).toNat = t.toNat + 1 := by omega
              rw [e]
              show _ = sw N (wy N to t.toNat) s 8
              rw [sw_cut (P := A 2) (by omega) 8 (by omega) (fun p a b => by
                by_cases c : N s p = -1
                · exact c
                · have := hdom s p s0 hs (by omega) (by omega) c; omega)]
            rw [eX0_laysOnward_74]
            simp (disch := first | assumption | omega) only [c0, c1, c2, c3, c4, c5, c6, c7, c8, ctw, cb, ce, cd, cw, cwp, if_pos (Int.le_refl (A 2)), cut, bi_add, bi_sub, bi_mul, bi_neg, bi_div, bi_64, bl_add, bl_sub, bl_mul, bl_neg, bl_div, bl_32, bi_min, bi_max, bl_min, bl_max, bq_I, bq_J, bq_A, bq_Vi, bq_Vl, bq_Vr, bq_cV, bq_cI, bq_cJ, bq_cA, bq_le, bq_lt, bq_eq, bq_z, bq_o, bq_ref, bq_nz, bq_nzJ, bq_bl, bq_blz, bq_T, bq_F, if_true, if_false, Int.reduceEq, Int.reduceLT, Int.reduceLE, Int.reduceAdd, Int.reduceSub, Int.reduceMul, Int.add_sub_cancel, li_0, li_1, li_2, li_5, li_8, li_11, li_12, li_16, li_35, li_36, li_41, li_53, li_54, li_61, li_74, li_100, li_104, li_134, ll_0, ll_1, ll_2, ll_5, ll_8, ll_11, ll_12, ll_16, ll_35, ll_36, ll_41, ll_53, ll_54, ll_61, ll_74, ll_100, ll_104, ll_134, ga72, ga84, ga85, ga86, ga90, ga92, ga87, ga91, ga88, ga89, gf64_4, gf64_5, gf64_6, gf64_8, gf64_9, gf64_10, gf64_14, gf70_0, gf70_1, gf70_2, gf70_3, gf71_0, gf71_1, gf71_2, gf71_3, gs74_0, gs74_1, gs74_2, gs74_3, gs100_0, gs100_1, gs100_2, gs100_3, gr64_1, gr64_2, gr64_3, gr64_7, gr64_11, gr64_12, gr64_13, gr64_15, gr64_16, gr64_17, gr64_18, gr64_19, gr64_20, gr64_21, gr64_22, gr64_23, gr70_4, gr71_4, gu73, gu99, gu93, pa72, pa84, pa85, pa86, pa90, pa92, pa87, pa91, pa88, pa89, pf64_4, pf64_5, pf64_6, pf64_8, pf64_9, pf64_10, pf64_14, pf70_0, pf70_1, pf70_2, pf70_3, pf71_0, pf71_1, pf71_2, pf71_3, ps74_0, ps74_1, ps74_2, ps74_3, ps100_0, ps100_1, ps100_2, ps100_3, s_in, s_has, s_one, s_roomOf, s_hurtOf, s_isLost, s_standOf, s_isTray, s_isSoon, s_fallen, s_isPassage, s_isRoom, s_isPassage70, s_leads70, s_isBack70, s_isPassage, s_isRoom, s_isPassage71, s_leads71, s_isBack71, s_onec, s_bitCount]
            refine cont2 (bUJ x 88 (36 * (m - 1 - t) + s) (bk_l (wy N to (t + 1).toNat s)), .long (bk_l (wy N to (t + 1).toNat s)), .int (bk_i (A 2))) ⟨by omega, fun a ha => ?_, fun i u a b c e => ?_, fun u a b => ?_⟩
            · funext j; show bUJ x 88 (36 * (m - 1 - t) + s) _ a j = _; rw [bUJ_ne _ _ _ _ _ _ ha, fr a ha]
            · show bUJ x 88 (36 * (m - 1 - t) + s) _ 88 (36 * i + u) = _
              rw [bUJ_same, if_neg (by omega)]; exact vl i u a b c e
            · show bUJ x 88 (36 * (m - 1 - t) + s) _ 88 (36 * (m - 1 - t) + u) = _
              rw [bUJ_same]
              by_cases c : u = s
              · subst c; rw [if_pos rfl]
              · rw [if_neg (by omega)]; exact vl2 u a (by omega)
        · rintro ⟨x, w1, w2⟩ ⟨s0, fr, vl, vl2⟩
          dsimp only at fr vl vl2 ⊢
          have e : m - 1 - t + -1 = m - 1 - (t + 1) := by omega
          rw [eX0_laysOnward_61]
          simp (disch := first | assumption | omega) only [if_pos (Int.le_refl 36), e, bi_add, bi_sub, bi_mul, bi_neg, bi_div, bi_64, bl_add, bl_sub, bl_mul, bl_neg, bl_div, bl_32, bi_min, bi_max, bl_min, bl_max, bq_I, bq_J, bq_A, bq_Vi, bq_Vl, bq_Vr, bq_cV, bq_cI, bq_cJ, bq_cA, bq_le, bq_lt, bq_eq, bq_z, bq_o, bq_ref, bq_nz, bq_nzJ, bq_bl, bq_blz, bq_T, bq_F, if_true, if_false, Int.reduceEq, Int.reduceLT, Int.reduceLE, Int.reduceAdd, Int.reduceSub, Int.reduceMul, Int.add_sub_cancel, li_0, li_1, li_2, li_5, li_8, li_11, li_12, li_16, li_35, li_36, li_41, li_53, li_54, li_61, li_74, li_100, li_104, li_134, ll_0, ll_1, ll_2, ll_5, ll_8, ll_11, ll_12, ll_16, ll_35, ll_36, ll_41, ll_53, ll_54, ll_61, ll_74, ll_100, ll_104, ll_134, ga72, ga84, ga85, ga86, ga90, ga92, ga87, ga91, ga88, ga89, gf64_4, gf64_5, gf64_6, gf64_8, gf64_9, gf64_10, gf64_14, gf70_0, gf70_1, gf70_2, gf70_3, gf71_0, gf71_1, gf71_2, gf71_3, gs74_0, gs74_1, gs74_2, gs74_3, gs100_0, gs100_1, gs100_2, gs100_3, gr64_1, gr64_2, gr64_3, gr64_7, gr64_11, gr64_12, gr64_13, gr64_15, gr64_16, gr64_17, gr64_18, gr64_19, gr64_20, gr64_21, gr64_22, gr64_23, gr70_4, gr71_4, gu73, gu99, gu93, pa72, pa84, pa85, pa86, pa90, pa92, pa87, pa91, pa88, pa89, pf64_4, pf64_5, pf64_6, pf64_8, pf64_9, pf64_10, pf64_14, pf70_0, pf70_1, pf70_2, pf70_3, pf71_0, pf71_1, pf71_2, pf71_3, ps74_0, ps74_1, ps74_2, ps74_3, ps100_0, ps100_1, ps100_2, ps100_3, s_in, s_has, s_one, s_roomOf, s_hurtOf, s_isLost, s_standOf, s_isTray, s_isSoon, s_fallen, s_isPassage, s_isRoom, s_isPassage70, s_leads70, s_isBack70, s_isPassage, s_isRoom, s_isPassage71, s_leads71, s_isBack71, s_onec, s_bitCount]
          refine cont (x, .int (bk_i 36)) ⟨by omega, fr, fun i u a b c e => ?_⟩
          by_cases z : i = m - 1 - t
          · subst z
            have e2 : (m - (m - 1 - t)).toNat = (t + 1).toNat := by omega
            rw [e2]; exact vl2 u c e
          · exact vl i u (by omega) b c e
      · rintro ⟨x, w⟩ ⟨t0, fr, vl⟩
        dsimp only at fr vl ⊢
        have e : x 88 (cp 70 0) = bk_l (wy N to m.toNat (cp 70 0)) := by
          have := vl 0 (cp 70 0) (by omega) m0 st.1 (by omega)
          have e2 : 36 * 0 + cp 70 0 = cp 70 0 := by omega
          rw [e2] at this
          rw [this]
          have e3 : (m - 0).toNat = m.toNat := by omega
          rw [e3]
        rw [eX0_laysOnward_53]
        simp (disch := first | assumption | omega) only [if_pos (show m - 1 - m < 0 by omega), e, bi_add, bi_sub, bi_mul, bi_neg, bi_div, bi_64, bl_add, bl_sub, bl_mul, bl_neg, bl_div, bl_32, bi_min, bi_max, bl_min, bl_max, bq_I, bq_J, bq_A, bq_Vi, bq_Vl, bq_Vr, bq_cV, bq_cI, bq_cJ, bq_cA, bq_le, bq_lt, bq_eq, bq_z, bq_o, bq_ref, bq_nz, bq_nzJ, bq_bl, bq_blz, bq_T, bq_F, if_true, if_false, Int.reduceEq, Int.reduceLT, Int.reduceLE, Int.reduceAdd, Int.reduceSub, Int.reduceMul, Int.add_sub_cancel, li_0, li_1, li_2, li_5, li_8, li_11, li_12, li_16, li_35, li_36, li_41, li_53, li_54, li_61, li_74, li_100, li_104, li_134, ll_0, ll_1, ll_2, ll_5, ll_8, ll_11, ll_12, ll_16, ll_35, ll_36, ll_41, ll_53, ll_54, ll_61, ll_74, ll_100, ll_104, ll_134, ga72, ga84, ga85, ga86, ga90, ga92, ga87, ga91, ga88, ga89, gf64_4, gf64_5, gf64_6, gf64_8, gf64_9, gf64_10, gf64_14, gf70_0, gf70_1, gf70_2, gf70_3, gf71_0, gf71_1, gf71_2, gf71_3, gs74_0, gs74_1, gs74_2, gs74_3, gs100_0, gs100_1, gs100_2, gs100_3, gr64_1, gr64_2, gr64_3, gr64_7, gr64_11, gr64_12, gr64_13, gr64_15, gr64_16, gr64_17, gr64_18, gr64_19, gr64_20, gr64_21, gr64_22, gr64_23, gr70_4, gr71_4, gu73, gu99, gu93, pa72, pa84, pa85, pa86, pa90, pa92, pa87, pa91, pa88, pa89, pf64_4, pf64_5, pf64_6, pf64_8, pf64_9, pf64_10, pf64_14, pf70_0, pf70_1, pf70_2, pf70_3, pf71_0, pf71_1, pf71_2, pf71_3, ps74_0, ps74_1, ps74_2, ps74_3, ps100_0, ps100_1, ps100_2, ps100_3, s_in, s_has, s_one, s_roomOf, s_hurtOf, s_isLost, s_standOf, s_isTray, s_isSoon, s_fallen, s_isPassage, s_isRoom, s_isPassage70, s_leads70, s_isBack70, s_isPassage, s_isRoom, s_isPassage71, s_leads71, s_isBack71, s_onec, s_bitCount]
        exact ⟨_, _, rfl, x, rfl, rfl, fr, fun i s a b c e => vl i s (by omega) b c e⟩
      · have z : i = m := by omega
        subst z
        have e2 : (i - i).toNat = 0 := by omega
        rw [e2]; exact vl s s0 s1
  obtain ⟨z, h', e, cj', rfl, rfl, h1, h2⟩ := goal
  exact ⟨cs1, cj', f1, v2, h1, h2, e⟩
def rFound (A : Int → Int) (m r hu z : Int) : Prop := (fF A m r hu ≠ 0 ∧ z = fF A m r hu) ∨ (fF A m r hu = 0 ∧ z = wy (nxt A (A 44)) (6 * r + hu) m.toNat (6 * A 42 + A 43))
theorem none_but {s p : Int} (p0 : 0 ≤ p) (p1 : p < 8) : nxt A (A 44) s p = if bt 0 p = 1 then -1 else nxt A (A 44) s p := by
  rw [bt_0 p0 (by omega), if_neg (by decide)]
theorem c_found (h : bCt κ g ca A cp) (h0 : -2147483648 ≤ m) (h00 : m < 2147483648) (h3 : -2147483648 ≤ r) (h4 : r < 2147483648) (h5 : -2147483648 ≤ hu) (h6 : hu < 2147483648) (hD : 912 ≤ D) :
    bk_wp (bk_call D 52 [.ref 64, .int (bk_i m), .int (bk_i r), .int (bk_i hu)] (bk_M κ (cp, cs, cj) Y g n)) (bCqJ κ cp Y g n (rFound A m r hu)) := by
  obtain ⟨d, rfl⟩ := dep hD
  have st := bCt_st h
  have hct := h
  have fr := fF_rng A m r hu
  obtain ⟨hF, hc, hw, hs, n0, n1, n2, n3⟩ := h
  have ef := s_foundFault (κ := κ) (X := (cp, cs, cj)) (Y := Y) (n := n) (D := d) hF hc hw h0 h00 h3 h4 h5 h6 (by omega)
  obtain ⟨c0, c1, c2, c3, c4, c5, c6, c7, c8, ⟨tw, ctw, htw⟩, cb, ce, cd, cw, cwp, hca, -, -⟩ := hc
  rw [kX0_found, eX0_found_0]
  simp (disch := first | assumption | omega) only [c0, c1, c2, c3, c4, c5, c6, c7, c8, ctw, cb, ce, cd, cw, cwp, ef, bi_add, bi_sub, bi_mul, bi_neg, bi_div, bi_64, bl_add, bl_sub, bl_mul, bl_neg, bl_div, bl_32, bi_min, bi_max, bl_min, bl_max, bq_I, bq_J, bq_A, bq_Vi, bq_Vl, bq_Vr, bq_cV, bq_cI, bq_cJ, bq_cA, bq_le, bq_lt, bq_eq, bq_z, bq_o, bq_ref, bq_nz, bq_nzJ, bq_bl, bq_blz, bq_T, bq_F, if_true, if_false, Int.reduceEq, Int.reduceLT, Int.reduceLE, Int.reduceAdd, Int.reduceSub, Int.reduceMul, Int.add_sub_cancel, li_0, li_1, li_52, li_53, li_54, ll_0, ll_1, ll_52, ll_53, ll_54, ga72, ga84, ga85, ga86, ga90, ga92, ga87, ga91, ga88, ga89, gf64_4, gf64_5, gf64_6, gf64_8, gf64_9, gf64_10, gf64_14, gf70_0, gf70_1, gf70_2, gf70_3, gf71_0, gf71_1, gf71_2, gf71_3, gs74_0, gs74_1, gs74_2, gs74_3, gs100_0, gs100_1, gs100_2, gs100_3, gr64_1, gr64_2, gr64_3, gr64_7, gr64_11, gr64_12, gr64_13, gr64_15, gr64_16, gr64_17, gr64_18, gr64_19, gr64_20, gr64_21, gr64_22, gr64_23, gr70_4, gr71_4, gu73, gu99, gu93, pa72, pa84, pa85, pa86, pa90, pa92, pa87, pa91, pa88, pa89, pf64_4, pf64_5, pf64_6, pf64_8, pf64_9, pf64_10, pf64_14, pf70_0, pf70_1, pf70_2, pf70_3, pf71_0, pf71_1, pf71_2, pf71_3, ps74_0, ps74_1, ps74_2, ps74_3, ps100_0, ps100_1, ps100_2, ps100_3, s_in, s_has, s_one, s_roomOf, s_hurtOf, s_isLost, s_standOf, s_isTray, s_isSoon, s_fallen, s_isPassage, s_isRoom, s_isPassage70, s_leads70, s_isBack70, s_isPassage, s_isRoom, s_isPassage71, s_leads71, s_isBack71, s_onec, s_bitCount]
  by_cases q : fF A m r hu = 0
  · have q' := fF_0 q
    obtain ⟨cs1, cj1, f1, v1, f2, v2, e1⟩ := s_laysOnward (cs := cs) (cj := cj) (Y := Y) (n := n) (D := d) (to := 6 * r + hu) (N := nxt A (A 44)) hct q'.2.2.2.2.1 q'.2.2.2.2.2 (by omega) (by omega) 0 (fun s p _ _ p0 p1 => none_but p0 p1) (by omega)
    rw [if_pos q]
    simp (disch := first | assumption | omega) only [e1, bi_add, bi_sub, bi_mul, bi_neg, bi_div, bi_64, bl_add, bl_sub, bl_mul, bl_neg, bl_div, bl_32, bi_min, bi_max, bl_min, bl_max, bq_I, bq_J, bq_A, bq_Vi, bq_Vl, bq_Vr, bq_cV, bq_cI, bq_cJ, bq_cA, bq_le, bq_lt, bq_eq, bq_z, bq_o, bq_ref, bq_nz, bq_nzJ, bq_bl, bq_blz, bq_T, bq_F, if_true, if_false, Int.reduceEq, Int.reduceLT, Int.reduceLE, Int.reduceAdd, Int.reduceSub, Int.reduceMul, Int.add_sub_cancel, li_0, li_1, li_52, li_53, li_54, ll_0, ll_1, ll_52, ll_53, ll_54, ga72, ga84, ga85, ga86, ga90, ga92, ga87, ga91, ga88, ga89, gf64_4, gf64_5, gf64_6, gf64_8, gf64_9, gf64_10, gf64_14, gf70_0, gf70_1, gf70_2, gf70_3, gf71_0, gf71_1, gf71_2, gf71_3, gs74_0, gs74_1, gs74_2, gs74_3, gs100_0, gs100_1, gs100_2, gs100_3, gr64_1, gr64_2, gr64_3, gr64_7, gr64_11, gr64_12, gr64_13, gr64_15, gr64_16, gr64_17, gr64_18, gr64_19, gr64_20, gr64_21, gr64_22, gr64_23, gr70_4, gr71_4, gu73, gu99, gu93, pa72, pa84, pa85, pa86, pa90, pa92, pa87, pa91, pa88, pa89, pf64_4, pf64_5, pf64_6, pf64_8, pf64_9, pf64_10, pf64_14, pf70_0, pf70_1, pf70_2, pf70_3, pf71_0, pf71_1, pf71_2, pf71_3, ps74_0, ps74_1, ps74_2, ps74_3, ps100_0, ps100_1, ps100_2, ps100_3, s_in, s_has, s_one, s_roomOf, s_hurtOf, s_isLost, s_standOf, s_isTray, s_isSoon, s_fallen, s_isPassage, s_isRoom, s_isPassage70, s_leads70, s_isBack70, s_isPassage, s_isRoom, s_isPassage71, s_leads71, s_isBack71, s_onec, s_bitCount]
    exact ⟨_, _, rfl, cs1, cj1, _, rfl, rfl, Or.inr ⟨q, by rw [n0]⟩⟩
  · rw [if_neg q]
    exact ⟨_, _, rfl, cs, cj, _, rfl, rfl, Or.inl ⟨q, rfl⟩⟩
def rFB (A : Int → Int) (m r hu i z : Int) : Prop := (fF A m r hu ≠ 0 ∧ z = fF A m r hu) ∨ (fF A m r hu = 0 ∧ i < 0 ∧ z = -3)
  ∨ (fF A m r hu = 0 ∧ 0 ≤ i ∧ z = if wy (nxt A (A 44)) (6 * r + hu) m.toNat (6 * A 42 + A 43) = 0 ∨ m ≤ i then -1 else stpF (nxt A (A 44)) (wy (nxt A (A 44)) (6 * r + hu) (m.toNat - (i.toNat + 1))) (posF (nxt A (A 44)) (6 * r + hu) m.toNat (6 * A 42 + A 43) i.toNat))
theorem c_foundBy (h : bCt κ g ca A cp) (h0 : -2147483648 ≤ m) (h00 : m < 2147483648) (h3 : -2147483648 ≤ r) (h4 : r < 2147483648) (h5 : -2147483648 ≤ hu) (h6 : hu < 2147483648) (h7 : -2147483648 ≤ i) (h8 : i < 2147483648) (hD : 912 ≤ D) :
    bk_wp (bk_call D 55 [.ref 64, .int (bk_i m), .int (bk_i r), .int (bk_i hu), .int (bk_i i)] (bk_M κ (cp, cs, cj) Y g n)) (bCq κ cp Y g n (rFB A m r hu i)) := by
  obtain ⟨d, rfl⟩ := dep hD
  have st := bCt_st h
  have hct := h
  have fr := fF_rng A m r hu
  obtain ⟨hF, hc, hw, hs, n0, n1, n2, n3⟩ := h
  have ef := s_foundFault (κ := κ) (X := (cp, cs, cj)) (Y := Y) (n := n) (D := d) hF hc hw h0 h00 h3 h4 h5 h6 (by omega)
  have hN := nxt_N hw (A 44) (R := 36) (by omega)
  obtain ⟨c0, c1, c2, c3, c4, c5, c6, c7, c8, ⟨tw, ctw, htw⟩, cb, ce, cd, cw, cwp, hca, -, -⟩ := hc
  rw [kX0_foundBy, eX0_foundBy_0]
  simp (disch := first | assumption | omega) only [c0, c1, c2, c3, c4, c5, c6, c7, c8, ctw, cb, ce, cd, cw, cwp, ef, bi_add, bi_sub, bi_mul, bi_neg, bi_div, bi_64, bl_add, bl_sub, bl_mul, bl_neg, bl_div, bl_32, bi_min, bi_max, bl_min, bl_max, bq_I, bq_J, bq_A, bq_Vi, bq_Vl, bq_Vr, bq_cV, bq_cI, bq_cJ, bq_cA, bq_le, bq_lt, bq_eq, bq_z, bq_o, bq_ref, bq_nz, bq_nzJ, bq_bl, bq_blz, bq_T, bq_F, if_true, if_false, Int.reduceEq, Int.reduceLT, Int.reduceLE, Int.reduceAdd, Int.reduceSub, Int.reduceMul, Int.add_sub_cancel, li_0, li_1, li_2, li_3, li_8, li_11, li_16, li_23, li_36, li_53, li_54, li_55, li_67, li_70, li_100, li_104, li_118, ll_0, ll_1, ll_2, ll_3, ll_8, ll_11, ll_16, ll_23, ll_36, ll_53, ll_54, ll_55, ll_67, ll_70, ll_100, ll_104, ll_118, ga72, ga84, ga85, ga86, ga90, ga92, ga87, ga91, ga88, ga89, gf64_4, gf64_5, gf64_6, gf64_8, gf64_9, gf64_10, gf64_14, gf70_0, gf70_1, gf70_2, gf70_3, gf71_0, gf71_1, gf71_2, gf71_3, gs74_0, gs74_1, gs74_2, gs74_3, gs100_0, gs100_1, gs100_2, gs100_3, gr64_1, gr64_2, gr64_3, gr64_7, gr64_11, gr64_12, gr64_13, gr64_15, gr64_16, gr64_17, gr64_18, gr64_19, gr64_20, gr64_21, gr64_22, gr64_23, gr70_4, gr71_4, gu73, gu99, gu93, pa72, pa84, pa85, pa86, pa90, pa92, pa87, pa91, pa88, pa89, pf64_4, pf64_5, pf64_6, pf64_8, pf64_9, pf64_10, pf64_14, pf70_0, pf70_1, pf70_2, pf70_3, pf71_0, pf71_1, pf71_2, pf71_3, ps74_0, ps74_1, ps74_2, ps74_3, ps100_0, ps100_1, ps100_2, ps100_3, s_in, s_has, s_one, s_roomOf, s_hurtOf, s_isLost, s_standOf, s_isTray, s_isSoon, s_fallen, s_isPassage, s_isRoom, s_isPassage70, s_leads70, s_isBack70, s_isPassage, s_isRoom, s_isPassage71, s_leads71, s_isBack71, s_onec, s_bitCount]
  by_cases q : fF A m r hu = 0
  · have q' := fF_0 q
    rw [if_pos q]
    by_cases q2 : 0 ≤ i
    · rw [if_pos q2, q, eX0_foundBy_23]
      generalize hto : 6 * r + hu = to
      have to0 : 0 ≤ to := by omega
      have to1 : to < 36 := by omega
      obtain ⟨cs1, cj1, f1, v1, f2, v2, e1⟩ := s_laysOnward (cs := cs) (cj := cj) (Y := Y) (n := n) (D := d) (to := to) (N := nxt A (A 44)) hct q'.2.2.2.2.1 q'.2.2.2.2.2 to0 to1 0 (fun s p _ _ p0 p1 => none_but p0 p1) (by omega)
      have wb := wy_b (to := to) hN (k := m.toNat) (by omega) (s := cp 70 0) st.1 (by omega)
      simp (disch := first | assumption | omega) only [c0, c1, c2, c3, c4, c5, c6, c7, c8, ctw, cb, ce, cd, cw, cwp, hto, e1, lc0, bi_add, bi_sub, bi_mul, bi_neg, bi_div, bi_64, bl_add, bl_sub, bl_mul, bl_neg, bl_div, bl_32, bi_min, bi_max, bl_min, bl_max, bq_I, bq_J, bq_A, bq_Vi, bq_Vl, bq_Vr, bq_cV, bq_cI, bq_cJ, bq_cA, bq_le, bq_lt, bq_eq, bq_z, bq_o, bq_ref, bq_nz, bq_nzJ, bq_bl, bq_blz, bq_T, bq_F, if_true, if_false, Int.reduceEq, Int.reduceLT, Int.reduceLE, Int.reduceAdd, Int.reduceSub, Int.reduceMul, Int.add_sub_cancel, li_0, li_1, li_2, li_3, li_8, li_11, li_16, li_23, li_36, li_53, li_54, li_55, li_67, li_70, li_100, li_104, li_118, ll_0, ll_1, ll_2, ll_3, ll_8, ll_11, ll_16, ll_23, ll_36, ll_53, ll_54, ll_55, ll_67, ll_70, ll_100, ll_104, ll_118, ga72, ga84, ga85, ga86, ga90, ga92, ga87, ga91, ga88, ga89, gf64_4, gf64_5, gf64_6, gf64_8, gf64_9, gf64_10, gf64_14, gf70_0, gf70_1, gf70_2, gf70_3, gf71_0, gf71_1, gf71_2, gf71_3, gs74_0, gs74_1, gs74_2, gs74_3, gs100_0, gs100_1, gs100_2, gs100_3, gr64_1, gr64_2, gr64_3, gr64_7, gr64_11, gr64_12, gr64_13, gr64_15, gr64_16, gr64_17, gr64_18, gr64_19, gr64_20, gr64_21, gr64_22, gr64_23, gr70_4, gr71_4, gu73, gu99, gu93, pa72, pa84, pa85, pa86, pa90, pa92, pa87, pa91, pa88, pa89, pf64_4, pf64_5, pf64_6, pf64_8, pf64_9, pf64_10, pf64_14, pf70_0, pf70_1, pf70_2, pf70_3, pf71_0, pf71_1, pf71_2, pf71_3, ps74_0, ps74_1, ps74_2, ps74_3, ps100_0, ps100_1, ps100_2, ps100_3, s_in, s_has, s_one, s_roomOf, s_hurtOf, s_isLost, s_standOf, s_isTray, s_isSoon, s_fallen, s_isPassage, s_isRoom, s_isPassage70, s_leads70, s_isBack70, s_isPassage, s_isRoom, s_isPassage71, s_leads71, s_isBack71, s_onec, s_bitCount]
      by_cases q3 : wy (nxt A (A 44)) to m.toNat (cp 70 0) = 0
      · rw [if_pos q3]
        exact ⟨_, _, rfl, cs1, cj1, _, rfl, rfl, Or.inr (Or.inr ⟨q, q2, by rw [hto, ← n0, if_pos (Or.inl q3)]⟩)⟩
      · rw [if_neg q3]
        by_cases q4 : i < m
        · rw [if_pos q4]
          have z0 : cp 70 0 = posF (nxt A (A 44)) to m.toNat (cp 70 0) (0 : Int).toNat := rfl
          have find : ∀ (k : Int) (w : Value) (Q : Option Value → bk_H → Prop), 0 ≤ k → k < m → bk_wp (bk_den TX0_foundBy (bk_call d) 70 [.ref 64, .int (bk_i m), .int (bk_i r), .int (bk_i hu), .int (bk_i i), .int (bk_i 0), .int (bk_i (posF (nxt A (A 44)) to m.toNat (cp 70 0) k.toNat)), .int (bk_i k), .int (bk_i (stpF (nxt A (A 44)) (wy (nxt A (A 44)) to (m.toNat - (k.toNat + 1))) (posF (nxt A (A 44)) to m.toNat (cp 70 0) k.toNat)))] [] (bk_M κ (cp, cs1, cj1) Y g n)) Q
              → bk_wp (bk_den TX0_foundBy (bk_call d) 67 [.ref 64, .int (bk_i m), .int (bk_i r), .int (bk_i hu), .int (bk_i i), .int (bk_i 0), .int (bk_i (posF (nxt A (A 44)) to m.toNat (cp 70 0) k.toNat)), .int (bk_i k), w] [] (bk_M κ (cp, cs1, cj1) Y g n)) Q := by
            intro k w Q k0 km hQ
            obtain ⟨p0, p1, p2⟩ := posF_is hN st.1 (show cp 70 0 < 36 by omega) q3 k.toNat (by omega)
            have ek : m.toNat - k.toNat = (m.toNat - (k.toNat + 1)) + 1 := by omega
            rw [ek] at p2
            have si := stpF_is p2
            have em : (m - (k + 1)).toNat = m.toNat - (k.toNat + 1) := by omega
            generalize posF (nxt A (A 44)) to m.toNat (cp 70 0) k.toNat = u at p0 p1 p2 si hQ ⊢
            rw [eX0_foundBy_67]
            refine bk_loop (σ := Unit) (fun p _ => bk_den TX0_foundBy (bk_call d) 70 [.ref 64, .int (bk_i m), .int (bk_i r), .int (bk_i hu), .int (bk_i i), .int (bk_i 0), .int (bk_i u), .int (bk_i k), .int (bk_i p)] [] (bk_M κ (cp, cs1, cj1) Y g n)) (fun p _ => 0 ≤ p) (stpF (nxt A (A 44)) (wy (nxt A (A 44)) to (m.toNat - (k.toNat + 1))) u) ?_ (fun _ _ => hQ) 0 () si.1 (by omega)
            rintro p - hp pp0 cont
            have dm := (nxt_dom si.2.2.1).2.1
            have np := hN u p p0 p1 pp0 (by omega)
            have no := si.2.2.2.2 p pp0 hp
            rw [eX0_foundBy_70]
            simp (disch := first | assumption | omega) only [v1 u p p0 p1 pp0 (by omega), eX0_foundBy_118, bi_add, bi_sub, bi_mul, bi_neg, bi_div, bi_64, bl_add, bl_sub, bl_mul, bl_neg, bl_div, bl_32, bi_min, bi_max, bl_min, bl_max, bq_I, bq_J, bq_A, bq_Vi, bq_Vl, bq_Vr, bq_cV, bq_cI, bq_cJ, bq_cA, bq_le, bq_lt, bq_eq, bq_z, bq_o, bq_ref, bq_nz, bq_nzJ, bq_bl, bq_blz, bq_T, bq_F, if_true, if_false, Int.reduceEq, Int.reduceLT, Int.reduceLE, Int.reduceAdd, Int.reduceSub, Int.reduceMul, Int.add_sub_cancel, li_0, li_1, li_2, li_3, li_8, li_11, li_16, li_23, li_36, li_53, li_54, li_55, li_67, li_70, li_100, li_104, li_118, ll_0, ll_1, ll_2, ll_3, ll_8, ll_11, ll_16, ll_23, ll_36, ll_53, ll_54, ll_55, ll_67, ll_70, ll_100, ll_104, ll_118, ga72, ga84, ga85, ga86, ga90, ga92, ga87, ga91, ga88, ga89, gf64_4, gf64_5, gf64_6, gf64_8, gf64_9, gf64_10, gf64_14, gf70_0, gf70_1, gf70_2, gf70_3, gf71_0, gf71_1, gf71_2, gf71_3, gs74_0, gs74_1, gs74_2, gs74_3, gs100_0, gs100_1, gs100_2, gs100_3, gr64_1, gr64_2, gr64_3, gr64_7, gr64_11, gr64_12, gr64_13, gr64_15, gr64_16, gr64_17, gr64_18, gr64_19, gr64_20, gr64_21, gr64_22, gr64_23, gr70_4, gr71_4, gu73, gu99, gu93, pa72, pa84, pa85, pa86, pa90, pa92, pa87, pa91, pa88, pa89, pf64_4, pf64_5, pf64_6, pf64_8, pf64_9, pf64_10, pf64_14, pf70_0, pf70_1, pf70_2, pf70_3, pf71_0, pf71_1, pf71_2, pf71_3, ps74_0, ps74_1, ps74_2, ps74_3, ps100_0, ps100_1, ps100_2, ps100_3, s_in, s_has, s_one, s_roomOf, s_hurtOf, s_isLost, s_standOf, s_isTray, s_isSoon, s_fallen, s_isPassage, s_isRoom, s_isPassage70, s_leads70, s_isBack70, s_isPassage, s_isRoom, s_isPassage71, s_leads71, s_isBack71, s_onec, s_bitCount]
            by_cases c : nxt A (A 44) u p = -1
            · rw [if_pos c]; exact cont () (by omega)
            · have wz : wy (nxt A (A 44)) to (m.toNat - (k.toNat + 1)) (nxt A (A 44) u p) = 0 := by
                by_cases z : wy (nxt A (A 44)) to (m.toNat - (k.toNat + 1)) (nxt A (A 44) u p) = 0
                · exact z
                · exact absurd ⟨c, z⟩ no
              have vr := v2 (k + 1) (nxt A (A 44) u p) (by omega) (by omega) (by omega) (by omega)
              rw [em, wz] at vr
              rw [if_neg c]
              simp (disch := first | assumption | omega) only [vr, lc0, if_true, eX0_foundBy_118, bi_add, bi_sub, bi_mul, bi_neg, bi_div, bi_64, bl_add, bl_sub, bl_mul, bl_neg, bl_div, bl_32, bi_min, bi_max, bl_min, bl_max, bq_I, bq_J, bq_A, bq_Vi, bq_Vl, bq_Vr, bq_cV, bq_cI, bq_cJ, bq_cA, bq_le, bq_lt, bq_eq, bq_z, bq_o, bq_ref, bq_nz, bq_nzJ, bq_bl, bq_blz, bq_T, bq_F, if_true, if_false, Int.reduceEq, Int.reduceLT, Int.reduceLE, Int.reduceAdd, Int.reduceSub, Int.reduceMul, Int.add_sub_cancel, li_0, li_1, li_2, li_3, li_8, li_11, li_16, li_23, li_36, li_53, li_54, li_55, li_67, li_70, li_100, li_104, li_118, ll_0, ll_1, ll_2, ll_3, ll_8, ll_11, ll_16, ll_23, ll_36, ll_53, ll_54, ll_55, ll_67, ll_70, ll_100, ll_104, ll_118, ga72, ga84, ga85, ga86, ga90, ga92, ga87, ga91, ga88, ga89, gf64_4, gf64_5, gf64_6, gf64_8, gf64_9, gf64_10, gf64_14, gf70_0, gf70_1, gf70_2, gf70_3, gf71_0, gf71_1, gf71_2, gf71_3, gs74_0, gs74_1, gs74_2, gs74_3, gs100_0, gs100_1, gs100_2, gs100_3, gr64_1, gr64_2, gr64_3, gr64_7, gr64_11, gr64_12, gr64_13, gr64_15, gr64_16, gr64_17, gr64_18, gr64_19, gr64_20, gr64_21, gr64_22, gr64_23, gr70_4, gr71_4, gu73, gu99, gu93, pa72, pa84, pa85, pa86, pa90, pa92, pa87, pa91, pa88, pa89, pf64_4, pf64_5, pf64_6, pf64_8, pf64_9, pf64_10, pf64_14, pf70_0, pf70_1, pf70_2, pf70_3, pf71_0, pf71_1, pf71_2, pf71_3, ps74_0, ps74_1, ps74_2, ps74_3, ps100_0, ps100_1, ps100_2, ps100_3, s_in, s_has, s_one, s_roomOf, s_hurtOf, s_isLost, s_standOf, s_isTray, s_isSoon, s_fallen, s_isPassage, s_isRoom, s_isPassage70, s_leads70, s_isBack70, s_isPassage, s_isRoom, s_isPassage71, s_leads71, s_isBack71, s_onec, s_bitCount]
              exact cont () (by omega)
          have hit : ∀ k, 0 ≤ k → k < m → 0 ≤ stpF (nxt A (A 44)) (wy (nxt A (A 44)) to (m.toNat - (k.toNat + 1))) (posF (nxt A (A 44)) to m.toNat (cp 70 0) k.toNat) ∧ bk_den TX0_foundBy (bk_call d) 70 [.ref 64, .int (bk_i m), .int (bk_i r), .int (bk_i hu), .int (bk_i i), .int (bk_i 0), .int (bk_i (posF (nxt A (A 44)) to m.toNat (cp 70 0) k.toNat)), .int (bk_i k), .int (bk_i (stpF (nxt A (A 44)) (wy (nxt A (A 44)) to (m.toNat - (k.toNat + 1))) (posF (nxt A (A 44)) to m.toNat (cp 70 0) k.toNat)))] [] (bk_M κ (cp, cs1, cj1) Y g n)
              = if k = i then some (some (.int (bk_i (stpF (nxt A (A 44)) (wy (nxt A (A 44)) to (m.toNat - (k.toNat + 1))) (posF (nxt A (A 44)) to m.toNat (cp 70 0) k.toNat)))), bk_M κ (cp, cs1, cj1) Y g n)
                else bk_den TX0_foundBy (bk_call d) 67 [.ref 64, .int (bk_i m), .int (bk_i r), .int (bk_i hu), .int (bk_i i), .int (bk_i 0), .int (bk_i (posF (nxt A (A 44)) to m.toNat (cp 70 0) (k + 1).toNat)), .int (bk_i (k + 1)), .int (bk_i (stpF (nxt A (A 44)) (wy (nxt A (A 44)) to (m.toNat - (k.toNat + 1))) (posF (nxt A (A 44)) to m.toNat (cp 70 0) k.toNat)))] [] (bk_M κ (cp, cs1, cj1) Y g n) := by
            intro k k0 km
            obtain ⟨p0, p1, p2⟩ := posF_is hN st.1 (show cp 70 0 < 36 by omega) q3 k.toNat (by omega)
            have ek : m.toNat - k.toNat = (m.toNat - (k.toNat + 1)) + 1 := by omega
            rw [ek] at p2
            have si := stpF_is p2
            have em : (m - (k + 1)).toNat = m.toNat - (k.toNat + 1) := by omega
            have e1 : (k + 1).toNat = k.toNat + 1 := by omega
            have sc : posF (nxt A (A 44)) to m.toNat (cp 70 0) (k + 1).toNat = nxt A (A 44) (posF (nxt A (A 44)) to m.toNat (cp 70 0) k.toNat) (stpF (nxt A (A 44)) (wy (nxt A (A 44)) to (m.toNat - (k.toNat + 1))) (posF (nxt A (A 44)) to m.toNat (cp 70 0) k.toNat)) := by
              rw [e1]; rfl
            rw [sc]
            generalize posF (nxt A (A 44)) to m.toNat (cp 70 0) k.toNat = u at p0 p1 p2 si ⊢
            have dm := (nxt_dom si.2.2.1).2.1
            have np := hN u _ p0 p1 si.1 si.2.1
            have s0 := si.1
            have s1 := si.2.1
            have sn := si.2.2.1
            have wn := si.2.2.2.1
            have wb := wy_b (to := to) hN (k := m.toNat - (k.toNat + 1)) (by omega) (s := nxt A (A 44) u (stpF (nxt A (A 44)) (wy (nxt A (A 44)) to (m.toNat - (k.toNat + 1))) u)) (by omega) (by omega)
            have vr := v2 (k + 1) (nxt A (A 44) u (stpF (nxt A (A 44)) (wy (nxt A (A 44)) to (m.toNat - (k.toNat + 1))) u)) (by omega) (by omega) (by omega) (by omega)
            rw [em] at vr
            refine ⟨s0, ?_⟩
            rw [eX0_foundBy_70]
            simp (disch := first | assumption | omega) only [v1 u _ p0 p1 s0 dm, if_neg sn, vr, lc0, if_neg wn, bi_add, bi_sub, bi_mul, bi_neg, bi_div, bi_64, bl_add, bl_sub, bl_mul, bl_neg, bl_div, bl_32, bi_min, bi_max, bl_min, bl_max, bq_I, bq_J, bq_A, bq_Vi, bq_Vl, bq_Vr, bq_cV, bq_cI, bq_cJ, bq_cA, bq_le, bq_lt, bq_eq, bq_z, bq_o, bq_ref, bq_nz, bq_nzJ, bq_bl, bq_blz, bq_T, bq_F, if_true, if_false, Int.reduceEq, Int.reduceLT, Int.reduceLE, Int.reduceAdd, Int.reduceSub, Int.reduceMul, Int.add_sub_cancel, li_0, li_1, li_2, li_3, li_8, li_11, li_16, li_23, li_36, li_53, li_54, li_55, li_67, li_70, li_100, li_104, li_118, ll_0, ll_1, ll_2, ll_3, ll_8, ll_11, ll_16, ll_23, ll_36, ll_53, ll_54, ll_55, ll_67, ll_70, ll_100, ll_104, ll_118, ga72, ga84, ga85, ga86, ga90, ga92, ga87, ga91, ga88, ga89, gf64_4, gf64_5, gf64_6, gf64_8, gf64_9, gf64_10, gf64_14, gf70_0, gf70_1, gf70_2, gf70_3, gf71_0, gf71_1, gf71_2, gf71_3, gs74_0, gs74_1, gs74_2, gs74_3, gs100_0, gs100_1, gs100_2, gs100_3, gr64_1, gr64_2, gr64_3, gr64_7, gr64_11, gr64_12, gr64_13, gr64_15, gr64_16, gr64_17, gr64_18, gr64_19, gr64_20, gr64_21, gr64_22, gr64_23, gr70_4, gr71_4, gu73, gu99, gu93, pa72, pa84, pa85, pa86, pa90, pa92, pa87, pa91, pa88, pa89, pf64_4, pf64_5, pf64_6, pf64_8, pf64_9, pf64_10, pf64_14, pf70_0, pf70_1, pf70_2, pf70_3, pf71_0, pf71_1, pf71_2, pf71_3, ps74_0, ps74_1, ps74_2, ps74_3, ps100_0, ps100_1, ps100_2, ps100_3, s_in, s_has, s_one, s_roomOf, s_hurtOf, s_isLost, s_standOf, s_isTray, s_isSoon, s_fallen, s_isPassage, s_isRoom, s_isPassage70, s_leads70, s_isBack70, s_isPassage, s_isRoom, s_isPassage71, s_leads71, s_isBack71, s_onec, s_bitCount]
          rw [z0]
          refine bk_loop (σ := Value) (fun k w => bk_den TX0_foundBy (bk_call d) 67 [.ref 64, .int (bk_i m), .int (bk_i r), .int (bk_i hu), .int (bk_i i), .int (bk_i 0), .int (bk_i (posF (nxt A (A 44)) to m.toNat (cp 70 0) k.toNat)), .int (bk_i k), w] [] (bk_M κ (cp, cs1, cj1) Y g n)) (fun k _ => 0 ≤ k) i ?_ ?_ 0 _ q2 (by omega)
          · rintro k w hk k0 cont
            refine find k w _ k0 (by omega) ?_
            rw [(hit k k0 (by omega)).2, if_neg (by omega)]
            exact cont _ (by omega)
          · rintro w k0
            refine find i w _ k0 (by omega) ?_
            rw [(hit i k0 (by omega)).2, if_pos rfl]
            exact ⟨_, _, rfl, cs1, cj1, _, rfl, rfl, Or.inr (Or.inr ⟨q, q2, by rw [hto, ← n0, if_neg (by omega)]⟩)⟩
        · rw [if_neg q4]
          exact ⟨_, _, rfl, cs1, cj1, _, rfl, rfl, Or.inr (Or.inr ⟨q, q2, by rw [hto, ← n0, if_pos (Or.inr (by omega))]⟩)⟩
    · rw [if_neg q2, eX0_foundBy_23]
      simp (disch := first | assumption | omega) only [bi_add, bi_sub, bi_mul, bi_neg, bi_div, bi_64, bl_add, bl_sub, bl_mul, bl_neg, bl_div, bl_32, bi_min, bi_max, bl_min, bl_max, bq_I, bq_J, bq_A, bq_Vi, bq_Vl, bq_Vr, bq_cV, bq_cI, bq_cJ, bq_cA, bq_le, bq_lt, bq_eq, bq_z, bq_o, bq_ref, bq_nz, bq_nzJ, bq_bl, bq_blz, bq_T, bq_F, if_true, if_false, Int.reduceEq, Int.reduceLT, Int.reduceLE, Int.reduceAdd, Int.reduceSub, Int.reduceMul, Int.add_sub_cancel, li_0, li_1, li_2, li_3, li_8, li_11, li_16, li_23, li_36, li_53, li_54, li_55, li_67, li_70, li_100, li_104, li_118, ll_0, ll_1, ll_2, ll_3, ll_8, ll_11, ll_16, ll_23, ll_36, ll_53, ll_54, ll_55, ll_67, ll_70, ll_100, ll_104, ll_118, ga72, ga84, ga85, ga86, ga90, ga92, ga87, ga91, ga88, ga89, gf64_4, gf64_5, gf64_6, gf64_8, gf64_9, gf64_10, gf64_14, gf70_0, gf70_1, gf70_2, gf70_3, gf71_0, gf71_1, gf71_2, gf71_3, gs74_0, gs74_1, gs74_2, gs74_3, gs100_0, gs100_1, gs100_2, gs100_3, gr64_1, gr64_2, gr64_3, gr64_7, gr64_11, gr64_12, gr64_13, gr64_15, gr64_16, gr64_17, gr64_18, gr64_19, gr64_20, gr64_21, gr64_22, gr64_23, gr70_4, gr71_4, gu73, gu99, gu93, pa72, pa84, pa85, pa86, pa90, pa92, pa87, pa91, pa88, pa89, pf64_4, pf64_5, pf64_6, pf64_8, pf64_9, pf64_10, pf64_14, pf70_0, pf70_1, pf70_2, pf70_3, pf71_0, pf71_1, pf71_2, pf71_3, ps74_0, ps74_1, ps74_2, ps74_3, ps100_0, ps100_1, ps100_2, ps100_3, s_in, s_has, s_one, s_roomOf, s_hurtOf, s_isLost, s_standOf, s_isTray, s_isSoon, s_fallen, s_isPassage, s_isRoom, s_isPassage70, s_leads70, s_isBack70, s_isPassage, s_isRoom, s_isPassage71, s_leads71, s_isBack71, s_onec, s_bitCount]
      exact ⟨_, _, rfl, cs, cj, _, rfl, rfl, Or.inr (Or.inl ⟨q, by omega, rfl⟩)⟩
  · rw [if_neg q, eX0_foundBy_23]
    simp (disch := first | assumption | omega) only [if_neg q, bi_add, bi_sub, bi_mul, bi_neg, bi_div, bi_64, bl_add, bl_sub, bl_mul, bl_neg, bl_div, bl_32, bi_min, bi_max, bl_min, bl_max, bq_I, bq_J, bq_A, bq_Vi, bq_Vl, bq_Vr, bq_cV, bq_cI, bq_cJ, bq_cA, bq_le, bq_lt, bq_eq, bq_z, bq_o, bq_ref, bq_nz, bq_nzJ, bq_bl, bq_blz, bq_T, bq_F, if_true, if_false, Int.reduceEq, Int.reduceLT, Int.reduceLE, Int.reduceAdd, Int.reduceSub, Int.reduceMul, Int.add_sub_cancel, li_0, li_1, li_2, li_3, li_8, li_11, li_16, li_23, li_36, li_53, li_54, li_55, li_67, li_70, li_100, li_104, li_118, ll_0, ll_1, ll_2, ll_3, ll_8, ll_11, ll_16, ll_23, ll_36, ll_53, ll_54, ll_55, ll_67, ll_70, ll_100, ll_104, ll_118, ga72, ga84, ga85, ga86, ga90, ga92, ga87, ga91, ga88, ga89, gf64_4, gf64_5, gf64_6, gf64_8, gf64_9, gf64_10, gf64_14, gf70_0, gf70_1, gf70_2, gf70_3, gf71_0, gf71_1, gf71_2, gf71_3, gs74_0, gs74_1, gs74_2, gs74_3, gs100_0, gs100_1, gs100_2, gs100_3, gr64_1, gr64_2, gr64_3, gr64_7, gr64_11, gr64_12, gr64_13, gr64_15, gr64_16, gr64_17, gr64_18, gr64_19, gr64_20, gr64_21, gr64_22, gr64_23, gr70_4, gr71_4, gu73, gu99, gu93, pa72, pa84, pa85, pa86, pa90, pa92, pa87, pa91, pa88, pa89, pf64_4, pf64_5, pf64_6, pf64_8, pf64_9, pf64_10, pf64_14, pf70_0, pf70_1, pf70_2, pf70_3, pf71_0, pf71_1, pf71_2, pf71_3, ps74_0, ps74_1, ps74_2, ps74_3, ps100_0, ps100_1, ps100_2, ps100_3, s_in, s_has, s_one, s_roomOf, s_hurtOf, s_isLost, s_standOf, s_isTray, s_isSoon, s_fallen, s_isPassage, s_isRoom, s_isPassage70, s_leads70, s_isBack70, s_isPassage, s_isRoom, s_isPassage71, s_leads71, s_isBack71, s_onec, s_bitCount]
    exact ⟨_, _, rfl, cs, cj, _, rfl, rfl, Or.inl ⟨q, rfl⟩⟩
def rSure (A : Int → Int) (m r hu z : Int) : Prop := (fF A m r hu ≠ 0 ∧ z = fF A m r hu)
  ∨ (fF A m r hu = 0 ∧ z = if wy (nxt A (A 44)) (6 * r + hu) m.toNat (6 * A 42 + A 43) = 0 then 0 else suM (nxt A (A 44)) (6 * r + hu) m.toNat (6 * A 42 + A 43) (A 2).toNat)
theorem c_surely (h : bCt κ g ca A cp) (h0 : -2147483648 ≤ m) (h00 : m < 2147483648) (h3 : -2147483648 ≤ r) (h4 : r < 2147483648) (h5 : -2147483648 ≤ hu) (h6 : hu < 2147483648) (hD : 912 ≤ D) :
    bk_wp (bk_call D 56 [.ref 64, .int (bk_i m), .int (bk_i r), .int (bk_i hu)] (bk_M κ (cp, cs, cj) Y g n)) (bCq κ cp Y g n (rSure A m r hu)) := by
  obtain ⟨d, rfl⟩ := dep hD
  have st := bCt_st h
  have hct := h
  have fr := fF_rng A m r hu
  obtain ⟨hF, hc, hw, hs, n0, n1, n2, n3⟩ := h
  have ef := s_foundFault (κ := κ) (X := (cp, cs, cj)) (Y := Y) (n := n) (D := d) hF hc hw h0 h00 h3 h4 h5 h6 (by omega)
  have hN := nxt_N hw (A 44) (R := 36) (by omega)
  obtain ⟨c0, c1, c2, c3, c4, c5, c6, c7, c8, ⟨tw, ctw, htw⟩, cb, ce, cd, cw, cwp, hca, -, -⟩ := hc
  rw [kX0_surely, eX0_surely_0]
  simp (disch := first | assumption | omega) only [c0, c1, c2, c3, c4, c5, c6, c7, c8, ctw, cb, ce, cd, cw, cwp, ef, bi_add, bi_sub, bi_mul, bi_neg, bi_div, bi_64, bl_add, bl_sub, bl_mul, bl_neg, bl_div, bl_32, bi_min, bi_max, bl_min, bl_max, bq_I, bq_J, bq_A, bq_Vi, bq_Vl, bq_Vr, bq_cV, bq_cI, bq_cJ, bq_cA, bq_le, bq_lt, bq_eq, bq_z, bq_o, bq_ref, bq_nz, bq_nzJ, bq_bl, bq_blz, bq_T, bq_F, if_true, if_false, Int.reduceEq, Int.reduceLT, Int.reduceLE, Int.reduceAdd, Int.reduceSub, Int.reduceMul, Int.add_sub_cancel, li_0, li_1, li_5, li_31, li_45, li_53, li_54, li_56, li_83, ll_0, ll_1, ll_5, ll_31, ll_45, ll_53, ll_54, ll_56, ll_83, ga72, ga84, ga85, ga86, ga90, ga92, ga87, ga91, ga88, ga89, gf64_4, gf64_5, gf64_6, gf64_8, gf64_9, gf64_10, gf64_14, gf70_0, gf70_1, gf70_2, gf70_3, gf71_0, gf71_1, gf71_2, gf71_3, gs74_0, gs74_1, gs74_2, gs74_3, gs100_0, gs100_1, gs100_2, gs100_3, gr64_1, gr64_2, gr64_3, gr64_7, gr64_11, gr64_12, gr64_13, gr64_15, gr64_16, gr64_17, gr64_18, gr64_19, gr64_20, gr64_21, gr64_22, gr64_23, gr70_4, gr71_4, gu73, gu99, gu93, pa72, pa84, pa85, pa86, pa90, pa92, pa87, pa91, pa88, pa89, pf64_4, pf64_5, pf64_6, pf64_8, pf64_9, pf64_10, pf64_14, pf70_0, pf70_1, pf70_2, pf70_3, pf71_0, pf71_1, pf71_2, pf71_3, ps74_0, ps74_1, ps74_2, ps74_3, ps100_0, ps100_1, ps100_2, ps100_3, s_in, s_has, s_one, s_roomOf, s_hurtOf, s_isLost, s_standOf, s_isTray, s_isSoon, s_fallen, s_isPassage, s_isRoom, s_isPassage70, s_leads70, s_isBack70, s_isPassage, s_isRoom, s_isPassage71, s_leads71, s_isBack71, s_onec, s_bitCount]
  by_cases q : fF A m r hu = 0
  · have q' := fF_0 q
    rw [if_pos q, q]
    generalize hto : 6 * r + hu = to
    have to0 : 0 ≤ to := by omega
    have to1 : to < 36 := by omega
    obtain ⟨cs1, cj1, f1, v1, f2, v2, e1⟩ := s_laysOnward (cs := cs) (cj := cj) (Y := Y) (n := n) (D := d) (to := to) (N := nxt A (A 44)) hct q'.2.2.2.2.1 q'.2.2.2.2.2 to0 to1 0 (fun s p _ _ p0 p1 => none_but p0 p1) (by omega)
    have wb := wy_b (to := to) hN (k := m.toNat) (by omega) (s := cp 70 0) st.1 (by omega)
    simp (disch := first | assumption | omega) only [c0, c1, c2, c3, c4, c5, c6, c7, c8, ctw, cb, ce, cd, cw, cwp, e1, lc0, bi_add, bi_sub, bi_mul, bi_neg, bi_div, bi_64, bl_add, bl_sub, bl_mul, bl_neg, bl_div, bl_32, bi_min, bi_max, bl_min, bl_max, bq_I, bq_J, bq_A, bq_Vi, bq_Vl, bq_Vr, bq_cV, bq_cI, bq_cJ, bq_cA, bq_le, bq_lt, bq_eq, bq_z, bq_o, bq_ref, bq_nz, bq_nzJ, bq_bl, bq_blz, bq_T, bq_F, if_true, if_false, Int.reduceEq, Int.reduceLT, Int.reduceLE, Int.reduceAdd, Int.reduceSub, Int.reduceMul, Int.add_sub_cancel, li_0, li_1, li_5, li_31, li_45, li_53, li_54, li_56, li_83, ll_0, ll_1, ll_5, ll_31, ll_45, ll_53, ll_54, ll_56, ll_83, ga72, ga84, ga85, ga86, ga90, ga92, ga87, ga91, ga88, ga89, gf64_4, gf64_5, gf64_6, gf64_8, gf64_9, gf64_10, gf64_14, gf70_0, gf70_1, gf70_2, gf70_3, gf71_0, gf71_1, gf71_2, gf71_3, gs74_0, gs74_1, gs74_2, gs74_3, gs100_0, gs100_1, gs100_2, gs100_3, gr64_1, gr64_2, gr64_3, gr64_7, gr64_11, gr64_12, gr64_13, gr64_15, gr64_16, gr64_17, gr64_18, gr64_19, gr64_20, gr64_21, gr64_22, gr64_23, gr70_4, gr71_4, gu73, gu99, gu93, pa72, pa84, pa85, pa86, pa90, pa92, pa87, pa91, pa88, pa89, pf64_4, pf64_5, pf64_6, pf64_8, pf64_9, pf64_10, pf64_14, pf70_0, pf70_1, pf70_2, pf70_3, pf71_0, pf71_1, pf71_2, pf71_3, ps74_0, ps74_1, ps74_2, ps74_3, ps100_0, ps100_1, ps100_2, ps100_3, s_in, s_has, s_one, s_roomOf, s_hurtOf, s_isLost, s_standOf, s_isTray, s_isSoon, s_fallen, s_isPassage, s_isRoom, s_isPassage70, s_leads70, s_isBack70, s_isPassage, s_isRoom, s_isPassage71, s_leads71, s_isBack71, s_onec, s_bitCount]
    by_cases q3 : wy (nxt A (A 44)) to m.toNat (cp 70 0) = 0
    · rw [if_pos q3]
      exact ⟨_, _, rfl, cs1, cj1, _, rfl, rfl, Or.inr ⟨q, by rw [hto, ← n0, if_pos q3]⟩⟩
    · rw [if_neg q3]
      refine bk_loop (σ := bF × bFJ) (fun p x => bk_den TX0_surely (bk_call d) 45 [.ref 64, .int (bk_i m), .int (bk_i r), .int (bk_i hu), .int (bk_i 0), .int (bk_i to), .int (bk_i (suM (nxt A (A 44)) to m.toNat (cp 70 0) p.toNat)), .int (bk_i p)] [] (bk_M κ (cp, x.1, x.2) Y g n)) (fun p _ => 0 ≤ p) (A 2) ?_ ?_ 0 (cs1, cj1) (by omega) (by omega)
      · rintro p ⟨cs2, cj2⟩ hp p0 cont
        have hNb := Nb_N hN p
        obtain ⟨cs3, cj3, f3, v3, f4, v4, e3⟩ := s_laysOnward (cs := cs2) (cj := cj2) (Y := Y) (n := n) (D := d) (to := to) (N := Nb (nxt A (A 44)) p) hct q'.2.2.2.2.1 q'.2.2.2.2.2 to0 to1 (sh p) (fun s u _ _ u0 u1 => by
          unfold Nb
          have z := bt_sh p0 (show p < 8 by omega) u0 u1
          by_cases c : u = p
          · rw [if_pos c, if_pos (z.mpr c)]
          · rw [if_neg c, if_neg (fun k => c (z.mp k))]) (by omega)
        have wb := wy_b (to := to) hNb (k := m.toNat) (by omega) (s := cp 70 0) st.1 (by omega)
        have c := cont (cs3, cj3) (by omega)
        rw [suM_succ _ _ _ _ p0] at c
        dsimp only at c ⊢
        rw [eX0_surely_45]
        simp (disch := first | assumption | omega) only [c0, c1, c2, c3, c4, c5, c6, c7, c8, ctw, cb, ce, cd, cw, cwp, if_neg (show ¬ A 2 ≤ p by omega), bi_sh, e3, lc0, eX0_surely_83, bi_io, bi_add, bi_sub, bi_mul, bi_neg, bi_div, bi_64, bl_add, bl_sub, bl_mul, bl_neg, bl_div, bl_32, bi_min, bi_max, bl_min, bl_max, bq_I, bq_J, bq_A, bq_Vi, bq_Vl, bq_Vr, bq_cV, bq_cI, bq_cJ, bq_cA, bq_le, bq_lt, bq_eq, bq_z, bq_o, bq_ref, bq_nz, bq_nzJ, bq_bl, bq_blz, bq_T, bq_F, if_true, if_false, Int.reduceEq, Int.reduceLT, Int.reduceLE, Int.reduceAdd, Int.reduceSub, Int.reduceMul, Int.add_sub_cancel, li_0, li_1, li_5, li_31, li_45, li_53, li_54, li_56, li_83, ll_0, ll_1, ll_5, ll_31, ll_45, ll_53, ll_54, ll_56, ll_83, ga72, ga84, ga85, ga86, ga90, ga92, ga87, ga91, ga88, ga89, gf64_4, gf64_5, gf64_6, gf64_8, gf64_9, gf64_10, gf64_14, gf70_0, gf70_1, gf70_2, gf70_3, gf71_0, gf71_1, gf71_2, gf71_3, gs74_0, gs74_1, gs74_2, gs74_3, gs100_0, gs100_1, gs100_2, gs100_3, gr64_1, gr64_2, gr64_3, gr64_7, gr64_11, gr64_12, gr64_13, gr64_15, gr64_16, gr64_17, gr64_18, gr64_19, gr64_20, gr64_21, gr64_22, gr64_23, gr70_4, gr71_4, gu73, gu99, gu93, pa72, pa84, pa85, pa86, pa90, pa92, pa87, pa91, pa88, pa89, pf64_4, pf64_5, pf64_6, pf64_8, pf64_9, pf64_10, pf64_14, pf70_0, pf70_1, pf70_2, pf70_3, pf71_0, pf71_1, pf71_2, pf71_3, ps74_0, ps74_1, ps74_2, ps74_3, ps100_0, ps100_1, ps100_2, ps100_3, s_in, s_has, s_one, s_roomOf, s_hurtOf, s_isLost, s_standOf, s_isTray, s_isSoon, s_fallen, s_isPassage, s_isRoom, s_isPassage70, s_leads70, s_isBack70, s_isPassage, s_isRoom, s_isPassage71, s_leads71, s_isBack71, s_onec, s_bitCount]
        by_cases z : wy (Nb (nxt A (A 44)) p) to m.toNat (cp 70 0) = 0
        · rw [if_pos z] at c ⊢; exact c
        · rw [if_neg z] at c ⊢; exact c
      · rintro ⟨cs2, cj2⟩ p0
        dsimp only
        rw [eX0_surely_45]
        simp (disch := first | assumption | omega) only [c0, c1, c2, c3, c4, c5, c6, c7, c8, ctw, cb, ce, cd, cw, cwp, if_pos (Int.le_refl (A 2)), bi_add, bi_sub, bi_mul, bi_neg, bi_div, bi_64, bl_add, bl_sub, bl_mul, bl_neg, bl_div, bl_32, bi_min, bi_max, bl_min, bl_max, bq_I, bq_J, bq_A, bq_Vi, bq_Vl, bq_Vr, bq_cV, bq_cI, bq_cJ, bq_cA, bq_le, bq_lt, bq_eq, bq_z, bq_o, bq_ref, bq_nz, bq_nzJ, bq_bl, bq_blz, bq_T, bq_F, if_true, if_false, Int.reduceEq, Int.reduceLT, Int.reduceLE, Int.reduceAdd, Int.reduceSub, Int.reduceMul, Int.add_sub_cancel, li_0, li_1, li_5, li_31, li_45, li_53, li_54, li_56, li_83, ll_0, ll_1, ll_5, ll_31, ll_45, ll_53, ll_54, ll_56, ll_83, ga72, ga84, ga85, ga86, ga90, ga92, ga87, ga91, ga88, ga89, gf64_4, gf64_5, gf64_6, gf64_8, gf64_9, gf64_10, gf64_14, gf70_0, gf70_1, gf70_2, gf70_3, gf71_0, gf71_1, gf71_2, gf71_3, gs74_0, gs74_1, gs74_2, gs74_3, gs100_0, gs100_1, gs100_2, gs100_3, gr64_1, gr64_2, gr64_3, gr64_7, gr64_11, gr64_12, gr64_13, gr64_15, gr64_16, gr64_17, gr64_18, gr64_19, gr64_20, gr64_21, gr64_22, gr64_23, gr70_4, gr71_4, gu73, gu99, gu93, pa72, pa84, pa85, pa86, pa90, pa92, pa87, pa91, pa88, pa89, pf64_4, pf64_5, pf64_6, pf64_8, pf64_9, pf64_10, pf64_14, pf70_0, pf70_1, pf70_2, pf70_3, pf71_0, pf71_1, pf71_2, pf71_3, ps74_0, ps74_1, ps74_2, ps74_3, ps100_0, ps100_1, ps100_2, ps100_3, s_in, s_has, s_one, s_roomOf, s_hurtOf, s_isLost, s_standOf, s_isTray, s_isSoon, s_fallen, s_isPassage, s_isRoom, s_isPassage70, s_leads70, s_isBack70, s_isPassage, s_isRoom, s_isPassage71, s_leads71, s_isBack71, s_onec, s_bitCount]
        exact ⟨_, _, rfl, cs2, cj2, _, rfl, rfl, Or.inr ⟨q, by rw [hto, ← n0, if_neg q3]⟩⟩
  · rw [if_neg q]
    exact ⟨_, _, rfl, cs, cj, _, rfl, rfl, Or.inl ⟨q, rfl⟩⟩
end FO
