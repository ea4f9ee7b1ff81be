/-! SPECS: the component's stands: where each passage leads, how far each stand is -/
set_option maxRecDepth 100000
def nxt (A : Int → Int) (rop s p : Int) : Int := if 0 ≤ p ∧ p < A 2 ∧ 0 ≤ s ∧ s < 6 * A 1 ∧ whyM A s p rop (A 45) = 0 then thenM A s p rop (A 45) else -1
theorem hurtM_rng (A : Int → Int) {s p rop sl : Int} (h3 : 0 ≤ s) : 0 ≤ hurtM A s p rop sl ∧ hurtM A s p rop sl ≤ 5 := by
  unfold hurtM
  split
  · omega
  · split <;> omega
theorem thenM_rng {A : Int → Int} (hw : bWF A 0) {s p rop sl : Int} (h1 : 0 ≤ p) (h2 : p < A 2) (h3 : 0 ≤ s) : 0 ≤ thenM A s p rop sl ∧ thenM A s p rop sl < 6 * A 1 := by
  have w9' := hw.2.2.2.2.2.2.2.2.1 p h1 (by simpa using h2)
  simp only [Int.zero_add] at w9'
  have := hurtM_rng A (s := s) (p := p) (rop := rop) (sl := sl) h3
  unfold thenM
  split <;> omega
theorem nxt_rng {A : Int → Int} (hw : bWF A 0) {s p : Int} (rop : Int) : nxt A rop s p = -1 ∨ (0 ≤ nxt A rop s p ∧ nxt A rop s p < 6 * A 1) := by
  unfold nxt
  split
  · rename_i h
    exact Or.inr (thenM_rng hw h.1 h.2.1 h.2.2.1)
  · exact Or.inl rfl
theorem nxt_dom {A : Int → Int} {rop s p : Int} (h : nxt A rop s p ≠ -1) : 0 ≤ p ∧ p < A 2 ∧ 0 ≤ s ∧ s < 6 * A 1 ∧ s % 6 ≠ 5 := by
  unfold nxt at h
  split at h
  · rename_i q
    refine ⟨q.1, q.2.1, q.2.2.1, q.2.2.2.1, fun e => ?_⟩
    have w := q.2.2.2.2
    unfold whyM at w
    split at w
    · first | omega | (rw [if_pos e] at w; omega)
    · omega
  · exact absurd rfl h
theorem whyM_rng (A : Int → Int) (s p rop sl : Int) : 0 ≤ whyM A s p rop sl ∧ whyM A s p rop sl ≤ 4 := by
  have := whyM_cases A s p rop sl
  omega
theorem nxt_N {A : Int → Int} (hw : bWF A 0) (rop : Int) {R : Int} (hR : 6 * A 1 ≤ R) : isN (nxt A rop) R := by
  intro s p _ _ _ _
  have := nxt_rng hw (s := s) (p := p) rop
  omega
theorem bi_or01 {a b : Int} (ha : a = 0 ∨ a = 1) (hb : b = 0 ∨ b = 1) : bk_i a ||| bk_i b = bk_i (max a b) := by
  rcases ha with rfl | rfl <;> rcases hb with rfl | rfl <;> rfl
section CO
variable {κ : Nat → Nat} {cp cs : bF} {cj : bFJ} {Y : bY} {X : bX} {g : bG} {n : Nat × Nat} {ca : Nat} {A : Int → Int} {s p v : Int} {D : Nat}
theorem s_laysAll70 (hF : bFix g) (hc : bRC κ g ca A) (hw : bWF A 0) (h5 : 0 ≤ A 45) (h6 : A 45 ≤ 9) (h7 : cp 70 2 = A 45) (but : Int) (hD : 907 ≤ D) :
    ∃ cs', (∀ a, a ≠ 84 → a ≠ ca + 4 → cs' a = cs a) ∧ (∀ s p, 0 ≤ s → s < 36 → 0 ≤ p → p < A 2 → cs' 84 (8 * s + p) = if bt but p = 1 then -1 else nxt A (cp 70 1) s p)
      ∧ bk_call D 35 [.ref 64, .ref 70, .int (bk_i but)] (bk_M κ (cp, cs, cj) Y g n) = some (none, bk_M κ (cp, cs', cj) Y g n) := by
  obtain ⟨d, rfl⟩ := dep hD
  have hc' := hc
  obtain ⟨c0, c1, c2, c3, c4, c5, c6, c7, c8, ⟨tw, ctw, htw⟩, cb, ce, cd, cw, cwp, hca, -, -⟩ := hc
  have w1 := hw.1
  have w2 := hw.2.1
  have w3 := hw.2.2.1
  have w4 := hw.2.2.2.1
  simp only [Int.zero_add] at w1 w2 w3 w4
  have n84 : 84 ≠ ca + 4 := by omega
  have nR : 70 ≠ ca + 4 := by omega
  have goal : bk_wp (bk_call (d + 1) 35 [.ref 64, .ref 70, .int (bk_i but)] (bk_M κ (cp, cs, cj) Y g n)) (fun v h' => ∃ cs', v = none ∧ h' = bk_M κ (cp, cs', cj) Y g n ∧ (∀ a, a ≠ 84 → a ≠ ca + 4 → cs' a = cs a) ∧ (∀ s p, 0 ≤ s → s < 36 → 0 ≤ p → p < A 2 → cs' 84 (8 * s + p) = if bt but p = 1 then -1 else nxt A (cp 70 1) s p)) := by
    rw [kX0_laysAll, eX0_laysAll_0]
    refine bk_loop (σ := bF × Value) (fun s x => bk_den TX0_laysAll (bk_call d) 2 [.ref 64, .ref 70, .int (bk_i but), .int (bk_i s), x.2, bk_u] [] (bk_M κ (cp, x.1, cj) Y g n))
      (fun s x => 0 ≤ s ∧ (∀ a, a ≠ 84 → a ≠ ca + 4 → x.1 a = cs a) ∧ ∀ s' p, 0 ≤ s' → s' < s → 0 ≤ p → p < A 2 → x.1 84 (8 * s' + p) = if bt but p = 1 then -1 else nxt A (cp 70 1) s' p) 36 ?_ ?_ 0 (cs, bk_u) (by omega) ⟨by omega, fun _ _ _ => rfl, fun s' p _ _ _ _ => by omega⟩
    · rintro s ⟨cs1, v4⟩ hs ⟨s0, fr, vl⟩ cont
      dsimp only at fr vl ⊢
      rw [eX0_laysAll_2]
      simp (disch := first | assumption | omega) only [if_neg (show ¬ 36 ≤ s by omega), bi_add, bi_sub, bi_mul, bi_neg, bi_div, bi_64, bl_add, bl_sub, bl_mul, bl_neg, bl_div, bl_32, bi_min, bi_max, bl_min, bl_max, bq_I, bq_J, bq_A, bq_Vi, bq_Vl, bq_Vr, bq_cV, bq_cI, bq_cJ, bq_cA, bq_le, bq_lt, bq_eq, bq_z, bq_o, bq_ref, bq_nz, bq_nzJ, bq_bl, bq_blz, bq_T, bq_F, if_true, if_false, Int.reduceEq, Int.reduceLT, Int.reduceLE, Int.reduceAdd, Int.reduceSub, Int.reduceMul, Int.add_sub_cancel, li_0, li_1, li_2, li_4, li_5, li_8, li_9, li_11, li_12, li_35, li_36, li_60, li_61, li_90, li_100, li_2004, li_2007, ll_0, ll_1, ll_2, ll_4, ll_5, ll_8, ll_9, ll_11, ll_12, ll_35, ll_36, ll_60, ll_61, ll_90, ll_100, ga72, ga84, ga85, ga86, ga90, ga92, ga87, ga91, ga88, ga89, gf64_4, gf64_5, gf64_6, gf64_8, gf64_9, gf64_10, gf64_14, gf70_0, gf70_1, gf70_2, gf70_3, gf71_0, gf71_1, gf71_2, gf71_3, gs74_0, gs74_1, gs74_2, gs74_3, gs100_0, gs100_1, gs100_2, gs100_3, gr64_1, gr64_2, gr64_3, gr64_7, gr64_11, gr64_12, gr64_13, gr64_15, gr64_16, gr64_17, gr64_18, gr64_19, gr64_20, gr64_21, gr64_22, gr64_23, gr70_4, gr71_4, gu73, gu99, gu93, pa72, pa84, pa85, pa86, pa90, pa92, pa87, pa91, pa88, pa89, pf64_4, pf64_5, pf64_6, pf64_8, pf64_9, pf64_10, pf64_14, pf70_0, pf70_1, pf70_2, pf70_3, pf71_0, pf71_1, pf71_2, pf71_3, ps74_0, ps74_1, ps74_2, ps74_3, ps100_0, ps100_1, ps100_2, ps100_3, s_in, s_has, s_one, s_roomOf, s_hurtOf, s_isLost, s_standOf, s_isTray, s_isSoon, s_fallen, s_isPassage, s_isRoom, s_isPassage70, s_leads70, s_isBack70, s_isPassage, s_isRoom, s_isPassage71, s_leads71, s_isBack71]
      refine bk_loop (σ := bF × Value) (fun p x => bk_den TX0_laysAll (bk_call d) 11 [.ref 64, .ref 70, .int (bk_i but), .int (bk_i s), .int (bk_i p), x.2] [] (bk_M κ (cp, x.1, cj) Y g n))
        (fun p x => 0 ≤ p ∧ (∀ a, a ≠ 84 → a ≠ ca + 4 → x.1 a = cs a) ∧ (∀ s' p, 0 ≤ s' → s' < s → 0 ≤ p → p < A 2 → x.1 84 (8 * s' + p) = if bt but p = 1 then -1 else nxt A (cp 70 1) s' p) ∧ ∀ p', 0 ≤ p' → p' < p → x.1 84 (8 * s + p') = if bt but p' = 1 then -1 else nxt A (cp 70 1) s p') (A 2) ?_ ?_ 0 (cs1, bk_u) (by omega) ⟨by omega, fr, vl, fun p' _ _ => by omega⟩
      · rintro p ⟨cs2, v5⟩ hp ⟨p0, fr2, vl2, vl3⟩ cont2
        dsimp only at fr2 vl2 vl3 ⊢
        have put : ∀ (cs3 : bF) (v5 val : Int), (∀ a, a ≠ ca + 4 → cs3 a = cs2 a) → (val = if bt but p = 1 then -1 else nxt A (cp 70 1) s p) → bk_wp (bk_den TX0_laysAll (bk_call d) 90 [.ref 64, .ref 70, .int (bk_i but), .int (bk_i s), .int (bk_i p), .int (bk_i v5)] [.int (bk_i val), .int (bk_i (8 * s + p)), .ref 84] (bk_M κ (cp, cs3, cj) Y g n)) (fun v h' => ∃ cs', v = none ∧ h' = bk_M κ (cp, cs', cj) Y g n ∧ (∀ a, a ≠ 84 → a ≠ ca + 4 → cs' a = cs a) ∧ (∀ s p, 0 ≤ s → s < 36 → 0 ≤ p → p < A 2 → cs' 84 (8 * s + p) = if bt but p = 1 then -1 else nxt A (cp 70 1) s p)) := by
          intro cs3 v5 val f3 hval
          have e84 : cs3 84 = cs2 84 := f3 84 n84
          rw [eX0_laysAll_90]
          simp (disch := first | assumption | omega) only [bi_add, bi_sub, bi_mul, bi_neg, bi_div, bi_64, bl_add, bl_sub, bl_mul, bl_neg, bl_div, bl_32, bi_min, bi_max, bl_min, bl_max, bq_I, bq_J, bq_A, bq_Vi, bq_Vl, bq_Vr, bq_cV, bq_cI, bq_cJ, bq_cA, bq_le, bq_lt, bq_eq, bq_z, bq_o, bq_ref, bq_nz, bq_nzJ, bq_bl, bq_blz, bq_T, bq_F, if_true, if_false, Int.reduceEq, Int.reduceLT, Int.reduceLE, Int.reduceAdd, Int.reduceSub, Int.reduceMul, Int.add_sub_cancel, li_0, li_1, li_2, li_4, li_5, li_8, li_9, li_11, li_12, li_35, li_36, li_60, li_61, li_90, li_100, li_2004, li_2007, ll_0, ll_1, ll_2, ll_4, ll_5, ll_8, ll_9, ll_11, ll_12, ll_35, ll_36, ll_60, ll_61, ll_90, ll_100, ga72, ga84, ga85, ga86, ga90, ga92, ga87, ga91, ga88, ga89, gf64_4, gf64_5, gf64_6, gf64_8, gf64_9, gf64_10, gf64_14, gf70_0, gf70_1, gf70_2, gf70_3, gf71_0, gf71_1, gf71_2, gf71_3, gs74_0, gs74_1, gs74_2, gs74_3, gs100_0, gs100_1, gs100_2, gs100_3, gr64_1, gr64_2, gr64_3, gr64_7, gr64_11, gr64_12, gr64_13, gr64_15, gr64_16, gr64_17, gr64_18, gr64_19, gr64_20, gr64_21, gr64_22, gr64_23, gr70_4, gr71_4, gu73, gu99, gu93, pa72, pa84, pa85, pa86, pa90, pa92, pa87, pa91, pa88, pa89, pf64_4, pf64_5, pf64_6, pf64_8, pf64_9, pf64_10, pf64_14, pf70_0, pf70_1, pf70_2, pf70_3, pf71_0, pf71_1, pf71_2, pf71_3, ps74_0, ps74_1, ps74_2, ps74_3, ps100_0, ps100_1, ps100_2, ps100_3, s_in, s_has, s_one, s_roomOf, s_hurtOf, s_isLost, s_standOf, s_isTray, s_isSoon, s_fallen, s_isPassage, s_isRoom, s_isPassage70, s_leads70, s_isBack70, s_isPassage, s_isRoom, s_isPassage71, s_leads71, s_isBack71]
          refine cont2 (bU cs3 84 (8 * s + p) val, .int (bk_i v5)) ⟨by omega, fun a ha hb => ?_, fun s' p' a1 a2 a3 a4 => ?_, fun p' a1 a2 => ?_⟩
          · funext j; show bU cs3 84 (8 * s + p) val a j = _; rw [bU_ne _ _ _ _ _ _ ha, f3 a hb, fr2 a ha hb]
          · show bU cs3 84 (8 * s + p) val 84 (8 * s' + p') = _
            rw [bU_same, if_neg (by omega), e84]; exact vl2 s' p' a1 a2 a3 a4
          · show bU cs3 84 (8 * s + p) val 84 (8 * s + p') = _
            rw [bU_same]
            by_cases c : p' = p
            · subst c; rw [if_pos rfl]; exact hval
            · rw [if_neg (by omega), e84]; exact vl3 p' a1 (by omega)
        have b01 := bt_01 but p
        have sv : ∀ cs3 : bF, (∀ a, a ≠ ca + 4 → cs3 a = cs2 a) → ∀ k, (cp 70 k = A 45 → (fun (cs : bF) => cp 70 k) cs3 = A 45) := by
          intro cs3 f3 k e
          first | exact e | (show cs3 70 k = A 45; rw [f3 70 nR, fr2 70 (by decide) nR]; exact e)
        have sr : ∀ cs3 : bF, (∀ a, a ≠ ca + 4 → cs3 a = cs2 a) → (fun (cs : bF) => cp 70 1) cs3 = cp 70 1 := by
          intro cs3 f3
          first | rfl | (show cs3 70 1 = cs 70 1; rw [f3 70 nR, fr2 70 (by decide) nR])
        have sv0 := sv cs2 (fun _ _ => rfl) 2 h7
        have sr0 := sr cs2 (fun _ _ => rfl)
        obtain ⟨cs3, f3, e3⟩ := s_whyFrom70 (κ := κ) (cp := cp) (cs := cs2) (cj := cj) (Y := Y) (n := n) (D := d) hF hc' hw p0 hp s0 hs (by dsimp only at sv0; omega) (by dsimp only at sv0; omega) (by omega)
        have sv1 := sv cs3 f3 2 h7
        have sr1 := sr cs3 f3
        obtain ⟨cs4, f4, e4⟩ := s_then70 (κ := κ) (cp := cp) (cs := cs3) (cj := cj) (Y := Y) (n := n) (D := d) hF hc' hw p0 hp s0 hs (by dsimp only at sv1; omega) (by dsimp only at sv1; omega) (by omega)
        dsimp only at sv0 sr0 sv1 sr1
        rw [sv0, sr0] at e3
        rw [sv1, sr1] at e4
        have wr := whyM_rng A s p (cp 70 1) (A 45)
        rw [eX0_laysAll_11]
        simp (disch := first | assumption | omega) only [c0, c1, c2, c3, c4, c5, c6, c7, c8, ctw, cb, ce, cd, cw, cwp, if_neg (show ¬ A 2 ≤ p by omega), e3, bi_add, bi_sub, bi_mul, bi_neg, bi_div, bi_64, bl_add, bl_sub, bl_mul, bl_neg, bl_div, bl_32, bi_min, bi_max, bl_min, bl_max, bq_I, bq_J, bq_A, bq_Vi, bq_Vl, bq_Vr, bq_cV, bq_cI, bq_cJ, bq_cA, bq_le, bq_lt, bq_eq, bq_z, bq_o, bq_ref, bq_nz, bq_nzJ, bq_bl, bq_blz, bq_T, bq_F, if_true, if_false, Int.reduceEq, Int.reduceLT, Int.reduceLE, Int.reduceAdd, Int.reduceSub, Int.reduceMul, Int.add_sub_cancel, li_0, li_1, li_2, li_4, li_5, li_8, li_9, li_11, li_12, li_35, li_36, li_60, li_61, li_90, li_100, li_2004, li_2007, ll_0, ll_1, ll_2, ll_4, ll_5, ll_8, ll_9, ll_11, ll_12, ll_35, ll_36, ll_60, ll_61, ll_90, ll_100, ga72, ga84, ga85, ga86, ga90, ga92, ga87, ga91, ga88, ga89, gf64_4, gf64_5, gf64_6, gf64_8, gf64_9, gf64_10, gf64_14, gf70_0, gf70_1, gf70_2, gf70_3, gf71_0, gf71_1, gf71_2, gf71_3, gs74_0, gs74_1, gs74_2, gs74_3, gs100_0, gs100_1, gs100_2, gs100_3, gr64_1, gr64_2, gr64_3, gr64_7, gr64_11, gr64_12, gr64_13, gr64_15, gr64_16, gr64_17, gr64_18, gr64_19, gr64_20, gr64_21, gr64_22, gr64_23, gr70_4, gr71_4, gu73, gu99, gu93, pa72, pa84, pa85, pa86, pa90, pa92, pa87, pa91, pa88, pa89, pf64_4, pf64_5, pf64_6, pf64_8, pf64_9, pf64_10, pf64_14, pf70_0, pf70_1, pf70_2, pf70_3, pf71_0, pf71_1, pf71_2, pf71_3, ps74_0, ps74_1, ps74_2, ps74_3, ps100_0, ps100_1, ps100_2, ps100_3, s_in, s_has, s_one, s_roomOf, s_hurtOf, s_isLost, s_standOf, s_isTray, s_isSoon, s_fallen, s_isPassage, s_isRoom, s_isPassage70, s_leads70, s_isBack70, s_isPassage, s_isRoom, s_isPassage71, s_leads71, s_isBack71]
        by_cases q1 : A 1 ≤ s / 6
        · rw [if_pos q1, eX0_laysAll_60, eX0_laysAll_61]
          simp (disch := first | assumption | omega) only [if_true, bi_add, bi_sub, bi_mul, bi_neg, bi_div, bi_64, bl_add, bl_sub, bl_mul, bl_neg, bl_div, bl_32, bi_min, bi_max, bl_min, bl_max, bq_I, bq_J, bq_A, bq_Vi, bq_Vl, bq_Vr, bq_cV, bq_cI, bq_cJ, bq_cA, bq_le, bq_lt, bq_eq, bq_z, bq_o, bq_ref, bq_nz, bq_nzJ, bq_bl, bq_blz, bq_T, bq_F, if_true, if_false, Int.reduceEq, Int.reduceLT, Int.reduceLE, Int.reduceAdd, Int.reduceSub, Int.reduceMul, Int.add_sub_cancel, li_0, li_1, li_2, li_4, li_5, li_8, li_9, li_11, li_12, li_35, li_36, li_60, li_61, li_90, li_100, li_2004, li_2007, ll_0, ll_1, ll_2, ll_4, ll_5, ll_8, ll_9, ll_11, ll_12, ll_35, ll_36, ll_60, ll_61, ll_90, ll_100, ga72, ga84, ga85, ga86, ga90, ga92, ga87, ga91, ga88, ga89, gf64_4, gf64_5, gf64_6, gf64_8, gf64_9, gf64_10, gf64_14, gf70_0, gf70_1, gf70_2, gf70_3, gf71_0, gf71_1, gf71_2, gf71_3, gs74_0, gs74_1, gs74_2, gs74_3, gs100_0, gs100_1, gs100_2, gs100_3, gr64_1, gr64_2, gr64_3, gr64_7, gr64_11, gr64_12, gr64_13, gr64_15, gr64_16, gr64_17, gr64_18, gr64_19, gr64_20, gr64_21, gr64_22, gr64_23, gr70_4, gr71_4, gu73, gu99, gu93, pa72, pa84, pa85, pa86, pa90, pa92, pa87, pa91, pa88, pa89, pf64_4, pf64_5, pf64_6, pf64_8, pf64_9, pf64_10, pf64_14, pf70_0, pf70_1, pf70_2, pf70_3, pf71_0, pf71_1, pf71_2, pf71_3, ps74_0, ps74_1, ps74_2, ps74_3, ps100_0, ps100_1, ps100_2, ps100_3, s_in, s_has, s_one, s_roomOf, s_hurtOf, s_isLost, s_standOf, s_isTray, s_isSoon, s_fallen, s_isPassage, s_isRoom, s_isPassage70, s_leads70, s_isBack70, s_isPassage, s_isRoom, s_isPassage71, s_leads71, s_isBack71]
          refine put cs2 0 (-1) (fun _ _ => rfl) ?_
          unfold nxt
          by_cases qb : bt but p = 1
          · rw [if_pos qb]
          · rw [if_neg qb, if_neg (by omega)]
        · rw [if_neg q1]
          by_cases q2 : bt but p = 1
          · rw [if_pos q2, eX0_laysAll_60, eX0_laysAll_61]
            simp (disch := first | assumption | omega) only [if_true, bi_add, bi_sub, bi_mul, bi_neg, bi_div, bi_64, bl_add, bl_sub, bl_mul, bl_neg, bl_div, bl_32, bi_min, bi_max, bl_min, bl_max, bq_I, bq_J, bq_A, bq_Vi, bq_Vl, bq_Vr, bq_cV, bq_cI, bq_cJ, bq_cA, bq_le, bq_lt, bq_eq, bq_z, bq_o, bq_ref, bq_nz, bq_nzJ, bq_bl, bq_blz, bq_T, bq_F, if_true, if_false, Int.reduceEq, Int.reduceLT, Int.reduceLE, Int.reduceAdd, Int.reduceSub, Int.reduceMul, Int.add_sub_cancel, li_0, li_1, li_2, li_4, li_5, li_8, li_9, li_11, li_12, li_35, li_36, li_60, li_61, li_90, li_100, li_2004, li_2007, ll_0, ll_1, ll_2, ll_4, ll_5, ll_8, ll_9, ll_11, ll_12, ll_35, ll_36, ll_60, ll_61, ll_90, ll_100, ga72, ga84, ga85, ga86, ga90, ga92, ga87, ga91, ga88, ga89, gf64_4, gf64_5, gf64_6, gf64_8, gf64_9, gf64_10, gf64_14, gf70_0, gf70_1, gf70_2, gf70_3, gf71_0, gf71_1, gf71_2, gf71_3, gs74_0, gs74_1, gs74_2, gs74_3, gs100_0, gs100_1, gs100_2, gs100_3, gr64_1, gr64_2, gr64_3, gr64_7, gr64_11, gr64_12, gr64_13, gr64_15, gr64_16, gr64_17, gr64_18, gr64_19, gr64_20, gr64_21, gr64_22, gr64_23, gr70_4, gr71_4, gu73, gu99, gu93, pa72, pa84, pa85, pa86, pa90, pa92, pa87, pa91, pa88, pa89, pf64_4, pf64_5, pf64_6, pf64_8, pf64_9, pf64_10, pf64_14, pf70_0, pf70_1, pf70_2, pf70_3, pf71_0, pf71_1, pf71_2, pf71_3, ps74_0, ps74_1, ps74_2, ps74_3, ps100_0, ps100_1, ps100_2, ps100_3, s_in, s_has, s_one, s_roomOf, s_hurtOf, s_isLost, s_standOf, s_isTray, s_isSoon, s_fallen, s_isPassage, s_isRoom, s_isPassage70, s_leads70, s_isBack70, s_isPassage, s_isRoom, s_isPassage71, s_leads71, s_isBack71]
            exact put cs2 0 (-1) (fun _ _ => rfl) (by rw [if_pos q2])
          · rw [if_neg q2]
            by_cases q3 : whyM A s p (cp 70 1) (A 45) = 0
            · rw [if_pos q3, eX0_laysAll_61]
              simp (disch := first | assumption | omega) only [if_neg (show ¬ (1 : Int) = 0 by decide), e4, bi_add, bi_sub, bi_mul, bi_neg, bi_div, bi_64, bl_add, bl_sub, bl_mul, bl_neg, bl_div, bl_32, bi_min, bi_max, bl_min, bl_max, bq_I, bq_J, bq_A, bq_Vi, bq_Vl, bq_Vr, bq_cV, bq_cI, bq_cJ, bq_cA, bq_le, bq_lt, bq_eq, bq_z, bq_o, bq_ref, bq_nz, bq_nzJ, bq_bl, bq_blz, bq_T, bq_F, if_true, if_false, Int.reduceEq, Int.reduceLT, Int.reduceLE, Int.reduceAdd, Int.reduceSub, Int.reduceMul, Int.add_sub_cancel, li_0, li_1, li_2, li_4, li_5, li_8, li_9, li_11, li_12, li_35, li_36, li_60, li_61, li_90, li_100, li_2004, li_2007, ll_0, ll_1, ll_2, ll_4, ll_5, ll_8, ll_9, ll_11, ll_12, ll_35, ll_36, ll_60, ll_61, ll_90, ll_100, ga72, ga84, ga85, ga86, ga90, ga92, ga87, ga91, ga88, ga89, gf64_4, gf64_5, gf64_6, gf64_8, gf64_9, gf64_10, gf64_14, gf70_0, gf70_1, gf70_2, gf70_3, gf71_0, gf71_1, gf71_2, gf71_3, gs74_0, gs74_1, gs74_2, gs74_3, gs100_0, gs100_1, gs100_2, gs100_3, gr64_1, gr64_2, gr64_3, gr64_7, gr64_11, gr64_12, gr64_13, gr64_15, gr64_16, gr64_17, gr64_18, gr64_19, gr64_20, gr64_21, gr64_22, gr64_23, gr70_4, gr71_4, gu73, gu99, gu93, pa72, pa84, pa85, pa86, pa90, pa92, pa87, pa91, pa88, pa89, pf64_4, pf64_5, pf64_6, pf64_8, pf64_9, pf64_10, pf64_14, pf70_0, pf70_1, pf70_2, pf70_3, pf71_0, pf71_1, pf71_2, pf71_3, ps74_0, ps74_1, ps74_2, ps74_3, ps100_0, ps100_1, ps100_2, ps100_3, s_in, s_has, s_one, s_roomOf, s_hurtOf, s_isLost, s_standOf, s_isTray, s_isSoon, s_fallen, s_isPassage, s_isRoom, s_isPassage70, s_leads70, s_isBack70, s_isPassage, s_isRoom, s_isPassage71, s_leads71, s_isBack71]
              refine put cs4 1 _ (fun a ha => by rw [f4 a ha, f3 a ha]) ?_
              rw [if_neg q2]
              unfold nxt
              rw [if_pos ⟨p0, hp, s0, by omega, q3⟩]
            · rw [if_neg q3, eX0_laysAll_60, eX0_laysAll_61]
              simp (disch := first | assumption | omega) only [if_true, bi_add, bi_sub, bi_mul, bi_neg, bi_div, bi_64, bl_add, bl_sub, bl_mul, bl_neg, bl_div, bl_32, bi_min, bi_max, bl_min, bl_max, bq_I, bq_J, bq_A, bq_Vi, bq_Vl, bq_Vr, bq_cV, bq_cI, bq_cJ, bq_cA, bq_le, bq_lt, bq_eq, bq_z, bq_o, bq_ref, bq_nz, bq_nzJ, bq_bl, bq_blz, bq_T, bq_F, if_true, if_false, Int.reduceEq, Int.reduceLT, Int.reduceLE, Int.reduceAdd, Int.reduceSub, Int.reduceMul, Int.add_sub_cancel, li_0, li_1, li_2, li_4, li_5, li_8, li_9, li_11, li_12, li_35, li_36, li_60, li_61, li_90, li_100, li_2004, li_2007, ll_0, ll_1, ll_2, ll_4, ll_5, ll_8, ll_9, ll_11, ll_12, ll_35, ll_36, ll_60, ll_61, ll_90, ll_100, ga72, ga84, ga85, ga86, ga90, ga92, ga87, ga91, ga88, ga89, gf64_4, gf64_5, gf64_6, gf64_8, gf64_9, gf64_10, gf64_14, gf70_0, gf70_1, gf70_2, gf70_3, gf71_0, gf71_1, gf71_2, gf71_3, gs74_0, gs74_1, gs74_2, gs74_3, gs100_0, gs100_1, gs100_2, gs100_3, gr64_1, gr64_2, gr64_3, gr64_7, gr64_11, gr64_12, gr64_13, gr64_15, gr64_16, gr64_17, gr64_18, gr64_19, gr64_20, gr64_21, gr64_22, gr64_23, gr70_4, gr71_4, gu73, gu99, gu93, pa72, pa84, pa85, pa86, pa90, pa92, pa87, pa91, pa88, pa89, pf64_4, pf64_5, pf64_6, pf64_8, pf64_9, pf64_10, pf64_14, pf70_0, pf70_1, pf70_2, pf70_3, pf71_0, pf71_1, pf71_2, pf71_3, ps74_0, ps74_1, ps74_2, ps74_3, ps100_0, ps100_1, ps100_2, ps100_3, s_in, s_has, s_one, s_roomOf, s_hurtOf, s_isLost, s_standOf, s_isTray, s_isSoon, s_fallen, s_isPassage, s_isRoom, s_isPassage70, s_leads70, s_isBack70, s_isPassage, s_isRoom, s_isPassage71, s_leads71, s_isBack71]
              refine put cs3 0 (-1) f3 ?_
              rw [if_neg q2]
              unfold nxt
              rw [if_neg (fun k => q3 k.2.2.2.2)]
      · rintro ⟨cs2, v5⟩ ⟨p0, fr2, vl2, vl3⟩
        dsimp only at fr2 vl2 vl3 ⊢
        rw [eX0_laysAll_11]
        simp (disch := first | assumption | omega) only [c0, c1, c2, c3, c4, c5, c6, c7, c8, ctw, cb, ce, cd, cw, cwp, if_pos (Int.le_refl (A 2)), bi_add, bi_sub, bi_mul, bi_neg, bi_div, bi_64, bl_add, bl_sub, bl_mul, bl_neg, bl_div, bl_32, bi_min, bi_max, bl_min, bl_max, bq_I, bq_J, bq_A, bq_Vi, bq_Vl, bq_Vr, bq_cV, bq_cI, bq_cJ, bq_cA, bq_le, bq_lt, bq_eq, bq_z, bq_o, bq_ref, bq_nz, bq_nzJ, bq_bl, bq_blz, bq_T, bq_F, if_true, if_false, Int.reduceEq, Int.reduceLT, Int.reduceLE, Int.reduceAdd, Int.reduceSub, Int.reduceMul, Int.add_sub_cancel, li_0, li_1, li_2, li_4, li_5, li_8, li_9, li_11, li_12, li_35, li_36, li_60, li_61, li_90, li_100, li_2004, li_2007, ll_0, ll_1, ll_2, ll_4, ll_5, ll_8, ll_9, ll_11, ll_12, ll_35, ll_36, ll_60, ll_61, ll_90, ll_100, ga72, ga84, ga85, ga86, ga90, ga92, ga87, ga91, ga88, ga89, gf64_4, gf64_5, gf64_6, gf64_8, gf64_9, gf64_10, gf64_14, gf70_0, gf70_1, gf70_2, gf70_3, gf71_0, gf71_1, gf71_2, gf71_3, gs74_0, gs74_1, gs74_2, gs74_3, gs100_0, gs100_1, gs100_2, gs100_3, gr64_1, gr64_2, gr64_3, gr64_7, gr64_11, gr64_12, gr64_13, gr64_15, gr64_16, gr64_17, gr64_18, gr64_19, gr64_20, gr64_21, gr64_22, gr64_23, gr70_4, gr71_4, gu73, gu99, gu93, pa72, pa84, pa85, pa86, pa90, pa92, pa87, pa91, pa88, pa89, pf64_4, pf64_5, pf64_6, pf64_8, pf64_9, pf64_10, pf64_14, pf70_0, pf70_1, pf70_2, pf70_3, pf71_0, pf71_1, pf71_2, pf71_3, ps74_0, ps74_1, ps74_2, ps74_3, ps100_0, ps100_1, ps100_2, ps100_3, s_in, s_has, s_one, s_roomOf, s_hurtOf, s_isLost, s_standOf, s_isTray, s_isSoon, s_fallen, s_isPassage, s_isRoom, s_isPassage70, s_leads70, s_isBack70, s_isPassage, s_isRoom, s_isPassage71, s_leads71, s_isBack71]
        refine cont (cs2, .int (bk_i (A 2))) ⟨by omega, fr2, fun s' p a1 a2 a3 a4 => ?_⟩
        by_cases c : s' = s
        · subst c; exact vl3 p a3 a4
        · exact vl2 s' p a1 (by omega) a3 a4
    · rintro ⟨cs1, v4⟩ ⟨s0, fr, vl⟩
      dsimp only at fr vl ⊢
      rw [eX0_laysAll_2]
      simp (disch := first | assumption | omega) only [if_pos (Int.le_refl 36), bi_add, bi_sub, bi_mul, bi_neg, bi_div, bi_64, bl_add, bl_sub, bl_mul, bl_neg, bl_div, bl_32, bi_min, bi_max, bl_min, bl_max, bq_I, bq_J, bq_A, bq_Vi, bq_Vl, bq_Vr, bq_cV, bq_cI, bq_cJ, bq_cA, bq_le, bq_lt, bq_eq, bq_z, bq_o, bq_ref, bq_nz, bq_nzJ, bq_bl, bq_blz, bq_T, bq_F, if_true, if_false, Int.reduceEq, Int.reduceLT, Int.reduceLE, Int.reduceAdd, Int.reduceSub, Int.reduceMul, Int.add_sub_cancel, li_0, li_1, li_2, li_4, li_5, li_8, li_9, li_11, li_12, li_35, li_36, li_60, li_61, li_90, li_100, li_2004, li_2007, ll_0, ll_1, ll_2, ll_4, ll_5, ll_8, ll_9, ll_11, ll_12, ll_35, ll_36, ll_60, ll_61, ll_90, ll_100, ga72, ga84, ga85, ga86, ga90, ga92, ga87, ga91, ga88, ga89, gf64_4, gf64_5, gf64_6, gf64_8, gf64_9, gf64_10, gf64_14, gf70_0, gf70_1, gf70_2, gf70_3, gf71_0, gf71_1, gf71_2, gf71_3, gs74_0, gs74_1, gs74_2, gs74_3, gs100_0, gs100_1, gs100_2, gs100_3, gr64_1, gr64_2, gr64_3, gr64_7, gr64_11, gr64_12, gr64_13, gr64_15, gr64_16, gr64_17, gr64_18, gr64_19, gr64_20, gr64_21, gr64_22, gr64_23, gr70_4, gr71_4, gu73, gu99, gu93, pa72, pa84, pa85, pa86, pa90, pa92, pa87, pa91, pa88, pa89, pf64_4, pf64_5, pf64_6, pf64_8, pf64_9, pf64_10, pf64_14, pf70_0, pf70_1, pf70_2, pf70_3, pf71_0, pf71_1, pf71_2, pf71_3, ps74_0, ps74_1, ps74_2, ps74_3, ps100_0, ps100_1, ps100_2, ps100_3, s_in, s_has, s_one, s_roomOf, s_hurtOf, s_isLost, s_standOf, s_isTray, s_isSoon, s_fallen, s_isPassage, s_isRoom, s_isPassage70, s_leads70, s_isBack70, s_isPassage, s_isRoom, s_isPassage71, s_leads71, s_isBack71]
      exact ⟨_, _, rfl, cs1, rfl, rfl, fr, vl⟩
  obtain ⟨z, h', e, cs', rfl, rfl, h1, h2⟩ := goal
  exact ⟨cs', h1, h2, e⟩
theorem s_laysAll71 (hF : bFix g) (hc : bRC κ g ca A) (hw : bWF A 0) (h5 : 0 ≤ A 45) (h6 : A 45 ≤ 9) (h7 : cs 71 2 = A 45) (but : Int) (hD : 907 ≤ D) :
    ∃ cs', (∀ a, a ≠ 84 → a ≠ ca + 4 → cs' a = cs a) ∧ (∀ s p, 0 ≤ s → s < 36 → 0 ≤ p → p < A 2 → cs' 84 (8 * s + p) = if bt but p = 1 then -1 else nxt A (cs 71 1) s p)
      ∧ bk_call D 35 [.ref 64, .ref 71, .int (bk_i but)] (bk_M κ (cp, cs, cj) Y g n) = some (none, bk_M κ (cp, cs', cj) Y g n) := by
  obtain ⟨d, rfl⟩ := dep hD
  have hc' := hc
  obtain ⟨c0, c1, c2, c3, c4, c5, c6, c7, c8, ⟨tw, ctw, htw⟩, cb, ce, cd, cw, cwp, hca, -, -⟩ := hc
  have w1 := hw.1
  have w2 := hw.2.1
  have w3 := hw.2.2.1
  have w4 := hw.2.2.2.1
  simp only [Int.zero_add] at w1 w2 w3 w4
  have n84 : 84 ≠ ca + 4 := by omega
  have nR : 71 ≠ ca + 4 := by omega
  have goal : bk_wp (bk_call (d + 1) 35 [.ref 64, .ref 71, .int (bk_i but)] (bk_M κ (cp, cs, cj) Y g n)) (fun v h' => ∃ cs', v = none ∧ h' = bk_M κ (cp, cs', cj) Y g n ∧ (∀ a, a ≠ 84 → a ≠ ca + 4 → cs' a = cs a) ∧ (∀ s p, 0 ≤ s → s < 36 → 0 ≤ p → p < A 2 → cs' 84 (8 * s + p) = if bt but p = 1 then -1 else nxt A (cs 71 1) s p)) := by
    rw [kX0_laysAll, eX0_laysAll_0]
    refine bk_loop (σ := bF × Value) (fun s x => bk_den TX0_laysAll (bk_call d) 2 [.ref 64, .ref 71, .int (bk_i but), .int (bk_i s), x.2, bk_u] [] (bk_M κ (cp, x.1, cj) Y g n))
      (fun s x => 0 ≤ s ∧ (∀ a, a ≠ 84 → a ≠ ca + 4 → x.1 a = cs a) ∧ ∀ s' p, 0 ≤ s' → s' < s → 0 ≤ p → p < A 2 → x.1 84 (8 * s' + p) = if bt but p = 1 then -1 else nxt A (cs 71 1) s' p) 36 ?_ ?_ 0 (cs, bk_u) (by omega) ⟨by omega, fun _ _ _ => rfl, fun s' p _ _ _ _ => by omega⟩
    · rintro s ⟨cs1, v4⟩ hs ⟨s0, fr, vl⟩ cont
      dsimp only at fr vl ⊢
      rw [eX0_laysAll_2]
      simp (disch := first | assumption | omega) only [if_neg (show ¬ 36 ≤ s by omega), bi_add, bi_sub, bi_mul, bi_neg, bi_div, bi_64, bl_add, bl_sub, bl_mul, bl_neg, bl_div, bl_32, bi_min, bi_max, bl_min, bl_max, bq_I, bq_J, bq_A, bq_Vi, bq_Vl, bq_Vr, bq_cV, bq_cI, bq_cJ, bq_cA, bq_le, bq_lt, bq_eq, bq_z, bq_o, bq_ref, bq_nz, bq_nzJ, bq_bl, bq_blz, bq_T, bq_F, if_true, if_false, Int.reduceEq, Int.reduceLT, Int.reduceLE, Int.reduceAdd, Int.reduceSub, Int.reduceMul, Int.add_sub_cancel, li_0, li_1, li_2, li_4, li_5, li_8, li_9, li_11, li_12, li_35, li_36, li_60, li_61, li_90, li_100, li_2004, li_2007, ll_0, ll_1, ll_2, ll_4, ll_5, ll_8, ll_9, ll_11, ll_12, ll_35, ll_36, ll_60, ll_61, ll_90, ll_100, ga72, ga84, ga85, ga86, ga90, ga92, ga87, ga91, ga88, ga89, gf64_4, gf64_5, gf64_6, gf64_8, gf64_9, gf64_10, gf64_14, gf70_0, gf70_1, gf70_2, gf70_3, gf71_0, gf71_1, gf71_2, gf71_3, gs74_0, gs74_1, gs74_2, gs74_3, gs100_0, gs100_1, gs100_2, gs100_3, gr64_1, gr64_2, gr64_3, gr64_7, gr64_11, gr64_12, gr64_13, gr64_15, gr64_16, gr64_17, gr64_18, gr64_19, gr64_20, gr64_21, gr64_22, gr64_23, gr70_4, gr71_4, gu73, gu99, gu93, pa72, pa84, pa85, pa86, pa90, pa92, pa87, pa91, pa88, pa89, pf64_4, pf64_5, pf64_6, pf64_8, pf64_9, pf64_10, pf64_14, pf70_0, pf70_1, pf70_2, pf70_3, pf71_0, pf71_1, pf71_2, pf71_3, ps74_0, ps74_1, ps74_2, ps74_3, ps100_0, ps100_1, ps100_2, ps100_3, s_in, s_has, s_one, s_roomOf, s_hurtOf, s_isLost, s_standOf, s_isTray, s_isSoon, s_fallen, s_isPassage, s_isRoom, s_isPassage70, s_leads70, s_isBack70, s_isPassage, s_isRoom, s_isPassage71, s_leads71, s_isBack71]
      refine bk_loop (σ := bF × Value) (fun p x => bk_den TX0_laysAll (bk_call d) 11 [.ref 64, .ref 71, .int (bk_i but), .int (bk_i s), .int (bk_i p), x.2] [] (bk_M κ (cp, x.1, cj) Y g n))
        (fun p x => 0 ≤ p ∧ (∀ a, a ≠ 84 → a ≠ ca + 4 → x.1 a = cs a) ∧ (∀ s' p, 0 ≤ s' → s' < s → 0 ≤ p → p < A 2 → x.1 84 (8 * s' + p) = if bt but p = 1 then -1 else nxt A (cs 71 1) s' p) ∧ ∀ p', 0 ≤ p' → p' < p → x.1 84 (8 * s + p') = if bt but p' = 1 then -1 else nxt A (cs 71 1) s p') (A 2) ?_ ?_ 0 (cs1, bk_u) (by omega) ⟨by omega, fr, vl, fun p' _ _ => by omega⟩
      · rintro p ⟨cs2, v5⟩ hp ⟨p0, fr2, vl2, vl3⟩ cont2
        dsimp only at fr2 vl2 vl3 ⊢
        have put : ∀ (cs3 : bF) (v5 val : Int), (∀ a, a ≠ ca + 4 → cs3 a = cs2 a) → (val = if bt but p = 1 then -1 else nxt A (cs 71 1) s p) → bk_wp (bk_den TX0_laysAll (bk_call d) 90 [.ref 64, .ref 71, .int (bk_i but), .int (bk_i s), .int (bk_i p), .int (bk_i v5)] [.int (bk_i val), .int (bk_i (8 * s + p)), .ref 84] (bk_M κ (cp, cs3, cj) Y g n)) (fun v h' => ∃ cs', v = none ∧ h' = bk_M κ (cp, cs', cj) Y g n ∧ (∀ a, a ≠ 84 → a ≠ ca + 4 → cs' a = cs a) ∧ (∀ s p, 0 ≤ s → s < 36 → 0 ≤ p → p < A 2 → cs' 84 (8 * s + p) = if bt but p = 1 then -1 else nxt A (cs 71 1) s p)) := by
          intro cs3 v5 val f3 hval
          have e84 : cs3 84 = cs2 84 := f3 84 n84
          rw [eX0_laysAll_90]
          simp (disch := first | assumption | omega) only [bi_add, bi_sub, bi_mul, bi_neg, bi_div, bi_64, bl_add, bl_sub, bl_mul, bl_neg, bl_div, bl_32, bi_min, bi_max, bl_min, bl_max, bq_I, bq_J, bq_A, bq_Vi, bq_Vl, bq_Vr, bq_cV, bq_cI, bq_cJ, bq_cA, bq_le, bq_lt, bq_eq, bq_z, bq_o, bq_ref, bq_nz, bq_nzJ, bq_bl, bq_blz, bq_T, bq_F, if_true, if_false, Int.reduceEq, Int.reduceLT, Int.reduceLE, Int.reduceAdd, Int.reduceSub, Int.reduceMul, Int.add_sub_cancel, li_0, li_1, li_2, li_4, li_5, li_8, li_9, li_11, li_12, li_35, li_36, li_60, li_61, li_90, li_100, li_2004, li_2007, ll_0, ll_1, ll_2, ll_4, ll_5, ll_8, ll_9, ll_11, ll_12, ll_35, ll_36, ll_60, ll_61, ll_90, ll_100, ga72, ga84, ga85, ga86, ga90, ga92, ga87, ga91, ga88, ga89, gf64_4, gf64_5, gf64_6, gf64_8, gf64_9, gf64_10, gf64_14, gf70_0, gf70_1, gf70_2, gf70_3, gf71_0, gf71_1, gf71_2, gf71_3, gs74_0, gs74_1, gs74_2, gs74_3, gs100_0, gs100_1, gs100_2, gs100_3, gr64_1, gr64_2, gr64_3, gr64_7, gr64_11, gr64_12, gr64_13, gr64_15, gr64_16, gr64_17, gr64_18, gr64_19, gr64_20, gr64_21, gr64_22, gr64_23, gr70_4, gr71_4, gu73, gu99, gu93, pa72, pa84, pa85, pa86, pa90, pa92, pa87, pa91, pa88, pa89, pf64_4, pf64_5, pf64_6, pf64_8, pf64_9, pf64_10, pf64_14, pf70_0, pf70_1, pf70_2, pf70_3, pf71_0, pf71_1, pf71_2, pf71_3, ps74_0, ps74_1, ps74_2, ps74_3, ps100_0, ps100_1, ps100_2, ps100_3, s_in, s_has, s_one, s_roomOf, s_hurtOf, s_isLost, s_standOf, s_isTray, s_isSoon, s_fallen, s_isPassage, s_isRoom, s_isPassage70, s_leads70, s_isBack70, s_isPassage, s_isRoom, s_isPassage71, s_leads71, s_isBack71]
          refine cont2 (bU cs3 84 (8 * s + p) val, .int (bk_i v5)) ⟨by omega, fun a ha hb => ?_, fun s' p' a1 a2 a3 a4 => ?_, fun p' a1 a2 => ?_⟩
          · funext j; show bU cs3 84 (8 * s + p) val a j = _; rw [bU_ne _ _ _ _ _ _ ha, f3 a hb, fr2 a ha hb]
          · show bU cs3 84 (8 * s + p) val 84 (8 * s' + p') = _
            rw [bU_same, if_neg (by omega), e84]; exact vl2 s' p' a1 a2 a3 a4
          · show bU cs3 84 (8 * s + p) val 84 (8 * s + p') = _
            rw [bU_same]
            by_cases c : p' = p
            · subst c; rw [if_pos rfl]; exact hval
            · rw [if_neg (by omega), e84]; exact vl3 p' a1 (by omega)
        have b01 := bt_01 but p
        have sv : ∀ cs3 : bF, (∀ a, a ≠ ca + 4 → cs3 a = cs2 a) → ∀ k, (cs 71 k = A 45 → (fun (cs : bF) => cs 71 k) cs3 = A 45) := by
          intro cs3 f3 k e
          first | exact e | (show cs3 71 k = A 45; rw [f3 71 nR, fr2 71 (by decide) nR]; exact e)
        have sr : ∀ cs3 : bF, (∀ a, a ≠ ca + 4 → cs3 a = cs2 a) → (fun (cs : bF) => cs 71 1) cs3 = cs 71 1 := by
          intro cs3 f3
          first | rfl | (show cs3 71 1 = cs 71 1; rw [f3 71 nR, fr2 71 (by decide) nR])
        have sv0 := sv cs2 (fun _ _ => rfl) 2 h7
        have sr0 := sr cs2 (fun _ _ => rfl)
        obtain ⟨cs3, f3, e3⟩ := s_whyFrom71 (κ := κ) (cp := cp) (cs := cs2) (cj := cj) (Y := Y) (n := n) (D := d) hF hc' hw p0 hp s0 hs (by dsimp only at sv0; omega) (by dsimp only at sv0; omega) (by omega)
        have sv1 := sv cs3 f3 2 h7
        have sr1 := sr cs3 f3
        obtain ⟨cs4, f4, e4⟩ := s_then71 (κ := κ) (cp := cp) (cs := cs3) (cj := cj) (Y := Y) (n := n) (D := d) hF hc' hw p0 hp s0 hs (by dsimp only at sv1; omega) (by dsimp only at sv1; omega) (by omega)
        dsimp only at sv0 sr0 sv1 sr1
        rw [sv0, sr0] at e3
        rw [sv1, sr1] at e4
        have wr := whyM_rng A s p (cs 71 1) (A 45)
        rw [eX0_laysAll_11]
        simp (disch := first | assumption | omega) only [c0, c1, c2, c3, c4, c5, c6, c7, c8, ctw, cb, ce, cd, cw, cwp, if_neg (show ¬ A 2 ≤ p by omega), e3, bi_add, bi_sub, bi_mul, bi_neg, bi_div, bi_64, bl_add, bl_sub, bl_mul, bl_neg, bl_div, bl_32, bi_min, bi_max, bl_min, bl_max, bq_I, bq_J, bq_A, bq_Vi, bq_Vl, bq_Vr, bq_cV, bq_cI, bq_cJ, bq_cA, bq_le, bq_lt, bq_eq, bq_z, bq_o, bq_ref, bq_nz, bq_nzJ, bq_bl, bq_blz, bq_T, bq_F, if_true, if_false, Int.reduceEq, Int.reduceLT, Int.reduceLE, Int.reduceAdd, Int.reduceSub, Int.reduceMul, Int.add_sub_cancel, li_0, li_1, li_2, li_4, li_5, li_8, li_9, li_11, li_12, li_35, li_36, li_60, li_61, li_90, li_100, li_2004, li_2007, ll_0, ll_1, ll_2, ll_4, ll_5, ll_8, ll_9, ll_11, ll_12, ll_35, ll_36, ll_60, ll_61, ll_90, ll_100, ga72, ga84, ga85, ga86, ga90, ga92, ga87, ga91, ga88, ga89, gf64_4, gf64_5, gf64_6, gf64_8, gf64_9, gf64_10, gf64_14, gf70_0, gf70_1, gf70_2, gf70_3, gf71_0, gf71_1, gf71_2, gf71_3, gs74_0, gs74_1, gs74_2, gs74_3, gs100_0, gs100_1, gs100_2, gs100_3, gr64_1, gr64_2, gr64_3, gr64_7, gr64_11, gr64_12, gr64_13, gr64_15, gr64_16, gr64_17, gr64_18, gr64_19, gr64_20, gr64_21, gr64_22, gr64_23, gr70_4, gr71_4, gu73, gu99, gu93, pa72, pa84, pa85, pa86, pa90, pa92, pa87, pa91, pa88, pa89, pf64_4, pf64_5, pf64_6, pf64_8, pf64_9, pf64_10, pf64_14, pf70_0, pf70_1, pf70_2, pf70_3, pf71_0, pf71_1, pf71_2, pf71_3, ps74_0, ps74_1, ps74_2, ps74_3, ps100_0, ps100_1, ps100_2, ps100_3, s_in, s_has, s_one, s_roomOf, s_hurtOf, s_isLost, s_standOf, s_isTray, s_isSoon, s_fallen, s_isPassage, s_isRoom, s_isPassage70, s_leads70, s_isBack70, s_isPassage, s_isRoom, s_isPassage71, s_leads71, s_isBack71]
        by_cases q1 : A 1 ≤ s / 6
        · rw [if_pos q1, eX0_laysAll_60, eX0_laysAll_61]
          simp (disch := first | assumption | omega) only [if_true, bi_add, bi_sub, bi_mul, bi_neg, bi_div, bi_64, bl_add, bl_sub, bl_mul, bl_neg, bl_div, bl_32, bi_min, bi_max, bl_min, bl_max, bq_I, bq_J, bq_A, bq_Vi, bq_Vl, bq_Vr, bq_cV, bq_cI, bq_cJ, bq_cA, bq_le, bq_lt, bq_eq, bq_z, bq_o, bq_ref, bq_nz, bq_nzJ, bq_bl, bq_blz, bq_T, bq_F, if_true, if_false, Int.reduceEq, Int.reduceLT, Int.reduceLE, Int.reduceAdd, Int.reduceSub, Int.reduceMul, Int.add_sub_cancel, li_0, li_1, li_2, li_4, li_5, li_8, li_9, li_11, li_12, li_35, li_36, li_60, li_61, li_90, li_100, li_2004, li_2007, ll_0, ll_1, ll_2, ll_4, ll_5, ll_8, ll_9, ll_11, ll_12, ll_35, ll_36, ll_60, ll_61, ll_90, ll_100, ga72, ga84, ga85, ga86, ga90, ga92, ga87, ga91, ga88, ga89, gf64_4, gf64_5, gf64_6, gf64_8, gf64_9, gf64_10, gf64_14, gf70_0, gf70_1, gf70_2, gf70_3, gf71_0, gf71_1, gf71_2, gf71_3, gs74_0, gs74_1, gs74_2, gs74_3, gs100_0, gs100_1, gs100_2, gs100_3, gr64_1, gr64_2, gr64_3, gr64_7, gr64_11, gr64_12, gr64_13, gr64_15, gr64_16, gr64_17, gr64_18, gr64_19, gr64_20, gr64_21, gr64_22, gr64_23, gr70_4, gr71_4, gu73, gu99, gu93, pa72, pa84, pa85, pa86, pa90, pa92, pa87, pa91, pa88, pa89, pf64_4, pf64_5, pf64_6, pf64_8, pf64_9, pf64_10, pf64_14, pf70_0, pf70_1, pf70_2, pf70_3, pf71_0, pf71_1, pf71_2, pf71_3, ps74_0, ps74_1, ps74_2, ps74_3, ps100_0, ps100_1, ps100_2, ps100_3, s_in, s_has, s_one, s_roomOf, s_hurtOf, s_isLost, s_standOf, s_isTray, s_isSoon, s_fallen, s_isPassage, s_isRoom, s_isPassage70, s_leads70, s_isBack70, s_isPassage, s_isRoom, s_isPassage71, s_leads71, s_isBack71]
          refine put cs2 0 (-1) (fun _ _ => rfl) ?_
          unfold nxt
          by_cases qb : bt but p = 1
          · rw [if_pos qb]
          · rw [if_neg qb, if_neg (by omega)]
        · rw [if_neg q1]
          by_cases q2 : bt but p = 1
          · rw [if_pos q2, eX0_laysAll_60, eX0_laysAll_61]
            simp (disch := first | assumption | omega) only [if_true, bi_add, bi_sub, bi_mul, bi_neg, bi_div, bi_64, bl_add, bl_sub, bl_mul, bl_neg, bl_div, bl_32, bi_min, bi_max, bl_min, bl_max, bq_I, bq_J, bq_A, bq_Vi, bq_Vl, bq_Vr, bq_cV, bq_cI, bq_cJ, bq_cA, bq_le, bq_lt, bq_eq, bq_z, bq_o, bq_ref, bq_nz, bq_nzJ, bq_bl, bq_blz, bq_T, bq_F, if_true, if_false, Int.reduceEq, Int.reduceLT, Int.reduceLE, Int.reduceAdd, Int.reduceSub, Int.reduceMul, Int.add_sub_cancel, li_0, li_1, li_2, li_4, li_5, li_8, li_9, li_11, li_12, li_35, li_36, li_60, li_61, li_90, li_100, li_2004, li_2007, ll_0, ll_1, ll_2, ll_4, ll_5, ll_8, ll_9, ll_11, ll_12, ll_35, ll_36, ll_60, ll_61, ll_90, ll_100, ga72, ga84, ga85, ga86, ga90, ga92, ga87, ga91, ga88, ga89, gf64_4, gf64_5, gf64_6, gf64_8, gf64_9, gf64_10, gf64_14, gf70_0, gf70_1, gf70_2, gf70_3, gf71_0, gf71_1, gf71_2, gf71_3, gs74_0, gs74_1, gs74_2, gs74_3, gs100_0, gs100_1, gs100_2, gs100_3, gr64_1, gr64_2, gr64_3, gr64_7, gr64_11, gr64_12, gr64_13, gr64_15, gr64_16, gr64_17, gr64_18, gr64_19, gr64_20, gr64_21, gr64_22, gr64_23, gr70_4, gr71_4, gu73, gu99, gu93, pa72, pa84, pa85, pa86, pa90, pa92, pa87, pa91, pa88, pa89, pf64_4, pf64_5, pf64_6, pf64_8, pf64_9, pf64_10, pf64_14, pf70_0, pf70_1, pf70_2, pf70_3, pf71_0, pf71_1, pf71_2, pf71_3, ps74_0, ps74_1, ps74_2, ps74_3, ps100_0, ps100_1, ps100_2, ps100_3, s_in, s_has, s_one, s_roomOf, s_hurtOf, s_isLost, s_standOf, s_isTray, s_isSoon, s_fallen, s_isPassage, s_isRoom, s_isPassage70, s_leads70, s_isBack70, s_isPassage, s_isRoom, s_isPassage71, s_leads71, s_isBack71]
            exact put cs2 0 (-1) (fun _ _ => rfl) (by rw [if_pos q2])
          · rw [if_neg q2]
            by_cases q3 : whyM A s p (cs 71 1) (A 45) = 0
            · rw [if_pos q3, eX0_laysAll_61]
              simp (disch := first | assumption | omega) only [if_neg (show ¬ (1 : Int) = 0 by decide), e4, bi_add, bi_sub, bi_mul, bi_neg, bi_div, bi_64, bl_add, bl_sub, bl_mul, bl_neg, bl_div, bl_32, bi_min, bi_max, bl_min, bl_max, bq_I, bq_J, bq_A, bq_Vi, bq_Vl, bq_Vr, bq_cV, bq_cI, bq_cJ, bq_cA, bq_le, bq_lt, bq_eq, bq_z, bq_o, bq_ref, bq_nz, bq_nzJ, bq_bl, bq_blz, bq_T, bq_F, if_true, if_false, Int.reduceEq, Int.reduceLT, Int.reduceLE, Int.reduceAdd, Int.reduceSub, Int.reduceMul, Int.add_sub_cancel, li_0, li_1, li_2, li_4, li_5, li_8, li_9, li_11, li_12, li_35, li_36, li_60, li_61, li_90, li_100, li_2004, li_2007, ll_0, ll_1, ll_2, ll_4, ll_5, ll_8, ll_9, ll_11, ll_12, ll_35, ll_36, ll_60, ll_61, ll_90, ll_100, ga72, ga84, ga85, ga86, ga90, ga92, ga87, ga91, ga88, ga89, gf64_4, gf64_5, gf64_6, gf64_8, gf64_9, gf64_10, gf64_14, gf70_0, gf70_1, gf70_2, gf70_3, gf71_0, gf71_1, gf71_2, gf71_3, gs74_0, gs74_1, gs74_2, gs74_3, gs100_0, gs100_1, gs100_2, gs100_3, gr64_1, gr64_2, gr64_3, gr64_7, gr64_11, gr64_12, gr64_13, gr64_15, gr64_16, gr64_17, gr64_18, gr64_19, gr64_20, gr64_21, gr64_22, gr64_23, gr70_4, gr71_4, gu73, gu99, gu93, pa72, pa84, pa85, pa86, pa90, pa92, pa87, pa91, pa88, pa89, pf64_4, pf64_5, pf64_6, pf64_8, pf64_9, pf64_10, pf64_14, pf70_0, pf70_1, pf70_2, pf70_3, pf71_0, pf71_1, pf71_2, pf71_3, ps74_0, ps74_1, ps74_2, ps74_3, ps100_0, ps100_1, ps100_2, ps100_3, s_in, s_has, s_one, s_roomOf, s_hurtOf, s_isLost, s_standOf, s_isTray, s_isSoon, s_fallen, s_isPassage, s_isRoom, s_isPassage70, s_leads70, s_isBack70, s_isPassage, s_isRoom, s_isPassage71, s_leads71, s_isBack71]
              refine put cs4 1 _ (fun a ha => by rw [f4 a ha, f3 a ha]) ?_
              rw [if_neg q2]
              unfold nxt
              rw [if_pos ⟨p0, hp, s0, by omega, q3⟩]
            · rw [if_neg q3, eX0_laysAll_60, eX0_laysAll_61]
              simp (disch := first | assumption | omega) only [if_true, bi_add, bi_sub, bi_mul, bi_neg, bi_div, bi_64, bl_add, bl_sub, bl_mul, bl_neg, bl_div, bl_32, bi_min, bi_max, bl_min, bl_max, bq_I, bq_J, bq_A, bq_Vi, bq_Vl, bq_Vr, bq_cV, bq_cI, bq_cJ, bq_cA, bq_le, bq_lt, bq_eq, bq_z, bq_o, bq_ref, bq_nz, bq_nzJ, bq_bl, bq_blz, bq_T, bq_F, if_true, if_false, Int.reduceEq, Int.reduceLT, Int.reduceLE, Int.reduceAdd, Int.reduceSub, Int.reduceMul, Int.add_sub_cancel, li_0, li_1, li_2, li_4, li_5, li_8, li_9, li_11, li_12, li_35, li_36, li_60, li_61, li_90, li_100, li_2004, li_2007, ll_0, ll_1, ll_2, ll_4, ll_5, ll_8, ll_9, ll_11, ll_12, ll_35, ll_36, ll_60, ll_61, ll_90, ll_100, ga72, ga84, ga85, ga86, ga90, ga92, ga87, ga91, ga88, ga89, gf64_4, gf64_5, gf64_6, gf64_8, gf64_9, gf64_10, gf64_14, gf70_0, gf70_1, gf70_2, gf70_3, gf71_0, gf71_1, gf71_2, gf71_3, gs74_0, gs74_1, gs74_2, gs74_3, gs100_0, gs100_1, gs100_2, gs100_3, gr64_1, gr64_2, gr64_3, gr64_7, gr64_11, gr64_12, gr64_13, gr64_15, gr64_16, gr64_17, gr64_18, gr64_19, gr64_20, gr64_21, gr64_22, gr64_23, gr70_4, gr71_4, gu73, gu99, gu93, pa72, pa84, pa85, pa86, pa90, pa92, pa87, pa91, pa88, pa89, pf64_4, pf64_5, pf64_6, pf64_8, pf64_9, pf64_10, pf64_14, pf70_0, pf70_1, pf70_2, pf70_3, pf71_0, pf71_1, pf71_2, pf71_3, ps74_0, ps74_1, ps74_2, ps74_3, ps100_0, ps100_1, ps100_2, ps100_3, s_in, s_has, s_one, s_roomOf, s_hurtOf, s_isLost, s_standOf, s_isTray, s_isSoon, s_fallen, s_isPassage, s_isRoom, s_isPassage70, s_leads70, s_isBack70, s_isPassage, s_isRoom, s_isPassage71, s_leads71, s_isBack71]
              refine put cs3 0 (-1) f3 ?_
              rw [if_neg q2]
              unfold nxt
              rw [if_neg (fun k => q3 k.2.2.2.2)]
      · rintro ⟨cs2, v5⟩ ⟨p0, fr2, vl2, vl3⟩
        dsimp only at fr2 vl2 vl3 ⊢
        rw [eX0_laysAll_11]
        simp (disch := first | assumption | omega) only [c0, c1, c2, c3, c4, c5, c6, c7, c8, ctw, cb, ce, cd, cw, cwp, if_pos (Int.le_refl (A 2)), bi_add, bi_sub, bi_mul, bi_neg, bi_div, bi_64, bl_add, bl_sub, bl_mul, bl_neg, bl_div, bl_32, bi_min, bi_max, bl_min, bl_max, bq_I, bq_J, bq_A, bq_Vi, bq_Vl, bq_Vr, bq_cV, bq_cI, bq_cJ, bq_cA, bq_le, bq_lt, bq_eq, bq_z, bq_o, bq_ref, bq_nz, bq_nzJ, bq_bl, bq_blz, bq_T, bq_F, if_true, if_false, Int.reduceEq, Int.reduceLT, Int.reduceLE, Int.reduceAdd, Int.reduceSub, Int.reduceMul, Int.add_sub_cancel, li_0, li_1, li_2, li_4, li_5, li_8, li_9, li_11, li_12, li_35, li_36, li_60, li_61, li_90, li_100, li_2004, li_2007, ll_0, ll_1, ll_2, ll_4, ll_5, ll_8, ll_9, ll_11, ll_12, ll_35, ll_36, ll_60, ll_61, ll_90, ll_100, ga72, ga84, ga85, ga86, ga90, ga92, ga87, ga91, ga88, ga89, gf64_4, gf64_5, gf64_6, gf64_8, gf64_9, gf64_10, gf64_14, gf70_0, gf70_1, gf70_2, gf70_3, gf71_0, gf71_1, gf71_2, gf71_3, gs74_0, gs74_1, gs74_2, gs74_3, gs100_0, gs100_1, gs100_2, gs100_3, gr64_1, gr64_2, gr64_3, gr64_7, gr64_11, gr64_12, gr64_13, gr64_15, gr64_16, gr64_17, gr64_18, gr64_19, gr64_20, gr64_21, gr64_22, gr64_23, gr70_4, gr71_4, gu73, gu99, gu93, pa72, pa84, pa85, pa86, pa90, pa92, pa87, pa91, pa88, pa89, pf64_4, pf64_5, pf64_6, pf64_8, pf64_9, pf64_10, pf64_14, pf70_0, pf70_1, pf70_2, pf70_3, pf71_0, pf71_1, pf71_2, pf71_3, ps74_0, ps74_1, ps74_2, ps74_3, ps100_0, ps100_1, ps100_2, ps100_3, s_in, s_has, s_one, s_roomOf, s_hurtOf, s_isLost, s_standOf, s_isTray, s_isSoon, s_fallen, s_isPassage, s_isRoom, s_isPassage70, s_leads70, s_isBack70, s_isPassage, s_isRoom, s_isPassage71, s_leads71, s_isBack71]
        refine cont (cs2, .int (bk_i (A 2))) ⟨by omega, fr2, fun s' p a1 a2 a3 a4 => ?_⟩
        by_cases c : s' = s
        · subst c; exact vl3 p a3 a4
        · exact vl2 s' p a1 (by omega) a3 a4
    · rintro ⟨cs1, v4⟩ ⟨s0, fr, vl⟩
      dsimp only at fr vl ⊢
      rw [eX0_laysAll_2]
      simp (disch := first | assumption | omega) only [if_pos (Int.le_refl 36), bi_add, bi_sub, bi_mul, bi_neg, bi_div, bi_64, bl_add, bl_sub, bl_mul, bl_neg, bl_div, bl_32, bi_min, bi_max, bl_min, bl_max, bq_I, bq_J, bq_A, bq_Vi, bq_Vl, bq_Vr, bq_cV, bq_cI, bq_cJ, bq_cA, bq_le, bq_lt, bq_eq, bq_z, bq_o, bq_ref, bq_nz, bq_nzJ, bq_bl, bq_blz, bq_T, bq_F, if_true, if_false, Int.reduceEq, Int.reduceLT, Int.reduceLE, Int.reduceAdd, Int.reduceSub, Int.reduceMul, Int.add_sub_cancel, li_0, li_1, li_2, li_4, li_5, li_8, li_9, li_11, li_12, li_35, li_36, li_60, li_61, li_90, li_100, li_2004, li_2007, ll_0, ll_1, ll_2, ll_4, ll_5, ll_8, ll_9, ll_11, ll_12, ll_35, ll_36, ll_60, ll_61, ll_90, ll_100, ga72, ga84, ga85, ga86, ga90, ga92, ga87, ga91, ga88, ga89, gf64_4, gf64_5, gf64_6, gf64_8, gf64_9, gf64_10, gf64_14, gf70_0, gf70_1, gf70_2, gf70_3, gf71_0, gf71_1, gf71_2, gf71_3, gs74_0, gs74_1, gs74_2, gs74_3, gs100_0, gs100_1, gs100_2, gs100_3, gr64_1, gr64_2, gr64_3, gr64_7, gr64_11, gr64_12, gr64_13, gr64_15, gr64_16, gr64_17, gr64_18, gr64_19, gr64_20, gr64_21, gr64_22, gr64_23, gr70_4, gr71_4, gu73, gu99, gu93, pa72, pa84, pa85, pa86, pa90, pa92, pa87, pa91, pa88, pa89, pf64_4, pf64_5, pf64_6, pf64_8, pf64_9, pf64_10, pf64_14, pf70_0, pf70_1, pf70_2, pf70_3, pf71_0, pf71_1, pf71_2, pf71_3, ps74_0, ps74_1, ps74_2, ps74_3, ps100_0, ps100_1, ps100_2, ps100_3, s_in, s_has, s_one, s_roomOf, s_hurtOf, s_isLost, s_standOf, s_isTray, s_isSoon, s_fallen, s_isPassage, s_isRoom, s_isPassage70, s_leads70, s_isBack70, s_isPassage, s_isRoom, s_isPassage71, s_leads71, s_isBack71]
      exact ⟨_, _, rfl, cs1, rfl, rfl, fr, vl⟩
  obtain ⟨z, h', e, cs', rfl, rfl, h1, h2⟩ := goal
  exact ⟨cs', h1, h2, e⟩
end CO
