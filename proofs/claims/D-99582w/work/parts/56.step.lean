/-! SPECS: the component: what a step asks of the cave, the laws, a state -/
set_option maxRecDepth 100000
/-- the cells of a cave, read through the machine -/
def bRC (κ : Nat → Nat) (g : bG) (ca : Nat) (A : Int → Int) : Prop :=
  (∀ X Y n, (bk_M κ X Y g n).1 0 64 0 = .ref ca)
  ∧ (∀ X Y n, (bk_M κ X Y g n).1 1 ca 0 = .ref (ca + 1)) ∧ (∀ X Y n, (bk_M κ X Y g n).1 1 ca 1 = .ref (ca + 2)) ∧ (∀ X Y n, (bk_M κ X Y g n).1 1 ca 2 = .ref (ca + 3)) ∧ (∀ X Y n, (bk_M κ X Y g n).1 1 ca 3 = .ref (ca + 4))
  ∧ (∀ X Y n, (bk_M κ X Y g n).1 1 ca 4 = .int (bk_i (A 1))) ∧ (∀ X Y n, (bk_M κ X Y g n).1 1 ca 5 = .int (bk_i (A 2))) ∧ (∀ X Y n, (bk_M κ X Y g n).1 1 ca 11 = .int (bk_i (A 3))) ∧ (∀ X Y n, (bk_M κ X Y g n).1 1 ca 12 = .int (bk_i (A 0)))
  ∧ (∃ tw, (∀ X Y n, (bk_M κ X Y g n).1 1 ca 6 = .int (bk_i tw)) ∧ ∀ p, 0 ≤ p → p < A 2 → bt tw p = A (34 + p))
  ∧ (∀ X Y n z, 0 ≤ z → z < A 2 → (bk_M κ X Y g n).1 100 (ca + 1) (bk_ix (bk_i z)) = .int (bk_i (A (10 + z))))
  ∧ (∀ X Y n z, 0 ≤ z → z < A 2 → (bk_M κ X Y g n).1 100 (ca + 2) (bk_ix (bk_i z)) = .int (bk_i (A (18 + z))))
  ∧ (∀ X Y n z, 0 ≤ z → z < A 2 → (bk_M κ X Y g n).1 100 (ca + 3) (bk_ix (bk_i z)) = .int (bk_i (A (26 + z))))
  ∧ (∀ cp cs cj Y n z, 0 ≤ z → z < 7 → (bk_M κ (cp, cs, cj) Y g n).1 100 (ca + 4) (bk_ix (bk_i z)) = .int (bk_i (cs (ca + 4) z)))
  ∧ (∀ cp cs cj Y n z v, 0 ≤ z → z < 7 → bk_put (bk_M κ (cp, cs, cj) Y g n) 100 (ca + 4) (bk_ix (bk_i z)) (.int (bk_i v)) = bk_M κ (cp, bU cs (ca + 4) z v, cj) Y g n)
  ∧ (ca = 65 ∨ 122 ≤ ca)
  ∧ ((A 4 = 0 ∧ ∀ X Y n, (bk_M κ X Y g n).1 1 ca 13 = .ref 0) ∨ (A 4 = 1 ∧ ∃ x d, x ≠ 0 ∧ d ≤ 900 ∧ (∀ X Y n, (bk_M κ X Y g n).1 1 ca 13 = .ref x) ∧ bTr g d false 6 x (mL A 0 0)))
  ∧ ((A 5 = 0 ∧ ∀ X Y n, (bk_M κ X Y g n).1 1 ca 14 = .ref 0) ∨ (A 5 = 1 ∧ ∃ x d, x ≠ 0 ∧ d ≤ 900 ∧ (∀ X Y n, (bk_M κ X Y g n).1 1 ca 14 = .ref x) ∧ bTr g d true 7 x (mL A 0 1)))
theorem bTr_congr {g g' : bG} (hg : ∀ t x k, 7 ≤ t → t ≤ 14 → g' t x k = g t x k) {W : Int} : ∀ (d : Nat) (tr : Bool) (x : Nat) (cs : List Int), bTr g d tr W x cs → bTr g' d tr W x cs := by
  intro d
  induction d with
  | zero => intro tr x cs h; exact h.elim
  | succ d ih =>
    intro tr x cs h
    have e7 := fun x k => hg 7 x k (by omega) (by omega)
    have e8 := fun x k => hg 8 x k (by omega) (by omega)
    have e9 := fun x k => hg 9 x k (by omega) (by omega)
    have e11 := fun x k => hg 11 x k (by omega) (by omega)
    have e12 := fun x k => hg 12 x k (by omega) (by omega)
    have e13 := fun x k => hg 13 x k (by omega) (by omega)
    have e14 := fun x k => hg 14 x k (by omega) (by omega)
    cases tr with
    | false =>
      unfold bTr
      rw [e14, e14, e14, e13, e12, e11, e11, e11]
      rcases h with h | h | ⟨a, b, c, y, z, sg, h1, h2, h3⟩ | ⟨q, t, e, y, z, u, h1, h2, h3, h4⟩
      · exact Or.inl h
      · exact Or.inr (Or.inl h)
      · exact Or.inr (Or.inr (Or.inl ⟨a, b, c, y, z, sg, ih _ _ _ h1, ih _ _ _ h2, h3⟩))
      · exact Or.inr (Or.inr (Or.inr ⟨q, t, e, y, z, u, ih _ _ _ h1, ih _ _ _ h2, ih _ _ _ h3, h4⟩))
    | true =>
      unfold bTr
      rw [e8, e8, e8, e9, e9, e9, e7]
      rcases h with ⟨a, b, c, y, z, sg, h1, h2, h3⟩ | ⟨a, y, h1, h2⟩ | ⟨a, b, c, y, z, sg, h1, h2, h3⟩
      · exact Or.inl ⟨a, b, c, y, z, sg, ih _ _ _ h1, ih _ _ _ h2, h3⟩
      · exact Or.inr (Or.inl ⟨a, y, ih _ _ _ h1, h2⟩)
      · exact Or.inr (Or.inr ⟨a, b, c, y, z, sg, ih _ _ _ h1, ih _ _ _ h2, h3⟩)
theorem so_cl {t a : Nat} (h1 : 7 ≤ t) (h2 : t ≤ 14) : t ≠ bk_so a := by
  have : bk_so a = 0 ∨ bk_so a = 2 ∨ bk_so a = 4 ∨ 100 ≤ bk_so a := by
    unfold bk_so; split <;> first | exact Or.inl rfl | exact Or.inr (Or.inl rfl) | exact Or.inr (Or.inr (Or.inl rfl)) | exact Or.inr (Or.inr (Or.inr (by decide)))
  omega
section ST
variable {κ : Nat → Nat} {cp cs : bF} {cj : bFJ} {Y : bY} {g : bG} {n : Nat × Nat} {ca : Nat} {A : Int → Int} {s p : Int} {D : Nat}
theorem bTr_M {X : bX} {d : Nat} {tr : Bool} {W : Int} {x : Nat} {c : List Int} (h : bTr g d tr W x c) : bTr (bk_M κ X Y g n).1 d tr W x c :=
  bTr_congr (fun _ _ _ h1 h2 => bM_t (so_cl h1 h2)) _ _ _ _ h
theorem s_lays (hc : bRC κ g ca A) (h1 : 0 ≤ p) (h2 : p < A 2) (h3 : A 2 ≤ 8) (hu sl : Int) (rp bk : Prop) [Decidable rp] [Decidable bk] (hD : 2 ≤ D) :
    ∃ cs', (∀ a, a ≠ ca + 4 → cs' a = cs a) ∧ (∀ k, 0 ≤ k → k < 6 → cs' (ca + 4) k = if k = 0 then p else if k = 1 then A (26 + p) else if k = 2 then hu else if k = 3 then bz rp else if k = 4 then sl else bz bk)
      ∧ bk_call D 1002 [.ref ca, .int (bk_i p), .int (bk_i hu), .int (bk_i (bz rp)), .int (bk_i sl), .int (bk_i (bz bk))] (bk_M κ (cp, cs, cj) Y g n) = some (none, bk_M κ (cp, cs', cj) Y g n) := by
  obtain ⟨d, rfl⟩ := dep hD
  obtain ⟨c0, c1, c2, c3, c4, c5, c6, c7, c8, ⟨tw, ctw, htw⟩, cb, ce, cd, cw, cwp, hca, hl0, hl1⟩ := hc
  refine ⟨bU (bU (bU (bU (bU (bU cs (ca + 4) 0 p) (ca + 4) 1 (A (26 + p))) (ca + 4) 2 hu) (ca + 4) 3 (bz rp)) (ca + 4) 4 sl) (ca + 4) 5 (bz bk), fun a ha => ?_, fun k k0 k1 => ?_, ?_⟩
  · funext k
    rw [bU_ne _ _ _ _ _ _ ha, bU_ne _ _ _ _ _ _ ha, bU_ne _ _ _ _ _ _ ha, bU_ne _ _ _ _ _ _ ha, bU_ne _ _ _ _ _ _ ha, bU_ne _ _ _ _ _ _ ha]
  · simp only [bU_same]
    have : k = 0 ∨ k = 1 ∨ k = 2 ∨ k = 3 ∨ k = 4 ∨ k = 5 := by omega
    rcases this with rfl | rfl | rfl | rfl | rfl | rfl <;> simp
  · rw [kX1_lays, eX1_lays_0]
    simp (disch := first | assumption | omega) only [c0, c1, c2, c3, c4, c5, c6, c7, c8, ctw, cb, ce, cd, cw, cwp, eX1_lays_26, bi_add, bi_sub, bi_mul, bi_neg, bi_div, bi_64, bl_add, bl_sub, bl_mul, bl_neg, bl_div, bl_32, bi_min, bi_max, bl_min, bl_max, bq_I, bq_J, bq_A, bq_Vi, bq_Vl, bq_Vr, bq_cV, bq_cI, bq_cJ, bq_cA, bq_le, bq_lt, bq_eq, bq_z, bq_o, bq_ref, bq_nz, bq_nzJ, bq_bl, bq_blz, bq_T, bq_F, if_true, if_false, Int.reduceEq, Int.reduceLT, Int.reduceLE, Int.reduceAdd, Int.reduceSub, Int.reduceMul, Int.add_sub_cancel, li_0, li_1, li_2, li_3, li_4, li_5, li_10, li_26, li_100, li_1002, ll_0, ll_1, ll_2, ll_3, ll_4, ll_5, ll_10, ll_26, ll_100, ga72, ga84, ga85, ga86, ga90, ga92, ga87, ga91, ga88, ga89, gf64_4, gf64_5, gf64_6, gf64_8, gf64_9, gf64_10, gf64_14, gf70_0, gf70_1, gf70_2, gf70_3, gf71_0, gf71_1, gf71_2, gf71_3, gs74_0, gs74_1, gs74_2, gs74_3, gs100_0, gs100_1, gs100_2, gs100_3, gr64_1, gr64_2, gr64_3, gr64_7, gr64_11, gr64_12, gr64_13, gr64_15, gr64_16, gr64_17, gr64_18, gr64_19, gr64_20, gr64_21, gr64_22, gr64_23, gr70_4, gr71_4, gu73, gu99, gu93, pa72, pa84, pa85, pa86, pa90, pa92, pa87, pa91, pa88, pa89, pf64_4, pf64_5, pf64_6, pf64_8, pf64_9, pf64_10, pf64_14, pf70_0, pf70_1, pf70_2, pf70_3, pf71_0, pf71_1, pf71_2, pf71_3, ps74_0, ps74_1, ps74_2, ps74_3, ps100_0, ps100_1, ps100_2, ps100_3, s_in, s_has, s_one, s_roomOf, s_hurtOf, s_isLost, s_standOf, s_isTray, s_isSoon, s_fallen]
/-- the words that a law sees -/
theorem w_rng {rop sl : Int} (hw : bWF A 0) (h1 : 0 ≤ p) (h2 : p < A 2) (h3 : 0 ≤ s) (h4 : s < 36) (h5 : 0 ≤ sl) (h6 : sl ≤ 9) (k : Int) : -1000000 ≤ mW A s p rop sl k ∧ mW A s p rop sl k ≤ 1000000 := by
  obtain ⟨w1, w2, w3, w4, w5, w6, w7, w8, w9, w10, w11⟩ := hw
  have w9' := w9 p h1 (by simpa using h2)
  simp only [Int.zero_add] at w1 w2 w3 w4 w5 w6 w7 w8 w9'
  have b01 := bt_01 rop p
  unfold mW
  split
  · omega
  · split
    · omega
    · split
      · omega
      · split
        · omega
        · split
          · omega
          · split
            · split <;> omega
            · split <;> omega
theorem s_may (hc : bRC κ g ca A) (hw : bWF A 0) (h1 : 0 ≤ p) (h2 : p < A 2) (h3 : 0 ≤ s) (h4 : s < 36) (rop sl : Int) (h5 : 0 ≤ sl) (h6 : sl ≤ 9) (hD : 903 ≤ D) :
    ∃ cs', (∀ a, a ≠ ca + 4 → cs' a = cs a)
      ∧ bk_call D 1001 [.ref ca, .int (bk_i p), .int (bk_i (s % 6)), .int (bk_i (bz (bt rop p = 1))), .int (bk_i sl), .int (bk_i (bz (A (10 + p) ≠ s / 6)))] (bk_M κ (cp, cs, cj) Y g n)
        = some (some (.int (bk_i (bz (A 5 = 0 ∨ eV (mW A s p rop sl) (mL A 0 1) = 1)))), bk_M κ (cp, cs', cj) Y g n) := by
  obtain ⟨d, rfl⟩ := dep hD
  have hc' := hc
  obtain ⟨c0, c1, c2, c3, c4, c5, c6, c7, c8, ⟨tw, ctw, htw⟩, cb, ce, cd, cw, cwp, hca, hl0, hl1⟩ := hc
  have w4 : A 2 ≤ 8 := by have := hw.2.2.2.1; simpa using this
  rcases hl1 with ⟨e5, ce5⟩ | ⟨e5, x, dd, hx, hdd, ce5, tr⟩
  · refine ⟨cs, fun _ _ => rfl, ?_⟩
    rw [kX1_may, eX1_may_0, bz_t (p := A 5 = 0 ∨ _) (Or.inl e5)]
    simp (disch := first | assumption | omega) only [c0, c1, c2, c3, c4, c5, c6, c7, c8, ctw, cb, ce, cd, cw, cwp, ce5, bi_add, bi_sub, bi_mul, bi_neg, bi_div, bi_64, bl_add, bl_sub, bl_mul, bl_neg, bl_div, bl_32, bi_min, bi_max, bl_min, bl_max, bq_I, bq_J, bq_A, bq_Vi, bq_Vl, bq_Vr, bq_cV, bq_cI, bq_cJ, bq_cA, bq_le, bq_lt, bq_eq, bq_z, bq_o, bq_ref, bq_nz, bq_nzJ, bq_bl, bq_blz, bq_T, bq_F, if_true, if_false, Int.reduceEq, Int.reduceLT, Int.reduceLE, Int.reduceAdd, Int.reduceSub, Int.reduceMul, Int.add_sub_cancel, li_0, li_1, li_3, li_6, li_14, li_46, li_100, li_1001, li_1002, ll_0, ll_1, ll_3, ll_6, ll_14, ll_46, ll_100, ga72, ga84, ga85, ga86, ga90, ga92, ga87, ga91, ga88, ga89, gf64_4, gf64_5, gf64_6, gf64_8, gf64_9, gf64_10, gf64_14, gf70_0, gf70_1, gf70_2, gf70_3, gf71_0, gf71_1, gf71_2, gf71_3, gs74_0, gs74_1, gs74_2, gs74_3, gs100_0, gs100_1, gs100_2, gs100_3, gr64_1, gr64_2, gr64_3, gr64_7, gr64_11, gr64_12, gr64_13, gr64_15, gr64_16, gr64_17, gr64_18, gr64_19, gr64_20, gr64_21, gr64_22, gr64_23, gr70_4, gr71_4, gu73, gu99, gu93, pa72, pa84, pa85, pa86, pa90, pa92, pa87, pa91, pa88, pa89, pf64_4, pf64_5, pf64_6, pf64_8, pf64_9, pf64_10, pf64_14, pf70_0, pf70_1, pf70_2, pf70_3, pf71_0, pf71_1, pf71_2, pf71_3, ps74_0, ps74_1, ps74_2, ps74_3, ps100_0, ps100_1, ps100_2, ps100_3, s_in, s_has, s_one, s_roomOf, s_hurtOf, s_isLost, s_standOf, s_isTray, s_isSoon, s_fallen]
  · obtain ⟨cs1, f1, v1, e1⟩ := s_lays (κ := κ) (cp := cp) (cs := cs) (cj := cj) (Y := Y) (n := n) (D := d) hc' h1 h2 w4 (s % 6) sl (bt rop p = 1) (A (10 + p) ≠ s / 6) (by omega)
    obtain ⟨v, m, hf, r1, r2, o1, -, hd, hcl⟩ := s_eval (h := bk_M κ (cp, bU cs1 (ca + 4) 6 (if A (10 + p) = s / 6 then A (18 + p) else A (10 + p)), cj) Y g n) (w := mW A s p rop sl) (W := 7) (wa := ca + 4) (fun k _ _ => w_rng hw h1 h2 h3 h4 h5 h6 k) (by omega) (by
        intro k k0 k1
        rw [cw _ _ _ _ _ k k0 k1, bU_same]
        congr 2
        unfold mW
        by_cases k6 : k = 6
        · subst k6; simp
        · rw [if_neg k6, v1 k k0 (by omega)]
          have : k = 0 ∨ k = 1 ∨ k = 2 ∨ k = 3 ∨ k = 4 ∨ k = 5 := by omega
          rcases this with rfl | rfl | rfl | rfl | rfl | rfl
          · rfl
          · rfl
          · rfl
          · exact bz_bt rop p
          · rfl
          · simp [bz]) dd true x _ (bTr_M tr)
    have ev : eV (mW A s p rop sl) (mL A 0 1) = v := by unfold eV; rw [hf]; rfl
    have ez : bz (A 5 = 0 ∨ eV (mW A s p rop sl) (mL A 0 1) = 1) = v := by
      rw [ev]
      rcases o1 rfl with rfl | rfl
      · exact bz_f (by omega)
      · exact bz_t (Or.inr rfl)
    refine ⟨bU cs1 (ca + 4) 6 (if A (10 + p) = s / 6 then A (18 + p) else A (10 + p)), fun a ha => ?_, ?_⟩
    · funext k; rw [bU_ne _ _ _ _ _ _ ha, f1 a ha]
    · rw [ez, kX1_may, eX1_may_0]
      have hcl' := hcl d (by omega)
      have hd' := hd rfl
      have ho := o1 rfl
      by_cases q : A (10 + p) = s / 6
      · simp only [if_pos q] at hcl' hd' ⊢
        simp (disch := first | assumption | omega) only [c0, c1, c2, c3, c4, c5, c6, c7, c8, ctw, cb, ce, cd, cw, cwp, ce5, if_neg hx, e1, eX1_may_46, if_neg (show ¬ (A (10 + p) ≠ s / 6) from fun k => k q), hd', hcl', bi_add, bi_sub, bi_mul, bi_neg, bi_div, bi_64, bl_add, bl_sub, bl_mul, bl_neg, bl_div, bl_32, bi_min, bi_max, bl_min, bl_max, bq_I, bq_J, bq_A, bq_Vi, bq_Vl, bq_Vr, bq_cV, bq_cI, bq_cJ, bq_cA, bq_le, bq_lt, bq_eq, bq_z, bq_o, bq_ref, bq_nz, bq_nzJ, bq_bl, bq_blz, bq_T, bq_F, if_true, if_false, Int.reduceEq, Int.reduceLT, Int.reduceLE, Int.reduceAdd, Int.reduceSub, Int.reduceMul, Int.add_sub_cancel, li_0, li_1, li_3, li_6, li_14, li_46, li_100, li_1001, li_1002, ll_0, ll_1, ll_3, ll_6, ll_14, ll_46, ll_100, ga72, ga84, ga85, ga86, ga90, ga92, ga87, ga91, ga88, ga89, gf64_4, gf64_5, gf64_6, gf64_8, gf64_9, gf64_10, gf64_14, gf70_0, gf70_1, gf70_2, gf70_3, gf71_0, gf71_1, gf71_2, gf71_3, gs74_0, gs74_1, gs74_2, gs74_3, gs100_0, gs100_1, gs100_2, gs100_3, gr64_1, gr64_2, gr64_3, gr64_7, gr64_11, gr64_12, gr64_13, gr64_15, gr64_16, gr64_17, gr64_18, gr64_19, gr64_20, gr64_21, gr64_22, gr64_23, gr70_4, gr71_4, gu73, gu99, gu93, pa72, pa84, pa85, pa86, pa90, pa92, pa87, pa91, pa88, pa89, pf64_4, pf64_5, pf64_6, pf64_8, pf64_9, pf64_10, pf64_14, pf70_0, pf70_1, pf70_2, pf70_3, pf71_0, pf71_1, pf71_2, pf71_3, ps74_0, ps74_1, ps74_2, ps74_3, ps100_0, ps100_1, ps100_2, ps100_3, s_in, s_has, s_one, s_roomOf, s_hurtOf, s_isLost, s_standOf, s_isTray, s_isSoon, s_fallen]
      · simp only [if_neg q] at hcl' hd' ⊢
        simp (disch := first | assumption | omega) only [c0, c1, c2, c3, c4, c5, c6, c7, c8, ctw, cb, ce, cd, cw, cwp, ce5, if_neg hx, e1, eX1_may_46, if_pos (show A (10 + p) ≠ s / 6 from q), hd', hcl', bi_add, bi_sub, bi_mul, bi_neg, bi_div, bi_64, bl_add, bl_sub, bl_mul, bl_neg, bl_div, bl_32, bi_min, bi_max, bl_min, bl_max, bq_I, bq_J, bq_A, bq_Vi, bq_Vl, bq_Vr, bq_cV, bq_cI, bq_cJ, bq_cA, bq_le, bq_lt, bq_eq, bq_z, bq_o, bq_ref, bq_nz, bq_nzJ, bq_bl, bq_blz, bq_T, bq_F, if_true, if_false, Int.reduceEq, Int.reduceLT, Int.reduceLE, Int.reduceAdd, Int.reduceSub, Int.reduceMul, Int.add_sub_cancel, li_0, li_1, li_3, li_6, li_14, li_46, li_100, li_1001, li_1002, ll_0, ll_1, ll_3, ll_6, ll_14, ll_46, ll_100, ga72, ga84, ga85, ga86, ga90, ga92, ga87, ga91, ga88, ga89, gf64_4, gf64_5, gf64_6, gf64_8, gf64_9, gf64_10, gf64_14, gf70_0, gf70_1, gf70_2, gf70_3, gf71_0, gf71_1, gf71_2, gf71_3, gs74_0, gs74_1, gs74_2, gs74_3, gs100_0, gs100_1, gs100_2, gs100_3, gr64_1, gr64_2, gr64_3, gr64_7, gr64_11, gr64_12, gr64_13, gr64_15, gr64_16, gr64_17, gr64_18, gr64_19, gr64_20, gr64_21, gr64_22, gr64_23, gr70_4, gr71_4, gu73, gu99, gu93, pa72, pa84, pa85, pa86, pa90, pa92, pa87, pa91, pa88, pa89, pf64_4, pf64_5, pf64_6, pf64_8, pf64_9, pf64_10, pf64_14, pf70_0, pf70_1, pf70_2, pf70_3, pf71_0, pf71_1, pf71_2, pf71_3, ps74_0, ps74_1, ps74_2, ps74_3, ps100_0, ps100_1, ps100_2, ps100_3, s_in, s_has, s_one, s_roomOf, s_hurtOf, s_isLost, s_standOf, s_isTray, s_isSoon, s_fallen]
/-- what codes come to, in bounds -/
theorem wfc_val {w : Int → Int} {W : Int} (hw : ∀ k, 0 ≤ k → k < W → -1000000 ≤ w k ∧ w k ≤ 1000000) (hW : W ≤ 7) : ∀ (d : Nat) (tr : Bool) (c : List Int), wfc d tr W c → ∃ v, (∀ st, c.foldl (eS w) st = v :: st) ∧ -1000000 ≤ v ∧ v ≤ 1000000 ∧ (tr = true → v = 0 ∨ v = 1) := by
  intro d
  induction d with
  | zero => intro tr c h; exact h.elim
  | succ d ih =>
    intro tr c hcc
    have bin : ∀ va vb st c, 3000 ≤ c → c ≠ 3006 → c ≠ 3009 → eS w (vb :: va :: st) c = eB c va vb :: st := by
      intro va vb st c h1 h2 h3
      unfold eS
      rw [if_neg (by omega), if_neg (by omega), if_neg h2, if_neg h3]
    cases tr with
    | false =>
      rcases hcc with ⟨n, h1, h2, rfl⟩ | ⟨k, h1, h2, rfl⟩ | ⟨a, b, c, h1, h2, h3, h4, rfl⟩ | ⟨q, t, e, h1, h2, h3, rfl⟩
      · exact ⟨n, fun st => if_pos h2, by omega, by omega, fun q => by cases q⟩
      · have q := hw k h1 h2
        refine ⟨w k, fun st => ?_, by omega, by omega, fun q => by cases q⟩
        show eS w st (1000 + k) = _
        unfold eS
        rw [if_neg (by omega), if_pos (by omega)]
        have e : 1000 + k - 1000 = k := by omega
        rw [e]
      · obtain ⟨va, f1, r1, r1', o1⟩ := ih _ _ h1
        obtain ⟨vb, f2, r2, r2', o2⟩ := ih _ _ h2
        refine ⟨eB c va vb, fun st => ?_, ?_, ?_, fun q => by cases q⟩
        · rw [List.foldl_append, List.foldl_append, f1, f2]
          exact bin va vb st c h3 (by omega) (by omega)
        · unfold eB; rw [if_neg (by omega), if_neg (by omega), if_neg (by omega), if_neg (by omega), if_neg (by omega)]; omega
        · unfold eB; rw [if_neg (by omega), if_neg (by omega), if_neg (by omega), if_neg (by omega), if_neg (by omega)]; omega
      · obtain ⟨va, f1, r1, r1', o1⟩ := ih _ _ h1
        obtain ⟨vb, f2, r2, r2', o2⟩ := ih _ _ h2
        obtain ⟨ve, f3, r3, r3', o3⟩ := ih _ _ h3
        refine ⟨if va = 1 then vb else ve, fun st => ?_, by split <;> assumption, by split <;> assumption, fun q => by cases q⟩
        rw [List.foldl_append, List.foldl_append, List.foldl_append, f1, f2, f3]
        show eS w (ve :: vb :: va :: st) 3009 = _
        unfold eS
        rw [if_neg (by omega), if_neg (by omega), if_neg (by omega), if_pos rfl]
    | true =>
      rcases hcc with ⟨a, b, c, h1, h2, h3, h4, rfl⟩ | ⟨a, h1, rfl⟩ | ⟨a, b, c, h1, h2, h3, rfl⟩
      · obtain ⟨va, f1, r1, r1', o1⟩ := ih _ _ h1
        obtain ⟨vb, f2, r2, r2', o2⟩ := ih _ _ h2
        have q01 : eB c va vb = 0 ∨ eB c va vb = 1 := by
          unfold eB
          split
          · exact bz_01 _
          · split
            · exact bz_01 _
            · split
              · exact bz_01 _
              · omega
        refine ⟨eB c va vb, fun st => ?_, by omega, by omega, fun _ => q01⟩
        rw [List.foldl_append, List.foldl_append, f1, f2]
        exact bin va vb st c (by omega) (by omega) (by omega)
      · obtain ⟨va, f1, r1, r1', o1⟩ := ih _ _ h1
        have o2 := o1 rfl
        refine ⟨1 - va, fun st => ?_, by omega, by omega, fun _ => by omega⟩
        rw [List.foldl_append, f1]
        show eS w (va :: st) 3006 = _
        unfold eS
        rw [if_neg (by omega), if_neg (by omega), if_pos rfl]
      · obtain ⟨va, f1, r1, r1', o1⟩ := ih _ _ h1
        obtain ⟨vb, f2, r2, r2', o2⟩ := ih _ _ h2
        have q01 : eB c va vb = 0 ∨ eB c va vb = 1 := by
          unfold eB
          rw [if_neg (by omega), if_neg (by omega), if_neg (by omega)]
          rcases h3 with rfl | rfl
          · rw [if_pos rfl]; exact bz_01 _
          · rw [if_neg (by omega), if_pos rfl]; exact bz_01 _
        refine ⟨eB c va vb, fun st => ?_, by omega, by omega, fun _ => q01⟩
        rw [List.foldl_append, List.foldl_append, f1, f2]
        exact bin va vb st c (by omega) (by omega) (by omega)
theorem law_rng {rop sl law : Int} (hw : bWF A 0) (hl : law = 0 ∨ law = 1) (ht : A (4 + law) = 1) (h1 : 0 ≤ p) (h2 : p < A 2) (h3 : 0 ≤ s) (h4 : s < 36) (h5 : 0 ≤ sl) (h6 : sl ≤ 9) : -1000000 ≤ eV (mW A s p rop sl) (mL A 0 law) ∧ eV (mW A s p rop sl) (mL A 0 law) ≤ 1000000 := by
  rcases hl with rfl | rfl
  · obtain ⟨a1, a2, a3, d, a4, a5⟩ := hw.2.2.2.2.2.2.2.2.2.1 (by simpa using ht)
    obtain ⟨v, f, r1, r2, -⟩ := wfc_val (fun k _ _ => w_rng (rop := rop) hw h1 h2 h3 h4 h5 h6 k) (by omega) d _ _ a5
    unfold eV; rw [f]; exact ⟨r1, r2⟩
  · obtain ⟨a1, a2, a3, d, a4, a5⟩ := hw.2.2.2.2.2.2.2.2.2.2 (by simpa using ht)
    obtain ⟨v, f, r1, r2, -⟩ := wfc_val (fun k _ _ => w_rng (rop := rop) hw h1 h2 h3 h4 h5 h6 k) (by omega) d _ _ a5
    unfold eV; rw [f]; exact ⟨r1, r2⟩
theorem s_hurts (hc : bRC κ g ca A) (hw : bWF A 0) (h1 : 0 ≤ p) (h2 : p < A 2) (h3 : 0 ≤ s) (h4 : s < 36) (rop sl : Int) (h5 : 0 ≤ sl) (h6 : sl ≤ 9) (hD : 903 ≤ D) :
    ∃ cs', (∀ a, a ≠ ca + 4 → cs' a = cs a)
      ∧ bk_call D 1003 [.ref ca, .int (bk_i p), .int (bk_i (s % 6)), .int (bk_i (bz (bt rop p = 1))), .int (bk_i sl), .int (bk_i (bz (A (10 + p) ≠ s / 6)))] (bk_M κ (cp, cs, cj) Y g n)
        = some (some (.int (bk_i (hurtM A s p rop sl))), bk_M κ (cp, cs', cj) Y g n) := by
  obtain ⟨d, rfl⟩ := dep hD
  have hc' := hc
  obtain ⟨c0, c1, c2, c3, c4, c5, c6, c7, c8, ⟨tw, ctw, htw⟩, cb, ce, cd, cw, cwp, hca, hl0, hl1⟩ := hc
  have w4 : A 2 ≤ 8 := by have := hw.2.2.2.1; simpa using this
  have w9' := hw.2.2.2.2.2.2.2.2.1 p h1 (by simpa using h2)
  simp only [Int.zero_add] at w9'
  have b01 := bt_01 rop p
  rcases hl0 with ⟨e4, ce4⟩ | ⟨e4, x, dd, hx, hdd, ce4, tr⟩
  · refine ⟨cs, fun _ _ => rfl, ?_⟩
    rw [kX1_hurts, eX1_hurts_0]
    unfold hurtM
    rw [if_neg (by omega)]
    simp (disch := first | assumption | omega) only [c0, c1, c2, c3, c4, c5, c6, c7, c8, ctw, cb, ce, cd, cw, cwp, ce4, eX1_hurts_28, eX1_hurts_29, if_true, bi_add, bi_sub, bi_mul, bi_neg, bi_div, bi_64, bl_add, bl_sub, bl_mul, bl_neg, bl_div, bl_32, bi_min, bi_max, bl_min, bl_max, bq_I, bq_J, bq_A, bq_Vi, bq_Vl, bq_Vr, bq_cV, bq_cI, bq_cJ, bq_cA, bq_le, bq_lt, bq_eq, bq_z, bq_o, bq_ref, bq_nz, bq_nzJ, bq_bl, bq_blz, bq_T, bq_F, if_true, if_false, Int.reduceEq, Int.reduceLT, Int.reduceLE, Int.reduceAdd, Int.reduceSub, Int.reduceMul, Int.add_sub_cancel, li_0, li_1, li_2, li_3, li_4, li_5, li_13, li_28, li_29, li_100, li_1002, li_1003, ll_0, ll_1, ll_2, ll_3, ll_4, ll_5, ll_13, ll_28, ll_29, ll_100, ga72, ga84, ga85, ga86, ga90, ga92, ga87, ga91, ga88, ga89, gf64_4, gf64_5, gf64_6, gf64_8, gf64_9, gf64_10, gf64_14, gf70_0, gf70_1, gf70_2, gf70_3, gf71_0, gf71_1, gf71_2, gf71_3, gs74_0, gs74_1, gs74_2, gs74_3, gs100_0, gs100_1, gs100_2, gs100_3, gr64_1, gr64_2, gr64_3, gr64_7, gr64_11, gr64_12, gr64_13, gr64_15, gr64_16, gr64_17, gr64_18, gr64_19, gr64_20, gr64_21, gr64_22, gr64_23, gr70_4, gr71_4, gu73, gu99, gu93, pa72, pa84, pa85, pa86, pa90, pa92, pa87, pa91, pa88, pa89, pf64_4, pf64_5, pf64_6, pf64_8, pf64_9, pf64_10, pf64_14, pf70_0, pf70_1, pf70_2, pf70_3, pf71_0, pf71_1, pf71_2, pf71_3, ps74_0, ps74_1, ps74_2, ps74_3, ps100_0, ps100_1, ps100_2, ps100_3, s_in, s_has, s_one, s_roomOf, s_hurtOf, s_isLost, s_standOf, s_isTray, s_isSoon, s_fallen]
    by_cases q : A (26 + p) ≤ 4
    · rw [if_pos q, if_neg (by omega)]
    · rw [if_neg q]
      by_cases q2 : bt rop p = 1
      · rw [if_pos q2, if_neg (by omega)]
      · rw [if_neg q2, if_pos (by omega)]
  · obtain ⟨cs1, f1, v1, e1⟩ := s_lays (κ := κ) (cp := cp) (cs := cs) (cj := cj) (Y := Y) (n := n) (D := d) hc' h1 h2 w4 (s % 6) sl (bt rop p = 1) (A (10 + p) ≠ s / 6) (by omega)
    obtain ⟨v, m, hf, r1, r2, o1, hd, -, hcl⟩ := s_eval (h := bk_M κ (cp, cs1, cj) Y g n) (w := mW A s p rop sl) (W := 6) (wa := ca + 4) (fun k _ _ => w_rng hw h1 h2 h3 h4 h5 h6 k) (by omega) (by
        intro k k0 k1
        rw [cw _ _ _ _ _ k k0 (by omega)]
        congr 2
        unfold mW
        rw [v1 k k0 (by omega)]
        have : k = 0 ∨ k = 1 ∨ k = 2 ∨ k = 3 ∨ k = 4 ∨ k = 5 := by omega
        rcases this with rfl | rfl | rfl | rfl | rfl | rfl
        · rfl
        · rfl
        · rfl
        · exact bz_bt rop p
        · rfl
        · simp [bz]) dd false x _ (bTr_M tr)
    have ev : eV (mW A s p rop sl) (mL A 0 0) = v := by unfold eV; rw [hf]; rfl
    refine ⟨cs1, f1, ?_⟩
    rw [kX1_hurts, eX1_hurts_0]
    unfold hurtM
    rw [if_pos e4, ev]
    have hcl' := hcl d (by omega)
    have hd' := hd rfl
    simp (disch := first | assumption | omega) only [c0, c1, c2, c3, c4, c5, c6, c7, c8, ctw, cb, ce, cd, cw, cwp, ce4, if_neg hx, e1, hd', hcl', bi_add, bi_sub, bi_mul, bi_neg, bi_div, bi_64, bl_add, bl_sub, bl_mul, bl_neg, bl_div, bl_32, bi_min, bi_max, bl_min, bl_max, bq_I, bq_J, bq_A, bq_Vi, bq_Vl, bq_Vr, bq_cV, bq_cI, bq_cJ, bq_cA, bq_le, bq_lt, bq_eq, bq_z, bq_o, bq_ref, bq_nz, bq_nzJ, bq_bl, bq_blz, bq_T, bq_F, if_true, if_false, Int.reduceEq, Int.reduceLT, Int.reduceLE, Int.reduceAdd, Int.reduceSub, Int.reduceMul, Int.add_sub_cancel, li_0, li_1, li_2, li_3, li_4, li_5, li_13, li_28, li_29, li_100, li_1002, li_1003, ll_0, ll_1, ll_2, ll_3, ll_4, ll_5, ll_13, ll_28, ll_29, ll_100, ga72, ga84, ga85, ga86, ga90, ga92, ga87, ga91, ga88, ga89, gf64_4, gf64_5, gf64_6, gf64_8, gf64_9, gf64_10, gf64_14, gf70_0, gf70_1, gf70_2, gf70_3, gf71_0, gf71_1, gf71_2, gf71_3, gs74_0, gs74_1, gs74_2, gs74_3, gs100_0, gs100_1, gs100_2, gs100_3, gr64_1, gr64_2, gr64_3, gr64_7, gr64_11, gr64_12, gr64_13, gr64_15, gr64_16, gr64_17, gr64_18, gr64_19, gr64_20, gr64_21, gr64_22, gr64_23, gr70_4, gr71_4, gu73, gu99, gu93, pa72, pa84, pa85, pa86, pa90, pa92, pa87, pa91, pa88, pa89, pf64_4, pf64_5, pf64_6, pf64_8, pf64_9, pf64_10, pf64_14, pf70_0, pf70_1, pf70_2, pf70_3, pf71_0, pf71_1, pf71_2, pf71_3, ps74_0, ps74_1, ps74_2, ps74_3, ps100_0, ps100_1, ps100_2, ps100_3, s_in, s_has, s_one, s_roomOf, s_hurtOf, s_isLost, s_standOf, s_isTray, s_isSoon, s_fallen]
    have e : max 0 (min 5 v) = max (min 5 v) 0 := by omega
    rw [e]
end ST
