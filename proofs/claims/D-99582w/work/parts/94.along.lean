/-! SPECS: a tray's deeds, one after another: the component -/
set_option maxRecDepth 100000
/-- the state after so many deeds of a list -/
def goS (A S f : Int → Int) : Nat → Int → Int
  | 0 => S
  | k + 1 => doD A (goS A S f k) (f k)
theorem goS_succ {A S f : Int → Int} {j : Int} (h : 0 ≤ j) : goS A S f (j + 1).toNat = doD A (goS A S f j.toNat) (f j) := by
  have e : (j + 1).toNat = j.toNat + 1 := by omega
  rw [e]
  show doD A (goS A S f j.toNat) (f (j.toNat : Int)) = _
  rw [Int.toNat_of_nonneg h]
/-- where the deeds stop -/
def isJ (A S f : Int → Int) (m J : Int) : Prop := 0 ≤ J ∧ J ≤ m ∧ (∀ k, 0 ≤ k → k < J → whyD A (goS A S f k.toNat) (f k) = 0) ∧ (J = m ∨ whyD A (goS A S f J.toNat) (f J) ≠ 0)
theorem isJ_uniq {A S f : Int → Int} {m J K : Int} (h : isJ A S f m J) (h' : isJ A S f m K) : J = K := by
  obtain ⟨a0, a1, a2, a3⟩ := h
  obtain ⟨b0, b1, b2, b3⟩ := h'
  rcases Int.lt_trichotomy J K with c | c | c
  · have := b2 J a0 c
    rcases a3 with e | e
    · omega
    · exact absurd this e
  · exact c
  · have := a2 K b0 c
    rcases b3 with e | e
    · omega
    · exact absurd this e
theorem goS_ok {A S f : Int → Int} (hw : bWF A 0) (o : okT A S) {j : Int} (j0 : 0 ≤ j) (h : ∀ k, 0 ≤ k → k < j → whyD A (goS A S f k.toNat) (f k) = 0) : okT A (goS A S f j.toNat) := by
  have q : ∀ k : Nat, (k : Int) ≤ j → okT A (goS A S f k) := by
    intro k
    induction k with
    | zero => intro _; exact o
    | succ k ih =>
      intro hk
      have a := h k (by omega) (by omega)
      exact doD_ok hw a (ih (by omega))
  exact q j.toNat (by omega)
theorem whyD_rng (A S : Int → Int) (y : Int) : 0 ≤ whyD A S y ∧ whyD A S y ≤ 4 := by
  unfold whyD
  have := whyG_rng A (S 0) (S 1) (S 2) y
  repeat' (first | omega | split)
section AL
variable {κ : Nat → Nat} {cp cs : bF} {cj : bFJ} {Y : bY} {g : bG} {n : Nat × Nat} {ca r : Nat} {A f : Int → Int} {m : Int} {D : Nat}
theorem s_goesAlong (h : bCt κ g ca A cp) (m0 : 0 ≤ m) (m1 : m < 1000) (hf : ∀ k, -9223372036854775808 ≤ f k ∧ f k < 9223372036854775808) (ev : ∀ X Y n (K : bk_R), bk_V ((bk_M κ X Y g n).1 3 r 0) K = K)
    (em : ∀ d, 2 ≤ d → ∀ cp cs cj, bk_call d 3001 [.ref r] (bk_M κ (cp, cs, cj) Y g n) = some (some (.int (bk_i m)), bk_M κ (cp, cs, cj) Y g n)) (en : ∀ d, 2 ≤ d → ∀ cp cs cj k, 0 ≤ k → k < m → bk_call d 3002 [.ref r, .int (bk_i k)] (bk_M κ (cp, cs, cj) Y g n) = some (some (.long (bk_l (f k))), bk_M κ (cp, cs, cj) Y g n)) (hD : 909 ≤ D) :
    ∃ cs' J, isJ A (tS A) f m J ∧ (∀ k, 0 ≤ k → k < 4 → cs' 71 k = goS A (tS A) f J.toNat k) ∧ bk_call D 25 [.ref 64, .ref r] (bk_M κ (cp, cs, cj) Y g n) = some (some (.int (bk_i J)), bk_M κ (cp, cs', cj) Y g n) := by
  obtain ⟨d, rfl⟩ := dep hD
  obtain ⟨hF, hc, hw, hs, n0, n1, n2, n3⟩ := h
  have hca : ca = 65 ∨ 122 ≤ ca := by
    have hc2 := hc
    obtain ⟨c0, c1, c2, c3, c4, c5, c6, c7, c8, ⟨tw, ctw, htw⟩, cb, ce, cd, cw, cwp, hca, -, -⟩ := hc2
    exact hca
  have goal : bk_wp (bk_call (d + 1) 25 [.ref 64, .ref r] (bk_M κ (cp, cs, cj) Y g n)) (fun v h' => ∃ cs' J, v = some (.int (bk_i J)) ∧ h' = bk_M κ (cp, cs', cj) Y g n ∧ isJ A (tS A) f m J ∧ ∀ k, 0 ≤ k → k < 4 → cs' 71 k = goS A (tS A) f J.toNat k) := by
    have e3 := em d (by omega)
    have e4 := en d (by omega)
    rw [kX0_goesAlong, eX0_goesAlong_0]
    simp (disch := first | assumption | omega) only [bi_add, bi_sub, bi_mul, bi_neg, bi_div, bi_64, bl_add, bl_sub, bl_mul, bl_neg, bl_div, bl_32, bi_min, bi_max, bl_min, bl_max, bq_I, bq_J, bq_A, bq_Vi, bq_Vl, bq_Vr, bq_cV, bq_cI, bq_cJ, bq_cA, bq_le, bq_lt, bq_eq, bq_z, bq_o, bq_ref, bq_nz, bq_nzJ, bq_bl, bq_blz, bq_T, bq_F, if_true, if_false, Int.reduceEq, Int.reduceLT, Int.reduceLE, Int.reduceAdd, Int.reduceSub, Int.reduceMul, Int.add_sub_cancel, li_0, li_1, li_2, li_3, li_14, li_25, li_2008, li_2010, li_2012, li_3001, li_3002, ll_0, ll_1, ll_2, ll_3, ll_14, ll_25, ga72, ga84, ga85, ga86, ga90, ga92, ga87, ga91, ga88, ga89, gf64_4, gf64_5, gf64_6, gf64_8, gf64_9, gf64_10, gf64_14, gf70_0, gf70_1, gf70_2, gf70_3, gf71_0, gf71_1, gf71_2, gf71_3, gs74_0, gs74_1, gs74_2, gs74_3, gs100_0, gs100_1, gs100_2, gs100_3, gr64_1, gr64_2, gr64_3, gr64_7, gr64_11, gr64_12, gr64_13, gr64_15, gr64_16, gr64_17, gr64_18, gr64_19, gr64_20, gr64_21, gr64_22, gr64_23, gr70_4, gr71_4, gu73, gu99, gu93, pa72, pa84, pa85, pa86, pa90, pa92, pa87, pa91, pa88, pa89, pf64_4, pf64_5, pf64_6, pf64_8, pf64_9, pf64_10, pf64_14, pf70_0, pf70_1, pf70_2, pf70_3, pf71_0, pf71_1, pf71_2, pf71_3, ps74_0, ps74_1, ps74_2, ps74_3, ps100_0, ps100_1, ps100_2, ps100_3, s_in, s_has, s_one, s_roomOf, s_hurtOf, s_isLost, s_standOf, s_isTray, s_isSoon, s_fallen, s_isPassage, s_isRoom, s_isPassage70, s_leads70, s_isBack70, s_isPassage, s_isRoom, s_isPassage71, s_leads71, s_isBack71, s_onec, s_bitCount, s_be7170, s_be7071, u_tens77, kpC_70, s_draw]
    refine bk_loop (σ := bF) (fun j x => bk_den TX0_goesAlong (bk_call d) 14 [.ref 64, .ref r, .int (bk_i j)] [] (bk_M κ (cp, x, cj) Y g n)) (fun j x => 0 ≤ j ∧ (∀ k, 0 ≤ k → k < j → whyD A (goS A (tS A) f k.toNat) (f k) = 0) ∧ ∀ k, 0 ≤ k → k < 4 → x 71 k = goS A (tS A) f j.toNat k) m ?_ ?_ 0 _ m0 ⟨by omega, fun k _ _ => by omega, four ?_ ?_ ?_ ?_⟩
    · rintro j x hj ⟨j0, hb, hx⟩ cont
      have ok := goS_ok hw (tS_ok hs) j0 hb
      have fr := hf j
      obtain ⟨cs2, f2, e2⟩ := s_whyDeed (κ := κ) (cp := cp) (cs := x) (cj := cj) (Y := Y) (n := n) (D := d) (y := f j) hF hc hw fr.1 fr.2 hx ok (by omega)
      have hx2 : ∀ k, 0 ≤ k → k < 4 → cs2 71 k = goS A (tS A) f j.toNat k := fun k k0 k1 => by rw [f2 71 (by omega)]; exact hx k k0 k1
      have wr := whyD_rng A (goS A (tS A) f j.toNat) (f j)
      have e5 := e4 cp x cj j j0 hj
      have e6 := e4 cp cs2 cj j j0 hj
      rw [eX0_goesAlong_14]
      by_cases c : whyD A (goS A (tS A) f j.toNat) (f j) = 0
      · rw [c] at e2
        obtain ⟨cs3, f3, v3, e7⟩ := s_does71 (κ := κ) (cp := cp) (cs := cs2) (cj := cj) (Y := Y) (n := n) (D := d) hF hc hw c hx2 ok (by omega)
        simp (disch := first | assumption | omega) only [ev, e3, if_neg (show ¬ m ≤ j by omega), e5, e2, e6, e7, bi_add, bi_sub, bi_mul, bi_neg, bi_div, bi_64, bl_add, bl_sub, bl_mul, bl_neg, bl_div, bl_32, bi_min, bi_max, bl_min, bl_max, bq_I, bq_J, bq_A, bq_Vi, bq_Vl, bq_Vr, bq_cV, bq_cI, bq_cJ, bq_cA, bq_le, bq_lt, bq_eq, bq_z, bq_o, bq_ref, bq_nz, bq_nzJ, bq_bl, bq_blz, bq_T, bq_F, if_true, if_false, Int.reduceEq, Int.reduceLT, Int.reduceLE, Int.reduceAdd, Int.reduceSub, Int.reduceMul, Int.add_sub_cancel, li_0, li_1, li_2, li_3, li_14, li_25, li_2008, li_2010, li_2012, li_3001, li_3002, ll_0, ll_1, ll_2, ll_3, ll_14, ll_25, ga72, ga84, ga85, ga86, ga90, ga92, ga87, ga91, ga88, ga89, gf64_4, gf64_5, gf64_6, gf64_8, gf64_9, gf64_10, gf64_14, gf70_0, gf70_1, gf70_2, gf70_3, gf71_0, gf71_1, gf71_2, gf71_3, gs74_0, gs74_1, gs74_2, gs74_3, gs100_0, gs100_1, gs100_2, gs100_3, gr64_1, gr64_2, gr64_3, gr64_7, gr64_11, gr64_12, gr64_13, gr64_15, gr64_16, gr64_17, gr64_18, gr64_19, gr64_20, gr64_21, gr64_22, gr64_23, gr70_4, gr71_4, gu73, gu99, gu93, pa72, pa84, pa85, pa86, pa90, pa92, pa87, pa91, pa88, pa89, pf64_4, pf64_5, pf64_6, pf64_8, pf64_9, pf64_10, pf64_14, pf70_0, pf70_1, pf70_2, pf70_3, pf71_0, pf71_1, pf71_2, pf71_3, ps74_0, ps74_1, ps74_2, ps74_3, ps100_0, ps100_1, ps100_2, ps100_3, s_in, s_has, s_one, s_roomOf, s_hurtOf, s_isLost, s_standOf, s_isTray, s_isSoon, s_fallen, s_isPassage, s_isRoom, s_isPassage70, s_leads70, s_isBack70, s_isPassage, s_isRoom, s_isPassage71, s_leads71, s_isBack71, s_onec, s_bitCount, s_be7170, s_be7071, u_tens77, kpC_70, s_draw]
        refine cont cs3 ⟨by omega, fun k k0 k1 => ?_, fun k k0 k1 => by rw [goS_succ j0]; exact v3 k k0 k1⟩
        by_cases y : k = j
        · rw [y]; exact c
        · exact hb k k0 (by omega)
      · simp (disch := first | assumption | omega) only [ev, e3, if_neg (show ¬ m ≤ j by omega), e5, e2, if_neg c, bi_add, bi_sub, bi_mul, bi_neg, bi_div, bi_64, bl_add, bl_sub, bl_mul, bl_neg, bl_div, bl_32, bi_min, bi_max, bl_min, bl_max, bq_I, bq_J, bq_A, bq_Vi, bq_Vl, bq_Vr, bq_cV, bq_cI, bq_cJ, bq_cA, bq_le, bq_lt, bq_eq, bq_z, bq_o, bq_ref, bq_nz, bq_nzJ, bq_bl, bq_blz, bq_T, bq_F, if_true, if_false, Int.reduceEq, Int.reduceLT, Int.reduceLE, Int.reduceAdd, Int.reduceSub, Int.reduceMul, Int.add_sub_cancel, li_0, li_1, li_2, li_3, li_14, li_25, li_2008, li_2010, li_2012, li_3001, li_3002, ll_0, ll_1, ll_2, ll_3, ll_14, ll_25, ga72, ga84, ga85, ga86, ga90, ga92, ga87, ga91, ga88, ga89, gf64_4, gf64_5, gf64_6, gf64_8, gf64_9, gf64_10, gf64_14, gf70_0, gf70_1, gf70_2, gf70_3, gf71_0, gf71_1, gf71_2, gf71_3, gs74_0, gs74_1, gs74_2, gs74_3, gs100_0, gs100_1, gs100_2, gs100_3, gr64_1, gr64_2, gr64_3, gr64_7, gr64_11, gr64_12, gr64_13, gr64_15, gr64_16, gr64_17, gr64_18, gr64_19, gr64_20, gr64_21, gr64_22, gr64_23, gr70_4, gr71_4, gu73, gu99, gu93, pa72, pa84, pa85, pa86, pa90, pa92, pa87, pa91, pa88, pa89, pf64_4, pf64_5, pf64_6, pf64_8, pf64_9, pf64_10, pf64_14, pf70_0, pf70_1, pf70_2, pf70_3, pf71_0, pf71_1, pf71_2, pf71_3, ps74_0, ps74_1, ps74_2, ps74_3, ps100_0, ps100_1, ps100_2, ps100_3, s_in, s_has, s_one, s_roomOf, s_hurtOf, s_isLost, s_standOf, s_isTray, s_isSoon, s_fallen, s_isPassage, s_isRoom, s_isPassage70, s_leads70, s_isBack70, s_isPassage, s_isRoom, s_isPassage71, s_leads71, s_isBack71, s_onec, s_bitCount, s_be7170, s_be7071, u_tens77, kpC_70, s_draw]
        exact ⟨_, _, rfl, cs2, j, rfl, rfl, ⟨j0, by omega, hb, Or.inr c⟩, hx2⟩
    · rintro x ⟨j0, hb, hx⟩
      rw [eX0_goesAlong_14]
      simp (disch := first | assumption | omega) only [ev, e3, if_pos (Int.le_refl m), bi_add, bi_sub, bi_mul, bi_neg, bi_div, bi_64, bl_add, bl_sub, bl_mul, bl_neg, bl_div, bl_32, bi_min, bi_max, bl_min, bl_max, bq_I, bq_J, bq_A, bq_Vi, bq_Vl, bq_Vr, bq_cV, bq_cI, bq_cJ, bq_cA, bq_le, bq_lt, bq_eq, bq_z, bq_o, bq_ref, bq_nz, bq_nzJ, bq_bl, bq_blz, bq_T, bq_F, if_true, if_false, Int.reduceEq, Int.reduceLT, Int.reduceLE, Int.reduceAdd, Int.reduceSub, Int.reduceMul, Int.add_sub_cancel, li_0, li_1, li_2, li_3, li_14, li_25, li_2008, li_2010, li_2012, li_3001, li_3002, ll_0, ll_1, ll_2, ll_3, ll_14, ll_25, ga72, ga84, ga85, ga86, ga90, ga92, ga87, ga91, ga88, ga89, gf64_4, gf64_5, gf64_6, gf64_8, gf64_9, gf64_10, gf64_14, gf70_0, gf70_1, gf70_2, gf70_3, gf71_0, gf71_1, gf71_2, gf71_3, gs74_0, gs74_1, gs74_2, gs74_3, gs100_0, gs100_1, gs100_2, gs100_3, gr64_1, gr64_2, gr64_3, gr64_7, gr64_11, gr64_12, gr64_13, gr64_15, gr64_16, gr64_17, gr64_18, gr64_19, gr64_20, gr64_21, gr64_22, gr64_23, gr70_4, gr71_4, gu73, gu99, gu93, pa72, pa84, pa85, pa86, pa90, pa92, pa87, pa91, pa88, pa89, pf64_4, pf64_5, pf64_6, pf64_8, pf64_9, pf64_10, pf64_14, pf70_0, pf70_1, pf70_2, pf70_3, pf71_0, pf71_1, pf71_2, pf71_3, ps74_0, ps74_1, ps74_2, ps74_3, ps100_0, ps100_1, ps100_2, ps100_3, s_in, s_has, s_one, s_roomOf, s_hurtOf, s_isLost, s_standOf, s_isTray, s_isSoon, s_fallen, s_isPassage, s_isRoom, s_isPassage70, s_leads70, s_isBack70, s_isPassage, s_isRoom, s_isPassage71, s_leads71, s_isBack71, s_onec, s_bitCount, s_be7170, s_be7071, u_tens77, kpC_70, s_draw]
      exact ⟨_, _, rfl, x, m, rfl, rfl, ⟨j0, Int.le_refl m, hb, Or.inl rfl⟩, hx⟩
    · exact n0
    · exact n1
    · exact n2
    · exact n3
  obtain ⟨z, h', e, cs', J, rfl, rfl, h1, h2⟩ := goal
  exact ⟨cs', J, h1, h2, e⟩
end AL
