/-! SPECS: walks of so many steps; the component: both, watch -/
set_option maxRecDepth 100000
/-- come to so far, in a walk's next step -/
def pr (N : Int → Int → Int) (rooms : Int) (M : Int → Prop) (s p t : Int) : Prop := ∃ u q, 0 ≤ u ∧ u < 36 ∧ 0 ≤ q ∧ q < 8 ∧ (u < s ∨ (u = s ∧ q < p)) ∧ M u ∧ N u q = t ∧ bt rooms (t / 6) ≠ 1
section PR
variable {N : Int → Int → Int} {rooms s p t v R P st : Int} {M : Int → Prop}
theorem pr_0 : ¬ pr N rooms M 0 0 t := by
  rintro ⟨u, q, a, b, c, d, e, -⟩
  omega
theorem pr_skip (h : ¬ (M s ∧ N s p = t ∧ bt rooms (t / 6) ≠ 1)) : pr N rooms M s (p + 1) t ↔ pr N rooms M s p t := by
  constructor
  · rintro ⟨u, q, a, b, c, d, e, f⟩
    by_cases z : u = s ∧ q = p
    · obtain ⟨rfl, rfl⟩ := z; exact absurd f h
    · exact ⟨u, q, a, b, c, d, by omega, f⟩
  · rintro ⟨u, q, a, b, c, d, e, f⟩
    exact ⟨u, q, a, b, c, d, by omega, f⟩
theorem pr_hit (s0 : 0 ≤ s) (s1 : s < 36) (p0 : 0 ≤ p) (p1 : p < 8) (hM : M s) (hv : N s p = v) (hb : bt rooms (v / 6) ≠ 1) : pr N rooms M s (p + 1) t ↔ (t = v ∨ pr N rooms M s p t) := by
  constructor
  · rintro ⟨u, q, a, b, c, d, e, f⟩
    by_cases z : u = s ∧ q = p
    · obtain ⟨rfl, rfl⟩ := z; exact Or.inl (by rw [← f.2.1, hv])
    · exact Or.inr ⟨u, q, a, b, c, d, by omega, f⟩
  · rintro (rfl | ⟨u, q, a, b, c, d, e, f⟩)
    · exact ⟨s, p, s0, s1, p0, p1, by omega, hM, hv, hb⟩
    · exact ⟨u, q, a, b, c, d, by omega, f⟩
theorem pr_row (t0 : 0 ≤ t) (h : ∀ q, P ≤ q → q < 8 → ¬ M s ∨ N s q = -1) : pr N rooms M (s + 1) 0 t ↔ pr N rooms M s P t := by
  constructor
  · rintro ⟨u, q, a, b, c, d, e, f⟩
    by_cases z : u = s
    · subst z
      by_cases y : q < P
      · exact ⟨u, q, a, b, c, d, by omega, f⟩
      · rcases h q (by omega) d with x | x
        · exact absurd f.1 x
        · have := f.2.1; omega
    · exact ⟨u, q, a, b, c, d, by omega, f⟩
  · rintro ⟨u, q, a, b, c, d, e, f⟩
    exact ⟨u, q, a, b, c, d, by omega, f⟩
theorem pr_end {k : Nat} (hM : ∀ u, M u ↔ rc N rooms st k u) (t0 : 0 ≤ t) (hR : ∀ u q, R ≤ u → 0 ≤ q → q < 8 → N u q = -1) : pr N rooms M R 0 t ↔ rc N rooms st (k + 1) t := by
  constructor
  · rintro ⟨u, q, a, b, c, d, e, f, g, h⟩
    exact ⟨h, u, q, a, b, c, d, (hM u).mp f, g⟩
  · rintro ⟨h, u, q, a, b, c, d, f, g⟩
    refine ⟨u, q, a, b, c, d, ?_, (hM u).mpr f, g, h⟩
    by_cases z : u < R
    · exact Or.inl z
    · have := hR u q (by omega) c d; omega
theorem rc_dom {A : Int → Int} {rop : Int} (hw : bWF A 0) (h0 : 0 ≤ st) (h1 : st < 6 * A 1) : ∀ (k : Nat) (s : Int), 0 ≤ s → rc (nxt A rop) rooms st k s → s < 6 * A 1
  | 0, s, _, e => by
    have : s = st := e
    omega
  | k + 1, s, s0, ⟨_, u, p, _, _, _, _, _, e⟩ => by
    have := nxt_rng hw (s := u) (p := p) rop
    omega
end PR
section BO
variable {κ : Nat → Nat} {cp cs : bF} {cj : bFJ} {Y : bY} {X : bX} {g : bG} {n : Nat × Nat} {ca : Nat} {A : Int → Int} {s p v r hu i to m : Int} {D : Nat} {N : Int → Int → Int}
def rBoth (A : Int → Int) (m r hu i z : Int) : Prop := (fF A m r hu ≠ 0 ∧ z = fF A m r hu) ∨ (fF A m r hu = 0 ∧ ¬ (0 ≤ i ∧ i ≤ m) ∧ z = -3)
  ∨ (fF A m r hu = 0 ∧ (0 ≤ i ∧ i ≤ m) ∧ z = sumZ (fun s => bzc (rc (nxt A (A 44)) 0 (6 * A 42 + A 43) i.toNat s ∧ 0 < wy (nxt A (A 44)) (6 * r + hu) (m - i).toNat s)) (6 * A 1).toNat)
theorem c_both (h : bCt κ g ca A cp) (h0 : -2147483648 ≤ m) (h00 : m < 2147483648) (h3 : -2147483648 ≤ r) (h4 : r < 2147483648) (h5 : -2147483648 ≤ hu) (h6 : hu < 2147483648) (h7 : -2147483648 ≤ i) (h8 : i < 2147483648) (hD : 912 ≤ D) :
    bk_wp (bk_call D 57 [.ref 64, .int (bk_i m), .int (bk_i r), .int (bk_i hu), .int (bk_i i)] (bk_M κ (cp, cs, cj) Y g n)) (bCq κ cp Y g n (rBoth A m r hu i)) := by
  obtain ⟨d, rfl⟩ := dep hD
  have st := bCt_st h
  have hct := h
  have fr := fF_rng A m r hu
  obtain ⟨hF, hc, hw, hs, n0, n1, n2, n3⟩ := h
  have ef := s_foundFault (κ := κ) (X := (cp, cs, cj)) (Y := Y) (n := n) (D := d) hF hc hw h0 h00 h3 h4 h5 h6 (by omega)
  have hN := nxt_N hw (A 44) (R := 36) (by omega)
  obtain ⟨c0, c1, c2, c3, c4, c5, c6, c7, c8, ⟨tw, ctw, htw⟩, cb, ce, cd, cw, cwp, hca, -, -⟩ := hc
  have hi : (((0 : Int) ≤ i ∧ i ≤ m) = True) ∨ (((0 : Int) ≤ i ∧ i ≤ m) = False) := by
    by_cases c : 0 ≤ i ∧ i ≤ m
    · exact Or.inl (eq_true c)
    · exact Or.inr (eq_false c)
  rw [kX0_both, eX0_both_0]
  simp (disch := first | assumption | omega) only [c0, c1, c2, c3, c4, c5, c6, c7, c8, ctw, cb, ce, cd, cw, cwp, ef, bi_add, bi_sub, bi_mul, bi_neg, bi_div, bi_64, bl_add, bl_sub, bl_mul, bl_neg, bl_div, bl_32, bi_min, bi_max, bl_min, bl_max, bq_I, bq_J, bq_A, bq_Vi, bq_Vl, bq_Vr, bq_cV, bq_cI, bq_cJ, bq_cA, bq_le, bq_lt, bq_eq, bq_z, bq_o, bq_ref, bq_nz, bq_nzJ, bq_bl, bq_blz, bq_T, bq_F, if_true, if_false, Int.reduceEq, Int.reduceLT, Int.reduceLE, Int.reduceAdd, Int.reduceSub, Int.reduceMul, Int.add_sub_cancel, li_0, li_1, li_2, li_3, li_5, li_8, li_10, li_11, li_16, li_17, li_30, li_36, li_53, li_54, li_57, li_83, li_97, li_100, li_104, li_107, li_139, li_149, li_223, li_247, li_296, li_297, ll_0, ll_1, ll_2, ll_3, ll_5, ll_8, ll_10, ll_11, ll_16, ll_17, ll_30, ll_36, ll_53, ll_54, ll_57, ll_83, ll_97, ll_100, ll_104, ll_107, ll_139, ll_149, ll_223, ll_247, ll_296, ll_297, ga72, ga84, ga85, ga86, ga90, ga92, ga87, ga91, ga88, ga89, gf64_4, gf64_5, gf64_6, gf64_8, gf64_9, gf64_10, gf64_14, gf70_0, gf70_1, gf70_2, gf70_3, gf71_0, gf71_1, gf71_2, gf71_3, gs74_0, gs74_1, gs74_2, gs74_3, gs100_0, gs100_1, gs100_2, gs100_3, gr64_1, gr64_2, gr64_3, gr64_7, gr64_11, gr64_12, gr64_13, gr64_15, gr64_16, gr64_17, gr64_18, gr64_19, gr64_20, gr64_21, gr64_22, gr64_23, gr70_4, gr71_4, gu73, gu99, gu93, pa72, pa84, pa85, pa86, pa90, pa92, pa87, pa91, pa88, pa89, pf64_4, pf64_5, pf64_6, pf64_8, pf64_9, pf64_10, pf64_14, pf70_0, pf70_1, pf70_2, pf70_3, pf71_0, pf71_1, pf71_2, pf71_3, ps74_0, ps74_1, ps74_2, ps74_3, ps100_0, ps100_1, ps100_2, ps100_3, s_in, s_has, s_one, s_roomOf, s_hurtOf, s_isLost, s_standOf, s_isTray, s_isSoon, s_fallen, s_isPassage, s_isRoom, s_isPassage70, s_leads70, s_isBack70, s_isPassage, s_isRoom, s_isPassage71, s_leads71, s_isBack71, s_onec, s_bitCount]
  by_cases q : fF A m r hu = 0
  · have q' := fF_0 q
    rw [if_pos q]
    by_cases q2 : 0 ≤ i ∧ i ≤ m
    · rw [if_pos q2, q, eX0_both_30]
      generalize hto : 6 * r + hu = to
      have to0 : 0 ≤ to := by omega
      have to1 : to < 36 := by omega
      obtain ⟨cs1, cj1, f1, v1, f2, v2, e1⟩ := s_laysOnward (cs := cs) (cj := cj) (Y := Y) (n := n) (D := d) (to := to) (N := nxt A (A 44)) hct q'.2.2.2.2.1 q'.2.2.2.2.2 to0 to1 0 (fun s p _ _ p0 p1 => none_but p0 p1) (by omega)
      simp (disch := first | assumption | omega) only [c0, c1, c2, c3, c4, c5, c6, c7, c8, ctw, cb, ce, cd, cw, cwp, hto, e1, bi_add, bi_sub, bi_mul, bi_neg, bi_div, bi_64, bl_add, bl_sub, bl_mul, bl_neg, bl_div, bl_32, bi_min, bi_max, bl_min, bl_max, bq_I, bq_J, bq_A, bq_Vi, bq_Vl, bq_Vr, bq_cV, bq_cI, bq_cJ, bq_cA, bq_le, bq_lt, bq_eq, bq_z, bq_o, bq_ref, bq_nz, bq_nzJ, bq_bl, bq_blz, bq_T, bq_F, if_true, if_false, Int.reduceEq, Int.reduceLT, Int.reduceLE, Int.reduceAdd, Int.reduceSub, Int.reduceMul, Int.add_sub_cancel, li_0, li_1, li_2, li_3, li_5, li_8, li_10, li_11, li_16, li_17, li_30, li_36, li_53, li_54, li_57, li_83, li_97, li_100, li_104, li_107, li_139, li_149, li_223, li_247, li_296, li_297, ll_0, ll_1, ll_2, ll_3, ll_5, ll_8, ll_10, ll_11, ll_16, ll_17, ll_30, ll_36, ll_53, ll_54, ll_57, ll_83, ll_97, ll_100, ll_104, ll_107, ll_139, ll_149, ll_223, ll_247, ll_296, ll_297, ga72, ga84, ga85, ga86, ga90, ga92, ga87, ga91, ga88, ga89, gf64_4, gf64_5, gf64_6, gf64_8, gf64_9, gf64_10, gf64_14, gf70_0, gf70_1, gf70_2, gf70_3, gf71_0, gf71_1, gf71_2, gf71_3, gs74_0, gs74_1, gs74_2, gs74_3, gs100_0, gs100_1, gs100_2, gs100_3, gr64_1, gr64_2, gr64_3, gr64_7, gr64_11, gr64_12, gr64_13, gr64_15, gr64_16, gr64_17, gr64_18, gr64_19, gr64_20, gr64_21, gr64_22, gr64_23, gr70_4, gr71_4, gu73, gu99, gu93, pa72, pa84, pa85, pa86, pa90, pa92, pa87, pa91, pa88, pa89, pf64_4, pf64_5, pf64_6, pf64_8, pf64_9, pf64_10, pf64_14, pf70_0, pf70_1, pf70_2, pf70_3, pf71_0, pf71_1, pf71_2, pf71_3, ps74_0, ps74_1, ps74_2, ps74_3, ps100_0, ps100_1, ps100_2, ps100_3, s_in, s_has, s_one, s_roomOf, s_hurtOf, s_isLost, s_standOf, s_isTray, s_isSoon, s_fallen, s_isPassage, s_isRoom, s_isPassage70, s_leads70, s_isBack70, s_isPassage, s_isRoom, s_isPassage71, s_leads71, s_isBack71, s_onec, s_bitCount]
      have o0 : ∀ h, bk_call d 10 [.int (bk_i 0)] h = some (some (.int (bk_i 0)), h) := fun h => by
        have := s_one False (D := d) (by omega) h
        rw [bz_f (fun h => h)] at this; exact this
      have o1 : ∀ h, bk_call d 10 [.int (bk_i 1)] h = some (some (.int (bk_i 1)), h) := fun h => by
        have := s_one True (D := d) (by omega) h
        rw [bz_t trivial] at this; exact this
      generalize hst : cp 70 0 = st0 at st n0
      refine bk_loop (σ := bFJ) (fun s x => bk_den TX0_both (bk_call d) 53 [.ref 64, .int (bk_i m), .int (bk_i r), .int (bk_i hu), .int (bk_i i), .int (bk_i 0), .int (bk_i s), bk_u, bk_u] [] (bk_M κ (cp, cs1, x) Y g n)) (fun s x => 0 ≤ s ∧ (∀ a, a ≠ 89 → x a = cj1 a) ∧ ∀ t, 0 ≤ t → t < s → x 89 t = bk_l (bzc (rc (nxt A (A 44)) 0 st0 0 t))) 36 ?_ ?_ 0 cj1 (by omega) ⟨by omega, fun _ _ => rfl, fun t _ _ => by omega⟩
      · rintro s x hs ⟨s0, fr, vl⟩ cont
        have fin : ∀ val : Int, (val = bzc (s = st0)) → bk_wp (bk_den TX0_both (bk_call d) 53 [.ref 64, .int (bk_i m), .int (bk_i r), .int (bk_i hu), .int (bk_i i), .int (bk_i 0), .int (bk_i (s + 1)), bk_u, bk_u] [] (bk_M κ (cp, cs1, bUJ x 89 s (bk_l val)) Y g n)) (bCq κ cp Y g n (rBoth A m r hu i)) := by
          intro val hv
          refine cont (bUJ x 89 s (bk_l val)) ⟨by omega, fun a ha => ?_, fun t t0 t1 => ?_⟩
          · funext j; rw [bUJ_ne _ _ _ _ _ _ ha, fr a ha]
          · rw [bUJ_same]
            by_cases c : t = s
            · subst c; rw [if_pos rfl, hv]; rfl
            · rw [if_neg (by omega)]; exact vl t t0 (by omega)
        rw [eX0_both_53]
        simp (disch := first | assumption | omega) only [if_neg (show ¬ 36 ≤ s by omega), eX0_both_83, hst, o0, o1, bi_add, bi_sub, bi_mul, bi_neg, bi_div, bi_64, bl_add, bl_sub, bl_mul, bl_neg, bl_div, bl_32, bi_min, bi_max, bl_min, bl_max, bq_I, bq_J, bq_A, bq_Vi, bq_Vl, bq_Vr, bq_cV, bq_cI, bq_cJ, bq_cA, bq_le, bq_lt, bq_eq, bq_z, bq_o, bq_ref, bq_nz, bq_nzJ, bq_bl, bq_blz, bq_T, bq_F, if_true, if_false, Int.reduceEq, Int.reduceLT, Int.reduceLE, Int.reduceAdd, Int.reduceSub, Int.reduceMul, Int.add_sub_cancel, li_0, li_1, li_2, li_3, li_5, li_8, li_10, li_11, li_16, li_17, li_30, li_36, li_53, li_54, li_57, li_83, li_97, li_100, li_104, li_107, li_139, li_149, li_223, li_247, li_296, li_297, ll_0, ll_1, ll_2, ll_3, ll_5, ll_8, ll_10, ll_11, ll_16, ll_17, ll_30, ll_36, ll_53, ll_54, ll_57, ll_83, ll_97, ll_100, ll_104, ll_107, ll_139, ll_149, ll_223, ll_247, ll_296, ll_297, ga72, ga84, ga85, ga86, ga90, ga92, ga87, ga91, ga88, ga89, gf64_4, gf64_5, gf64_6, gf64_8, gf64_9, gf64_10, gf64_14, gf70_0, gf70_1, gf70_2, gf70_3, gf71_0, gf71_1, gf71_2, gf71_3, gs74_0, gs74_1, gs74_2, gs74_3, gs100_0, gs100_1, gs100_2, gs100_3, gr64_1, gr64_2, gr64_3, gr64_7, gr64_11, gr64_12, gr64_13, gr64_15, gr64_16, gr64_17, gr64_18, gr64_19, gr64_20, gr64_21, gr64_22, gr64_23, gr70_4, gr71_4, gu73, gu99, gu93, pa72, pa84, pa85, pa86, pa90, pa92, pa87, pa91, pa88, pa89, pf64_4, pf64_5, pf64_6, pf64_8, pf64_9, pf64_10, pf64_14, pf70_0, pf70_1, pf70_2, pf70_3, pf71_0, pf71_1, pf71_2, pf71_3, ps74_0, ps74_1, ps74_2, ps74_3, ps100_0, ps100_1, ps100_2, ps100_3, s_in, s_has, s_one, s_roomOf, s_hurtOf, s_isLost, s_standOf, s_isTray, s_isSoon, s_fallen, s_isPassage, s_isRoom, s_isPassage70, s_leads70, s_isBack70, s_isPassage, s_isRoom, s_isPassage71, s_leads71, s_isBack71, s_onec, s_bitCount]
        by_cases c : s = st0
        · rw [if_pos c]; exact fin _ (by rw [bzc_t c])
        · rw [if_neg c]; exact fin _ (by rw [bzc_f c])
      · rintro x ⟨s0, fr, vl⟩
        rw [eX0_both_53]
        simp (disch := first | assumption | omega) only [if_pos (Int.le_refl 36), bi_add, bi_sub, bi_mul, bi_neg, bi_div, bi_64, bl_add, bl_sub, bl_mul, bl_neg, bl_div, bl_32, bi_min, bi_max, bl_min, bl_max, bq_I, bq_J, bq_A, bq_Vi, bq_Vl, bq_Vr, bq_cV, bq_cI, bq_cJ, bq_cA, bq_le, bq_lt, bq_eq, bq_z, bq_o, bq_ref, bq_nz, bq_nzJ, bq_bl, bq_blz, bq_T, bq_F, if_true, if_false, Int.reduceEq, Int.reduceLT, Int.reduceLE, Int.reduceAdd, Int.reduceSub, Int.reduceMul, Int.add_sub_cancel, li_0, li_1, li_2, li_3, li_5, li_8, li_10, li_11, li_16, li_17, li_30, li_36, li_53, li_54, li_57, li_83, li_97, li_100, li_104, li_107, li_139, li_149, li_223, li_247, li_296, li_297, ll_0, ll_1, ll_2, ll_3, ll_5, ll_8, ll_10, ll_11, ll_16, ll_17, ll_30, ll_36, ll_53, ll_54, ll_57, ll_83, ll_97, ll_100, ll_104, ll_107, ll_139, ll_149, ll_223, ll_247, ll_296, ll_297, ga72, ga84, ga85, ga86, ga90, ga92, ga87, ga91, ga88, ga89, gf64_4, gf64_5, gf64_6, gf64_8, gf64_9, gf64_10, gf64_14, gf70_0, gf70_1, gf70_2, gf70_3, gf71_0, gf71_1, gf71_2, gf71_3, gs74_0, gs74_1, gs74_2, gs74_3, gs100_0, gs100_1, gs100_2, gs100_3, gr64_1, gr64_2, gr64_3, gr64_7, gr64_11, gr64_12, gr64_13, gr64_15, gr64_16, gr64_17, gr64_18, gr64_19, gr64_20, gr64_21, gr64_22, gr64_23, gr70_4, gr71_4, gu73, gu99, gu93, pa72, pa84, pa85, pa86, pa90, pa92, pa87, pa91, pa88, pa89, pf64_4, pf64_5, pf64_6, pf64_8, pf64_9, pf64_10, pf64_14, pf70_0, pf70_1, pf70_2, pf70_3, pf71_0, pf71_1, pf71_2, pf71_3, ps74_0, ps74_1, ps74_2, ps74_3, ps100_0, ps100_1, ps100_2, ps100_3, s_in, s_has, s_one, s_roomOf, s_hurtOf, s_isLost, s_standOf, s_isTray, s_isSoon, s_fallen, s_isPassage, s_isRoom, s_isPassage70, s_leads70, s_isBack70, s_isPassage, s_isRoom, s_isPassage71, s_leads71, s_isBack71, s_onec, s_bitCount]
        refine bk_loop (σ := bFJ × Value) (fun k x => bk_den TX0_both (bk_call d) 97 [.ref 64, .int (bk_i m), .int (bk_i r), .int (bk_i hu), .int (bk_i i), .int (bk_i 0), .int (bk_i k), x.2, bk_u] [] (bk_M κ (cp, cs1, x.1) Y g n))
          (fun k x => 0 ≤ k ∧ (∀ a, a ≠ 89 → x.1 a = cj1 a) ∧ ∀ t, 0 ≤ t → t < 36 → x.1 89 (36 * k + t) = bk_l (bzc (rc (nxt A (A 44)) 0 st0 k.toNat t))) i ?_ ?_ 0 (x, bk_u) q2.1 ⟨by omega, fr, fun t a b => (show x 89 (36 * 0 + t) = _ from by rw [show 36 * 0 + t = t by omega]; exact vl t a b)⟩
        · rintro k ⟨x, w⟩ hk ⟨k0, fr, vl⟩ cont
          dsimp only at fr vl ⊢
          rw [eX0_both_97]
          simp (disch := first | assumption | omega) only [if_neg (show ¬ i ≤ k by omega), bi_add, bi_sub, bi_mul, bi_neg, bi_div, bi_64, bl_add, bl_sub, bl_mul, bl_neg, bl_div, bl_32, bi_min, bi_max, bl_min, bl_max, bq_I, bq_J, bq_A, bq_Vi, bq_Vl, bq_Vr, bq_cV, bq_cI, bq_cJ, bq_cA, bq_le, bq_lt, bq_eq, bq_z, bq_o, bq_ref, bq_nz, bq_nzJ, bq_bl, bq_blz, bq_T, bq_F, if_true, if_false, Int.reduceEq, Int.reduceLT, Int.reduceLE, Int.reduceAdd, Int.reduceSub, Int.reduceMul, Int.add_sub_cancel, li_0, li_1, li_2, li_3, li_5, li_8, li_10, li_11, li_16, li_17, li_30, li_36, li_53, li_54, li_57, li_83, li_97, li_100, li_104, li_107, li_139, li_149, li_223, li_247, li_296, li_297, ll_0, ll_1, ll_2, ll_3, ll_5, ll_8, ll_10, ll_11, ll_16, ll_17, ll_30, ll_36, ll_53, ll_54, ll_57, ll_83, ll_97, ll_100, ll_104, ll_107, ll_139, ll_149, ll_223, ll_247, ll_296, ll_297, ga72, ga84, ga85, ga86, ga90, ga92, ga87, ga91, ga88, ga89, gf64_4, gf64_5, gf64_6, gf64_8, gf64_9, gf64_10, gf64_14, gf70_0, gf70_1, gf70_2, gf70_3, gf71_0, gf71_1, gf71_2, gf71_3, gs74_0, gs74_1, gs74_2, gs74_3, gs100_0, gs100_1, gs100_2, gs100_3, gr64_1, gr64_2, gr64_3, gr64_7, gr64_11, gr64_12, gr64_13, gr64_15, gr64_16, gr64_17, gr64_18, gr64_19, gr64_20, gr64_21, gr64_22, gr64_23, gr70_4, gr71_4, gu73, gu99, gu93, pa72, pa84, pa85, pa86, pa90, pa92, pa87, pa91, pa88, pa89, pf64_4, pf64_5, pf64_6, pf64_8, pf64_9, pf64_10, pf64_14, pf70_0, pf70_1, pf70_2, pf70_3, pf71_0, pf71_1, pf71_2, pf71_3, ps74_0, ps74_1, ps74_2, ps74_3, ps100_0, ps100_1, ps100_2, ps100_3, s_in, s_has, s_one, s_roomOf, s_hurtOf, s_isLost, s_standOf, s_isTray, s_isSoon, s_fallen, s_isPassage, s_isRoom, s_isPassage70, s_leads70, s_isBack70, s_isPassage, s_isRoom, s_isPassage71, s_leads71, s_isBack71, s_onec, s_bitCount]
          refine bk_loop (σ := bFJ) (fun s x => bk_den TX0_both (bk_call d) 107 [.ref 64, .int (bk_i m), .int (bk_i r), .int (bk_i hu), .int (bk_i i), .int (bk_i 0), .int (bk_i k), .int (bk_i s), bk_u] [] (bk_M κ (cp, cs1, x) Y g n))
            (fun s x => 0 ≤ s ∧ (∀ a, a ≠ 89 → x a = cj1 a) ∧ (∀ t, 0 ≤ t → t < 36 → x 89 (36 * k + t) = bk_l (bzc (rc (nxt A (A 44)) 0 st0 k.toNat t))) ∧ ∀ t, 0 ≤ t → t < s → x 89 (36 * (k + 1) + t) = bk_l 0) 36 ?_ ?_ 0 x (by omega) ⟨by omega, fr, vl, fun t _ _ => by omega⟩
          · rintro s x hs ⟨s0, fr, vl, vl2⟩ cont2
            rw [eX0_both_107]
            simp (disch := first | assumption | omega) only [if_neg (show ¬ 36 ≤ s by omega), bi_add, bi_sub, bi_mul, bi_neg, bi_div, bi_64, bl_add, bl_sub, bl_mul, bl_neg, bl_div, bl_32, bi_min, bi_max, bl_min, bl_max, bq_I, bq_J, bq_A, bq_Vi, bq_Vl, bq_Vr, bq_cV, bq_cI, bq_cJ, bq_cA, bq_le, bq_lt, bq_eq, bq_z, bq_o, bq_ref, bq_nz, bq_nzJ, bq_bl, bq_blz, bq_T, bq_F, if_true, if_false, Int.reduceEq, Int.reduceLT, Int.reduceLE, Int.reduceAdd, Int.reduceSub, Int.reduceMul, Int.add_sub_cancel, li_0, li_1, li_2, li_3, li_5, li_8, li_10, li_11, li_16, li_17, li_30, li_36, li_53, li_54, li_57, li_83, li_97, li_100, li_104, li_107, li_139, li_149, li_223, li_247, li_296, li_297, ll_0, ll_1, ll_2, ll_3, ll_5, ll_8, ll_10, ll_11, ll_16, ll_17, ll_30, ll_36, ll_53, ll_54, ll_57, ll_83, ll_97, ll_100, ll_104, ll_107, ll_139, ll_149, ll_223, ll_247, ll_296, ll_297, ga72, ga84, ga85, ga86, ga90, ga92, ga87, ga91, ga88, ga89, gf64_4, gf64_5, gf64_6, gf64_8, gf64_9, gf64_10, gf64_14, gf70_0, gf70_1, gf70_2, gf70_3, gf71_0, gf71_1, gf71_2, gf71_3, gs74_0, gs74_1, gs74_2, gs74_3, gs100_0, gs100_1, gs100_2, gs100_3, gr64_1, gr64_2, gr64_3, gr64_7, gr64_11, gr64_12, gr64_13, gr64_15, gr64_16, gr64_17, gr64_18, gr64_19, gr64_20, gr64_21, gr64_22, gr64_23, gr70_4, gr71_4, gu73, gu99, gu93, pa72, pa84, pa85, pa86, pa90, pa92, pa87, pa91, pa88, pa89, pf64_4, pf64_5, pf64_6, pf64_8, pf64_9, pf64_10, pf64_14, pf70_0, pf70_1, pf70_2, pf70_3, pf71_0, pf71_1, pf71_2, pf71_3, ps74_0, ps74_1, ps74_2, ps74_3, ps100_0, ps100_1, ps100_2, ps100_3, s_in, s_has, s_one, s_roomOf, s_hurtOf, s_isLost, s_standOf, s_isTray, s_isSoon, s_fallen, s_isPassage, s_isRoom, s_isPassage70, s_leads70, s_isBack70, s_isPassage, s_isRoom, s_isPassage71, s_leads71, s_isBack71, s_onec, s_bitCount]
            refine cont2 _ ⟨by omega, fun a ha => ?_, fun t a b => ?_, fun t a b => ?_⟩
            · funext j; rw [bUJ_ne _ _ _ _ _ _ ha, fr a ha]
            · rw [bUJ_same, if_neg (by omega)]; exact vl t a b
            · rw [bUJ_same]
              by_cases c : t = s
              · subst c; rw [if_pos rfl]
              · rw [if_neg (by omega)]; exact vl2 t a (by omega)
          · rintro x ⟨s0, fr, vl, vl2⟩
            rw [eX0_both_107]
            simp (disch := first | assumption | omega) only [if_pos (Int.le_refl 36), bi_add, bi_sub, bi_mul, bi_neg, bi_div, bi_64, bl_add, bl_sub, bl_mul, bl_neg, bl_div, bl_32, bi_min, bi_max, bl_min, bl_max, bq_I, bq_J, bq_A, bq_Vi, bq_Vl, bq_Vr, bq_cV, bq_cI, bq_cJ, bq_cA, bq_le, bq_lt, bq_eq, bq_z, bq_o, bq_ref, bq_nz, bq_nzJ, bq_bl, bq_blz, bq_T, bq_F, if_true, if_false, Int.reduceEq, Int.reduceLT, Int.reduceLE, Int.reduceAdd, Int.reduceSub, Int.reduceMul, Int.add_sub_cancel, li_0, li_1, li_2, li_3, li_5, li_8, li_10, li_11, li_16, li_17, li_30, li_36, li_53, li_54, li_57, li_83, li_97, li_100, li_104, li_107, li_139, li_149, li_223, li_247, li_296, li_297, ll_0, ll_1, ll_2, ll_3, ll_5, ll_8, ll_10, ll_11, ll_16, ll_17, ll_30, ll_36, ll_53, ll_54, ll_57, ll_83, ll_97, ll_100, ll_104, ll_107, ll_139, ll_149, ll_223, ll_247, ll_296, ll_297, ga72, ga84, ga85, ga86, ga90, ga92, ga87, ga91, ga88, ga89, gf64_4, gf64_5, gf64_6, gf64_8, gf64_9, gf64_10, gf64_14, gf70_0, gf70_1, gf70_2, gf70_3, gf71_0, gf71_1, gf71_2, gf71_3, gs74_0, gs74_1, gs74_2, gs74_3, gs100_0, gs100_1, gs100_2, gs100_3, gr64_1, gr64_2, gr64_3, gr64_7, gr64_11, gr64_12, gr64_13, gr64_15, gr64_16, gr64_17, gr64_18, gr64_19, gr64_20, gr64_21, gr64_22, gr64_23, gr70_4, gr71_4, gu73, gu99, gu93, pa72, pa84, pa85, pa86, pa90, pa92, pa87, pa91, pa88, pa89, pf64_4, pf64_5, pf64_6, pf64_8, pf64_9, pf64_10, pf64_14, pf70_0, pf70_1, pf70_2, pf70_3, pf71_0, pf71_1, pf71_2, pf71_3, ps74_0, ps74_1, ps74_2, ps74_3, ps100_0, ps100_1, ps100_2, ps100_3, s_in, s_has, s_one, s_roomOf, s_hurtOf, s_isLost, s_standOf, s_isTray, s_isSoon, s_fallen, s_isPassage, s_isRoom, s_isPassage70, s_leads70, s_isBack70, s_isPassage, s_isRoom, s_isPassage71, s_leads71, s_isBack71, s_onec, s_bitCount]
            refine bk_loop (σ := bFJ × Value) (fun s x => bk_den TX0_both (bk_call d) 139 [.ref 64, .int (bk_i m), .int (bk_i r), .int (bk_i hu), .int (bk_i i), .int (bk_i 0), .int (bk_i k), .int (bk_i s), x.2] [] (bk_M κ (cp, cs1, x.1) Y g n))
              (fun s x => 0 ≤ s ∧ (∀ a, a ≠ 89 → x.1 a = cj1 a) ∧ (∀ t, 0 ≤ t → t < 36 → x.1 89 (36 * k + t) = bk_l (bzc (rc (nxt A (A 44)) 0 st0 k.toNat t))) ∧ ∀ t, 0 ≤ t → t < 36 → x.1 89 (36 * (k + 1) + t) = bk_l (bzc (pr (nxt A (A 44)) 0 (rc (nxt A (A 44)) 0 st0 k.toNat) s 0 t))) 36 ?_ ?_ 0 (x, bk_u) (by omega) ⟨by omega, fr, vl, fun t a b => by dsimp only; rw [vl2 t a b, bzc_f pr_0]⟩
            · rintro s ⟨x, w⟩ hs ⟨s0, fr, vl, vl2⟩ cont2
              dsimp only at fr vl vl2 ⊢
              rw [eX0_both_139]
              simp (disch := first | assumption | omega) only [if_neg (show ¬ 36 ≤ s by omega), bi_add, bi_sub, bi_mul, bi_neg, bi_div, bi_64, bl_add, bl_sub, bl_mul, bl_neg, bl_div, bl_32, bi_min, bi_max, bl_min, bl_max, bq_I, bq_J, bq_A, bq_Vi, bq_Vl, bq_Vr, bq_cV, bq_cI, bq_cJ, bq_cA, bq_le, bq_lt, bq_eq, bq_z, bq_o, bq_ref, bq_nz, bq_nzJ, bq_bl, bq_blz, bq_T, bq_F, if_true, if_false, Int.reduceEq, Int.reduceLT, Int.reduceLE, Int.reduceAdd, Int.reduceSub, Int.reduceMul, Int.add_sub_cancel, li_0, li_1, li_2, li_3, li_5, li_8, li_10, li_11, li_16, li_17, li_30, li_36, li_53, li_54, li_57, li_83, li_97, li_100, li_104, li_107, li_139, li_149, li_223, li_247, li_296, li_297, ll_0, ll_1, ll_2, ll_3, ll_5, ll_8, ll_10, ll_11, ll_16, ll_17, ll_30, ll_36, ll_53, ll_54, ll_57, ll_83, ll_97, ll_100, ll_104, ll_107, ll_139, ll_149, ll_223, ll_247, ll_296, ll_297, ga72, ga84, ga85, ga86, ga90, ga92, ga87, ga91, ga88, ga89, gf64_4, gf64_5, gf64_6, gf64_8, gf64_9, gf64_10, gf64_14, gf70_0, gf70_1, gf70_2, gf70_3, gf71_0, gf71_1, gf71_2, gf71_3, gs74_0, gs74_1, gs74_2, gs74_3, gs100_0, gs100_1, gs100_2, gs100_3, gr64_1, gr64_2, gr64_3, gr64_7, gr64_11, gr64_12, gr64_13, gr64_15, gr64_16, gr64_17, gr64_18, gr64_19, gr64_20, gr64_21, gr64_22, gr64_23, gr70_4, gr71_4, gu73, gu99, gu93, pa72, pa84, pa85, pa86, pa90, pa92, pa87, pa91, pa88, pa89, pf64_4, pf64_5, pf64_6, pf64_8, pf64_9, pf64_10, pf64_14, pf70_0, pf70_1, pf70_2, pf70_3, pf71_0, pf71_1, pf71_2, pf71_3, ps74_0, ps74_1, ps74_2, ps74_3, ps100_0, ps100_1, ps100_2, ps100_3, s_in, s_has, s_one, s_roomOf, s_hurtOf, s_isLost, s_standOf, s_isTray, s_isSoon, s_fallen, s_isPassage, s_isRoom, s_isPassage70, s_leads70, s_isBack70, s_isPassage, s_isRoom, s_isPassage71, s_leads71, s_isBack71, s_onec, s_bitCount]
              refine bk_loop (σ := bFJ) (fun p x => bk_den TX0_both (bk_call d) 149 [.ref 64, .int (bk_i m), .int (bk_i r), .int (bk_i hu), .int (bk_i i), .int (bk_i 0), .int (bk_i k), .int (bk_i s), .int (bk_i p)] [] (bk_M κ (cp, cs1, x) Y g n))
                (fun p x => 0 ≤ p ∧ (∀ a, a ≠ 89 → x a = cj1 a) ∧ (∀ t, 0 ≤ t → t < 36 → x 89 (36 * k + t) = bk_l (bzc (rc (nxt A (A 44)) 0 st0 k.toNat t))) ∧ ∀ t, 0 ≤ t → t < 36 → x 89 (36 * (k + 1) + t) = bk_l (bzc (pr (nxt A (A 44)) 0 (rc (nxt A (A 44)) 0 st0 k.toNat) s p t))) (A 2) ?_ ?_ 0 x (by omega) ⟨by omega, fr, vl, vl2⟩
              · rintro p x hp ⟨p0, fr, vl, vl2⟩ cont3
                have np := hN s p s0 hs p0 (by omega)
                have z01 := bzc_01 (rc (nxt A (A 44)) 0 st0 k.toNat s)
                have b0 : ∀ t, 0 ≤ t → t < 36 → bt 0 (t / 6) ≠ 1 := fun t a b => by rw [bt_0 (by omega) (by omega)]; decide
                rw [eX0_both_149]
                simp (disch := first | assumption | omega) only [c0, c1, c2, c3, c4, c5, c6, c7, c8, ctw, cb, ce, cd, cw, cwp, if_neg (show ¬ A 2 ≤ p by omega), v1 s p s0 hs p0 hp, eX0_both_223, bi_add, bi_sub, bi_mul, bi_neg, bi_div, bi_64, bl_add, bl_sub, bl_mul, bl_neg, bl_div, bl_32, bi_min, bi_max, bl_min, bl_max, bq_I, bq_J, bq_A, bq_Vi, bq_Vl, bq_Vr, bq_cV, bq_cI, bq_cJ, bq_cA, bq_le, bq_lt, bq_eq, bq_z, bq_o, bq_ref, bq_nz, bq_nzJ, bq_bl, bq_blz, bq_T, bq_F, if_true, if_false, Int.reduceEq, Int.reduceLT, Int.reduceLE, Int.reduceAdd, Int.reduceSub, Int.reduceMul, Int.add_sub_cancel, li_0, li_1, li_2, li_3, li_5, li_8, li_10, li_11, li_16, li_17, li_30, li_36, li_53, li_54, li_57, li_83, li_97, li_100, li_104, li_107, li_139, li_149, li_223, li_247, li_296, li_297, ll_0, ll_1, ll_2, ll_3, ll_5, ll_8, ll_10, ll_11, ll_16, ll_17, ll_30, ll_36, ll_53, ll_54, ll_57, ll_83, ll_97, ll_100, ll_104, ll_107, ll_139, ll_149, ll_223, ll_247, ll_296, ll_297, ga72, ga84, ga85, ga86, ga90, ga92, ga87, ga91, ga88, ga89, gf64_4, gf64_5, gf64_6, gf64_8, gf64_9, gf64_10, gf64_14, gf70_0, gf70_1, gf70_2, gf70_3, gf71_0, gf71_1, gf71_2, gf71_3, gs74_0, gs74_1, gs74_2, gs74_3, gs100_0, gs100_1, gs100_2, gs100_3, gr64_1, gr64_2, gr64_3, gr64_7, gr64_11, gr64_12, gr64_13, gr64_15, gr64_16, gr64_17, gr64_18, gr64_19, gr64_20, gr64_21, gr64_22, gr64_23, gr70_4, gr71_4, gu73, gu99, gu93, pa72, pa84, pa85, pa86, pa90, pa92, pa87, pa91, pa88, pa89, pf64_4, pf64_5, pf64_6, pf64_8, pf64_9, pf64_10, pf64_14, pf70_0, pf70_1, pf70_2, pf70_3, pf71_0, pf71_1, pf71_2, pf71_3, ps74_0, ps74_1, ps74_2, ps74_3, ps100_0, ps100_1, ps100_2, ps100_3, s_in, s_has, s_one, s_roomOf, s_hurtOf, s_isLost, s_standOf, s_isTray, s_isSoon, s_fallen, s_isPassage, s_isRoom, s_isPassage70, s_leads70, s_isBack70, s_isPassage, s_isRoom, s_isPassage71, s_leads71, s_isBack71, s_onec, s_bitCount]
                by_cases c : nxt A (A 44) s p = -1
                · rw [if_pos c]
                  exact cont3 _ ⟨by omega, fr, vl, fun t a b => by rw [vl2 t a b, bzc_iff (pr_skip (fun k => by have := k.2.1; omega))]⟩
                · rw [if_neg c]
                  simp (disch := first | assumption | omega) only [vl s s0 hs, lcle, eX0_both_223, bi_add, bi_sub, bi_mul, bi_neg, bi_div, bi_64, bl_add, bl_sub, bl_mul, bl_neg, bl_div, bl_32, bi_min, bi_max, bl_min, bl_max, bq_I, bq_J, bq_A, bq_Vi, bq_Vl, bq_Vr, bq_cV, bq_cI, bq_cJ, bq_cA, bq_le, bq_lt, bq_eq, bq_z, bq_o, bq_ref, bq_nz, bq_nzJ, bq_bl, bq_blz, bq_T, bq_F, if_true, if_false, Int.reduceEq, Int.reduceLT, Int.reduceLE, Int.reduceAdd, Int.reduceSub, Int.reduceMul, Int.add_sub_cancel, li_0, li_1, li_2, li_3, li_5, li_8, li_10, li_11, li_16, li_17, li_30, li_36, li_53, li_54, li_57, li_83, li_97, li_100, li_104, li_107, li_139, li_149, li_223, li_247, li_296, li_297, ll_0, ll_1, ll_2, ll_3, ll_5, ll_8, ll_10, ll_11, ll_16, ll_17, ll_30, ll_36, ll_53, ll_54, ll_57, ll_83, ll_97, ll_100, ll_104, ll_107, ll_139, ll_149, ll_223, ll_247, ll_296, ll_297, ga72, ga84, ga85, ga86, ga90, ga92, ga87, ga91, ga88, ga89, gf64_4, gf64_5, gf64_6, gf64_8, gf64_9, gf64_10, gf64_14, gf70_0, gf70_1, gf70_2, gf70_3, gf71_0, gf71_1, gf71_2, gf71_3, gs74_0, gs74_1, gs74_2, gs74_3, gs100_0, gs100_1, gs100_2, gs100_3, gr64_1, gr64_2, gr64_3, gr64_7, gr64_11, gr64_12, gr64_13, gr64_15, gr64_16, gr64_17, gr64_18, gr64_19, gr64_20, gr64_21, gr64_22, gr64_23, gr70_4, gr71_4, gu73, gu99, gu93, pa72, pa84, pa85, pa86, pa90, pa92, pa87, pa91, pa88, pa89, pf64_4, pf64_5, pf64_6, pf64_8, pf64_9, pf64_10, pf64_14, pf70_0, pf70_1, pf70_2, pf70_3, pf71_0, pf71_1, pf71_2, pf71_3, ps74_0, ps74_1, ps74_2, ps74_3, ps100_0, ps100_1, ps100_2, ps100_3, s_in, s_has, s_one, s_roomOf, s_hurtOf, s_isLost, s_standOf, s_isTray, s_isSoon, s_fallen, s_isPassage, s_isRoom, s_isPassage70, s_leads70, s_isBack70, s_isPassage, s_isRoom, s_isPassage71, s_leads71, s_isBack71, s_onec, s_bitCount]
                  by_cases c2 : rc (nxt A (A 44)) 0 st0 k.toNat s
                  · rw [bzc_t c2, if_neg (by decide)]
                    refine cont3 _ ⟨by omega, fun a ha => ?_, fun t a b => ?_, fun t a b => ?_⟩
                    · funext j; rw [bUJ_ne _ _ _ _ _ _ ha, fr a ha]
                    · rw [bUJ_same, if_neg (by omega)]; exact vl t a b
                    · rw [bUJ_same, bzc_iff (pr_hit s0 hs p0 (by omega) c2 rfl (b0 _ (by omega) (by omega)))]
                      by_cases c3 : t = nxt A (A 44) s p
                      · rw [if_pos (by omega), bzc_t (Or.inl c3)]
                      · rw [if_neg (by omega), vl2 t a b]
                        congr 1
                        exact bzc_iff ⟨Or.inr, fun k => k.resolve_left c3⟩
                  · rw [bzc_f c2, if_pos (by decide)]
                    exact cont3 _ ⟨by omega, fr, vl, fun t a b => by rw [vl2 t a b, bzc_iff (pr_skip (fun k => c2 k.1))]⟩
              · rintro x ⟨p0, fr, vl, vl2⟩
                rw [eX0_both_149]
                simp (disch := first | assumption | omega) only [c0, c1, c2, c3, c4, c5, c6, c7, c8, ctw, cb, ce, cd, cw, cwp, if_pos (Int.le_refl (A 2)), bi_add, bi_sub, bi_mul, bi_neg, bi_div, bi_64, bl_add, bl_sub, bl_mul, bl_neg, bl_div, bl_32, bi_min, bi_max, bl_min, bl_max, bq_I, bq_J, bq_A, bq_Vi, bq_Vl, bq_Vr, bq_cV, bq_cI, bq_cJ, bq_cA, bq_le, bq_lt, bq_eq, bq_z, bq_o, bq_ref, bq_nz, bq_nzJ, bq_bl, bq_blz, bq_T, bq_F, if_true, if_false, Int.reduceEq, Int.reduceLT, Int.reduceLE, Int.reduceAdd, Int.reduceSub, Int.reduceMul, Int.add_sub_cancel, li_0, li_1, li_2, li_3, li_5, li_8, li_10, li_11, li_16, li_17, li_30, li_36, li_53, li_54, li_57, li_83, li_97, li_100, li_104, li_107, li_139, li_149, li_223, li_247, li_296, li_297, ll_0, ll_1, ll_2, ll_3, ll_5, ll_8, ll_10, ll_11, ll_16, ll_17, ll_30, ll_36, ll_53, ll_54, ll_57, ll_83, ll_97, ll_100, ll_104, ll_107, ll_139, ll_149, ll_223, ll_247, ll_296, ll_297, ga72, ga84, ga85, ga86, ga90, ga92, ga87, ga91, ga88, ga89, gf64_4, gf64_5, gf64_6, gf64_8, gf64_9, gf64_10, gf64_14, gf70_0, gf70_1, gf70_2, gf70_3, gf71_0, gf71_1, gf71_2, gf71_3, gs74_0, gs74_1, gs74_2, gs74_3, gs100_0, gs100_1, gs100_2, gs100_3, gr64_1, gr64_2, gr64_3, gr64_7, gr64_11, gr64_12, gr64_13, gr64_15, gr64_16, gr64_17, gr64_18, gr64_19, gr64_20, gr64_21, gr64_22, gr64_23, gr70_4, gr71_4, gu73, gu99, gu93, pa72, pa84, pa85, pa86, pa90, pa92, pa87, pa91, pa88, pa89, pf64_4, pf64_5, pf64_6, pf64_8, pf64_9, pf64_10, pf64_14, pf70_0, pf70_1, pf70_2, pf70_3, pf71_0, pf71_1, pf71_2, pf71_3, ps74_0, ps74_1, ps74_2, ps74_3, ps100_0, ps100_1, ps100_2, ps100_3, s_in, s_has, s_one, s_roomOf, s_hurtOf, s_isLost, s_standOf, s_isTray, s_isSoon, s_fallen, s_isPassage, s_isRoom, s_isPassage70, s_leads70, s_isBack70, s_isPassage, s_isRoom, s_isPassage71, s_leads71, s_isBack71, s_onec, s_bitCount]
                refine cont2 (x, .int (bk_i (A 2))) ⟨by omega, fr, vl, fun t a b => ?_⟩
                dsimp only
                rw [vl2 t a b, bzc_iff (pr_row a (P := A 2) fun q qa qb => Or.inr ?_)]
                by_cases c : nxt A (A 44) s q = -1
                · exact c
                · have := nxt_dom c; omega
            · rintro ⟨x, w⟩ ⟨s0, fr, vl, vl2⟩
              dsimp only at fr vl vl2 ⊢
              rw [eX0_both_139]
              simp (disch := first | assumption | omega) only [if_pos (Int.le_refl 36), bi_add, bi_sub, bi_mul, bi_neg, bi_div, bi_64, bl_add, bl_sub, bl_mul, bl_neg, bl_div, bl_32, bi_min, bi_max, bl_min, bl_max, bq_I, bq_J, bq_A, bq_Vi, bq_Vl, bq_Vr, bq_cV, bq_cI, bq_cJ, bq_cA, bq_le, bq_lt, bq_eq, bq_z, bq_o, bq_ref, bq_nz, bq_nzJ, bq_bl, bq_blz, bq_T, bq_F, if_true, if_false, Int.reduceEq, Int.reduceLT, Int.reduceLE, Int.reduceAdd, Int.reduceSub, Int.reduceMul, Int.add_sub_cancel, li_0, li_1, li_2, li_3, li_5, li_8, li_10, li_11, li_16, li_17, li_30, li_36, li_53, li_54, li_57, li_83, li_97, li_100, li_104, li_107, li_139, li_149, li_223, li_247, li_296, li_297, ll_0, ll_1, ll_2, ll_3, ll_5, ll_8, ll_10, ll_11, ll_16, ll_17, ll_30, ll_36, ll_53, ll_54, ll_57, ll_83, ll_97, ll_100, ll_104, ll_107, ll_139, ll_149, ll_223, ll_247, ll_296, ll_297, ga72, ga84, ga85, ga86, ga90, ga92, ga87, ga91, ga88, ga89, gf64_4, gf64_5, gf64_6, gf64_8, gf64_9, gf64_10, gf64_14, gf70_0, gf70_1, gf70_2, gf70_3, gf71_0, gf71_1, gf71_2, gf71_3, gs74_0, gs74_1, gs74_2, gs74_3, gs100_0, gs100_1, gs100_2, gs100_3, gr64_1, gr64_2, gr64_3, gr64_7, gr64_11, gr64_12, gr64_13, gr64_15, gr64_16, gr64_17, gr64_18, gr64_19, gr64_20, gr64_21, gr64_22, gr64_23, gr70_4, gr71_4, gu73, gu99, gu93, pa72, pa84, pa85, pa86, pa90, pa92, pa87, pa91, pa88, pa89, pf64_4, pf64_5, pf64_6, pf64_8, pf64_9, pf64_10, pf64_14, pf70_0, pf70_1, pf70_2, pf70_3, pf71_0, pf71_1, pf71_2, pf71_3, ps74_0, ps74_1, ps74_2, ps74_3, ps100_0, ps100_1, ps100_2, ps100_3, s_in, s_has, s_one, s_roomOf, s_hurtOf, s_isLost, s_standOf, s_isTray, s_isSoon, s_fallen, s_isPassage, s_isRoom, s_isPassage70, s_leads70, s_isBack70, s_isPassage, s_isRoom, s_isPassage71, s_leads71, s_isBack71, s_onec, s_bitCount]
              refine cont (x, .int (bk_i 36)) ⟨by omega, fr, fun t a b => ?_⟩
              dsimp only
              have e : (k + 1).toNat = k.toNat + 1 := by omega
              rw [vl2 t a b, e, bzc_iff (pr_end (k := k.toNat) (st := st0) (fun u => Iff.rfl) a fun u q ua qa qb => ?_)]
              by_cases c : nxt A (A 44) u q = -1
              · exact c
              · have := nxt_dom c; omega
        · rintro ⟨x, w⟩ ⟨k0, fr, vl⟩
          dsimp only at fr vl ⊢
          have e88 := fr 88 (by decide)
          rw [eX0_both_97]
          simp (disch := first | assumption | omega) only [if_pos (Int.le_refl i), bi_add, bi_sub, bi_mul, bi_neg, bi_div, bi_64, bl_add, bl_sub, bl_mul, bl_neg, bl_div, bl_32, bi_min, bi_max, bl_min, bl_max, bq_I, bq_J, bq_A, bq_Vi, bq_Vl, bq_Vr, bq_cV, bq_cI, bq_cJ, bq_cA, bq_le, bq_lt, bq_eq, bq_z, bq_o, bq_ref, bq_nz, bq_nzJ, bq_bl, bq_blz, bq_T, bq_F, if_true, if_false, Int.reduceEq, Int.reduceLT, Int.reduceLE, Int.reduceAdd, Int.reduceSub, Int.reduceMul, Int.add_sub_cancel, li_0, li_1, li_2, li_3, li_5, li_8, li_10, li_11, li_16, li_17, li_30, li_36, li_53, li_54, li_57, li_83, li_97, li_100, li_104, li_107, li_139, li_149, li_223, li_247, li_296, li_297, ll_0, ll_1, ll_2, ll_3, ll_5, ll_8, ll_10, ll_11, ll_16, ll_17, ll_30, ll_36, ll_53, ll_54, ll_57, ll_83, ll_97, ll_100, ll_104, ll_107, ll_139, ll_149, ll_223, ll_247, ll_296, ll_297, ga72, ga84, ga85, ga86, ga90, ga92, ga87, ga91, ga88, ga89, gf64_4, gf64_5, gf64_6, gf64_8, gf64_9, gf64_10, gf64_14, gf70_0, gf70_1, gf70_2, gf70_3, gf71_0, gf71_1, gf71_2, gf71_3, gs74_0, gs74_1, gs74_2, gs74_3, gs100_0, gs100_1, gs100_2, gs100_3, gr64_1, gr64_2, gr64_3, gr64_7, gr64_11, gr64_12, gr64_13, gr64_15, gr64_16, gr64_17, gr64_18, gr64_19, gr64_20, gr64_21, gr64_22, gr64_23, gr70_4, gr71_4, gu73, gu99, gu93, pa72, pa84, pa85, pa86, pa90, pa92, pa87, pa91, pa88, pa89, pf64_4, pf64_5, pf64_6, pf64_8, pf64_9, pf64_10, pf64_14, pf70_0, pf70_1, pf70_2, pf70_3, pf71_0, pf71_1, pf71_2, pf71_3, ps74_0, ps74_1, ps74_2, ps74_3, ps100_0, ps100_1, ps100_2, ps100_3, s_in, s_has, s_one, s_roomOf, s_hurtOf, s_isLost, s_standOf, s_isTray, s_isSoon, s_fallen, s_isPassage, s_isRoom, s_isPassage70, s_leads70, s_isBack70, s_isPassage, s_isRoom, s_isPassage71, s_leads71, s_isBack71, s_onec, s_bitCount]
          refine bk_loop (σ := Unit) (fun s _ => bk_den TX0_both (bk_call d) 247 [.ref 64, .int (bk_i m), .int (bk_i r), .int (bk_i hu), .int (bk_i i), .int (bk_i 0), .int (bk_i (sumZ (fun s => bzc (rc (nxt A (A 44)) 0 st0 i.toNat s ∧ 0 < wy (nxt A (A 44)) to (m - i).toNat s)) s.toNat)), .int (bk_i s), bk_u] [] (bk_M κ (cp, cs1, x) Y g n)) (fun s _ => 0 ≤ s) 36 ?_ ?_ 0 () (by omega) (by omega)
          · rintro s - hs s0 cont2
            have c := cont2 () (by omega)
            rw [sumZ_succ _ s0] at c
            have wb := wy_b (to := to) hN (k := (m - i).toNat) (by omega) s0 hs
            have vr := v2 i s q2.1 q2.2 s0 hs
            have z01 := bzc_01 (rc (nxt A (A 44)) 0 st0 i.toNat s)
            rw [eX0_both_247]
            simp (disch := first | assumption | omega) only [if_neg (show ¬ 36 ≤ s by omega), vl s s0 hs, lcle, e88, vr, eX0_both_296, eX0_both_297, o0, o1, bi_add, bi_sub, bi_mul, bi_neg, bi_div, bi_64, bl_add, bl_sub, bl_mul, bl_neg, bl_div, bl_32, bi_min, bi_max, bl_min, bl_max, bq_I, bq_J, bq_A, bq_Vi, bq_Vl, bq_Vr, bq_cV, bq_cI, bq_cJ, bq_cA, bq_le, bq_lt, bq_eq, bq_z, bq_o, bq_ref, bq_nz, bq_nzJ, bq_bl, bq_blz, bq_T, bq_F, if_true, if_false, Int.reduceEq, Int.reduceLT, Int.reduceLE, Int.reduceAdd, Int.reduceSub, Int.reduceMul, Int.add_sub_cancel, li_0, li_1, li_2, li_3, li_5, li_8, li_10, li_11, li_16, li_17, li_30, li_36, li_53, li_54, li_57, li_83, li_97, li_100, li_104, li_107, li_139, li_149, li_223, li_247, li_296, li_297, ll_0, ll_1, ll_2, ll_3, ll_5, ll_8, ll_10, ll_11, ll_16, ll_17, ll_30, ll_36, ll_53, ll_54, ll_57, ll_83, ll_97, ll_100, ll_104, ll_107, ll_139, ll_149, ll_223, ll_247, ll_296, ll_297, ga72, ga84, ga85, ga86, ga90, ga92, ga87, ga91, ga88, ga89, gf64_4, gf64_5, gf64_6, gf64_8, gf64_9, gf64_10, gf64_14, gf70_0, gf70_1, gf70_2, gf70_3, gf71_0, gf71_1, gf71_2, gf71_3, gs74_0, gs74_1, gs74_2, gs74_3, gs100_0, gs100_1, gs100_2, gs100_3, gr64_1, gr64_2, gr64_3, gr64_7, gr64_11, gr64_12, gr64_13, gr64_15, gr64_16, gr64_17, gr64_18, gr64_19, gr64_20, gr64_21, gr64_22, gr64_23, gr70_4, gr71_4, gu73, gu99, gu93, pa72, pa84, pa85, pa86, pa90, pa92, pa87, pa91, pa88, pa89, pf64_4, pf64_5, pf64_6, pf64_8, pf64_9, pf64_10, pf64_14, pf70_0, pf70_1, pf70_2, pf70_3, pf71_0, pf71_1, pf71_2, pf71_3, ps74_0, ps74_1, ps74_2, ps74_3, ps100_0, ps100_1, ps100_2, ps100_3, s_in, s_has, s_one, s_roomOf, s_hurtOf, s_isLost, s_standOf, s_isTray, s_isSoon, s_fallen, s_isPassage, s_isRoom, s_isPassage70, s_leads70, s_isBack70, s_isPassage, s_isRoom, s_isPassage71, s_leads71, s_isBack71, s_onec, s_bitCount]
            by_cases c2 : rc (nxt A (A 44)) 0 st0 i.toNat s
            · rw [bzc_t c2, if_neg (by decide)]
              by_cases c3 : wy (nxt A (A 44)) to (m - i).toNat s ≤ 0
              · rw [if_pos c3]
                rw [bzc_f (fun k => by have := k.2; omega)] at c
                exact c
              · rw [if_neg c3]
                rw [bzc_t ⟨c2, by omega⟩] at c
                exact c
            · rw [bzc_f c2, if_pos (by decide)]
              rw [bzc_f (fun k => c2 k.1)] at c
              exact c
          · rintro - s0
            rw [eX0_both_247]
            simp (disch := first | assumption | omega) only [if_pos (Int.le_refl 36), bi_add, bi_sub, bi_mul, bi_neg, bi_div, bi_64, bl_add, bl_sub, bl_mul, bl_neg, bl_div, bl_32, bi_min, bi_max, bl_min, bl_max, bq_I, bq_J, bq_A, bq_Vi, bq_Vl, bq_Vr, bq_cV, bq_cI, bq_cJ, bq_cA, bq_le, bq_lt, bq_eq, bq_z, bq_o, bq_ref, bq_nz, bq_nzJ, bq_bl, bq_blz, bq_T, bq_F, if_true, if_false, Int.reduceEq, Int.reduceLT, Int.reduceLE, Int.reduceAdd, Int.reduceSub, Int.reduceMul, Int.add_sub_cancel, li_0, li_1, li_2, li_3, li_5, li_8, li_10, li_11, li_16, li_17, li_30, li_36, li_53, li_54, li_57, li_83, li_97, li_100, li_104, li_107, li_139, li_149, li_223, li_247, li_296, li_297, ll_0, ll_1, ll_2, ll_3, ll_5, ll_8, ll_10, ll_11, ll_16, ll_17, ll_30, ll_36, ll_53, ll_54, ll_57, ll_83, ll_97, ll_100, ll_104, ll_107, ll_139, ll_149, ll_223, ll_247, ll_296, ll_297, ga72, ga84, ga85, ga86, ga90, ga92, ga87, ga91, ga88, ga89, gf64_4, gf64_5, gf64_6, gf64_8, gf64_9, gf64_10, gf64_14, gf70_0, gf70_1, gf70_2, gf70_3, gf71_0, gf71_1, gf71_2, gf71_3, gs74_0, gs74_1, gs74_2, gs74_3, gs100_0, gs100_1, gs100_2, gs100_3, gr64_1, gr64_2, gr64_3, gr64_7, gr64_11, gr64_12, gr64_13, gr64_15, gr64_16, gr64_17, gr64_18, gr64_19, gr64_20, gr64_21, gr64_22, gr64_23, gr70_4, gr71_4, gu73, gu99, gu93, pa72, pa84, pa85, pa86, pa90, pa92, pa87, pa91, pa88, pa89, pf64_4, pf64_5, pf64_6, pf64_8, pf64_9, pf64_10, pf64_14, pf70_0, pf70_1, pf70_2, pf70_3, pf71_0, pf71_1, pf71_2, pf71_3, ps74_0, ps74_1, ps74_2, ps74_3, ps100_0, ps100_1, ps100_2, ps100_3, s_in, s_has, s_one, s_roomOf, s_hurtOf, s_isLost, s_standOf, s_isTray, s_isSoon, s_fallen, s_isPassage, s_isRoom, s_isPassage70, s_leads70, s_isBack70, s_isPassage, s_isRoom, s_isPassage71, s_leads71, s_isBack71, s_onec, s_bitCount]
            refine ⟨_, _, rfl, cs1, x, _, rfl, rfl, Or.inr (Or.inr ⟨q, q2, ?_⟩)⟩
            rw [hto, ← n0]
            exact sumZ_cut (R := 6 * A 1) (by omega) 36 (by omega) (fun s a b => bzc_f (fun k => by
              have := rc_dom hw st.1 st.2.1 _ s (by omega) k.1
              omega))
    · rw [if_neg q2, eX0_both_30]
      simp (disch := first | assumption | omega) only [bi_add, bi_sub, bi_mul, bi_neg, bi_div, bi_64, bl_add, bl_sub, bl_mul, bl_neg, bl_div, bl_32, bi_min, bi_max, bl_min, bl_max, bq_I, bq_J, bq_A, bq_Vi, bq_Vl, bq_Vr, bq_cV, bq_cI, bq_cJ, bq_cA, bq_le, bq_lt, bq_eq, bq_z, bq_o, bq_ref, bq_nz, bq_nzJ, bq_bl, bq_blz, bq_T, bq_F, if_true, if_false, Int.reduceEq, Int.reduceLT, Int.reduceLE, Int.reduceAdd, Int.reduceSub, Int.reduceMul, Int.add_sub_cancel, li_0, li_1, li_2, li_3, li_5, li_8, li_10, li_11, li_16, li_17, li_30, li_36, li_53, li_54, li_57, li_83, li_97, li_100, li_104, li_107, li_139, li_149, li_223, li_247, li_296, li_297, ll_0, ll_1, ll_2, ll_3, ll_5, ll_8, ll_10, ll_11, ll_16, ll_17, ll_30, ll_36, ll_53, ll_54, ll_57, ll_83, ll_97, ll_100, ll_104, ll_107, ll_139, ll_149, ll_223, ll_247, ll_296, ll_297, ga72, ga84, ga85, ga86, ga90, ga92, ga87, ga91, ga88, ga89, gf64_4, gf64_5, gf64_6, gf64_8, gf64_9, gf64_10, gf64_14, gf70_0, gf70_1, gf70_2, gf70_3, gf71_0, gf71_1, gf71_2, gf71_3, gs74_0, gs74_1, gs74_2, gs74_3, gs100_0, gs100_1, gs100_2, gs100_3, gr64_1, gr64_2, gr64_3, gr64_7, gr64_11, gr64_12, gr64_13, gr64_15, gr64_16, gr64_17, gr64_18, gr64_19, gr64_20, gr64_21, gr64_22, gr64_23, gr70_4, gr71_4, gu73, gu99, gu93, pa72, pa84, pa85, pa86, pa90, pa92, pa87, pa91, pa88, pa89, pf64_4, pf64_5, pf64_6, pf64_8, pf64_9, pf64_10, pf64_14, pf70_0, pf70_1, pf70_2, pf70_3, pf71_0, pf71_1, pf71_2, pf71_3, ps74_0, ps74_1, ps74_2, ps74_3, ps100_0, ps100_1, ps100_2, ps100_3, s_in, s_has, s_one, s_roomOf, s_hurtOf, s_isLost, s_standOf, s_isTray, s_isSoon, s_fallen, s_isPassage, s_isRoom, s_isPassage70, s_leads70, s_isBack70, s_isPassage, s_isRoom, s_isPassage71, s_leads71, s_isBack71, s_onec, s_bitCount]
      exact ⟨_, _, rfl, cs, cj, _, rfl, rfl, Or.inr (Or.inl ⟨q, q2, rfl⟩)⟩
  · rw [if_neg q, eX0_both_30]
    simp (disch := first | assumption | omega) only [if_neg q, bi_add, bi_sub, bi_mul, bi_neg, bi_div, bi_64, bl_add, bl_sub, bl_mul, bl_neg, bl_div, bl_32, bi_min, bi_max, bl_min, bl_max, bq_I, bq_J, bq_A, bq_Vi, bq_Vl, bq_Vr, bq_cV, bq_cI, bq_cJ, bq_cA, bq_le, bq_lt, bq_eq, bq_z, bq_o, bq_ref, bq_nz, bq_nzJ, bq_bl, bq_blz, bq_T, bq_F, if_true, if_false, Int.reduceEq, Int.reduceLT, Int.reduceLE, Int.reduceAdd, Int.reduceSub, Int.reduceMul, Int.add_sub_cancel, li_0, li_1, li_2, li_3, li_5, li_8, li_10, li_11, li_16, li_17, li_30, li_36, li_53, li_54, li_57, li_83, li_97, li_100, li_104, li_107, li_139, li_149, li_223, li_247, li_296, li_297, ll_0, ll_1, ll_2, ll_3, ll_5, ll_8, ll_10, ll_11, ll_16, ll_17, ll_30, ll_36, ll_53, ll_54, ll_57, ll_83, ll_97, ll_100, ll_104, ll_107, ll_139, ll_149, ll_223, ll_247, ll_296, ll_297, ga72, ga84, ga85, ga86, ga90, ga92, ga87, ga91, ga88, ga89, gf64_4, gf64_5, gf64_6, gf64_8, gf64_9, gf64_10, gf64_14, gf70_0, gf70_1, gf70_2, gf70_3, gf71_0, gf71_1, gf71_2, gf71_3, gs74_0, gs74_1, gs74_2, gs74_3, gs100_0, gs100_1, gs100_2, gs100_3, gr64_1, gr64_2, gr64_3, gr64_7, gr64_11, gr64_12, gr64_13, gr64_15, gr64_16, gr64_17, gr64_18, gr64_19, gr64_20, gr64_21, gr64_22, gr64_23, gr70_4, gr71_4, gu73, gu99, gu93, pa72, pa84, pa85, pa86, pa90, pa92, pa87, pa91, pa88, pa89, pf64_4, pf64_5, pf64_6, pf64_8, pf64_9, pf64_10, pf64_14, pf70_0, pf70_1, pf70_2, pf70_3, pf71_0, pf71_1, pf71_2, pf71_3, ps74_0, ps74_1, ps74_2, ps74_3, ps100_0, ps100_1, ps100_2, ps100_3, s_in, s_has, s_one, s_roomOf, s_hurtOf, s_isLost, s_standOf, s_isTray, s_isSoon, s_fallen, s_isPassage, s_isRoom, s_isPassage70, s_leads70, s_isBack70, s_isPassage, s_isRoom, s_isPassage71, s_leads71, s_isBack71, s_onec, s_bitCount]
    exact ⟨_, _, rfl, cs, cj, _, rfl, rfl, Or.inl ⟨q, rfl⟩⟩
end BO
