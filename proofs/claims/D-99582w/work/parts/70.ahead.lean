/-! SPECS: the component: ahead, ring -/
set_option maxRecDepth 100000
section AH
variable {κ : Nat → Nat} {cp cs : bF} {cj : bFJ} {Y : bY} {X : bX} {g : bG} {n : Nat × Nat} {ca : Nat} {A : Int → Int} {s p v r hu i to fm : Int} {D : Nat} {N : Int → Int → Int}
def rAhead (A : Int → Int) (r hu z : Int) : Prop := (fS A r hu 5 ≠ 0 ∧ z = fS A r hu 5) ∨ (fS A r hu 5 = 0 ∧ rUn (Eb (nxt A (A 44))) (6 * A 1) (6 * r + hu) z)
theorem c_ahead (h : bCt κ g ca A cp) (h3 : -2147483648 ≤ r) (h4 : r < 2147483648) (h5 : -2147483648 ≤ hu) (h6 : hu < 2147483648) (hD : 912 ≤ D) :
    bk_wp (bk_call D 47 [.ref 64, .int (bk_i r), .int (bk_i hu)] (bk_M κ (cp, cs, cj) Y g n)) (bCq κ cp Y g n (rAhead A r hu)) := by
  obtain ⟨d, rfl⟩ := dep hD
  have st := bCt_st h
  have fr := fS_rng A r hu 5
  obtain ⟨cs1, f1, v1, e1⟩ := s_laysNow (cs := cs) (cj := cj) (Y := Y) (n := n) (D := d) h (by omega)
  obtain ⟨hF, hc, hw, hs, n0, n1, n2, n3⟩ := h
  have ef := s_standFault (κ := κ) (X := (cp, cs, cj)) (Y := Y) (n := n) (D := d) (m := 5) hF hc hw h3 h4 h5 h6 (by omega) (by omega) (by omega)
  have hc' := hc
  have hN := nxt_N hw (A 44) (R := 36) (by omega)
  obtain ⟨c0, c1, c2, c3, c4, c5, c6, c7, c8, ⟨tw, ctw, htw⟩, cb, ce, cd, cw, cwp, hca, -, -⟩ := hc
  rw [kX0_ahead, eX0_ahead_0]
  simp (disch := first | assumption | omega) only [c0, c1, c2, c3, c4, c5, c6, c7, c8, ctw, cb, ce, cd, cw, cwp, ef, e1, bi_add, bi_sub, bi_mul, bi_neg, bi_div, bi_64, bl_add, bl_sub, bl_mul, bl_neg, bl_div, bl_32, bi_min, bi_max, bl_min, bl_max, bq_I, bq_J, bq_A, bq_Vi, bq_Vl, bq_Vr, bq_cV, bq_cI, bq_cJ, bq_cA, bq_le, bq_lt, bq_eq, bq_z, bq_o, bq_ref, bq_nz, bq_nzJ, bq_bl, bq_blz, bq_T, bq_F, if_true, if_false, Int.reduceEq, Int.reduceLT, Int.reduceLE, Int.reduceAdd, Int.reduceSub, Int.reduceMul, Int.add_sub_cancel, li_0, li_1, li_5, li_10, li_12, li_13, li_21, li_34, li_36, li_37, li_44, li_47, li_50, li_60, li_71, li_100, li_104, li_137, li_138, li_536870912, ll_0, ll_1, ll_5, ll_10, ll_12, ll_13, ll_21, ll_34, ll_36, ll_37, ll_44, ll_47, ll_50, ll_60, ll_71, ll_100, ll_104, ll_137, ll_138, ga72, ga84, ga85, ga86, ga90, ga92, ga87, ga91, ga88, ga89, gf64_4, gf64_5, gf64_6, gf64_8, gf64_9, gf64_10, gf64_14, gf70_0, gf70_1, gf70_2, gf70_3, gf71_0, gf71_1, gf71_2, gf71_3, gs74_0, gs74_1, gs74_2, gs74_3, gs100_0, gs100_1, gs100_2, gs100_3, gr64_1, gr64_2, gr64_3, gr64_7, gr64_11, gr64_12, gr64_13, gr64_15, gr64_16, gr64_17, gr64_18, gr64_19, gr64_20, gr64_21, gr64_22, gr64_23, gr70_4, gr71_4, gu73, gu99, gu93, pa72, pa84, pa85, pa86, pa90, pa92, pa87, pa91, pa88, pa89, pf64_4, pf64_5, pf64_6, pf64_8, pf64_9, pf64_10, pf64_14, pf70_0, pf70_1, pf70_2, pf70_3, pf71_0, pf71_1, pf71_2, pf71_3, ps74_0, ps74_1, ps74_2, ps74_3, ps100_0, ps100_1, ps100_2, ps100_3, s_in, s_has, s_one, s_roomOf, s_hurtOf, s_isLost, s_standOf, s_isTray, s_isSoon, s_fallen, s_isPassage, s_isRoom, s_isPassage70, s_leads70, s_isBack70, s_isPassage, s_isRoom, s_isPassage71, s_leads71, s_isBack71, s_onec]
  by_cases q : fS A r hu 5 = 0
  · have q' := fS_0 q
    rw [if_pos q, q]
    refine bk_loop (σ := bF) (fun s x => bk_den TX0_ahead (bk_call d) 21 [.ref 64, .int (bk_i r), .int (bk_i hu), .int (bk_i 0), .int (bk_i s), bk_u, bk_u] [] (bk_M κ (cp, x, cj) Y g n))
      (fun s x => 0 ≤ s ∧ (∀ a, a ≠ 85 → x a = cs1 a) ∧ ∀ t, 0 ≤ t → t < s → x 85 t = if t = 6 * r + hu then 0 else 536870912) 36 ?_ ?_ 0 cs1 (by omega) ⟨by omega, fun _ _ => rfl, fun t _ _ => by omega⟩
    · rintro s cs2 hs ⟨s0, fr2, vl⟩ cont
      have fin : ∀ val : Int, (val = if s = 6 * r + hu then 0 else 536870912) → bk_wp (bk_den TX0_ahead (bk_call d) 21 [.ref 64, .int (bk_i r), .int (bk_i hu), .int (bk_i 0), .int (bk_i (s + 1)), bk_u, bk_u] [] (bk_M κ (cp, bU cs2 85 s val, cj) Y g n)) (bCq κ cp Y g n (rAhead A r hu)) := by
        intro val hv
        refine cont (bU cs2 85 s val) ⟨by omega, fun a ha => ?_, fun t t0 t1 => ?_⟩
        · funext j; rw [bU_ne _ _ _ _ _ _ ha, fr2 a ha]
        · rw [bU_same]
          by_cases c : t = s
          · subst c; rw [if_pos rfl]; exact hv
          · rw [if_neg c]; exact vl t t0 (by omega)
      rw [eX0_ahead_21]
      simp (disch := first | assumption | omega) only [if_neg (show ¬ 36 ≤ s by omega), eX0_ahead_50, bi_add, bi_sub, bi_mul, bi_neg, bi_div, bi_64, bl_add, bl_sub, bl_mul, bl_neg, bl_div, bl_32, bi_min, bi_max, bl_min, bl_max, bq_I, bq_J, bq_A, bq_Vi, bq_Vl, bq_Vr, bq_cV, bq_cI, bq_cJ, bq_cA, bq_le, bq_lt, bq_eq, bq_z, bq_o, bq_ref, bq_nz, bq_nzJ, bq_bl, bq_blz, bq_T, bq_F, if_true, if_false, Int.reduceEq, Int.reduceLT, Int.reduceLE, Int.reduceAdd, Int.reduceSub, Int.reduceMul, Int.add_sub_cancel, li_0, li_1, li_5, li_10, li_12, li_13, li_21, li_34, li_36, li_37, li_44, li_47, li_50, li_60, li_71, li_100, li_104, li_137, li_138, li_536870912, ll_0, ll_1, ll_5, ll_10, ll_12, ll_13, ll_21, ll_34, ll_36, ll_37, ll_44, ll_47, ll_50, ll_60, ll_71, ll_100, ll_104, ll_137, ll_138, ga72, ga84, ga85, ga86, ga90, ga92, ga87, ga91, ga88, ga89, gf64_4, gf64_5, gf64_6, gf64_8, gf64_9, gf64_10, gf64_14, gf70_0, gf70_1, gf70_2, gf70_3, gf71_0, gf71_1, gf71_2, gf71_3, gs74_0, gs74_1, gs74_2, gs74_3, gs100_0, gs100_1, gs100_2, gs100_3, gr64_1, gr64_2, gr64_3, gr64_7, gr64_11, gr64_12, gr64_13, gr64_15, gr64_16, gr64_17, gr64_18, gr64_19, gr64_20, gr64_21, gr64_22, gr64_23, gr70_4, gr71_4, gu73, gu99, gu93, pa72, pa84, pa85, pa86, pa90, pa92, pa87, pa91, pa88, pa89, pf64_4, pf64_5, pf64_6, pf64_8, pf64_9, pf64_10, pf64_14, pf70_0, pf70_1, pf70_2, pf70_3, pf71_0, pf71_1, pf71_2, pf71_3, ps74_0, ps74_1, ps74_2, ps74_3, ps100_0, ps100_1, ps100_2, ps100_3, s_in, s_has, s_one, s_roomOf, s_hurtOf, s_isLost, s_standOf, s_isTray, s_isSoon, s_fallen, s_isPassage, s_isRoom, s_isPassage70, s_leads70, s_isBack70, s_isPassage, s_isRoom, s_isPassage71, s_leads71, s_isBack71, s_onec]
      by_cases c : s = 6 * r + hu
      · rw [if_pos c]; exact fin _ (by rw [if_pos c])
      · rw [if_neg c]; exact fin _ (by rw [if_neg c])
    · rintro cs2 ⟨s0, fr2, vl⟩
      have I0 : dInv (nxt A (A 44)) 36 (fun s => s = 6 * r + hu) 536870912 (cs2 85) := by
        refine ⟨fun t t0 t1 => ?_, fun t t0 t1 z => ?_, fun t t0 t1 z => ?_⟩
        · rw [vl t t0 t1]; split <;> omega
        · rw [vl t t0 t1]; exact if_pos z
        · left; rw [vl t t0 t1]; exact if_neg z
      rw [eX0_ahead_21]
      simp (disch := first | assumption | omega) only [if_pos (Int.le_refl 36), bi_add, bi_sub, bi_mul, bi_neg, bi_div, bi_64, bl_add, bl_sub, bl_mul, bl_neg, bl_div, bl_32, bi_min, bi_max, bl_min, bl_max, bq_I, bq_J, bq_A, bq_Vi, bq_Vl, bq_Vr, bq_cV, bq_cI, bq_cJ, bq_cA, bq_le, bq_lt, bq_eq, bq_z, bq_o, bq_ref, bq_nz, bq_nzJ, bq_bl, bq_blz, bq_T, bq_F, if_true, if_false, Int.reduceEq, Int.reduceLT, Int.reduceLE, Int.reduceAdd, Int.reduceSub, Int.reduceMul, Int.add_sub_cancel, li_0, li_1, li_5, li_10, li_12, li_13, li_21, li_34, li_36, li_37, li_44, li_47, li_50, li_60, li_71, li_100, li_104, li_137, li_138, li_536870912, ll_0, ll_1, ll_5, ll_10, ll_12, ll_13, ll_21, ll_34, ll_36, ll_37, ll_44, ll_47, ll_50, ll_60, ll_71, ll_100, ll_104, ll_137, ll_138, ga72, ga84, ga85, ga86, ga90, ga92, ga87, ga91, ga88, ga89, gf64_4, gf64_5, gf64_6, gf64_8, gf64_9, gf64_10, gf64_14, gf70_0, gf70_1, gf70_2, gf70_3, gf71_0, gf71_1, gf71_2, gf71_3, gs74_0, gs74_1, gs74_2, gs74_3, gs100_0, gs100_1, gs100_2, gs100_3, gr64_1, gr64_2, gr64_3, gr64_7, gr64_11, gr64_12, gr64_13, gr64_15, gr64_16, gr64_17, gr64_18, gr64_19, gr64_20, gr64_21, gr64_22, gr64_23, gr70_4, gr71_4, gu73, gu99, gu93, pa72, pa84, pa85, pa86, pa90, pa92, pa87, pa91, pa88, pa89, pf64_4, pf64_5, pf64_6, pf64_8, pf64_9, pf64_10, pf64_14, pf70_0, pf70_1, pf70_2, pf70_3, pf71_0, pf71_1, pf71_2, pf71_3, ps74_0, ps74_1, ps74_2, ps74_3, ps100_0, ps100_1, ps100_2, ps100_3, s_in, s_has, s_one, s_roomOf, s_hurtOf, s_isLost, s_standOf, s_isTray, s_isSoon, s_fallen, s_isPassage, s_isRoom, s_isPassage70, s_leads70, s_isBack70, s_isPassage, s_isRoom, s_isPassage71, s_leads71, s_isBack71, s_onec]
      refine while_X0_ahead (κ := κ) (cp := cp) (cs := cs2) (cj := cj) (Y := Y) (n := n) (D := d) (N := nxt A (A 44)) (Z := fun s => s = 6 * r + hu) hF hc' (by omega) (by omega) (fun s p a1 a2 a3 a4 => by rw [fr2 84 (by decide)]; exact v1 s p a1 a2 a3 a4) hN (fun s p q => (nxt_dom q).2.1) I0 (by omega) _ _ _ _ fun cs3 w fr3 hd => ?_
      rw [eX0_ahead_60]
      simp (disch := first | assumption | omega) only [if_true, bi_add, bi_sub, bi_mul, bi_neg, bi_div, bi_64, bl_add, bl_sub, bl_mul, bl_neg, bl_div, bl_32, bi_min, bi_max, bl_min, bl_max, bq_I, bq_J, bq_A, bq_Vi, bq_Vl, bq_Vr, bq_cV, bq_cI, bq_cJ, bq_cA, bq_le, bq_lt, bq_eq, bq_z, bq_o, bq_ref, bq_nz, bq_nzJ, bq_bl, bq_blz, bq_T, bq_F, if_true, if_false, Int.reduceEq, Int.reduceLT, Int.reduceLE, Int.reduceAdd, Int.reduceSub, Int.reduceMul, Int.add_sub_cancel, li_0, li_1, li_5, li_10, li_12, li_13, li_21, li_34, li_36, li_37, li_44, li_47, li_50, li_60, li_71, li_100, li_104, li_137, li_138, li_536870912, ll_0, ll_1, ll_5, ll_10, ll_12, ll_13, ll_21, ll_34, ll_36, ll_37, ll_44, ll_47, ll_50, ll_60, ll_71, ll_100, ll_104, ll_137, ll_138, ga72, ga84, ga85, ga86, ga90, ga92, ga87, ga91, ga88, ga89, gf64_4, gf64_5, gf64_6, gf64_8, gf64_9, gf64_10, gf64_14, gf70_0, gf70_1, gf70_2, gf70_3, gf71_0, gf71_1, gf71_2, gf71_3, gs74_0, gs74_1, gs74_2, gs74_3, gs100_0, gs100_1, gs100_2, gs100_3, gr64_1, gr64_2, gr64_3, gr64_7, gr64_11, gr64_12, gr64_13, gr64_15, gr64_16, gr64_17, gr64_18, gr64_19, gr64_20, gr64_21, gr64_22, gr64_23, gr70_4, gr71_4, gu73, gu99, gu93, pa72, pa84, pa85, pa86, pa90, pa92, pa87, pa91, pa88, pa89, pf64_4, pf64_5, pf64_6, pf64_8, pf64_9, pf64_10, pf64_14, pf70_0, pf70_1, pf70_2, pf70_3, pf71_0, pf71_1, pf71_2, pf71_3, ps74_0, ps74_1, ps74_2, ps74_3, ps100_0, ps100_1, ps100_2, ps100_3, s_in, s_has, s_one, s_roomOf, s_hurtOf, s_isLost, s_standOf, s_isTray, s_isSoon, s_fallen, s_isPassage, s_isRoom, s_isPassage70, s_leads70, s_isBack70, s_isPassage, s_isRoom, s_isPassage71, s_leads71, s_isBack71, s_onec]
      refine bk_loop (σ := Unit) (fun s _ => bk_den TX0_ahead (bk_call d) 104 [.ref 64, .int (bk_i r), .int (bk_i hu), .int (bk_i 0), .int (bk_i 0), .int (bk_i (sumZ (fun s => bz (bz (cs3 85 s < 536870912) = 1 ∧ s % 6 ≠ 5)) s.toNat)), .int (bk_i s)] [] (bk_M κ (cp, cs3, cj) Y g n)) (fun s _ => 0 ≤ s) 36 ?_ ?_ 0 () (by omega) (by omega)
      · rintro s - hs s0 cont
        have c := cont () (by omega)
        rw [sumZ_succ _ s0] at c
        have b := hd.1.1 s s0 hs
        have o0 := s_one False (D := d) (by omega) (bk_M κ (cp, cs3, cj) Y g n)
        have o1 := s_one True (D := d) (by omega) (bk_M κ (cp, cs3, cj) Y g n)
        rw [bz_f (fun h => h)] at o0
        rw [bz_t trivial] at o1
        rw [eX0_ahead_104]
        simp (disch := first | assumption | omega) only [if_neg (show ¬ 36 ≤ s by omega), eX0_ahead_137, eX0_ahead_138, o0, o1, bi_add, bi_sub, bi_mul, bi_neg, bi_div, bi_64, bl_add, bl_sub, bl_mul, bl_neg, bl_div, bl_32, bi_min, bi_max, bl_min, bl_max, bq_I, bq_J, bq_A, bq_Vi, bq_Vl, bq_Vr, bq_cV, bq_cI, bq_cJ, bq_cA, bq_le, bq_lt, bq_eq, bq_z, bq_o, bq_ref, bq_nz, bq_nzJ, bq_bl, bq_blz, bq_T, bq_F, if_true, if_false, Int.reduceEq, Int.reduceLT, Int.reduceLE, Int.reduceAdd, Int.reduceSub, Int.reduceMul, Int.add_sub_cancel, li_0, li_1, li_5, li_10, li_12, li_13, li_21, li_34, li_36, li_37, li_44, li_47, li_50, li_60, li_71, li_100, li_104, li_137, li_138, li_536870912, ll_0, ll_1, ll_5, ll_10, ll_12, ll_13, ll_21, ll_34, ll_36, ll_37, ll_44, ll_47, ll_50, ll_60, ll_71, ll_100, ll_104, ll_137, ll_138, ga72, ga84, ga85, ga86, ga90, ga92, ga87, ga91, ga88, ga89, gf64_4, gf64_5, gf64_6, gf64_8, gf64_9, gf64_10, gf64_14, gf70_0, gf70_1, gf70_2, gf70_3, gf71_0, gf71_1, gf71_2, gf71_3, gs74_0, gs74_1, gs74_2, gs74_3, gs100_0, gs100_1, gs100_2, gs100_3, gr64_1, gr64_2, gr64_3, gr64_7, gr64_11, gr64_12, gr64_13, gr64_15, gr64_16, gr64_17, gr64_18, gr64_19, gr64_20, gr64_21, gr64_22, gr64_23, gr70_4, gr71_4, gu73, gu99, gu93, pa72, pa84, pa85, pa86, pa90, pa92, pa87, pa91, pa88, pa89, pf64_4, pf64_5, pf64_6, pf64_8, pf64_9, pf64_10, pf64_14, pf70_0, pf70_1, pf70_2, pf70_3, pf71_0, pf71_1, pf71_2, pf71_3, ps74_0, ps74_1, ps74_2, ps74_3, ps100_0, ps100_1, ps100_2, ps100_3, s_in, s_has, s_one, s_roomOf, s_hurtOf, s_isLost, s_standOf, s_isTray, s_isSoon, s_fallen, s_isPassage, s_isRoom, s_isPassage70, s_leads70, s_isBack70, s_isPassage, s_isRoom, s_isPassage71, s_leads71, s_isBack71, s_onec]
        by_cases q : 536870912 ≤ cs3 85 s
        · rw [if_pos q]
          rw [bz_f (fun k => by have := bz_f (p := cs3 85 s < 536870912) (by omega); omega)] at c
          exact c
        · rw [if_neg q]
          by_cases q2 : s % 6 = 5
          · rw [if_pos q2]
            rw [bz_f (by omega)] at c
            exact c
          · rw [if_neg q2]
            rw [bz_t ⟨bz_t (by omega), q2⟩] at c
            exact c
      · rintro - s0
        rw [eX0_ahead_104]
        simp (disch := first | assumption | omega) only [if_pos (Int.le_refl 36), bi_add, bi_sub, bi_mul, bi_neg, bi_div, bi_64, bl_add, bl_sub, bl_mul, bl_neg, bl_div, bl_32, bi_min, bi_max, bl_min, bl_max, bq_I, bq_J, bq_A, bq_Vi, bq_Vl, bq_Vr, bq_cV, bq_cI, bq_cJ, bq_cA, bq_le, bq_lt, bq_eq, bq_z, bq_o, bq_ref, bq_nz, bq_nzJ, bq_bl, bq_blz, bq_T, bq_F, if_true, if_false, Int.reduceEq, Int.reduceLT, Int.reduceLE, Int.reduceAdd, Int.reduceSub, Int.reduceMul, Int.add_sub_cancel, li_0, li_1, li_5, li_10, li_12, li_13, li_21, li_34, li_36, li_37, li_44, li_47, li_50, li_60, li_71, li_100, li_104, li_137, li_138, li_536870912, ll_0, ll_1, ll_5, ll_10, ll_12, ll_13, ll_21, ll_34, ll_36, ll_37, ll_44, ll_47, ll_50, ll_60, ll_71, ll_100, ll_104, ll_137, ll_138, ga72, ga84, ga85, ga86, ga90, ga92, ga87, ga91, ga88, ga89, gf64_4, gf64_5, gf64_6, gf64_8, gf64_9, gf64_10, gf64_14, gf70_0, gf70_1, gf70_2, gf70_3, gf71_0, gf71_1, gf71_2, gf71_3, gs74_0, gs74_1, gs74_2, gs74_3, gs100_0, gs100_1, gs100_2, gs100_3, gr64_1, gr64_2, gr64_3, gr64_7, gr64_11, gr64_12, gr64_13, gr64_15, gr64_16, gr64_17, gr64_18, gr64_19, gr64_20, gr64_21, gr64_22, gr64_23, gr70_4, gr71_4, gu73, gu99, gu93, pa72, pa84, pa85, pa86, pa90, pa92, pa87, pa91, pa88, pa89, pf64_4, pf64_5, pf64_6, pf64_8, pf64_9, pf64_10, pf64_14, pf70_0, pf70_1, pf70_2, pf70_3, pf71_0, pf71_1, pf71_2, pf71_3, ps74_0, ps74_1, ps74_2, ps74_3, ps100_0, ps100_1, ps100_2, ps100_3, s_in, s_has, s_one, s_roomOf, s_hurtOf, s_isLost, s_standOf, s_isTray, s_isSoon, s_fallen, s_isPassage, s_isRoom, s_isPassage70, s_leads70, s_isBack70, s_isPassage, s_isRoom, s_isPassage71, s_leads71, s_isBack71, s_onec]
        exact ⟨_, _, rfl, cs3, cj, _, rfl, rfl, Or.inr ⟨q, rUn_cut (isD_cl hN hd (by omega) (by omega) (by decide)) (by omega) (by omega) (by omega) fun u v u0 u1 v0 v1 e => Eb_dom hw u0 e⟩⟩
  · rw [if_neg q]
    exact ⟨_, _, rfl, cs, cj, _, rfl, rfl, Or.inl ⟨q, rfl⟩⟩
theorem while_X0_ring (hF : bFix g) (hc : bRC κ g ca A) (h0 : 0 ≤ A 2) (h1 : A 2 ≤ 8) (hN : ∀ s p, 0 ≤ s → s < 36 → 0 ≤ p → p < A 2 → cs 84 (8 * s + p) = N s p) (hr : isN N 36) (hdom : ∀ s p, N s p ≠ -1 → p < A 2) (fm0 : 0 ≤ fm) (fm1 : fm < 36) (hI : dInv N 36 (fun s => s = fm) 536870912 (cs 85)) (hD : 2 ≤ D) {Q : Option Value → bk_H → Prop} (v1 v2 v3 : Int32) (w : Value)
    (hcont : ∀ (cs' : bF) (w : Value), (∀ a, a ≠ 85 → cs' a = cs a) → isD N 36 (fun s => s = fm) 536870912 (cs' 85) → bk_wp (bk_den TX0_ring (bk_call D) 64 [.ref 64, .int v1, .int v2, .int v3, .int (bk_i fm), .int (bk_i 0), w, bk_u] [] (bk_M κ (cp, cs', cj) Y g n)) Q) :
    bk_wp (bk_den TX0_ring (bk_call D) 64 [.ref 64, .int v1, .int v2, .int v3, .int (bk_i fm), .int (bk_i 1), w, bk_u] [] (bk_M κ (cp, cs, cj) Y g n)) Q := by
  obtain ⟨d, rfl⟩ := dep hD
  have hc' := hc
  obtain ⟨c0, c1, c2, c3, c4, c5, c6, c7, c8, ⟨tw, ctw, htw⟩, cb, ce, cd, cw, cwp, hca, -, -⟩ := hc
  refine bk_while (σ := bF × Int × Value) (fun x => bk_den TX0_ring (bk_call (d + 1)) 64 [.ref 64, .int v1, .int v2, .int v3, .int (bk_i fm), .int (bk_i x.2.1), x.2.2, bk_u] [] (bk_M κ (cp, x.1, cj) Y g n)) (fun x => 2 * (dS (x.1 85) 36).toNat + x.2.1.toNat)
    (fun x => (∀ a, a ≠ 85 → x.1 a = cs a) ∧ dInv N 36 (fun s => s = fm) 536870912 (x.1 85) ∧ (x.2.1 = 0 ∨ x.2.1 = 1) ∧ (x.2.1 = 0 → isD N 36 (fun s => s = fm) 536870912 (x.1 85))) ?_ (cs, 1, w) ⟨fun _ _ => rfl, hI, Or.inr rfl, fun q => absurd q (by simp)⟩
  rintro ⟨cs1, more, w1⟩ ⟨fr, hI1, m01, hex⟩ again
  dsimp only at fr hI1 m01 hex again ⊢
  rcases m01 with rfl | rfl
  · exact hcont cs1 w1 fr (hex rfl)
  · have nn0 := dS_nn (f := cs1 85) (R := 36) (fun s s0 s1 => (hI1.1 s s0 s1).1)
    rw [eX0_ring_64]
    simp (disch := first | assumption | omega) only [if_neg (show ¬ (1 : Int) = 0 by decide), bi_add, bi_sub, bi_mul, bi_neg, bi_div, bi_64, bl_add, bl_sub, bl_mul, bl_neg, bl_div, bl_32, bi_min, bi_max, bl_min, bl_max, bq_I, bq_J, bq_A, bq_Vi, bq_Vl, bq_Vr, bq_cV, bq_cI, bq_cJ, bq_cA, bq_le, bq_lt, bq_eq, bq_z, bq_o, bq_ref, bq_nz, bq_nzJ, bq_bl, bq_blz, bq_T, bq_F, if_true, if_false, Int.reduceEq, Int.reduceLT, Int.reduceLE, Int.reduceAdd, Int.reduceSub, Int.reduceMul, Int.add_sub_cancel, li_0, li_1, li_4, li_5, li_8, li_11, li_12, li_28, li_34, li_36, li_37, li_44, li_51, li_54, li_64, li_75, li_100, li_104, li_105, li_124, li_180, li_536870912, ll_0, ll_1, ll_4, ll_5, ll_8, ll_11, ll_12, ll_28, ll_34, ll_36, ll_37, ll_44, ll_51, ll_54, ll_64, ll_75, ll_100, ll_104, ll_105, ll_124, ll_180, ga72, ga84, ga85, ga86, ga90, ga92, ga87, ga91, ga88, ga89, gf64_4, gf64_5, gf64_6, gf64_8, gf64_9, gf64_10, gf64_14, gf70_0, gf70_1, gf70_2, gf70_3, gf71_0, gf71_1, gf71_2, gf71_3, gs74_0, gs74_1, gs74_2, gs74_3, gs100_0, gs100_1, gs100_2, gs100_3, gr64_1, gr64_2, gr64_3, gr64_7, gr64_11, gr64_12, gr64_13, gr64_15, gr64_16, gr64_17, gr64_18, gr64_19, gr64_20, gr64_21, gr64_22, gr64_23, gr70_4, gr71_4, gu73, gu99, gu93, pa72, pa84, pa85, pa86, pa90, pa92, pa87, pa91, pa88, pa89, pf64_4, pf64_5, pf64_6, pf64_8, pf64_9, pf64_10, pf64_14, pf70_0, pf70_1, pf70_2, pf70_3, pf71_0, pf71_1, pf71_2, pf71_3, ps74_0, ps74_1, ps74_2, ps74_3, ps100_0, ps100_1, ps100_2, ps100_3, s_in, s_has, s_one, s_roomOf, s_hurtOf, s_isLost, s_standOf, s_isTray, s_isSoon, s_fallen, s_isPassage, s_isRoom, s_isPassage70, s_leads70, s_isBack70, s_isPassage, s_isRoom, s_isPassage71, s_leads71, s_isBack71, s_onec]
    refine bk_loop (σ := bF × Int) (fun t x => bk_den TX0_ring (bk_call (d + 1)) 75 [.ref 64, .int v1, .int v2, .int v3, .int (bk_i fm), .int (bk_i x.2), .int (bk_i t), bk_u] [] (bk_M κ (cp, x.1, cj) Y g n))
      (fun t x => 0 ≤ t ∧ (∀ a, a ≠ 85 → x.1 a = cs a) ∧ dPass N 36 (fun s => s = fm) 536870912 (cs1 85) t (x.1 85) x.2) 36 ?_ ?_ 0 (cs1, 0) (by omega) ⟨by omega, fr, hI1, Int.le_refl _, Or.inl rfl, fun _ u u0 u1 => by omega, fun q => absurd q (by simp)⟩
    · rintro t ⟨cs2, m⟩ ht ⟨t0, fr2, hp⟩ cont
      dsimp only at fr2 hp ⊢
      have e84 := fr2 84 (by decide)
      have el := s_lowers (κ := κ) (cp := cp) (cs := cs2) (cj := cj) (Y := Y) (n := n) (D := d + 1) (N := N) hF hc' h0 h1 (fun p p0 p1 => by rw [e84]; exact hN t p t0 ht p0 p1) hr (fun u u0 u1 => hp.1.1 u u0 u1) t0 ht (by omega)
      have m01 := hp.2.2.1
      have og0 := bi_or01 m01 (b := 0) (Or.inl rfl)
      have og1 := bi_or01 m01 (b := 1) (Or.inr rfl)
      rw [eX0_ring_75]
      simp (disch := first | assumption | omega) only [c0, c1, c2, c3, c4, c5, c6, c7, c8, ctw, cb, ce, cd, cw, cwp, if_neg (show ¬ 36 ≤ t by omega), el, eX0_ring_104, eX0_ring_105, og0, og1, bi_add, bi_sub, bi_mul, bi_neg, bi_div, bi_64, bl_add, bl_sub, bl_mul, bl_neg, bl_div, bl_32, bi_min, bi_max, bl_min, bl_max, bq_I, bq_J, bq_A, bq_Vi, bq_Vl, bq_Vr, bq_cV, bq_cI, bq_cJ, bq_cA, bq_le, bq_lt, bq_eq, bq_z, bq_o, bq_ref, bq_nz, bq_nzJ, bq_bl, bq_blz, bq_T, bq_F, if_true, if_false, Int.reduceEq, Int.reduceLT, Int.reduceLE, Int.reduceAdd, Int.reduceSub, Int.reduceMul, Int.add_sub_cancel, li_0, li_1, li_4, li_5, li_8, li_11, li_12, li_28, li_34, li_36, li_37, li_44, li_51, li_54, li_64, li_75, li_100, li_104, li_105, li_124, li_180, li_536870912, ll_0, ll_1, ll_4, ll_5, ll_8, ll_11, ll_12, ll_28, ll_34, ll_36, ll_37, ll_44, ll_51, ll_54, ll_64, ll_75, ll_100, ll_104, ll_105, ll_124, ll_180, ga72, ga84, ga85, ga86, ga90, ga92, ga87, ga91, ga88, ga89, gf64_4, gf64_5, gf64_6, gf64_8, gf64_9, gf64_10, gf64_14, gf70_0, gf70_1, gf70_2, gf70_3, gf71_0, gf71_1, gf71_2, gf71_3, gs74_0, gs74_1, gs74_2, gs74_3, gs100_0, gs100_1, gs100_2, gs100_3, gr64_1, gr64_2, gr64_3, gr64_7, gr64_11, gr64_12, gr64_13, gr64_15, gr64_16, gr64_17, gr64_18, gr64_19, gr64_20, gr64_21, gr64_22, gr64_23, gr70_4, gr71_4, gu73, gu99, gu93, pa72, pa84, pa85, pa86, pa90, pa92, pa87, pa91, pa88, pa89, pf64_4, pf64_5, pf64_6, pf64_8, pf64_9, pf64_10, pf64_14, pf70_0, pf70_1, pf70_2, pf70_3, pf71_0, pf71_1, pf71_2, pf71_3, ps74_0, ps74_1, ps74_2, ps74_3, ps100_0, ps100_1, ps100_2, ps100_3, s_in, s_has, s_one, s_roomOf, s_hurtOf, s_isLost, s_standOf, s_isTray, s_isSoon, s_fallen, s_isPassage, s_isRoom, s_isPassage70, s_leads70, s_isBack70, s_isPassage, s_isRoom, s_isPassage71, s_leads71, s_isBack71, s_onec]
      by_cases q0 : t = fm
      · rw [if_pos q0]
        have e : max m 0 = m := by omega
        rw [e]
        exact cont (cs2, m) ⟨by omega, fr2, dPass_skip hp q0⟩
      · rw [if_neg q0]
        by_cases q : lw N (cs2 85) t (A 2).toNat < cs2 85 t
        · simp only [if_pos q]
          refine cont (bU cs2 85 t (lw N (cs2 85) t (A 2).toNat), max m 1) ⟨by omega, fun a ha => ?_, ?_⟩
          · funext j; show bU cs2 85 t (lw N (cs2 85) t (A 2).toNat) a j = _; rw [bU_ne _ _ _ _ _ _ ha, fr2 a ha]
          · have e : bU cs2 85 t (lw N (cs2 85) t (A 2).toNat) 85 = fU (cs2 85) t (lw N (cs2 85) t (A 2).toNat) := by
              funext j; rw [bU_same]; rfl
            show dPass _ _ _ _ _ _ (bU cs2 85 t (lw N (cs2 85) t (A 2).toNat) 85) _
            rw [e]
            exact dPass_hit (by omega) hr t0 ht hp q
        · simp only [if_neg q]
          exact cont (cs2, max m 0) ⟨by omega, fr2, dPass_not (fun p p0 p1 p2 => by have := hdom t p p2; omega) hp q⟩
    · rintro ⟨cs2, m⟩ ⟨t0, fr2, hp⟩
      dsimp only at fr2 hp ⊢
      have nn1 := dS_nn (f := cs2 85) (R := 36) (fun s s0 s1 => (hp.1.1 s s0 s1).1)
      obtain ⟨p1, p2, p3, p4, p5⟩ := hp
      rw [eX0_ring_75]
      simp (disch := first | assumption | omega) only [if_pos (Int.le_refl 36), bi_add, bi_sub, bi_mul, bi_neg, bi_div, bi_64, bl_add, bl_sub, bl_mul, bl_neg, bl_div, bl_32, bi_min, bi_max, bl_min, bl_max, bq_I, bq_J, bq_A, bq_Vi, bq_Vl, bq_Vr, bq_cV, bq_cI, bq_cJ, bq_cA, bq_le, bq_lt, bq_eq, bq_z, bq_o, bq_ref, bq_nz, bq_nzJ, bq_bl, bq_blz, bq_T, bq_F, if_true, if_false, Int.reduceEq, Int.reduceLT, Int.reduceLE, Int.reduceAdd, Int.reduceSub, Int.reduceMul, Int.add_sub_cancel, li_0, li_1, li_4, li_5, li_8, li_11, li_12, li_28, li_34, li_36, li_37, li_44, li_51, li_54, li_64, li_75, li_100, li_104, li_105, li_124, li_180, li_536870912, ll_0, ll_1, ll_4, ll_5, ll_8, ll_11, ll_12, ll_28, ll_34, ll_36, ll_37, ll_44, ll_51, ll_54, ll_64, ll_75, ll_100, ll_104, ll_105, ll_124, ll_180, ga72, ga84, ga85, ga86, ga90, ga92, ga87, ga91, ga88, ga89, gf64_4, gf64_5, gf64_6, gf64_8, gf64_9, gf64_10, gf64_14, gf70_0, gf70_1, gf70_2, gf70_3, gf71_0, gf71_1, gf71_2, gf71_3, gs74_0, gs74_1, gs74_2, gs74_3, gs100_0, gs100_1, gs100_2, gs100_3, gr64_1, gr64_2, gr64_3, gr64_7, gr64_11, gr64_12, gr64_13, gr64_15, gr64_16, gr64_17, gr64_18, gr64_19, gr64_20, gr64_21, gr64_22, gr64_23, gr70_4, gr71_4, gu73, gu99, gu93, pa72, pa84, pa85, pa86, pa90, pa92, pa87, pa91, pa88, pa89, pf64_4, pf64_5, pf64_6, pf64_8, pf64_9, pf64_10, pf64_14, pf70_0, pf70_1, pf70_2, pf70_3, pf71_0, pf71_1, pf71_2, pf71_3, ps74_0, ps74_1, ps74_2, ps74_3, ps100_0, ps100_1, ps100_2, ps100_3, s_in, s_has, s_one, s_roomOf, s_hurtOf, s_isLost, s_standOf, s_isTray, s_isSoon, s_fallen, s_isPassage, s_isRoom, s_isPassage70, s_leads70, s_isBack70, s_isPassage, s_isRoom, s_isPassage71, s_leads71, s_isBack71, s_onec]
      refine again (cs2, m, .int (bk_i 36)) ?_ ⟨fr2, p1, p3, fun q => ⟨p1, fun u u0 u1 uz => p4 q u u0 u1 uz⟩⟩
      dsimp only
      rcases p3 with rfl | rfl
      · omega
      · have := p5 rfl
        omega
/-- the shortest way round -/
def rRound (A : Int → Int) (s z : Int) : Prop := ∃ F f, 36 < F ∧ isD (nxt A (A 44)) (6 * A 1) (fun t => t = s) F f ∧
  ((z = -1 ∧ ∀ p, 0 ≤ p → p < 8 → nxt A (A 44) s p ≠ -1 → F ≤ f (nxt A (A 44) s p)) ∨ ((∃ p, 0 ≤ p ∧ p < 8 ∧ nxt A (A 44) s p ≠ -1 ∧ f (nxt A (A 44) s p) < F ∧ z = 1 + f (nxt A (A 44) s p)) ∧ ∀ p, 0 ≤ p → p < 8 → nxt A (A 44) s p ≠ -1 → f (nxt A (A 44) s p) < F → z ≤ 1 + f (nxt A (A 44) s p)))
theorem rRound_uniq {s z z' : Int} (hw : bWF A 0) (s0 : 0 ≤ s) (s1 : s < 6 * A 1) (h : rRound A s z) (h' : rRound A s z') : z = z' := by
  obtain ⟨F, f, a1, a2, a3⟩ := h
  obtain ⟨F', f', b1, b2, b3⟩ := h'
  have w2 := hw.2.1
  simp only [Int.zero_add] at w2
  have hN := nxt_N hw (A 44) (Int.le_refl (6 * A 1))
  have u : ∀ p, nxt A (A 44) s p ≠ -1 → (f (nxt A (A 44) s p) < F ↔ f' (nxt A (A 44) s p) < F') ∧ (f (nxt A (A 44) s p) < F → f (nxt A (A 44) s p) = f' (nxt A (A 44) s p)) := by
    intro p hp
    have := nxt_rng hw (s := s) (p := p) (A 44)
    exact isD_uniq hN a2 b2 (by omega) (by omega) (by omega) (by omega)
  rcases a3 with ⟨rfl, a4⟩ | ⟨⟨p, p0, p1, p2, p3, rfl⟩, a4⟩
  · rcases b3 with ⟨rfl, -⟩ | ⟨⟨p, p0, p1, p2, p3, rfl⟩, -⟩
    · rfl
    · have := a4 p p0 p1 p2
      have := (u p p2).1.mpr p3
      omega
  · have e := (u p p2).2 p3
    have c := (u p p2).1.mp p3
    rcases b3 with ⟨rfl, b4⟩ | ⟨⟨q, q0, q1, q2, q3, rfl⟩, b4⟩
    · have := b4 p p0 p1 p2; omega
    · have e2 := (u q q2)
      have c2 := e2.1.mpr q3
      have e3 := e2.2 c2
      have x1 := a4 q q0 q1 q2 c2
      have x2 := b4 p p0 p1 p2 c
      omega
def rRing (A : Int → Int) (r hu z : Int) : Prop := (fS A r hu 4 ≠ 0 ∧ z = fS A r hu 4) ∨ (fS A r hu 4 = 0 ∧ rRound A (6 * r + hu) z)
theorem c_ring (h : bCt κ g ca A cp) (h3 : -2147483648 ≤ r) (h4 : r < 2147483648) (h5 : -2147483648 ≤ hu) (h6 : hu < 2147483648) (hD : 912 ≤ D) :
    bk_wp (bk_call D 51 [.ref 64, .int (bk_i r), .int (bk_i hu)] (bk_M κ (cp, cs, cj) Y g n)) (bCq κ cp Y g n (rRing A r hu)) := by
  obtain ⟨d, rfl⟩ := dep hD
  have st := bCt_st h
  have fr := fS_rng A r hu 4
  obtain ⟨cs1, f1, v1, e1⟩ := s_laysNow (cs := cs) (cj := cj) (Y := Y) (n := n) (D := d) h (by omega)
  obtain ⟨hF, hc, hw, hs, n0, n1, n2, n3⟩ := h
  have ef := s_standFault (κ := κ) (X := (cp, cs, cj)) (Y := Y) (n := n) (D := d) (m := 4) hF hc hw h3 h4 h5 h6 (by omega) (by omega) (by omega)
  have hc' := hc
  have hN := nxt_N hw (A 44) (R := 36) (by omega)
  obtain ⟨c0, c1, c2, c3, c4, c5, c6, c7, c8, ⟨tw, ctw, htw⟩, cb, ce, cd, cw, cwp, hca, -, -⟩ := hc
  rw [kX0_ring, eX0_ring_0]
  simp (disch := first | assumption | omega) only [c0, c1, c2, c3, c4, c5, c6, c7, c8, ctw, cb, ce, cd, cw, cwp, ef, e1, bi_add, bi_sub, bi_mul, bi_neg, bi_div, bi_64, bl_add, bl_sub, bl_mul, bl_neg, bl_div, bl_32, bi_min, bi_max, bl_min, bl_max, bq_I, bq_J, bq_A, bq_Vi, bq_Vl, bq_Vr, bq_cV, bq_cI, bq_cJ, bq_cA, bq_le, bq_lt, bq_eq, bq_z, bq_o, bq_ref, bq_nz, bq_nzJ, bq_bl, bq_blz, bq_T, bq_F, if_true, if_false, Int.reduceEq, Int.reduceLT, Int.reduceLE, Int.reduceAdd, Int.reduceSub, Int.reduceMul, Int.add_sub_cancel, li_0, li_1, li_4, li_5, li_8, li_11, li_12, li_28, li_34, li_36, li_37, li_44, li_51, li_54, li_64, li_75, li_100, li_104, li_105, li_124, li_180, li_536870912, ll_0, ll_1, ll_4, ll_5, ll_8, ll_11, ll_12, ll_28, ll_34, ll_36, ll_37, ll_44, ll_51, ll_54, ll_64, ll_75, ll_100, ll_104, ll_105, ll_124, ll_180, ga72, ga84, ga85, ga86, ga90, ga92, ga87, ga91, ga88, ga89, gf64_4, gf64_5, gf64_6, gf64_8, gf64_9, gf64_10, gf64_14, gf70_0, gf70_1, gf70_2, gf70_3, gf71_0, gf71_1, gf71_2, gf71_3, gs74_0, gs74_1, gs74_2, gs74_3, gs100_0, gs100_1, gs100_2, gs100_3, gr64_1, gr64_2, gr64_3, gr64_7, gr64_11, gr64_12, gr64_13, gr64_15, gr64_16, gr64_17, gr64_18, gr64_19, gr64_20, gr64_21, gr64_22, gr64_23, gr70_4, gr71_4, gu73, gu99, gu93, pa72, pa84, pa85, pa86, pa90, pa92, pa87, pa91, pa88, pa89, pf64_4, pf64_5, pf64_6, pf64_8, pf64_9, pf64_10, pf64_14, pf70_0, pf70_1, pf70_2, pf70_3, pf71_0, pf71_1, pf71_2, pf71_3, ps74_0, ps74_1, ps74_2, ps74_3, ps100_0, ps100_1, ps100_2, ps100_3, s_in, s_has, s_one, s_roomOf, s_hurtOf, s_isLost, s_standOf, s_isTray, s_isSoon, s_fallen, s_isPassage, s_isRoom, s_isPassage70, s_leads70, s_isBack70, s_isPassage, s_isRoom, s_isPassage71, s_leads71, s_isBack71, s_onec]
  by_cases q : fS A r hu 4 = 0
  · have q' := fS_0 q
    rw [if_pos q, q]
    generalize hfm : 6 * r + hu = fm
    have fm0 : 0 ≤ fm := by omega
    have fm1 : fm < 6 * A 1 := by omega
    refine bk_loop (σ := bF) (fun s x => bk_den TX0_ring (bk_call d) 28 [.ref 64, .int (bk_i r), .int (bk_i hu), .int (bk_i 0), .int (bk_i fm), .int (bk_i s), bk_u, bk_u] [] (bk_M κ (cp, x, cj) Y g n))
      (fun s x => 0 ≤ s ∧ (∀ a, a ≠ 85 → x a = cs1 a) ∧ ∀ t, 0 ≤ t → t < s → x 85 t = if t = fm then 0 else 536870912) 36 ?_ ?_ 0 cs1 (by omega) ⟨by omega, fun _ _ => rfl, fun t _ _ => by omega⟩
    · rintro s cs2 hs ⟨s0, fr2, vl⟩ cont
      have fin : ∀ val : Int, (val = if s = fm then 0 else 536870912) → bk_wp (bk_den TX0_ring (bk_call d) 28 [.ref 64, .int (bk_i r), .int (bk_i hu), .int (bk_i 0), .int (bk_i fm), .int (bk_i (s + 1)), bk_u, bk_u] [] (bk_M κ (cp, bU cs2 85 s val, cj) Y g n)) (bCq κ cp Y g n (rRing A r hu)) := by
        intro val hv
        refine cont (bU cs2 85 s val) ⟨by omega, fun a ha => ?_, fun t t0 t1 => ?_⟩
        · funext j; rw [bU_ne _ _ _ _ _ _ ha, fr2 a ha]
        · rw [bU_same]
          by_cases c : t = s
          · subst c; rw [if_pos rfl]; exact hv
          · rw [if_neg c]; exact vl t t0 (by omega)
      rw [eX0_ring_28]
      simp (disch := first | assumption | omega) only [if_neg (show ¬ 36 ≤ s by omega), eX0_ring_54, bi_add, bi_sub, bi_mul, bi_neg, bi_div, bi_64, bl_add, bl_sub, bl_mul, bl_neg, bl_div, bl_32, bi_min, bi_max, bl_min, bl_max, bq_I, bq_J, bq_A, bq_Vi, bq_Vl, bq_Vr, bq_cV, bq_cI, bq_cJ, bq_cA, bq_le, bq_lt, bq_eq, bq_z, bq_o, bq_ref, bq_nz, bq_nzJ, bq_bl, bq_blz, bq_T, bq_F, if_true, if_false, Int.reduceEq, Int.reduceLT, Int.reduceLE, Int.reduceAdd, Int.reduceSub, Int.reduceMul, Int.add_sub_cancel, li_0, li_1, li_4, li_5, li_8, li_11, li_12, li_28, li_34, li_36, li_37, li_44, li_51, li_54, li_64, li_75, li_100, li_104, li_105, li_124, li_180, li_536870912, ll_0, ll_1, ll_4, ll_5, ll_8, ll_11, ll_12, ll_28, ll_34, ll_36, ll_37, ll_44, ll_51, ll_54, ll_64, ll_75, ll_100, ll_104, ll_105, ll_124, ll_180, ga72, ga84, ga85, ga86, ga90, ga92, ga87, ga91, ga88, ga89, gf64_4, gf64_5, gf64_6, gf64_8, gf64_9, gf64_10, gf64_14, gf70_0, gf70_1, gf70_2, gf70_3, gf71_0, gf71_1, gf71_2, gf71_3, gs74_0, gs74_1, gs74_2, gs74_3, gs100_0, gs100_1, gs100_2, gs100_3, gr64_1, gr64_2, gr64_3, gr64_7, gr64_11, gr64_12, gr64_13, gr64_15, gr64_16, gr64_17, gr64_18, gr64_19, gr64_20, gr64_21, gr64_22, gr64_23, gr70_4, gr71_4, gu73, gu99, gu93, pa72, pa84, pa85, pa86, pa90, pa92, pa87, pa91, pa88, pa89, pf64_4, pf64_5, pf64_6, pf64_8, pf64_9, pf64_10, pf64_14, pf70_0, pf70_1, pf70_2, pf70_3, pf71_0, pf71_1, pf71_2, pf71_3, ps74_0, ps74_1, ps74_2, ps74_3, ps100_0, ps100_1, ps100_2, ps100_3, s_in, s_has, s_one, s_roomOf, s_hurtOf, s_isLost, s_standOf, s_isTray, s_isSoon, s_fallen, s_isPassage, s_isRoom, s_isPassage70, s_leads70, s_isBack70, s_isPassage, s_isRoom, s_isPassage71, s_leads71, s_isBack71, s_onec]
      by_cases c : s = fm
      · rw [if_pos c]; exact fin _ (by rw [if_pos c])
      · rw [if_neg c]; exact fin _ (by rw [if_neg c])
    · rintro cs2 ⟨s0, fr2, vl⟩
      have I0 : dInv (nxt A (A 44)) 36 (fun s => s = fm) 536870912 (cs2 85) := by
        refine ⟨fun t t0 t1 => ?_, fun t t0 t1 z => ?_, fun t t0 t1 z => ?_⟩
        · rw [vl t t0 t1]; split <;> omega
        · rw [vl t t0 t1]; exact if_pos z
        · left; rw [vl t t0 t1]; exact if_neg z
      rw [eX0_ring_28]
      simp (disch := first | assumption | omega) only [if_pos (Int.le_refl 36), bi_add, bi_sub, bi_mul, bi_neg, bi_div, bi_64, bl_add, bl_sub, bl_mul, bl_neg, bl_div, bl_32, bi_min, bi_max, bl_min, bl_max, bq_I, bq_J, bq_A, bq_Vi, bq_Vl, bq_Vr, bq_cV, bq_cI, bq_cJ, bq_cA, bq_le, bq_lt, bq_eq, bq_z, bq_o, bq_ref, bq_nz, bq_nzJ, bq_bl, bq_blz, bq_T, bq_F, if_true, if_false, Int.reduceEq, Int.reduceLT, Int.reduceLE, Int.reduceAdd, Int.reduceSub, Int.reduceMul, Int.add_sub_cancel, li_0, li_1, li_4, li_5, li_8, li_11, li_12, li_28, li_34, li_36, li_37, li_44, li_51, li_54, li_64, li_75, li_100, li_104, li_105, li_124, li_180, li_536870912, ll_0, ll_1, ll_4, ll_5, ll_8, ll_11, ll_12, ll_28, ll_34, ll_36, ll_37, ll_44, ll_51, ll_54, ll_64, ll_75, ll_100, ll_104, ll_105, ll_124, ll_180, ga72, ga84, ga85, ga86, ga90, ga92, ga87, ga91, ga88, ga89, gf64_4, gf64_5, gf64_6, gf64_8, gf64_9, gf64_10, gf64_14, gf70_0, gf70_1, gf70_2, gf70_3, gf71_0, gf71_1, gf71_2, gf71_3, gs74_0, gs74_1, gs74_2, gs74_3, gs100_0, gs100_1, gs100_2, gs100_3, gr64_1, gr64_2, gr64_3, gr64_7, gr64_11, gr64_12, gr64_13, gr64_15, gr64_16, gr64_17, gr64_18, gr64_19, gr64_20, gr64_21, gr64_22, gr64_23, gr70_4, gr71_4, gu73, gu99, gu93, pa72, pa84, pa85, pa86, pa90, pa92, pa87, pa91, pa88, pa89, pf64_4, pf64_5, pf64_6, pf64_8, pf64_9, pf64_10, pf64_14, pf70_0, pf70_1, pf70_2, pf70_3, pf71_0, pf71_1, pf71_2, pf71_3, ps74_0, ps74_1, ps74_2, ps74_3, ps100_0, ps100_1, ps100_2, ps100_3, s_in, s_has, s_one, s_roomOf, s_hurtOf, s_isLost, s_standOf, s_isTray, s_isSoon, s_fallen, s_isPassage, s_isRoom, s_isPassage70, s_leads70, s_isBack70, s_isPassage, s_isRoom, s_isPassage71, s_leads71, s_isBack71, s_onec]
      have v2 : ∀ s p, 0 ≤ s → s < 36 → 0 ≤ p → p < A 2 → cs2 84 (8 * s + p) = nxt A (A 44) s p := fun s p a1 a2 a3 a4 => by rw [fr2 84 (by decide)]; exact v1 s p a1 a2 a3 a4
      refine while_X0_ring (κ := κ) (cp := cp) (cs := cs2) (cj := cj) (Y := Y) (n := n) (D := d) (N := nxt A (A 44)) (fm := fm) hF hc' (by omega) (by omega) v2 hN (fun s p q => (nxt_dom q).2.1) fm0 (by omega) I0 (by omega) _ _ _ _ fun cs3 w fr3 hd => ?_
      rw [eX0_ring_64]
      simp (disch := first | assumption | omega) only [if_true, bi_add, bi_sub, bi_mul, bi_neg, bi_div, bi_64, bl_add, bl_sub, bl_mul, bl_neg, bl_div, bl_32, bi_min, bi_max, bl_min, bl_max, bq_I, bq_J, bq_A, bq_Vi, bq_Vl, bq_Vr, bq_cV, bq_cI, bq_cJ, bq_cA, bq_le, bq_lt, bq_eq, bq_z, bq_o, bq_ref, bq_nz, bq_nzJ, bq_bl, bq_blz, bq_T, bq_F, if_true, if_false, Int.reduceEq, Int.reduceLT, Int.reduceLE, Int.reduceAdd, Int.reduceSub, Int.reduceMul, Int.add_sub_cancel, li_0, li_1, li_4, li_5, li_8, li_11, li_12, li_28, li_34, li_36, li_37, li_44, li_51, li_54, li_64, li_75, li_100, li_104, li_105, li_124, li_180, li_536870912, ll_0, ll_1, ll_4, ll_5, ll_8, ll_11, ll_12, ll_28, ll_34, ll_36, ll_37, ll_44, ll_51, ll_54, ll_64, ll_75, ll_100, ll_104, ll_105, ll_124, ll_180, ga72, ga84, ga85, ga86, ga90, ga92, ga87, ga91, ga88, ga89, gf64_4, gf64_5, gf64_6, gf64_8, gf64_9, gf64_10, gf64_14, gf70_0, gf70_1, gf70_2, gf70_3, gf71_0, gf71_1, gf71_2, gf71_3, gs74_0, gs74_1, gs74_2, gs74_3, gs100_0, gs100_1, gs100_2, gs100_3, gr64_1, gr64_2, gr64_3, gr64_7, gr64_11, gr64_12, gr64_13, gr64_15, gr64_16, gr64_17, gr64_18, gr64_19, gr64_20, gr64_21, gr64_22, gr64_23, gr70_4, gr71_4, gu73, gu99, gu93, pa72, pa84, pa85, pa86, pa90, pa92, pa87, pa91, pa88, pa89, pf64_4, pf64_5, pf64_6, pf64_8, pf64_9, pf64_10, pf64_14, pf70_0, pf70_1, pf70_2, pf70_3, pf71_0, pf71_1, pf71_2, pf71_3, ps74_0, ps74_1, ps74_2, ps74_3, ps100_0, ps100_1, ps100_2, ps100_3, s_in, s_has, s_one, s_roomOf, s_hurtOf, s_isLost, s_standOf, s_isTray, s_isSoon, s_fallen, s_isPassage, s_isRoom, s_isPassage70, s_leads70, s_isBack70, s_isPassage, s_isRoom, s_isPassage71, s_leads71, s_isBack71, s_onec]
      refine bk_loop (σ := Int) (fun p x => bk_den TX0_ring (bk_call d) 124 [.ref 64, .int (bk_i r), .int (bk_i hu), .int (bk_i 0), .int (bk_i fm), .int (bk_i 0), .int (bk_i x), .int (bk_i p)] [] (bk_M κ (cp, cs3, cj) Y g n)) (fun p x => 0 ≤ p ∧ x = lw (nxt A (A 44)) (cs3 85) fm p.toNat) (A 2) ?_ ?_ 0 _ (by omega) ⟨by omega, rfl⟩
      · rintro p x hp ⟨p0, rfl⟩ cont
        have np := hN fm p fm0 (by omega) p0 (by omega)
        have e84 := fr3 84 (by decide)
        have le := lw_le (nxt A (A 44)) (cs3 85) fm p.toNat
        have nn := lw_nn (N := nxt A (A 44)) (f := cs3 85) (s := fm) p.toNat (fun q q0 q1 q2 => by
          have := hN fm q fm0 (by omega) q0 (by omega)
          exact (hd.1.1 _ (by omega) (by omega)).1)
        have sc : lw (nxt A (A 44)) (cs3 85) fm (p + 1).toNat = if nxt A (A 44) fm p = -1 then lw (nxt A (A 44)) (cs3 85) fm p.toNat else min (lw (nxt A (A 44)) (cs3 85) fm p.toNat) (1 + cs3 85 (nxt A (A 44) fm p)) := by
          have e : (p + 1).toNat = p.toNat + 1 := by omega
          rw [e]
          show (if nxt A (A 44) fm (p.toNat : Int) = -1 then _ else _) = _
          rw [Int.toNat_of_nonneg p0]
        rw [eX0_ring_124]
        simp (disch := first | assumption | omega) only [c0, c1, c2, c3, c4, c5, c6, c7, c8, ctw, cb, ce, cd, cw, cwp, if_neg (show ¬ A 2 ≤ p by omega), e84, v2 fm p fm0 (by omega) p0 hp, eX0_ring_180, bi_add, bi_sub, bi_mul, bi_neg, bi_div, bi_64, bl_add, bl_sub, bl_mul, bl_neg, bl_div, bl_32, bi_min, bi_max, bl_min, bl_max, bq_I, bq_J, bq_A, bq_Vi, bq_Vl, bq_Vr, bq_cV, bq_cI, bq_cJ, bq_cA, bq_le, bq_lt, bq_eq, bq_z, bq_o, bq_ref, bq_nz, bq_nzJ, bq_bl, bq_blz, bq_T, bq_F, if_true, if_false, Int.reduceEq, Int.reduceLT, Int.reduceLE, Int.reduceAdd, Int.reduceSub, Int.reduceMul, Int.add_sub_cancel, li_0, li_1, li_4, li_5, li_8, li_11, li_12, li_28, li_34, li_36, li_37, li_44, li_51, li_54, li_64, li_75, li_100, li_104, li_105, li_124, li_180, li_536870912, ll_0, ll_1, ll_4, ll_5, ll_8, ll_11, ll_12, ll_28, ll_34, ll_36, ll_37, ll_44, ll_51, ll_54, ll_64, ll_75, ll_100, ll_104, ll_105, ll_124, ll_180, ga72, ga84, ga85, ga86, ga90, ga92, ga87, ga91, ga88, ga89, gf64_4, gf64_5, gf64_6, gf64_8, gf64_9, gf64_10, gf64_14, gf70_0, gf70_1, gf70_2, gf70_3, gf71_0, gf71_1, gf71_2, gf71_3, gs74_0, gs74_1, gs74_2, gs74_3, gs100_0, gs100_1, gs100_2, gs100_3, gr64_1, gr64_2, gr64_3, gr64_7, gr64_11, gr64_12, gr64_13, gr64_15, gr64_16, gr64_17, gr64_18, gr64_19, gr64_20, gr64_21, gr64_22, gr64_23, gr70_4, gr71_4, gu73, gu99, gu93, pa72, pa84, pa85, pa86, pa90, pa92, pa87, pa91, pa88, pa89, pf64_4, pf64_5, pf64_6, pf64_8, pf64_9, pf64_10, pf64_14, pf70_0, pf70_1, pf70_2, pf70_3, pf71_0, pf71_1, pf71_2, pf71_3, ps74_0, ps74_1, ps74_2, ps74_3, ps100_0, ps100_1, ps100_2, ps100_3, s_in, s_has, s_one, s_roomOf, s_hurtOf, s_isLost, s_standOf, s_isTray, s_isSoon, s_fallen, s_isPassage, s_isRoom, s_isPassage70, s_leads70, s_isBack70, s_isPassage, s_isRoom, s_isPassage71, s_leads71, s_isBack71, s_onec]
        by_cases c : nxt A (A 44) fm p = -1
        · rw [if_pos c]
          exact cont _ ⟨by omega, by rw [sc, if_pos c]⟩
        · have b := hd.1.1 (nxt A (A 44) fm p) (by omega) (by omega)
          rw [if_neg c]
          simp (disch := first | assumption | omega) only [eX0_ring_180, bi_add, bi_sub, bi_mul, bi_neg, bi_div, bi_64, bl_add, bl_sub, bl_mul, bl_neg, bl_div, bl_32, bi_min, bi_max, bl_min, bl_max, bq_I, bq_J, bq_A, bq_Vi, bq_Vl, bq_Vr, bq_cV, bq_cI, bq_cJ, bq_cA, bq_le, bq_lt, bq_eq, bq_z, bq_o, bq_ref, bq_nz, bq_nzJ, bq_bl, bq_blz, bq_T, bq_F, if_true, if_false, Int.reduceEq, Int.reduceLT, Int.reduceLE, Int.reduceAdd, Int.reduceSub, Int.reduceMul, Int.add_sub_cancel, li_0, li_1, li_4, li_5, li_8, li_11, li_12, li_28, li_34, li_36, li_37, li_44, li_51, li_54, li_64, li_75, li_100, li_104, li_105, li_124, li_180, li_536870912, ll_0, ll_1, ll_4, ll_5, ll_8, ll_11, ll_12, ll_28, ll_34, ll_36, ll_37, ll_44, ll_51, ll_54, ll_64, ll_75, ll_100, ll_104, ll_105, ll_124, ll_180, ga72, ga84, ga85, ga86, ga90, ga92, ga87, ga91, ga88, ga89, gf64_4, gf64_5, gf64_6, gf64_8, gf64_9, gf64_10, gf64_14, gf70_0, gf70_1, gf70_2, gf70_3, gf71_0, gf71_1, gf71_2, gf71_3, gs74_0, gs74_1, gs74_2, gs74_3, gs100_0, gs100_1, gs100_2, gs100_3, gr64_1, gr64_2, gr64_3, gr64_7, gr64_11, gr64_12, gr64_13, gr64_15, gr64_16, gr64_17, gr64_18, gr64_19, gr64_20, gr64_21, gr64_22, gr64_23, gr70_4, gr71_4, gu73, gu99, gu93, pa72, pa84, pa85, pa86, pa90, pa92, pa87, pa91, pa88, pa89, pf64_4, pf64_5, pf64_6, pf64_8, pf64_9, pf64_10, pf64_14, pf70_0, pf70_1, pf70_2, pf70_3, pf71_0, pf71_1, pf71_2, pf71_3, ps74_0, ps74_1, ps74_2, ps74_3, ps100_0, ps100_1, ps100_2, ps100_3, s_in, s_has, s_one, s_roomOf, s_hurtOf, s_isLost, s_standOf, s_isTray, s_isSoon, s_fallen, s_isPassage, s_isRoom, s_isPassage70, s_leads70, s_isBack70, s_isPassage, s_isRoom, s_isPassage71, s_leads71, s_isBack71, s_onec]
          exact cont _ ⟨by omega, by rw [sc, if_neg c]⟩
      · rintro x ⟨-, rfl⟩
        have le := lw_le (nxt A (A 44)) (cs3 85) fm (A 2).toNat
        have nn := lw_nn (N := nxt A (A 44)) (f := cs3 85) (s := fm) (A 2).toNat (fun q q0 q1 q2 => by
          have := hN fm q fm0 (by omega) q0 (by omega)
          exact (hd.1.1 _ (by omega) (by omega)).1)
        have low : ∀ p, 0 ≤ p → p < 8 → nxt A (A 44) fm p ≠ -1 → lw (nxt A (A 44)) (cs3 85) fm (A 2).toNat ≤ 1 + cs3 85 (nxt A (A 44) fm p) := fun p p0 p1 hp => lw_low _ p p0 (by have := nxt_dom hp; omega) hp
        rw [eX0_ring_124]
        simp (disch := first | assumption | omega) only [c0, c1, c2, c3, c4, c5, c6, c7, c8, ctw, cb, ce, cd, cw, cwp, if_pos (Int.le_refl (A 2)), bi_add, bi_sub, bi_mul, bi_neg, bi_div, bi_64, bl_add, bl_sub, bl_mul, bl_neg, bl_div, bl_32, bi_min, bi_max, bl_min, bl_max, bq_I, bq_J, bq_A, bq_Vi, bq_Vl, bq_Vr, bq_cV, bq_cI, bq_cJ, bq_cA, bq_le, bq_lt, bq_eq, bq_z, bq_o, bq_ref, bq_nz, bq_nzJ, bq_bl, bq_blz, bq_T, bq_F, if_true, if_false, Int.reduceEq, Int.reduceLT, Int.reduceLE, Int.reduceAdd, Int.reduceSub, Int.reduceMul, Int.add_sub_cancel, li_0, li_1, li_4, li_5, li_8, li_11, li_12, li_28, li_34, li_36, li_37, li_44, li_51, li_54, li_64, li_75, li_100, li_104, li_105, li_124, li_180, li_536870912, ll_0, ll_1, ll_4, ll_5, ll_8, ll_11, ll_12, ll_28, ll_34, ll_36, ll_37, ll_44, ll_51, ll_54, ll_64, ll_75, ll_100, ll_104, ll_105, ll_124, ll_180, ga72, ga84, ga85, ga86, ga90, ga92, ga87, ga91, ga88, ga89, gf64_4, gf64_5, gf64_6, gf64_8, gf64_9, gf64_10, gf64_14, gf70_0, gf70_1, gf70_2, gf70_3, gf71_0, gf71_1, gf71_2, gf71_3, gs74_0, gs74_1, gs74_2, gs74_3, gs100_0, gs100_1, gs100_2, gs100_3, gr64_1, gr64_2, gr64_3, gr64_7, gr64_11, gr64_12, gr64_13, gr64_15, gr64_16, gr64_17, gr64_18, gr64_19, gr64_20, gr64_21, gr64_22, gr64_23, gr70_4, gr71_4, gu73, gu99, gu93, pa72, pa84, pa85, pa86, pa90, pa92, pa87, pa91, pa88, pa89, pf64_4, pf64_5, pf64_6, pf64_8, pf64_9, pf64_10, pf64_14, pf70_0, pf70_1, pf70_2, pf70_3, pf71_0, pf71_1, pf71_2, pf71_3, ps74_0, ps74_1, ps74_2, ps74_3, ps100_0, ps100_1, ps100_2, ps100_3, s_in, s_has, s_one, s_roomOf, s_hurtOf, s_isLost, s_standOf, s_isTray, s_isSoon, s_fallen, s_isPassage, s_isRoom, s_isPassage70, s_leads70, s_isBack70, s_isPassage, s_isRoom, s_isPassage71, s_leads71, s_isBack71, s_onec]
        by_cases c : lw (nxt A (A 44)) (cs3 85) fm (A 2).toNat < 536870912
        · rw [if_pos c]
          refine ⟨_, _, rfl, cs3, cj, _, rfl, rfl, Or.inr ⟨q, 536870912, cs3 85, by decide, isD_sub (by rw [hfm]; exact hd) (by omega), Or.inr ?_⟩⟩
          rw [hfm]
          refine ⟨?_, fun p p0 p1 hp _ => low p p0 p1 hp⟩
          rcases lw_hit (N := nxt A (A 44)) (f := cs3 85) (s := fm) (A 2).toNat with e | ⟨p, p0, p1, p2, p3⟩
          · omega
          · exact ⟨p, p0, by omega, p2, by omega, p3⟩
        · rw [if_neg c]
          refine ⟨_, _, rfl, cs3, cj, _, rfl, rfl, Or.inr ⟨q, 536870912, cs3 85, by decide, isD_sub (by rw [hfm]; exact hd) (by omega), Or.inl ⟨rfl, fun p p0 p1 hp => ?_⟩⟩⟩
          rw [hfm] at hp ⊢
          have a := low p p0 p1 hp
          have np := nxt_rng hw (s := fm) (p := p) (A 44)
          have b := hd.1.1 (nxt A (A 44) fm p) (by omega) (by omega)
          by_cases f : cs3 85 (nxt A (A 44) fm p) < 536870912
          · have sm := isD_small hN hd (s := nxt A (A 44) fm p) (by omega) (by omega) f
            omega
          · omega
  · rw [if_neg q]
    exact ⟨_, _, rfl, cs, cj, _, rfl, rfl, Or.inl ⟨q, rfl⟩⟩
end AH
