/-! SPECS: the two parsers side by side: a truth's unit -/
set_option maxRecDepth 100000
section UN
variable {b σ : Int → Int} {sz W dp : Int}
/-- a sign of comparing, or a fault -/
def cmpM (b : Int → Int) (sz : Int) (σ : Int → Int) : Int → Int := if σ 4 = 0 ∧ 39 ≤ σ 2 ∧ σ 2 ≤ 41 then nextM b sz σ else failM 2 σ
theorem cmpM_st (h : okL b sz σ) : stepL b sz σ (cmpM b sz σ) := by
  unfold cmpM
  by_cases q : σ 4 = 0 ∧ 39 ≤ σ 2 ∧ σ 2 ≤ 41
  · rw [if_pos q]; exact (nextM_st h q.1).1
  · rw [if_neg q]; exact failM_st h (by decide) (by decide)
theorem cmpM_0 (h : okL b sz σ) (h0 : cmpM b sz σ 4 = 0) : σ 4 = 0 ∧ 39 ≤ σ 2 ∧ σ 2 ≤ 41 ∧ σ 0 < cmpM b sz σ 0 := by
  unfold cmpM at h0 ⊢
  by_cases q : σ 4 = 0 ∧ 39 ≤ σ 2 ∧ σ 2 ≤ 41
  · rw [if_pos q] at h0 ⊢
    have s1 := (nextM_st h q.1).2.2
    have lt := h.2.2.2.2.1 (by omega)
    exact ⟨q.1, q.2.1, q.2.2, by omega⟩
  · rw [if_neg q] at h0
    exact absurd h0 (failM_ok h (by decide) (by decide)).2.2.2.2.2
theorem tokC_cmp {k : Int} (h : okK k) : (tokC k = 61 ∨ tokC k = 60 ∨ tokC k = 62) ↔ (39 ≤ k ∧ k ≤ 41) := by
  have e1 : tokC k = 61 ↔ k = 39 := tok_iff (j := 39) h (by decide) (by decide) (by decide)
  have e2 : tokC k = 60 ↔ k = 40 := tok_iff (j := 40) h (by decide) (by decide) (by decide)
  have e3 : tokC k = 62 ↔ k = 41 := tok_iff (j := 41) h (by decide) (by decide) (by decide)
  rw [e1, e2, e3]
  omega
/-- the code of a sign of comparing -/
def cmpC (k : Int) : Int := if k = 39 then 3003 else if k = 40 then 3004 else 3005
theorem cmpC_rng (k : Int) : 3003 ≤ cmpC k ∧ cmpC k ≤ 3005 := by
  unfold cmpC
  repeat' (first | omega | split)
theorem cmpC_at {k : Int} (h : 39 ≤ k ∧ k ≤ 41) : (cmpC k = 3003 ∧ tokC k = 61) ∨ (cmpC k = 3004 ∧ tokC k = 60) ∨ (cmpC k = 3005 ∧ tokC k = 62) := by
  have : k = 39 ∨ k = 40 ∨ k = 41 := by omega
  rcases this with e | e | e <;> rw [e] <;> first | exact Or.inl ⟨rfl, rfl⟩ | exact Or.inr (Or.inl ⟨rfl, rfl⟩) | exact Or.inr (Or.inr ⟨rfl, rfl⟩)
/-- two sums compared -/
theorem sim_cmp (ok : okL b sz σ) (n20 : ¬ (σ 4 = 0 ∧ σ 2 = 20)) (n37 : ¬ (σ 4 = 0 ∧ σ 2 = 37)) (d0 : 0 ≤ dp) (d6 : dp ≤ 6) (hS : ∀ σ', okL b sz σ' → σ 0 ≤ σ' 0 → SIM b sz W dp 5019 4020 false 4 1 σ') : SIM b sz W dp 5026 4029 true 5 3 σ := by
  obtain ⟨σ1, cs1, st1, w1, C1, T1⟩ := hS σ ok (Int.le_refl _)
  have o1 := st1.2.1
  have cm := cmpM_st st1.1
  have o2 := cm.2.1
  obtain ⟨σ3, cs3, st3, w3, C3, T3⟩ := hS (cmpM b sz σ1) cm.1 (by omega)
  have o3 := st3.2.1
  refine ⟨σ3, cs1 ++ cs3 ++ [cmpC (σ1 2)], stepL_tr (stepL_tr st1 cm) st3, fun z => ?_, ?_, ?_⟩
  · have z2 := st3.2.2.1 z
    have k := cmpM_0 st1.1 z2
    refine ⟨by omega, ?_⟩
    have cr := cmpC_rng (σ1 2)
    rw [nat_pred (by omega)]
    exact Or.inl ⟨cs1, cs3, cmpC (σ1 2), wfc_mono _ _ _ (w1 k.1).2 _ (by omega), wfc_mono _ _ _ (w3 z).2 _ (by omega), cr.1, cr.2, rfl⟩
  · intro κ cp cs0 cj Y g n rd F D hw hD
    unfold eN at hD
    obtain ⟨d, rfl⟩ := dep (show 1 ≤ D by omega)
    have e1 := q_is (κ := κ) (cs := cs0) (cj := cj) (Y := Y) (D := d) hw.1 hw.2.1 hw.2.2.1 ok kO20 (show 22 = 2 + 20 from rfl) (by omega)
    rw [bz_f n20] at e1
    have e2 := q_isSign (κ := κ) (cp := cp) (cs := cs0) (cj := cj) (Y := Y) (g := g) (n := n) (rd := rd) (F := F) (kk := 37) (c := 91) (D := d) hw.2.2.1 ok rfl (by decide) (by decide) (by decide) (by omega)
    rw [bz_f n37] at e2
    obtain ⟨F1, g1, n1, x1, p1, t1, e3⟩ := C1 κ cp cs0 cj Y g n rd F d hw (by unfold eN; omega)
    have hw1 := cW_ex hw p1
    have l4 := hw1.2.2.1.2.2.1
    have l6 := hw1.2.2.1.2.2.2.2.1
    have tr := tokC_rng (σ1 2)
    have s4 := st1.1.2.2.2.2.2.2.2
    -- to the sign's end
    have mid : ∃ F2, cP rd F1 g1 n1 σ1 0 F2 g1 n1 (cmpM b sz σ1) ∧ bk_call (d + 1) 5026 [.ref rd] (bk_Q rd F (bk_M κ (cp, cs0, cj) Y g n)) = bk_den TX5_unit (bk_call d) 146 [.ref rd, .ref x1, .int (bk_i (tokC (σ1 2)))] [] (bk_Q rd F2 (bk_M κ (cp, cs0, cj) Y g1 n1)) := by
      rw [kX5_unit, eX5_unit_0]
      have tc := tokC_cmp st1.1.2.2.2.1
      by_cases q4 : σ1 4 = 0
      · by_cases qc : 39 ≤ σ1 2 ∧ σ1 2 ≤ 41
        · obtain ⟨F2, f2, l2, e4⟩ := q_nextL (κ := κ) (cs := cs0) (cj := cj) (Y := Y) (D := d) hw1.1 hw1.2.1 hw1.2.2.1 st1.1 (by omega)
          have ec : cmpM b sz σ1 = nextM b sz σ1 := by unfold cmpM; rw [if_pos ⟨q4, qc⟩]
          rw [ec] at o2 ⊢
          refine ⟨F2, cP_lx hw1 f2 l2 (by omega), ?_⟩
          rcases tc.mpr qc with u | u | u
          · simp (disch := first | assumption | omega) only [e1, e2, e3, l4, l6, if_pos q4, if_pos u, eX5_unit_135, e4, bi_add, bi_sub, bi_mul, bi_neg, bi_div, bi_64, bl_add, bl_sub, bl_mul, bl_neg, bl_div, bl_32, bi_min, bi_max, bl_min, bl_max, bq_I, bq_J, bq_A, bq_Vi, bq_Vl, bq_Vr, bq_cV, bq_cI, bq_cJ, bq_cA, bq_le, bq_lt, bq_eq, bq_z, bq_o, bq_ref, bq_nz, bq_nzJ, bq_bl, bq_blz, bq_T, bq_F, if_true, if_false, Int.reduceEq, Int.reduceLT, Int.reduceLE, Int.reduceAdd, Int.reduceSub, Int.reduceMul, Int.add_sub_cancel, li_0, li_1, li_2, li_4, li_5, li_6, li_7, li_8, li_22, li_23, li_35, li_60, li_61, li_62, li_76, li_91, li_93, li_135, li_146, li_149, ll_0, ll_1, ll_2, ll_4, ll_5, ll_6, ll_7, ll_8, ll_22, ll_23, ll_35, ll_60, ll_61, ll_62, ll_76, ll_91, ll_93, ll_135, ll_146, ll_149, q5_0, w5_0, q5_2, w5_2, q5_3, w5_3, q5_4, w5_4, q5_5, w5_5, q5_6, w5_6, q5_7, w5_7, q5_8, w5_8, q5_9, w5_9, q1_4, w1_4, q1_5, w1_5, q1_6, w1_6, q1_7, w1_7, q1_8, w1_8, q1_9, w1_9, q1_10, w1_10, q1_11, w1_11, q1_12, w1_12, qa_2, wa_2, qa_3, wa_3, qa_4, wa_4, bU_same, bU_ne, s_in]
          · simp (disch := first | assumption | omega) only [e1, e2, e3, l4, l6, if_pos q4, u, eX5_unit_135, e4, bi_add, bi_sub, bi_mul, bi_neg, bi_div, bi_64, bl_add, bl_sub, bl_mul, bl_neg, bl_div, bl_32, bi_min, bi_max, bl_min, bl_max, bq_I, bq_J, bq_A, bq_Vi, bq_Vl, bq_Vr, bq_cV, bq_cI, bq_cJ, bq_cA, bq_le, bq_lt, bq_eq, bq_z, bq_o, bq_ref, bq_nz, bq_nzJ, bq_bl, bq_blz, bq_T, bq_F, if_true, if_false, Int.reduceEq, Int.reduceLT, Int.reduceLE, Int.reduceAdd, Int.reduceSub, Int.reduceMul, Int.add_sub_cancel, li_0, li_1, li_2, li_4, li_5, li_6, li_7, li_8, li_22, li_23, li_35, li_60, li_61, li_62, li_76, li_91, li_93, li_135, li_146, li_149, ll_0, ll_1, ll_2, ll_4, ll_5, ll_6, ll_7, ll_8, ll_22, ll_23, ll_35, ll_60, ll_61, ll_62, ll_76, ll_91, ll_93, ll_135, ll_146, ll_149, q5_0, w5_0, q5_2, w5_2, q5_3, w5_3, q5_4, w5_4, q5_5, w5_5, q5_6, w5_6, q5_7, w5_7, q5_8, w5_8, q5_9, w5_9, q1_4, w1_4, q1_5, w1_5, q1_6, w1_6, q1_7, w1_7, q1_8, w1_8, q1_9, w1_9, q1_10, w1_10, q1_11, w1_11, q1_12, w1_12, qa_2, wa_2, qa_3, wa_3, qa_4, wa_4, bU_same, bU_ne, s_in]
          · simp (disch := first | assumption | omega) only [e1, e2, e3, l4, l6, if_pos q4, u, eX5_unit_135, e4, bi_add, bi_sub, bi_mul, bi_neg, bi_div, bi_64, bl_add, bl_sub, bl_mul, bl_neg, bl_div, bl_32, bi_min, bi_max, bl_min, bl_max, bq_I, bq_J, bq_A, bq_Vi, bq_Vl, bq_Vr, bq_cV, bq_cI, bq_cJ, bq_cA, bq_le, bq_lt, bq_eq, bq_z, bq_o, bq_ref, bq_nz, bq_nzJ, bq_bl, bq_blz, bq_T, bq_F, if_true, if_false, Int.reduceEq, Int.reduceLT, Int.reduceLE, Int.reduceAdd, Int.reduceSub, Int.reduceMul, Int.add_sub_cancel, li_0, li_1, li_2, li_4, li_5, li_6, li_7, li_8, li_22, li_23, li_35, li_60, li_61, li_62, li_76, li_91, li_93, li_135, li_146, li_149, ll_0, ll_1, ll_2, ll_4, ll_5, ll_6, ll_7, ll_8, ll_22, ll_23, ll_35, ll_60, ll_61, ll_62, ll_76, ll_91, ll_93, ll_135, ll_146, ll_149, q5_0, w5_0, q5_2, w5_2, q5_3, w5_3, q5_4, w5_4, q5_5, w5_5, q5_6, w5_6, q5_7, w5_7, q5_8, w5_8, q5_9, w5_9, q1_4, w1_4, q1_5, w1_5, q1_6, w1_6, q1_7, w1_7, q1_8, w1_8, q1_9, w1_9, q1_10, w1_10, q1_11, w1_11, q1_12, w1_12, qa_2, wa_2, qa_3, wa_3, qa_4, wa_4, bU_same, bU_ne, s_in]
        · obtain ⟨F2, f2, l2, e4⟩ := q_wrong (κ := κ) (cp := cp) (cs := cs0) (cj := cj) (Y := Y) (g := g1) (n := n1) (f := 2) (D := d) hw1.2.2.1 st1.1 (by omega)
          have fo := failM_ok st1.1 (f := 2) (by decide) (by decide)
          have f6 := l2.2.2.2.2.1
          have n6 : ¬ failM 2 σ1 4 = 0 := fo.2.2.2.2.2
          have b6 := fo.1.2.2.2.2.2.2.2
          have ec : cmpM b sz σ1 = failM 2 σ1 := by unfold cmpM; rw [if_neg (fun w => qc w.2)]
          rw [ec] at o2 ⊢
          refine ⟨F2, cP_lx hw1 f2 l2 (by omega), ?_⟩
          have u1 : ¬ tokC (σ1 2) = 61 := fun w => qc (tc.mp (Or.inl w))
          have u2 : ¬ tokC (σ1 2) = 60 := fun w => qc (tc.mp (Or.inr (Or.inl w)))
          have u3 : ¬ tokC (σ1 2) = 62 := fun w => qc (tc.mp (Or.inr (Or.inr w)))
          simp (disch := first | assumption | omega) only [e1, e2, e3, l4, l6, if_pos q4, if_neg u1, if_neg u2, if_neg u3, e4, eX5_unit_135, f6, if_neg n6, bi_add, bi_sub, bi_mul, bi_neg, bi_div, bi_64, bl_add, bl_sub, bl_mul, bl_neg, bl_div, bl_32, bi_min, bi_max, bl_min, bl_max, bq_I, bq_J, bq_A, bq_Vi, bq_Vl, bq_Vr, bq_cV, bq_cI, bq_cJ, bq_cA, bq_le, bq_lt, bq_eq, bq_z, bq_o, bq_ref, bq_nz, bq_nzJ, bq_bl, bq_blz, bq_T, bq_F, if_true, if_false, Int.reduceEq, Int.reduceLT, Int.reduceLE, Int.reduceAdd, Int.reduceSub, Int.reduceMul, Int.add_sub_cancel, li_0, li_1, li_2, li_4, li_5, li_6, li_7, li_8, li_22, li_23, li_35, li_60, li_61, li_62, li_76, li_91, li_93, li_135, li_146, li_149, ll_0, ll_1, ll_2, ll_4, ll_5, ll_6, ll_7, ll_8, ll_22, ll_23, ll_35, ll_60, ll_61, ll_62, ll_76, ll_91, ll_93, ll_135, ll_146, ll_149, q5_0, w5_0, q5_2, w5_2, q5_3, w5_3, q5_4, w5_4, q5_5, w5_5, q5_6, w5_6, q5_7, w5_7, q5_8, w5_8, q5_9, w5_9, q1_4, w1_4, q1_5, w1_5, q1_6, w1_6, q1_7, w1_7, q1_8, w1_8, q1_9, w1_9, q1_10, w1_10, q1_11, w1_11, q1_12, w1_12, qa_2, wa_2, qa_3, wa_3, qa_4, wa_4, bU_same, bU_ne, s_in]
      · have ec : cmpM b sz σ1 = σ1 := by unfold cmpM; rw [if_neg (fun w => q4 w.1), failM_s q4]
        rw [ec]
        refine ⟨F1, cP_rf hw1, ?_⟩
        simp (disch := first | assumption | omega) only [e1, e2, e3, l4, l6, if_neg q4, eX5_unit_135, bi_add, bi_sub, bi_mul, bi_neg, bi_div, bi_64, bl_add, bl_sub, bl_mul, bl_neg, bl_div, bl_32, bi_min, bi_max, bl_min, bl_max, bq_I, bq_J, bq_A, bq_Vi, bq_Vl, bq_Vr, bq_cV, bq_cI, bq_cJ, bq_cA, bq_le, bq_lt, bq_eq, bq_z, bq_o, bq_ref, bq_nz, bq_nzJ, bq_bl, bq_blz, bq_T, bq_F, if_true, if_false, Int.reduceEq, Int.reduceLT, Int.reduceLE, Int.reduceAdd, Int.reduceSub, Int.reduceMul, Int.add_sub_cancel, li_0, li_1, li_2, li_4, li_5, li_6, li_7, li_8, li_22, li_23, li_35, li_60, li_61, li_62, li_76, li_91, li_93, li_135, li_146, li_149, ll_0, ll_1, ll_2, ll_4, ll_5, ll_6, ll_7, ll_8, ll_22, ll_23, ll_35, ll_60, ll_61, ll_62, ll_76, ll_91, ll_93, ll_135, ll_146, ll_149, q5_0, w5_0, q5_2, w5_2, q5_3, w5_3, q5_4, w5_4, q5_5, w5_5, q5_6, w5_6, q5_7, w5_7, q5_8, w5_8, q5_9, w5_9, q1_4, w1_4, q1_5, w1_5, q1_6, w1_6, q1_7, w1_7, q1_8, w1_8, q1_9, w1_9, q1_10, w1_10, q1_11, w1_11, q1_12, w1_12, qa_2, wa_2, qa_3, wa_3, qa_4, wa_4, bU_same, bU_ne, s_in]
    obtain ⟨F2, p2, e4⟩ := mid
    have hw2 := cW_ex hw1 p2
    have hr := hw2.1.2.2.2.2.2.2.2.2.1
    have p3 := cP_new (k := 8) (fs := bk_fields 8) hw2 (by decide)
    have nw := (bEx_new (k := 8) (fs := bk_fields 8) hw2.1).2
    have hw3 := cW_ex hw2 p3
    obtain ⟨F4, g4, n4, x4, p4, t4, e5⟩ := C3 κ cp cs0 cj Y _ _ rd F2 d hw3 (by unfold eN; omega)
    have nw4 := isN1_ex nw p4.2.2.1 (Nat.lt_succ_self _)
    have lt4 : n1.1 + 1 ≤ n4.1 := p4.2.2.1.2.1
    have lt1 := p1.2.2.1.2.1
    have e6 := q_comp (κ := κ) (X := (cp, cs0, cj)) (Y := Y) (n := n4) (rd := rd) (F := F4) (y := x1) (u := x4) (sg := tokC (σ1 2)) (D := d) nw4 (by omega)
    have pB := cP_tr p2 (cP_tr p3 p4)
    have pC := cP_put (g'' := g3 g4 8 n1.1 (.ref x1) (.ref x4) (.int (bk_i (tokC (σ1 2))))) pB (Nat.le_refl _) (by omega) (fun t a j ha => g3_ne ha)
    refine ⟨F4, _, n4, n1.1, cP_le (cP_tr p1 pC) (by decide), fun z => ⟨by omega, ?_⟩, ?_⟩
    · have z2 := st3.2.2.1 z
      have k := cmpM_0 st1.1 z2
      have tt := two_trees (n1 := n1.1) (g3' := g3 g4 8 n1.1 (.ref x1) (.ref x4) (.int (bk_i (tokC (σ1 2))))) lt1 p1.2.2.1.2.2.2 pC.2.2.1.1 (fun t a k ha => g3_ne (by omega)) (t1 k.1).2 (t4 z).2
      rw [nat_pred (by omega)]
      exact Or.inl ⟨cs1, cs3, cmpC (σ1 2), x1, x4, tokC (σ1 2), bTr_le tt.1 (by omega), bTr_le tt.2 (by omega), cmpC_at ⟨k.2.1, k.2.2.1⟩, rfl, (gHi_on lt1).trans g3_0, (gHi_on lt1).trans g3_1, (gHi_on lt1).trans g3_2⟩
    · have hnew : bk_new (bk_Q rd F2 (bk_M κ (cp, cs0, cj) Y g1 n1)) 8 (bk_fields 8) = bk_Q rd F2 (bk_M κ (cp, cs0, cj) Y (gN g1 8 n1.1 (bk_fields 8)) (n1.1 + 1, n1.2 + (bk_fields 8).length)) := nQ (by decide) hr _
      have hn1 : (bk_Q rd F2 (bk_M κ (cp, cs0, cj) Y g1 n1)).2.1 = n1.1 := rfl
      have v8 : (bk_Q rd F4 (bk_M κ (cp, cs0, cj) Y g4 n4)).1 8 n1.1 0 = .ref 0 := (gQ (by decide)).trans (nw4.2 0 (by decide))
      rw [e4, eX5_unit_146, hnew, hn1, eX5_unit_149]
      simp (disch := first | assumption | omega) only [e5, v8, e6, bi_add, bi_sub, bi_mul, bi_neg, bi_div, bi_64, bl_add, bl_sub, bl_mul, bl_neg, bl_div, bl_32, bi_min, bi_max, bl_min, bl_max, bq_I, bq_J, bq_A, bq_Vi, bq_Vl, bq_Vr, bq_cV, bq_cI, bq_cJ, bq_cA, bq_le, bq_lt, bq_eq, bq_z, bq_o, bq_ref, bq_nz, bq_nzJ, bq_bl, bq_blz, bq_T, bq_F, if_true, if_false, Int.reduceEq, Int.reduceLT, Int.reduceLE, Int.reduceAdd, Int.reduceSub, Int.reduceMul, Int.add_sub_cancel, li_0, li_1, li_2, li_4, li_5, li_6, li_7, li_8, li_22, li_23, li_35, li_60, li_61, li_62, li_76, li_91, li_93, li_135, li_146, li_149, ll_0, ll_1, ll_2, ll_4, ll_5, ll_6, ll_7, ll_8, ll_22, ll_23, ll_35, ll_60, ll_61, ll_62, ll_76, ll_91, ll_93, ll_135, ll_146, ll_149, q5_0, w5_0, q5_2, w5_2, q5_3, w5_3, q5_4, w5_4, q5_5, w5_5, q5_6, w5_6, q5_7, w5_7, q5_8, w5_8, q5_9, w5_9, q1_4, w1_4, q1_5, w1_5, q1_6, w1_6, q1_7, w1_7, q1_8, w1_8, q1_9, w1_9, q1_10, w1_10, q1_11, w1_11, q1_12, w1_12, qa_2, wa_2, qa_3, wa_3, qa_4, wa_4, bU_same, bU_ne, s_in]
  · intro κ X tp tj ts tk g n D hw hD
    unfold eN at hD
    obtain ⟨d, rfl⟩ := dep (show 1 ≤ D by omega)
    have n0 := hw.2.2.2.2.1
    have n1 := hw.2.2.2.2.2
    have b1 := hw.1.2.2.2.1
    have i20 := t_is (κ := κ) (X := X) (tp := tp) (tj := tj) (ts := ts) (tk := tk) (g := g) (n := n) (kk := 20) (D := d) hw.2.2.1 ok (by decide) (by decide) (by omega)
    rw [bz_f n20] at i20
    have i37 := t_is (κ := κ) (X := X) (tp := tp) (tj := tj) (ts := ts) (tk := tk) (g := g) (n := n) (kk := 37) (D := d) hw.2.2.1 ok (by decide) (by decide) (by omega)
    rw [bz_f n37] at i37
    obtain ⟨ts1, p1, e1⟩ := T1 κ X tp tj ts tk g n d hw (by unfold eN; omega)
    have hw1 := tW_p hw p1 (by decide)
    have j39 := t_is (κ := κ) (X := X) (tp := tp) (tj := tj) (ts := ts1) (tk := tk) (g := g) (n := n) (kk := 39) (D := d) hw1.2.2.1 st1.1 (by decide) (by decide) (by omega)
    have j40 := t_is (κ := κ) (X := X) (tp := tp) (tj := tj) (ts := ts1) (tk := tk) (g := g) (n := n) (kk := 40) (D := d) hw1.2.2.1 st1.1 (by decide) (by decide) (by omega)
    have j41 := t_is (κ := κ) (X := X) (tp := tp) (tj := tj) (ts := ts1) (tk := tk) (g := g) (n := n) (kk := 41) (D := d) hw1.2.2.1 st1.1 (by decide) (by decide) (by omega)
    -- to the sign's end
    have mid : ∃ ts2 oc, (cmpM b sz σ1 4 = 0 → oc = cmpC (σ1 2)) ∧ tP ts1 ts2 σ1 (cmpM b sz σ1) 0 [] ∧ (cmpM b sz σ1 4 = 0 → tP ts1 ts2 σ1 (cmpM b sz σ1) 1 []) ∧ bk_call (d + 1) 4029 [.ref 102, .int (bk_i dp)] (bk_M κ X (tp, tj, ts, tk) g n) = bk_den TX4_readUnit (bk_call d) 151 [.ref 102, .int (bk_i dp), .int (bk_i oc)] [] (bk_M κ X (tp, tj, ts2, tk) g n) := by
      rw [kX4_readUnit, eX4_readUnit_0]
      by_cases q : σ1 4 = 0 ∧ 39 ≤ σ1 2 ∧ σ1 2 ≤ 41
      · obtain ⟨ts2, f2, l2, e2⟩ := t_nextL (κ := κ) (X := X) (tj := tj) (tk := tk) (n := n) (D := d) hw1.1 hw1.2.1 hw1.2.2.1 st1.1 (by omega)
        have ec : cmpM b sz σ1 = nextM b sz σ1 := by unfold cmpM; rw [if_pos q]
        have k0 : cmpM b sz σ1 4 = 0 := by rw [ec]; exact (nextM_st st1.1 q.1).2.1
        have k := cmpM_0 st1.1 k0
        rw [ec] at k ⊢
        refine ⟨ts2, cmpC (σ1 2), fun _ => rfl, tP_lx' f2 l2 (by omega), fun _ => tP_lx' f2 l2 (by omega), ?_⟩
        have c3 : σ1 2 = 39 ∨ σ1 2 = 40 ∨ σ1 2 = 41 := by omega
        rcases c3 with c | c | c
        · rw [bz_t ⟨q.1, c⟩] at j39
          have cc : cmpC (σ1 2) = 3003 := by rw [c]; rfl
          rw [cc]
          simp (disch := first | assumption | omega) only [i20, i37, e1, j39, eX4_readUnit_111, eX4_readUnit_139, e2, bi_add, bi_sub, bi_mul, bi_neg, bi_div, bi_64, bl_add, bl_sub, bl_mul, bl_neg, bl_div, bl_32, bi_min, bi_max, bl_min, bl_max, bq_I, bq_J, bq_A, bq_Vi, bq_Vl, bq_Vr, bq_cV, bq_cI, bq_cJ, bq_cA, bq_le, bq_lt, bq_eq, bq_z, bq_o, bq_ref, bq_nz, bq_nzJ, bq_bl, bq_blz, bq_T, bq_F, if_true, if_false, Int.reduceEq, Int.reduceLT, Int.reduceLE, Int.reduceAdd, Int.reduceSub, Int.reduceMul, Int.add_sub_cancel, li_0, li_1, li_2, li_4, li_20, li_37, li_38, li_39, li_40, li_41, li_111, li_139, li_151, li_3003, li_3004, li_3005, li_3006, li_4005, li_4010, li_4011, li_4012, li_4020, li_4023, li_4025, li_4027, li_4029, ll_0, ll_1, ll_2, ll_4, ll_20, ll_37, ll_38, ll_39, ll_40, ll_41, ll_111, ll_139, ll_151, ga103, ga105, ga119, ga120, ga106, ga107, ga108, ga109, ga110, ga111, ga116, ga118, ga104, ga112, ga114, ga115, ga117, ga113, ga121, gf102_5, gf102_13, gf102_14, gf102_0, gf102_6, gf102_7, gf102_8, gf102_9, gf102_10, gf102_11, gf102_12, gf102_15, gf102_19, gf102_20, gr102_1, gr102_2, gr102_3, gr102_4, gr102_16, gr102_17, gr102_18, gr102_21, gr102_22, gr102_23, gr102_24, gr102_25, gr102_26, gr102_27, gr102_28, gr102_29, gr102_30, gr102_31, gr102_32, pa103, pa105, pa119, pa120, pa106, pa107, pa108, pa109, pa110, pa111, pa116, pa118, pa104, pa112, pa114, pa115, pa117, pa113, pa121, pf102_5, pf102_13, pf102_14, pf102_0, pf102_6, pf102_7, pf102_8, pf102_9, pf102_10, pf102_11, pf102_12, pf102_15, pf102_19, pf102_20, s_within, t_isLost, t_fallen, t_isHurt, t_between, t_isPassage, t_isRoom, t_standNow, t_standsAll, t_isIn, t_noComing, t_noStand, t_bitsOf, u_tens4109, t_draw]
        · rw [bz_f (fun w => by omega)] at j39
          rw [bz_t ⟨q.1, c⟩] at j40
          have cc : cmpC (σ1 2) = 3004 := by rw [c]; rfl
          rw [cc]
          simp (disch := first | assumption | omega) only [i20, i37, e1, j39, j40, eX4_readUnit_111, eX4_readUnit_139, e2, bi_add, bi_sub, bi_mul, bi_neg, bi_div, bi_64, bl_add, bl_sub, bl_mul, bl_neg, bl_div, bl_32, bi_min, bi_max, bl_min, bl_max, bq_I, bq_J, bq_A, bq_Vi, bq_Vl, bq_Vr, bq_cV, bq_cI, bq_cJ, bq_cA, bq_le, bq_lt, bq_eq, bq_z, bq_o, bq_ref, bq_nz, bq_nzJ, bq_bl, bq_blz, bq_T, bq_F, if_true, if_false, Int.reduceEq, Int.reduceLT, Int.reduceLE, Int.reduceAdd, Int.reduceSub, Int.reduceMul, Int.add_sub_cancel, li_0, li_1, li_2, li_4, li_20, li_37, li_38, li_39, li_40, li_41, li_111, li_139, li_151, li_3003, li_3004, li_3005, li_3006, li_4005, li_4010, li_4011, li_4012, li_4020, li_4023, li_4025, li_4027, li_4029, ll_0, ll_1, ll_2, ll_4, ll_20, ll_37, ll_38, ll_39, ll_40, ll_41, ll_111, ll_139, ll_151, ga103, ga105, ga119, ga120, ga106, ga107, ga108, ga109, ga110, ga111, ga116, ga118, ga104, ga112, ga114, ga115, ga117, ga113, ga121, gf102_5, gf102_13, gf102_14, gf102_0, gf102_6, gf102_7, gf102_8, gf102_9, gf102_10, gf102_11, gf102_12, gf102_15, gf102_19, gf102_20, gr102_1, gr102_2, gr102_3, gr102_4, gr102_16, gr102_17, gr102_18, gr102_21, gr102_22, gr102_23, gr102_24, gr102_25, gr102_26, gr102_27, gr102_28, gr102_29, gr102_30, gr102_31, gr102_32, pa103, pa105, pa119, pa120, pa106, pa107, pa108, pa109, pa110, pa111, pa116, pa118, pa104, pa112, pa114, pa115, pa117, pa113, pa121, pf102_5, pf102_13, pf102_14, pf102_0, pf102_6, pf102_7, pf102_8, pf102_9, pf102_10, pf102_11, pf102_12, pf102_15, pf102_19, pf102_20, s_within, t_isLost, t_fallen, t_isHurt, t_between, t_isPassage, t_isRoom, t_standNow, t_standsAll, t_isIn, t_noComing, t_noStand, t_bitsOf, u_tens4109, t_draw]
        · rw [bz_f (fun w => by omega)] at j39 j40
          rw [bz_t ⟨q.1, c⟩] at j41
          have cc : cmpC (σ1 2) = 3005 := by rw [c]; rfl
          rw [cc]
          simp (disch := first | assumption | omega) only [i20, i37, e1, j39, j40, j41, eX4_readUnit_111, eX4_readUnit_139, e2, bi_add, bi_sub, bi_mul, bi_neg, bi_div, bi_64, bl_add, bl_sub, bl_mul, bl_neg, bl_div, bl_32, bi_min, bi_max, bl_min, bl_max, bq_I, bq_J, bq_A, bq_Vi, bq_Vl, bq_Vr, bq_cV, bq_cI, bq_cJ, bq_cA, bq_le, bq_lt, bq_eq, bq_z, bq_o, bq_ref, bq_nz, bq_nzJ, bq_bl, bq_blz, bq_T, bq_F, if_true, if_false, Int.reduceEq, Int.reduceLT, Int.reduceLE, Int.reduceAdd, Int.reduceSub, Int.reduceMul, Int.add_sub_cancel, li_0, li_1, li_2, li_4, li_20, li_37, li_38, li_39, li_40, li_41, li_111, li_139, li_151, li_3003, li_3004, li_3005, li_3006, li_4005, li_4010, li_4011, li_4012, li_4020, li_4023, li_4025, li_4027, li_4029, ll_0, ll_1, ll_2, ll_4, ll_20, ll_37, ll_38, ll_39, ll_40, ll_41, ll_111, ll_139, ll_151, ga103, ga105, ga119, ga120, ga106, ga107, ga108, ga109, ga110, ga111, ga116, ga118, ga104, ga112, ga114, ga115, ga117, ga113, ga121, gf102_5, gf102_13, gf102_14, gf102_0, gf102_6, gf102_7, gf102_8, gf102_9, gf102_10, gf102_11, gf102_12, gf102_15, gf102_19, gf102_20, gr102_1, gr102_2, gr102_3, gr102_4, gr102_16, gr102_17, gr102_18, gr102_21, gr102_22, gr102_23, gr102_24, gr102_25, gr102_26, gr102_27, gr102_28, gr102_29, gr102_30, gr102_31, gr102_32, pa103, pa105, pa119, pa120, pa106, pa107, pa108, pa109, pa110, pa111, pa116, pa118, pa104, pa112, pa114, pa115, pa117, pa113, pa121, pf102_5, pf102_13, pf102_14, pf102_0, pf102_6, pf102_7, pf102_8, pf102_9, pf102_10, pf102_11, pf102_12, pf102_15, pf102_19, pf102_20, s_within, t_isLost, t_fallen, t_isHurt, t_between, t_isPassage, t_isRoom, t_standNow, t_standsAll, t_isIn, t_noComing, t_noStand, t_bitsOf, u_tens4109, t_draw]
      · have ec : cmpM b sz σ1 = failM 2 σ1 := by unfold cmpM; rw [if_neg q]
        obtain ⟨ts2, f2, l2, e2⟩ := t_fails (κ := κ) (X := X) (tp := tp) (tj := tj) (tk := tk) (g := g) (n := n) (f := 2) (D := d) hw1.2.2.1 st1.1 (by omega)
        have fo := failM_ok st1.1 (f := 2) (by decide) (by decide)
        rw [ec]
        rw [bz_f (fun w => q (by omega))] at j39
        rw [bz_f (fun w => q (by omega))] at j40
        rw [bz_f (fun w => q (by omega))] at j41
        refine ⟨ts2, 3005, fun w => absurd w fo.2.2.2.2.2, tP_lx' f2 l2 (by rw [fo.2.1]; omega), fun w => absurd w fo.2.2.2.2.2, ?_⟩
        simp (disch := first | assumption | omega) only [i20, i37, e1, j39, j40, j41, eX4_readUnit_111, e2, bi_add, bi_sub, bi_mul, bi_neg, bi_div, bi_64, bl_add, bl_sub, bl_mul, bl_neg, bl_div, bl_32, bi_min, bi_max, bl_min, bl_max, bq_I, bq_J, bq_A, bq_Vi, bq_Vl, bq_Vr, bq_cV, bq_cI, bq_cJ, bq_cA, bq_le, bq_lt, bq_eq, bq_z, bq_o, bq_ref, bq_nz, bq_nzJ, bq_bl, bq_blz, bq_T, bq_F, if_true, if_false, Int.reduceEq, Int.reduceLT, Int.reduceLE, Int.reduceAdd, Int.reduceSub, Int.reduceMul, Int.add_sub_cancel, li_0, li_1, li_2, li_4, li_20, li_37, li_38, li_39, li_40, li_41, li_111, li_139, li_151, li_3003, li_3004, li_3005, li_3006, li_4005, li_4010, li_4011, li_4012, li_4020, li_4023, li_4025, li_4027, li_4029, ll_0, ll_1, ll_2, ll_4, ll_20, ll_37, ll_38, ll_39, ll_40, ll_41, ll_111, ll_139, ll_151, ga103, ga105, ga119, ga120, ga106, ga107, ga108, ga109, ga110, ga111, ga116, ga118, ga104, ga112, ga114, ga115, ga117, ga113, ga121, gf102_5, gf102_13, gf102_14, gf102_0, gf102_6, gf102_7, gf102_8, gf102_9, gf102_10, gf102_11, gf102_12, gf102_15, gf102_19, gf102_20, gr102_1, gr102_2, gr102_3, gr102_4, gr102_16, gr102_17, gr102_18, gr102_21, gr102_22, gr102_23, gr102_24, gr102_25, gr102_26, gr102_27, gr102_28, gr102_29, gr102_30, gr102_31, gr102_32, pa103, pa105, pa119, pa120, pa106, pa107, pa108, pa109, pa110, pa111, pa116, pa118, pa104, pa112, pa114, pa115, pa117, pa113, pa121, pf102_5, pf102_13, pf102_14, pf102_0, pf102_6, pf102_7, pf102_8, pf102_9, pf102_10, pf102_11, pf102_12, pf102_15, pf102_19, pf102_20, s_within, t_isLost, t_fallen, t_isHurt, t_between, t_isPassage, t_isRoom, t_standNow, t_standsAll, t_isIn, t_noComing, t_noStand, t_bitsOf, u_tens4109, t_draw]
    obtain ⟨ts2, oc, hoc, p2, p2', e2⟩ := mid
    have p12 := tP_tr n0 p1 p2 cm.2.2.1
    have hw2 := tW_p hw p12 (by decide)
    obtain ⟨ts3, p3, e3⟩ := T3 κ X tp tj ts2 tk g n d hw2 (by unfold eN; omega)
    have l11 := p3.2.2.1.2.2.2.2.1
    have s24 := st3.1.2.2.2.2.2.2.2
    have y1 := st3.1.2.1
    have y2 := st3.1.2.2.1
    rw [e2, eX4_readUnit_151]
    by_cases c4 : σ3 4 = 0
    · have z2 := st3.2.2.1 c4
      have pA := tP_tr n0 (tP_tr n0 p1 (p2' z2) cm.2.2.1) p3 st3.2.2.1
      have m1 := pA.2.2.2.2.1
      have m2 := pA.2.2.2.2.2.1
      rw [c4] at l11
      have e4 := t_emit (κ := κ) (X := X) (tp := tp) (tj := tj) (ts := ts3) (tk := tk) (g := g) (n := n) (c := oc) (D := d) hw.1.1 l11 (by omega) (by omega) (by omega)
      have pB := tP_code (c := oc) n0 pA
      rw [hoc z2, List.append_nil] at pB
      rw [hoc z2] at e4
      refine ⟨_, pB, ?_⟩
      rw [hoc z2]
      simp (disch := first | assumption | omega) only [e3, e4, bi_add, bi_sub, bi_mul, bi_neg, bi_div, bi_64, bl_add, bl_sub, bl_mul, bl_neg, bl_div, bl_32, bi_min, bi_max, bl_min, bl_max, bq_I, bq_J, bq_A, bq_Vi, bq_Vl, bq_Vr, bq_cV, bq_cI, bq_cJ, bq_cA, bq_le, bq_lt, bq_eq, bq_z, bq_o, bq_ref, bq_nz, bq_nzJ, bq_bl, bq_blz, bq_T, bq_F, if_true, if_false, Int.reduceEq, Int.reduceLT, Int.reduceLE, Int.reduceAdd, Int.reduceSub, Int.reduceMul, Int.add_sub_cancel, li_0, li_1, li_2, li_4, li_20, li_37, li_38, li_39, li_40, li_41, li_111, li_139, li_151, li_3003, li_3004, li_3005, li_3006, li_4005, li_4010, li_4011, li_4012, li_4020, li_4023, li_4025, li_4027, li_4029, ll_0, ll_1, ll_2, ll_4, ll_20, ll_37, ll_38, ll_39, ll_40, ll_41, ll_111, ll_139, ll_151, ga103, ga105, ga119, ga120, ga106, ga107, ga108, ga109, ga110, ga111, ga116, ga118, ga104, ga112, ga114, ga115, ga117, ga113, ga121, gf102_5, gf102_13, gf102_14, gf102_0, gf102_6, gf102_7, gf102_8, gf102_9, gf102_10, gf102_11, gf102_12, gf102_15, gf102_19, gf102_20, gr102_1, gr102_2, gr102_3, gr102_4, gr102_16, gr102_17, gr102_18, gr102_21, gr102_22, gr102_23, gr102_24, gr102_25, gr102_26, gr102_27, gr102_28, gr102_29, gr102_30, gr102_31, gr102_32, pa103, pa105, pa119, pa120, pa106, pa107, pa108, pa109, pa110, pa111, pa116, pa118, pa104, pa112, pa114, pa115, pa117, pa113, pa121, pf102_5, pf102_13, pf102_14, pf102_0, pf102_6, pf102_7, pf102_8, pf102_9, pf102_10, pf102_11, pf102_12, pf102_15, pf102_19, pf102_20, s_within, t_isLost, t_fallen, t_isHurt, t_between, t_isPassage, t_isRoom, t_standNow, t_standsAll, t_isIn, t_noComing, t_noStand, t_bitsOf, u_tens4109, t_draw]
    · have pA := tP_tr n0 p12 p3 st3.2.2.1
      have e4 := t_emitF (κ := κ) (X := X) (tp := tp) (tj := tj) (ts := ts3) (tk := tk) (g := g) (n := n) (c := oc) (D := d) hw.1.1 l11 c4 s24.1 s24.2 (by omega)
      refine ⟨ts3, tP_any (tP_le pA (by decide)) c4, ?_⟩
      simp (disch := first | assumption | omega) only [e3, e4, bi_add, bi_sub, bi_mul, bi_neg, bi_div, bi_64, bl_add, bl_sub, bl_mul, bl_neg, bl_div, bl_32, bi_min, bi_max, bl_min, bl_max, bq_I, bq_J, bq_A, bq_Vi, bq_Vl, bq_Vr, bq_cV, bq_cI, bq_cJ, bq_cA, bq_le, bq_lt, bq_eq, bq_z, bq_o, bq_ref, bq_nz, bq_nzJ, bq_bl, bq_blz, bq_T, bq_F, if_true, if_false, Int.reduceEq, Int.reduceLT, Int.reduceLE, Int.reduceAdd, Int.reduceSub, Int.reduceMul, Int.add_sub_cancel, li_0, li_1, li_2, li_4, li_20, li_37, li_38, li_39, li_40, li_41, li_111, li_139, li_151, li_3003, li_3004, li_3005, li_3006, li_4005, li_4010, li_4011, li_4012, li_4020, li_4023, li_4025, li_4027, li_4029, ll_0, ll_1, ll_2, ll_4, ll_20, ll_37, ll_38, ll_39, ll_40, ll_41, ll_111, ll_139, ll_151, ga103, ga105, ga119, ga120, ga106, ga107, ga108, ga109, ga110, ga111, ga116, ga118, ga104, ga112, ga114, ga115, ga117, ga113, ga121, gf102_5, gf102_13, gf102_14, gf102_0, gf102_6, gf102_7, gf102_8, gf102_9, gf102_10, gf102_11, gf102_12, gf102_15, gf102_19, gf102_20, gr102_1, gr102_2, gr102_3, gr102_4, gr102_16, gr102_17, gr102_18, gr102_21, gr102_22, gr102_23, gr102_24, gr102_25, gr102_26, gr102_27, gr102_28, gr102_29, gr102_30, gr102_31, gr102_32, pa103, pa105, pa119, pa120, pa106, pa107, pa108, pa109, pa110, pa111, pa116, pa118, pa104, pa112, pa114, pa115, pa117, pa113, pa121, pf102_5, pf102_13, pf102_14, pf102_0, pf102_6, pf102_7, pf102_8, pf102_9, pf102_10, pf102_11, pf102_12, pf102_15, pf102_19, pf102_20, s_within, t_isLost, t_fallen, t_isHurt, t_between, t_isPassage, t_isRoom, t_standNow, t_standsAll, t_isIn, t_noComing, t_noStand, t_bitsOf, u_tens4109, t_draw]
end UN
