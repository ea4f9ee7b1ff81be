/-! SPECS: the two parsers side by side: a passage's line -/
set_option maxRecDepth 100000
theorem lawR_ext2 {g : bG} {rd : Nat} {A A' : Int → Int} {l : Int} {k : Nat} {tr : Bool} {W : Int} (h : lawR g rd A l k tr W) (l0 : l = 0 ∨ l = 1) (hA : ∀ k, k ≠ 2 → A' k = A k) : lawR g rd A' l k tr W := by
  unfold lawR
  rw [hA (4 + l) (by omega), hA (6 + l) (by omega), hA (8 + l) (by omega), hA 98 (by decide)]
  rcases h with h | ⟨a1, a2, a3, a4, x, d, x0, d9, gx, t, wf⟩
  · exact Or.inl h
  · have em := mL_ext (A := A) (A' := A') (l := l) (hA _ (by omega)) (hA _ (by omega)) (fun k k0 k1 => hA k (by omega))
    exact Or.inr ⟨a1, a2, a3, a4, x, d, x0, d9, gx, by rw [em]; exact t, by rw [em]; exact wf⟩
section PA
variable {κ : Nat → Nat} {cp cs0 : bF} {cj : bFJ} {Y : bY} {g : bG} {n : Nat × Nat} {rd : Nat} {F F' : bF} {κ2 : Nat → Nat} {X2 : bX} {tp ts ts' : bF} {tj tk : bFJ} {g2 : bG} {n2 : Nat × Nat} {b σ σ' : Int → Int} {sz p : Int} {d d2 : Nat}
/-- the parts of a passage, one after another, and its end -/
theorem sim_parts {z1 z2 R : Int} (p0 : 0 ≤ p) (p1 : p < 8) (hD : 11 ≤ d) (hD2 : 11 ≤ d2) : ∀ (m : Nat) (σ : Int → Int) (F ts : bF), cV cp g n rd F b sz σ → tV tp ts g2 b sz σ → okL b sz σ → (sz - σ 0).toNat < m
    → (σ 4 = 0 → cvR g rd F (ts 106) ∧ ts 106 (10 + p) = z1 ∧ ts 106 (18 + p) = z2 ∧ ts 106 2 = p ∧ ts 106 1 = R ∧ 0 ≤ z1 ∧ z1 < R ∧ 0 ≤ z2 ∧ z2 < R ∧ z1 ≠ z2)
    → ∃ σ' F' ts', stepL b sz σ σ' ∧ cFr rd F F' ∧ tFr ts ts' ∧ cLx F' rd σ' ∧ tLx ts' σ' ∧ ts' 106 98 = ts 106 98 ∧ (σ' 4 = 0 → cvR g rd F' (ts' 106)) ∧ bk_den TX5_passage (bk_call d) 82 [.ref rd, .int (bk_i p), .int (bk_i z1), .int (bk_i z2)] [] (bk_Q rd F (bk_M κ (cp, cs0, cj) Y g n)) = some (none, (bk_Q rd F' (bk_M κ (cp, cs0, cj) Y g n))) ∧ bk_den TX4_readPassage (bk_call d2) 104 [.ref 102, .int (bk_i p)] [] (bk_M κ2 X2 (tp, tj, ts, tk) g2 n2) = some (none, (bk_M κ2 X2 (tp, tj, ts', tk) g2 n2)) := by
  intro m
  induction m with
  | zero => intro σ F ts hv ht ok hm; omega
  | succ m ih =>
    intro σ F ts hv ht ok hm hI
    have hrp := pw_rd (κ := κ) hv.1
    obtain ⟨t10, t1, tb, te, td, t3, tt⟩ := hrp
    have hF2 := ht.1.1
    have l6 := hv.2.2.1.2.2.2.2.1
    have l11 := ht.2.2.1.2.2.2.2.1
    have s24 := ok.2.2.2.2.2.2.2
    by_cases q4 : σ 4 = 0
    · obtain ⟨hR, i1, i2, i3, i4, y1, y2, y3, y4, y5⟩ := hI q4
      rcases sim_part (κ := κ) (cs0 := cs0) (cj := cj) (Y := Y) (κ2 := κ2) (X2 := X2) (tj := tj) (tk := tk) (n2 := n2) hv ht ok q4 hR p0 p1 (by omega) hD hD2 with ⟨σ', F', ts', st, lt, cf, tf, cl, tl, k5, k4, kb, ke, kk, rel, eC, eT⟩ | ⟨eC, ts', tf, tl, eT⟩
      · have e98 : ts' 106 98 = ts 106 98 := kk 98 (by omega) (by omega) (by omega)
        have st2 := st.1.2.1
        have st3 := st.1.2.2.1
        obtain ⟨σ2, F2, ts2, w1, w2, w3, w4, w5, w6, w7, w8, w9⟩ := ih σ' F' ts' (cV_lx hv cf cl) (tV_lx ht tf tl e98 (by omega)) st.1 (by omega) (fun z => ⟨rel z, by rw [kk _ (by omega) (by omega) (by omega)]; exact i1, by rw [kk _ (by omega) (by omega) (by omega)]; exact i2, by rw [kk _ (by omega) (by omega) (by omega)]; exact i3, by rw [kk _ (by omega) (by omega) (by omega)]; exact i4, y1, y2, y3, y4, y5⟩)
        have c6 := cl.2.2.2.2.1
        have s24' := st.1.2.2.2.2.2.2.2
        by_cases z4 : σ' 4 = 0
        · refine ⟨σ2, F2, ts2, stepL_tr st w1, cFr_tr cf w2, tFr_tr tf w3, w4, w5, w6.trans e98, w7, ?_, ?_⟩
          · rw [eX5_passage_82]
            simp (disch := first | assumption | omega) only [eC, c6, if_pos z4, bi_add, bi_sub, bi_mul, bi_neg, bi_div, bi_64, bl_add, bl_sub, bl_mul, bl_neg, bl_div, bl_32, bi_min, bi_max, bl_min, bl_max, bq_I, bq_J, bq_A, bq_Vi, bq_Vl, bq_Vr, bq_cV, bq_cI, bq_cJ, bq_cA, bq_le, bq_lt, bq_eq, bq_z, bq_o, bq_ref, bq_nz, bq_nzJ, bq_bl, bq_blz, bq_T, bq_F, if_true, if_false, Int.reduceEq, Int.reduceLT, Int.reduceLE, Int.reduceAdd, Int.reduceSub, Int.reduceMul, Int.add_sub_cancel, li_0, li_1, li_2, li_3, li_4, li_5, li_6, li_8, li_17, li_28, li_77, li_82, li_100, ll_0, ll_1, ll_2, ll_3, ll_4, ll_5, ll_6, ll_8, ll_17, ll_28, ll_77, ll_82, ll_100, q5_0, w5_0, q5_2, w5_2, q5_3, w5_3, q5_4, w5_4, q5_5, w5_5, q5_6, w5_6, q5_7, w5_7, q5_8, w5_8, q5_9, w5_9, q1_4, w1_4, q1_5, w1_5, q1_6, w1_6, q1_7, w1_7, q1_8, w1_8, q1_9, w1_9, q1_10, w1_10, q1_11, w1_11, q1_12, w1_12, qa_2, wa_2, qa_3, wa_3, qa_4, wa_4, bU_same, bU_ne, s_in]
            exact w8
          · rw [bz_t z4] at eT
            rw [eX4_readPassage_104]
            simp (disch := first | assumption | omega) only [l11, if_pos q4, eT, bi_add, bi_sub, bi_mul, bi_neg, bi_div, bi_64, bl_add, bl_sub, bl_mul, bl_neg, bl_div, bl_32, bi_min, bi_max, bl_min, bl_max, bq_I, bq_J, bq_A, bq_Vi, bq_Vl, bq_Vr, bq_cV, bq_cI, bq_cJ, bq_cA, bq_le, bq_lt, bq_eq, bq_z, bq_o, bq_ref, bq_nz, bq_nzJ, bq_bl, bq_blz, bq_T, bq_F, if_true, if_false, Int.reduceEq, Int.reduceLT, Int.reduceLE, Int.reduceAdd, Int.reduceSub, Int.reduceMul, Int.add_sub_cancel, li_0, li_1, li_2, li_3, li_4, li_8, li_10, li_11, li_18, li_23, li_82, li_100, li_104, li_122, li_4005, li_4011, li_4012, li_4013, li_4016, li_4017, ll_0, ll_1, ll_2, ll_3, ll_4, ll_8, ll_10, ll_11, ll_18, ll_23, ll_82, ll_100, ll_104, ll_122, ga103, ga105, ga119, ga120, ga106, ga107, ga108, ga109, ga110, ga111, ga116, ga118, ga104, ga112, ga114, ga115, ga117, ga113, ga121, gf102_5, gf102_13, gf102_14, gf102_0, gf102_6, gf102_7, gf102_8, gf102_9, gf102_10, gf102_11, gf102_12, gf102_15, gf102_19, gf102_20, gr102_1, gr102_2, gr102_3, gr102_4, gr102_16, gr102_17, gr102_18, gr102_21, gr102_22, gr102_23, gr102_24, gr102_25, gr102_26, gr102_27, gr102_28, gr102_29, gr102_30, gr102_31, gr102_32, pa103, pa105, pa119, pa120, pa106, pa107, pa108, pa109, pa110, pa111, pa116, pa118, pa104, pa112, pa114, pa115, pa117, pa113, pa121, pf102_5, pf102_13, pf102_14, pf102_0, pf102_6, pf102_7, pf102_8, pf102_9, pf102_10, pf102_11, pf102_12, pf102_15, pf102_19, pf102_20, s_within, t_isLost, t_fallen, t_isHurt, t_between, t_isPassage, t_isRoom, t_standNow, t_standsAll, t_isIn, t_noComing, t_noStand, t_bitsOf, u_tens4109, t_draw]
            exact w9
        · refine ⟨σ', F', ts', st, cf, tf, cl, tl, e98, fun z => absurd z z4, ?_, ?_⟩
          · rw [eX5_passage_82]
            simp (disch := first | assumption | omega) only [eC, c6, if_neg z4, bi_add, bi_sub, bi_mul, bi_neg, bi_div, bi_64, bl_add, bl_sub, bl_mul, bl_neg, bl_div, bl_32, bi_min, bi_max, bl_min, bl_max, bq_I, bq_J, bq_A, bq_Vi, bq_Vl, bq_Vr, bq_cV, bq_cI, bq_cJ, bq_cA, bq_le, bq_lt, bq_eq, bq_z, bq_o, bq_ref, bq_nz, bq_nzJ, bq_bl, bq_blz, bq_T, bq_F, if_true, if_false, Int.reduceEq, Int.reduceLT, Int.reduceLE, Int.reduceAdd, Int.reduceSub, Int.reduceMul, Int.add_sub_cancel, li_0, li_1, li_2, li_3, li_4, li_5, li_6, li_8, li_17, li_28, li_77, li_82, li_100, ll_0, ll_1, ll_2, ll_3, ll_4, ll_5, ll_6, ll_8, ll_17, ll_28, ll_77, ll_82, ll_100, q5_0, w5_0, q5_2, w5_2, q5_3, w5_3, q5_4, w5_4, q5_5, w5_5, q5_6, w5_6, q5_7, w5_7, q5_8, w5_8, q5_9, w5_9, q1_4, w1_4, q1_5, w1_5, q1_6, w1_6, q1_7, w1_7, q1_8, w1_8, q1_9, w1_9, q1_10, w1_10, q1_11, w1_11, q1_12, w1_12, qa_2, wa_2, qa_3, wa_3, qa_4, wa_4, bU_same, bU_ne, s_in]
          · have t11 := tl.2.2.2.2.1
            rw [bz_f z4] at eT
            rw [eX4_readPassage_104]
            simp (disch := first | assumption | omega) only [l11, if_pos q4, eT, eX4_readPassage_122, t11, if_neg z4, bi_add, bi_sub, bi_mul, bi_neg, bi_div, bi_64, bl_add, bl_sub, bl_mul, bl_neg, bl_div, bl_32, bi_min, bi_max, bl_min, bl_max, bq_I, bq_J, bq_A, bq_Vi, bq_Vl, bq_Vr, bq_cV, bq_cI, bq_cJ, bq_cA, bq_le, bq_lt, bq_eq, bq_z, bq_o, bq_ref, bq_nz, bq_nzJ, bq_bl, bq_blz, bq_T, bq_F, if_true, if_false, Int.reduceEq, Int.reduceLT, Int.reduceLE, Int.reduceAdd, Int.reduceSub, Int.reduceMul, Int.add_sub_cancel, li_0, li_1, li_2, li_3, li_4, li_8, li_10, li_11, li_18, li_23, li_82, li_100, li_104, li_122, li_4005, li_4011, li_4012, li_4013, li_4016, li_4017, ll_0, ll_1, ll_2, ll_3, ll_4, ll_8, ll_10, ll_11, ll_18, ll_23, ll_82, ll_100, ll_104, ll_122, ga103, ga105, ga119, ga120, ga106, ga107, ga108, ga109, ga110, ga111, ga116, ga118, ga104, ga112, ga114, ga115, ga117, ga113, ga121, gf102_5, gf102_13, gf102_14, gf102_0, gf102_6, gf102_7, gf102_8, gf102_9, gf102_10, gf102_11, gf102_12, gf102_15, gf102_19, gf102_20, gr102_1, gr102_2, gr102_3, gr102_4, gr102_16, gr102_17, gr102_18, gr102_21, gr102_22, gr102_23, gr102_24, gr102_25, gr102_26, gr102_27, gr102_28, gr102_29, gr102_30, gr102_31, gr102_32, pa103, pa105, pa119, pa120, pa106, pa107, pa108, pa109, pa110, pa111, pa116, pa118, pa104, pa112, pa114, pa115, pa117, pa113, pa121, pf102_5, pf102_13, pf102_14, pf102_0, pf102_6, pf102_7, pf102_8, pf102_9, pf102_10, pf102_11, pf102_12, pf102_15, pf102_19, pf102_20, s_within, t_isLost, t_fallen, t_isHurt, t_between, t_isPassage, t_isRoom, t_standNow, t_standsAll, t_isIn, t_noComing, t_noStand, t_bitsOf, u_tens4109, t_draw]
      · have e106 := ts_lx tf
        have t11 := tl.2.2.2.2.1
        have n98 := ht.2.2.2.1
        obtain ⟨r1, r2, r3, r4, r5, r6⟩ := hR
        have f5 : F (rd + 1) 5 = p := by rw [r1.2.1]; exact i3
        have a2 : ts' 106 2 = p := by rw [e106]; exact i3
        refine ⟨σ, bU (bU (bU F (rd + 2) p z1) (rd + 3) p z2) (rd + 1) 5 (p + 1), bU ts' 106 2 (p + 1), stepL_rf ok, cFr_tr (cFr_tr (cFr_U (by omega)) (cFr_U (by omega))) (cFr_U (by omega)), tFr_tr (tFr_of tf) tFr_U, cLx_U (cLx_U (cLx_U hv.2.2.1 (by omega)) (by omega)) (by omega), tLx_U tl, by rw [bU_same, if_neg (by decide), e106], fun _ => ?_, ?_, ?_⟩
        · rw [bU_106, e106]
          have eA : ∀ k, k ≠ 2 → fU (ts 106) 2 (p + 1) k = ts 106 k := fun k q => fU_ne q
          have eF : ∀ k, k ≠ 5 → bU (bU (bU F (rd + 2) p z1) (rd + 3) p z2) (rd + 1) 5 (p + 1) (rd + 1) k = F (rd + 1) k := fun k q => by rw [bU_same, if_neg q, bU_ne _ _ _ _ _ _ (by omega), bU_ne _ _ _ _ _ _ (by omega)]
          have eF5 : bU (bU (bU F (rd + 2) p z1) (rd + 3) p z2) (rd + 1) 5 (p + 1) (rd + 1) 5 = p + 1 := by rw [bU_same, if_pos rfl]
          have eF4 : bU (bU (bU F (rd + 2) p z1) (rd + 3) p z2) (rd + 1) 5 (p + 1) (rd + 4) = F (rd + 4) := by funext k; rw [bU_ne _ _ _ _ _ _ (by omega), bU_ne _ _ _ _ _ _ (by omega), bU_ne _ _ _ _ _ _ (by omega)]
          have eF2 : ∀ k, bU (bU (bU F (rd + 2) p z1) (rd + 3) p z2) (rd + 1) 5 (p + 1) (rd + 2) k = if k = p then z1 else F (rd + 2) k := fun k => by rw [bU_ne _ _ _ _ _ _ (by omega), bU_ne _ _ _ _ _ _ (by omega), bU_same]
          have eF3 : ∀ k, bU (bU (bU F (rd + 2) p z1) (rd + 3) p z2) (rd + 1) 5 (p + 1) (rd + 3) k = if k = p then z2 else F (rd + 3) k := fun k => by rw [bU_ne _ _ _ _ _ _ (by omega), bU_same, bU_ne _ _ _ _ _ _ (by omega)]
          unfold cvR
          rw [eF5, eF4, fU_same, eF 4 (by decide), eF 6 (by decide), eF 7 (by decide), eF 8 (by decide), eF 9 (by decide), eF 10 (by decide), eF 11 (by decide), eF 12 (by decide), eA 0 (by omega), eA 1 (by omega), eA 3 (by omega), eA 42 (by omega), eA 43 (by omega), eA 44 (by omega), eA 45 (by omega), eA 46 (by omega), eA 47 (by omega)]
          refine ⟨⟨r1.1, rfl, r1.2.2⟩, fun i i0 i1' => ?_, fun i i0 i1' => by rw [eA (26 + i) (by omega), eA (34 + i) (by omega)]; exact r3 i i0 i1', by omega, ?_, ?_⟩
          · rw [eF2, eF3, eA (10 + i) (by omega), eA (18 + i) (by omega)]
            by_cases w : i = p
            · subst w
              rw [if_pos rfl, if_pos rfl, i1, i2, i4]
              exact ⟨rfl, rfl, y1, y2, y3, y4, y5⟩
            · rw [if_neg w, if_neg w]
              exact r2 i i0 (by omega)
          · exact lawR_ext2 r5 (Or.inl rfl) (fun k k2 => eA k k2)
          · exact lawR_ext2 r6 (Or.inr rfl) (fun k k2 => eA k k2)
        · have f5' : bU (bU F (rd + 2) p z1) (rd + 3) p z2 (rd + 1) 5 = p := by rw [bU_ne _ _ _ _ _ _ (by omega), bU_ne _ _ _ _ _ _ (by omega)]; exact f5
          rw [eX5_passage_82]
          simp (disch := first | assumption | omega) only [t10, t1, tb, te, td, t3, tt, eC, l6, if_pos q4, f5', bi_add, bi_sub, bi_mul, bi_neg, bi_div, bi_64, bl_add, bl_sub, bl_mul, bl_neg, bl_div, bl_32, bi_min, bi_max, bl_min, bl_max, bq_I, bq_J, bq_A, bq_Vi, bq_Vl, bq_Vr, bq_cV, bq_cI, bq_cJ, bq_cA, bq_le, bq_lt, bq_eq, bq_z, bq_o, bq_ref, bq_nz, bq_nzJ, bq_bl, bq_blz, bq_T, bq_F, if_true, if_false, Int.reduceEq, Int.reduceLT, Int.reduceLE, Int.reduceAdd, Int.reduceSub, Int.reduceMul, Int.add_sub_cancel, li_0, li_1, li_2, li_3, li_4, li_5, li_6, li_8, li_17, li_28, li_77, li_82, li_100, ll_0, ll_1, ll_2, ll_3, ll_4, ll_5, ll_6, ll_8, ll_17, ll_28, ll_77, ll_82, ll_100, q5_0, w5_0, q5_2, w5_2, q5_3, w5_3, q5_4, w5_4, q5_5, w5_5, q5_6, w5_6, q5_7, w5_7, q5_8, w5_8, q5_9, w5_9, q1_4, w1_4, q1_5, w1_5, q1_6, w1_6, q1_7, w1_7, q1_8, w1_8, q1_9, w1_9, q1_10, w1_10, q1_11, w1_11, q1_12, w1_12, qa_2, wa_2, qa_3, wa_3, qa_4, wa_4, bU_same, bU_ne, s_in]
        · rw [eX4_readPassage_104]
          simp (disch := first | assumption | omega) only [l11, if_pos q4, eT, eX4_readPassage_122, t11, a2, bi_add, bi_sub, bi_mul, bi_neg, bi_div, bi_64, bl_add, bl_sub, bl_mul, bl_neg, bl_div, bl_32, bi_min, bi_max, bl_min, bl_max, bq_I, bq_J, bq_A, bq_Vi, bq_Vl, bq_Vr, bq_cV, bq_cI, bq_cJ, bq_cA, bq_le, bq_lt, bq_eq, bq_z, bq_o, bq_ref, bq_nz, bq_nzJ, bq_bl, bq_blz, bq_T, bq_F, if_true, if_false, Int.reduceEq, Int.reduceLT, Int.reduceLE, Int.reduceAdd, Int.reduceSub, Int.reduceMul, Int.add_sub_cancel, li_0, li_1, li_2, li_3, li_4, li_8, li_10, li_11, li_18, li_23, li_82, li_100, li_104, li_122, li_4005, li_4011, li_4012, li_4013, li_4016, li_4017, ll_0, ll_1, ll_2, ll_3, ll_4, ll_8, ll_10, ll_11, ll_18, ll_23, ll_82, ll_100, ll_104, ll_122, ga103, ga105, ga119, ga120, ga106, ga107, ga108, ga109, ga110, ga111, ga116, ga118, ga104, ga112, ga114, ga115, ga117, ga113, ga121, gf102_5, gf102_13, gf102_14, gf102_0, gf102_6, gf102_7, gf102_8, gf102_9, gf102_10, gf102_11, gf102_12, gf102_15, gf102_19, gf102_20, gr102_1, gr102_2, gr102_3, gr102_4, gr102_16, gr102_17, gr102_18, gr102_21, gr102_22, gr102_23, gr102_24, gr102_25, gr102_26, gr102_27, gr102_28, gr102_29, gr102_30, gr102_31, gr102_32, pa103, pa105, pa119, pa120, pa106, pa107, pa108, pa109, pa110, pa111, pa116, pa118, pa104, pa112, pa114, pa115, pa117, pa113, pa121, pf102_5, pf102_13, pf102_14, pf102_0, pf102_6, pf102_7, pf102_8, pf102_9, pf102_10, pf102_11, pf102_12, pf102_15, pf102_19, pf102_20, s_within, t_isLost, t_fallen, t_isHurt, t_between, t_isPassage, t_isRoom, t_standNow, t_standsAll, t_isIn, t_noComing, t_noStand, t_bitsOf, u_tens4109, t_draw]
    · refine ⟨σ, F, ts, stepL_rf ok, cFr_rf rd F, tFr_rf ts, hv.2.2.1, ht.2.2.1, rfl, fun z => absurd z q4, ?_, ?_⟩
      · obtain ⟨d1, rfl⟩ := dep (show 1 ≤ d by omega)
        have n3 := q_takesN (κ := κ) (cs := cs0) (cj := cj) (Y := Y) (D := d1) hv.1 hv.2.1 hv.2.2.1 ok kO10 (show 12 = 2 + 10 from rfl) (fun w => q4 w.1) (by omega)
        have n4 := q_takesN (κ := κ) (cs := cs0) (cj := cj) (Y := Y) (D := d1) hv.1 hv.2.1 hv.2.2.1 ok kO11 (show 13 = 2 + 11 from rfl) (fun w => q4 w.1) (by omega)
        have n5 := q_takesN (κ := κ) (cs := cs0) (cj := cj) (Y := Y) (D := d1) hv.1 hv.2.1 hv.2.2.1 ok kO12 (show 14 = 2 + 12 from rfl) (fun w => q4 w.1) (by omega)
        have eC : bk_call (d1 + 1) 5016 [.ref rd, .int (bk_i p)] (bk_Q rd F (bk_M κ (cp, cs0, cj) Y g n)) = some (some (.int (bk_i 0)), (bk_Q rd F (bk_M κ (cp, cs0, cj) Y g n))) := by
          rw [kX5_part, eX5_part_0]
          simp (disch := first | assumption | omega) only [n3, n4, n5, bi_add, bi_sub, bi_mul, bi_neg, bi_div, bi_64, bl_add, bl_sub, bl_mul, bl_neg, bl_div, bl_32, bi_min, bi_max, bl_min, bl_max, bq_I, bq_J, bq_A, bq_Vi, bq_Vl, bq_Vr, bq_cV, bq_cI, bq_cJ, bq_cA, bq_le, bq_lt, bq_eq, bq_z, bq_o, bq_ref, bq_nz, bq_nzJ, bq_bl, bq_blz, bq_T, bq_F, if_true, if_false, Int.reduceEq, Int.reduceLT, Int.reduceLE, Int.reduceAdd, Int.reduceSub, Int.reduceMul, Int.add_sub_cancel, li_0, li_1, li_2, li_5, li_6, li_7, li_9, li_12, li_13, li_14, li_31, li_100, ll_0, ll_1, ll_2, ll_5, ll_6, ll_7, ll_9, ll_12, ll_13, ll_14, ll_31, ll_100, q5_0, w5_0, q5_2, w5_2, q5_3, w5_3, q5_4, w5_4, q5_5, w5_5, q5_6, w5_6, q5_7, w5_7, q5_8, w5_8, q5_9, w5_9, q1_4, w1_4, q1_5, w1_5, q1_6, w1_6, q1_7, w1_7, q1_8, w1_8, q1_9, w1_9, q1_10, w1_10, q1_11, w1_11, q1_12, w1_12, qa_2, wa_2, qa_3, wa_3, qa_4, wa_4, bU_same, bU_ne, s_in]
        rw [eX5_passage_82]
        simp (disch := first | assumption | omega) only [eC, l6, if_neg q4, bi_add, bi_sub, bi_mul, bi_neg, bi_div, bi_64, bl_add, bl_sub, bl_mul, bl_neg, bl_div, bl_32, bi_min, bi_max, bl_min, bl_max, bq_I, bq_J, bq_A, bq_Vi, bq_Vl, bq_Vr, bq_cV, bq_cI, bq_cJ, bq_cA, bq_le, bq_lt, bq_eq, bq_z, bq_o, bq_ref, bq_nz, bq_nzJ, bq_bl, bq_blz, bq_T, bq_F, if_true, if_false, Int.reduceEq, Int.reduceLT, Int.reduceLE, Int.reduceAdd, Int.reduceSub, Int.reduceMul, Int.add_sub_cancel, li_0, li_1, li_2, li_3, li_4, li_5, li_6, li_8, li_17, li_28, li_77, li_82, li_100, ll_0, ll_1, ll_2, ll_3, ll_4, ll_5, ll_6, ll_8, ll_17, ll_28, ll_77, ll_82, ll_100, q5_0, w5_0, q5_2, w5_2, q5_3, w5_3, q5_4, w5_4, q5_5, w5_5, q5_6, w5_6, q5_7, w5_7, q5_8, w5_8, q5_9, w5_9, q1_4, w1_4, q1_5, w1_5, q1_6, w1_6, q1_7, w1_7, q1_8, w1_8, q1_9, w1_9, q1_10, w1_10, q1_11, w1_11, q1_12, w1_12, qa_2, wa_2, qa_3, wa_3, qa_4, wa_4, bU_same, bU_ne, s_in]
      · rw [eX4_readPassage_104]
        simp (disch := first | assumption | omega) only [l11, if_neg q4, eX4_readPassage_122, bi_add, bi_sub, bi_mul, bi_neg, bi_div, bi_64, bl_add, bl_sub, bl_mul, bl_neg, bl_div, bl_32, bi_min, bi_max, bl_min, bl_max, bq_I, bq_J, bq_A, bq_Vi, bq_Vl, bq_Vr, bq_cV, bq_cI, bq_cJ, bq_cA, bq_le, bq_lt, bq_eq, bq_z, bq_o, bq_ref, bq_nz, bq_nzJ, bq_bl, bq_blz, bq_T, bq_F, if_true, if_false, Int.reduceEq, Int.reduceLT, Int.reduceLE, Int.reduceAdd, Int.reduceSub, Int.reduceMul, Int.add_sub_cancel, li_0, li_1, li_2, li_3, li_4, li_8, li_10, li_11, li_18, li_23, li_82, li_100, li_104, li_122, li_4005, li_4011, li_4012, li_4013, li_4016, li_4017, ll_0, ll_1, ll_2, ll_3, ll_4, ll_8, ll_10, ll_11, ll_18, ll_23, ll_82, ll_100, ll_104, ll_122, ga103, ga105, ga119, ga120, ga106, ga107, ga108, ga109, ga110, ga111, ga116, ga118, ga104, ga112, ga114, ga115, ga117, ga113, ga121, gf102_5, gf102_13, gf102_14, gf102_0, gf102_6, gf102_7, gf102_8, gf102_9, gf102_10, gf102_11, gf102_12, gf102_15, gf102_19, gf102_20, gr102_1, gr102_2, gr102_3, gr102_4, gr102_16, gr102_17, gr102_18, gr102_21, gr102_22, gr102_23, gr102_24, gr102_25, gr102_26, gr102_27, gr102_28, gr102_29, gr102_30, gr102_31, gr102_32, pa103, pa105, pa119, pa120, pa106, pa107, pa108, pa109, pa110, pa111, pa116, pa118, pa104, pa112, pa114, pa115, pa117, pa113, pa121, pf102_5, pf102_13, pf102_14, pf102_0, pf102_6, pf102_7, pf102_8, pf102_9, pf102_10, pf102_11, pf102_12, pf102_15, pf102_19, pf102_20, s_within, t_isLost, t_fallen, t_isHurt, t_between, t_isPassage, t_isRoom, t_standNow, t_standsAll, t_isIn, t_noComing, t_noStand, t_bitsOf, u_tens4109, t_draw]
/-- the second room is not the first -/
def eqM (z : Int) (σ : Int → Int) : Int → Int := if σ 4 = 0 ∧ σ 2 = 23 ∧ σ 3 = z then failM 3 σ else σ
theorem eqM_st {z : Int} (h : okL b sz σ) : stepL b sz σ (eqM z σ) := by
  unfold eqM
  by_cases q : σ 4 = 0 ∧ σ 2 = 23 ∧ σ 3 = z
  · rw [if_pos q]; exact failM_st h (by decide) (by decide)
  · rw [if_neg q]; exact stepL_rf h
theorem eqM_0 {z : Int} (h : okL b sz σ) (h0 : eqM z σ 4 = 0) : eqM z σ = σ ∧ (σ 2 = 23 → σ 3 ≠ z) := by
  unfold eqM at h0 ⊢
  by_cases q : σ 4 = 0 ∧ σ 2 = 23 ∧ σ 3 = z
  · rw [if_pos q] at h0
    exact absurd h0 (failM_ok h (by decide) (by decide)).2.2.2.2.2
  · rw [if_neg q] at h0 ⊢
    exact ⟨rfl, fun a c => q ⟨h0, a, c⟩⟩
theorem sim_passage (hv : cV cp g n rd F b sz σ) (ht : tV tp ts g2 b sz σ) (ok : okL b sz σ) (q4 : σ 4 = 0) (q2 : σ 2 = 2) (hR : cvR g rd F (ts 106)) (hD : 13 ≤ d) (hD2 : 13 ≤ d2) : ∃ σ' F' ts', stepL b sz σ σ' ∧ cFr rd F F' ∧ tFr ts ts' ∧ cLx F' rd σ' ∧ tLx ts' σ' ∧ ts' 106 98 = ts 106 98 ∧ (σ' 4 = 0 → cvR g rd F' (ts' 106)) ∧ bk_call d 5014 [.ref rd] (bk_Q rd F (bk_M κ (cp, cs0, cj) Y g n)) = some (none, (bk_Q rd F' (bk_M κ (cp, cs0, cj) Y g n))) ∧ bk_call d2 4016 [.ref 102] (bk_M κ2 X2 (tp, tj, ts, tk) g2 n2) = some (none, (bk_M κ2 X2 (tp, tj, ts', tk) g2 n2)) := by
  obtain ⟨d, rfl⟩ := dep (show 1 ≤ d by omega)
  obtain ⟨d2, rfl⟩ := dep (show 1 ≤ d2 by omega)
  have hrp := pw_rd (κ := κ) hv.1
  obtain ⟨t10, t1, tb, te, td, t3, tt⟩ := hrp
  have hF2 := ht.1.1
  have l6 := hv.2.2.1.2.2.2.2.1
  have l11 := ht.2.2.1.2.2.2.2.1
  have n98 := ht.2.2.2.1
  have hR' := hR
  obtain ⟨r1, r2, r3, r4, r5, r6⟩ := hR'
  have f5 : F (rd + 1) 5 = ts 106 2 := r1.2.1
  have f4 : F (rd + 1) 4 = ts 106 1 := r1.1
  rw [kX5_passage, eX5_passage_0, kX4_readPassage, eX4_readPassage_0]
  by_cases q8 : ts 106 2 = 8
  · obtain ⟨F1, f1, l1, e1⟩ := q_wrong (κ := κ) (cp := cp) (cs := cs0) (cj := cj) (Y := Y) (g := g) (n := n) (D := d) (f := 4) hv.2.2.1 ok (by omega)
    obtain ⟨ts1, g1', m1, u1⟩ := t_fails (κ := κ2) (X := X2) (tp := tp) (tj := tj) (tk := tk) (g := g2) (n := n2) (D := d2) (f := 4) ht.2.2.1 ok (by omega)
    have fo := failM_ok ok (f := 4) (by decide) (by decide)
    have n6 : ¬ failM 4 σ 4 = 0 := fo.2.2.2.2.2
    have c6 := l1.2.2.2.2.1
    have t11 := m1.2.2.2.2.1
    have b6 := fo.1.2.2.2.2.2.2.2
    refine ⟨failM 4 σ, F1, ts1, failM_st ok (by decide) (by decide), cFr_of f1, tFr_of g1', l1, m1, by rw [ts_lx g1'], fun z => absurd z n6, ?_, ?_⟩
    · simp (disch := first | assumption | omega) only [t10, t1, tb, te, td, t3, tt, f5, if_pos q8, e1, eX5_passage_17, c6, if_neg n6, eX5_passage_28, bi_add, bi_sub, bi_mul, bi_neg, bi_div, bi_64, bl_add, bl_sub, bl_mul, bl_neg, bl_div, bl_32, bi_min, bi_max, bl_min, bl_max, bq_I, bq_J, bq_A, bq_Vi, bq_Vl, bq_Vr, bq_cV, bq_cI, bq_cJ, bq_cA, bq_le, bq_lt, bq_eq, bq_z, bq_o, bq_ref, bq_nz, bq_nzJ, bq_bl, bq_blz, bq_T, bq_F, if_true, if_false, Int.reduceEq, Int.reduceLT, Int.reduceLE, Int.reduceAdd, Int.reduceSub, Int.reduceMul, Int.add_sub_cancel, li_0, li_1, li_2, li_3, li_4, li_5, li_6, li_8, li_17, li_28, li_77, li_82, li_100, ll_0, ll_1, ll_2, ll_3, ll_4, ll_5, ll_6, ll_8, ll_17, ll_28, ll_77, ll_82, ll_100, q5_0, w5_0, q5_2, w5_2, q5_3, w5_3, q5_4, w5_4, q5_5, w5_5, q5_6, w5_6, q5_7, w5_7, q5_8, w5_8, q5_9, w5_9, q1_4, w1_4, q1_5, w1_5, q1_6, w1_6, q1_7, w1_7, q1_8, w1_8, q1_9, w1_9, q1_10, w1_10, q1_11, w1_11, q1_12, w1_12, qa_2, wa_2, qa_3, wa_3, qa_4, wa_4, bU_same, bU_ne, s_in]
    · simp (disch := first | assumption | omega) only [if_pos q8, u1, eX4_readPassage_18, t11, if_neg n6, bi_add, bi_sub, bi_mul, bi_neg, bi_div, bi_64, bl_add, bl_sub, bl_mul, bl_neg, bl_div, bl_32, bi_min, bi_max, bl_min, bl_max, bq_I, bq_J, bq_A, bq_Vi, bq_Vl, bq_Vr, bq_cV, bq_cI, bq_cJ, bq_cA, bq_le, bq_lt, bq_eq, bq_z, bq_o, bq_ref, bq_nz, bq_nzJ, bq_bl, bq_blz, bq_T, bq_F, if_true, if_false, Int.reduceEq, Int.reduceLT, Int.reduceLE, Int.reduceAdd, Int.reduceSub, Int.reduceMul, Int.add_sub_cancel, li_0, li_1, li_2, li_3, li_4, li_8, li_10, li_11, li_18, li_23, li_82, li_100, li_104, li_122, li_4005, li_4011, li_4012, li_4013, li_4016, li_4017, ll_0, ll_1, ll_2, ll_3, ll_4, ll_8, ll_10, ll_11, ll_18, ll_23, ll_82, ll_100, ll_104, ll_122, ga103, ga105, ga119, ga120, ga106, ga107, ga108, ga109, ga110, ga111, ga116, ga118, ga104, ga112, ga114, ga115, ga117, ga113, ga121, gf102_5, gf102_13, gf102_14, gf102_0, gf102_6, gf102_7, gf102_8, gf102_9, gf102_10, gf102_11, gf102_12, gf102_15, gf102_19, gf102_20, gr102_1, gr102_2, gr102_3, gr102_4, gr102_16, gr102_17, gr102_18, gr102_21, gr102_22, gr102_23, gr102_24, gr102_25, gr102_26, gr102_27, gr102_28, gr102_29, gr102_30, gr102_31, gr102_32, pa103, pa105, pa119, pa120, pa106, pa107, pa108, pa109, pa110, pa111, pa116, pa118, pa104, pa112, pa114, pa115, pa117, pa113, pa121, pf102_5, pf102_13, pf102_14, pf102_0, pf102_6, pf102_7, pf102_8, pf102_9, pf102_10, pf102_11, pf102_12, pf102_15, pf102_19, pf102_20, s_within, t_isLost, t_fallen, t_isHurt, t_between, t_isPassage, t_isRoom, t_standNow, t_standsAll, t_isIn, t_noComing, t_noStand, t_bitsOf, u_tens4109, t_draw]
  · obtain ⟨st1, n4, s1⟩ := nextM_st ok q4
    obtain ⟨F1, f1, l1, e1⟩ := q_nextL (κ := κ) (cs := cs0) (cj := cj) (Y := Y) (D := d) hv.1 hv.2.1 hv.2.2.1 ok (by omega)
    have hv1 := cV_lx hv (cFr_of f1) l1
    have c16 := l1.2.2.2.2.1
    rw [n4] at c16
    have g4 : F1 (rd + 1) 4 = ts 106 1 := by rw [f1.1 _ (by omega)]; exact f4
    have g5 : F1 (rd + 1) 5 = ts 106 2 := by rw [f1.1 _ (by omega)]; exact f5
    obtain ⟨F2, z1, f2, l2, ez1, z10, z11, e2⟩ := q_room (κ := κ) (cs0 := cs0) (cj := cj) (Y := Y) (d := d) hv1 st1.1 g4 (by omega) (by omega) (by omega)
    have st2 := numM_st (lo := 0) (hi := ts 106 1 - 1) st1.1
    have hv2 := cV_lx hv1 (cFr_of f2) l2
    have g4' : F2 (rd + 1) 4 = ts 106 1 := by rw [f2.1 _ (by omega)]; exact g4
    obtain ⟨ts1, h1', m1, u1⟩ := t_nextL (κ := κ2) (X := X2) (tj := tj) (tk := tk) (n := n2) (D := d2) ht.1 ht.2.1 ht.2.2.1 ok (by omega)
    have ht1 := tV_lx ht (tFr_of h1') m1 (by rw [ts_lx h1']) st1.2.1
    have a1 : ts1 106 = ts 106 := ts_lx h1'
    obtain ⟨ts2, z1', h2', m2, ez1', u2⟩ := t_takes (κ := κ2) (X := X2) (tj := tj) (tk := tk) (n := n2) (D := d2) (lo := 0) (hi := ts 106 1 - 1) ht1.1 ht1.2.1 m1 st1.1 (by decide) (by decide) (by omega) (by omega) (by omega)
    have a2 : ts2 106 = ts 106 := (ts_lx h2').trans a1
    generalize hσ2 : numM b sz 0 (ts 106 1 - 1) (nextM b sz σ) = σ2 at *
    have ts3 : tLx (bU ts2 106 (10 + ts 106 2) z1') σ2 := tLx_U m2
    have ht2 : tV tp (bU ts2 106 (10 + ts 106 2) z1') g2 b sz σ2 := tV_lx ht1 (tFr_tr (tFr_of h2') tFr_U) ts3 (by rw [bU_same, if_neg (by omega), a2, a1]) st2.2.1
    -- the second room must differ
    have st3 := eqM_st (z := z1) st2.1
    have midC : ∃ F3, frF rd F2 F3 ∧ cLx F3 rd (eqM z1 σ2) ∧ bk_den TX5_passage (bk_call d) 28 [.ref rd, bk_u, bk_u, bk_u] [] (bk_Q rd F1 (bk_M κ (cp, cs0, cj) Y g n)) = bk_den TX5_passage (bk_call d) 77 [.ref rd, .int (bk_i (ts 106 2)), .int (bk_i z1), bk_u] [] (bk_Q rd F3 (bk_M κ (cp, cs0, cj) Y g n)) := by
      have c26 := l2.2.2.2.2.1
      have c24 := l2.2.2.1
      have c25 := l2.2.2.2.1
      have tr := tokC_rng (σ2 2)
      have s24 := st2.1.2.2.2.2.2.2.2
      have t23 : tokC (σ2 2) = 2 ↔ σ2 2 = 23 := tok_iff (j := 23) st2.1.2.2.2.1 (by decide) (by decide) (by decide)
      rw [eX5_passage_28]
      unfold eqM
      by_cases w4 : σ2 4 = 0
      · by_cases w2 : σ2 2 = 23
        · have v3 := st2.1.2.2.2.2.2.2.1 w2
          have v5 := c25 w2
          by_cases w3 : σ2 3 = z1
          · obtain ⟨F3, f3, l3, e3⟩ := q_wrong (κ := κ) (cp := cp) (cs := cs0) (cj := cj) (Y := Y) (g := g) (n := n) (D := d) (f := 3) l2 st2.1 (by omega)
            rw [if_pos ⟨w4, w2, w3⟩]
            refine ⟨F3, f3, l3, ?_⟩
            simp (disch := first | assumption | omega) only [t10, t1, tb, te, td, t3, tt, c16, g5, e2, c26, if_pos w4, c24, if_pos (t23.mpr w2), v5, if_pos w3, e3, bi_add, bi_sub, bi_mul, bi_neg, bi_div, bi_64, bl_add, bl_sub, bl_mul, bl_neg, bl_div, bl_32, bi_min, bi_max, bl_min, bl_max, bq_I, bq_J, bq_A, bq_Vi, bq_Vl, bq_Vr, bq_cV, bq_cI, bq_cJ, bq_cA, bq_le, bq_lt, bq_eq, bq_z, bq_o, bq_ref, bq_nz, bq_nzJ, bq_bl, bq_blz, bq_T, bq_F, if_true, if_false, Int.reduceEq, Int.reduceLT, Int.reduceLE, Int.reduceAdd, Int.reduceSub, Int.reduceMul, Int.add_sub_cancel, li_0, li_1, li_2, li_3, li_4, li_5, li_6, li_8, li_17, li_28, li_77, li_82, li_100, ll_0, ll_1, ll_2, ll_3, ll_4, ll_5, ll_6, ll_8, ll_17, ll_28, ll_77, ll_82, ll_100, q5_0, w5_0, q5_2, w5_2, q5_3, w5_3, q5_4, w5_4, q5_5, w5_5, q5_6, w5_6, q5_7, w5_7, q5_8, w5_8, q5_9, w5_9, q1_4, w1_4, q1_5, w1_5, q1_6, w1_6, q1_7, w1_7, q1_8, w1_8, q1_9, w1_9, q1_10, w1_10, q1_11, w1_11, q1_12, w1_12, qa_2, wa_2, qa_3, wa_3, qa_4, wa_4, bU_same, bU_ne, s_in]
          · rw [if_neg (fun w => w3 w.2.2)]
            refine ⟨F2, frF_rf rd F2, l2, ?_⟩
            simp (disch := first | assumption | omega) only [t10, t1, tb, te, td, t3, tt, c16, g5, e2, c26, if_pos w4, c24, if_pos (t23.mpr w2), v5, if_neg w3, bi_add, bi_sub, bi_mul, bi_neg, bi_div, bi_64, bl_add, bl_sub, bl_mul, bl_neg, bl_div, bl_32, bi_min, bi_max, bl_min, bl_max, bq_I, bq_J, bq_A, bq_Vi, bq_Vl, bq_Vr, bq_cV, bq_cI, bq_cJ, bq_cA, bq_le, bq_lt, bq_eq, bq_z, bq_o, bq_ref, bq_nz, bq_nzJ, bq_bl, bq_blz, bq_T, bq_F, if_true, if_false, Int.reduceEq, Int.reduceLT, Int.reduceLE, Int.reduceAdd, Int.reduceSub, Int.reduceMul, Int.add_sub_cancel, li_0, li_1, li_2, li_3, li_4, li_5, li_6, li_8, li_17, li_28, li_77, li_82, li_100, ll_0, ll_1, ll_2, ll_3, ll_4, ll_5, ll_6, ll_8, ll_17, ll_28, ll_77, ll_82, ll_100, q5_0, w5_0, q5_2, w5_2, q5_3, w5_3, q5_4, w5_4, q5_5, w5_5, q5_6, w5_6, q5_7, w5_7, q5_8, w5_8, q5_9, w5_9, q1_4, w1_4, q1_5, w1_5, q1_6, w1_6, q1_7, w1_7, q1_8, w1_8, q1_9, w1_9, q1_10, w1_10, q1_11, w1_11, q1_12, w1_12, qa_2, wa_2, qa_3, wa_3, qa_4, wa_4, bU_same, bU_ne, s_in]
        · rw [if_neg (fun w => w2 w.2.1)]
          refine ⟨F2, frF_rf rd F2, l2, ?_⟩
          simp (disch := first | assumption | omega) only [t10, t1, tb, te, td, t3, tt, c16, g5, e2, c26, if_pos w4, c24, if_neg (fun w => w2 (t23.mp w)), bi_add, bi_sub, bi_mul, bi_neg, bi_div, bi_64, bl_add, bl_sub, bl_mul, bl_neg, bl_div, bl_32, bi_min, bi_max, bl_min, bl_max, bq_I, bq_J, bq_A, bq_Vi, bq_Vl, bq_Vr, bq_cV, bq_cI, bq_cJ, bq_cA, bq_le, bq_lt, bq_eq, bq_z, bq_o, bq_ref, bq_nz, bq_nzJ, bq_bl, bq_blz, bq_T, bq_F, if_true, if_false, Int.reduceEq, Int.reduceLT, Int.reduceLE, Int.reduceAdd, Int.reduceSub, Int.reduceMul, Int.add_sub_cancel, li_0, li_1, li_2, li_3, li_4, li_5, li_6, li_8, li_17, li_28, li_77, li_82, li_100, ll_0, ll_1, ll_2, ll_3, ll_4, ll_5, ll_6, ll_8, ll_17, ll_28, ll_77, ll_82, ll_100, q5_0, w5_0, q5_2, w5_2, q5_3, w5_3, q5_4, w5_4, q5_5, w5_5, q5_6, w5_6, q5_7, w5_7, q5_8, w5_8, q5_9, w5_9, q1_4, w1_4, q1_5, w1_5, q1_6, w1_6, q1_7, w1_7, q1_8, w1_8, q1_9, w1_9, q1_10, w1_10, q1_11, w1_11, q1_12, w1_12, qa_2, wa_2, qa_3, wa_3, qa_4, wa_4, bU_same, bU_ne, s_in]
      · rw [if_neg (fun w => w4 w.1)]
        refine ⟨F2, frF_rf rd F2, l2, ?_⟩
        simp (disch := first | assumption | omega) only [t10, t1, tb, te, td, t3, tt, c16, g5, e2, c26, if_neg w4, bi_add, bi_sub, bi_mul, bi_neg, bi_div, bi_64, bl_add, bl_sub, bl_mul, bl_neg, bl_div, bl_32, bi_min, bi_max, bl_min, bl_max, bq_I, bq_J, bq_A, bq_Vi, bq_Vl, bq_Vr, bq_cV, bq_cI, bq_cJ, bq_cA, bq_le, bq_lt, bq_eq, bq_z, bq_o, bq_ref, bq_nz, bq_nzJ, bq_bl, bq_blz, bq_T, bq_F, if_true, if_false, Int.reduceEq, Int.reduceLT, Int.reduceLE, Int.reduceAdd, Int.reduceSub, Int.reduceMul, Int.add_sub_cancel, li_0, li_1, li_2, li_3, li_4, li_5, li_6, li_8, li_17, li_28, li_77, li_82, li_100, ll_0, ll_1, ll_2, ll_3, ll_4, ll_5, ll_6, ll_8, ll_17, ll_28, ll_77, ll_82, ll_100, q5_0, w5_0, q5_2, w5_2, q5_3, w5_3, q5_4, w5_4, q5_5, w5_5, q5_6, w5_6, q5_7, w5_7, q5_8, w5_8, q5_9, w5_9, q1_4, w1_4, q1_5, w1_5, q1_6, w1_6, q1_7, w1_7, q1_8, w1_8, q1_9, w1_9, q1_10, w1_10, q1_11, w1_11, q1_12, w1_12, qa_2, wa_2, qa_3, wa_3, qa_4, wa_4, bU_same, bU_ne, s_in]
    have midT : ∃ ts4, frT (bU ts2 106 (10 + ts 106 2) z1') ts4 ∧ tLx ts4 (eqM z1 σ2) ∧ bk_den TX4_readPassage (bk_call d2) 18 [.ref 102, .int (bk_i (ts 106 2))] [] (bk_M κ2 X2 (tp, tj, ts, tk) g2 n2) = bk_den TX4_readPassage (bk_call d2) 82 [.ref 102, .int (bk_i (ts 106 2))] [] (bk_M κ2 X2 (tp, tj, ts4, tk) g2 n2) := by
      have i23 := t_is (κ := κ2) (X := X2) (tp := tp) (tj := tj) (tk := tk) (g := g2) (n := n2) (D := d2) (ts := bU ts2 106 (10 + ts 106 2) z1') (kk := 23) ts3 st2.1 (by decide) (by decide) (by omega)
      have b1 : ts1 106 1 = ts 106 1 := by rw [a1]
      have bz1 : bU ts2 106 (10 + ts 106 2) z1' 106 (10 + ts 106 2) = z1' := by rw [bU_same, if_pos rfl]
      rw [eX4_readPassage_18]
      unfold eqM
      by_cases w : σ2 4 = 0 ∧ σ2 2 = 23
      · have v3 := st2.1.2.2.2.2.2.2.1 w.2
        have v10 := ts3.2.2.2.1 w.2
        have zz : z1' = z1 := (ez1' w.1).trans (ez1 w.1).symm
        rw [bz_t w] at i23
        by_cases w3 : σ2 3 = z1
        · obtain ⟨ts4, h4', m4, u4⟩ := t_fails (κ := κ2) (X := X2) (tp := tp) (tj := tj) (tk := tk) (g := g2) (n := n2) (D := d2) (f := 3) ts3 st2.1 (by omega)
          rw [if_pos ⟨w.1, w.2, w3⟩]
          refine ⟨ts4, h4', m4, ?_⟩
          simp (disch := first | assumption | omega) only [l11, if_pos q4, u1, b1, u2, i23, v10, bz1, if_pos (w3.trans zz.symm), u4, bi_add, bi_sub, bi_mul, bi_neg, bi_div, bi_64, bl_add, bl_sub, bl_mul, bl_neg, bl_div, bl_32, bi_min, bi_max, bl_min, bl_max, bq_I, bq_J, bq_A, bq_Vi, bq_Vl, bq_Vr, bq_cV, bq_cI, bq_cJ, bq_cA, bq_le, bq_lt, bq_eq, bq_z, bq_o, bq_ref, bq_nz, bq_nzJ, bq_bl, bq_blz, bq_T, bq_F, if_true, if_false, Int.reduceEq, Int.reduceLT, Int.reduceLE, Int.reduceAdd, Int.reduceSub, Int.reduceMul, Int.add_sub_cancel, li_0, li_1, li_2, li_3, li_4, li_8, li_10, li_11, li_18, li_23, li_82, li_100, li_104, li_122, li_4005, li_4011, li_4012, li_4013, li_4016, li_4017, ll_0, ll_1, ll_2, ll_3, ll_4, ll_8, ll_10, ll_11, ll_18, ll_23, ll_82, ll_100, ll_104, ll_122, ga103, ga105, ga119, ga120, ga106, ga107, ga108, ga109, ga110, ga111, ga116, ga118, ga104, ga112, ga114, ga115, ga117, ga113, ga121, gf102_5, gf102_13, gf102_14, gf102_0, gf102_6, gf102_7, gf102_8, gf102_9, gf102_10, gf102_11, gf102_12, gf102_15, gf102_19, gf102_20, gr102_1, gr102_2, gr102_3, gr102_4, gr102_16, gr102_17, gr102_18, gr102_21, gr102_22, gr102_23, gr102_24, gr102_25, gr102_26, gr102_27, gr102_28, gr102_29, gr102_30, gr102_31, gr102_32, pa103, pa105, pa119, pa120, pa106, pa107, pa108, pa109, pa110, pa111, pa116, pa118, pa104, pa112, pa114, pa115, pa117, pa113, pa121, pf102_5, pf102_13, pf102_14, pf102_0, pf102_6, pf102_7, pf102_8, pf102_9, pf102_10, pf102_11, pf102_12, pf102_15, pf102_19, pf102_20, s_within, t_isLost, t_fallen, t_isHurt, t_between, t_isPassage, t_isRoom, t_standNow, t_standsAll, t_isIn, t_noComing, t_noStand, t_bitsOf, u_tens4109, t_draw]
        · rw [if_neg (fun w => w3 w.2.2)]
          refine ⟨_, frT_rf _, ts3, ?_⟩
          simp (disch := first | assumption | omega) only [l11, if_pos q4, u1, b1, u2, i23, v10, bz1, if_neg (show ¬ σ2 3 = z1' from fun t => w3 (t.trans zz)), bi_add, bi_sub, bi_mul, bi_neg, bi_div, bi_64, bl_add, bl_sub, bl_mul, bl_neg, bl_div, bl_32, bi_min, bi_max, bl_min, bl_max, bq_I, bq_J, bq_A, bq_Vi, bq_Vl, bq_Vr, bq_cV, bq_cI, bq_cJ, bq_cA, bq_le, bq_lt, bq_eq, bq_z, bq_o, bq_ref, bq_nz, bq_nzJ, bq_bl, bq_blz, bq_T, bq_F, if_true, if_false, Int.reduceEq, Int.reduceLT, Int.reduceLE, Int.reduceAdd, Int.reduceSub, Int.reduceMul, Int.add_sub_cancel, li_0, li_1, li_2, li_3, li_4, li_8, li_10, li_11, li_18, li_23, li_82, li_100, li_104, li_122, li_4005, li_4011, li_4012, li_4013, li_4016, li_4017, ll_0, ll_1, ll_2, ll_3, ll_4, ll_8, ll_10, ll_11, ll_18, ll_23, ll_82, ll_100, ll_104, ll_122, ga103, ga105, ga119, ga120, ga106, ga107, ga108, ga109, ga110, ga111, ga116, ga118, ga104, ga112, ga114, ga115, ga117, ga113, ga121, gf102_5, gf102_13, gf102_14, gf102_0, gf102_6, gf102_7, gf102_8, gf102_9, gf102_10, gf102_11, gf102_12, gf102_15, gf102_19, gf102_20, gr102_1, gr102_2, gr102_3, gr102_4, gr102_16, gr102_17, gr102_18, gr102_21, gr102_22, gr102_23, gr102_24, gr102_25, gr102_26, gr102_27, gr102_28, gr102_29, gr102_30, gr102_31, gr102_32, pa103, pa105, pa119, pa120, pa106, pa107, pa108, pa109, pa110, pa111, pa116, pa118, pa104, pa112, pa114, pa115, pa117, pa113, pa121, pf102_5, pf102_13, pf102_14, pf102_0, pf102_6, pf102_7, pf102_8, pf102_9, pf102_10, pf102_11, pf102_12, pf102_15, pf102_19, pf102_20, s_within, t_isLost, t_fallen, t_isHurt, t_between, t_isPassage, t_isRoom, t_standNow, t_standsAll, t_isIn, t_noComing, t_noStand, t_bitsOf, u_tens4109, t_draw]
      · rw [if_neg (fun w' => w ⟨w'.1, w'.2.1⟩)]
        rw [bz_f w] at i23
        refine ⟨_, frT_rf _, ts3, ?_⟩
        simp (disch := first | assumption | omega) only [l11, if_pos q4, u1, b1, u2, i23, bi_add, bi_sub, bi_mul, bi_neg, bi_div, bi_64, bl_add, bl_sub, bl_mul, bl_neg, bl_div, bl_32, bi_min, bi_max, bl_min, bl_max, bq_I, bq_J, bq_A, bq_Vi, bq_Vl, bq_Vr, bq_cV, bq_cI, bq_cJ, bq_cA, bq_le, bq_lt, bq_eq, bq_z, bq_o, bq_ref, bq_nz, bq_nzJ, bq_bl, bq_blz, bq_T, bq_F, if_true, if_false, Int.reduceEq, Int.reduceLT, Int.reduceLE, Int.reduceAdd, Int.reduceSub, Int.reduceMul, Int.add_sub_cancel, li_0, li_1, li_2, li_3, li_4, li_8, li_10, li_11, li_18, li_23, li_82, li_100, li_104, li_122, li_4005, li_4011, li_4012, li_4013, li_4016, li_4017, ll_0, ll_1, ll_2, ll_3, ll_4, ll_8, ll_10, ll_11, ll_18, ll_23, ll_82, ll_100, ll_104, ll_122, ga103, ga105, ga119, ga120, ga106, ga107, ga108, ga109, ga110, ga111, ga116, ga118, ga104, ga112, ga114, ga115, ga117, ga113, ga121, gf102_5, gf102_13, gf102_14, gf102_0, gf102_6, gf102_7, gf102_8, gf102_9, gf102_10, gf102_11, gf102_12, gf102_15, gf102_19, gf102_20, gr102_1, gr102_2, gr102_3, gr102_4, gr102_16, gr102_17, gr102_18, gr102_21, gr102_22, gr102_23, gr102_24, gr102_25, gr102_26, gr102_27, gr102_28, gr102_29, gr102_30, gr102_31, gr102_32, pa103, pa105, pa119, pa120, pa106, pa107, pa108, pa109, pa110, pa111, pa116, pa118, pa104, pa112, pa114, pa115, pa117, pa113, pa121, pf102_5, pf102_13, pf102_14, pf102_0, pf102_6, pf102_7, pf102_8, pf102_9, pf102_10, pf102_11, pf102_12, pf102_15, pf102_19, pf102_20, s_within, t_isLost, t_fallen, t_isHurt, t_between, t_isPassage, t_isRoom, t_standNow, t_standsAll, t_isIn, t_noComing, t_noStand, t_bitsOf, u_tens4109, t_draw]
    obtain ⟨F3, f3, l3, e3⟩ := midC
    obtain ⟨ts4, h4', m4, u4⟩ := midT
    have a4 : ts4 106 = fU (ts 106) (10 + ts 106 2) z1' := by rw [ts_lx h4', bU_106, a2]
    have hv3 := cV_lx hv2 (cFr_of f3) l3
    have ht4 : tV tp ts4 g2 b sz (eqM z1 σ2) := tV_lx ht2 (tFr_of h4') m4 (by rw [ts_lx h4']) st3.2.1
    have g4'' : F3 (rd + 1) 4 = ts 106 1 := by rw [f3.1 _ (by omega)]; exact g4'
    obtain ⟨F5, z2, f5', l5, ez2, z20, z21, e5⟩ := q_room (κ := κ) (cs0 := cs0) (cj := cj) (Y := Y) (d := d) hv3 st3.1 g4'' (by omega) (by omega) (by omega)
    have st5 := numM_st (lo := 0) (hi := ts 106 1 - 1) st3.1
    obtain ⟨ts5, z2', h5', m5, ez2', u5⟩ := t_takes (κ := κ2) (X := X2) (tj := tj) (tk := tk) (n := n2) (D := d2) (lo := 0) (hi := ts 106 1 - 1) ht4.1 ht4.2.1 m4 st3.1 (by decide) (by decide) (by omega) (by omega) (by omega)
    have a5 : ts5 106 = fU (ts 106) (10 + ts 106 2) z1' := (ts_lx h5').trans a4
    have hv5 := cV_lx hv3 (cFr_of f5') l5
    have ht5 : tV tp (bU ts5 106 (18 + ts 106 2) z2') g2 b sz (numM b sz 0 (ts 106 1 - 1) (eqM z1 σ2)) := tV_lx ht4 (tFr_tr (tFr_of h5') tFr_U) (tLx_U m5) (by rw [bU_same, if_neg (by omega), a5, a4]) st5.2.1
    have a6 : bU ts5 106 (18 + ts 106 2) z2' 106 = fU (fU (ts 106) (10 + ts 106 2) z1') (18 + ts 106 2) z2' := by rw [bU_106, a5]
    have eA : ∀ k, k ≠ 10 + ts 106 2 → k ≠ 18 + ts 106 2 → fU (fU (ts 106) (10 + ts 106 2) z1') (18 + ts 106 2) z2' k = ts 106 k := fun k q q' => by rw [fU_ne q', fU_ne q]
    have fF : ∀ a, rd + 1 ≤ a → a ≤ rd + 4 → F5 a = F a := fun a h0 h1 => by rw [f5'.1 a (by omega), f3.1 a (by omega), f2.1 a (by omega), f1.1 a (by omega)]
    obtain ⟨σ6, F6, ts6, w1, w2, w3, w4, w5, w6, w7, w8, w9⟩ := sim_parts (κ := κ) (cs0 := cs0) (cj := cj) (Y := Y) (κ2 := κ2) (X2 := X2) (tj := tj) (tk := tk) (n2 := n2) (z1 := z1) (z2 := z2) (R := ts 106 1) (d := d) (d2 := d2) (show 0 ≤ ts 106 2 by omega) (by omega) (by omega) (by omega) ((sz - numM b sz 0 (ts 106 1 - 1) (eqM z1 σ2) 0).toNat + 1) _ F5 _ hv5 ht5 st5.1 (Nat.lt_succ_self _) (fun z => by
      have k5 := numM_0 st3.1 z
      have k3 := eqM_0 st2.1 k5.1
      have zz2 := ez2 z
      have zz2' := ez2' z
      rw [k3.1] at k5 zz2 zz2'
      have k2 : σ2 4 = 0 := k5.1
      rw [← hσ2] at k2
      have k1 := numM_0 st1.1 k2
      have ne := k3.2 k5.2.1
      rw [hσ2] at k2
      have zz1 := ez1 k2
      have zz1' := ez1' k2
      rw [a6]
      refine ⟨?_, by rw [fU_ne (by omega), fU_same]; omega, by rw [fU_same]; omega, by rw [eA _ (by omega) (by omega)], by rw [eA _ (by omega) (by omega)], by omega, by omega, by omega, by omega, by omega⟩
      refine cvR_F ?_ fF
      unfold cvR
      rw [eA 0 (by omega) (by omega), eA 1 (by omega) (by omega), eA 2 (by omega) (by omega), eA 3 (by omega) (by omega), eA 42 (by omega) (by omega), eA 43 (by omega) (by omega), eA 44 (by omega) (by omega), eA 45 (by omega) (by omega), eA 46 (by omega) (by omega), eA 47 (by omega) (by omega)]
      refine ⟨r1, fun i i0 i1 => by rw [eA (10 + i) (by omega) (by omega), eA (18 + i) (by omega) (by omega)]; exact r2 i i0 i1, fun i i0 i1 => by rw [eA (26 + i) (by omega) (by omega), eA (34 + i) (by omega) (by omega)]; exact r3 i i0 i1, r4, ?_, ?_⟩
      · exact lawR_ext r5 (Or.inl rfl) (fun k _ _ _ _ k5 => eA k (by omega) (by omega)) (by rw [eA 98 (by omega) (by omega)]; omega) n98 (fun _ _ _ _ => rfl) hv.1.2.2.2.2.2.2.2.2.2.1 hv.1.2.2.2.2.2.2.2.2.1
      · exact lawR_ext r6 (Or.inr rfl) (fun k _ _ _ _ k5 => eA k (by omega) (by omega)) (by rw [eA 98 (by omega) (by omega)]; omega) n98 (fun _ _ _ _ => rfl) hv.1.2.2.2.2.2.2.2.2.2.1 hv.1.2.2.2.2.2.2.2.2.1)
    refine ⟨σ6, F6, ts6, stepL_tr (stepL_tr (stepL_tr (stepL_tr st1 st2) st3) st5) w1, cFr_tr (cFr_of (frF_tr (frF_tr (frF_tr f1 f2) f3) f5')) w2, tFr_tr (tFr_tr (tFr_tr (tFr_tr (tFr_tr (tFr_of h1') (tFr_of h2')) tFr_U) (tFr_of h4')) (tFr_tr (tFr_of h5') tFr_U)) w3, w4, w5, ?_, w7, ?_, ?_⟩
    · rw [w6, a6, eA 98 (by omega) (by omega)]
    · have e77 : bk_den TX5_passage (bk_call d) 77 [.ref rd, .int (bk_i (ts 106 2)), .int (bk_i z1), bk_u] [] (bk_Q rd F3 (bk_M κ (cp, cs0, cj) Y g n)) = bk_den TX5_passage (bk_call d) 82 [.ref rd, .int (bk_i (ts 106 2)), .int (bk_i z1), .int (bk_i z2)] [] (bk_Q rd F5 (bk_M κ (cp, cs0, cj) Y g n)) := by
        rw [eX5_passage_77]
        simp (disch := first | assumption | omega) only [e5, bi_add, bi_sub, bi_mul, bi_neg, bi_div, bi_64, bl_add, bl_sub, bl_mul, bl_neg, bl_div, bl_32, bi_min, bi_max, bl_min, bl_max, bq_I, bq_J, bq_A, bq_Vi, bq_Vl, bq_Vr, bq_cV, bq_cI, bq_cJ, bq_cA, bq_le, bq_lt, bq_eq, bq_z, bq_o, bq_ref, bq_nz, bq_nzJ, bq_bl, bq_blz, bq_T, bq_F, if_true, if_false, Int.reduceEq, Int.reduceLT, Int.reduceLE, Int.reduceAdd, Int.reduceSub, Int.reduceMul, Int.add_sub_cancel, li_0, li_1, li_2, li_3, li_4, li_5, li_6, li_8, li_17, li_28, li_77, li_82, li_100, ll_0, ll_1, ll_2, ll_3, ll_4, ll_5, ll_6, ll_8, ll_17, ll_28, ll_77, ll_82, ll_100, q5_0, w5_0, q5_2, w5_2, q5_3, w5_3, q5_4, w5_4, q5_5, w5_5, q5_6, w5_6, q5_7, w5_7, q5_8, w5_8, q5_9, w5_9, q1_4, w1_4, q1_5, w1_5, q1_6, w1_6, q1_7, w1_7, q1_8, w1_8, q1_9, w1_9, q1_10, w1_10, q1_11, w1_11, q1_12, w1_12, qa_2, wa_2, qa_3, wa_3, qa_4, wa_4, bU_same, bU_ne, s_in]
      simp (disch := first | assumption | omega) only [t10, t1, tb, te, td, t3, tt, f5, if_neg q8, eX5_passage_17, l6, if_pos q4, e1, bi_add, bi_sub, bi_mul, bi_neg, bi_div, bi_64, bl_add, bl_sub, bl_mul, bl_neg, bl_div, bl_32, bi_min, bi_max, bl_min, bl_max, bq_I, bq_J, bq_A, bq_Vi, bq_Vl, bq_Vr, bq_cV, bq_cI, bq_cJ, bq_cA, bq_le, bq_lt, bq_eq, bq_z, bq_o, bq_ref, bq_nz, bq_nzJ, bq_bl, bq_blz, bq_T, bq_F, if_true, if_false, Int.reduceEq, Int.reduceLT, Int.reduceLE, Int.reduceAdd, Int.reduceSub, Int.reduceMul, Int.add_sub_cancel, li_0, li_1, li_2, li_3, li_4, li_5, li_6, li_8, li_17, li_28, li_77, li_82, li_100, ll_0, ll_1, ll_2, ll_3, ll_4, ll_5, ll_6, ll_8, ll_17, ll_28, ll_77, ll_82, ll_100, q5_0, w5_0, q5_2, w5_2, q5_3, w5_3, q5_4, w5_4, q5_5, w5_5, q5_6, w5_6, q5_7, w5_7, q5_8, w5_8, q5_9, w5_9, q1_4, w1_4, q1_5, w1_5, q1_6, w1_6, q1_7, w1_7, q1_8, w1_8, q1_9, w1_9, q1_10, w1_10, q1_11, w1_11, q1_12, w1_12, qa_2, wa_2, qa_3, wa_3, qa_4, wa_4, bU_same, bU_ne, s_in]
      rw [e3, e77]
      exact w8
    · have u82 : bk_den TX4_readPassage (bk_call d2) 82 [.ref 102, .int (bk_i (ts 106 2))] [] (bk_M κ2 X2 (tp, tj, ts4, tk) g2 n2) = bk_den TX4_readPassage (bk_call d2) 104 [.ref 102, .int (bk_i (ts 106 2))] [] (bk_M κ2 X2 (tp, tj, (bU ts5 106 (18 + ts 106 2) z2'), tk) g2 n2) := by
        have b1 : ts4 106 1 = ts 106 1 := by rw [a4, fU_ne (by omega)]
        rw [eX4_readPassage_82]
        simp (disch := first | assumption | omega) only [b1, u5, bi_add, bi_sub, bi_mul, bi_neg, bi_div, bi_64, bl_add, bl_sub, bl_mul, bl_neg, bl_div, bl_32, bi_min, bi_max, bl_min, bl_max, bq_I, bq_J, bq_A, bq_Vi, bq_Vl, bq_Vr, bq_cV, bq_cI, bq_cJ, bq_cA, bq_le, bq_lt, bq_eq, bq_z, bq_o, bq_ref, bq_nz, bq_nzJ, bq_bl, bq_blz, bq_T, bq_F, if_true, if_false, Int.reduceEq, Int.reduceLT, Int.reduceLE, Int.reduceAdd, Int.reduceSub, Int.reduceMul, Int.add_sub_cancel, li_0, li_1, li_2, li_3, li_4, li_8, li_10, li_11, li_18, li_23, li_82, li_100, li_104, li_122, li_4005, li_4011, li_4012, li_4013, li_4016, li_4017, ll_0, ll_1, ll_2, ll_3, ll_4, ll_8, ll_10, ll_11, ll_18, ll_23, ll_82, ll_100, ll_104, ll_122, ga103, ga105, ga119, ga120, ga106, ga107, ga108, ga109, ga110, ga111, ga116, ga118, ga104, ga112, ga114, ga115, ga117, ga113, ga121, gf102_5, gf102_13, gf102_14, gf102_0, gf102_6, gf102_7, gf102_8, gf102_9, gf102_10, gf102_11, gf102_12, gf102_15, gf102_19, gf102_20, gr102_1, gr102_2, gr102_3, gr102_4, gr102_16, gr102_17, gr102_18, gr102_21, gr102_22, gr102_23, gr102_24, gr102_25, gr102_26, gr102_27, gr102_28, gr102_29, gr102_30, gr102_31, gr102_32, pa103, pa105, pa119, pa120, pa106, pa107, pa108, pa109, pa110, pa111, pa116, pa118, pa104, pa112, pa114, pa115, pa117, pa113, pa121, pf102_5, pf102_13, pf102_14, pf102_0, pf102_6, pf102_7, pf102_8, pf102_9, pf102_10, pf102_11, pf102_12, pf102_15, pf102_19, pf102_20, s_within, t_isLost, t_fallen, t_isHurt, t_between, t_isPassage, t_isRoom, t_standNow, t_standsAll, t_isIn, t_noComing, t_noStand, t_bitsOf, u_tens4109, t_draw]
      simp (disch := first | assumption | omega) only [if_neg q8, bi_add, bi_sub, bi_mul, bi_neg, bi_div, bi_64, bl_add, bl_sub, bl_mul, bl_neg, bl_div, bl_32, bi_min, bi_max, bl_min, bl_max, bq_I, bq_J, bq_A, bq_Vi, bq_Vl, bq_Vr, bq_cV, bq_cI, bq_cJ, bq_cA, bq_le, bq_lt, bq_eq, bq_z, bq_o, bq_ref, bq_nz, bq_nzJ, bq_bl, bq_blz, bq_T, bq_F, if_true, if_false, Int.reduceEq, Int.reduceLT, Int.reduceLE, Int.reduceAdd, Int.reduceSub, Int.reduceMul, Int.add_sub_cancel, li_0, li_1, li_2, li_3, li_4, li_8, li_10, li_11, li_18, li_23, li_82, li_100, li_104, li_122, li_4005, li_4011, li_4012, li_4013, li_4016, li_4017, ll_0, ll_1, ll_2, ll_3, ll_4, ll_8, ll_10, ll_11, ll_18, ll_23, ll_82, ll_100, ll_104, ll_122, ga103, ga105, ga119, ga120, ga106, ga107, ga108, ga109, ga110, ga111, ga116, ga118, ga104, ga112, ga114, ga115, ga117, ga113, ga121, gf102_5, gf102_13, gf102_14, gf102_0, gf102_6, gf102_7, gf102_8, gf102_9, gf102_10, gf102_11, gf102_12, gf102_15, gf102_19, gf102_20, gr102_1, gr102_2, gr102_3, gr102_4, gr102_16, gr102_17, gr102_18, gr102_21, gr102_22, gr102_23, gr102_24, gr102_25, gr102_26, gr102_27, gr102_28, gr102_29, gr102_30, gr102_31, gr102_32, pa103, pa105, pa119, pa120, pa106, pa107, pa108, pa109, pa110, pa111, pa116, pa118, pa104, pa112, pa114, pa115, pa117, pa113, pa121, pf102_5, pf102_13, pf102_14, pf102_0, pf102_6, pf102_7, pf102_8, pf102_9, pf102_10, pf102_11, pf102_12, pf102_15, pf102_19, pf102_20, s_within, t_isLost, t_fallen, t_isHurt, t_between, t_isPassage, t_isRoom, t_standNow, t_standsAll, t_isIn, t_noComing, t_noStand, t_bitsOf, u_tens4109, t_draw]
      rw [u4, u82]
      exact w9
end PA
