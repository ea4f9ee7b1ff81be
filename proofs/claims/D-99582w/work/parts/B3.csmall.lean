/-! SPECS: the component's parser: its small steps -/
set_option maxRecDepth 100000
/-- a token taken, if it is one; else a fault -/
def takM (b : Int → Int) (sz kk : Int) (σ : Int → Int) : Int → Int := if σ 4 = 0 ∧ σ 2 = kk then nextM b sz σ else σ
def mustM (b : Int → Int) (sz kk : Int) (σ : Int → Int) : Int → Int := if σ 4 = 0 ∧ σ 2 = kk then nextM b sz σ else failM 2 σ
def numM (b : Int → Int) (sz lo hi : Int) (σ : Int → Int) : Int → Int := if σ 4 = 0 ∧ σ 2 = 23 ∧ lo ≤ σ 3 ∧ σ 3 ≤ hi then nextM b sz σ else failM (if σ 2 = 23 then 3 else 2) σ
def goM (b : Int → Int) (sz dp : Int) (σ : Int → Int) : Int → Int := if dp = 6 then failM 4 σ else if σ 4 = 0 then nextM b sz σ else σ
theorem failM_s {f : Int} {σ : Int → Int} (h : σ 4 ≠ 0) : failM f σ = σ := if_neg h
theorem failM_ok {b σ : Int → Int} {sz f : Int} (h : okL b sz σ) (f0 : 1 ≤ f) (f1 : f ≤ 4) : okL b sz (failM f σ) ∧ failM f σ 0 = σ 0 ∧ failM f σ 1 = σ 1 ∧ failM f σ 2 = σ 2 ∧ failM f σ 3 = σ 3 ∧ failM f σ 4 ≠ 0 := by
  unfold failM
  by_cases q : σ 4 = 0
  · rw [if_pos q]
    obtain ⟨a1, a2, a3, a4, a5, a6, a7, a8, a9⟩ := h
    have e : (if σ 2 = 25 then (1 : Int) else f) = 1 ∨ (if σ 2 = 25 then (1 : Int) else f) = f := by split <;> simp
    refine ⟨⟨a1, a2, a3, a4, a5, a6, a7, ?_, ?_⟩, rfl, rfl, rfl, rfl, ?_⟩
    · show 0 ≤ (if σ 2 = 25 then (1 : Int) else f); omega
    · show (if σ 2 = 25 then (1 : Int) else f) ≤ 4; omega
    · show (if σ 2 = 25 then (1 : Int) else f) ≠ 0; omega
  · rw [if_neg q]
    exact ⟨h, rfl, rfl, rfl, rfl, q⟩
/-- a step forward of the parser: its state can be, it goes on, a fault stays -/
def stepL (b : Int → Int) (sz : Int) (σ σ' : Int → Int) : Prop := okL b sz σ' ∧ σ 0 ≤ σ' 0 ∧ (σ' 4 = 0 → σ 4 = 0) ∧ (σ 4 ≠ 0 → σ' = σ)
theorem stepL_rf {b σ : Int → Int} {sz : Int} (h : okL b sz σ) : stepL b sz σ σ := ⟨h, Int.le_refl _, id, fun _ => rfl⟩
theorem stepL_tr {b σ σ' σ'' : Int → Int} {sz : Int} (h : stepL b sz σ σ') (h' : stepL b sz σ' σ'') : stepL b sz σ σ'' :=
  ⟨h'.1, Int.le_trans h.2.1 h'.2.1, fun q => h.2.2.1 (h'.2.2.1 q), fun q => by have e := h.2.2.2 q; rw [h'.2.2.2 (by rw [e]; exact q), e]⟩
theorem nextM_st {b σ : Int → Int} {sz : Int} (h : okL b sz σ) (h4 : σ 4 = 0) : stepL b sz σ (nextM b sz σ) ∧ nextM b sz σ 4 = 0 ∧ σ 1 ≤ nextM b sz σ 0 := by
  have r := nextM_ok (b := b) (sz := sz) (σ := σ) (by have := h.1; have := h.2.1; omega) h.2.2.1 h.2.2.2.2.2.2.2.1 h.2.2.2.2.2.2.2.2
  exact ⟨⟨r.1, by have := h.2.1; omega, fun _ => h4, fun q => absurd h4 q⟩, by rw [r.2.2.1]; exact h4, r.2.1⟩
theorem failM_st {b σ : Int → Int} {sz f : Int} (h : okL b sz σ) (f0 : 1 ≤ f) (f1 : f ≤ 4) : stepL b sz σ (failM f σ) := by
  have r := failM_ok h f0 f1
  exact ⟨r.1, by rw [r.2.1]; omega, fun q => absurd q r.2.2.2.2.2, fun q => failM_s q⟩
theorem takM_st {b σ : Int → Int} {sz kk : Int} (h : okL b sz σ) : stepL b sz σ (takM b sz kk σ) := by
  unfold takM
  by_cases q : σ 4 = 0 ∧ σ 2 = kk
  · rw [if_pos q]; exact (nextM_st h q.1).1
  · rw [if_neg q]; exact stepL_rf h
theorem mustM_st {b σ : Int → Int} {sz kk : Int} (h : okL b sz σ) : stepL b sz σ (mustM b sz kk σ) := by
  unfold mustM
  by_cases q : σ 4 = 0 ∧ σ 2 = kk
  · rw [if_pos q]; exact (nextM_st h q.1).1
  · rw [if_neg q]; exact failM_st h (by decide) (by decide)
theorem mustM_0 {b σ : Int → Int} {sz kk : Int} (h : okL b sz σ) (h0 : mustM b sz kk σ 4 = 0) : σ 4 = 0 ∧ σ 2 = kk ∧ σ 1 ≤ mustM b sz kk σ 0 := by
  unfold mustM at h0 ⊢
  by_cases q : σ 4 = 0 ∧ σ 2 = kk
  · rw [if_pos q] at h0 ⊢; exact ⟨q.1, q.2, (nextM_st h q.1).2.2⟩
  · rw [if_neg q] at h0
    exact absurd h0 (failM_ok h (by decide) (by decide)).2.2.2.2.2
theorem numM_st {b σ : Int → Int} {sz lo hi : Int} (h : okL b sz σ) : stepL b sz σ (numM b sz lo hi σ) := by
  unfold numM
  by_cases q : σ 4 = 0 ∧ σ 2 = 23 ∧ lo ≤ σ 3 ∧ σ 3 ≤ hi
  · rw [if_pos q]; exact (nextM_st h q.1).1
  · rw [if_neg q]; exact failM_st h (by split <;> decide) (by split <;> decide)
theorem numM_0 {b σ : Int → Int} {sz lo hi : Int} (h : okL b sz σ) (h0 : numM b sz lo hi σ 4 = 0) : σ 4 = 0 ∧ σ 2 = 23 ∧ lo ≤ σ 3 ∧ σ 3 ≤ hi ∧ σ 1 ≤ numM b sz lo hi σ 0 := by
  unfold numM at h0 ⊢
  by_cases q : σ 4 = 0 ∧ σ 2 = 23 ∧ lo ≤ σ 3 ∧ σ 3 ≤ hi
  · rw [if_pos q] at h0 ⊢; exact ⟨q.1, q.2.1, q.2.2.1, q.2.2.2, (nextM_st h q.1).2.2⟩
  · rw [if_neg q] at h0
    exact absurd h0 (failM_ok h (by split <;> decide) (by split <;> decide)).2.2.2.2.2
theorem goM_st {b σ : Int → Int} {sz dp : Int} (h : okL b sz σ) : stepL b sz σ (goM b sz dp σ) := by
  unfold goM
  by_cases q : dp = 6
  · rw [if_pos q]; exact failM_st h (by decide) (by decide)
  · rw [if_neg q]
    by_cases q2 : σ 4 = 0
    · rw [if_pos q2]; exact (nextM_st h q2).1
    · rw [if_neg q2]; exact stepL_rf h
theorem goM_0 {b σ : Int → Int} {sz dp : Int} (h : okL b sz σ) (h0 : goM b sz dp σ 4 = 0) : σ 4 = 0 ∧ dp ≠ 6 ∧ σ 1 ≤ goM b sz dp σ 0 := by
  unfold goM at h0 ⊢
  by_cases q : dp = 6
  · rw [if_pos q] at h0
    exact absurd h0 (failM_ok h (by decide) (by decide)).2.2.2.2.2
  · rw [if_neg q] at h0 ⊢
    by_cases q2 : σ 4 = 0
    · rw [if_pos q2] at h0 ⊢; exact ⟨q2, q, (nextM_st h q2).2.2⟩
    · rw [if_neg q2] at h0; exact absurd h0 q2
section CS
variable {κ : Nat → Nat} {cp cs : bF} {cj : bFJ} {X : bX} {Y : bY} {g : bG} {n : Nat × Nat} {rd v i : Nat} {F : bF} {b σ : Int → Int} {sz k c f kk lo hi dp : Int} {D : Nat}
theorem q_nextL (h : bPw cp g n rd b sz) (hz : F rd 0 = sz) (hl : cLx F rd σ) (ok : okL b sz σ) (hD : 8 ≤ D) :
    ∃ F', frF rd F F' ∧ cLx F' rd (nextM b sz σ) ∧ bk_call D 5002 [.ref rd] (bk_Q rd F (bk_M κ (cp, cs, cj) Y g n)) = some (none, bk_Q rd F' (bk_M κ (cp, cs, cj) Y g n)) :=
  q_next h hz hl.1 hl.2.2.2.2.1 hl.2.2.2.2.2 (by have := ok.1; have := ok.2.1; omega) ok.2.2.1 hD
theorem tokC_3 {k : Int} (h : okK k) : tokC k = 3 ↔ k = 25 := tok_iff (j := 25) h (by decide) (by decide) (by decide)
theorem q_wrong (hl : cLx F rd σ) (ok : okL b sz σ) (hD : 1 ≤ D) :
    ∃ F', frF rd F F' ∧ cLx F' rd (failM f σ) ∧ bk_call D 5009 [.ref rd, .int (bk_i f)] (bk_Q rd F (bk_M κ (cp, cs, cj) Y g n)) = some (none, bk_Q rd F' (bk_M κ (cp, cs, cj) Y g n)) := by
  obtain ⟨d, rfl⟩ := dep hD
  obtain ⟨l2, l3, l4, l5, l6, l8⟩ := hl
  have tr := tokC_rng (σ 2)
  have s4 := ok.2.2.2.2.2.2.2
  unfold failM
  rw [kX5_wrong, eX5_wrong_0]
  by_cases q : σ 4 = 0
  · rw [if_pos q]
    by_cases q2 : σ 2 = 25
    · have q3 := (tokC_3 ok.2.2.2.1).mpr q2
      refine ⟨bU (bU F rd 6 1) rd 8 (σ 0), ⟨fun a ha => by funext k; rw [bU_ne _ _ _ _ _ _ ha, bU_ne _ _ _ _ _ _ ha], fun k hk => by rw [bU_same, if_neg (by omega), bU_same, if_neg (by omega)]⟩, ⟨?_, ?_, ?_, ?_, ?_, ?_⟩, ?_⟩
      · rw [bU_same, if_neg (by decide), bU_same, if_neg (by decide)]; exact l2
      · rw [bU_same, if_neg (by decide), bU_same, if_neg (by decide)]; exact l3
      · rw [bU_same, if_neg (by decide), bU_same, if_neg (by decide)]; exact l4
      · intro w; rw [bU_same, if_neg (by decide), bU_same, if_neg (by decide)]; exact l5 w
      · rw [bU_same, if_neg (by decide), bU_same, if_pos rfl, if_pos q2]; rfl
      · intro _; rw [bU_same, if_pos rfl]; rfl
      · simp (disch := first | assumption | omega) only [l6, if_pos q, l4, if_pos q3, eX5_wrong_22, l3, bi_add, bi_sub, bi_mul, bi_neg, bi_div, bi_64, bl_add, bl_sub, bl_mul, bl_neg, bl_div, bl_32, bi_min, bi_max, bl_min, bl_max, bq_I, bq_J, bq_A, bq_Vi, bq_Vl, bq_Vr, bq_cV, bq_cI, bq_cJ, bq_cA, bq_le, bq_lt, bq_eq, bq_z, bq_o, bq_ref, bq_nz, bq_nzJ, bq_bl, bq_blz, bq_T, bq_F, if_true, if_false, Int.reduceEq, Int.reduceLT, Int.reduceLE, Int.reduceAdd, Int.reduceSub, Int.reduceMul, Int.add_sub_cancel, li_0, li_1, li_3, li_4, li_5, li_6, li_8, li_22, ll_0, ll_1, ll_3, ll_4, ll_5, ll_6, ll_8, ll_22, q5_0, w5_0, q5_2, w5_2, q5_3, w5_3, q5_4, w5_4, q5_5, w5_5, q5_6, w5_6, q5_7, w5_7, q5_8, w5_8, q5_9, w5_9, q1_4, w1_4, q1_5, w1_5, q1_6, w1_6, q1_7, w1_7, q1_8, w1_8, q1_9, w1_9, q1_10, w1_10, q1_11, w1_11, q1_12, w1_12, qa_2, wa_2, qa_3, wa_3, qa_4, wa_4, bU_same, bU_ne, s_in]
    · have q3 : ¬ tokC (σ 2) = 3 := fun w => q2 ((tokC_3 ok.2.2.2.1).mp w)
      refine ⟨bU (bU F rd 6 f) rd 8 (σ 0), ⟨fun a ha => by funext k; rw [bU_ne _ _ _ _ _ _ ha, bU_ne _ _ _ _ _ _ ha], fun k hk => by rw [bU_same, if_neg (by omega), bU_same, if_neg (by omega)]⟩, ⟨?_, ?_, ?_, ?_, ?_, ?_⟩, ?_⟩
      · rw [bU_same, if_neg (by decide), bU_same, if_neg (by decide)]; exact l2
      · rw [bU_same, if_neg (by decide), bU_same, if_neg (by decide)]; exact l3
      · rw [bU_same, if_neg (by decide), bU_same, if_neg (by decide)]; exact l4
      · intro w; rw [bU_same, if_neg (by decide), bU_same, if_neg (by decide)]; exact l5 w
      · rw [bU_same, if_neg (by decide), bU_same, if_pos rfl, if_neg q2]; rfl
      · intro _; rw [bU_same, if_pos rfl]; rfl
      · simp (disch := first | assumption | omega) only [l6, if_pos q, l4, if_neg q3, eX5_wrong_22, l3, bi_add, bi_sub, bi_mul, bi_neg, bi_div, bi_64, bl_add, bl_sub, bl_mul, bl_neg, bl_div, bl_32, bi_min, bi_max, bl_min, bl_max, bq_I, bq_J, bq_A, bq_Vi, bq_Vl, bq_Vr, bq_cV, bq_cI, bq_cJ, bq_cA, bq_le, bq_lt, bq_eq, bq_z, bq_o, bq_ref, bq_nz, bq_nzJ, bq_bl, bq_blz, bq_T, bq_F, if_true, if_false, Int.reduceEq, Int.reduceLT, Int.reduceLE, Int.reduceAdd, Int.reduceSub, Int.reduceMul, Int.add_sub_cancel, li_0, li_1, li_3, li_4, li_5, li_6, li_8, li_22, ll_0, ll_1, ll_3, ll_4, ll_5, ll_6, ll_8, ll_22, q5_0, w5_0, q5_2, w5_2, q5_3, w5_3, q5_4, w5_4, q5_5, w5_5, q5_6, w5_6, q5_7, w5_7, q5_8, w5_8, q5_9, w5_9, q1_4, w1_4, q1_5, w1_5, q1_6, w1_6, q1_7, w1_7, q1_8, w1_8, q1_9, w1_9, q1_10, w1_10, q1_11, w1_11, q1_12, w1_12, qa_2, wa_2, qa_3, wa_3, qa_4, wa_4, bU_same, bU_ne, s_in]
  · rw [if_neg q]
    refine ⟨F, frF_rf rd F, ⟨l2, l3, l4, l5, l6, l8⟩, ?_⟩
    simp (disch := first | assumption | omega) only [l6, if_neg q, bi_add, bi_sub, bi_mul, bi_neg, bi_div, bi_64, bl_add, bl_sub, bl_mul, bl_neg, bl_div, bl_32, bi_min, bi_max, bl_min, bl_max, bq_I, bq_J, bq_A, bq_Vi, bq_Vl, bq_Vr, bq_cV, bq_cI, bq_cJ, bq_cA, bq_le, bq_lt, bq_eq, bq_z, bq_o, bq_ref, bq_nz, bq_nzJ, bq_bl, bq_blz, bq_T, bq_F, if_true, if_false, Int.reduceEq, Int.reduceLT, Int.reduceLE, Int.reduceAdd, Int.reduceSub, Int.reduceMul, Int.add_sub_cancel, li_0, li_1, li_3, li_4, li_5, li_6, li_8, li_22, ll_0, ll_1, ll_3, ll_4, ll_5, ll_6, ll_8, ll_22, q5_0, w5_0, q5_2, w5_2, q5_3, w5_3, q5_4, w5_4, q5_5, w5_5, q5_6, w5_6, q5_7, w5_7, q5_8, w5_8, q5_9, w5_9, q1_4, w1_4, q1_5, w1_5, q1_6, w1_6, q1_7, w1_7, q1_8, w1_8, q1_9, w1_9, q1_10, w1_10, q1_11, w1_11, q1_12, w1_12, qa_2, wa_2, qa_3, wa_3, qa_4, wa_4, bU_same, bU_ne, s_in]
/-- strings i of the component stand for keys kk -/
def kOf (i : Nat) (kk : Int) : Prop := i < 23 ∧ 0 ≤ kk ∧ kk < 21 ∧ keyL.getD kk.toNat [] = wT.getD i []
theorem q_is (h : bPw cp g n rd b sz) (hz : F rd 0 = sz) (hl : cLx F rd σ) (ok : okL b sz σ) (hk : kOf i kk) (hv : v = 2 + i) (hD : 5 ≤ D) :
    bk_call D 5008 [.ref rd, .ref v] (bk_Q rd F (bk_M κ (cp, cs, cj) Y g n)) = some (some (.int (bk_i (bz (σ 4 = 0 ∧ σ 2 = kk)))), bk_Q rd F (bk_M κ (cp, cs, cj) Y g n)) := by
  obtain ⟨d, rfl⟩ := dep hD
  have hw := h
  obtain ⟨l2, l3, l4, l5, l6, l8⟩ := hl
  obtain ⟨o0, o1, o2, o3, o4, o5, o6, o7, o8⟩ := ok
  obtain ⟨hi, k0, k1, kt⟩ := hk
  have tr := tokC_rng (σ 2)
  have hrp := pw_rd (κ := κ) h
  obtain ⟨t10, t1, tb, te, td, t3, tt⟩ := hrp
  obtain ⟨hF, hS, k10, k1, kb, ke, kd, r0, r1, hfr, z0, z1, hb⟩ := h
  have wl := wL_rng hi
  have ev : ∀ F X Y n, (bk_Q rd F (bk_M κ X Y g n)).1 15 v 0 = .ref (32 + i) := fun F X Y n => by rw [hv, bQ_off (by omega), gX (by decide)]; exact (hS i hi).1
  have el := s_strlen (h := bk_Q rd F (bk_M κ (cp, cs, cj) Y g n)) (i := i) (v := v) (D := d) (bStr_Q hS) hi hv (by omega)
  rw [kX5_is, eX5_is_0]
  have e1 : ∀ p : Prop, ∀ [Decidable p], ¬ p → (some (some (Value.int (bk_i 0)), bk_Q rd F (bk_M κ (cp, cs, cj) Y g n)) : bk_R) = some (some (.int (bk_i (bz p))), bk_Q rd F (bk_M κ (cp, cs, cj) Y g n)) := fun p _ q => by rw [bz_f q]
  by_cases q : σ 4 = 0
  · by_cases q2 : σ 2 ≤ 22
    · have t1 := (tok_word o3).mpr q2
      have kt2 : σ 2 = kk ↔ txt b (σ 0) (σ 1) = wT.getD i [] := by
        rw [o5 q2, ← kt]
        have e := key_iff (t := txt b (σ 0) (σ 1)) (k := kk.toNat) (by omega)
        rw [Int.toNat_of_nonneg k0] at e
        exact e
      have te := txt_eq (b := b) (w := wT.getD i []) o1
      by_cases q3 : σ 1 - σ 0 = wL i
      · simp (disch := first | assumption | omega) only [t10, t1, tb, te, td, t3, tt, l6, if_pos q, l4, t1, l2, l3, ev, el, if_pos q3, bi_add, bi_sub, bi_mul, bi_neg, bi_div, bi_64, bl_add, bl_sub, bl_mul, bl_neg, bl_div, bl_32, bi_min, bi_max, bl_min, bl_max, bq_I, bq_J, bq_A, bq_Vi, bq_Vl, bq_Vr, bq_cV, bq_cI, bq_cJ, bq_cA, bq_le, bq_lt, bq_eq, bq_z, bq_o, bq_ref, bq_nz, bq_nzJ, bq_bl, bq_blz, bq_T, bq_F, if_true, if_false, Int.reduceEq, Int.reduceLT, Int.reduceLE, Int.reduceAdd, Int.reduceSub, Int.reduceMul, Int.add_sub_cancel, li_0, li_1, li_2, li_3, li_4, li_5, li_6, li_15, li_35, ll_0, ll_1, ll_2, ll_3, ll_4, ll_5, ll_6, ll_15, ll_35, q5_0, w5_0, q5_2, w5_2, q5_3, w5_3, q5_4, w5_4, q5_5, w5_5, q5_6, w5_6, q5_7, w5_7, q5_8, w5_8, q5_9, w5_9, q1_4, w1_4, q1_5, w1_5, q1_6, w1_6, q1_7, w1_7, q1_8, w1_8, q1_9, w1_9, q1_10, w1_10, q1_11, w1_11, q1_12, w1_12, qa_2, wa_2, qa_3, wa_3, qa_4, wa_4, bU_same, bU_ne, s_in]
        have goal : bk_wp (bk_den TX5_is (bk_call d) 35 [.ref rd, .ref v, .int (bk_i 0)] [] (bk_Q rd F (bk_M κ (cp, cs, cj) Y g n))) (fun w h' => w = some (.int (bk_i (bz (σ 4 = 0 ∧ σ 2 = kk)))) ∧ h' = bk_Q rd F (bk_M κ (cp, cs, cj) Y g n)) := by
          refine bk_loop (σ := Unit) (fun j _ => bk_den TX5_is (bk_call d) 35 [.ref rd, .ref v, .int (bk_i j)] [] (bk_Q rd F (bk_M κ (cp, cs, cj) Y g n))) (fun j _ => 0 ≤ j ∧ ∀ k, 0 ≤ k → k < j → b (σ 0 + k) = wC i k) (wL i) ?_ ?_ 0 () (by omega) ⟨by omega, fun k _ _ => by omega⟩
          · rintro j u hj ⟨j0, hb2⟩ cont
            have cr := wC_rng hi j0 hj
            have es := q_see (κ := κ) (cs := cs) (cj := cj) (Y := Y) (F := F) (k := σ 0 + j) (D := d) hw hz (by omega) (by omega) (by omega)
            rw [if_pos (by omega)] at es
            have br := hb (σ 0 + j) (by omega) (by omega)
            have ec := s_charAt (h := bk_Q rd F (bk_M κ (cp, cs, cj) Y g n)) (i := i) (v := v) (D := d) (bStr_Q hS) hi hv j0 hj (by omega)
            rw [eX5_is_35]
            by_cases w : b (σ 0 + j) = wC i j
            · simp (disch := first | assumption | omega) only [t10, t1, tb, te, td, t3, tt, ev, el, if_neg (show ¬ wL i ≤ j by omega), l3, es, ec, if_pos w, bi_add, bi_sub, bi_mul, bi_neg, bi_div, bi_64, bl_add, bl_sub, bl_mul, bl_neg, bl_div, bl_32, bi_min, bi_max, bl_min, bl_max, bq_I, bq_J, bq_A, bq_Vi, bq_Vl, bq_Vr, bq_cV, bq_cI, bq_cJ, bq_cA, bq_le, bq_lt, bq_eq, bq_z, bq_o, bq_ref, bq_nz, bq_nzJ, bq_bl, bq_blz, bq_T, bq_F, if_true, if_false, Int.reduceEq, Int.reduceLT, Int.reduceLE, Int.reduceAdd, Int.reduceSub, Int.reduceMul, Int.add_sub_cancel, li_0, li_1, li_2, li_3, li_4, li_5, li_6, li_15, li_35, ll_0, ll_1, ll_2, ll_3, ll_4, ll_5, ll_6, ll_15, ll_35, q5_0, w5_0, q5_2, w5_2, q5_3, w5_3, q5_4, w5_4, q5_5, w5_5, q5_6, w5_6, q5_7, w5_7, q5_8, w5_8, q5_9, w5_9, q1_4, w1_4, q1_5, w1_5, q1_6, w1_6, q1_7, w1_7, q1_8, w1_8, q1_9, w1_9, q1_10, w1_10, q1_11, w1_11, q1_12, w1_12, qa_2, wa_2, qa_3, wa_3, qa_4, wa_4, bU_same, bU_ne, s_in]
              refine cont () ⟨by omega, fun k q0 q1 => ?_⟩
              by_cases y : k = j
              · rw [y]; exact w
              · exact hb2 k q0 (by omega)
            · simp (disch := first | assumption | omega) only [t10, t1, tb, te, td, t3, tt, ev, el, if_neg (show ¬ wL i ≤ j by omega), l3, es, ec, if_neg w, bi_add, bi_sub, bi_mul, bi_neg, bi_div, bi_64, bl_add, bl_sub, bl_mul, bl_neg, bl_div, bl_32, bi_min, bi_max, bl_min, bl_max, bq_I, bq_J, bq_A, bq_Vi, bq_Vl, bq_Vr, bq_cV, bq_cI, bq_cJ, bq_cA, bq_le, bq_lt, bq_eq, bq_z, bq_o, bq_ref, bq_nz, bq_nzJ, bq_bl, bq_blz, bq_T, bq_F, if_true, if_false, Int.reduceEq, Int.reduceLT, Int.reduceLE, Int.reduceAdd, Int.reduceSub, Int.reduceMul, Int.add_sub_cancel, li_0, li_1, li_2, li_3, li_4, li_5, li_6, li_15, li_35, ll_0, ll_1, ll_2, ll_3, ll_4, ll_5, ll_6, ll_15, ll_35, q5_0, w5_0, q5_2, w5_2, q5_3, w5_3, q5_4, w5_4, q5_5, w5_5, q5_6, w5_6, q5_7, w5_7, q5_8, w5_8, q5_9, w5_9, q1_4, w1_4, q1_5, w1_5, q1_6, w1_6, q1_7, w1_7, q1_8, w1_8, q1_9, w1_9, q1_10, w1_10, q1_11, w1_11, q1_12, w1_12, qa_2, wa_2, qa_3, wa_3, qa_4, wa_4, bU_same, bU_ne, s_in]
              refine ⟨_, _, rfl, ?_, rfl⟩
              rw [bz_f]
              rintro ⟨-, y⟩
              exact w ((te.mp (kt2.mp y)).2 j j0 hj)
          · rintro u ⟨j0, hb2⟩
            rw [eX5_is_35]
            simp (disch := first | assumption | omega) only [t10, t1, tb, te, td, t3, tt, ev, el, if_pos (Int.le_refl (wL i)), bi_add, bi_sub, bi_mul, bi_neg, bi_div, bi_64, bl_add, bl_sub, bl_mul, bl_neg, bl_div, bl_32, bi_min, bi_max, bl_min, bl_max, bq_I, bq_J, bq_A, bq_Vi, bq_Vl, bq_Vr, bq_cV, bq_cI, bq_cJ, bq_cA, bq_le, bq_lt, bq_eq, bq_z, bq_o, bq_ref, bq_nz, bq_nzJ, bq_bl, bq_blz, bq_T, bq_F, if_true, if_false, Int.reduceEq, Int.reduceLT, Int.reduceLE, Int.reduceAdd, Int.reduceSub, Int.reduceMul, Int.add_sub_cancel, li_0, li_1, li_2, li_3, li_4, li_5, li_6, li_15, li_35, ll_0, ll_1, ll_2, ll_3, ll_4, ll_5, ll_6, ll_15, ll_35, q5_0, w5_0, q5_2, w5_2, q5_3, w5_3, q5_4, w5_4, q5_5, w5_5, q5_6, w5_6, q5_7, w5_7, q5_8, w5_8, q5_9, w5_9, q1_4, w1_4, q1_5, w1_5, q1_6, w1_6, q1_7, w1_7, q1_8, w1_8, q1_9, w1_9, q1_10, w1_10, q1_11, w1_11, q1_12, w1_12, qa_2, wa_2, qa_3, wa_3, qa_4, wa_4, bU_same, bU_ne, s_in]
            refine ⟨_, _, rfl, ?_, rfl⟩
            rw [bz_t]
            exact ⟨q, kt2.mpr (te.mpr ⟨q3, hb2⟩)⟩
        obtain ⟨w, h', eg, rfl, rfl⟩ := goal
        exact eg
      · simp (disch := first | assumption | omega) only [t10, t1, tb, te, td, t3, tt, l6, if_pos q, l4, t1, l2, l3, ev, el, if_neg q3, bi_add, bi_sub, bi_mul, bi_neg, bi_div, bi_64, bl_add, bl_sub, bl_mul, bl_neg, bl_div, bl_32, bi_min, bi_max, bl_min, bl_max, bq_I, bq_J, bq_A, bq_Vi, bq_Vl, bq_Vr, bq_cV, bq_cI, bq_cJ, bq_cA, bq_le, bq_lt, bq_eq, bq_z, bq_o, bq_ref, bq_nz, bq_nzJ, bq_bl, bq_blz, bq_T, bq_F, if_true, if_false, Int.reduceEq, Int.reduceLT, Int.reduceLE, Int.reduceAdd, Int.reduceSub, Int.reduceMul, Int.add_sub_cancel, li_0, li_1, li_2, li_3, li_4, li_5, li_6, li_15, li_35, ll_0, ll_1, ll_2, ll_3, ll_4, ll_5, ll_6, ll_15, ll_35, q5_0, w5_0, q5_2, w5_2, q5_3, w5_3, q5_4, w5_4, q5_5, w5_5, q5_6, w5_6, q5_7, w5_7, q5_8, w5_8, q5_9, w5_9, q1_4, w1_4, q1_5, w1_5, q1_6, w1_6, q1_7, w1_7, q1_8, w1_8, q1_9, w1_9, q1_10, w1_10, q1_11, w1_11, q1_12, w1_12, qa_2, wa_2, qa_3, wa_3, qa_4, wa_4, bU_same, bU_ne, s_in]
        exact e1 _ fun w => q3 (te.mp (kt2.mp w.2)).1
    · have t1 : ¬ tokC (σ 2) = 1 := fun w => q2 ((tok_word o3).mp w)
      simp (disch := first | assumption | omega) only [t10, t1, tb, te, td, t3, tt, l6, if_pos q, l4, if_neg t1, bi_add, bi_sub, bi_mul, bi_neg, bi_div, bi_64, bl_add, bl_sub, bl_mul, bl_neg, bl_div, bl_32, bi_min, bi_max, bl_min, bl_max, bq_I, bq_J, bq_A, bq_Vi, bq_Vl, bq_Vr, bq_cV, bq_cI, bq_cJ, bq_cA, bq_le, bq_lt, bq_eq, bq_z, bq_o, bq_ref, bq_nz, bq_nzJ, bq_bl, bq_blz, bq_T, bq_F, if_true, if_false, Int.reduceEq, Int.reduceLT, Int.reduceLE, Int.reduceAdd, Int.reduceSub, Int.reduceMul, Int.add_sub_cancel, li_0, li_1, li_2, li_3, li_4, li_5, li_6, li_15, li_35, ll_0, ll_1, ll_2, ll_3, ll_4, ll_5, ll_6, ll_15, ll_35, q5_0, w5_0, q5_2, w5_2, q5_3, w5_3, q5_4, w5_4, q5_5, w5_5, q5_6, w5_6, q5_7, w5_7, q5_8, w5_8, q5_9, w5_9, q1_4, w1_4, q1_5, w1_5, q1_6, w1_6, q1_7, w1_7, q1_8, w1_8, q1_9, w1_9, q1_10, w1_10, q1_11, w1_11, q1_12, w1_12, qa_2, wa_2, qa_3, wa_3, qa_4, wa_4, bU_same, bU_ne, s_in]
      exact e1 _ fun w => q2 (by omega)
  · simp (disch := first | assumption | omega) only [t10, t1, tb, te, td, t3, tt, l6, if_neg q, bi_add, bi_sub, bi_mul, bi_neg, bi_div, bi_64, bl_add, bl_sub, bl_mul, bl_neg, bl_div, bl_32, bi_min, bi_max, bl_min, bl_max, bq_I, bq_J, bq_A, bq_Vi, bq_Vl, bq_Vr, bq_cV, bq_cI, bq_cJ, bq_cA, bq_le, bq_lt, bq_eq, bq_z, bq_o, bq_ref, bq_nz, bq_nzJ, bq_bl, bq_blz, bq_T, bq_F, if_true, if_false, Int.reduceEq, Int.reduceLT, Int.reduceLE, Int.reduceAdd, Int.reduceSub, Int.reduceMul, Int.add_sub_cancel, li_0, li_1, li_2, li_3, li_4, li_5, li_6, li_15, li_35, ll_0, ll_1, ll_2, ll_3, ll_4, ll_5, ll_6, ll_15, ll_35, q5_0, w5_0, q5_2, w5_2, q5_3, w5_3, q5_4, w5_4, q5_5, w5_5, q5_6, w5_6, q5_7, w5_7, q5_8, w5_8, q5_9, w5_9, q1_4, w1_4, q1_5, w1_5, q1_6, w1_6, q1_7, w1_7, q1_8, w1_8, q1_9, w1_9, q1_10, w1_10, q1_11, w1_11, q1_12, w1_12, qa_2, wa_2, qa_3, wa_3, qa_4, wa_4, bU_same, bU_ne, s_in]
    exact e1 _ fun w => q w.1
theorem q_takes (h : bPw cp g n rd b sz) (hz : F rd 0 = sz) (hl : cLx F rd σ) (ok : okL b sz σ) (hk : kOf i kk) (hv : v = 2 + i) (hD : 9 ≤ D) :
    ∃ F', frF rd F F' ∧ cLx F' rd (takM b sz kk σ) ∧ bk_call D 5007 [.ref rd, .ref v] (bk_Q rd F (bk_M κ (cp, cs, cj) Y g n)) = some (some (.int (bk_i (bz (σ 4 = 0 ∧ σ 2 = kk)))), bk_Q rd F' (bk_M κ (cp, cs, cj) Y g n)) := by
  obtain ⟨d, rfl⟩ := dep hD
  have e1 := q_is (κ := κ) (cs := cs) (cj := cj) (Y := Y) (D := d) h hz hl ok hk hv (by omega)
  obtain ⟨F1, f1, c1, e2⟩ := q_nextL (κ := κ) (cs := cs) (cj := cj) (Y := Y) (D := d) h hz hl ok (by omega)
  unfold takM
  rw [kX5_takes, eX5_takes_0]
  by_cases q : σ 4 = 0 ∧ σ 2 = kk
  · rw [bz_t q] at e1 ⊢
    rw [if_pos q]
    refine ⟨F1, f1, c1, ?_⟩
    simp (disch := first | assumption | omega) only [e1, e2, bi_add, bi_sub, bi_mul, bi_neg, bi_div, bi_64, bl_add, bl_sub, bl_mul, bl_neg, bl_div, bl_32, bi_min, bi_max, bl_min, bl_max, bq_I, bq_J, bq_A, bq_Vi, bq_Vl, bq_Vr, bq_cV, bq_cI, bq_cJ, bq_cA, bq_le, bq_lt, bq_eq, bq_z, bq_o, bq_ref, bq_nz, bq_nzJ, bq_bl, bq_blz, bq_T, bq_F, if_true, if_false, Int.reduceEq, Int.reduceLT, Int.reduceLE, Int.reduceAdd, Int.reduceSub, Int.reduceMul, Int.add_sub_cancel, li_0, li_1, li_5, ll_0, ll_1, ll_5, q5_0, w5_0, q5_2, w5_2, q5_3, w5_3, q5_4, w5_4, q5_5, w5_5, q5_6, w5_6, q5_7, w5_7, q5_8, w5_8, q5_9, w5_9, q1_4, w1_4, q1_5, w1_5, q1_6, w1_6, q1_7, w1_7, q1_8, w1_8, q1_9, w1_9, q1_10, w1_10, q1_11, w1_11, q1_12, w1_12, qa_2, wa_2, qa_3, wa_3, qa_4, wa_4, bU_same, bU_ne, s_in]
  · rw [bz_f q] at e1 ⊢
    rw [if_neg q]
    refine ⟨F, frF_rf rd F, hl, ?_⟩
    simp (disch := first | assumption | omega) only [e1, bi_add, bi_sub, bi_mul, bi_neg, bi_div, bi_64, bl_add, bl_sub, bl_mul, bl_neg, bl_div, bl_32, bi_min, bi_max, bl_min, bl_max, bq_I, bq_J, bq_A, bq_Vi, bq_Vl, bq_Vr, bq_cV, bq_cI, bq_cJ, bq_cA, bq_le, bq_lt, bq_eq, bq_z, bq_o, bq_ref, bq_nz, bq_nzJ, bq_bl, bq_blz, bq_T, bq_F, if_true, if_false, Int.reduceEq, Int.reduceLT, Int.reduceLE, Int.reduceAdd, Int.reduceSub, Int.reduceMul, Int.add_sub_cancel, li_0, li_1, li_5, ll_0, ll_1, ll_5, q5_0, w5_0, q5_2, w5_2, q5_3, w5_3, q5_4, w5_4, q5_5, w5_5, q5_6, w5_6, q5_7, w5_7, q5_8, w5_8, q5_9, w5_9, q1_4, w1_4, q1_5, w1_5, q1_6, w1_6, q1_7, w1_7, q1_8, w1_8, q1_9, w1_9, q1_10, w1_10, q1_11, w1_11, q1_12, w1_12, qa_2, wa_2, qa_3, wa_3, qa_4, wa_4, bU_same, bU_ne, s_in]
theorem q_mustWord (h : bPw cp g n rd b sz) (hz : F rd 0 = sz) (hl : cLx F rd σ) (ok : okL b sz σ) (hk : kOf i kk) (hv : v = 2 + i) (hD : 10 ≤ D) :
    ∃ F', frF rd F F' ∧ cLx F' rd (mustM b sz kk σ) ∧ bk_call D 5006 [.ref rd, .ref v] (bk_Q rd F (bk_M κ (cp, cs, cj) Y g n)) = some (none, bk_Q rd F' (bk_M κ (cp, cs, cj) Y g n)) := by
  obtain ⟨d, rfl⟩ := dep hD
  obtain ⟨F1, f1, c1, e1⟩ := q_takes (κ := κ) (cs := cs) (cj := cj) (Y := Y) (D := d) h hz hl ok hk hv (by omega)
  unfold takM at c1
  unfold mustM
  rw [kX5_mustWord, eX5_mustWord_0]
  by_cases q : σ 4 = 0 ∧ σ 2 = kk
  · rw [bz_t q] at e1
    rw [if_pos q] at c1 ⊢
    refine ⟨F1, f1, c1, ?_⟩
    simp (disch := first | assumption | omega) only [e1, bi_add, bi_sub, bi_mul, bi_neg, bi_div, bi_64, bl_add, bl_sub, bl_mul, bl_neg, bl_div, bl_32, bi_min, bi_max, bl_min, bl_max, bq_I, bq_J, bq_A, bq_Vi, bq_Vl, bq_Vr, bq_cV, bq_cI, bq_cJ, bq_cA, bq_le, bq_lt, bq_eq, bq_z, bq_o, bq_ref, bq_nz, bq_nzJ, bq_bl, bq_blz, bq_T, bq_F, if_true, if_false, Int.reduceEq, Int.reduceLT, Int.reduceLE, Int.reduceAdd, Int.reduceSub, Int.reduceMul, Int.add_sub_cancel, li_0, li_1, li_2, li_5, ll_0, ll_1, ll_2, ll_5, q5_0, w5_0, q5_2, w5_2, q5_3, w5_3, q5_4, w5_4, q5_5, w5_5, q5_6, w5_6, q5_7, w5_7, q5_8, w5_8, q5_9, w5_9, q1_4, w1_4, q1_5, w1_5, q1_6, w1_6, q1_7, w1_7, q1_8, w1_8, q1_9, w1_9, q1_10, w1_10, q1_11, w1_11, q1_12, w1_12, qa_2, wa_2, qa_3, wa_3, qa_4, wa_4, bU_same, bU_ne, s_in]
  · rw [bz_f q] at e1
    rw [if_neg q] at c1 ⊢
    obtain ⟨F2, f2, c2, e2⟩ := q_wrong (κ := κ) (cp := cp) (cs := cs) (cj := cj) (Y := Y) (g := g) (n := n) (f := 2) (D := d) c1 ok (by omega)
    refine ⟨F2, frF_tr f1 f2, c2, ?_⟩
    simp (disch := first | assumption | omega) only [e1, e2, bi_add, bi_sub, bi_mul, bi_neg, bi_div, bi_64, bl_add, bl_sub, bl_mul, bl_neg, bl_div, bl_32, bi_min, bi_max, bl_min, bl_max, bq_I, bq_J, bq_A, bq_Vi, bq_Vl, bq_Vr, bq_cV, bq_cI, bq_cJ, bq_cA, bq_le, bq_lt, bq_eq, bq_z, bq_o, bq_ref, bq_nz, bq_nzJ, bq_bl, bq_blz, bq_T, bq_F, if_true, if_false, Int.reduceEq, Int.reduceLT, Int.reduceLE, Int.reduceAdd, Int.reduceSub, Int.reduceMul, Int.add_sub_cancel, li_0, li_1, li_2, li_5, ll_0, ll_1, ll_2, ll_5, q5_0, w5_0, q5_2, w5_2, q5_3, w5_3, q5_4, w5_4, q5_5, w5_5, q5_6, w5_6, q5_7, w5_7, q5_8, w5_8, q5_9, w5_9, q1_4, w1_4, q1_5, w1_5, q1_6, w1_6, q1_7, w1_7, q1_8, w1_8, q1_9, w1_9, q1_10, w1_10, q1_11, w1_11, q1_12, w1_12, qa_2, wa_2, qa_3, wa_3, qa_4, wa_4, bU_same, bU_ne, s_in]
theorem q_isSign (hl : cLx F rd σ) (ok : okL b sz σ) (hc : tokC kk = c) (k0 : 23 ≤ kk) (k1 : kk ≤ 41) (k2 : kk ≤ 25 ∨ 30 ≤ kk) (hD : 1 ≤ D) :
    bk_call D 5027 [.ref rd, .int (bk_i c)] (bk_Q rd F (bk_M κ (cp, cs, cj) Y g n)) = some (some (.int (bk_i (bz (σ 4 = 0 ∧ σ 2 = kk)))), bk_Q rd F (bk_M κ (cp, cs, cj) Y g n)) := by
  obtain ⟨d, rfl⟩ := dep hD
  obtain ⟨l2, l3, l4, l5, l6, l8⟩ := hl
  have tr := tokC_rng (σ 2)
  have cr := tokC_rng kk
  have s4 := ok.2.2.2.2.2.2.2
  have ti := tok_iff ok.2.2.2.1 k0 k1 k2
  rw [hc] at ti cr
  rw [kX5_isSign, eX5_isSign_0]
  by_cases q : σ 4 = 0
  · by_cases q2 : σ 2 = kk
    · rw [bz_t ⟨q, q2⟩]
      simp (disch := first | assumption | omega) only [l6, if_pos q, l4, if_pos (ti.mpr q2), bi_add, bi_sub, bi_mul, bi_neg, bi_div, bi_64, bl_add, bl_sub, bl_mul, bl_neg, bl_div, bl_32, bi_min, bi_max, bl_min, bl_max, bq_I, bq_J, bq_A, bq_Vi, bq_Vl, bq_Vr, bq_cV, bq_cI, bq_cJ, bq_cA, bq_le, bq_lt, bq_eq, bq_z, bq_o, bq_ref, bq_nz, bq_nzJ, bq_bl, bq_blz, bq_T, bq_F, if_true, if_false, Int.reduceEq, Int.reduceLT, Int.reduceLE, Int.reduceAdd, Int.reduceSub, Int.reduceMul, Int.add_sub_cancel, li_0, li_1, li_4, li_5, li_6, ll_0, ll_1, ll_4, ll_5, ll_6, q5_0, w5_0, q5_2, w5_2, q5_3, w5_3, q5_4, w5_4, q5_5, w5_5, q5_6, w5_6, q5_7, w5_7, q5_8, w5_8, q5_9, w5_9, q1_4, w1_4, q1_5, w1_5, q1_6, w1_6, q1_7, w1_7, q1_8, w1_8, q1_9, w1_9, q1_10, w1_10, q1_11, w1_11, q1_12, w1_12, qa_2, wa_2, qa_3, wa_3, qa_4, wa_4, bU_same, bU_ne, s_in]
    · rw [bz_f (fun w => q2 w.2)]
      simp (disch := first | assumption | omega) only [l6, if_pos q, l4, if_neg (fun w => q2 (ti.mp w)), bi_add, bi_sub, bi_mul, bi_neg, bi_div, bi_64, bl_add, bl_sub, bl_mul, bl_neg, bl_div, bl_32, bi_min, bi_max, bl_min, bl_max, bq_I, bq_J, bq_A, bq_Vi, bq_Vl, bq_Vr, bq_cV, bq_cI, bq_cJ, bq_cA, bq_le, bq_lt, bq_eq, bq_z, bq_o, bq_ref, bq_nz, bq_nzJ, bq_bl, bq_blz, bq_T, bq_F, if_true, if_false, Int.reduceEq, Int.reduceLT, Int.reduceLE, Int.reduceAdd, Int.reduceSub, Int.reduceMul, Int.add_sub_cancel, li_0, li_1, li_4, li_5, li_6, ll_0, ll_1, ll_4, ll_5, ll_6, q5_0, w5_0, q5_2, w5_2, q5_3, w5_3, q5_4, w5_4, q5_5, w5_5, q5_6, w5_6, q5_7, w5_7, q5_8, w5_8, q5_9, w5_9, q1_4, w1_4, q1_5, w1_5, q1_6, w1_6, q1_7, w1_7, q1_8, w1_8, q1_9, w1_9, q1_10, w1_10, q1_11, w1_11, q1_12, w1_12, qa_2, wa_2, qa_3, wa_3, qa_4, wa_4, bU_same, bU_ne, s_in]
  · rw [bz_f (fun w => q w.1)]
    simp (disch := first | assumption | omega) only [l6, if_neg q, bi_add, bi_sub, bi_mul, bi_neg, bi_div, bi_64, bl_add, bl_sub, bl_mul, bl_neg, bl_div, bl_32, bi_min, bi_max, bl_min, bl_max, bq_I, bq_J, bq_A, bq_Vi, bq_Vl, bq_Vr, bq_cV, bq_cI, bq_cJ, bq_cA, bq_le, bq_lt, bq_eq, bq_z, bq_o, bq_ref, bq_nz, bq_nzJ, bq_bl, bq_blz, bq_T, bq_F, if_true, if_false, Int.reduceEq, Int.reduceLT, Int.reduceLE, Int.reduceAdd, Int.reduceSub, Int.reduceMul, Int.add_sub_cancel, li_0, li_1, li_4, li_5, li_6, ll_0, ll_1, ll_4, ll_5, ll_6, q5_0, w5_0, q5_2, w5_2, q5_3, w5_3, q5_4, w5_4, q5_5, w5_5, q5_6, w5_6, q5_7, w5_7, q5_8, w5_8, q5_9, w5_9, q1_4, w1_4, q1_5, w1_5, q1_6, w1_6, q1_7, w1_7, q1_8, w1_8, q1_9, w1_9, q1_10, w1_10, q1_11, w1_11, q1_12, w1_12, qa_2, wa_2, qa_3, wa_3, qa_4, wa_4, bU_same, bU_ne, s_in]
theorem q_must (h : bPw cp g n rd b sz) (hz : F rd 0 = sz) (hl : cLx F rd σ) (ok : okL b sz σ) (hc : tokC kk = c) (k0 : 23 ≤ kk) (k1 : kk ≤ 41) (k2 : kk ≤ 25 ∨ 30 ≤ kk) (hD : 9 ≤ D) :
    ∃ F', frF rd F F' ∧ cLx F' rd (mustM b sz kk σ) ∧ bk_call D 5012 [.ref rd, .int (bk_i c)] (bk_Q rd F (bk_M κ (cp, cs, cj) Y g n)) = some (none, bk_Q rd F' (bk_M κ (cp, cs, cj) Y g n)) := by
  obtain ⟨d, rfl⟩ := dep hD
  have hl' := hl
  obtain ⟨l2, l3, l4, l5, l6, l8⟩ := hl
  have tr := tokC_rng (σ 2)
  have cr := tokC_rng kk
  have s4 := ok.2.2.2.2.2.2.2
  have ti := tok_iff ok.2.2.2.1 k0 k1 k2
  rw [hc] at ti cr
  unfold mustM
  rw [kX5_must, eX5_must_0]
  by_cases q : σ 4 = 0
  · by_cases q2 : σ 2 = kk
    · rw [if_pos ⟨q, q2⟩]
      obtain ⟨F1, f1, c1, e1⟩ := q_nextL (κ := κ) (cs := cs) (cj := cj) (Y := Y) (D := d) h hz hl' ok (by omega)
      refine ⟨F1, f1, c1, ?_⟩
      simp (disch := first | assumption | omega) only [l6, if_pos q, l4, if_pos (ti.mpr q2), eX5_must_20, e1, bi_add, bi_sub, bi_mul, bi_neg, bi_div, bi_64, bl_add, bl_sub, bl_mul, bl_neg, bl_div, bl_32, bi_min, bi_max, bl_min, bl_max, bq_I, bq_J, bq_A, bq_Vi, bq_Vl, bq_Vr, bq_cV, bq_cI, bq_cJ, bq_cA, bq_le, bq_lt, bq_eq, bq_z, bq_o, bq_ref, bq_nz, bq_nzJ, bq_bl, bq_blz, bq_T, bq_F, if_true, if_false, Int.reduceEq, Int.reduceLT, Int.reduceLE, Int.reduceAdd, Int.reduceSub, Int.reduceMul, Int.add_sub_cancel, li_0, li_1, li_2, li_4, li_5, li_6, li_20, ll_0, ll_1, ll_2, ll_4, ll_5, ll_6, ll_20, q5_0, w5_0, q5_2, w5_2, q5_3, w5_3, q5_4, w5_4, q5_5, w5_5, q5_6, w5_6, q5_7, w5_7, q5_8, w5_8, q5_9, w5_9, q1_4, w1_4, q1_5, w1_5, q1_6, w1_6, q1_7, w1_7, q1_8, w1_8, q1_9, w1_9, q1_10, w1_10, q1_11, w1_11, q1_12, w1_12, qa_2, wa_2, qa_3, wa_3, qa_4, wa_4, bU_same, bU_ne, s_in]
    · rw [if_neg (fun w => q2 w.2)]
      obtain ⟨F1, f1, c1, e1⟩ := q_wrong (κ := κ) (cp := cp) (cs := cs) (cj := cj) (Y := Y) (g := g) (n := n) (f := 2) (D := d) hl' ok (by omega)
      have fo := failM_ok ok (f := 2) (by decide) (by decide)
      have f6 := c1.2.2.2.2.1
      have n6 : ¬ failM 2 σ 4 = 0 := fo.2.2.2.2.2
      have b6 := fo.1.2.2.2.2.2.2.2
      refine ⟨F1, f1, c1, ?_⟩
      simp (disch := first | assumption | omega) only [l6, if_pos q, l4, if_neg (fun w => q2 (ti.mp w)), e1, eX5_must_20, f6, if_neg n6, bi_add, bi_sub, bi_mul, bi_neg, bi_div, bi_64, bl_add, bl_sub, bl_mul, bl_neg, bl_div, bl_32, bi_min, bi_max, bl_min, bl_max, bq_I, bq_J, bq_A, bq_Vi, bq_Vl, bq_Vr, bq_cV, bq_cI, bq_cJ, bq_cA, bq_le, bq_lt, bq_eq, bq_z, bq_o, bq_ref, bq_nz, bq_nzJ, bq_bl, bq_blz, bq_T, bq_F, if_true, if_false, Int.reduceEq, Int.reduceLT, Int.reduceLE, Int.reduceAdd, Int.reduceSub, Int.reduceMul, Int.add_sub_cancel, li_0, li_1, li_2, li_4, li_5, li_6, li_20, ll_0, ll_1, ll_2, ll_4, ll_5, ll_6, ll_20, q5_0, w5_0, q5_2, w5_2, q5_3, w5_3, q5_4, w5_4, q5_5, w5_5, q5_6, w5_6, q5_7, w5_7, q5_8, w5_8, q5_9, w5_9, q1_4, w1_4, q1_5, w1_5, q1_6, w1_6, q1_7, w1_7, q1_8, w1_8, q1_9, w1_9, q1_10, w1_10, q1_11, w1_11, q1_12, w1_12, qa_2, wa_2, qa_3, wa_3, qa_4, wa_4, bU_same, bU_ne, s_in]
  · rw [if_neg (fun w => q w.1), failM_s q]
    refine ⟨F, frF_rf rd F, hl', ?_⟩
    simp (disch := first | assumption | omega) only [l6, if_neg q, eX5_must_20, bi_add, bi_sub, bi_mul, bi_neg, bi_div, bi_64, bl_add, bl_sub, bl_mul, bl_neg, bl_div, bl_32, bi_min, bi_max, bl_min, bl_max, bq_I, bq_J, bq_A, bq_Vi, bq_Vl, bq_Vr, bq_cV, bq_cI, bq_cJ, bq_cA, bq_le, bq_lt, bq_eq, bq_z, bq_o, bq_ref, bq_nz, bq_nzJ, bq_bl, bq_blz, bq_T, bq_F, if_true, if_false, Int.reduceEq, Int.reduceLT, Int.reduceLE, Int.reduceAdd, Int.reduceSub, Int.reduceMul, Int.add_sub_cancel, li_0, li_1, li_2, li_4, li_5, li_6, li_20, ll_0, ll_1, ll_2, ll_4, ll_5, ll_6, ll_20, q5_0, w5_0, q5_2, w5_2, q5_3, w5_3, q5_4, w5_4, q5_5, w5_5, q5_6, w5_6, q5_7, w5_7, q5_8, w5_8, q5_9, w5_9, q1_4, w1_4, q1_5, w1_5, q1_6, w1_6, q1_7, w1_7, q1_8, w1_8, q1_9, w1_9, q1_10, w1_10, q1_11, w1_11, q1_12, w1_12, qa_2, wa_2, qa_3, wa_3, qa_4, wa_4, bU_same, bU_ne, s_in]
theorem q_number (h : bPw cp g n rd b sz) (hz : F rd 0 = sz) (hl : cLx F rd σ) (ok : okL b sz σ) (a0 : 0 ≤ lo) (a1 : lo < 1000) (a2 : -1000 ≤ hi) (a3 : hi < 1000) (hD : 9 ≤ D) :
    ∃ F' z, frF rd F F' ∧ cLx F' rd (numM b sz lo hi σ) ∧ (numM b sz lo hi σ 4 = 0 → z = σ 3) ∧ 0 ≤ z ∧ z < 1000 ∧ bk_call D 5010 [.ref rd, .int (bk_i lo), .int (bk_i hi)] (bk_Q rd F (bk_M κ (cp, cs, cj) Y g n)) = some (some (.int (bk_i z)), bk_Q rd F' (bk_M κ (cp, cs, cj) Y g n)) := by
  obtain ⟨d, rfl⟩ := dep hD
  have hl' := hl
  obtain ⟨l2, l3, l4, l5, l6, l8⟩ := hl
  have tr := tokC_rng (σ 2)
  have s4 := ok.2.2.2.2.2.2.2
  have s3 := ok.2.2.2.2.2.2.1
  have ti := tok_iff (j := 23) ok.2.2.2.1 (by decide) (by decide) (by decide)
  have t23 : tokC 23 = 2 := rfl
  rw [t23] at ti
  unfold numM
  rw [kX5_number, eX5_number_0]
  by_cases q : σ 4 = 0
  · by_cases q2 : σ 2 = 23
    · have v5 := l5 q2
      have v3 := s3 q2
      by_cases q3 : lo ≤ σ 3 ∧ σ 3 ≤ hi
      · rw [if_pos ⟨q, q2, q3.1, q3.2⟩]
        obtain ⟨F1, f1, c1, e1⟩ := q_nextL (κ := κ) (cs := cs) (cj := cj) (Y := Y) (D := d) h hz hl' ok (by omega)
        refine ⟨F1, σ 3, f1, c1, fun _ => rfl, v3.1, by omega, ?_⟩
        simp (disch := first | assumption | omega) only [l6, if_pos q, l4, if_pos (ti.mpr q2), eX5_number_20, v5, if_pos q3, eX5_number_47, e1, bi_add, bi_sub, bi_mul, bi_neg, bi_div, bi_64, bl_add, bl_sub, bl_mul, bl_neg, bl_div, bl_32, bi_min, bi_max, bl_min, bl_max, bq_I, bq_J, bq_A, bq_Vi, bq_Vl, bq_Vr, bq_cV, bq_cI, bq_cJ, bq_cA, bq_le, bq_lt, bq_eq, bq_z, bq_o, bq_ref, bq_nz, bq_nzJ, bq_bl, bq_blz, bq_T, bq_F, if_true, if_false, Int.reduceEq, Int.reduceLT, Int.reduceLE, Int.reduceAdd, Int.reduceSub, Int.reduceMul, Int.add_sub_cancel, li_0, li_1, li_2, li_3, li_4, li_5, li_6, li_20, li_47, ll_0, ll_1, ll_2, ll_3, ll_4, ll_5, ll_6, ll_20, ll_47, q5_0, w5_0, q5_2, w5_2, q5_3, w5_3, q5_4, w5_4, q5_5, w5_5, q5_6, w5_6, q5_7, w5_7, q5_8, w5_8, q5_9, w5_9, q1_4, w1_4, q1_5, w1_5, q1_6, w1_6, q1_7, w1_7, q1_8, w1_8, q1_9, w1_9, q1_10, w1_10, q1_11, w1_11, q1_12, w1_12, qa_2, wa_2, qa_3, wa_3, qa_4, wa_4, bU_same, bU_ne, s_in]
      · rw [if_neg (fun w => q3 w.2.2), if_pos q2]
        obtain ⟨F1, f1, c1, e1⟩ := q_wrong (κ := κ) (cp := cp) (cs := cs) (cj := cj) (Y := Y) (g := g) (n := n) (f := 3) (D := d) hl' ok (by omega)
        have fo := failM_ok ok (f := 3) (by decide) (by decide)
        have f6 := c1.2.2.2.2.1
        have n6 : ¬ failM 3 σ 4 = 0 := fo.2.2.2.2.2
        have b6 := fo.1.2.2.2.2.2.2.2
        refine ⟨F1, lo, f1, c1, fun w => absurd w n6, a0, a1, ?_⟩
        simp (disch := first | assumption | omega) only [l6, if_pos q, l4, if_pos (ti.mpr q2), eX5_number_20, v5, if_neg q3, e1, eX5_number_47, f6, if_neg n6, bi_add, bi_sub, bi_mul, bi_neg, bi_div, bi_64, bl_add, bl_sub, bl_mul, bl_neg, bl_div, bl_32, bi_min, bi_max, bl_min, bl_max, bq_I, bq_J, bq_A, bq_Vi, bq_Vl, bq_Vr, bq_cV, bq_cI, bq_cJ, bq_cA, bq_le, bq_lt, bq_eq, bq_z, bq_o, bq_ref, bq_nz, bq_nzJ, bq_bl, bq_blz, bq_T, bq_F, if_true, if_false, Int.reduceEq, Int.reduceLT, Int.reduceLE, Int.reduceAdd, Int.reduceSub, Int.reduceMul, Int.add_sub_cancel, li_0, li_1, li_2, li_3, li_4, li_5, li_6, li_20, li_47, ll_0, ll_1, ll_2, ll_3, ll_4, ll_5, ll_6, ll_20, ll_47, q5_0, w5_0, q5_2, w5_2, q5_3, w5_3, q5_4, w5_4, q5_5, w5_5, q5_6, w5_6, q5_7, w5_7, q5_8, w5_8, q5_9, w5_9, q1_4, w1_4, q1_5, w1_5, q1_6, w1_6, q1_7, w1_7, q1_8, w1_8, q1_9, w1_9, q1_10, w1_10, q1_11, w1_11, q1_12, w1_12, qa_2, wa_2, qa_3, wa_3, qa_4, wa_4, bU_same, bU_ne, s_in]
    · rw [if_neg (fun w => q2 w.2.1), if_neg q2]
      obtain ⟨F1, f1, c1, e1⟩ := q_wrong (κ := κ) (cp := cp) (cs := cs) (cj := cj) (Y := Y) (g := g) (n := n) (f := 2) (D := d) hl' ok (by omega)
      have fo := failM_ok ok (f := 2) (by decide) (by decide)
      have f6 := c1.2.2.2.2.1
      have n6 : ¬ failM 2 σ 4 = 0 := fo.2.2.2.2.2
      have b6 := fo.1.2.2.2.2.2.2.2
      refine ⟨F1, lo, f1, c1, fun w => absurd w n6, a0, a1, ?_⟩
      simp (disch := first | assumption | omega) only [l6, if_pos q, l4, if_neg (fun w => q2 (ti.mp w)), e1, eX5_number_20, f6, if_neg n6, eX5_number_47, bi_add, bi_sub, bi_mul, bi_neg, bi_div, bi_64, bl_add, bl_sub, bl_mul, bl_neg, bl_div, bl_32, bi_min, bi_max, bl_min, bl_max, bq_I, bq_J, bq_A, bq_Vi, bq_Vl, bq_Vr, bq_cV, bq_cI, bq_cJ, bq_cA, bq_le, bq_lt, bq_eq, bq_z, bq_o, bq_ref, bq_nz, bq_nzJ, bq_bl, bq_blz, bq_T, bq_F, if_true, if_false, Int.reduceEq, Int.reduceLT, Int.reduceLE, Int.reduceAdd, Int.reduceSub, Int.reduceMul, Int.add_sub_cancel, li_0, li_1, li_2, li_3, li_4, li_5, li_6, li_20, li_47, ll_0, ll_1, ll_2, ll_3, ll_4, ll_5, ll_6, ll_20, ll_47, q5_0, w5_0, q5_2, w5_2, q5_3, w5_3, q5_4, w5_4, q5_5, w5_5, q5_6, w5_6, q5_7, w5_7, q5_8, w5_8, q5_9, w5_9, q1_4, w1_4, q1_5, w1_5, q1_6, w1_6, q1_7, w1_7, q1_8, w1_8, q1_9, w1_9, q1_10, w1_10, q1_11, w1_11, q1_12, w1_12, qa_2, wa_2, qa_3, wa_3, qa_4, wa_4, bU_same, bU_ne, s_in]
  · rw [if_neg (fun w => q w.1), failM_s q]
    refine ⟨F, lo, frF_rf rd F, hl', fun w => absurd w q, a0, a1, ?_⟩
    simp (disch := first | assumption | omega) only [l6, if_neg q, eX5_number_20, eX5_number_47, bi_add, bi_sub, bi_mul, bi_neg, bi_div, bi_64, bl_add, bl_sub, bl_mul, bl_neg, bl_div, bl_32, bi_min, bi_max, bl_min, bl_max, bq_I, bq_J, bq_A, bq_Vi, bq_Vl, bq_Vr, bq_cV, bq_cI, bq_cJ, bq_cA, bq_le, bq_lt, bq_eq, bq_z, bq_o, bq_ref, bq_nz, bq_nzJ, bq_bl, bq_blz, bq_T, bq_F, if_true, if_false, Int.reduceEq, Int.reduceLT, Int.reduceLE, Int.reduceAdd, Int.reduceSub, Int.reduceMul, Int.add_sub_cancel, li_0, li_1, li_2, li_3, li_4, li_5, li_6, li_20, li_47, ll_0, ll_1, ll_2, ll_3, ll_4, ll_5, ll_6, ll_20, ll_47, q5_0, w5_0, q5_2, w5_2, q5_3, w5_3, q5_4, w5_4, q5_5, w5_5, q5_6, w5_6, q5_7, w5_7, q5_8, w5_8, q5_9, w5_9, q1_4, w1_4, q1_5, w1_5, q1_6, w1_6, q1_7, w1_7, q1_8, w1_8, q1_9, w1_9, q1_10, w1_10, q1_11, w1_11, q1_12, w1_12, qa_2, wa_2, qa_3, wa_3, qa_4, wa_4, bU_same, bU_ne, s_in]
/-- the parser's state has changed, and how deep it is -/
def frD (rd : Nat) (F F' : bF) : Prop := (∀ a, a ≠ rd → F' a = F a) ∧ ∀ k, k < 2 ∨ 8 < k → F' rd k = F rd k
theorem q_goesIn (h : bPw cp g n rd b sz) (hz : F rd 0 = sz) (hl : cLx F rd σ) (ok : okL b sz σ) (hd : F rd 7 = dp) (a0 : 0 ≤ dp) (a1 : dp ≤ 6) (hD : 9 ≤ D) :
    ∃ F', frD rd F F' ∧ F' rd 7 = dp + 1 ∧ cLx F' rd (goM b sz dp σ) ∧ bk_call D 5023 [.ref rd] (bk_Q rd F (bk_M κ (cp, cs, cj) Y g n)) = some (none, bk_Q rd F' (bk_M κ (cp, cs, cj) Y g n)) := by
  obtain ⟨d, rfl⟩ := dep hD
  have s4 := ok.2.2.2.2.2.2.2
  have hup : ∀ (G : bF) (τ : Int → Int), cLx G rd τ → cLx (bU G rd 7 (dp + 1)) rd τ := fun G τ c => ⟨by rw [bU_same, if_neg (by decide)]; exact c.1, by rw [bU_same, if_neg (by decide)]; exact c.2.1, by rw [bU_same, if_neg (by decide)]; exact c.2.2.1, by rw [bU_same, if_neg (by decide)]; exact c.2.2.2.1, by rw [bU_same, if_neg (by decide)]; exact c.2.2.2.2.1, by rw [bU_same, if_neg (by decide)]; exact c.2.2.2.2.2⟩
  have hf7 : ∀ G : bF, bU G rd 7 (dp + 1) rd 7 = dp + 1 := fun G => by rw [bU_same, if_pos rfl]
  unfold goM
  rw [kX5_goesIn, eX5_goesIn_0]
  by_cases q : dp = 6
  · rw [if_pos q]
    obtain ⟨F1, f1, c1, e1⟩ := q_wrong (κ := κ) (cp := cp) (cs := cs) (cj := cj) (Y := Y) (g := g) (n := n) (f := 4) (D := d) hl ok (by omega)
    have fo := failM_ok ok (f := 4) (by decide) (by decide)
    have f6 := c1.2.2.2.2.1
    have n6 : ¬ failM 4 σ 4 = 0 := fo.2.2.2.2.2
    have b6 := fo.1.2.2.2.2.2.2.2
    have f7 : F1 rd 7 = dp := (f1.2 7 (by omega)).trans hd
    refine ⟨bU F1 rd 7 (dp + 1), ⟨fun a ha => by funext k; rw [bU_ne _ _ _ _ _ _ ha, f1.1 a ha], fun k hk => by rw [bU_same, if_neg (by omega)]; exact f1.2 k (by omega)⟩, hf7 _, hup _ _ c1, ?_⟩
    simp (disch := first | assumption | omega) only [hd, if_pos q, e1, eX5_goesIn_14, f7, f6, if_neg n6, bi_add, bi_sub, bi_mul, bi_neg, bi_div, bi_64, bl_add, bl_sub, bl_mul, bl_neg, bl_div, bl_32, bi_min, bi_max, bl_min, bl_max, bq_I, bq_J, bq_A, bq_Vi, bq_Vl, bq_Vr, bq_cV, bq_cI, bq_cJ, bq_cA, bq_le, bq_lt, bq_eq, bq_z, bq_o, bq_ref, bq_nz, bq_nzJ, bq_bl, bq_blz, bq_T, bq_F, if_true, if_false, Int.reduceEq, Int.reduceLT, Int.reduceLE, Int.reduceAdd, Int.reduceSub, Int.reduceMul, Int.add_sub_cancel, li_0, li_1, li_4, li_5, li_6, li_7, li_14, ll_0, ll_1, ll_4, ll_5, ll_6, ll_7, ll_14, q5_0, w5_0, q5_2, w5_2, q5_3, w5_3, q5_4, w5_4, q5_5, w5_5, q5_6, w5_6, q5_7, w5_7, q5_8, w5_8, q5_9, w5_9, q1_4, w1_4, q1_5, w1_5, q1_6, w1_6, q1_7, w1_7, q1_8, w1_8, q1_9, w1_9, q1_10, w1_10, q1_11, w1_11, q1_12, w1_12, qa_2, wa_2, qa_3, wa_3, qa_4, wa_4, bU_same, bU_ne, s_in]
  · rw [if_neg q]
    have l6 := hl.2.2.2.2.1
    by_cases q2 : σ 4 = 0
    · rw [if_pos q2]
      obtain ⟨F1, f1, c1, e1⟩ := q_nextL (κ := κ) (cs := cs) (cj := cj) (Y := Y) (F := bU F rd 7 (dp + 1)) (D := d) h (by rw [bU_same, if_neg (by decide)]; exact hz) (hup _ _ hl) ok (by omega)
      refine ⟨F1, ⟨fun a ha => by rw [f1.1 a ha]; funext k; rw [bU_ne _ _ _ _ _ _ ha], fun k hk => by rw [f1.2 k (by omega), bU_same, if_neg (by omega)]⟩, by rw [f1.2 7 (by omega)]; exact hf7 _, c1, ?_⟩
      simp (disch := first | assumption | omega) only [hd, if_neg q, eX5_goesIn_14, l6, if_pos q2, e1, bi_add, bi_sub, bi_mul, bi_neg, bi_div, bi_64, bl_add, bl_sub, bl_mul, bl_neg, bl_div, bl_32, bi_min, bi_max, bl_min, bl_max, bq_I, bq_J, bq_A, bq_Vi, bq_Vl, bq_Vr, bq_cV, bq_cI, bq_cJ, bq_cA, bq_le, bq_lt, bq_eq, bq_z, bq_o, bq_ref, bq_nz, bq_nzJ, bq_bl, bq_blz, bq_T, bq_F, if_true, if_false, Int.reduceEq, Int.reduceLT, Int.reduceLE, Int.reduceAdd, Int.reduceSub, Int.reduceMul, Int.add_sub_cancel, li_0, li_1, li_4, li_5, li_6, li_7, li_14, ll_0, ll_1, ll_4, ll_5, ll_6, ll_7, ll_14, q5_0, w5_0, q5_2, w5_2, q5_3, w5_3, q5_4, w5_4, q5_5, w5_5, q5_6, w5_6, q5_7, w5_7, q5_8, w5_8, q5_9, w5_9, q1_4, w1_4, q1_5, w1_5, q1_6, w1_6, q1_7, w1_7, q1_8, w1_8, q1_9, w1_9, q1_10, w1_10, q1_11, w1_11, q1_12, w1_12, qa_2, wa_2, qa_3, wa_3, qa_4, wa_4, bU_same, bU_ne, s_in]
    · rw [if_neg q2]
      refine ⟨bU F rd 7 (dp + 1), ⟨fun a ha => by funext k; rw [bU_ne _ _ _ _ _ _ ha], fun k hk => by rw [bU_same, if_neg (by omega)]⟩, hf7 _, hup _ _ hl, ?_⟩
      simp (disch := first | assumption | omega) only [hd, if_neg q, eX5_goesIn_14, l6, if_neg q2, bi_add, bi_sub, bi_mul, bi_neg, bi_div, bi_64, bl_add, bl_sub, bl_mul, bl_neg, bl_div, bl_32, bi_min, bi_max, bl_min, bl_max, bq_I, bq_J, bq_A, bq_Vi, bq_Vl, bq_Vr, bq_cV, bq_cI, bq_cJ, bq_cA, bq_le, bq_lt, bq_eq, bq_z, bq_o, bq_ref, bq_nz, bq_nzJ, bq_bl, bq_blz, bq_T, bq_F, if_true, if_false, Int.reduceEq, Int.reduceLT, Int.reduceLE, Int.reduceAdd, Int.reduceSub, Int.reduceMul, Int.add_sub_cancel, li_0, li_1, li_4, li_5, li_6, li_7, li_14, ll_0, ll_1, ll_4, ll_5, ll_6, ll_7, ll_14, q5_0, w5_0, q5_2, w5_2, q5_3, w5_3, q5_4, w5_4, q5_5, w5_5, q5_6, w5_6, q5_7, w5_7, q5_8, w5_8, q5_9, w5_9, q1_4, w1_4, q1_5, w1_5, q1_6, w1_6, q1_7, w1_7, q1_8, w1_8, q1_9, w1_9, q1_10, w1_10, q1_11, w1_11, q1_12, w1_12, qa_2, wa_2, qa_3, wa_3, qa_4, wa_4, bU_same, bU_ne, s_in]
end CS
