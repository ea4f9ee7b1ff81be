/-! SPECS: the component's parser: its tokens -/
set_option maxRecDepth 100000
/-- what the component's parser stands in -/
def bPw (cp : bF) (g : bG) (n : Nat × Nat) (rd : Nat) (b : Int → Int) (sz : Int) : Prop := bFix g ∧ bStr g ∧ g 5 rd 10 = .ref 64 ∧ g 5 rd 1 = .ref (rd + 1) ∧ g 1 (rd + 1) 0 = .ref (rd + 2) ∧ g 1 (rd + 1) 1 = .ref (rd + 3) ∧ g 1 (rd + 1) 2 = .ref (rd + 4)
  ∧ 122 ≤ rd ∧ rd + 6 ≤ n.1 ∧ (∀ t a k, n.1 ≤ a → g t a k = bk_u) ∧ 0 ≤ sz ∧ sz ≤ 900 ∧ ∀ k, 0 ≤ k → k < 900 → 0 ≤ b k ∧ b k < 256 ∧ bk_i (cp 72 k) &&& bk_i 255 = bk_i (b k)
def rP (κ : Nat → Nat) (g : bG) (rd : Nat) : Prop := (∀ F X Y n, (bk_Q rd F (bk_M κ X Y g n)).1 5 rd 10 = .ref 64) ∧ (∀ F X Y n, (bk_Q rd F (bk_M κ X Y g n)).1 5 rd 1 = .ref (rd + 1)) ∧ (∀ F X Y n, (bk_Q rd F (bk_M κ X Y g n)).1 1 (rd + 1) 0 = .ref (rd + 2)) ∧ (∀ F X Y n, (bk_Q rd F (bk_M κ X Y g n)).1 1 (rd + 1) 1 = .ref (rd + 3)) ∧ (∀ F X Y n, (bk_Q rd F (bk_M κ X Y g n)).1 1 (rd + 1) 2 = .ref (rd + 4))
  ∧ (∀ F X Y n, (bk_Q rd F (bk_M κ X Y g n)).1 0 64 3 = .ref 72) ∧ (∀ F cp cs cj Y n z, 0 ≤ z → z < 900 → (bk_Q rd F (bk_M κ (cp, cs, cj) Y g n)).1 101 72 (bk_ix (bk_i z)) = .int (bk_i (cp 72 z)))
/-- the component's parser is in a state -/
def cLx (F : bF) (rd : Nat) (σ : Int → Int) : Prop := F rd 2 = σ 1 ∧ F rd 3 = σ 0 ∧ F rd 4 = tokC (σ 2) ∧ (σ 2 = 23 → F rd 5 = σ 3) ∧ F rd 6 = σ 4 ∧ (σ 4 ≠ 0 → F rd 8 = σ 5)
/-- only the parser's state has changed -/
def frF (rd : Nat) (F F' : bF) : Prop := (∀ a, a ≠ rd → F' a = F a) ∧ ∀ k, k < 2 ∨ 8 < k ∨ k = 7 → F' rd k = F rd k
theorem frF_rf (rd : Nat) (F : bF) : frF rd F F := ⟨fun _ _ => rfl, fun _ _ => rfl⟩
theorem frF_tr {rd : Nat} {F F' F'' : bF} (h : frF rd F F') (h' : frF rd F' F'') : frF rd F F'' := ⟨fun a q => (h'.1 a q).trans (h.1 a q), fun k q => (h'.2 k q).trans (h.2 k q)⟩
def failM (f : Int) (σ : Int → Int) : Int → Int := if σ 4 = 0 then s6 (σ 0) (σ 1) (σ 2) (σ 3) (if σ 2 = 25 then 1 else f) (σ 0) else σ
section CL
variable {κ : Nat → Nat} {cp cs : bF} {cj : bFJ} {X : bX} {Y : bY} {g : bG} {n : Nat × Nat} {rd v i kk : Nat} {F : bF} {b σ : Int → Int} {sz k c f : Int} {D : Nat}
theorem pw_rd (h : bPw cp g n rd b sz) : rP κ g rd := by
  obtain ⟨hF, hS, k10, k1, kb, ke, kd, r0, r1, hfr, z0, z1, hb⟩ := h
  have e64 : g 0 64 3 = .ref 72 := hF.1 (0, 64, 3, 72) (by decide)
  refine ⟨fun F X Y n => ?_, fun F X Y n => ?_, fun F X Y n => ?_, fun F X Y n => ?_, fun F X Y n => ?_, fun F X Y n => ?_, fun F cp cs cj Y n z z0 z1 => ?_⟩
  · rw [bQ_off (by omega), gX (by decide)]; exact k10
  · rw [bQ_off (by omega), gX (by decide)]; exact k1
  · rw [bQ_off (by omega), gX (by decide)]; exact kb
  · rw [bQ_off (by omega), gX (by decide)]; exact ke
  · rw [bQ_off (by omega), gX (by decide)]; exact kd
  · rw [bQ_off (by omega), gr64_3 hF]
  · rw [bQ_off (by omega), ga72 z0 z1]
theorem bStr_Q (hS : bStr g) : bStr (bk_Q rd F (bk_M κ X Y g n)).1 := by
  intro i hi
  obtain ⟨a, b, c, e⟩ := hS i hi
  refine ⟨?_, ?_, ?_, fun k k0 k1 => ?_⟩
  · rw [bQ_off (by omega), gX (by decide)]; exact a
  · rw [bQ_off (by omega), gX (by decide)]; exact b
  · rw [bQ_off (by omega), gX (by decide)]; exact c
  · rw [bQ_off (by omega), gX (by decide)]; exact e k k0 k1
theorem bStr_M (hS : bStr g) : bStr (bk_M κ X Y g n).1 := by
  intro i hi
  obtain ⟨a, b, c, e⟩ := hS i hi
  refine ⟨?_, ?_, ?_, fun k k0 k1 => ?_⟩
  · rw [gX (by decide)]; exact a
  · rw [gX (by decide)]; exact b
  · rw [gX (by decide)]; exact c
  · rw [gX (by decide)]; exact e k k0 k1
theorem q_see (h : bPw cp g n rd b sz) (hz : F rd 0 = sz) (k0 : 0 ≤ k) (k1 : k ≤ 900) (hD : 1 ≤ D) :
    bk_call D 5003 [.ref rd, .int (bk_i k)] (bk_Q rd F (bk_M κ (cp, cs, cj) Y g n)) = some (some (.int (bk_i (if k < sz then b k else 0))), bk_Q rd F (bk_M κ (cp, cs, cj) Y g n)) := by
  obtain ⟨d, rfl⟩ := dep hD
  have hr := pw_rd (κ := κ) h
  obtain ⟨t10, t1, tb, te, td, t3, tt⟩ := hr
  obtain ⟨hF, hS, k10, k1, kb, ke, kd, r0, r1, hfr, z0, z1, hb⟩ := h
  rw [kX5_see, eX5_see_0]
  by_cases q : k < sz
  · have e := (hb k k0 (by omega)).2.2
    simp (disch := first | assumption | omega) only [t10, t1, tb, te, td, t3, tt, hz, if_pos q, if_neg (show ¬ sz ≤ k by omega), e, bi_add, bi_sub, bi_mul, bi_neg, bi_div, bi_64, bl_add, bl_sub, bl_mul, bl_neg, bl_div, bl_32, bi_min, bi_max, bl_min, bl_max, bq_I, bq_J, bq_A, bq_Vi, bq_Vl, bq_Vr, bq_cV, bq_cI, bq_cJ, bq_cA, bq_le, bq_lt, bq_eq, bq_z, bq_o, bq_ref, bq_nz, bq_nzJ, bq_bl, bq_blz, bq_T, bq_F, if_true, if_false, Int.reduceEq, Int.reduceLT, Int.reduceLE, Int.reduceAdd, Int.reduceSub, Int.reduceMul, Int.add_sub_cancel, li_0, li_1, li_3, li_5, li_10, li_101, li_255, ll_0, ll_1, ll_3, ll_5, ll_10, ll_101, ll_255, q5_0, w5_0, q5_2, w5_2, q5_3, w5_3, q5_4, w5_4, q5_5, w5_5, q5_6, w5_6, q5_7, w5_7, q5_8, w5_8, q5_9, w5_9, q1_4, w1_4, q1_5, w1_5, q1_6, w1_6, q1_7, w1_7, q1_8, w1_8, q1_9, w1_9, q1_10, w1_10, q1_11, w1_11, q1_12, w1_12, qa_2, wa_2, qa_3, wa_3, qa_4, wa_4, bU_same, bU_ne, s_in]
  · simp (disch := first | assumption | omega) only [t10, t1, tb, te, td, t3, tt, hz, if_neg q, if_pos (show sz ≤ k by omega), bi_add, bi_sub, bi_mul, bi_neg, bi_div, bi_64, bl_add, bl_sub, bl_mul, bl_neg, bl_div, bl_32, bi_min, bi_max, bl_min, bl_max, bq_I, bq_J, bq_A, bq_Vi, bq_Vl, bq_Vr, bq_cV, bq_cI, bq_cJ, bq_cA, bq_le, bq_lt, bq_eq, bq_z, bq_o, bq_ref, bq_nz, bq_nzJ, bq_bl, bq_blz, bq_T, bq_F, if_true, if_false, Int.reduceEq, Int.reduceLT, Int.reduceLE, Int.reduceAdd, Int.reduceSub, Int.reduceMul, Int.add_sub_cancel, li_0, li_1, li_3, li_5, li_10, li_101, li_255, ll_0, ll_1, ll_3, ll_5, ll_10, ll_101, ll_255, q5_0, w5_0, q5_2, w5_2, q5_3, w5_3, q5_4, w5_4, q5_5, w5_5, q5_6, w5_6, q5_7, w5_7, q5_8, w5_8, q5_9, w5_9, q1_4, w1_4, q1_5, w1_5, q1_6, w1_6, q1_7, w1_7, q1_8, w1_8, q1_9, w1_9, q1_10, w1_10, q1_11, w1_11, q1_12, w1_12, qa_2, wa_2, qa_3, wa_3, qa_4, wa_4, bU_same, bU_ne, s_in]
theorem see_rng (h : bPw cp g n rd b sz) (k0 : 0 ≤ k) (k1 : k ≤ 900) : 0 ≤ (if k < sz then b k else 0) ∧ (if k < sz then b k else 0) < 256 := by
  obtain ⟨hF, hS, k10, k1, kb, ke, kd, r0, r1, hfr, z0, z1, hb⟩ := h
  split
  · have := hb k k0 (by omega)
    omega
  · omega
theorem q_isSmall (h : bPw cp g n rd b sz) (hz : F rd 0 = sz) (k0 : 0 ≤ k) (k1 : k ≤ 900) (hD : 2 ≤ D) :
    bk_call D 5004 [.ref rd, .int (bk_i k)] (bk_Q rd F (bk_M κ (cp, cs, cj) Y g n)) = some (some (.int (bk_i (bz (k < sz ∧ pS (b k))))), bk_Q rd F (bk_M κ (cp, cs, cj) Y g n)) := by
  obtain ⟨d, rfl⟩ := dep hD
  have e1 := q_see (κ := κ) (cs := cs) (cj := cj) (Y := Y) (D := d) h hz k0 k1 (by omega)
  have sr := see_rng h k0 k1
  have e : bz (97 ≤ (if k < sz then b k else 0) ∧ (if k < sz then b k else 0) ≤ 122) = bz (k < sz ∧ pS (b k)) := by
    by_cases q : k < sz
    · rw [if_pos q]
      by_cases q2 : pS (b k)
      · rw [bz_t q2, bz_t ⟨q, q2⟩]
      · rw [bz_f q2, bz_f (fun w => q2 w.2)]
    · rw [if_neg q, bz_f (by decide), bz_f (fun w => q w.1)]
  rw [kX5_isSmall, eX5_isSmall_0]
  generalize (if k < sz then b k else 0) = w at e1 sr e
  simp (disch := first | assumption | omega) only [e1, e, bi_add, bi_sub, bi_mul, bi_neg, bi_div, bi_64, bl_add, bl_sub, bl_mul, bl_neg, bl_div, bl_32, bi_min, bi_max, bl_min, bl_max, bq_I, bq_J, bq_A, bq_Vi, bq_Vl, bq_Vr, bq_cV, bq_cI, bq_cJ, bq_cA, bq_le, bq_lt, bq_eq, bq_z, bq_o, bq_ref, bq_nz, bq_nzJ, bq_bl, bq_blz, bq_T, bq_F, if_true, if_false, Int.reduceEq, Int.reduceLT, Int.reduceLE, Int.reduceAdd, Int.reduceSub, Int.reduceMul, Int.add_sub_cancel, li_0, li_1, li_5, li_97, li_122, ll_0, ll_1, ll_5, ll_97, ll_122, q5_0, w5_0, q5_2, w5_2, q5_3, w5_3, q5_4, w5_4, q5_5, w5_5, q5_6, w5_6, q5_7, w5_7, q5_8, w5_8, q5_9, w5_9, q1_4, w1_4, q1_5, w1_5, q1_6, w1_6, q1_7, w1_7, q1_8, w1_8, q1_9, w1_9, q1_10, w1_10, q1_11, w1_11, q1_12, w1_12, qa_2, wa_2, qa_3, wa_3, qa_4, wa_4, bU_same, bU_ne, s_in]
theorem q_isDigit (h : bPw cp g n rd b sz) (hz : F rd 0 = sz) (k0 : 0 ≤ k) (k1 : k ≤ 900) (hD : 2 ≤ D) :
    bk_call D 5005 [.ref rd, .int (bk_i k)] (bk_Q rd F (bk_M κ (cp, cs, cj) Y g n)) = some (some (.int (bk_i (bz (k < sz ∧ pD (b k))))), bk_Q rd F (bk_M κ (cp, cs, cj) Y g n)) := by
  obtain ⟨d, rfl⟩ := dep hD
  have e1 := q_see (κ := κ) (cs := cs) (cj := cj) (Y := Y) (D := d) h hz k0 k1 (by omega)
  have sr := see_rng h k0 k1
  have e : bz (48 ≤ (if k < sz then b k else 0) ∧ (if k < sz then b k else 0) ≤ 57) = bz (k < sz ∧ pD (b k)) := by
    by_cases q : k < sz
    · rw [if_pos q]
      by_cases q2 : pD (b k)
      · rw [bz_t q2, bz_t ⟨q, q2⟩]
      · rw [bz_f q2, bz_f (fun w => q2 w.2)]
    · rw [if_neg q, bz_f (by decide), bz_f (fun w => q w.1)]
  rw [kX5_isDigit, eX5_isDigit_0]
  generalize (if k < sz then b k else 0) = w at e1 sr e
  simp (disch := first | assumption | omega) only [e1, e, bi_add, bi_sub, bi_mul, bi_neg, bi_div, bi_64, bl_add, bl_sub, bl_mul, bl_neg, bl_div, bl_32, bi_min, bi_max, bl_min, bl_max, bq_I, bq_J, bq_A, bq_Vi, bq_Vl, bq_Vr, bq_cV, bq_cI, bq_cJ, bq_cA, bq_le, bq_lt, bq_eq, bq_z, bq_o, bq_ref, bq_nz, bq_nzJ, bq_bl, bq_blz, bq_T, bq_F, if_true, if_false, Int.reduceEq, Int.reduceLT, Int.reduceLE, Int.reduceAdd, Int.reduceSub, Int.reduceMul, Int.add_sub_cancel, li_0, li_1, li_5, li_48, li_57, ll_0, ll_1, ll_5, ll_48, ll_57, q5_0, w5_0, q5_2, w5_2, q5_3, w5_3, q5_4, w5_4, q5_5, w5_5, q5_6, w5_6, q5_7, w5_7, q5_8, w5_8, q5_9, w5_9, q1_4, w1_4, q1_5, w1_5, q1_6, w1_6, q1_7, w1_7, q1_8, w1_8, q1_9, w1_9, q1_10, w1_10, q1_11, w1_11, q1_12, w1_12, qa_2, wa_2, qa_3, wa_3, qa_4, wa_4, bU_same, bU_ne, s_in]
theorem dval_next {r a : Int} (a0 : r ≤ a) (a1 : a - r < 3) : dval b r (min 3 (a + 1 - r)).toNat = 10 * dval b r (min 3 (a - r)).toNat + b a - 48 := by
  have e : (min 3 (a + 1 - r)).toNat = (min 3 (a - r)).toNat + 1 := by omega
  have e2 : ((min 3 (a - r)).toNat : Int) = a - r := by omega
  rw [e]
  show 10 * dval b r (min 3 (a - r)).toNat + b (r + ((min 3 (a - r)).toNat : Int)) - 48 = _
  have e3 : r + ((min 3 (a - r)).toNat : Int) = a := by omega
  rw [e3]
theorem q_next (h : bPw cp g n rd b sz) (hz : F rd 0 = sz) (e1 : F rd 2 = σ 1) (e4 : F rd 6 = σ 4) (e5 : σ 4 ≠ 0 → F rd 8 = σ 5) (s0 : 0 ≤ σ 1) (s1 : σ 1 ≤ sz) (hD : 8 ≤ D) :
    ∃ F', frF rd F F' ∧ cLx F' rd (nextM b sz σ) ∧ bk_call D 5002 [.ref rd] (bk_Q rd F (bk_M κ (cp, cs, cj) Y g n)) = some (none, bk_Q rd F' (bk_M κ (cp, cs, cj) Y g n)) := by
  obtain ⟨d, rfl⟩ := dep hD
  have hr := pw_rd (κ := κ) h
  have hw := h
  obtain ⟨t10, t1, tb, te, td, t3, tt⟩ := hr
  obtain ⟨hF, hS, k10, k1, kb, ke, kd, r0, r1, hfr, z0, z1, hb⟩ := h
  have r0' := run_ge (P := pW) (b := b) (sz := sz) (i := σ 1)
  have r1' := run_le (P := pW) (b := b) s1
  have ev2 : ∀ F X Y n, (bk_Q rd F (bk_M κ X Y g n)).1 15 2 0 = .ref 32 := fun F X Y n => by rw [bQ_off (by omega), gX (by decide)]; exact (hS 0 (by decide)).1
  have goal : bk_wp (bk_call (d + 1) 5002 [.ref rd] (bk_Q rd F (bk_M κ (cp, cs, cj) Y g n))) (fun v h' => ∃ F', v = none ∧ h' = bk_Q rd F' (bk_M κ (cp, cs, cj) Y g n) ∧ frF rd F F' ∧ cLx F' rd (nextM b sz σ)) := by
    rw [kX5_next]
    have fin : ∀ x : bF, (∀ a, a ≠ rd → x a = F a) → (∀ k, k ≠ 2 → x rd k = F rd k) → x rd 2 = run pW b sz (σ 1) → bk_wp (bk_den TX5_next (bk_call d) 50 [.ref rd] [] (bk_Q rd x (bk_M κ (cp, cs, cj) Y g n))) (fun v h' => ∃ F', v = none ∧ h' = bk_Q rd F' (bk_M κ (cp, cs, cj) Y g n) ∧ frF rd F F' ∧ cLx F' rd (nextM b sz σ)) := by
      intro x xa xk x2
      have x0 : x rd 0 = sz := (xk 0 (by decide)).trans hz
      have x6 : x rd 6 = σ 4 := (xk 6 (by decide)).trans e4
      have x8 : σ 4 ≠ 0 → x rd 8 = σ 5 := fun q => (xk 8 (by decide)).trans (e5 q)
      generalize hrr : run pW b sz (σ 1) = r at r0' r1' x2
      have w0 : bU x rd 3 r rd 0 = sz := by rw [bU_same, if_neg (by decide)]; exact x0
      rw [eX5_next_50]
      unfold nextM cLx
      rw [hrr]
      by_cases q : r < sz
      · have es := q_isSmall (κ := κ) (cs := cs) (cj := cj) (Y := Y) (F := bU x rd 3 r) (k := r) (D := d) hw w0 (by omega) (by omega) (by omega)
        rw [if_neg (show ¬ sz ≤ r by omega)]
        by_cases q1 : pS (b r)
        · rw [if_pos q1]
          rw [bz_t ⟨q, q1⟩] at es
          simp (disch := first | assumption | omega) only [t10, t1, tb, te, td, t3, tt, x0, x2, if_pos q, es, bi_add, bi_sub, bi_mul, bi_neg, bi_div, bi_64, bl_add, bl_sub, bl_mul, bl_neg, bl_div, bl_32, bi_min, bi_max, bl_min, bl_max, bq_I, bq_J, bq_A, bq_Vi, bq_Vl, bq_Vr, bq_cV, bq_cI, bq_cJ, bq_cA, bq_le, bq_lt, bq_eq, bq_z, bq_o, bq_ref, bq_nz, bq_nzJ, bq_bl, bq_blz, bq_T, bq_F, if_true, if_false, Int.reduceEq, Int.reduceLT, Int.reduceLE, Int.reduceAdd, Int.reduceSub, Int.reduceMul, Int.add_sub_cancel, li_0, li_1, li_2, li_3, li_4, li_5, li_10, li_15, li_32, li_37, li_48, li_50, li_88, li_136, li_183, li_215, li_250, ll_0, ll_1, ll_2, ll_3, ll_4, ll_5, ll_10, ll_15, ll_32, ll_37, ll_48, ll_50, ll_88, ll_136, ll_183, ll_215, ll_250, q5_0, w5_0, q5_2, w5_2, q5_3, w5_3, q5_4, w5_4, q5_5, w5_5, q5_6, w5_6, q5_7, w5_7, q5_8, w5_8, q5_9, w5_9, q1_4, w1_4, q1_5, w1_5, q1_6, w1_6, q1_7, w1_7, q1_8, w1_8, q1_9, w1_9, q1_10, w1_10, q1_11, w1_11, q1_12, w1_12, qa_2, wa_2, qa_3, wa_3, qa_4, wa_4, bU_same, bU_ne, s_in]
          have g1 := run_ge1 (P := pS) (sz := sz) q q1
          have g2 := run_le (P := pS) (b := b) r1'
          refine bk_while (σ := bF) (fun y => bk_den TX5_next (bk_call d) 88 [.ref rd] [] (bk_Q rd y (bk_M κ (cp, cs, cj) Y g n))) (fun y => (sz - y rd 2).toNat) (fun y => (∀ a, a ≠ rd → y a = F a) ∧ (∀ k, k ≠ 2 → k ≠ 3 → y rd k = F rd k) ∧ y rd 3 = r ∧ r ≤ y rd 2 ∧ y rd 2 ≤ sz ∧ run pS b sz (y rd 2) = run pS b sz r) ?_ (bU x rd 3 r) ⟨fun a ha => by funext k; rw [bU_ne _ _ _ _ _ _ ha, xa a ha], fun k h2 h3 => by rw [bU_same, if_neg h3]; exact xk k h2, by rw [bU_same, if_pos rfl], by rw [bU_same, if_neg (by decide)]; omega, by rw [bU_same, if_neg (by decide)]; omega, by rw [bU_same, if_neg (by decide), x2]⟩
          rintro y ⟨ya, yk, y3, y2, y2', yr⟩ cont
          have y0 : y rd 0 = sz := (yk 0 (by decide) (by decide)).trans hz
          have ey := q_isSmall (κ := κ) (cs := cs) (cj := cj) (Y := Y) (F := y) (k := y rd 2) (D := d) hw y0 (by omega) (by omega) (by omega)
          rw [eX5_next_88]
          by_cases p : y rd 2 < sz ∧ pS (b (y rd 2))
          · rw [bz_t p] at ey
            simp (disch := first | assumption | omega) only [t10, t1, tb, te, td, t3, tt, y0, ey, bi_add, bi_sub, bi_mul, bi_neg, bi_div, bi_64, bl_add, bl_sub, bl_mul, bl_neg, bl_div, bl_32, bi_min, bi_max, bl_min, bl_max, bq_I, bq_J, bq_A, bq_Vi, bq_Vl, bq_Vr, bq_cV, bq_cI, bq_cJ, bq_cA, bq_le, bq_lt, bq_eq, bq_z, bq_o, bq_ref, bq_nz, bq_nzJ, bq_bl, bq_blz, bq_T, bq_F, if_true, if_false, Int.reduceEq, Int.reduceLT, Int.reduceLE, Int.reduceAdd, Int.reduceSub, Int.reduceMul, Int.add_sub_cancel, li_0, li_1, li_2, li_3, li_4, li_5, li_10, li_15, li_32, li_37, li_48, li_50, li_88, li_136, li_183, li_215, li_250, ll_0, ll_1, ll_2, ll_3, ll_4, ll_5, ll_10, ll_15, ll_32, ll_37, ll_48, ll_50, ll_88, ll_136, ll_183, ll_215, ll_250, q5_0, w5_0, q5_2, w5_2, q5_3, w5_3, q5_4, w5_4, q5_5, w5_5, q5_6, w5_6, q5_7, w5_7, q5_8, w5_8, q5_9, w5_9, q1_4, w1_4, q1_5, w1_5, q1_6, w1_6, q1_7, w1_7, q1_8, w1_8, q1_9, w1_9, q1_10, w1_10, q1_11, w1_11, q1_12, w1_12, qa_2, wa_2, qa_3, wa_3, qa_4, wa_4, bU_same, bU_ne, s_in]
            refine cont _ (by rw [bU_same, if_pos rfl]; omega) ⟨fun a ha => by funext k; rw [bU_ne _ _ _ _ _ _ ha, ya a ha], fun k h2 h3 => by rw [bU_same, if_neg h2]; exact yk k h2 h3, by rw [bU_same, if_neg (by decide)]; exact y3, by rw [bU_same, if_pos rfl]; omega, by rw [bU_same, if_pos rfl]; omega, by rw [bU_same, if_pos rfl, ← yr]; exact (run_go p.1 p.2).symm⟩
          · have ee : y rd 2 = run pS b sz r := by
              rw [← yr]
              by_cases p1 : y rd 2 < sz
              · exact (run_no (fun w => p ⟨p1, w⟩)).symm
              · exact (run_end (by omega)).symm
            rw [bz_f p] at ey
            simp (disch := first | assumption | omega) only [t10, t1, tb, te, td, t3, tt, y0, ey, bi_add, bi_sub, bi_mul, bi_neg, bi_div, bi_64, bl_add, bl_sub, bl_mul, bl_neg, bl_div, bl_32, bi_min, bi_max, bl_min, bl_max, bq_I, bq_J, bq_A, bq_Vi, bq_Vl, bq_Vr, bq_cV, bq_cI, bq_cJ, bq_cA, bq_le, bq_lt, bq_eq, bq_z, bq_o, bq_ref, bq_nz, bq_nzJ, bq_bl, bq_blz, bq_T, bq_F, if_true, if_false, Int.reduceEq, Int.reduceLT, Int.reduceLE, Int.reduceAdd, Int.reduceSub, Int.reduceMul, Int.add_sub_cancel, li_0, li_1, li_2, li_3, li_4, li_5, li_10, li_15, li_32, li_37, li_48, li_50, li_88, li_136, li_183, li_215, li_250, ll_0, ll_1, ll_2, ll_3, ll_4, ll_5, ll_10, ll_15, ll_32, ll_37, ll_48, ll_50, ll_88, ll_136, ll_183, ll_215, ll_250, q5_0, w5_0, q5_2, w5_2, q5_3, w5_3, q5_4, w5_4, q5_5, w5_5, q5_6, w5_6, q5_7, w5_7, q5_8, w5_8, q5_9, w5_9, q1_4, w1_4, q1_5, w1_5, q1_6, w1_6, q1_7, w1_7, q1_8, w1_8, q1_9, w1_9, q1_10, w1_10, q1_11, w1_11, q1_12, w1_12, qa_2, wa_2, qa_3, wa_3, qa_4, wa_4, bU_same, bU_ne, s_in]
            have kr := key_rng (txt b r (run pS b sz r))
            refine ⟨_, _, rfl, _, rfl, rfl, ⟨fun a ha => by funext k; rw [bU_ne _ _ _ _ _ _ ha, ya a ha], fun k hk => by rw [bU_same, if_neg (by omega)]; exact yk k (by omega) (by omega)⟩, ?_⟩
            refine ⟨by rw [bU_same, if_neg (by decide)]; exact ee, by rw [bU_same, if_neg (by decide)]; exact y3, ?_, fun w => absurd (show keyM (txt b r (run pS b sz r)) = 23 from w) (by omega), ?_, fun w => ?_⟩
            · rw [bU_same, if_pos rfl]
              show (1 : Int) = tokC (keyM (txt b r (run pS b sz r)))
              unfold tokC
              rw [if_pos kr.2.1]
            · rw [bU_same, if_neg (by decide), yk 6 (by decide) (by decide)]; exact e4
            · rw [bU_same, if_neg (by decide), yk 8 (by decide) (by decide)]; exact e5 w
        · rw [if_neg q1]
          rw [bz_f (fun w => q1 w.2)] at es
          have ed := q_isDigit (κ := κ) (cs := cs) (cj := cj) (Y := Y) (F := bU x rd 3 r) (k := r) (D := d) hw w0 (by omega) (by omega) (by omega)
          by_cases q2 : pD (b r)
          · rw [if_pos q2]
            rw [bz_t ⟨q, q2⟩] at ed
            simp (disch := first | assumption | omega) only [t10, t1, tb, te, td, t3, tt, x0, x2, if_pos q, es, ed, bi_add, bi_sub, bi_mul, bi_neg, bi_div, bi_64, bl_add, bl_sub, bl_mul, bl_neg, bl_div, bl_32, bi_min, bi_max, bl_min, bl_max, bq_I, bq_J, bq_A, bq_Vi, bq_Vl, bq_Vr, bq_cV, bq_cI, bq_cJ, bq_cA, bq_le, bq_lt, bq_eq, bq_z, bq_o, bq_ref, bq_nz, bq_nzJ, bq_bl, bq_blz, bq_T, bq_F, if_true, if_false, Int.reduceEq, Int.reduceLT, Int.reduceLE, Int.reduceAdd, Int.reduceSub, Int.reduceMul, Int.add_sub_cancel, li_0, li_1, li_2, li_3, li_4, li_5, li_10, li_15, li_32, li_37, li_48, li_50, li_88, li_136, li_183, li_215, li_250, ll_0, ll_1, ll_2, ll_3, ll_4, ll_5, ll_10, ll_15, ll_32, ll_37, ll_48, ll_50, ll_88, ll_136, ll_183, ll_215, ll_250, q5_0, w5_0, q5_2, w5_2, q5_3, w5_3, q5_4, w5_4, q5_5, w5_5, q5_6, w5_6, q5_7, w5_7, q5_8, w5_8, q5_9, w5_9, q1_4, w1_4, q1_5, w1_5, q1_6, w1_6, q1_7, w1_7, q1_8, w1_8, q1_9, w1_9, q1_10, w1_10, q1_11, w1_11, q1_12, w1_12, qa_2, wa_2, qa_3, wa_3, qa_4, wa_4, bU_same, bU_ne, s_in]
            have g1 := run_ge1 (P := pD) (sz := sz) q q2
            have g2 := run_le (P := pD) (b := b) r1'
            refine bk_while (σ := bF) (fun y => bk_den TX5_next (bk_call d) 136 [.ref rd] [] (bk_Q rd y (bk_M κ (cp, cs, cj) Y g n))) (fun y => (sz - y rd 2).toNat) (fun y => (∀ a, a ≠ rd → y a = F a) ∧ (∀ k, k ≠ 2 → k ≠ 3 → k ≠ 5 → y rd k = F rd k) ∧ y rd 3 = r ∧ r ≤ y rd 2 ∧ y rd 2 ≤ sz ∧ run pD b sz (y rd 2) = run pD b sz r ∧ y rd 5 = dval b r (min 3 (y rd 2 - r)).toNat) ?_ (bU (bU x rd 3 r) rd 5 0) ⟨fun a ha => by funext k; rw [bU_ne _ _ _ _ _ _ ha, bU_ne _ _ _ _ _ _ ha, xa a ha], fun k h2 h3 h5 => by rw [bU_same, if_neg h5, bU_same, if_neg h3]; exact xk k h2, by rw [bU_same, if_neg (by decide), bU_same, if_pos rfl], by rw [bU_same, if_neg (by decide), bU_same, if_neg (by decide)]; omega, by rw [bU_same, if_neg (by decide), bU_same, if_neg (by decide)]; omega, by rw [bU_same, if_neg (by decide), bU_same, if_neg (by decide), x2], ?_⟩
            · rintro y ⟨ya, yk, y3, y2, y2', yr, y5⟩ cont
              have y0 : y rd 0 = sz := (yk 0 (by decide) (by decide) (by decide)).trans hz
              have ey := q_isDigit (κ := κ) (cs := cs) (cj := cj) (Y := Y) (F := y) (k := y rd 2) (D := d) hw y0 (by omega) (by omega) (by omega)
              rw [eX5_next_136]
              by_cases p : y rd 2 < sz ∧ pD (b (y rd 2))
              · rw [bz_t p] at ey
                have pd := p.2
                by_cases p3 : 3 ≤ y rd 2 - r
                · have d5 : dval b r (min 3 (y rd 2 + 1 - r)).toNat = dval b r (min 3 (y rd 2 - r)).toNat := by
                    have e : min 3 (y rd 2 + 1 - r) = min 3 (y rd 2 - r) := by omega
                    rw [e]
                  simp (disch := first | assumption | omega) only [t10, t1, tb, te, td, t3, tt, y0, y3, ey, if_pos p3, eX5_next_183, bi_add, bi_sub, bi_mul, bi_neg, bi_div, bi_64, bl_add, bl_sub, bl_mul, bl_neg, bl_div, bl_32, bi_min, bi_max, bl_min, bl_max, bq_I, bq_J, bq_A, bq_Vi, bq_Vl, bq_Vr, bq_cV, bq_cI, bq_cJ, bq_cA, bq_le, bq_lt, bq_eq, bq_z, bq_o, bq_ref, bq_nz, bq_nzJ, bq_bl, bq_blz, bq_T, bq_F, if_true, if_false, Int.reduceEq, Int.reduceLT, Int.reduceLE, Int.reduceAdd, Int.reduceSub, Int.reduceMul, Int.add_sub_cancel, li_0, li_1, li_2, li_3, li_4, li_5, li_10, li_15, li_32, li_37, li_48, li_50, li_88, li_136, li_183, li_215, li_250, ll_0, ll_1, ll_2, ll_3, ll_4, ll_5, ll_10, ll_15, ll_32, ll_37, ll_48, ll_50, ll_88, ll_136, ll_183, ll_215, ll_250, q5_0, w5_0, q5_2, w5_2, q5_3, w5_3, q5_4, w5_4, q5_5, w5_5, q5_6, w5_6, q5_7, w5_7, q5_8, w5_8, q5_9, w5_9, q1_4, w1_4, q1_5, w1_5, q1_6, w1_6, q1_7, w1_7, q1_8, w1_8, q1_9, w1_9, q1_10, w1_10, q1_11, w1_11, q1_12, w1_12, qa_2, wa_2, qa_3, wa_3, qa_4, wa_4, bU_same, bU_ne, s_in]
                  refine cont _ (by rw [bU_same, if_pos rfl]; omega) ⟨fun a ha => by funext k; rw [bU_ne _ _ _ _ _ _ ha, ya a ha], fun k h2 h3 h5 => by rw [bU_same, if_neg h2]; exact yk k h2 h3 h5, by rw [bU_same, if_neg (by decide)]; exact y3, by rw [bU_same, if_pos rfl]; omega, by rw [bU_same, if_pos rfl]; omega, by rw [bU_same, if_pos rfl, ← yr]; exact (run_go p.1 p.2).symm, by rw [bU_same, if_neg (by decide), bU_same, if_pos rfl, d5]; exact y5⟩
                · have d5 := dval_next (b := b) y2 (by omega)
                  have es2 := q_see (κ := κ) (cs := cs) (cj := cj) (Y := Y) (F := y) (k := y rd 2) (D := d) hw y0 (by omega) (by omega) (by omega)
                  rw [if_pos p.1] at es2
                  have dr := dval_rng (b := b) (a := r) (min 3 (y rd 2 - r)).toNat (by omega) (fun j j0 j1 => run_all (P := pD) (b := b) (sz := sz) (sz - r).toNat r (by omega) j j0 (by have := run_ge (P := pD) (b := b) (sz := sz) (i := y rd 2); omega))
                  have dp : (10 : Int) ^ (min 3 (y rd 2 - r)).toNat ≤ 1000 := by
                    have : ∀ k : Fin 4, (10 : Int) ^ k.val ≤ 1000 := by decide
                    exact this ⟨(min 3 (y rd 2 - r)).toNat, by omega⟩
                  simp (disch := first | assumption | omega) only [t10, t1, tb, te, td, t3, tt, y0, y3, ey, if_neg p3, es2, eX5_next_183, bi_add, bi_sub, bi_mul, bi_neg, bi_div, bi_64, bl_add, bl_sub, bl_mul, bl_neg, bl_div, bl_32, bi_min, bi_max, bl_min, bl_max, bq_I, bq_J, bq_A, bq_Vi, bq_Vl, bq_Vr, bq_cV, bq_cI, bq_cJ, bq_cA, bq_le, bq_lt, bq_eq, bq_z, bq_o, bq_ref, bq_nz, bq_nzJ, bq_bl, bq_blz, bq_T, bq_F, if_true, if_false, Int.reduceEq, Int.reduceLT, Int.reduceLE, Int.reduceAdd, Int.reduceSub, Int.reduceMul, Int.add_sub_cancel, li_0, li_1, li_2, li_3, li_4, li_5, li_10, li_15, li_32, li_37, li_48, li_50, li_88, li_136, li_183, li_215, li_250, ll_0, ll_1, ll_2, ll_3, ll_4, ll_5, ll_10, ll_15, ll_32, ll_37, ll_48, ll_50, ll_88, ll_136, ll_183, ll_215, ll_250, q5_0, w5_0, q5_2, w5_2, q5_3, w5_3, q5_4, w5_4, q5_5, w5_5, q5_6, w5_6, q5_7, w5_7, q5_8, w5_8, q5_9, w5_9, q1_4, w1_4, q1_5, w1_5, q1_6, w1_6, q1_7, w1_7, q1_8, w1_8, q1_9, w1_9, q1_10, w1_10, q1_11, w1_11, q1_12, w1_12, qa_2, wa_2, qa_3, wa_3, qa_4, wa_4, bU_same, bU_ne, s_in]
                  refine cont _ (by rw [bU_same, if_pos rfl]; omega) ⟨fun a ha => by funext k; rw [bU_ne _ _ _ _ _ _ ha, bU_ne _ _ _ _ _ _ ha, ya a ha], fun k h2 h3 h5 => by rw [bU_same, if_neg h2, bU_same, if_neg h5]; exact yk k h2 h3 h5, by rw [bU_same, if_neg (by decide), bU_same, if_neg (by decide)]; exact y3, by rw [bU_same, if_pos rfl]; omega, by rw [bU_same, if_pos rfl]; omega, by rw [bU_same, if_pos rfl, ← yr]; exact (run_go p.1 p.2).symm, by rw [bU_same, if_neg (by decide), bU_same, if_pos rfl, bU_same, if_pos rfl, d5, y5]⟩
              · have ee : y rd 2 = run pD b sz r := by
                  rw [← yr]
                  by_cases p1 : y rd 2 < sz
                  · exact (run_no (fun w => p ⟨p1, w⟩)).symm
                  · exact (run_end (by omega)).symm
                rw [bz_f p] at ey
                have fin2 : ∀ tk : Int, tk = tokC (if run pD b sz r - r ≤ 3 then 23 else 25) → bk_wp (some (none, bk_Q rd (bU y rd 4 tk) (bk_M κ (cp, cs, cj) Y g n))) (fun v h' => ∃ F', v = none ∧ h' = bk_Q rd F' (bk_M κ (cp, cs, cj) Y g n) ∧ frF rd F F' ∧ cLx F' rd (s6 r (run pD b sz r) (if run pD b sz r - r ≤ 3 then 23 else 25) (dval b r (min 3 (run pD b sz r - r)).toNat) (σ 4) (σ 5))) := by
                  intro tk ht
                  refine ⟨_, _, rfl, _, rfl, rfl, ⟨fun a ha => by funext k; rw [bU_ne _ _ _ _ _ _ ha, ya a ha], fun k hk => by rw [bU_same, if_neg (by omega)]; exact yk k (by omega) (by omega) (by omega)⟩, by rw [bU_same, if_neg (by decide)]; exact ee, by rw [bU_same, if_neg (by decide)]; exact y3, by rw [bU_same, if_pos rfl]; exact ht, fun w => by rw [bU_same, if_neg (by decide), y5, ee]; rfl, ?_, fun w => ?_⟩
                  · rw [bU_same, if_neg (by decide), yk 6 (by decide) (by decide) (by decide)]; exact e4
                  · rw [bU_same, if_neg (by decide), yk 8 (by decide) (by decide) (by decide)]; exact e5 w
                by_cases p3 : run pD b sz r - r ≤ 3
                · have p4 : y rd 2 - r ≤ 3 := by omega
                  simp (disch := first | assumption | omega) only [t10, t1, tb, te, td, t3, tt, y0, y3, ey, if_pos p4, eX5_next_215, bi_add, bi_sub, bi_mul, bi_neg, bi_div, bi_64, bl_add, bl_sub, bl_mul, bl_neg, bl_div, bl_32, bi_min, bi_max, bl_min, bl_max, bq_I, bq_J, bq_A, bq_Vi, bq_Vl, bq_Vr, bq_cV, bq_cI, bq_cJ, bq_cA, bq_le, bq_lt, bq_eq, bq_z, bq_o, bq_ref, bq_nz, bq_nzJ, bq_bl, bq_blz, bq_T, bq_F, if_true, if_false, Int.reduceEq, Int.reduceLT, Int.reduceLE, Int.reduceAdd, Int.reduceSub, Int.reduceMul, Int.add_sub_cancel, li_0, li_1, li_2, li_3, li_4, li_5, li_10, li_15, li_32, li_37, li_48, li_50, li_88, li_136, li_183, li_215, li_250, ll_0, ll_1, ll_2, ll_3, ll_4, ll_5, ll_10, ll_15, ll_32, ll_37, ll_48, ll_50, ll_88, ll_136, ll_183, ll_215, ll_250, q5_0, w5_0, q5_2, w5_2, q5_3, w5_3, q5_4, w5_4, q5_5, w5_5, q5_6, w5_6, q5_7, w5_7, q5_8, w5_8, q5_9, w5_9, q1_4, w1_4, q1_5, w1_5, q1_6, w1_6, q1_7, w1_7, q1_8, w1_8, q1_9, w1_9, q1_10, w1_10, q1_11, w1_11, q1_12, w1_12, qa_2, wa_2, qa_3, wa_3, qa_4, wa_4, bU_same, bU_ne, s_in]
                  exact fin2 2 (by rw [if_pos p3]; rfl)
                · have p4 : ¬ y rd 2 - r ≤ 3 := by omega
                  simp (disch := first | assumption | omega) only [t10, t1, tb, te, td, t3, tt, y0, y3, ey, if_neg p4, eX5_next_215, bi_add, bi_sub, bi_mul, bi_neg, bi_div, bi_64, bl_add, bl_sub, bl_mul, bl_neg, bl_div, bl_32, bi_min, bi_max, bl_min, bl_max, bq_I, bq_J, bq_A, bq_Vi, bq_Vl, bq_Vr, bq_cV, bq_cI, bq_cJ, bq_cA, bq_le, bq_lt, bq_eq, bq_z, bq_o, bq_ref, bq_nz, bq_nzJ, bq_bl, bq_blz, bq_T, bq_F, if_true, if_false, Int.reduceEq, Int.reduceLT, Int.reduceLE, Int.reduceAdd, Int.reduceSub, Int.reduceMul, Int.add_sub_cancel, li_0, li_1, li_2, li_3, li_4, li_5, li_10, li_15, li_32, li_37, li_48, li_50, li_88, li_136, li_183, li_215, li_250, ll_0, ll_1, ll_2, ll_3, ll_4, ll_5, ll_10, ll_15, ll_32, ll_37, ll_48, ll_50, ll_88, ll_136, ll_183, ll_215, ll_250, q5_0, w5_0, q5_2, w5_2, q5_3, w5_3, q5_4, w5_4, q5_5, w5_5, q5_6, w5_6, q5_7, w5_7, q5_8, w5_8, q5_9, w5_9, q1_4, w1_4, q1_5, w1_5, q1_6, w1_6, q1_7, w1_7, q1_8, w1_8, q1_9, w1_9, q1_10, w1_10, q1_11, w1_11, q1_12, w1_12, qa_2, wa_2, qa_3, wa_3, qa_4, wa_4, bU_same, bU_ne, s_in]
                  exact fin2 3 (by rw [if_neg p3]; rfl)
            · rw [bU_same, if_pos rfl, bU_same, if_neg (by decide), bU_same, if_neg (by decide), x2]
              have e : (min 3 (r - r)).toNat = 0 := by omega
              rw [e]; rfl
          · rw [if_neg q2]
            rw [bz_f (fun w => q2 w.2)] at ed
            have es2 := q_see (κ := κ) (cs := cs) (cj := cj) (Y := Y) (F := bU x rd 3 r) (k := r) (D := d) hw w0 (by omega) (by omega) (by omega)
            rw [if_pos q] at es2
            have br := hb r (by omega) (by omega)
            obtain ⟨z, ei, zr0, zr1, zi⟩ := s_indexOf (h := bk_Q rd (bU x rd 3 r) (bk_M κ (cp, cs, cj) Y g n)) (c := b r) (D := d) (bStr_Q hS) br.1 br.2.1 (by omega)
            have fin3 : ∀ tk : Int, tk = tokC (signM (b r)) → bk_wp (some (none, bk_Q rd (bU (bU (bU x rd 3 r) rd 4 tk) rd 2 (r + 1)) (bk_M κ (cp, cs, cj) Y g n))) (fun v h' => ∃ F', v = none ∧ h' = bk_Q rd F' (bk_M κ (cp, cs, cj) Y g n) ∧ frF rd F F' ∧ cLx F' rd (s6 r (r + 1) (signM (b r)) (σ 3) (σ 4) (σ 5))) := by
              intro tk ht
              have sr := signM_rng (b r)
              refine ⟨_, _, rfl, _, rfl, rfl, ⟨fun a ha => by funext k; rw [bU_ne _ _ _ _ _ _ ha, bU_ne _ _ _ _ _ _ ha, bU_ne _ _ _ _ _ _ ha, xa a ha], fun k hk => by rw [bU_same, if_neg (by omega), bU_same, if_neg (by omega), bU_same, if_neg (by omega)]; exact xk k (by omega)⟩, by rw [bU_same, if_pos rfl]; rfl, by rw [bU_same, if_neg (by decide), bU_same, if_neg (by decide), bU_same, if_pos rfl]; rfl, by rw [bU_same, if_neg (by decide), bU_same, if_pos rfl]; exact ht, fun w => absurd (show signM (b r) = 23 from w) (by omega), ?_, fun w => ?_⟩
              · rw [bU_same, if_neg (by decide), bU_same, if_neg (by decide), bU_same, if_neg (by decide)]; exact x6
              · rw [bU_same, if_neg (by decide), bU_same, if_neg (by decide), bU_same, if_neg (by decide)]; exact x8 w
            by_cases q3 : signM (b r) = 25
            · simp (disch := first | assumption | omega) only [t10, t1, tb, te, td, t3, tt, x0, x2, if_pos q, es, ed, es2, ev2, ei, if_pos (zi.mpr q3), eX5_next_250, bi_add, bi_sub, bi_mul, bi_neg, bi_div, bi_64, bl_add, bl_sub, bl_mul, bl_neg, bl_div, bl_32, bi_min, bi_max, bl_min, bl_max, bq_I, bq_J, bq_A, bq_Vi, bq_Vl, bq_Vr, bq_cV, bq_cI, bq_cJ, bq_cA, bq_le, bq_lt, bq_eq, bq_z, bq_o, bq_ref, bq_nz, bq_nzJ, bq_bl, bq_blz, bq_T, bq_F, if_true, if_false, Int.reduceEq, Int.reduceLT, Int.reduceLE, Int.reduceAdd, Int.reduceSub, Int.reduceMul, Int.add_sub_cancel, li_0, li_1, li_2, li_3, li_4, li_5, li_10, li_15, li_32, li_37, li_48, li_50, li_88, li_136, li_183, li_215, li_250, ll_0, ll_1, ll_2, ll_3, ll_4, ll_5, ll_10, ll_15, ll_32, ll_37, ll_48, ll_50, ll_88, ll_136, ll_183, ll_215, ll_250, q5_0, w5_0, q5_2, w5_2, q5_3, w5_3, q5_4, w5_4, q5_5, w5_5, q5_6, w5_6, q5_7, w5_7, q5_8, w5_8, q5_9, w5_9, q1_4, w1_4, q1_5, w1_5, q1_6, w1_6, q1_7, w1_7, q1_8, w1_8, q1_9, w1_9, q1_10, w1_10, q1_11, w1_11, q1_12, w1_12, qa_2, wa_2, qa_3, wa_3, qa_4, wa_4, bU_same, bU_ne, s_in]
              exact fin3 3 (by rw [q3]; rfl)
            · simp (disch := first | assumption | omega) only [t10, t1, tb, te, td, t3, tt, x0, x2, if_pos q, es, ed, es2, ev2, ei, if_neg (fun w => q3 (zi.mp w)), eX5_next_250, bi_add, bi_sub, bi_mul, bi_neg, bi_div, bi_64, bl_add, bl_sub, bl_mul, bl_neg, bl_div, bl_32, bi_min, bi_max, bl_min, bl_max, bq_I, bq_J, bq_A, bq_Vi, bq_Vl, bq_Vr, bq_cV, bq_cI, bq_cJ, bq_cA, bq_le, bq_lt, bq_eq, bq_z, bq_o, bq_ref, bq_nz, bq_nzJ, bq_bl, bq_blz, bq_T, bq_F, if_true, if_false, Int.reduceEq, Int.reduceLT, Int.reduceLE, Int.reduceAdd, Int.reduceSub, Int.reduceMul, Int.add_sub_cancel, li_0, li_1, li_2, li_3, li_4, li_5, li_10, li_15, li_32, li_37, li_48, li_50, li_88, li_136, li_183, li_215, li_250, ll_0, ll_1, ll_2, ll_3, ll_4, ll_5, ll_10, ll_15, ll_32, ll_37, ll_48, ll_50, ll_88, ll_136, ll_183, ll_215, ll_250, q5_0, w5_0, q5_2, w5_2, q5_3, w5_3, q5_4, w5_4, q5_5, w5_5, q5_6, w5_6, q5_7, w5_7, q5_8, w5_8, q5_9, w5_9, q1_4, w1_4, q1_5, w1_5, q1_6, w1_6, q1_7, w1_7, q1_8, w1_8, q1_9, w1_9, q1_10, w1_10, q1_11, w1_11, q1_12, w1_12, qa_2, wa_2, qa_3, wa_3, qa_4, wa_4, bU_same, bU_ne, s_in]
              exact fin3 (b r) (tok_sign q3).symm
      · rw [if_pos (show sz ≤ r by omega)]
        simp (disch := first | assumption | omega) only [t10, t1, tb, te, td, t3, tt, x0, x2, if_neg q, bi_add, bi_sub, bi_mul, bi_neg, bi_div, bi_64, bl_add, bl_sub, bl_mul, bl_neg, bl_div, bl_32, bi_min, bi_max, bl_min, bl_max, bq_I, bq_J, bq_A, bq_Vi, bq_Vl, bq_Vr, bq_cV, bq_cI, bq_cJ, bq_cA, bq_le, bq_lt, bq_eq, bq_z, bq_o, bq_ref, bq_nz, bq_nzJ, bq_bl, bq_blz, bq_T, bq_F, if_true, if_false, Int.reduceEq, Int.reduceLT, Int.reduceLE, Int.reduceAdd, Int.reduceSub, Int.reduceMul, Int.add_sub_cancel, li_0, li_1, li_2, li_3, li_4, li_5, li_10, li_15, li_32, li_37, li_48, li_50, li_88, li_136, li_183, li_215, li_250, ll_0, ll_1, ll_2, ll_3, ll_4, ll_5, ll_10, ll_15, ll_32, ll_37, ll_48, ll_50, ll_88, ll_136, ll_183, ll_215, ll_250, q5_0, w5_0, q5_2, w5_2, q5_3, w5_3, q5_4, w5_4, q5_5, w5_5, q5_6, w5_6, q5_7, w5_7, q5_8, w5_8, q5_9, w5_9, q1_4, w1_4, q1_5, w1_5, q1_6, w1_6, q1_7, w1_7, q1_8, w1_8, q1_9, w1_9, q1_10, w1_10, q1_11, w1_11, q1_12, w1_12, qa_2, wa_2, qa_3, wa_3, qa_4, wa_4, bU_same, bU_ne, s_in]
        refine ⟨_, _, rfl, _, rfl, rfl, ⟨fun a ha => by funext k; rw [bU_ne _ _ _ _ _ _ ha, bU_ne _ _ _ _ _ _ ha, xa a ha], fun k hk => by rw [bU_same, if_neg (by omega), bU_same, if_neg (by omega)]; exact xk k (by omega)⟩, by rw [bU_same, if_neg (by decide), bU_same, if_neg (by decide)]; exact x2, by rw [bU_same, if_neg (by decide), bU_same, if_pos rfl]; rfl, by rw [bU_same, if_pos rfl]; rfl, fun w => absurd (show (24 : Int) = 23 from w) (by decide), ?_, fun w => ?_⟩
        · rw [bU_same, if_neg (by decide), bU_same, if_neg (by decide)]; exact x6
        · rw [bU_same, if_neg (by decide), bU_same, if_neg (by decide)]; exact x8 w
    refine bk_while (σ := bF) (fun y => bk_den TX5_next (bk_call d) 0 [.ref rd] [] (bk_Q rd y (bk_M κ (cp, cs, cj) Y g n))) (fun y => (sz - y rd 2).toNat) (fun y => (∀ a, a ≠ rd → y a = F a) ∧ (∀ k, k ≠ 2 → y rd k = F rd k) ∧ 0 ≤ y rd 2 ∧ y rd 2 ≤ sz ∧ run pW b sz (y rd 2) = run pW b sz (σ 1)) ?_ F ⟨fun _ _ => rfl, fun _ _ => rfl, by omega, by omega, by rw [e1]⟩
    rintro y ⟨ya, yk, y2, y2', yr⟩ cont
    have y0 : y rd 0 = sz := (yk 0 (by decide)).trans hz
    rw [eX5_next_0]
    by_cases p : y rd 2 < sz
    · have es := q_see (κ := κ) (cs := cs) (cj := cj) (Y := Y) (F := y) (k := y rd 2) (D := d) hw y0 (by omega) (by omega) (by omega)
      rw [if_pos p] at es
      have br := hb (y rd 2) (by omega) (by omega)
      have go : pW (b (y rd 2)) → bk_wp (bk_den TX5_next (bk_call d) 0 [.ref rd] [] (bk_Q rd (bU y rd 2 (y rd 2 + 1)) (bk_M κ (cp, cs, cj) Y g n))) (fun v h' => ∃ F', v = none ∧ h' = bk_Q rd F' (bk_M κ (cp, cs, cj) Y g n) ∧ frF rd F F' ∧ cLx F' rd (nextM b sz σ)) := fun w => cont _ (by rw [bU_same, if_pos rfl]; omega) ⟨fun a ha => by funext k; rw [bU_ne _ _ _ _ _ _ ha, ya a ha], fun k h2 => by rw [bU_same, if_neg h2]; exact yk k h2, by rw [bU_same, if_pos rfl]; omega, by rw [bU_same, if_pos rfl]; omega, by rw [bU_same, if_pos rfl, ← yr]; exact (run_go p w).symm⟩
      by_cases p1 : b (y rd 2) = 32
      · simp (disch := first | assumption | omega) only [t10, t1, tb, te, td, t3, tt, y0, if_neg (show ¬ sz ≤ y rd 2 by omega), es, if_pos p1, eX5_next_37, bi_add, bi_sub, bi_mul, bi_neg, bi_div, bi_64, bl_add, bl_sub, bl_mul, bl_neg, bl_div, bl_32, bi_min, bi_max, bl_min, bl_max, bq_I, bq_J, bq_A, bq_Vi, bq_Vl, bq_Vr, bq_cV, bq_cI, bq_cJ, bq_cA, bq_le, bq_lt, bq_eq, bq_z, bq_o, bq_ref, bq_nz, bq_nzJ, bq_bl, bq_blz, bq_T, bq_F, if_true, if_false, Int.reduceEq, Int.reduceLT, Int.reduceLE, Int.reduceAdd, Int.reduceSub, Int.reduceMul, Int.add_sub_cancel, li_0, li_1, li_2, li_3, li_4, li_5, li_10, li_15, li_32, li_37, li_48, li_50, li_88, li_136, li_183, li_215, li_250, ll_0, ll_1, ll_2, ll_3, ll_4, ll_5, ll_10, ll_15, ll_32, ll_37, ll_48, ll_50, ll_88, ll_136, ll_183, ll_215, ll_250, q5_0, w5_0, q5_2, w5_2, q5_3, w5_3, q5_4, w5_4, q5_5, w5_5, q5_6, w5_6, q5_7, w5_7, q5_8, w5_8, q5_9, w5_9, q1_4, w1_4, q1_5, w1_5, q1_6, w1_6, q1_7, w1_7, q1_8, w1_8, q1_9, w1_9, q1_10, w1_10, q1_11, w1_11, q1_12, w1_12, qa_2, wa_2, qa_3, wa_3, qa_4, wa_4, bU_same, bU_ne, s_in]
        exact go (Or.inl p1)
      · by_cases p2 : b (y rd 2) = 10
        · simp (disch := first | assumption | omega) only [t10, t1, tb, te, td, t3, tt, y0, if_neg (show ¬ sz ≤ y rd 2 by omega), es, if_neg p1, if_pos p2, eX5_next_37, bi_add, bi_sub, bi_mul, bi_neg, bi_div, bi_64, bl_add, bl_sub, bl_mul, bl_neg, bl_div, bl_32, bi_min, bi_max, bl_min, bl_max, bq_I, bq_J, bq_A, bq_Vi, bq_Vl, bq_Vr, bq_cV, bq_cI, bq_cJ, bq_cA, bq_le, bq_lt, bq_eq, bq_z, bq_o, bq_ref, bq_nz, bq_nzJ, bq_bl, bq_blz, bq_T, bq_F, if_true, if_false, Int.reduceEq, Int.reduceLT, Int.reduceLE, Int.reduceAdd, Int.reduceSub, Int.reduceMul, Int.add_sub_cancel, li_0, li_1, li_2, li_3, li_4, li_5, li_10, li_15, li_32, li_37, li_48, li_50, li_88, li_136, li_183, li_215, li_250, ll_0, ll_1, ll_2, ll_3, ll_4, ll_5, ll_10, ll_15, ll_32, ll_37, ll_48, ll_50, ll_88, ll_136, ll_183, ll_215, ll_250, q5_0, w5_0, q5_2, w5_2, q5_3, w5_3, q5_4, w5_4, q5_5, w5_5, q5_6, w5_6, q5_7, w5_7, q5_8, w5_8, q5_9, w5_9, q1_4, w1_4, q1_5, w1_5, q1_6, w1_6, q1_7, w1_7, q1_8, w1_8, q1_9, w1_9, q1_10, w1_10, q1_11, w1_11, q1_12, w1_12, qa_2, wa_2, qa_3, wa_3, qa_4, wa_4, bU_same, bU_ne, s_in]
          exact go (Or.inr p2)
        · simp (disch := first | assumption | omega) only [t10, t1, tb, te, td, t3, tt, y0, if_neg (show ¬ sz ≤ y rd 2 by omega), es, if_neg p1, if_neg p2, bi_add, bi_sub, bi_mul, bi_neg, bi_div, bi_64, bl_add, bl_sub, bl_mul, bl_neg, bl_div, bl_32, bi_min, bi_max, bl_min, bl_max, bq_I, bq_J, bq_A, bq_Vi, bq_Vl, bq_Vr, bq_cV, bq_cI, bq_cJ, bq_cA, bq_le, bq_lt, bq_eq, bq_z, bq_o, bq_ref, bq_nz, bq_nzJ, bq_bl, bq_blz, bq_T, bq_F, if_true, if_false, Int.reduceEq, Int.reduceLT, Int.reduceLE, Int.reduceAdd, Int.reduceSub, Int.reduceMul, Int.add_sub_cancel, li_0, li_1, li_2, li_3, li_4, li_5, li_10, li_15, li_32, li_37, li_48, li_50, li_88, li_136, li_183, li_215, li_250, ll_0, ll_1, ll_2, ll_3, ll_4, ll_5, ll_10, ll_15, ll_32, ll_37, ll_48, ll_50, ll_88, ll_136, ll_183, ll_215, ll_250, q5_0, w5_0, q5_2, w5_2, q5_3, w5_3, q5_4, w5_4, q5_5, w5_5, q5_6, w5_6, q5_7, w5_7, q5_8, w5_8, q5_9, w5_9, q1_4, w1_4, q1_5, w1_5, q1_6, w1_6, q1_7, w1_7, q1_8, w1_8, q1_9, w1_9, q1_10, w1_10, q1_11, w1_11, q1_12, w1_12, qa_2, wa_2, qa_3, wa_3, qa_4, wa_4, bU_same, bU_ne, s_in]
          exact fin y ya yk (by rw [← yr]; exact (run_no (fun w => w.elim p1 p2)).symm)
    · simp (disch := first | assumption | omega) only [t10, t1, tb, te, td, t3, tt, y0, if_pos (show sz ≤ y rd 2 by omega), bi_add, bi_sub, bi_mul, bi_neg, bi_div, bi_64, bl_add, bl_sub, bl_mul, bl_neg, bl_div, bl_32, bi_min, bi_max, bl_min, bl_max, bq_I, bq_J, bq_A, bq_Vi, bq_Vl, bq_Vr, bq_cV, bq_cI, bq_cJ, bq_cA, bq_le, bq_lt, bq_eq, bq_z, bq_o, bq_ref, bq_nz, bq_nzJ, bq_bl, bq_blz, bq_T, bq_F, if_true, if_false, Int.reduceEq, Int.reduceLT, Int.reduceLE, Int.reduceAdd, Int.reduceSub, Int.reduceMul, Int.add_sub_cancel, li_0, li_1, li_2, li_3, li_4, li_5, li_10, li_15, li_32, li_37, li_48, li_50, li_88, li_136, li_183, li_215, li_250, ll_0, ll_1, ll_2, ll_3, ll_4, ll_5, ll_10, ll_15, ll_32, ll_37, ll_48, ll_50, ll_88, ll_136, ll_183, ll_215, ll_250, q5_0, w5_0, q5_2, w5_2, q5_3, w5_3, q5_4, w5_4, q5_5, w5_5, q5_6, w5_6, q5_7, w5_7, q5_8, w5_8, q5_9, w5_9, q1_4, w1_4, q1_5, w1_5, q1_6, w1_6, q1_7, w1_7, q1_8, w1_8, q1_9, w1_9, q1_10, w1_10, q1_11, w1_11, q1_12, w1_12, qa_2, wa_2, qa_3, wa_3, qa_4, wa_4, bU_same, bU_ne, s_in]
      exact fin y ya yk (by rw [← yr]; exact (run_end (by omega)).symm)
  obtain ⟨z, h', e, F', rfl, rfl, f1, f2⟩ := goal
  exact ⟨F', f1, f2, e⟩
end CL
