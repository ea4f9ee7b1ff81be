/-! SPECS: the twin: laws reckoned, why a step can't be made, where it leads -/
set_option maxRecDepth 100000
def seg (f : Int → Int) (cs : List Int) (k : Int) : Prop := ∀ (i : Nat) (h : i < cs.length), f (k + i) = cs[i]
theorem seg_app {f : Int → Int} {a b : List Int} {k : Int} (h : seg f (a ++ b) k) : seg f a k ∧ seg f b (k + a.length) := by
  constructor
  · intro i hi
    have q := h i (by rw [List.length_append]; omega)
    rw [List.getElem_append_left hi] at q
    exact q
  · intro i hi
    have q := h (a.length + i) (by rw [List.length_append]; omega)
    rw [List.getElem_append_right (by omega)] at q
    have e : a.length + i - a.length = i := by omega
    simp only [e] at q
    rw [← q]
    congr 1
    omega
theorem seg_one {f : Int → Int} {c : Int} {k : Int} (h : seg f [c] k) : f k = c := by
  have q := h 0 (by simp)
  simpa using q
theorem seg_mL (A : Int → Int) (law : Int) : seg (fun j => A (99 + A (6 + law) + j)) (mL A 0 law) 0 := by
  intro i hi
  simp only [mL, List.getElem_map, List.getElem_range]
  have e : (0 : Int) + 6 + law = 6 + law := by omega
  rw [e]
  congr 1
  omega
section TW
variable {κ : Nat → Nat} {X : bX} {tp ts : bF} {tj tk : bFJ} {g : bG} {n : Nat × Nat} {s p v : Int} {D : Nat}
theorem t_between {c a b : Int} (h : bk_H) (hc : 3000 ≤ c) (hc2 : c ≤ 3008) (hc3 : c ≠ 3006) (h1 : -1000000 ≤ a) (h2 : a ≤ 1000000) (h3 : -1000000 ≤ b) (h4 : b ≤ 1000000) (ht : 3006 ≤ c → (a = 0 ∨ a = 1) ∧ (b = 0 ∨ b = 1)) (hD : 1 ≤ D) :
    bk_call D 4039 [.int (bk_i c), .int (bk_i a), .int (bk_i b)] h = some (some (.int (bk_i (eB c a b))), h) := by
  obtain ⟨d, rfl⟩ := dep hD
  have mr := mul_rng h1 h2 h3 h4
  have key : ∀ v0 v1 v2 : Int32, ∀ z : Int, -2000000000000 ≤ z → z ≤ 2000000000000 → bk_den TX4_between (bk_call d) 116 [.int v0, .int v1, .int v2, bk_u, bk_u] [.long (bk_l z)] h = some (some (Value.int (bk_i (max (-1000000) (min 1000000 z)))), h) := by
    intro v0 v1 v2 z z1 z2
    rw [eX4_between_116]
    simp (disch := first | assumption | omega) only [bl_cmp, ll_1000000, bi_add, bi_sub, bi_mul, bi_neg, bi_div, bi_64, bl_add, bl_sub, bl_mul, bl_neg, bl_div, bl_32, bi_min, bi_max, bl_min, bl_max, bq_I, bq_J, bq_A, bq_Vi, bq_Vl, bq_Vr, bq_cV, bq_cI, bq_cJ, bq_cA, bq_le, bq_lt, bq_eq, bq_z, bq_o, bq_ref, bq_nz, bq_nzJ, bq_bl, bq_blz, bq_T, bq_F, if_true, if_false, Int.reduceEq, Int.reduceLT, Int.reduceLE, Int.reduceAdd, Int.reduceSub, Int.reduceMul, Int.add_sub_cancel, li_0, li_1, ll_0, ll_1]
    by_cases q : 1000000 < z
    · have e : max (-1000000) (min 1000000 z) = 1000000 := by omega
      rw [if_pos q, if_neg (by omega), e]
    · by_cases q2 : z < -1000000
      · have e : max (-1000000) (min 1000000 z) = -1000000 := by omega
        rw [if_neg q, if_neg (show ¬ z = 1000000 by omega), if_pos (by omega), if_neg (show ¬ -1000000 < z by omega), if_neg (show ¬ z = -1000000 by omega), if_neg (by omega), e]
      · have e : max (-1000000) (min 1000000 z) = z := by omega
        have e2 : (if z = 1000000 then (0 : Int) else -1) ≤ 0 := by split <;> omega
        have e3 : 0 ≤ (if -1000000 < z then (1 : Int) else if z = -1000000 then 0 else -1) := by
          split
          · omega
          · split <;> omega
        rw [if_neg q, e, if_pos e2, if_pos e3]
  rw [kX4_between, eX4_between_0]
  have cc : c = 3000 ∨ c = 3001 ∨ c = 3002 ∨ c = 3003 ∨ c = 3004 ∨ c = 3005 ∨ c = 3007 ∨ c = 3008 := by omega
  unfold eB
  rcases cc with rfl | rfl | rfl | rfl | rfl | rfl | rfl | rfl
  · simp (disch := first | assumption | omega) only [key, bi_add, bi_sub, bi_mul, bi_neg, bi_div, bi_64, bl_add, bl_sub, bl_mul, bl_neg, bl_div, bl_32, bi_min, bi_max, bl_min, bl_max, bq_I, bq_J, bq_A, bq_Vi, bq_Vl, bq_Vr, bq_cV, bq_cI, bq_cJ, bq_cA, bq_le, bq_lt, bq_eq, bq_z, bq_o, bq_ref, bq_nz, bq_nzJ, bq_bl, bq_blz, bq_T, bq_F, if_true, if_false, Int.reduceEq, Int.reduceLT, Int.reduceLE, Int.reduceAdd, Int.reduceSub, Int.reduceMul, Int.add_sub_cancel, li_0, li_1, li_116, li_3000, li_3001, li_3003, li_3004, li_3005, li_3006, li_3007, li_3008, li_4039, li_1000000, ll_0, ll_1, ll_116, ll_1000000]
  · simp (disch := first | assumption | omega) only [key, bi_add, bi_sub, bi_mul, bi_neg, bi_div, bi_64, bl_add, bl_sub, bl_mul, bl_neg, bl_div, bl_32, bi_min, bi_max, bl_min, bl_max, bq_I, bq_J, bq_A, bq_Vi, bq_Vl, bq_Vr, bq_cV, bq_cI, bq_cJ, bq_cA, bq_le, bq_lt, bq_eq, bq_z, bq_o, bq_ref, bq_nz, bq_nzJ, bq_bl, bq_blz, bq_T, bq_F, if_true, if_false, Int.reduceEq, Int.reduceLT, Int.reduceLE, Int.reduceAdd, Int.reduceSub, Int.reduceMul, Int.add_sub_cancel, li_0, li_1, li_116, li_3000, li_3001, li_3003, li_3004, li_3005, li_3006, li_3007, li_3008, li_4039, li_1000000, ll_0, ll_1, ll_116, ll_1000000]
  · simp (disch := first | assumption | omega) only [key, bi_add, bi_sub, bi_mul, bi_neg, bi_div, bi_64, bl_add, bl_sub, bl_mul, bl_neg, bl_div, bl_32, bi_min, bi_max, bl_min, bl_max, bq_I, bq_J, bq_A, bq_Vi, bq_Vl, bq_Vr, bq_cV, bq_cI, bq_cJ, bq_cA, bq_le, bq_lt, bq_eq, bq_z, bq_o, bq_ref, bq_nz, bq_nzJ, bq_bl, bq_blz, bq_T, bq_F, if_true, if_false, Int.reduceEq, Int.reduceLT, Int.reduceLE, Int.reduceAdd, Int.reduceSub, Int.reduceMul, Int.add_sub_cancel, li_0, li_1, li_116, li_3000, li_3001, li_3003, li_3004, li_3005, li_3006, li_3007, li_3008, li_4039, li_1000000, ll_0, ll_1, ll_116, ll_1000000]
  · simp (disch := first | assumption | omega) only [bi_add, bi_sub, bi_mul, bi_neg, bi_div, bi_64, bl_add, bl_sub, bl_mul, bl_neg, bl_div, bl_32, bi_min, bi_max, bl_min, bl_max, bq_I, bq_J, bq_A, bq_Vi, bq_Vl, bq_Vr, bq_cV, bq_cI, bq_cJ, bq_cA, bq_le, bq_lt, bq_eq, bq_z, bq_o, bq_ref, bq_nz, bq_nzJ, bq_bl, bq_blz, bq_T, bq_F, if_true, if_false, Int.reduceEq, Int.reduceLT, Int.reduceLE, Int.reduceAdd, Int.reduceSub, Int.reduceMul, Int.add_sub_cancel, li_0, li_1, li_116, li_3000, li_3001, li_3003, li_3004, li_3005, li_3006, li_3007, li_3008, li_4039, li_1000000, ll_0, ll_1, ll_116, ll_1000000]
    unfold bz
    split <;> rfl
  · simp (disch := first | assumption | omega) only [bi_add, bi_sub, bi_mul, bi_neg, bi_div, bi_64, bl_add, bl_sub, bl_mul, bl_neg, bl_div, bl_32, bi_min, bi_max, bl_min, bl_max, bq_I, bq_J, bq_A, bq_Vi, bq_Vl, bq_Vr, bq_cV, bq_cI, bq_cJ, bq_cA, bq_le, bq_lt, bq_eq, bq_z, bq_o, bq_ref, bq_nz, bq_nzJ, bq_bl, bq_blz, bq_T, bq_F, if_true, if_false, Int.reduceEq, Int.reduceLT, Int.reduceLE, Int.reduceAdd, Int.reduceSub, Int.reduceMul, Int.add_sub_cancel, li_0, li_1, li_116, li_3000, li_3001, li_3003, li_3004, li_3005, li_3006, li_3007, li_3008, li_4039, li_1000000, ll_0, ll_1, ll_116, ll_1000000]
    unfold bz
    by_cases q : b ≤ a
    · rw [if_pos q, if_neg (by omega)]
    · rw [if_neg q, if_pos (by omega)]
  · simp (disch := first | assumption | omega) only [bi_add, bi_sub, bi_mul, bi_neg, bi_div, bi_64, bl_add, bl_sub, bl_mul, bl_neg, bl_div, bl_32, bi_min, bi_max, bl_min, bl_max, bq_I, bq_J, bq_A, bq_Vi, bq_Vl, bq_Vr, bq_cV, bq_cI, bq_cJ, bq_cA, bq_le, bq_lt, bq_eq, bq_z, bq_o, bq_ref, bq_nz, bq_nzJ, bq_bl, bq_blz, bq_T, bq_F, if_true, if_false, Int.reduceEq, Int.reduceLT, Int.reduceLE, Int.reduceAdd, Int.reduceSub, Int.reduceMul, Int.add_sub_cancel, li_0, li_1, li_116, li_3000, li_3001, li_3003, li_3004, li_3005, li_3006, li_3007, li_3008, li_4039, li_1000000, ll_0, ll_1, ll_116, ll_1000000]
    unfold bz
    by_cases q : a ≤ b
    · rw [if_pos q, if_neg (by omega)]
    · rw [if_neg q, if_pos (by omega)]
  · simp (disch := first | assumption | omega) only [bi_add, bi_sub, bi_mul, bi_neg, bi_div, bi_64, bl_add, bl_sub, bl_mul, bl_neg, bl_div, bl_32, bi_min, bi_max, bl_min, bl_max, bq_I, bq_J, bq_A, bq_Vi, bq_Vl, bq_Vr, bq_cV, bq_cI, bq_cJ, bq_cA, bq_le, bq_lt, bq_eq, bq_z, bq_o, bq_ref, bq_nz, bq_nzJ, bq_bl, bq_blz, bq_T, bq_F, if_true, if_false, Int.reduceEq, Int.reduceLT, Int.reduceLE, Int.reduceAdd, Int.reduceSub, Int.reduceMul, Int.add_sub_cancel, li_0, li_1, li_116, li_3000, li_3001, li_3003, li_3004, li_3005, li_3006, li_3007, li_3008, li_4039, li_1000000, ll_0, ll_1, ll_116, ll_1000000]
    obtain ⟨ha | ha, hb | hb⟩ := ht (by omega) <;> subst ha <;> subst hb <;> rfl
  · simp (disch := first | assumption | omega) only [bi_add, bi_sub, bi_mul, bi_neg, bi_div, bi_64, bl_add, bl_sub, bl_mul, bl_neg, bl_div, bl_32, bi_min, bi_max, bl_min, bl_max, bq_I, bq_J, bq_A, bq_Vi, bq_Vl, bq_Vr, bq_cV, bq_cI, bq_cJ, bq_cA, bq_le, bq_lt, bq_eq, bq_z, bq_o, bq_ref, bq_nz, bq_nzJ, bq_bl, bq_blz, bq_T, bq_F, if_true, if_false, Int.reduceEq, Int.reduceLT, Int.reduceLE, Int.reduceAdd, Int.reduceSub, Int.reduceMul, Int.add_sub_cancel, li_0, li_1, li_116, li_3000, li_3001, li_3003, li_3004, li_3005, li_3006, li_3007, li_3008, li_4039, li_1000000, ll_0, ll_1, ll_116, ll_1000000]
    obtain ⟨ha | ha, hb | hb⟩ := ht (by omega) <;> subst ha <;> subst hb <;> rfl
/-- a piece of code reckoned -/
theorem t_codes (hF : bFix g) {w : Int → Int} {W law rop sl : Int} {v6 : Int32} (hw : ∀ k, 0 ≤ k → k < W → -1000000 ≤ w k ∧ w k ≤ 1000000) (hW : W ≤ 7) (hl : law = 0 ∨ law = 1)
    (hm1 : 0 ≤ tp 103 (6 + law)) (hm2 : tp 103 (6 + law) + tp 103 (8 + law) ≤ 900) (hd1 : 1 ≤ D) {Q : Option Value → bk_H → Prop} :
    ∀ (d : Nat) (tr : Bool) (cs : List Int), wfc d tr W cs → ∃ v, (∀ st, cs.foldl (eS w) st = v :: st) ∧ -1000000 ≤ v ∧ v ≤ 1000000 ∧ (tr = true → v = 0 ∨ v = 1) ∧ 1 ≤ cs.length
      ∧ ∀ (k m : Int) (ts : bF) (v9 : Value), seg (fun j => tp 103 (99 + tp 103 (6 + law) + j)) cs k → 0 ≤ k → k + cs.length ≤ tp 103 (8 + law) → 0 ≤ m → m ≤ k → (∀ j, 0 ≤ j → j < W → ts 108 j = w j)
        → (∀ ts' v9', (∀ a, a ≠ 107 → ts' a = ts a) → (∀ j, j < m → ts' 107 j = ts 107 j) → ts' 107 m = v →
          bk_wp (bk_den TX4_reckons (bk_call D) 123 [.ref 102, .int (bk_i law), .int (bk_i s), .int (bk_i p), .int (bk_i rop), .int (bk_i sl), .int v6, .int (bk_i (m + 1)), .int (bk_i (k + cs.length)), v9'] [] (bk_M κ X (tp, tj, ts', tk) g n)) Q)
        → bk_wp (bk_den TX4_reckons (bk_call D) 123 [.ref 102, .int (bk_i law), .int (bk_i s), .int (bk_i p), .int (bk_i rop), .int (bk_i sl), .int v6, .int (bk_i m), .int (bk_i k), v9] [] (bk_M κ X (tp, tj, ts, tk) g n)) Q := by
  intro d
  induction d with
  | zero => intro tr cs h; exact h.elim
  | succ d ih =>
    intro tr cs hcs
    -- one code by itself
    have lenc : ∀ a : List Int, 1 ≤ a.length → ((a.length : Nat) : Int) ≥ 1 := fun a h => by omega
    have bin : ∀ (ta : Bool) (a b : List Int) (c : Int), wfc d ta W a → wfc d ta W b → 3000 ≤ c → c ≤ 3008 → c ≠ 3006 → (3006 ≤ c → ta = true) → ∃ v, (∀ st, (a ++ b ++ [c]).foldl (eS w) st = v :: st) ∧ (∃ va vb, v = eB c va vb ∧ -1000000 ≤ va ∧ va ≤ 1000000 ∧ -1000000 ≤ vb ∧ vb ≤ 1000000) ∧ 1 ≤ (a ++ b ++ [c]).length
      ∧ ∀ (k m : Int) (ts : bF) (v9 : Value), seg (fun j => tp 103 (99 + tp 103 (6 + law) + j)) (a ++ b ++ [c]) k → 0 ≤ k → k + (a ++ b ++ [c]).length ≤ tp 103 (8 + law) → 0 ≤ m → m ≤ k → (∀ j, 0 ≤ j → j < W → ts 108 j = w j)
        → (∀ ts' v9', (∀ a, a ≠ 107 → ts' a = ts a) → (∀ j, j < m → ts' 107 j = ts 107 j) → ts' 107 m = v →
          bk_wp (bk_den TX4_reckons (bk_call D) 123 [.ref 102, .int (bk_i law), .int (bk_i s), .int (bk_i p), .int (bk_i rop), .int (bk_i sl), .int v6, .int (bk_i (m + 1)), .int (bk_i (k + (a ++ b ++ [c]).length)), v9'] [] (bk_M κ X (tp, tj, ts', tk) g n)) Q)
        → bk_wp (bk_den TX4_reckons (bk_call D) 123 [.ref 102, .int (bk_i law), .int (bk_i s), .int (bk_i p), .int (bk_i rop), .int (bk_i sl), .int v6, .int (bk_i m), .int (bk_i k), v9] [] (bk_M κ X (tp, tj, ts, tk) g n)) Q := by
      intro ta a b c wa wb g1 g2 g3 g4
      obtain ⟨va, f1, r1, r1', o1, n1, q1⟩ := ih ta a wa
      obtain ⟨vb, f2, r2, r2', o2, n2, q2⟩ := ih ta b wb
      refine ⟨eB c va vb, fun st => ?_, ⟨va, vb, rfl, r1, r1', r2, r2'⟩, by simp only [List.length_append, List.length_cons, List.length_nil]; omega, fun k m ts v9 hs k0 k1 m0 m1 hts cont => ?_⟩
      · rw [List.foldl_append, List.foldl_append, f1, f2]
        show eS w (vb :: va :: st) c = _
        unfold eS
        rw [if_neg (by omega), if_neg (by omega), if_neg g3, if_neg (by omega)]
      · have e0 : (((a ++ b ++ [c]).length : Nat) : Int) = a.length + b.length + 1 := by simp only [List.length_append, List.length_cons, List.length_nil]; omega
        rw [e0] at k1 cont
        obtain ⟨hs, hs3⟩ := seg_app hs
        obtain ⟨hs1, hs2⟩ := seg_app hs
        have hc := seg_one hs3
        have e1 : (((a ++ b).length : Nat) : Int) = a.length + b.length := by simp only [List.length_append, List.length_cons, List.length_nil]; omega
        rw [e1] at hc
        refine q1 k m ts v9 hs1 k0 (by omega) m0 m1 hts fun ts1 v1 u1 u2 u3 => ?_
        refine q2 _ (m + 1) ts1 v1 hs2 (by omega) (by omega) (by omega) (by omega) (fun j j0 j1 => by rw [u1 108 (by decide)]; exact hts j j0 j1) fun ts2 v2 u4 u5 u6 => ?_
        have u3' : ts2 107 m = va := by rw [u5 m (by omega)]; exact u3
        rw [eX4_reckons_123]
        have ek : (99 : Int) + tp 103 (6 + law) + (k + a.length + b.length) = 99 + tp 103 (6 + law) + (k + (a.length + b.length)) := by omega
        have hc' : tp 103 (99 + tp 103 (6 + law) + (k + a.length + b.length)) = c := by rw [ek]; exact hc
        have i1 : m + 1 + 1 + -1 - 1 = m := by omega
        have i2 : m + 1 + 1 + -1 = m + 1 := by omega
        have nq : ¬ tp 103 (8 + law) ≤ k + a.length + b.length := by omega
        have htc : 3006 ≤ c → (va = 0 ∨ va = 1) ∧ (vb = 0 ∨ vb = 1) := fun q => ⟨o1 (g4 q), o2 (g4 q)⟩
        simp (disch := first | assumption | omega) only [hc', if_neg nq, if_pos g1, if_neg g3, if_neg (show ¬ c = 3009 by omega), i1, i2, u6, u3', eX4_reckons_323, bi_add, bi_sub, bi_mul, bi_neg, bi_div, bi_64, bl_add, bl_sub, bl_mul, bl_neg, bl_div, bl_32, bi_min, bi_max, bl_min, bl_max, bq_I, bq_J, bq_A, bq_Vi, bq_Vl, bq_Vr, bq_cV, bq_cI, bq_cJ, bq_cA, bq_le, bq_lt, bq_eq, bq_z, bq_o, bq_ref, bq_nz, bq_nzJ, bq_bl, bq_blz, bq_T, bq_F, if_true, if_false, Int.reduceEq, Int.reduceLT, Int.reduceLE, Int.reduceAdd, Int.reduceSub, Int.reduceMul, Int.add_sub_cancel, li_0, li_1, li_2, li_3, li_4, li_5, li_6, li_8, li_10, li_16, li_17, li_18, li_21, li_26, li_31, li_55, li_83, li_99, li_100, li_116, li_123, li_197, li_286, li_323, li_1000, li_3000, li_3006, li_3009, li_4038, li_4039, ll_0, ll_1, ll_2, ll_3, ll_4, ll_5, ll_6, ll_8, ll_10, ll_16, ll_17, ll_18, ll_21, ll_26, ll_31, ll_55, ll_83, ll_99, ll_100, ll_116, ll_123, ll_197, ll_286, ga103, ga105, ga119, ga120, ga106, ga107, ga108, ga109, ga110, ga111, ga116, ga118, ga104, ga112, ga114, ga115, ga117, ga113, ga121, gf102_5, gf102_13, gf102_14, gf102_0, gf102_6, gf102_7, gf102_8, gf102_9, gf102_10, gf102_11, gf102_12, gf102_15, gf102_19, gf102_20, gr102_1, gr102_2, gr102_3, gr102_4, gr102_16, gr102_17, gr102_18, gr102_21, gr102_22, gr102_23, gr102_24, gr102_25, gr102_26, gr102_27, gr102_28, gr102_29, gr102_30, gr102_31, gr102_32, pa103, pa105, pa119, pa120, pa106, pa107, pa108, pa109, pa110, pa111, pa116, pa118, pa104, pa112, pa114, pa115, pa117, pa113, pa121, pf102_5, pf102_13, pf102_14, pf102_0, pf102_6, pf102_7, pf102_8, pf102_9, pf102_10, pf102_11, pf102_12, pf102_15, pf102_19, pf102_20, s_within, t_isLost, t_fallen, t_isHurt, t_between]
        have ek2 : k + ↑a.length + ↑b.length + 1 = k + (↑a.length + ↑b.length + 1) := by omega
        rw [ek2]
        refine cont _ _ (fun a ha => ?_) (fun j hj => ?_) ?_
        · funext j; rw [bU_ne _ _ _ _ _ _ ha, u4 a ha, u1 a ha]
        · rw [bU_same, if_neg (by omega), u5 j (by omega), u2 j hj]
        · rw [bU_hit]
    cases tr with
    | false =>
      rcases hcs with ⟨c, h1, h2, rfl⟩ | ⟨c, h1, h2, rfl⟩ | ⟨a, b, c, h1, h2, h3, h4, rfl⟩ | ⟨a, b, e, h1, h2, h3, rfl⟩
      · refine ⟨c, fun st => if_pos h2, by omega, by omega, fun q => (by cases q), by simp, fun k m ts v9 hs k0 k1 m0 m1 hts cont => ?_⟩
        have hc := seg_one hs
        have e0 : ((([c] : List Int).length : Nat) : Int) = 1 := rfl
        rw [e0] at k1 cont
        have nq : ¬ tp 103 (8 + law) ≤ k := by omega
        rw [eX4_reckons_123]
        simp (disch := first | assumption | omega) only [hc, if_neg nq, if_neg (show ¬ 3000 ≤ c by omega), if_neg (show ¬ 1000 ≤ c by omega), eX4_reckons_197, eX4_reckons_323, bi_add, bi_sub, bi_mul, bi_neg, bi_div, bi_64, bl_add, bl_sub, bl_mul, bl_neg, bl_div, bl_32, bi_min, bi_max, bl_min, bl_max, bq_I, bq_J, bq_A, bq_Vi, bq_Vl, bq_Vr, bq_cV, bq_cI, bq_cJ, bq_cA, bq_le, bq_lt, bq_eq, bq_z, bq_o, bq_ref, bq_nz, bq_nzJ, bq_bl, bq_blz, bq_T, bq_F, if_true, if_false, Int.reduceEq, Int.reduceLT, Int.reduceLE, Int.reduceAdd, Int.reduceSub, Int.reduceMul, Int.add_sub_cancel, li_0, li_1, li_2, li_3, li_4, li_5, li_6, li_8, li_10, li_16, li_17, li_18, li_21, li_26, li_31, li_55, li_83, li_99, li_100, li_116, li_123, li_197, li_286, li_323, li_1000, li_3000, li_3006, li_3009, li_4038, li_4039, ll_0, ll_1, ll_2, ll_3, ll_4, ll_5, ll_6, ll_8, ll_10, ll_16, ll_17, ll_18, ll_21, ll_26, ll_31, ll_55, ll_83, ll_99, ll_100, ll_116, ll_123, ll_197, ll_286, ga103, ga105, ga119, ga120, ga106, ga107, ga108, ga109, ga110, ga111, ga116, ga118, ga104, ga112, ga114, ga115, ga117, ga113, ga121, gf102_5, gf102_13, gf102_14, gf102_0, gf102_6, gf102_7, gf102_8, gf102_9, gf102_10, gf102_11, gf102_12, gf102_15, gf102_19, gf102_20, gr102_1, gr102_2, gr102_3, gr102_4, gr102_16, gr102_17, gr102_18, gr102_21, gr102_22, gr102_23, gr102_24, gr102_25, gr102_26, gr102_27, gr102_28, gr102_29, gr102_30, gr102_31, gr102_32, pa103, pa105, pa119, pa120, pa106, pa107, pa108, pa109, pa110, pa111, pa116, pa118, pa104, pa112, pa114, pa115, pa117, pa113, pa121, pf102_5, pf102_13, pf102_14, pf102_0, pf102_6, pf102_7, pf102_8, pf102_9, pf102_10, pf102_11, pf102_12, pf102_15, pf102_19, pf102_20, s_within, t_isLost, t_fallen, t_isHurt, t_between]
        refine cont _ _ (fun a ha => ?_) (fun j hj => ?_) ?_
        · funext j; rw [bU_ne _ _ _ _ _ _ ha]
        · rw [bU_same, if_neg (by omega)]
        · rw [bU_hit]
      · have q := hw c h1 h2
        refine ⟨w c, fun st => ?_, by omega, by omega, fun q => (by cases q), by simp, fun k m ts v9 hs k0 k1 m0 m1 hts cont => ?_⟩
        · show eS w st (1000 + c) = _
          unfold eS
          rw [if_neg (by omega), if_pos (by omega)]
          have e : 1000 + c - 1000 = c := by omega
          rw [e]
        have hc := seg_one hs
        have e0 : ((([1000 + c] : List Int).length : Nat) : Int) = 1 := rfl
        rw [e0] at k1 cont
        have nq : ¬ tp 103 (8 + law) ≤ k := by omega
        have i1 : 1000 + c - 1000 = c := by omega
        rw [eX4_reckons_123]
        simp (disch := first | assumption | omega) only [hc, if_neg nq, if_neg (show ¬ 3000 ≤ 1000 + c by omega), if_pos (show 1000 ≤ 1000 + c by omega), eX4_reckons_197, eX4_reckons_323, i1, hts c h1 h2, bi_add, bi_sub, bi_mul, bi_neg, bi_div, bi_64, bl_add, bl_sub, bl_mul, bl_neg, bl_div, bl_32, bi_min, bi_max, bl_min, bl_max, bq_I, bq_J, bq_A, bq_Vi, bq_Vl, bq_Vr, bq_cV, bq_cI, bq_cJ, bq_cA, bq_le, bq_lt, bq_eq, bq_z, bq_o, bq_ref, bq_nz, bq_nzJ, bq_bl, bq_blz, bq_T, bq_F, if_true, if_false, Int.reduceEq, Int.reduceLT, Int.reduceLE, Int.reduceAdd, Int.reduceSub, Int.reduceMul, Int.add_sub_cancel, li_0, li_1, li_2, li_3, li_4, li_5, li_6, li_8, li_10, li_16, li_17, li_18, li_21, li_26, li_31, li_55, li_83, li_99, li_100, li_116, li_123, li_197, li_286, li_323, li_1000, li_3000, li_3006, li_3009, li_4038, li_4039, ll_0, ll_1, ll_2, ll_3, ll_4, ll_5, ll_6, ll_8, ll_10, ll_16, ll_17, ll_18, ll_21, ll_26, ll_31, ll_55, ll_83, ll_99, ll_100, ll_116, ll_123, ll_197, ll_286, ga103, ga105, ga119, ga120, ga106, ga107, ga108, ga109, ga110, ga111, ga116, ga118, ga104, ga112, ga114, ga115, ga117, ga113, ga121, gf102_5, gf102_13, gf102_14, gf102_0, gf102_6, gf102_7, gf102_8, gf102_9, gf102_10, gf102_11, gf102_12, gf102_15, gf102_19, gf102_20, gr102_1, gr102_2, gr102_3, gr102_4, gr102_16, gr102_17, gr102_18, gr102_21, gr102_22, gr102_23, gr102_24, gr102_25, gr102_26, gr102_27, gr102_28, gr102_29, gr102_30, gr102_31, gr102_32, pa103, pa105, pa119, pa120, pa106, pa107, pa108, pa109, pa110, pa111, pa116, pa118, pa104, pa112, pa114, pa115, pa117, pa113, pa121, pf102_5, pf102_13, pf102_14, pf102_0, pf102_6, pf102_7, pf102_8, pf102_9, pf102_10, pf102_11, pf102_12, pf102_15, pf102_19, pf102_20, s_within, t_isLost, t_fallen, t_isHurt, t_between]
        refine cont _ _ (fun a ha => ?_) (fun j hj => ?_) ?_
        · funext j; rw [bU_ne _ _ _ _ _ _ ha]
        · rw [bU_same, if_neg (by omega)]
        · rw [bU_hit]
      · obtain ⟨v, b1, ⟨va, vb, rfl, r1, r2, r3, r4⟩, b3, b4⟩ := bin false a b c h1 h2 h3 (by omega) (by omega) (fun q => by omega)
        refine ⟨_, b1, ?_, ?_, fun q => (by cases q), b3, b4⟩
        · unfold eB; rw [if_neg (by omega), if_neg (by omega), if_neg (by omega), if_neg (by omega), if_neg (by omega)]; omega
        · unfold eB; rw [if_neg (by omega), if_neg (by omega), if_neg (by omega), if_neg (by omega), if_neg (by omega)]; omega
      · obtain ⟨va, f1, r1, r1', o1, n1, q1⟩ := ih _ a h1
        obtain ⟨vb, f2, r2, r2', o2, n2, q2⟩ := ih _ b h2
        obtain ⟨ve, f3, r3, r3', o3, n3, q3⟩ := ih _ e h3
        refine ⟨if va = 1 then vb else ve, fun st => ?_, by split <;> assumption, by split <;> assumption, fun q => (by cases q), by simp only [List.length_append, List.length_cons, List.length_nil]; omega, fun k m ts v9 hs k0 k1 m0 m1 hts cont => ?_⟩
        · rw [List.foldl_append, List.foldl_append, List.foldl_append, f1, f2, f3]
          show eS w (ve :: vb :: va :: st) 3009 = _
          unfold eS
          rw [if_neg (by omega), if_neg (by omega), if_neg (by omega), if_pos rfl]
        have e0 : (((a ++ b ++ e ++ [3009]).length : Nat) : Int) = a.length + b.length + e.length + 1 := by simp only [List.length_append, List.length_cons, List.length_nil]; omega
        rw [e0] at k1 cont
        obtain ⟨hs, hs4⟩ := seg_app hs
        obtain ⟨hs, hs3⟩ := seg_app hs
        obtain ⟨hs1, hs2⟩ := seg_app hs
        have hc := seg_one hs4
        have e1 : (((a ++ b ++ e).length : Nat) : Int) = a.length + b.length + e.length := by simp only [List.length_append, List.length_cons, List.length_nil]; omega
        have e2 : (((a ++ b).length : Nat) : Int) = a.length + b.length := by simp only [List.length_append, List.length_cons, List.length_nil]; omega
        rw [e1] at hc
        rw [e2] at hs3
        have ea : k + ((a.length : Int) + b.length) = k + a.length + b.length := by omega
        rw [ea] at hs3
        refine q1 k m ts v9 hs1 k0 (by omega) m0 m1 hts fun ts1 v1 u1 u2 u3 => ?_
        refine q2 _ (m + 1) ts1 v1 hs2 (by omega) (by omega) (by omega) (by omega) (fun j j0 j1 => by rw [u1 108 (by decide)]; exact hts j j0 j1) fun ts2 v2 u4 u5 u6 => ?_
        refine q3 _ (m + 1 + 1) ts2 v2 hs3 (by omega) (by omega) (by omega) (by omega) (fun j j0 j1 => by rw [u4 108 (by decide), u1 108 (by decide)]; exact hts j j0 j1) fun ts3 v3 u7 u8 u9 => ?_
        have u6' : ts3 107 (m + 1) = vb := by rw [u8 (m + 1) (by omega)]; exact u6
        have u3' : ts3 107 m = va := by rw [u8 m (by omega), u5 m (by omega)]; exact u3
        rw [eX4_reckons_123]
        have ek : (99 : Int) + tp 103 (6 + law) + (k + a.length + b.length + e.length) = 99 + tp 103 (6 + law) + (k + (a.length + b.length + e.length)) := by omega
        have hc' : tp 103 (99 + tp 103 (6 + law) + (k + a.length + b.length + e.length)) = 3009 := by rw [ek]; exact hc
        have i1 : m + 1 + 1 + 1 + -2 - 1 = m := by omega
        have i2 : m + 1 + 1 + 1 + -2 = m + 1 := by omega
        have i3 : m + 1 + 1 + 1 + -2 + 1 = m + 1 + 1 := by omega
        have nq : ¬ tp 103 (8 + law) ≤ k + a.length + b.length + e.length := by omega
        have ek2 : k + (a.length : Int) + b.length + e.length + 1 = k + (a.length + b.length + e.length + 1) := by omega
        by_cases q : va = 1
        · simp only [if_pos q] at cont ⊢
          simp (disch := first | assumption | omega) only [hc', if_neg nq, i1, i3, i2, u9, u6', u3', if_pos q, eX4_reckons_323, eX4_reckons_286, if_true, if_neg (show ¬ (3009 : Int) = 3006 by omega), if_pos (show (3000 : Int) ≤ 3009 by omega), ek2, bi_add, bi_sub, bi_mul, bi_neg, bi_div, bi_64, bl_add, bl_sub, bl_mul, bl_neg, bl_div, bl_32, bi_min, bi_max, bl_min, bl_max, bq_I, bq_J, bq_A, bq_Vi, bq_Vl, bq_Vr, bq_cV, bq_cI, bq_cJ, bq_cA, bq_le, bq_lt, bq_eq, bq_z, bq_o, bq_ref, bq_nz, bq_nzJ, bq_bl, bq_blz, bq_T, bq_F, if_true, if_false, Int.reduceEq, Int.reduceLT, Int.reduceLE, Int.reduceAdd, Int.reduceSub, Int.reduceMul, Int.add_sub_cancel, li_0, li_1, li_2, li_3, li_4, li_5, li_6, li_8, li_10, li_16, li_17, li_18, li_21, li_26, li_31, li_55, li_83, li_99, li_100, li_116, li_123, li_197, li_286, li_323, li_1000, li_3000, li_3006, li_3009, li_4038, li_4039, ll_0, ll_1, ll_2, ll_3, ll_4, ll_5, ll_6, ll_8, ll_10, ll_16, ll_17, ll_18, ll_21, ll_26, ll_31, ll_55, ll_83, ll_99, ll_100, ll_116, ll_123, ll_197, ll_286, ga103, ga105, ga119, ga120, ga106, ga107, ga108, ga109, ga110, ga111, ga116, ga118, ga104, ga112, ga114, ga115, ga117, ga113, ga121, gf102_5, gf102_13, gf102_14, gf102_0, gf102_6, gf102_7, gf102_8, gf102_9, gf102_10, gf102_11, gf102_12, gf102_15, gf102_19, gf102_20, gr102_1, gr102_2, gr102_3, gr102_4, gr102_16, gr102_17, gr102_18, gr102_21, gr102_22, gr102_23, gr102_24, gr102_25, gr102_26, gr102_27, gr102_28, gr102_29, gr102_30, gr102_31, gr102_32, pa103, pa105, pa119, pa120, pa106, pa107, pa108, pa109, pa110, pa111, pa116, pa118, pa104, pa112, pa114, pa115, pa117, pa113, pa121, pf102_5, pf102_13, pf102_14, pf102_0, pf102_6, pf102_7, pf102_8, pf102_9, pf102_10, pf102_11, pf102_12, pf102_15, pf102_19, pf102_20, s_within, t_isLost, t_fallen, t_isHurt, t_between]
          refine cont _ _ (fun a ha => ?_) (fun j hj => ?_) ?_
          · funext j; rw [bU_ne _ _ _ _ _ _ ha, u7 a ha, u4 a ha, u1 a ha]
          · rw [bU_same, if_neg (by omega), u8 j (by omega), u5 j (by omega), u2 j hj]
          · rw [bU_hit]
        · simp only [if_neg q] at cont ⊢
          simp (disch := first | assumption | omega) only [hc', if_neg nq, i1, i3, i2, u9, u6', u3', if_neg q, eX4_reckons_323, eX4_reckons_286, if_true, if_neg (show ¬ (3009 : Int) = 3006 by omega), if_pos (show (3000 : Int) ≤ 3009 by omega), ek2, bi_add, bi_sub, bi_mul, bi_neg, bi_div, bi_64, bl_add, bl_sub, bl_mul, bl_neg, bl_div, bl_32, bi_min, bi_max, bl_min, bl_max, bq_I, bq_J, bq_A, bq_Vi, bq_Vl, bq_Vr, bq_cV, bq_cI, bq_cJ, bq_cA, bq_le, bq_lt, bq_eq, bq_z, bq_o, bq_ref, bq_nz, bq_nzJ, bq_bl, bq_blz, bq_T, bq_F, if_true, if_false, Int.reduceEq, Int.reduceLT, Int.reduceLE, Int.reduceAdd, Int.reduceSub, Int.reduceMul, Int.add_sub_cancel, li_0, li_1, li_2, li_3, li_4, li_5, li_6, li_8, li_10, li_16, li_17, li_18, li_21, li_26, li_31, li_55, li_83, li_99, li_100, li_116, li_123, li_197, li_286, li_323, li_1000, li_3000, li_3006, li_3009, li_4038, li_4039, ll_0, ll_1, ll_2, ll_3, ll_4, ll_5, ll_6, ll_8, ll_10, ll_16, ll_17, ll_18, ll_21, ll_26, ll_31, ll_55, ll_83, ll_99, ll_100, ll_116, ll_123, ll_197, ll_286, ga103, ga105, ga119, ga120, ga106, ga107, ga108, ga109, ga110, ga111, ga116, ga118, ga104, ga112, ga114, ga115, ga117, ga113, ga121, gf102_5, gf102_13, gf102_14, gf102_0, gf102_6, gf102_7, gf102_8, gf102_9, gf102_10, gf102_11, gf102_12, gf102_15, gf102_19, gf102_20, gr102_1, gr102_2, gr102_3, gr102_4, gr102_16, gr102_17, gr102_18, gr102_21, gr102_22, gr102_23, gr102_24, gr102_25, gr102_26, gr102_27, gr102_28, gr102_29, gr102_30, gr102_31, gr102_32, pa103, pa105, pa119, pa120, pa106, pa107, pa108, pa109, pa110, pa111, pa116, pa118, pa104, pa112, pa114, pa115, pa117, pa113, pa121, pf102_5, pf102_13, pf102_14, pf102_0, pf102_6, pf102_7, pf102_8, pf102_9, pf102_10, pf102_11, pf102_12, pf102_15, pf102_19, pf102_20, s_within, t_isLost, t_fallen, t_isHurt, t_between]
          refine cont _ _ (fun a ha => ?_) (fun j hj => ?_) ?_
          · funext j; rw [bU_ne _ _ _ _ _ _ ha, u7 a ha, u4 a ha, u1 a ha]
          · rw [bU_same, if_neg (by omega), u8 j (by omega), u5 j (by omega), u2 j hj]
          · rw [bU_hit]
    | true =>
      rcases hcs with ⟨a, b, c, h1, h2, h3, h4, rfl⟩ | ⟨a, h1, rfl⟩ | ⟨a, b, c, h1, h2, h3, rfl⟩
      · obtain ⟨v, b1, ⟨va, vb, rfl, r1, r2, r3, r4⟩, b3, b4⟩ := bin false a b c h1 h2 (by omega) (by omega) (by omega) (fun q => by omega)
        have q01 : eB c va vb = 0 ∨ eB c va vb = 1 := by
          unfold eB
          split
          · exact bz_01 _
          · split
            · exact bz_01 _
            · split
              · exact bz_01 _
              · omega
        exact ⟨_, b1, by omega, by omega, fun _ => q01, b3, b4⟩
      · obtain ⟨va, f1, r1, r1', o1, n1, q1⟩ := ih _ a h1
        have o2 := o1 rfl
        refine ⟨1 - va, fun st => ?_, by omega, by omega, fun _ => by omega, by simp only [List.length_append, List.length_cons, List.length_nil]; omega, fun k m ts v9 hs k0 k1 m0 m1 hts cont => ?_⟩
        · rw [List.foldl_append, f1]
          show eS w (va :: st) 3006 = _
          unfold eS
          rw [if_neg (by omega), if_neg (by omega), if_pos rfl]
        have e0 : (((a ++ [3006]).length : Nat) : Int) = a.length + 1 := by simp only [List.length_append, List.length_cons, List.length_nil]; omega
        rw [e0] at k1 cont
        obtain ⟨hs1, hs2⟩ := seg_app hs
        have hc := seg_one hs2
        refine q1 k m ts v9 hs1 k0 (by omega) m0 m1 hts fun ts1 v1 u1 u2 u3 => ?_
        rw [eX4_reckons_123]
        have i1 : m + 1 - 1 = m := by omega
        have nq : ¬ tp 103 (8 + law) ≤ k + a.length := by omega
        have ek2 : k + (a.length : Int) + 1 = k + (a.length + 1) := by omega
        simp (disch := first | assumption | omega) only [hc, if_neg nq, i1, u3, eX4_reckons_323, if_true, if_pos (show (3000 : Int) ≤ 3006 by omega), ek2, bi_add, bi_sub, bi_mul, bi_neg, bi_div, bi_64, bl_add, bl_sub, bl_mul, bl_neg, bl_div, bl_32, bi_min, bi_max, bl_min, bl_max, bq_I, bq_J, bq_A, bq_Vi, bq_Vl, bq_Vr, bq_cV, bq_cI, bq_cJ, bq_cA, bq_le, bq_lt, bq_eq, bq_z, bq_o, bq_ref, bq_nz, bq_nzJ, bq_bl, bq_blz, bq_T, bq_F, if_true, if_false, Int.reduceEq, Int.reduceLT, Int.reduceLE, Int.reduceAdd, Int.reduceSub, Int.reduceMul, Int.add_sub_cancel, li_0, li_1, li_2, li_3, li_4, li_5, li_6, li_8, li_10, li_16, li_17, li_18, li_21, li_26, li_31, li_55, li_83, li_99, li_100, li_116, li_123, li_197, li_286, li_323, li_1000, li_3000, li_3006, li_3009, li_4038, li_4039, ll_0, ll_1, ll_2, ll_3, ll_4, ll_5, ll_6, ll_8, ll_10, ll_16, ll_17, ll_18, ll_21, ll_26, ll_31, ll_55, ll_83, ll_99, ll_100, ll_116, ll_123, ll_197, ll_286, ga103, ga105, ga119, ga120, ga106, ga107, ga108, ga109, ga110, ga111, ga116, ga118, ga104, ga112, ga114, ga115, ga117, ga113, ga121, gf102_5, gf102_13, gf102_14, gf102_0, gf102_6, gf102_7, gf102_8, gf102_9, gf102_10, gf102_11, gf102_12, gf102_15, gf102_19, gf102_20, gr102_1, gr102_2, gr102_3, gr102_4, gr102_16, gr102_17, gr102_18, gr102_21, gr102_22, gr102_23, gr102_24, gr102_25, gr102_26, gr102_27, gr102_28, gr102_29, gr102_30, gr102_31, gr102_32, pa103, pa105, pa119, pa120, pa106, pa107, pa108, pa109, pa110, pa111, pa116, pa118, pa104, pa112, pa114, pa115, pa117, pa113, pa121, pf102_5, pf102_13, pf102_14, pf102_0, pf102_6, pf102_7, pf102_8, pf102_9, pf102_10, pf102_11, pf102_12, pf102_15, pf102_19, pf102_20, s_within, t_isLost, t_fallen, t_isHurt, t_between]
        refine cont _ _ (fun a ha => ?_) (fun j hj => ?_) ?_
        · funext j; rw [bU_ne _ _ _ _ _ _ ha, u1 a ha]
        · rw [bU_same, if_neg (by omega), u2 j hj]
        · rw [bU_hit]
      · obtain ⟨v, b1, ⟨va, vb, rfl, r1, r2, r3, r4⟩, b3, b4⟩ := bin true a b c h1 h2 (by omega) (by omega) (by omega) (fun q => rfl)
        have q01 : eB c va vb = 0 ∨ eB c va vb = 1 := by
          unfold eB
          rw [if_neg (by omega), if_neg (by omega), if_neg (by omega)]
          rcases h3 with rfl | rfl
          · rw [if_pos rfl]; exact bz_01 _
          · rw [if_neg (by omega), if_pos rfl]; exact bz_01 _
        exact ⟨_, b1, by omega, by omega, fun _ => q01, b3, b4⟩
end TW
