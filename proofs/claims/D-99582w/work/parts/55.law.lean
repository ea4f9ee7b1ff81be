/-! SPECS: the laws: trees of the component stand for codes, and answer what the codes come to -/
set_option maxRecDepth 100000
/-- a tree in the heap, its codes -/
def bTr (g : bG) : Nat → Bool → Int → Nat → List Int → Prop
  | 0, _, _, _, _ => False
  | d + 1, false, W, x, cs =>
    (∃ n, 0 ≤ n ∧ n < 1000 ∧ cs = [n] ∧ g 14 x 0 = bk_u ∧ g 13 x 0 = .int (bk_i n))
    ∨ (∃ w, 0 ≤ w ∧ w < W ∧ cs = [1000 + w] ∧ g 14 x 0 = bk_u ∧ g 13 x 0 = bk_u ∧ g 12 x 0 = .int (bk_i w))
    ∨ (∃ a b c y z sg, bTr g d false W y a ∧ bTr g d false W z b ∧ ((c = 3000 ∧ sg = 43) ∨ (c = 3001 ∧ sg = 45) ∨ (c = 3002 ∧ sg = 42)) ∧ cs = a ++ b ++ [c] ∧ g 14 x 0 = .ref y ∧ g 14 x 1 = .ref z ∧ g 14 x 2 = .int (bk_i sg))
    ∨ (∃ q t e y z u, bTr g d true W y q ∧ bTr g d false W z t ∧ bTr g d false W u e ∧ cs = q ++ t ++ e ++ [3009] ∧ g 14 x 0 = bk_u ∧ g 13 x 0 = bk_u ∧ g 12 x 0 = bk_u ∧ g 11 x 0 = .ref y ∧ g 11 x 1 = .ref z ∧ g 11 x 2 = .ref u)
  | d + 1, true, W, x, cs =>
    (∃ a b c y z sg, bTr g d false W y a ∧ bTr g d false W z b ∧ ((c = 3003 ∧ sg = 61) ∨ (c = 3004 ∧ sg = 60) ∨ (c = 3005 ∧ sg = 62)) ∧ cs = a ++ b ++ [c] ∧ g 8 x 0 = .ref y ∧ g 8 x 1 = .ref z ∧ g 8 x 2 = .int (bk_i sg))
    ∨ (∃ a y, bTr g d true W y a ∧ cs = a ++ [3006] ∧ g 8 x 0 = bk_u ∧ g 9 x 0 = bk_u ∧ g 7 x 0 = .ref y)
    ∨ (∃ a b c y z sg, bTr g d true W y a ∧ bTr g d true W z b ∧ ((c = 3007 ∧ sg = 1) ∨ (c = 3008 ∧ sg = 0)) ∧ cs = a ++ b ++ [c] ∧ g 8 x 0 = bk_u ∧ g 9 x 0 = .ref y ∧ g 9 x 1 = .ref z ∧ g 9 x 2 = .int (bk_i sg))
theorem bTr_wfc {g : bG} {W : Int} : ∀ (d : Nat) (tr : Bool) (x : Nat) (cs : List Int), bTr g d tr W x cs → wfc d tr W cs := by
  intro d
  induction d with
  | zero => intro tr x cs h; exact h.elim
  | succ d ih =>
    intro tr x cs h
    cases tr with
    | false =>
      rcases h with ⟨n, h1, h2, h3, -⟩ | ⟨w, h1, h2, h3, -⟩ | ⟨a, b, c, y, z, sg, h1, h2, h3, h4, -⟩ | ⟨q, t, e, y, z, u, h1, h2, h3, h4, -⟩
      · exact Or.inl ⟨n, h1, h2, h3⟩
      · exact Or.inr (Or.inl ⟨w, h1, h2, h3⟩)
      · exact Or.inr (Or.inr (Or.inl ⟨a, b, c, ih _ _ _ h1, ih _ _ _ h2, by omega, by omega, h4⟩))
      · exact Or.inr (Or.inr (Or.inr ⟨q, t, e, ih _ _ _ h1, ih _ _ _ h2, ih _ _ _ h3, h4⟩))
    | true =>
      rcases h with ⟨a, b, c, y, z, sg, h1, h2, h3, h4, -⟩ | ⟨a, y, h1, h2, -⟩ | ⟨a, b, c, y, z, sg, h1, h2, h3, h4, -⟩
      · exact Or.inl ⟨a, b, c, ih _ _ _ h1, ih _ _ _ h2, by omega, by omega, h4⟩
      · exact Or.inr (Or.inl ⟨a, ih _ _ _ h1, h2⟩)
      · exact Or.inr (Or.inr ⟨a, b, c, ih _ _ _ h1, ih _ _ _ h2, by omega, h4⟩)
theorem bTr_mono {g : bG} {W : Int} : ∀ (d : Nat) (tr : Bool) (x : Nat) (cs : List Int), bTr g d tr W x cs → bTr g (d + 1) tr W x cs := by
  intro d
  induction d with
  | zero => intro tr x cs h; exact h.elim
  | succ d ih =>
    intro tr x cs h
    cases tr with
    | false =>
      rcases h with h | h | ⟨a, b, c, y, z, sg, h1, h2, h3⟩ | ⟨q, t, e, y, z, u, h1, h2, h3, h4⟩
      · exact Or.inl h
      · exact Or.inr (Or.inl h)
      · exact Or.inr (Or.inr (Or.inl ⟨a, b, c, y, z, sg, ih _ _ _ h1, ih _ _ _ h2, h3⟩))
      · exact Or.inr (Or.inr (Or.inr ⟨q, t, e, y, z, u, ih _ _ _ h1, ih _ _ _ h2, ih _ _ _ h3, h4⟩))
    | true =>
      rcases h with ⟨a, b, c, y, z, sg, h1, h2, h3⟩ | ⟨a, y, h1, h2⟩ | ⟨a, b, c, y, z, sg, h1, h2, h3⟩
      · exact Or.inl ⟨a, b, c, y, z, sg, ih _ _ _ h1, ih _ _ _ h2, h3⟩
      · exact Or.inr (Or.inl ⟨a, y, ih _ _ _ h1, h2⟩)
      · exact Or.inr (Or.inr ⟨a, b, c, y, z, sg, ih _ _ _ h1, ih _ _ _ h2, h3⟩)
theorem bTr_up {g : bG} {W : Int} {d e : Nat} (h : d ≤ e) {tr : Bool} {x : Nat} {cs : List Int} (t : bTr g d tr W x cs) : bTr g e tr W x cs := by
  induction e with
  | zero => have : d = 0 := by omega
            subst this; exact t
  | succ e ih =>
    by_cases c : d ≤ e
    · exact bTr_mono _ _ _ _ (ih c)
    · have : d = e + 1 := by omega
      subst this; exact t
theorem mul_rng {a b : Int} (h1 : -1000000 ≤ a) (h2 : a ≤ 1000000) (h3 : -1000000 ≤ b) (h4 : b ≤ 1000000) : -1000000000000 ≤ a * b ∧ a * b ≤ 1000000000000 := by
  have e : (a * b).natAbs = a.natAbs * b.natAbs := Int.natAbs_mul a b
  have l : a.natAbs * b.natAbs ≤ 1000000 * 1000000 := Nat.mul_le_mul (by omega) (by omega)
  omega
/-- what a law's tree answers: its codes' last number -/
theorem s_eval {h : bk_H} {w : Int → Int} {W : Int} (hw : ∀ k, 0 ≤ k → k < W → -1000000 ≤ w k ∧ w k ≤ 1000000) (hW : W ≤ 7) {wa : Nat} (hr : ∀ k, 0 ≤ k → k < W → h.1 100 wa (bk_ix (bk_i k)) = .int (bk_i (w k))) :
    ∀ (d : Nat) (tr : Bool) (x : Nat) (cs : List Int), bTr h.1 d tr W x cs → ∃ v m, (∀ st, cs.foldl (eS w) st = v :: st) ∧ -1000000 ≤ v ∧ v ≤ 1000000 ∧ (tr = true → v = 0 ∨ v = 1)
      ∧ (tr = false → ∀ K, bk_dspS h x K = K m) ∧ (tr = true → ∀ K, bk_dspT h x K = K m) ∧ ∀ e, d ≤ e → bk_call e m [.ref x, .ref wa] h = some (some (.int (bk_i v)), h) := by
  intro d
  induction d with
  | zero => intro tr x cs h; exact h.elim
  | succ d ih =>
    intro tr x cs ht
    cases tr with
    | false =>
      rcases ht with ⟨n, h1, h2, rfl, h4, h5⟩ | ⟨k, h1, h2, rfl, h4, h5, h6⟩ | ⟨a, b, c, y, z, sg, h1, h2, h3, rfl, h4, h5, h6⟩ | ⟨q, t, e, y, z, u, h1, h2, h3, rfl, h4, h5, h6, h7, h8, h9⟩
      · refine ⟨n, 13001, fun st => ?_, by omega, by omega, fun q => (by cases q), fun _ K => ?_, fun q => (by cases q), fun e he => ?_⟩
        · show eS w st n = _
          exact if_pos h2
        · unfold bk_dspS; rw [h4, h5]; try rfl
        · obtain ⟨e, rfl⟩ : ∃ f, e = f + 1 := ⟨e - 1, by omega⟩
          rw [kX13_value, eX13_value_0, h5]; rfl
      · have q := hw k h1 h2
        refine ⟨w k, 12001, fun st => ?_, by omega, by omega, fun q => (by cases q), fun _ K => ?_, fun q => (by cases q), fun e he => ?_⟩
        · show eS w st (1000 + k) = _
          unfold eS
          rw [if_neg (by omega), if_pos (by omega)]
          have e : 1000 + k - 1000 = k := by omega
          rw [e]
        · unfold bk_dspS; rw [h4, h5, h6]; rfl
        · obtain ⟨e, rfl⟩ : ∃ f, e = f + 1 := ⟨e - 1, by omega⟩
          rw [kX12_value, eX12_value_0, h6, bq_I, hr k h1 h2]; rfl
      · obtain ⟨va, ma, f1, r1, r1', -, d1, -, c1⟩ := ih _ _ _ h1
        obtain ⟨vb, mb, f2, r2, r2', -, d2, -, c2⟩ := ih _ _ _ h2
        have mr := mul_rng r1 r1' r2 r2'
        refine ⟨eB c va vb, 14001, fun st => ?_, ?_, ?_, fun q => (by cases q), fun _ K => ?_, fun q => (by cases q), fun e he => ?_⟩
        · rw [List.foldl_append, List.foldl_append, f1, f2]
          show eS w (vb :: va :: st) c = _
          unfold eS
          rw [if_neg (by omega), if_neg (by omega), if_neg (by omega), if_neg (by omega)]
        · unfold eB; rw [if_neg (by omega), if_neg (by omega), if_neg (by omega), if_neg (by omega), if_neg (by omega)]; omega
        · unfold eB; rw [if_neg (by omega), if_neg (by omega), if_neg (by omega), if_neg (by omega), if_neg (by omega)]; omega
        · unfold bk_dspS; rw [h4]
        · obtain ⟨e, rfl⟩ : ∃ f, e = f + 1 := ⟨e - 1, by omega⟩
          rw [kX14_value, eX14_value_0, h4, bq_A, d1 rfl, c1 e (by omega), bq_cI, h5, bq_A, d2 rfl, c2 e (by omega), bq_cI, h6, bq_I]
          unfold eB; rw [if_neg (by omega), if_neg (by omega), if_neg (by omega), if_neg (by omega), if_neg (by omega)]
          rcases h3 with ⟨rfl, rfl⟩ | ⟨rfl, rfl⟩ | ⟨rfl, rfl⟩
          · simp only [eX14_value_57]
            simp (disch := first | assumption | omega) only [bi_add, bi_sub, bi_mul, bi_neg, bi_div, bi_64, bl_add, bl_sub, bl_mul, bl_neg, bl_div, bl_32, bi_min, bi_max, bl_min, bl_max, bq_I, bq_J, bq_A, bq_Vi, bq_Vl, bq_Vr, bq_cV, bq_cI, bq_cJ, bq_cA, bq_le, bq_lt, bq_eq, bq_z, bq_o, bq_ref, bq_nz, bq_nzJ, bq_bl, bq_blz, bq_T, bq_F, if_true, if_false, Int.reduceEq, Int.reduceLT, Int.reduceLE, Int.reduceAdd, Int.reduceSub, Int.reduceMul, Int.add_sub_cancel, li_0, li_1, li_2, li_14, li_43, li_45, li_57, li_1000000, ll_0, ll_1, ll_2, ll_14, ll_43, ll_45, ll_57, ll_1000000]
            rw [Int.max_comm]
          · simp only [eX14_value_57]
            simp (disch := first | assumption | omega) only [bi_add, bi_sub, bi_mul, bi_neg, bi_div, bi_64, bl_add, bl_sub, bl_mul, bl_neg, bl_div, bl_32, bi_min, bi_max, bl_min, bl_max, bq_I, bq_J, bq_A, bq_Vi, bq_Vl, bq_Vr, bq_cV, bq_cI, bq_cJ, bq_cA, bq_le, bq_lt, bq_eq, bq_z, bq_o, bq_ref, bq_nz, bq_nzJ, bq_bl, bq_blz, bq_T, bq_F, if_true, if_false, Int.reduceEq, Int.reduceLT, Int.reduceLE, Int.reduceAdd, Int.reduceSub, Int.reduceMul, Int.add_sub_cancel, li_0, li_1, li_2, li_14, li_43, li_45, li_57, li_1000000, ll_0, ll_1, ll_2, ll_14, ll_43, ll_45, ll_57, ll_1000000]
            rw [Int.max_comm]
          · simp only [eX14_value_57]
            simp (disch := first | assumption | omega) only [bi_add, bi_sub, bi_mul, bi_neg, bi_div, bi_64, bl_add, bl_sub, bl_mul, bl_neg, bl_div, bl_32, bi_min, bi_max, bl_min, bl_max, bq_I, bq_J, bq_A, bq_Vi, bq_Vl, bq_Vr, bq_cV, bq_cI, bq_cJ, bq_cA, bq_le, bq_lt, bq_eq, bq_z, bq_o, bq_ref, bq_nz, bq_nzJ, bq_bl, bq_blz, bq_T, bq_F, if_true, if_false, Int.reduceEq, Int.reduceLT, Int.reduceLE, Int.reduceAdd, Int.reduceSub, Int.reduceMul, Int.add_sub_cancel, li_0, li_1, li_2, li_14, li_43, li_45, li_57, li_1000000, ll_0, ll_1, ll_2, ll_14, ll_43, ll_45, ll_57, ll_1000000]
            rw [Int.max_comm]
      · obtain ⟨vq, mq, f1, r1, r1', o1, -, d1, c1⟩ := ih _ _ _ h1
        obtain ⟨vt, mt, f2, r2, r2', -, d2, -, c2⟩ := ih _ _ _ h2
        obtain ⟨ve, me, f3, r3, r3', -, d3, -, c3⟩ := ih _ _ _ h3
        refine ⟨if vq = 1 then vt else ve, 11001, fun st => ?_, ?_, ?_, fun q => (by cases q), fun _ K => ?_, fun q => (by cases q), fun e' he => ?_⟩
        · rw [List.foldl_append, List.foldl_append, List.foldl_append, f1, f2, f3]
          show eS w (ve :: vt :: vq :: st) 3009 = _
          unfold eS
          rw [if_neg (by omega), if_neg (by omega), if_neg (by omega), if_pos rfl]
        · split <;> assumption
        · split <;> assumption
        · unfold bk_dspS; rw [h4, h5, h6, h7]; rfl
        · obtain ⟨e', rfl⟩ : ∃ f, e' = f + 1 := ⟨e' - 1, by omega⟩
          rw [kX11_value, eX11_value_0, h7, bq_A, d1 rfl, c1 e' (by omega), bq_cI, h8, h9, bq_A, bq_A, d2 rfl, d3 rfl, c2 e' (by omega), c3 e' (by omega), bq_cI, bq_cI]
          rcases o1 rfl with rfl | rfl
          · rfl
          · rfl
    | true =>
      rcases ht with ⟨a, b, c, y, z, sg, h1, h2, h3, rfl, h4, h5, h6⟩ | ⟨a, y, h1, rfl, h4, h5, h6⟩ | ⟨a, b, c, y, z, sg, h1, h2, h3, rfl, h4, h5, h6, h7⟩
      · obtain ⟨va, ma, f1, r1, r1', -, d1, -, c1⟩ := ih _ _ _ h1
        obtain ⟨vb, mb, f2, r2, r2', -, d2, -, c2⟩ := ih _ _ _ h2
        have q01 : eB c va vb = 0 ∨ eB c va vb = 1 := by
          unfold eB
          rcases h3 with ⟨rfl, -⟩ | ⟨rfl, -⟩ | ⟨rfl, -⟩
          · rw [if_pos rfl]; exact bz_01 _
          · rw [if_neg (by omega), if_pos rfl]; exact bz_01 _
          · rw [if_neg (by omega), if_neg (by omega), if_pos rfl]; exact bz_01 _
        refine ⟨eB c va vb, 8001, fun st => ?_, by omega, by omega, fun _ => q01, fun q => (by cases q), fun _ K => ?_, fun e he => ?_⟩
        · rw [List.foldl_append, List.foldl_append, f1, f2]
          show eS w (vb :: va :: st) c = _
          unfold eS
          rw [if_neg (by omega), if_neg (by omega), if_neg (by omega), if_neg (by omega)]
        · unfold bk_dspT; rw [h4]
        · obtain ⟨e, rfl⟩ : ∃ f, e = f + 1 := ⟨e - 1, by omega⟩
          rw [kX8_holds, eX8_holds_0, h4, bq_A, d1 rfl, c1 e (by omega), bq_cI, h5, bq_A, d2 rfl, c2 e (by omega), bq_cI, h6, bq_I, bq_I]
          unfold eB
          rcases h3 with ⟨rfl, rfl⟩ | ⟨rfl, rfl⟩ | ⟨rfl, rfl⟩
          · simp (disch := first | assumption | omega) only [bi_add, bi_sub, bi_mul, bi_neg, bi_div, bi_64, bl_add, bl_sub, bl_mul, bl_neg, bl_div, bl_32, bi_min, bi_max, bl_min, bl_max, bq_I, bq_J, bq_A, bq_Vi, bq_Vl, bq_Vr, bq_cV, bq_cI, bq_cJ, bq_cA, bq_le, bq_lt, bq_eq, bq_z, bq_o, bq_ref, bq_nz, bq_nzJ, bq_bl, bq_blz, bq_T, bq_F, if_true, if_false, Int.reduceEq, Int.reduceLT, Int.reduceLE, Int.reduceAdd, Int.reduceSub, Int.reduceMul, Int.add_sub_cancel, li_0, li_1, li_2, li_8, li_60, li_61, ll_0, ll_1, ll_2, ll_8, ll_60, ll_61]
            by_cases q : va = vb
            · rw [if_pos q, bz_t q]
            · rw [if_neg q, bz_f q]
          · simp (disch := first | assumption | omega) only [bi_add, bi_sub, bi_mul, bi_neg, bi_div, bi_64, bl_add, bl_sub, bl_mul, bl_neg, bl_div, bl_32, bi_min, bi_max, bl_min, bl_max, bq_I, bq_J, bq_A, bq_Vi, bq_Vl, bq_Vr, bq_cV, bq_cI, bq_cJ, bq_cA, bq_le, bq_lt, bq_eq, bq_z, bq_o, bq_ref, bq_nz, bq_nzJ, bq_bl, bq_blz, bq_T, bq_F, if_true, if_false, Int.reduceEq, Int.reduceLT, Int.reduceLE, Int.reduceAdd, Int.reduceSub, Int.reduceMul, Int.add_sub_cancel, li_0, li_1, li_2, li_8, li_60, li_61, ll_0, ll_1, ll_2, ll_8, ll_60, ll_61]
            by_cases q : va < vb
            · have q' : ¬ vb ≤ va := by omega
              rw [if_neg q', bz_t q]
            · have q' : vb ≤ va := by omega
              rw [if_pos q', bz_f q]
          · simp (disch := first | assumption | omega) only [bi_add, bi_sub, bi_mul, bi_neg, bi_div, bi_64, bl_add, bl_sub, bl_mul, bl_neg, bl_div, bl_32, bi_min, bi_max, bl_min, bl_max, bq_I, bq_J, bq_A, bq_Vi, bq_Vl, bq_Vr, bq_cV, bq_cI, bq_cJ, bq_cA, bq_le, bq_lt, bq_eq, bq_z, bq_o, bq_ref, bq_nz, bq_nzJ, bq_bl, bq_blz, bq_T, bq_F, if_true, if_false, Int.reduceEq, Int.reduceLT, Int.reduceLE, Int.reduceAdd, Int.reduceSub, Int.reduceMul, Int.add_sub_cancel, li_0, li_1, li_2, li_8, li_60, li_61, ll_0, ll_1, ll_2, ll_8, ll_60, ll_61]
            by_cases q : vb < va
            · have q' : ¬ va ≤ vb := by omega
              rw [if_neg q', bz_t q]
            · have q' : va ≤ vb := by omega
              rw [if_pos q', bz_f q]
      · obtain ⟨va, ma, f1, r1, r1', o1, -, d1, c1⟩ := ih _ _ _ h1
        have o2 := o1 rfl
        refine ⟨1 - va, 7001, fun st => ?_, by omega, by omega, fun _ => by omega, fun q => (by cases q), fun _ K => ?_, fun e he => ?_⟩
        · rw [List.foldl_append, f1]
          show eS w (va :: st) 3006 = _
          unfold eS
          rw [if_neg (by omega), if_neg (by omega), if_pos rfl]
        · unfold bk_dspT; rw [h4, h5, h6]; rfl
        · obtain ⟨e, rfl⟩ : ∃ f, e = f + 1 := ⟨e - 1, by omega⟩
          rw [kX7_holds, eX7_holds_0, h6, bq_A, d1 rfl, c1 e (by omega), bq_cI]
          rcases o2 with rfl | rfl <;> rfl
      · obtain ⟨va, ma, f1, r1, r1', o1, -, d1, c1⟩ := ih _ _ _ h1
        obtain ⟨vb, mb, f2, r2, r2', o2, -, d2, c2⟩ := ih _ _ _ h2
        have q01 : eB c va vb = 0 ∨ eB c va vb = 1 := by
          unfold eB
          rcases h3 with ⟨rfl, -⟩ | ⟨rfl, -⟩
          · rw [if_neg (by omega), if_neg (by omega), if_neg (by omega), if_pos rfl]; exact bz_01 _
          · rw [if_neg (by omega), if_neg (by omega), if_neg (by omega), if_neg (by omega), if_pos rfl]; exact bz_01 _
        refine ⟨eB c va vb, 9001, fun st => ?_, by omega, by omega, fun _ => q01, fun q => (by cases q), fun _ K => ?_, fun e he => ?_⟩
        · rw [List.foldl_append, List.foldl_append, f1, f2]
          show eS w (vb :: va :: st) c = _
          unfold eS
          rw [if_neg (by omega), if_neg (by omega), if_neg (by omega), if_neg (by omega)]
        · unfold bk_dspT; rw [h4, h5]; rfl
        · obtain ⟨e, rfl⟩ : ∃ f, e = f + 1 := ⟨e - 1, by omega⟩
          rw [kX9_holds, eX9_holds_0, h7, bq_I]
          simp only [h5, h6, bq_A, d1 rfl, d2 rfl, c1 e (by omega), c2 e (by omega), bq_cI, eX9_holds_33, eX9_holds_59]
          rcases o1 rfl with rfl | rfl <;> rcases o2 rfl with rfl | rfl <;> rcases h3 with ⟨rfl, rfl⟩ | ⟨rfl, rfl⟩ <;> rfl
