/-! SPECS: strings; the heap of the component's parser (bk_Q): the reader's numbers (at rd), its cave's (rd + 1 and on) laid over -/
set_option maxRecDepth 100000
def bStr (G : bG) : Prop := ∀ i, i < 23 → G 15 (2 + i) 0 = .ref (32 + i) ∧ G 15 (2 + i) 1 = .int (bk_i 0) ∧ G 211 (32 + i) 0 = .int (bk_i (wL i)) ∧ ∀ k : Int, 0 ≤ k → k < wL i → G 111 (32 + i) k.toNat = .int (bk_i (wC i k))
section ST
variable {h : bk_H} {i v D : Nat} {k c : Int}
theorem shr0 (x : Int32) : x >>> (bk_i 0 &&& bk_i 31) = x := by
  have e : (bk_i 0 &&& bk_i 31) = 0 := by decide
  rw [e]
  exact Int32.shiftRight_zero
theorem s_strlen (hS : bStr h.1) (hi : i < 23) (hv : v = 2 + i) (hD : 2 ≤ D) : bk_call D 15003 [.ref v] h = some (some (.int (bk_i (wL i))), h) := by
  subst hv
  obtain ⟨d, rfl⟩ := dep (show 1 ≤ D by omega)
  obtain ⟨a, b, e, -⟩ := hS i hi
  have ec : bk_call d 15004 [.ref (2 + i)] h = some (some (.int (bk_i 0)), h) := by
    obtain ⟨d2, rfl⟩ := dep (show 1 ≤ d by omega)
    rw [kJ0_coder, eJ0_coder_0, b]
    exact rfl
  rw [kJ0_length, eJ0_length_0, a]
  simp (disch := first | assumption | omega) only [e, ec, shr0, bi_add, bi_sub, bi_mul, bi_neg, bi_div, bi_64, bl_add, bl_sub, bl_mul, bl_neg, bl_div, bl_32, bi_min, bi_max, bl_min, bl_max, bq_I, bq_J, bq_A, bq_Vi, bq_Vl, bq_Vr, bq_cV, bq_cI, bq_cJ, bq_cA, bq_le, bq_lt, bq_eq, bq_z, bq_o, bq_ref, bq_nz, bq_nzJ, bq_bl, bq_blz, bq_T, bq_F, if_true, if_false, Int.reduceEq, Int.reduceLT, Int.reduceLE, Int.reduceAdd, Int.reduceSub, Int.reduceMul, Int.add_sub_cancel, li_0, li_1, li_15, li_31, li_211, ll_0, ll_1, ll_15, ll_31, ll_211]
theorem s_latin (hS : bStr h.1) (hi : i < 23) (hv : v = 2 + i) (hD : 1 ≤ D) : bk_call D 15002 [.ref v] h = some (some (.int (bk_i 1)), h) := by
  subst hv
  obtain ⟨d, rfl⟩ := dep hD
  obtain ⟨a, b, e, -⟩ := hS i hi
  rw [kJ0_isLatin1, eJ0_isLatin1_0, b]
  exact rfl
theorem ch_val {c : Int} (c0 : 0 ≤ c) (c1 : c < 128) : UInt32.toInt32 (Int32.toUInt32 (bk_i c &&& bk_i 255) % 65536) = bk_i c := by
  have q : ∀ c : Fin 128, UInt32.toInt32 (Int32.toUInt32 (bk_i c.val &&& bk_i 255) % 65536) = bk_i c.val := by decide +kernel
  have := q ⟨c.toNat, by omega⟩
  simp only [Int.toNat_of_nonneg c0] at this
  exact this
theorem rn_ch {c : Int} {K : bk_R} (c0 : 0 ≤ c) (c1 : c < 128) : bk_rn 3 (bk_i c) K = K := by
  have q : ∀ c : Fin 128, ((bk_i c.val : Int32).toUInt32 % 65536).toInt32 = bk_i c.val := by decide +kernel
  have e := q ⟨c.toNat, by omega⟩
  simp only [Int.toNat_of_nonneg c0] at e
  exact if_pos e
theorem s_charAt (hS : bStr h.1) (hi : i < 23) (hv : v = 2 + i) (k0 : 0 ≤ k) (k1 : k < wL i) (hD : 4 ≤ D) : bk_call D 15005 [.ref v, .int (bk_i k)] h = some (some (.int (bk_i (wC i k))), h) := by
  obtain ⟨d, rfl⟩ := dep (show 1 ≤ D by omega)
  have el := s_latin (D := d) hS hi hv (by omega)
  have hl := wL_rng hi
  have hc := wC_rng hi k0 k1
  subst hv
  obtain ⟨a, b, e, f⟩ := hS i hi
  have f1 := f k k0 k1
  have e3 : bk_call d 16003 [.ref (32 + i), .int (bk_i k)] h = some (some (.int (bk_i (wC i k))), h) := by
    obtain ⟨d2, rfl⟩ := dep (show 1 ≤ d by omega)
    have e6 : bk_call d2 15006 [.int (bk_i k), .int (bk_i (wL i))] h = some (none, h) := by
      obtain ⟨d3, rfl⟩ := dep (show 1 ≤ d2 by omega)
      have e7 : bk_call d3 17000 [.int (bk_i k), .int (bk_i (wL i)), .float 7] h = some (some (.int (bk_i k)), h) := by
        obtain ⟨d4, rfl⟩ := dep (show 1 ≤ d3 by omega)
        rw [kJ4_checkIndex, eJ4_checkIndex_0]
        simp (disch := first | assumption | omega) only [if_neg (show ¬ k < 0 by omega), if_pos k1, bi_add, bi_sub, bi_mul, bi_neg, bi_div, bi_64, bl_add, bl_sub, bl_mul, bl_neg, bl_div, bl_32, bi_min, bi_max, bl_min, bl_max, bq_I, bq_J, bq_A, bq_Vi, bq_Vl, bq_Vr, bq_cV, bq_cI, bq_cJ, bq_cA, bq_le, bq_lt, bq_eq, bq_z, bq_o, bq_ref, bq_nz, bq_nzJ, bq_bl, bq_blz, bq_T, bq_F, if_true, if_false, Int.reduceEq, Int.reduceLT, Int.reduceLE, Int.reduceAdd, Int.reduceSub, Int.reduceMul, Int.add_sub_cancel, li_0, li_1, li_7, ll_0, ll_1, ll_7]
      rw [kJ0_checkIndex, eJ0_checkIndex_0, e7]
      exact rfl
    have er : h.1 111 (32 + i) (bk_ix (bk_i k)) = .int (bk_i (wC i k)) := by rw [bi_ix k0 (by omega)]; exact f1
    rw [kJ1_charAt, eJ1_charAt_0]
    simp (disch := first | assumption | omega) only [e, e6, er, ch_val, rn_ch, bi_add, bi_sub, bi_mul, bi_neg, bi_div, bi_64, bl_add, bl_sub, bl_mul, bl_neg, bl_div, bl_32, bi_min, bi_max, bl_min, bl_max, bq_I, bq_J, bq_A, bq_Vi, bq_Vl, bq_Vr, bq_cV, bq_cI, bq_cJ, bq_cA, bq_le, bq_lt, bq_eq, bq_z, bq_o, bq_ref, bq_nz, bq_nzJ, bq_bl, bq_blz, bq_T, bq_F, if_true, if_false, Int.reduceEq, Int.reduceLT, Int.reduceLE, Int.reduceAdd, Int.reduceSub, Int.reduceMul, Int.add_sub_cancel, li_0, li_1, li_3, li_111, li_211, li_255, ll_0, ll_1, ll_3, ll_111, ll_211, ll_255]
  rw [kJ0_charAt, eJ0_charAt_0, a]
  simp (disch := first | assumption | omega) only [a, el, e3, rn_ch, bi_add, bi_sub, bi_mul, bi_neg, bi_div, bi_64, bl_add, bl_sub, bl_mul, bl_neg, bl_div, bl_32, bi_min, bi_max, bl_min, bl_max, bq_I, bq_J, bq_A, bq_Vi, bq_Vl, bq_Vr, bq_cV, bq_cI, bq_cJ, bq_cA, bq_le, bq_lt, bq_eq, bq_z, bq_o, bq_ref, bq_nz, bq_nzJ, bq_bl, bq_blz, bq_T, bq_F, if_true, if_false, Int.reduceEq, Int.reduceLT, Int.reduceLE, Int.reduceAdd, Int.reduceSub, Int.reduceMul, Int.add_sub_cancel, li_0, li_1, li_3, li_15, ll_0, ll_1, ll_3, ll_15]
theorem i8_c {c : Int} (c0 : 0 ≤ c) (c1 : c < 256) : Int8.toInt32 (Int32.toInt8 (bk_i c)) = bk_i (if c < 128 then c else c - 256) := by
  have q : ∀ c : Fin 256, Int8.toInt32 (Int32.toInt8 (bk_i c.val)) = bk_i (if (c.val : Int) < 128 then (c.val : Int) else (c.val : Int) - 256) := by decide +kernel
  have := q ⟨c.toNat, by omega⟩
  simp only [Int.toNat_of_nonneg c0] at this
  exact this
/-- where a sign lies among the signs -/
theorem s_indexOf (hS : bStr h.1) (c0 : 0 ≤ c) (c1 : c < 256) (hD : 5 ≤ D) : ∃ z, bk_call D 15000 [.ref 2, .int (bk_i c)] h = some (some (.int (bk_i z)), h) ∧ -1 ≤ z ∧ z < 12 ∧ (z < 0 ↔ signM c = 25) := by
  obtain ⟨d1, h1⟩ := dep (show 1 ≤ D by omega)
  obtain ⟨d2, h2⟩ := dep (show 1 ≤ d1 by omega)
  obtain ⟨d3, h3⟩ := dep (show 1 ≤ d2 by omega)
  obtain ⟨a, b, e, f⟩ := hS 0 (by decide)
  have w0 : wL 0 = 12 := by decide
  have el := s_latin (h := h) (i := 0) (v := 2) (D := d2) hS (by decide) rfl (by omega)
  have en := s_strlen (h := h) (i := 0) (v := 2) (D := d2) hS (by decide) rfl (by omega)
  have ea : h.1 15 2 0 = .ref 32 := a
  have e3 : h.1 211 32 0 = .int (bk_i 12) := by rw [← w0]; exact e
  rw [w0] at en f
  have ec : bk_call d3 16001 [.int (bk_i c)] h = some (some (.int (bk_i 1)), h) := by
    obtain ⟨d5, rfl⟩ := dep (show 1 ≤ d3 by omega)
    rw [kJ1_canEncode, eJ1_canEncode_0]
    simp (disch := first | assumption | omega) only [if_neg (show ¬ c < 0 by omega), if_neg (show ¬ 255 < c by omega), bi_add, bi_sub, bi_mul, bi_neg, bi_div, bi_64, bl_add, bl_sub, bl_mul, bl_neg, bl_div, bl_32, bi_min, bi_max, bl_min, bl_max, bq_I, bq_J, bq_A, bq_Vi, bq_Vl, bq_Vr, bq_cV, bq_cI, bq_cJ, bq_cA, bq_le, bq_lt, bq_eq, bq_z, bq_o, bq_ref, bq_nz, bq_nzJ, bq_bl, bq_blz, bq_T, bq_F, if_true, if_false, Int.reduceEq, Int.reduceLT, Int.reduceLE, Int.reduceAdd, Int.reduceSub, Int.reduceMul, Int.add_sub_cancel, li_0, li_1, li_255, ll_0, ll_1, ll_255]
  have goal : bk_wp (bk_call d3 16002 [.ref 32, .int (bk_i c), .int (bk_i 0), .int (bk_i 12)] h) (fun v h' => ∃ z, v = some (.int (bk_i z)) ∧ h' = h ∧ -1 ≤ z ∧ z < 12 ∧ (z < 0 ↔ signM c = 25)) := by
    obtain ⟨d5, rfl⟩ := dep (show 1 ≤ d3 by omega)
    rw [kJ1_indexOfChar, eJ1_indexOfChar_0, i8_c c0 c1]
    refine bk_loop (σ := Unit) (fun j _ => bk_den TJ1_indexOfChar (bk_call d5) 7 [.ref 32, .int (bk_i c), .int (bk_i 0), .int (bk_i 12), .int (bk_i (if c < 128 then c else c - 256)), .int (bk_i j)] [] h) (fun j _ => 0 ≤ j ∧ ∀ k, 0 ≤ k → k < j → wC 0 k ≠ c) 12 ?_ ?_ 0 () (by omega) ⟨by omega, fun k _ _ => by omega⟩
    · rintro j u hj ⟨j0, hb⟩ cont
      have cr := wC_rng (i := 0) (by decide) j0 (show j < wL 0 by omega)
      have er : h.1 111 32 (bk_ix (bk_i j)) = .int (bk_i (wC 0 j)) := by rw [bi_ix j0 (by omega)]; exact f j j0 hj
      rw [eJ1_indexOfChar_7]
      have b1 : -2147483648 ≤ (if c < 128 then c else c - 256) ∧ (if c < 128 then c else c - 256) < 2147483648 := by split <;> omega
      have b2 := b1.2
      have b3 := b1.1
      have b4 : wC 0 j = (if c < 128 then c else c - 256) ↔ wC 0 j = c := by split <;> omega
      generalize (if c < 128 then c else c - 256) = q at b2 b3 b4 cont ⊢
      simp (disch := first | assumption | omega) only [if_neg (show ¬ 12 ≤ j by omega), er, bi_add, bi_sub, bi_mul, bi_neg, bi_div, bi_64, bl_add, bl_sub, bl_mul, bl_neg, bl_div, bl_32, bi_min, bi_max, bl_min, bl_max, bq_I, bq_J, bq_A, bq_Vi, bq_Vl, bq_Vr, bq_cV, bq_cI, bq_cJ, bq_cA, bq_le, bq_lt, bq_eq, bq_z, bq_o, bq_ref, bq_nz, bq_nzJ, bq_bl, bq_blz, bq_T, bq_F, if_true, if_false, Int.reduceEq, Int.reduceLT, Int.reduceLE, Int.reduceAdd, Int.reduceSub, Int.reduceMul, Int.add_sub_cancel, li_0, li_1, li_7, li_111, ll_0, ll_1, ll_7, ll_111]
      by_cases w : wC 0 j = q
      · rw [if_pos w]
        refine ⟨_, _, rfl, j, rfl, rfl, by omega, hj, ?_⟩
        have := signM_at j0 hj
        rw [b4.mp w] at this
        omega
      · rw [if_neg w]
        refine cont () ⟨by omega, fun k k0 k1 => ?_⟩
        by_cases y : k = j
        · rw [y]; exact fun t => w (b4.mpr t)
        · exact hb k k0 (by omega)
    · rintro u ⟨j0, hb⟩
      have b1 : -2147483648 ≤ (if c < 128 then c else c - 256) ∧ (if c < 128 then c else c - 256) < 2147483648 := by split <;> omega
      rw [eJ1_indexOfChar_7]
      generalize (if c < 128 then c else c - 256) = q at b1 ⊢
      simp (disch := first | assumption | omega) only [if_pos (Int.le_refl 12), bi_add, bi_sub, bi_mul, bi_neg, bi_div, bi_64, bl_add, bl_sub, bl_mul, bl_neg, bl_div, bl_32, bi_min, bi_max, bl_min, bl_max, bq_I, bq_J, bq_A, bq_Vi, bq_Vl, bq_Vr, bq_cV, bq_cI, bq_cJ, bq_cA, bq_le, bq_lt, bq_eq, bq_z, bq_o, bq_ref, bq_nz, bq_nzJ, bq_bl, bq_blz, bq_T, bq_F, if_true, if_false, Int.reduceEq, Int.reduceLT, Int.reduceLE, Int.reduceAdd, Int.reduceSub, Int.reduceMul, Int.add_sub_cancel, li_0, li_1, li_7, li_111, ll_0, ll_1, ll_7, ll_111]
      refine ⟨_, _, rfl, -1, rfl, rfl, by omega, by omega, ?_⟩
      have := signM_no hb
      omega
  obtain ⟨w, h', eg, z, rfl, rfl, z0, z1, z2⟩ := goal
  refine ⟨z, ?_, z0, z1, z2⟩
  have ei : bk_call d2 16000 [.ref 32, .int (bk_i c), .int (bk_i 0), .int (bk_i 12)] h' = some (some (.int (bk_i z)), h') := by
    have m1 : (if bk_i 0 ≤ bk_i 0 then bk_i 0 else bk_i 0) = bk_i 0 := by split <;> rfl
    have m2 : (if bk_i 12 ≤ bk_i 12 then bk_i 12 else bk_i 12) = bk_i 12 := by split <;> rfl
    rw [h3, kJ1_indexOf, eJ1_indexOf_0]
    simp (disch := first | assumption | omega) only [ec, e3, m1, m2, eg, bi_add, bi_sub, bi_mul, bi_neg, bi_div, bi_64, bl_add, bl_sub, bl_mul, bl_neg, bl_div, bl_32, bl_min, bl_max, bq_I, bq_J, bq_A, bq_Vi, bq_Vl, bq_Vr, bq_cV, bq_cI, bq_cJ, bq_cA, bq_le, bq_lt, bq_eq, bq_z, bq_o, bq_ref, bq_nz, bq_nzJ, bq_bl, bq_blz, bq_T, bq_F, if_true, if_false, Int.reduceEq, Int.reduceLT, Int.reduceLE, Int.reduceAdd, Int.reduceSub, Int.reduceMul, Int.add_sub_cancel, li_0, li_1, li_211, ll_0, ll_1, ll_211]
  rw [h1, kJ0_indexOf, eJ0_indexOf_0, ea]
  have e0 : (0 : Int32) = bk_i 0 := by decide
  rw [bq_Vr, h2, kJ0_indexOf_2, eJ0_indexOf_2_0, ea, bq_Vr]
  simp (disch := first | assumption | omega) only [ea, el, en, ei, bi_add, bi_sub, bi_mul, bi_neg, bi_div, bi_64, bl_add, bl_sub, bl_mul, bl_neg, bl_div, bl_32, bi_min, bi_max, bl_min, bl_max, bq_I, bq_J, bq_A, bq_Vi, bq_Vl, bq_Vr, bq_cV, bq_cI, bq_cJ, bq_cA, bq_le, bq_lt, bq_eq, bq_z, bq_o, bq_ref, bq_nz, bq_nzJ, bq_bl, bq_blz, bq_T, bq_F, if_true, if_false, Int.reduceEq, Int.reduceLT, Int.reduceLE, Int.reduceAdd, Int.reduceSub, Int.reduceMul, Int.add_sub_cancel, li_0, li_1, li_15, ll_0, ll_1, ll_15]
end ST
abbrev bq_k (rd t a k : Nat) : Prop := (t = 5 ∧ a = rd ∧ k < 10 ∧ k ≠ 1) ∨ (t = 1 ∧ a = rd + 1 ∧ 4 ≤ k ∧ k < 13) ∨ (t = 100 ∧ rd + 2 ≤ a ∧ a < rd + 5 ∧ k < 8)
def bk_Q (rd : Nat) (F : bF) (h : bk_H) : bk_H := (fun t a k => if bq_k rd t a k then .int (bk_i (F a k)) else h.1 t a k, h.2)
section QF
variable {rd t a k : Nat} {F : bF} {h : bk_H} {v z : Int}
theorem bQ_on (c : bq_k rd t a k) : (bk_Q rd F h).1 t a k = .int (bk_i (F a k)) := if_pos c
theorem bQ_off (c : ¬ bq_k rd t a k) : (bk_Q rd F h).1 t a k = h.1 t a k := if_neg c
theorem bQ_put (c : bq_k rd t a k) : bk_put (bk_Q rd F h) t a k (.int (bk_i v)) = bk_Q rd (bU F a k v) h := by
  refine bk_put_eq rfl ((bQ_on c).trans (by rw [bU_hit])) fun t' a' k' q => ?_
  by_cases c2 : bq_k rd t' a' k'
  · rw [bQ_on c2, bQ_on c2]
    have e : bU F a k v a' k' = F a' k' := if_neg fun w => q ⟨by omega, w.1, by omega⟩
    rw [e]
  · rw [bQ_off c2, bQ_off c2]
theorem bQ_pof (c : ¬ bq_k rd t a k) (w : Value) : bk_put (bk_Q rd F h) t a k w = bk_Q rd F (bk_put h t a k w) := by
  refine bk_put_eq rfl ((bQ_off c).trans (if_pos ⟨rfl, rfl, rfl⟩)) fun t' a' k' q => ?_
  by_cases c2 : bq_k rd t' a' k'
  · rw [bQ_on c2, bQ_on c2]
  · rw [bQ_off c2, bQ_off c2]
    exact if_neg q
theorem bQ_new (hr : rd + 6 ≤ h.2.1) (c : Nat) (fs : List Value) : bk_new (bk_Q rd F h) c fs = bk_Q rd F (bk_new h c fs) := by
  apply Prod.ext
  · funext t a k
    show (if t = c ∧ a = h.2.1 ∧ k < fs.length then bk_get fs k else (bk_Q rd F h).1 t a k) = (bk_Q rd F (bk_new h c fs)).1 t a k
    by_cases c2 : bq_k rd t a k
    · rw [bQ_on c2, bQ_on c2, if_neg (by omega)]
    · rw [bQ_off c2, bQ_off c2]; rfl
  · rfl
theorem q5_0 : (bk_Q rd F h).1 5 rd 0 = .int (bk_i (F rd 0)) := bQ_on (Or.inl ⟨rfl, rfl, by decide, by decide⟩)
theorem w5_0 : bk_put (bk_Q rd F h) 5 rd 0 (.int (bk_i v)) = bk_Q rd (bU F rd 0 v) h := bQ_put (k := 0) (Or.inl ⟨rfl, rfl, by decide, by decide⟩)
theorem q5_2 : (bk_Q rd F h).1 5 rd 2 = .int (bk_i (F rd 2)) := bQ_on (Or.inl ⟨rfl, rfl, by decide, by decide⟩)
theorem w5_2 : bk_put (bk_Q rd F h) 5 rd 2 (.int (bk_i v)) = bk_Q rd (bU F rd 2 v) h := bQ_put (k := 2) (Or.inl ⟨rfl, rfl, by decide, by decide⟩)
theorem q5_3 : (bk_Q rd F h).1 5 rd 3 = .int (bk_i (F rd 3)) := bQ_on (Or.inl ⟨rfl, rfl, by decide, by decide⟩)
theorem w5_3 : bk_put (bk_Q rd F h) 5 rd 3 (.int (bk_i v)) = bk_Q rd (bU F rd 3 v) h := bQ_put (k := 3) (Or.inl ⟨rfl, rfl, by decide, by decide⟩)
theorem q5_4 : (bk_Q rd F h).1 5 rd 4 = .int (bk_i (F rd 4)) := bQ_on (Or.inl ⟨rfl, rfl, by decide, by decide⟩)
theorem w5_4 : bk_put (bk_Q rd F h) 5 rd 4 (.int (bk_i v)) = bk_Q rd (bU F rd 4 v) h := bQ_put (k := 4) (Or.inl ⟨rfl, rfl, by decide, by decide⟩)
theorem q5_5 : (bk_Q rd F h).1 5 rd 5 = .int (bk_i (F rd 5)) := bQ_on (Or.inl ⟨rfl, rfl, by decide, by decide⟩)
theorem w5_5 : bk_put (bk_Q rd F h) 5 rd 5 (.int (bk_i v)) = bk_Q rd (bU F rd 5 v) h := bQ_put (k := 5) (Or.inl ⟨rfl, rfl, by decide, by decide⟩)
theorem q5_6 : (bk_Q rd F h).1 5 rd 6 = .int (bk_i (F rd 6)) := bQ_on (Or.inl ⟨rfl, rfl, by decide, by decide⟩)
theorem w5_6 : bk_put (bk_Q rd F h) 5 rd 6 (.int (bk_i v)) = bk_Q rd (bU F rd 6 v) h := bQ_put (k := 6) (Or.inl ⟨rfl, rfl, by decide, by decide⟩)
theorem q5_7 : (bk_Q rd F h).1 5 rd 7 = .int (bk_i (F rd 7)) := bQ_on (Or.inl ⟨rfl, rfl, by decide, by decide⟩)
theorem w5_7 : bk_put (bk_Q rd F h) 5 rd 7 (.int (bk_i v)) = bk_Q rd (bU F rd 7 v) h := bQ_put (k := 7) (Or.inl ⟨rfl, rfl, by decide, by decide⟩)
theorem q5_8 : (bk_Q rd F h).1 5 rd 8 = .int (bk_i (F rd 8)) := bQ_on (Or.inl ⟨rfl, rfl, by decide, by decide⟩)
theorem w5_8 : bk_put (bk_Q rd F h) 5 rd 8 (.int (bk_i v)) = bk_Q rd (bU F rd 8 v) h := bQ_put (k := 8) (Or.inl ⟨rfl, rfl, by decide, by decide⟩)
theorem q5_9 : (bk_Q rd F h).1 5 rd 9 = .int (bk_i (F rd 9)) := bQ_on (Or.inl ⟨rfl, rfl, by decide, by decide⟩)
theorem w5_9 : bk_put (bk_Q rd F h) 5 rd 9 (.int (bk_i v)) = bk_Q rd (bU F rd 9 v) h := bQ_put (k := 9) (Or.inl ⟨rfl, rfl, by decide, by decide⟩)
theorem q1_4 : (bk_Q rd F h).1 1 (rd + 1) 4 = .int (bk_i (F (rd + 1) 4)) := bQ_on (Or.inr (Or.inl ⟨rfl, rfl, by decide, by decide⟩))
theorem w1_4 : bk_put (bk_Q rd F h) 1 (rd + 1) 4 (.int (bk_i v)) = bk_Q rd (bU F (rd + 1) 4 v) h := bQ_put (k := 4) (Or.inr (Or.inl ⟨rfl, rfl, by decide, by decide⟩))
theorem q1_5 : (bk_Q rd F h).1 1 (rd + 1) 5 = .int (bk_i (F (rd + 1) 5)) := bQ_on (Or.inr (Or.inl ⟨rfl, rfl, by decide, by decide⟩))
theorem w1_5 : bk_put (bk_Q rd F h) 1 (rd + 1) 5 (.int (bk_i v)) = bk_Q rd (bU F (rd + 1) 5 v) h := bQ_put (k := 5) (Or.inr (Or.inl ⟨rfl, rfl, by decide, by decide⟩))
theorem q1_6 : (bk_Q rd F h).1 1 (rd + 1) 6 = .int (bk_i (F (rd + 1) 6)) := bQ_on (Or.inr (Or.inl ⟨rfl, rfl, by decide, by decide⟩))
theorem w1_6 : bk_put (bk_Q rd F h) 1 (rd + 1) 6 (.int (bk_i v)) = bk_Q rd (bU F (rd + 1) 6 v) h := bQ_put (k := 6) (Or.inr (Or.inl ⟨rfl, rfl, by decide, by decide⟩))
theorem q1_7 : (bk_Q rd F h).1 1 (rd + 1) 7 = .int (bk_i (F (rd + 1) 7)) := bQ_on (Or.inr (Or.inl ⟨rfl, rfl, by decide, by decide⟩))
theorem w1_7 : bk_put (bk_Q rd F h) 1 (rd + 1) 7 (.int (bk_i v)) = bk_Q rd (bU F (rd + 1) 7 v) h := bQ_put (k := 7) (Or.inr (Or.inl ⟨rfl, rfl, by decide, by decide⟩))
theorem q1_8 : (bk_Q rd F h).1 1 (rd + 1) 8 = .int (bk_i (F (rd + 1) 8)) := bQ_on (Or.inr (Or.inl ⟨rfl, rfl, by decide, by decide⟩))
theorem w1_8 : bk_put (bk_Q rd F h) 1 (rd + 1) 8 (.int (bk_i v)) = bk_Q rd (bU F (rd + 1) 8 v) h := bQ_put (k := 8) (Or.inr (Or.inl ⟨rfl, rfl, by decide, by decide⟩))
theorem q1_9 : (bk_Q rd F h).1 1 (rd + 1) 9 = .int (bk_i (F (rd + 1) 9)) := bQ_on (Or.inr (Or.inl ⟨rfl, rfl, by decide, by decide⟩))
theorem w1_9 : bk_put (bk_Q rd F h) 1 (rd + 1) 9 (.int (bk_i v)) = bk_Q rd (bU F (rd + 1) 9 v) h := bQ_put (k := 9) (Or.inr (Or.inl ⟨rfl, rfl, by decide, by decide⟩))
theorem q1_10 : (bk_Q rd F h).1 1 (rd + 1) 10 = .int (bk_i (F (rd + 1) 10)) := bQ_on (Or.inr (Or.inl ⟨rfl, rfl, by decide, by decide⟩))
theorem w1_10 : bk_put (bk_Q rd F h) 1 (rd + 1) 10 (.int (bk_i v)) = bk_Q rd (bU F (rd + 1) 10 v) h := bQ_put (k := 10) (Or.inr (Or.inl ⟨rfl, rfl, by decide, by decide⟩))
theorem q1_11 : (bk_Q rd F h).1 1 (rd + 1) 11 = .int (bk_i (F (rd + 1) 11)) := bQ_on (Or.inr (Or.inl ⟨rfl, rfl, by decide, by decide⟩))
theorem w1_11 : bk_put (bk_Q rd F h) 1 (rd + 1) 11 (.int (bk_i v)) = bk_Q rd (bU F (rd + 1) 11 v) h := bQ_put (k := 11) (Or.inr (Or.inl ⟨rfl, rfl, by decide, by decide⟩))
theorem q1_12 : (bk_Q rd F h).1 1 (rd + 1) 12 = .int (bk_i (F (rd + 1) 12)) := bQ_on (Or.inr (Or.inl ⟨rfl, rfl, by decide, by decide⟩))
theorem w1_12 : bk_put (bk_Q rd F h) 1 (rd + 1) 12 (.int (bk_i v)) = bk_Q rd (bU F (rd + 1) 12 v) h := bQ_put (k := 12) (Or.inr (Or.inl ⟨rfl, rfl, by decide, by decide⟩))
theorem qa_2 (z0 : 0 ≤ z) (z1 : z < 8) : (bk_Q rd F h).1 100 (rd + 2) (bk_ix (bk_i z)) = .int (bk_i (F (rd + 2) z)) := by
  rw [bi_ix z0 (by omega), bQ_on (Or.inr (Or.inr ⟨rfl, by omega, by omega, by omega⟩)), Int.toNat_of_nonneg z0]
theorem wa_2 (z0 : 0 ≤ z) (z1 : z < 8) : bk_put (bk_Q rd F h) 100 (rd + 2) (bk_ix (bk_i z)) (.int (bk_i v)) = bk_Q rd (bU F (rd + 2) z v) h := by
  rw [bi_ix z0 (by omega), bQ_put (Or.inr (Or.inr ⟨rfl, by omega, by omega, by omega⟩)), Int.toNat_of_nonneg z0]
theorem qa_3 (z0 : 0 ≤ z) (z1 : z < 8) : (bk_Q rd F h).1 100 (rd + 3) (bk_ix (bk_i z)) = .int (bk_i (F (rd + 3) z)) := by
  rw [bi_ix z0 (by omega), bQ_on (Or.inr (Or.inr ⟨rfl, by omega, by omega, by omega⟩)), Int.toNat_of_nonneg z0]
theorem wa_3 (z0 : 0 ≤ z) (z1 : z < 8) : bk_put (bk_Q rd F h) 100 (rd + 3) (bk_ix (bk_i z)) (.int (bk_i v)) = bk_Q rd (bU F (rd + 3) z v) h := by
  rw [bi_ix z0 (by omega), bQ_put (Or.inr (Or.inr ⟨rfl, by omega, by omega, by omega⟩)), Int.toNat_of_nonneg z0]
theorem qa_4 (z0 : 0 ≤ z) (z1 : z < 8) : (bk_Q rd F h).1 100 (rd + 4) (bk_ix (bk_i z)) = .int (bk_i (F (rd + 4) z)) := by
  rw [bi_ix z0 (by omega), bQ_on (Or.inr (Or.inr ⟨rfl, by omega, by omega, by omega⟩)), Int.toNat_of_nonneg z0]
theorem wa_4 (z0 : 0 ≤ z) (z1 : z < 8) : bk_put (bk_Q rd F h) 100 (rd + 4) (bk_ix (bk_i z)) (.int (bk_i v)) = bk_Q rd (bU F (rd + 4) z v) h := by
  rw [bi_ix z0 (by omega), bQ_put (Or.inr (Or.inr ⟨rfl, by omega, by omega, by omega⟩)), Int.toNat_of_nonneg z0]
end QF
