/-! SPECS: the component's trays: reads and writes of rows of numbers; judge, perform -/
set_option maxRecDepth 100000
def gp (g : bG) (t a k : Nat) (v : Value) : bG := fun t' a' k' => if t' = t ∧ a' = a ∧ k' = k then v else g t' a' k'
theorem gp_hit (g : bG) (t a k : Nat) (v : Value) : gp g t a k v t a k = v := if_pos ⟨rfl, rfl, rfl⟩
theorem gp_ne {g : bG} {t a k t' a' k' : Nat} {v : Value} (h : ¬ (t' = t ∧ a' = a ∧ k' = k)) : gp g t a k v t' a' k' = g t' a' k' := if_neg h
theorem so_in (a : Nat) : bk_so a = 0 ∨ bk_so a = 2 ∨ bk_so a = 4 ∨ bk_so a = 100 ∨ bk_so a = 101 ∨ bk_so a = 102 ∨ bk_so a = 104 := by
  unfold bk_so; split <;> decide
theorem so_hi {a : Nat} (ha : 122 ≤ a) : bk_so a = 100 := by
  unfold bk_so; split <;> first | omega | rfl
theorem kd_hi {κ : Nat → Nat} {a k : Nat} (ha : 122 ≤ a) (hk : κ a ≠ 4) : bk_kd κ a k = 0 := by
  unfold bk_kd; split <;> first | omega | exact if_neg hk
section GX
variable {κ κ' : Nat → Nat} {X : bX} {Y : bY} {g g' : bG} {n : Nat × Nat} {t a k : Nat}
theorem gX (h : t ≠ 0 ∧ t ≠ 2 ∧ t ≠ 4 ∧ t ≠ 100 ∧ t ≠ 101 ∧ t ≠ 102 ∧ t ≠ 104) : (bk_M κ X Y g n).1 t a k = g t a k := bM_t (by have := so_in a; omega)
theorem gM (ha : 122 ≤ a) (hk : κ a ≠ 4) : (bk_M κ X Y g n).1 t a k = g t a k := by
  by_cases e : t = bk_so a
  · exact bM_0 (kd_hi ha hk)
  · exact bM_t e
theorem bM_g (h : t = bk_so a → bk_kd κ a k = 0) : (bk_M κ X Y g n).1 t a k = g t a k := by
  by_cases e : t = bk_so a
  · exact bM_0 (h e)
  · exact bM_t e
theorem bP_g (h : t = bk_so a → bk_kd κ a k = 0) (v : Value) : bk_put (bk_M κ X Y g n) t a k v = bk_M κ X Y (gp g t a k v) n := by
  refine bk_put_eq rfl ((bM_g h).trans (gp_hit _ _ _ _ _)) fun t' a' k' c => ?_
  unfold bk_M; dsimp only
  rw [gp_ne c]
theorem pX (h : t ≠ 0 ∧ t ≠ 2 ∧ t ≠ 4 ∧ t ≠ 100 ∧ t ≠ 101 ∧ t ≠ 102 ∧ t ≠ 104) (v : Value) : bk_put (bk_M κ X Y g n) t a k v = bk_M κ X Y (gp g t a k v) n := bP_g (fun e => by have := so_in a; omega) v
theorem pM (ha : 122 ≤ a) (hk : κ a ≠ 4) (v : Value) : bk_put (bk_M κ X Y g n) t a k v = bk_M κ X Y (gp g t a k v) n := bP_g (fun _ => kd_hi ha hk) v
theorem kd_congr (h : ∀ a, κ' a = 4 ↔ κ a = 4) : bk_kd κ' a k = bk_kd κ a k := by
  unfold bk_kd
  have e : (if κ' a = 4 then bk_n k 7 2 else 0) = (if κ a = 4 then bk_n k 7 2 else 0) := by
    by_cases c : κ a = 4
    · rw [if_pos c, if_pos ((h a).mpr c)]
    · rw [if_neg c, if_neg (fun q => c ((h a).mp q))]
  rw [e]
theorem bM_κ (h : ∀ a, κ' a = 4 ↔ κ a = 4) : bk_M κ' X Y g n = bk_M κ X Y g n := by
  unfold bk_M
  have e : ∀ a k, bk_kd κ' a k = bk_kd κ a k := fun a k => kd_congr h
  simp only [e]
end GX
theorem inst_t {h : bk_H} {x a : Nat} {z : Int32} {A B : bk_R} (e : h.1 (a + 100) x 0 = .int z) : bk_inst h x a A B = A := by
  unfold bk_inst; rw [e]
theorem inst_f {h : bk_H} {x a : Nat} {z : Int32} {A B : bk_R} (e : h.1 (a + 100) x 0 = bk_u) (l : ∀ K : Int32 → bk_R, bk_lenOf h x K = K z) : bk_inst h x a A B = B := by
  unfold bk_inst; rw [e, l]; rfl
/-- an array of a sort (0 bytes, 1 shorts, 2 ints, 3 longs), m numbers f -/
def bArr (g : bG) (a : Nat) (s m : Int) (f : Int → Int) : Prop :=
  (s = 0 ∧ g 201 a 0 = .int (bk_i m) ∧ ∀ k, 0 ≤ k → k < m → g 101 a k.toNat = .int (bk_i (f k)) ∧ -128 ≤ f k ∧ f k < 128)
  ∨ (s = 1 ∧ g 201 a 0 = bk_u ∧ g 203 a 0 = .int (bk_i m) ∧ ∀ k, 0 ≤ k → k < m → g 103 a k.toNat = .int (bk_i (f k)) ∧ -32768 ≤ f k ∧ f k < 32768)
  ∨ (s = 2 ∧ g 201 a 0 = bk_u ∧ g 203 a 0 = bk_u ∧ g 200 a 0 = .int (bk_i m) ∧ ∀ k, 0 ≤ k → k < m → g 100 a k.toNat = .int (bk_i (f k)) ∧ -2147483648 ≤ f k ∧ f k < 2147483648)
  ∨ (s = 3 ∧ g 201 a 0 = bk_u ∧ g 203 a 0 = bk_u ∧ g 200 a 0 = bk_u ∧ g 204 a 0 = .int (bk_i m) ∧ ∀ k, 0 ≤ k → k < m → g 104 a k.toNat = .long (bk_l (f k)) ∧ -9223372036854775808 ≤ f k ∧ f k < 9223372036854775808)
theorem i8_32 (x : Int8) : Int8.toInt32 x = bk_i x.toInt := by
  have h1 := Int8.le_toInt x
  have h2 := Int8.toInt_lt x
  apply Int32.toInt_inj.mp
  rw [Int8.toInt_toInt32, bi_to (by omega) (by omega)]
theorem i16_32 (x : Int16) : Int16.toInt32 x = bk_i x.toInt := by
  have h1 := Int16.le_toInt x
  have h2 := Int16.toInt_lt x
  apply Int32.toInt_inj.mp
  rw [Int16.toInt_toInt32, bi_to (by omega) (by omega)]
theorem i8_twice (y : Int32) : Int8.toInt32 (Int32.toInt8 (Int8.toInt32 (Int32.toInt8 y))) = Int8.toInt32 (Int32.toInt8 y) := by
  rw [Int8.toInt8_toInt32]
theorem i16_twice (y : Int32) : Int16.toInt32 (Int32.toInt16 (Int16.toInt32 (Int32.toInt16 y))) = Int16.toInt32 (Int32.toInt16 y) := by
  rw [Int16.toInt16_toInt32]
/-- what is kept of a number -/
def cutV (s v : Int) : Int := if s = 0 then (Int32.toInt8 (bk_i v)).toInt else if s = 1 then (Int32.toInt16 (bk_i v)).toInt else if s = 2 then (bk_i v).toInt else v
theorem cut_0 (v : Int) : Int8.toInt32 (Int32.toInt8 (bk_i v)) = bk_i (cutV 0 v) := i8_32 _
theorem cut_1 (v : Int) : Int16.toInt32 (Int32.toInt16 (bk_i v)) = bk_i (cutV 1 v) := i16_32 _
theorem cut_2 (v : Int) : bk_i v = bk_i (cutV 2 v) := bi_self _
theorem cut_idem0 (v : Int) : cutV 0 (cutV 0 v) = cutV 0 v := by
  show (Int32.toInt8 (bk_i (Int32.toInt8 (bk_i v)).toInt)).toInt = (Int32.toInt8 (bk_i v)).toInt
  rw [← i8_32, Int8.toInt8_toInt32]
theorem cut_idem1 (v : Int) : cutV 1 (cutV 1 v) = cutV 1 v := by
  show (Int32.toInt16 (bk_i (Int32.toInt16 (bk_i v)).toInt)).toInt = (Int32.toInt16 (bk_i v)).toInt
  rw [← i16_32, Int16.toInt16_toInt32]
theorem cut_small {s v : Int} (s0 : 0 ≤ s) (s1 : s ≤ 3) (v0 : 0 ≤ v) (v1 : v < 8) : cutV s v = v := by
  have q : ∀ s : Fin 4, ∀ v : Fin 8, cutV s.val v.val = v.val := by decide +kernel
  have := q ⟨s.toNat, by omega⟩ ⟨v.toNat, by omega⟩
  simp only [Int.toNat_of_nonneg s0, Int.toNat_of_nonneg v0] at this
  exact this
theorem cut_rng (s v : Int) (h1 : -9223372036854775808 ≤ v) (h2 : v < 9223372036854775808) : -9223372036854775808 ≤ cutV s v ∧ cutV s v < 9223372036854775808 ∧ (s = 0 → -128 ≤ cutV s v ∧ cutV s v < 128) ∧ (s = 1 → -32768 ≤ cutV s v ∧ cutV s v < 32768) ∧ (s = 2 → -2147483648 ≤ cutV s v ∧ cutV s v < 2147483648) := by
  have a1 := Int8.le_toInt (Int32.toInt8 (bk_i v))
  have a2 := Int8.toInt_lt (Int32.toInt8 (bk_i v))
  have a3 := Int16.le_toInt (Int32.toInt16 (bk_i v))
  have a4 := Int16.toInt_lt (Int32.toInt16 (bk_i v))
  have a5 := bi_rng (bk_i v)
  unfold cutV
  split
  · omega
  · split
    · omega
    · split <;> omega
theorem lenOf_0 {h : bk_H} {a : Nat} {z : Int32} {K : Int32 → bk_R} (h1 : h.1 201 a 0 = .int z) : bk_lenOf h a K = K z := by
  unfold bk_lenOf; rw [h1]
theorem lenOf_1 {h : bk_H} {a : Nat} {z : Int32} {K : Int32 → bk_R} (h1 : h.1 201 a 0 = bk_u) (h2 : h.1 203 a 0 = .int z) : bk_lenOf h a K = K z := by
  unfold bk_lenOf; rw [h1, h2]; rfl
theorem lenOf_2 {h : bk_H} {a : Nat} {z : Int32} {K : Int32 → bk_R} (h1 : h.1 201 a 0 = bk_u) (h2 : h.1 203 a 0 = bk_u) (h3 : h.1 200 a 0 = .int z) : bk_lenOf h a K = K z := by
  unfold bk_lenOf; rw [h1, h2, h3]; rfl
theorem lenOf_3 {h : bk_H} {a : Nat} {z : Int32} {K : Int32 → bk_R} (h1 : h.1 201 a 0 = bk_u) (h2 : h.1 203 a 0 = bk_u) (h3 : h.1 200 a 0 = bk_u) (h4 : h.1 204 a 0 = .int z) : bk_lenOf h a K = K z := by
  unfold bk_lenOf; rw [h1, h2, h3, h4]; rfl
section AR
variable {κ : Nat → Nat} {cp cs : bF} {cj : bFJ} {X : bX} {Y : bY} {g : bG} {n : Nat × Nat} {a r : Nat} {s m k v : Int} {f : Int → Int} {D : Nat}
theorem arr_len (h : bArr g a s m f) (K : Int32 → bk_R) : bk_lenOf (bk_M κ X Y g n) a K = K (bk_i m) := by
  rcases h with ⟨-, h1, -⟩ | ⟨-, h1, h2, -⟩ | ⟨-, h1, h2, h3, -⟩ | ⟨-, h1, h2, h3, h4, -⟩
  · exact lenOf_0 ((gX (by decide)).trans h1)
  · exact lenOf_1 ((gX (by decide)).trans h1) ((gX (by decide)).trans h2)
  · exact lenOf_2 ((gX (by decide)).trans h1) ((gX (by decide)).trans h2) ((gX (by decide)).trans h3)
  · exact lenOf_3 ((gX (by decide)).trans h1) ((gX (by decide)).trans h2) ((gX (by decide)).trans h3) ((gX (by decide)).trans h4)
theorem s_many (hr : g 3 r 0 = .ref a) (h : bArr g a s m f) (hD : 1 ≤ D) : bk_call D 3001 [.ref r] (bk_M κ X Y g n) = some (some (.int (bk_i m)), bk_M κ X Y g n) := by
  obtain ⟨d, rfl⟩ := dep hD
  have e3 : (bk_M κ X Y g n).1 3 r 0 = .ref a := (gX (by decide)).trans hr
  rw [kX3_many, eX3_many_0]
  rcases h with ⟨-, h1, -⟩ | ⟨-, h1, h2, -⟩ | ⟨-, h1, h2, h3, -⟩ | ⟨-, h1, h2, h3, h4, -⟩
  · have l1 : (bk_M κ X Y g n).1 201 a 0 = .int (bk_i m) := (gX (by decide)).trans h1; have i1 : ∀ A B, bk_inst (bk_M κ X Y g n) a 101 A B = A := fun A B => inst_t l1
    simp (disch := first | assumption | omega) only [e3, i1, l1, bi_add, bi_sub, bi_mul, bi_neg, bi_div, bi_64, bl_add, bl_sub, bl_mul, bl_neg, bl_div, bl_32, bi_min, bi_max, bl_min, bl_max, bq_I, bq_J, bq_A, bq_Vi, bq_Vl, bq_Vr, bq_cV, bq_cI, bq_cJ, bq_cA, bq_le, bq_lt, bq_eq, bq_z, bq_o, bq_ref, bq_nz, bq_nzJ, bq_bl, bq_blz, bq_T, bq_F, if_true, if_false, Int.reduceEq, Int.reduceLT, Int.reduceLE, Int.reduceAdd, Int.reduceSub, Int.reduceMul, Int.add_sub_cancel, li_0, li_1, li_3, li_100, li_101, li_103, li_200, li_201, li_203, li_204, li_3001, ll_0, ll_1, ll_3, ll_100, ll_101, ll_103, ll_200, ll_201, ll_203, ll_204, ga72, ga84, ga85, ga86, ga90, ga92, ga87, ga91, ga88, ga89, gf64_4, gf64_5, gf64_6, gf64_8, gf64_9, gf64_10, gf64_14, gf70_0, gf70_1, gf70_2, gf70_3, gf71_0, gf71_1, gf71_2, gf71_3, gs74_0, gs74_1, gs74_2, gs74_3, gs100_0, gs100_1, gs100_2, gs100_3, gr64_1, gr64_2, gr64_3, gr64_7, gr64_11, gr64_12, gr64_13, gr64_15, gr64_16, gr64_17, gr64_18, gr64_19, gr64_20, gr64_21, gr64_22, gr64_23, gr70_4, gr71_4, gu73, gu99, gu93, pa72, pa84, pa85, pa86, pa90, pa92, pa87, pa91, pa88, pa89, pf64_4, pf64_5, pf64_6, pf64_8, pf64_9, pf64_10, pf64_14, pf70_0, pf70_1, pf70_2, pf70_3, pf71_0, pf71_1, pf71_2, pf71_3, ps74_0, ps74_1, ps74_2, ps74_3, ps100_0, ps100_1, ps100_2, ps100_3, s_in, s_has, s_one, s_roomOf, s_hurtOf, s_isLost, s_standOf, s_isTray, s_isSoon, s_fallen, s_isPassage, s_isRoom, s_isPassage70, s_leads70, s_isBack70, s_isPassage, s_isRoom, s_isPassage71, s_leads71, s_isBack71, s_onec, s_bitCount, s_be7170, s_be7071, u_tens77, kpC_70, s_draw]
  · have l1 : (bk_M κ X Y g n).1 201 a 0 = bk_u := (gX (by decide)).trans h1; have l2 : (bk_M κ X Y g n).1 203 a 0 = .int (bk_i m) := (gX (by decide)).trans h2; have lo : ∀ K : Int32 → bk_R, bk_lenOf (bk_M κ X Y g n) a K = K (bk_i m) := fun K => lenOf_1 l1 l2; have i1 : ∀ A B, bk_inst (bk_M κ X Y g n) a 101 A B = B := fun A B => inst_f l1 lo; have i2 : ∀ A B, bk_inst (bk_M κ X Y g n) a 103 A B = A := fun A B => inst_t l2
    simp (disch := first | assumption | omega) only [e3, i1, i2, l2, bi_add, bi_sub, bi_mul, bi_neg, bi_div, bi_64, bl_add, bl_sub, bl_mul, bl_neg, bl_div, bl_32, bi_min, bi_max, bl_min, bl_max, bq_I, bq_J, bq_A, bq_Vi, bq_Vl, bq_Vr, bq_cV, bq_cI, bq_cJ, bq_cA, bq_le, bq_lt, bq_eq, bq_z, bq_o, bq_ref, bq_nz, bq_nzJ, bq_bl, bq_blz, bq_T, bq_F, if_true, if_false, Int.reduceEq, Int.reduceLT, Int.reduceLE, Int.reduceAdd, Int.reduceSub, Int.reduceMul, Int.add_sub_cancel, li_0, li_1, li_3, li_100, li_101, li_103, li_200, li_201, li_203, li_204, li_3001, ll_0, ll_1, ll_3, ll_100, ll_101, ll_103, ll_200, ll_201, ll_203, ll_204, ga72, ga84, ga85, ga86, ga90, ga92, ga87, ga91, ga88, ga89, gf64_4, gf64_5, gf64_6, gf64_8, gf64_9, gf64_10, gf64_14, gf70_0, gf70_1, gf70_2, gf70_3, gf71_0, gf71_1, gf71_2, gf71_3, gs74_0, gs74_1, gs74_2, gs74_3, gs100_0, gs100_1, gs100_2, gs100_3, gr64_1, gr64_2, gr64_3, gr64_7, gr64_11, gr64_12, gr64_13, gr64_15, gr64_16, gr64_17, gr64_18, gr64_19, gr64_20, gr64_21, gr64_22, gr64_23, gr70_4, gr71_4, gu73, gu99, gu93, pa72, pa84, pa85, pa86, pa90, pa92, pa87, pa91, pa88, pa89, pf64_4, pf64_5, pf64_6, pf64_8, pf64_9, pf64_10, pf64_14, pf70_0, pf70_1, pf70_2, pf70_3, pf71_0, pf71_1, pf71_2, pf71_3, ps74_0, ps74_1, ps74_2, ps74_3, ps100_0, ps100_1, ps100_2, ps100_3, s_in, s_has, s_one, s_roomOf, s_hurtOf, s_isLost, s_standOf, s_isTray, s_isSoon, s_fallen, s_isPassage, s_isRoom, s_isPassage70, s_leads70, s_isBack70, s_isPassage, s_isRoom, s_isPassage71, s_leads71, s_isBack71, s_onec, s_bitCount, s_be7170, s_be7071, u_tens77, kpC_70, s_draw]
  · have l1 : (bk_M κ X Y g n).1 201 a 0 = bk_u := (gX (by decide)).trans h1; have l2 : (bk_M κ X Y g n).1 203 a 0 = bk_u := (gX (by decide)).trans h2; have l3 : (bk_M κ X Y g n).1 200 a 0 = .int (bk_i m) := (gX (by decide)).trans h3; have lo : ∀ K : Int32 → bk_R, bk_lenOf (bk_M κ X Y g n) a K = K (bk_i m) := fun K => lenOf_2 l1 l2 l3; have i1 : ∀ A B, bk_inst (bk_M κ X Y g n) a 101 A B = B := fun A B => inst_f l1 lo; have i2 : ∀ A B, bk_inst (bk_M κ X Y g n) a 103 A B = B := fun A B => inst_f l2 lo; have i3 : ∀ A B, bk_inst (bk_M κ X Y g n) a 100 A B = A := fun A B => inst_t l3
    simp (disch := first | assumption | omega) only [e3, i1, i2, i3, l3, bi_add, bi_sub, bi_mul, bi_neg, bi_div, bi_64, bl_add, bl_sub, bl_mul, bl_neg, bl_div, bl_32, bi_min, bi_max, bl_min, bl_max, bq_I, bq_J, bq_A, bq_Vi, bq_Vl, bq_Vr, bq_cV, bq_cI, bq_cJ, bq_cA, bq_le, bq_lt, bq_eq, bq_z, bq_o, bq_ref, bq_nz, bq_nzJ, bq_bl, bq_blz, bq_T, bq_F, if_true, if_false, Int.reduceEq, Int.reduceLT, Int.reduceLE, Int.reduceAdd, Int.reduceSub, Int.reduceMul, Int.add_sub_cancel, li_0, li_1, li_3, li_100, li_101, li_103, li_200, li_201, li_203, li_204, li_3001, ll_0, ll_1, ll_3, ll_100, ll_101, ll_103, ll_200, ll_201, ll_203, ll_204, ga72, ga84, ga85, ga86, ga90, ga92, ga87, ga91, ga88, ga89, gf64_4, gf64_5, gf64_6, gf64_8, gf64_9, gf64_10, gf64_14, gf70_0, gf70_1, gf70_2, gf70_3, gf71_0, gf71_1, gf71_2, gf71_3, gs74_0, gs74_1, gs74_2, gs74_3, gs100_0, gs100_1, gs100_2, gs100_3, gr64_1, gr64_2, gr64_3, gr64_7, gr64_11, gr64_12, gr64_13, gr64_15, gr64_16, gr64_17, gr64_18, gr64_19, gr64_20, gr64_21, gr64_22, gr64_23, gr70_4, gr71_4, gu73, gu99, gu93, pa72, pa84, pa85, pa86, pa90, pa92, pa87, pa91, pa88, pa89, pf64_4, pf64_5, pf64_6, pf64_8, pf64_9, pf64_10, pf64_14, pf70_0, pf70_1, pf70_2, pf70_3, pf71_0, pf71_1, pf71_2, pf71_3, ps74_0, ps74_1, ps74_2, ps74_3, ps100_0, ps100_1, ps100_2, ps100_3, s_in, s_has, s_one, s_roomOf, s_hurtOf, s_isLost, s_standOf, s_isTray, s_isSoon, s_fallen, s_isPassage, s_isRoom, s_isPassage70, s_leads70, s_isBack70, s_isPassage, s_isRoom, s_isPassage71, s_leads71, s_isBack71, s_onec, s_bitCount, s_be7170, s_be7071, u_tens77, kpC_70, s_draw]
  · have l1 : (bk_M κ X Y g n).1 201 a 0 = bk_u := (gX (by decide)).trans h1; have l2 : (bk_M κ X Y g n).1 203 a 0 = bk_u := (gX (by decide)).trans h2; have l3 : (bk_M κ X Y g n).1 200 a 0 = bk_u := (gX (by decide)).trans h3; have l4 : (bk_M κ X Y g n).1 204 a 0 = .int (bk_i m) := (gX (by decide)).trans h4; have lo : ∀ K : Int32 → bk_R, bk_lenOf (bk_M κ X Y g n) a K = K (bk_i m) := fun K => lenOf_3 l1 l2 l3 l4; have i1 : ∀ A B, bk_inst (bk_M κ X Y g n) a 101 A B = B := fun A B => inst_f l1 lo; have i2 : ∀ A B, bk_inst (bk_M κ X Y g n) a 103 A B = B := fun A B => inst_f l2 lo; have i3 : ∀ A B, bk_inst (bk_M κ X Y g n) a 100 A B = B := fun A B => inst_f l3 lo
    simp (disch := first | assumption | omega) only [e3, i1, i2, i3, l4, bi_add, bi_sub, bi_mul, bi_neg, bi_div, bi_64, bl_add, bl_sub, bl_mul, bl_neg, bl_div, bl_32, bi_min, bi_max, bl_min, bl_max, bq_I, bq_J, bq_A, bq_Vi, bq_Vl, bq_Vr, bq_cV, bq_cI, bq_cJ, bq_cA, bq_le, bq_lt, bq_eq, bq_z, bq_o, bq_ref, bq_nz, bq_nzJ, bq_bl, bq_blz, bq_T, bq_F, if_true, if_false, Int.reduceEq, Int.reduceLT, Int.reduceLE, Int.reduceAdd, Int.reduceSub, Int.reduceMul, Int.add_sub_cancel, li_0, li_1, li_3, li_100, li_101, li_103, li_200, li_201, li_203, li_204, li_3001, ll_0, ll_1, ll_3, ll_100, ll_101, ll_103, ll_200, ll_201, ll_203, ll_204, ga72, ga84, ga85, ga86, ga90, ga92, ga87, ga91, ga88, ga89, gf64_4, gf64_5, gf64_6, gf64_8, gf64_9, gf64_10, gf64_14, gf70_0, gf70_1, gf70_2, gf70_3, gf71_0, gf71_1, gf71_2, gf71_3, gs74_0, gs74_1, gs74_2, gs74_3, gs100_0, gs100_1, gs100_2, gs100_3, gr64_1, gr64_2, gr64_3, gr64_7, gr64_11, gr64_12, gr64_13, gr64_15, gr64_16, gr64_17, gr64_18, gr64_19, gr64_20, gr64_21, gr64_22, gr64_23, gr70_4, gr71_4, gu73, gu99, gu93, pa72, pa84, pa85, pa86, pa90, pa92, pa87, pa91, pa88, pa89, pf64_4, pf64_5, pf64_6, pf64_8, pf64_9, pf64_10, pf64_14, pf70_0, pf70_1, pf70_2, pf70_3, pf71_0, pf71_1, pf71_2, pf71_3, ps74_0, ps74_1, ps74_2, ps74_3, ps100_0, ps100_1, ps100_2, ps100_3, s_in, s_has, s_one, s_roomOf, s_hurtOf, s_isLost, s_standOf, s_isTray, s_isSoon, s_fallen, s_isPassage, s_isRoom, s_isPassage70, s_leads70, s_isBack70, s_isPassage, s_isRoom, s_isPassage71, s_leads71, s_isBack71, s_onec, s_bitCount, s_be7170, s_be7071, u_tens77, kpC_70, s_draw]
theorem s_number (ha : 122 ≤ a) (hk : κ a ≠ 4) (hr : g 3 r 0 = .ref a) (h : bArr g a s m f) (k0 : 0 ≤ k) (k1 : k < m) (k2 : k < 4000) (hD : 1 ≤ D) : bk_call D 3002 [.ref r, .int (bk_i k)] (bk_M κ X Y g n) = some (some (.long (bk_l (f k))), bk_M κ X Y g n) := by
  obtain ⟨d, rfl⟩ := dep hD
  have e3 : (bk_M κ X Y g n).1 3 r 0 = .ref a := (gX (by decide)).trans hr
  have er : ∀ t, (bk_M κ X Y g n).1 t a (bk_ix (bk_i k)) = g t a k.toNat := fun t => by rw [bi_ix k0 (by omega), gM ha hk]
  rw [kX3_number, eX3_number_0]
  rcases h with ⟨-, h1, hc⟩ | ⟨-, h1, h2, hc⟩ | ⟨-, h1, h2, h3, hc⟩ | ⟨-, h1, h2, h3, h4, hc⟩
  · obtain ⟨c0, c1, c2⟩ := hc k k0 k1
    have l1 : (bk_M κ X Y g n).1 201 a 0 = .int (bk_i m) := (gX (by decide)).trans h1; have i1 : ∀ A B, bk_inst (bk_M κ X Y g n) a 101 A B = A := fun A B => inst_t l1
    simp (disch := first | assumption | omega) only [e3, i1, l1, er, c0, bi_add, bi_sub, bi_mul, bi_neg, bi_div, bi_64, bl_add, bl_sub, bl_mul, bl_neg, bl_div, bl_32, bi_min, bi_max, bl_min, bl_max, bq_I, bq_J, bq_A, bq_Vi, bq_Vl, bq_Vr, bq_cV, bq_cI, bq_cJ, bq_cA, bq_le, bq_lt, bq_eq, bq_z, bq_o, bq_ref, bq_nz, bq_nzJ, bq_bl, bq_blz, bq_T, bq_F, if_true, if_false, Int.reduceEq, Int.reduceLT, Int.reduceLE, Int.reduceAdd, Int.reduceSub, Int.reduceMul, Int.add_sub_cancel, li_0, li_1, li_3, li_100, li_101, li_103, li_104, li_200, li_201, li_203, li_204, li_3002, ll_0, ll_1, ll_3, ll_100, ll_101, ll_103, ll_104, ll_200, ll_201, ll_203, ll_204, ga72, ga84, ga85, ga86, ga90, ga92, ga87, ga91, ga88, ga89, gf64_4, gf64_5, gf64_6, gf64_8, gf64_9, gf64_10, gf64_14, gf70_0, gf70_1, gf70_2, gf70_3, gf71_0, gf71_1, gf71_2, gf71_3, gs74_0, gs74_1, gs74_2, gs74_3, gs100_0, gs100_1, gs100_2, gs100_3, gr64_1, gr64_2, gr64_3, gr64_7, gr64_11, gr64_12, gr64_13, gr64_15, gr64_16, gr64_17, gr64_18, gr64_19, gr64_20, gr64_21, gr64_22, gr64_23, gr70_4, gr71_4, gu73, gu99, gu93, pa72, pa84, pa85, pa86, pa90, pa92, pa87, pa91, pa88, pa89, pf64_4, pf64_5, pf64_6, pf64_8, pf64_9, pf64_10, pf64_14, pf70_0, pf70_1, pf70_2, pf70_3, pf71_0, pf71_1, pf71_2, pf71_3, ps74_0, ps74_1, ps74_2, ps74_3, ps100_0, ps100_1, ps100_2, ps100_3, s_in, s_has, s_one, s_roomOf, s_hurtOf, s_isLost, s_standOf, s_isTray, s_isSoon, s_fallen, s_isPassage, s_isRoom, s_isPassage70, s_leads70, s_isBack70, s_isPassage, s_isRoom, s_isPassage71, s_leads71, s_isBack71, s_onec, s_bitCount, s_be7170, s_be7071, u_tens77, kpC_70, s_draw]
  · obtain ⟨c0, c1, c2⟩ := hc k k0 k1
    have l1 : (bk_M κ X Y g n).1 201 a 0 = bk_u := (gX (by decide)).trans h1; have l2 : (bk_M κ X Y g n).1 203 a 0 = .int (bk_i m) := (gX (by decide)).trans h2; have lo : ∀ K : Int32 → bk_R, bk_lenOf (bk_M κ X Y g n) a K = K (bk_i m) := fun K => lenOf_1 l1 l2; have i1 : ∀ A B, bk_inst (bk_M κ X Y g n) a 101 A B = B := fun A B => inst_f l1 lo; have i2 : ∀ A B, bk_inst (bk_M κ X Y g n) a 103 A B = A := fun A B => inst_t l2
    simp (disch := first | assumption | omega) only [e3, i1, i2, l2, er, c0, bi_add, bi_sub, bi_mul, bi_neg, bi_div, bi_64, bl_add, bl_sub, bl_mul, bl_neg, bl_div, bl_32, bi_min, bi_max, bl_min, bl_max, bq_I, bq_J, bq_A, bq_Vi, bq_Vl, bq_Vr, bq_cV, bq_cI, bq_cJ, bq_cA, bq_le, bq_lt, bq_eq, bq_z, bq_o, bq_ref, bq_nz, bq_nzJ, bq_bl, bq_blz, bq_T, bq_F, if_true, if_false, Int.reduceEq, Int.reduceLT, Int.reduceLE, Int.reduceAdd, Int.reduceSub, Int.reduceMul, Int.add_sub_cancel, li_0, li_1, li_3, li_100, li_101, li_103, li_104, li_200, li_201, li_203, li_204, li_3002, ll_0, ll_1, ll_3, ll_100, ll_101, ll_103, ll_104, ll_200, ll_201, ll_203, ll_204, ga72, ga84, ga85, ga86, ga90, ga92, ga87, ga91, ga88, ga89, gf64_4, gf64_5, gf64_6, gf64_8, gf64_9, gf64_10, gf64_14, gf70_0, gf70_1, gf70_2, gf70_3, gf71_0, gf71_1, gf71_2, gf71_3, gs74_0, gs74_1, gs74_2, gs74_3, gs100_0, gs100_1, gs100_2, gs100_3, gr64_1, gr64_2, gr64_3, gr64_7, gr64_11, gr64_12, gr64_13, gr64_15, gr64_16, gr64_17, gr64_18, gr64_19, gr64_20, gr64_21, gr64_22, gr64_23, gr70_4, gr71_4, gu73, gu99, gu93, pa72, pa84, pa85, pa86, pa90, pa92, pa87, pa91, pa88, pa89, pf64_4, pf64_5, pf64_6, pf64_8, pf64_9, pf64_10, pf64_14, pf70_0, pf70_1, pf70_2, pf70_3, pf71_0, pf71_1, pf71_2, pf71_3, ps74_0, ps74_1, ps74_2, ps74_3, ps100_0, ps100_1, ps100_2, ps100_3, s_in, s_has, s_one, s_roomOf, s_hurtOf, s_isLost, s_standOf, s_isTray, s_isSoon, s_fallen, s_isPassage, s_isRoom, s_isPassage70, s_leads70, s_isBack70, s_isPassage, s_isRoom, s_isPassage71, s_leads71, s_isBack71, s_onec, s_bitCount, s_be7170, s_be7071, u_tens77, kpC_70, s_draw]
  · obtain ⟨c0, c1, c2⟩ := hc k k0 k1
    have l1 : (bk_M κ X Y g n).1 201 a 0 = bk_u := (gX (by decide)).trans h1; have l2 : (bk_M κ X Y g n).1 203 a 0 = bk_u := (gX (by decide)).trans h2; have l3 : (bk_M κ X Y g n).1 200 a 0 = .int (bk_i m) := (gX (by decide)).trans h3; have lo : ∀ K : Int32 → bk_R, bk_lenOf (bk_M κ X Y g n) a K = K (bk_i m) := fun K => lenOf_2 l1 l2 l3; have i1 : ∀ A B, bk_inst (bk_M κ X Y g n) a 101 A B = B := fun A B => inst_f l1 lo; have i2 : ∀ A B, bk_inst (bk_M κ X Y g n) a 103 A B = B := fun A B => inst_f l2 lo; have i3 : ∀ A B, bk_inst (bk_M κ X Y g n) a 100 A B = A := fun A B => inst_t l3
    simp (disch := first | assumption | omega) only [e3, i1, i2, i3, l3, er, c0, bi_add, bi_sub, bi_mul, bi_neg, bi_div, bi_64, bl_add, bl_sub, bl_mul, bl_neg, bl_div, bl_32, bi_min, bi_max, bl_min, bl_max, bq_I, bq_J, bq_A, bq_Vi, bq_Vl, bq_Vr, bq_cV, bq_cI, bq_cJ, bq_cA, bq_le, bq_lt, bq_eq, bq_z, bq_o, bq_ref, bq_nz, bq_nzJ, bq_bl, bq_blz, bq_T, bq_F, if_true, if_false, Int.reduceEq, Int.reduceLT, Int.reduceLE, Int.reduceAdd, Int.reduceSub, Int.reduceMul, Int.add_sub_cancel, li_0, li_1, li_3, li_100, li_101, li_103, li_104, li_200, li_201, li_203, li_204, li_3002, ll_0, ll_1, ll_3, ll_100, ll_101, ll_103, ll_104, ll_200, ll_201, ll_203, ll_204, ga72, ga84, ga85, ga86, ga90, ga92, ga87, ga91, ga88, ga89, gf64_4, gf64_5, gf64_6, gf64_8, gf64_9, gf64_10, gf64_14, gf70_0, gf70_1, gf70_2, gf70_3, gf71_0, gf71_1, gf71_2, gf71_3, gs74_0, gs74_1, gs74_2, gs74_3, gs100_0, gs100_1, gs100_2, gs100_3, gr64_1, gr64_2, gr64_3, gr64_7, gr64_11, gr64_12, gr64_13, gr64_15, gr64_16, gr64_17, gr64_18, gr64_19, gr64_20, gr64_21, gr64_22, gr64_23, gr70_4, gr71_4, gu73, gu99, gu93, pa72, pa84, pa85, pa86, pa90, pa92, pa87, pa91, pa88, pa89, pf64_4, pf64_5, pf64_6, pf64_8, pf64_9, pf64_10, pf64_14, pf70_0, pf70_1, pf70_2, pf70_3, pf71_0, pf71_1, pf71_2, pf71_3, ps74_0, ps74_1, ps74_2, ps74_3, ps100_0, ps100_1, ps100_2, ps100_3, s_in, s_has, s_one, s_roomOf, s_hurtOf, s_isLost, s_standOf, s_isTray, s_isSoon, s_fallen, s_isPassage, s_isRoom, s_isPassage70, s_leads70, s_isBack70, s_isPassage, s_isRoom, s_isPassage71, s_leads71, s_isBack71, s_onec, s_bitCount, s_be7170, s_be7071, u_tens77, kpC_70, s_draw]
  · obtain ⟨c0, c1, c2⟩ := hc k k0 k1
    have l1 : (bk_M κ X Y g n).1 201 a 0 = bk_u := (gX (by decide)).trans h1; have l2 : (bk_M κ X Y g n).1 203 a 0 = bk_u := (gX (by decide)).trans h2; have l3 : (bk_M κ X Y g n).1 200 a 0 = bk_u := (gX (by decide)).trans h3; have l4 : (bk_M κ X Y g n).1 204 a 0 = .int (bk_i m) := (gX (by decide)).trans h4; have lo : ∀ K : Int32 → bk_R, bk_lenOf (bk_M κ X Y g n) a K = K (bk_i m) := fun K => lenOf_3 l1 l2 l3 l4; have i1 : ∀ A B, bk_inst (bk_M κ X Y g n) a 101 A B = B := fun A B => inst_f l1 lo; have i2 : ∀ A B, bk_inst (bk_M κ X Y g n) a 103 A B = B := fun A B => inst_f l2 lo; have i3 : ∀ A B, bk_inst (bk_M κ X Y g n) a 100 A B = B := fun A B => inst_f l3 lo
    simp (disch := first | assumption | omega) only [e3, i1, i2, i3, l4, er, c0, bi_add, bi_sub, bi_mul, bi_neg, bi_div, bi_64, bl_add, bl_sub, bl_mul, bl_neg, bl_div, bl_32, bi_min, bi_max, bl_min, bl_max, bq_I, bq_J, bq_A, bq_Vi, bq_Vl, bq_Vr, bq_cV, bq_cI, bq_cJ, bq_cA, bq_le, bq_lt, bq_eq, bq_z, bq_o, bq_ref, bq_nz, bq_nzJ, bq_bl, bq_blz, bq_T, bq_F, if_true, if_false, Int.reduceEq, Int.reduceLT, Int.reduceLE, Int.reduceAdd, Int.reduceSub, Int.reduceMul, Int.add_sub_cancel, li_0, li_1, li_3, li_100, li_101, li_103, li_104, li_200, li_201, li_203, li_204, li_3002, ll_0, ll_1, ll_3, ll_100, ll_101, ll_103, ll_104, ll_200, ll_201, ll_203, ll_204, ga72, ga84, ga85, ga86, ga90, ga92, ga87, ga91, ga88, ga89, gf64_4, gf64_5, gf64_6, gf64_8, gf64_9, gf64_10, gf64_14, gf70_0, gf70_1, gf70_2, gf70_3, gf71_0, gf71_1, gf71_2, gf71_3, gs74_0, gs74_1, gs74_2, gs74_3, gs100_0, gs100_1, gs100_2, gs100_3, gr64_1, gr64_2, gr64_3, gr64_7, gr64_11, gr64_12, gr64_13, gr64_15, gr64_16, gr64_17, gr64_18, gr64_19, gr64_20, gr64_21, gr64_22, gr64_23, gr70_4, gr71_4, gu73, gu99, gu93, pa72, pa84, pa85, pa86, pa90, pa92, pa87, pa91, pa88, pa89, pf64_4, pf64_5, pf64_6, pf64_8, pf64_9, pf64_10, pf64_14, pf70_0, pf70_1, pf70_2, pf70_3, pf71_0, pf71_1, pf71_2, pf71_3, ps74_0, ps74_1, ps74_2, ps74_3, ps100_0, ps100_1, ps100_2, ps100_3, s_in, s_has, s_one, s_roomOf, s_hurtOf, s_isLost, s_standOf, s_isTray, s_isSoon, s_fallen, s_isPassage, s_isRoom, s_isPassage70, s_leads70, s_isBack70, s_isPassage, s_isRoom, s_isPassage71, s_leads71, s_isBack71, s_onec, s_bitCount, s_be7170, s_be7071, u_tens77, kpC_70, s_draw]
/-- a number written in an array -/
def gW (g : bG) (a : Nat) (s k v : Int) : bG := if s = 0 then gp g 101 a k.toNat (.int (bk_i v)) else if s = 1 then gp g 103 a k.toNat (.int (bk_i v)) else if s = 2 then gp g 100 a k.toNat (.int (bk_i v)) else gp g 104 a k.toNat (.long (bk_l v))
theorem s_puts (ha : 122 ≤ a) (hk : κ a ≠ 4) (hr : g 3 r 0 = .ref a) (h : bArr g a s m f) (k0 : 0 ≤ k) (k1 : k < m) (k2 : k < 4000) (hD : 1 ≤ D) : bk_call D 3004 [.ref r, .int (bk_i k), .long (bk_l v)] (bk_M κ X Y g n) = some (none, bk_M κ X Y (gW g a s k (cutV s v)) n) := by
  obtain ⟨d, rfl⟩ := dep hD
  have e3 : (bk_M κ X Y g n).1 3 r 0 = .ref a := (gX (by decide)).trans hr
  have er : ∀ t, (bk_M κ X Y g n).1 t a (bk_ix (bk_i k)) = g t a k.toNat := fun t => by rw [bi_ix k0 (by omega), gM ha hk]
  have ew : ∀ t w, bk_put (bk_M κ X Y g n) t a (bk_ix (bk_i k)) w = bk_M κ X Y (gp g t a k.toNat w) n := fun t w => by rw [bi_ix k0 (by omega), pM ha hk]
  rw [kX3_puts, eX3_puts_0]
  unfold gW
  rcases h with ⟨rfl, h1, hc⟩ | ⟨rfl, h1, h2, hc⟩ | ⟨rfl, h1, h2, h3, hc⟩ | ⟨rfl, h1, h2, h3, h4, hc⟩
  · obtain ⟨c0, c1, c2⟩ := hc k k0 k1
    have l1 : (bk_M κ X Y g n).1 201 a 0 = .int (bk_i m) := (gX (by decide)).trans h1; have i1 : ∀ A B, bk_inst (bk_M κ X Y g n) a 101 A B = A := fun A B => inst_t l1
    simp (disch := first | assumption | omega) only [e3, i1, l1, er, c0, ew, cut_0, cut_idem0, bi_add, bi_sub, bi_mul, bi_neg, bi_div, bi_64, bl_add, bl_sub, bl_mul, bl_neg, bl_div, bl_32, bi_min, bi_max, bl_min, bl_max, bq_I, bq_J, bq_A, bq_Vi, bq_Vl, bq_Vr, bq_cV, bq_cI, bq_cJ, bq_cA, bq_le, bq_lt, bq_eq, bq_z, bq_o, bq_ref, bq_nz, bq_nzJ, bq_bl, bq_blz, bq_T, bq_F, if_true, if_false, Int.reduceEq, Int.reduceLT, Int.reduceLE, Int.reduceAdd, Int.reduceSub, Int.reduceMul, Int.add_sub_cancel, li_0, li_1, li_3, li_100, li_101, li_103, li_104, li_200, li_201, li_203, li_204, li_3004, ll_0, ll_1, ll_3, ll_100, ll_101, ll_103, ll_104, ll_200, ll_201, ll_203, ll_204, ga72, ga84, ga85, ga86, ga90, ga92, ga87, ga91, ga88, ga89, gf64_4, gf64_5, gf64_6, gf64_8, gf64_9, gf64_10, gf64_14, gf70_0, gf70_1, gf70_2, gf70_3, gf71_0, gf71_1, gf71_2, gf71_3, gs74_0, gs74_1, gs74_2, gs74_3, gs100_0, gs100_1, gs100_2, gs100_3, gr64_1, gr64_2, gr64_3, gr64_7, gr64_11, gr64_12, gr64_13, gr64_15, gr64_16, gr64_17, gr64_18, gr64_19, gr64_20, gr64_21, gr64_22, gr64_23, gr70_4, gr71_4, gu73, gu99, gu93, pa72, pa84, pa85, pa86, pa90, pa92, pa87, pa91, pa88, pa89, pf64_4, pf64_5, pf64_6, pf64_8, pf64_9, pf64_10, pf64_14, pf70_0, pf70_1, pf70_2, pf70_3, pf71_0, pf71_1, pf71_2, pf71_3, ps74_0, ps74_1, ps74_2, ps74_3, ps100_0, ps100_1, ps100_2, ps100_3, s_in, s_has, s_one, s_roomOf, s_hurtOf, s_isLost, s_standOf, s_isTray, s_isSoon, s_fallen, s_isPassage, s_isRoom, s_isPassage70, s_leads70, s_isBack70, s_isPassage, s_isRoom, s_isPassage71, s_leads71, s_isBack71, s_onec, s_bitCount, s_be7170, s_be7071, u_tens77, kpC_70, s_draw]
  · obtain ⟨c0, c1, c2⟩ := hc k k0 k1
    have l1 : (bk_M κ X Y g n).1 201 a 0 = bk_u := (gX (by decide)).trans h1; have l2 : (bk_M κ X Y g n).1 203 a 0 = .int (bk_i m) := (gX (by decide)).trans h2; have lo : ∀ K : Int32 → bk_R, bk_lenOf (bk_M κ X Y g n) a K = K (bk_i m) := fun K => lenOf_1 l1 l2; have i1 : ∀ A B, bk_inst (bk_M κ X Y g n) a 101 A B = B := fun A B => inst_f l1 lo; have i2 : ∀ A B, bk_inst (bk_M κ X Y g n) a 103 A B = A := fun A B => inst_t l2
    simp (disch := first | assumption | omega) only [e3, i1, i2, l2, er, c0, ew, cut_1, cut_idem1, bi_add, bi_sub, bi_mul, bi_neg, bi_div, bi_64, bl_add, bl_sub, bl_mul, bl_neg, bl_div, bl_32, bi_min, bi_max, bl_min, bl_max, bq_I, bq_J, bq_A, bq_Vi, bq_Vl, bq_Vr, bq_cV, bq_cI, bq_cJ, bq_cA, bq_le, bq_lt, bq_eq, bq_z, bq_o, bq_ref, bq_nz, bq_nzJ, bq_bl, bq_blz, bq_T, bq_F, if_true, if_false, Int.reduceEq, Int.reduceLT, Int.reduceLE, Int.reduceAdd, Int.reduceSub, Int.reduceMul, Int.add_sub_cancel, li_0, li_1, li_3, li_100, li_101, li_103, li_104, li_200, li_201, li_203, li_204, li_3004, ll_0, ll_1, ll_3, ll_100, ll_101, ll_103, ll_104, ll_200, ll_201, ll_203, ll_204, ga72, ga84, ga85, ga86, ga90, ga92, ga87, ga91, ga88, ga89, gf64_4, gf64_5, gf64_6, gf64_8, gf64_9, gf64_10, gf64_14, gf70_0, gf70_1, gf70_2, gf70_3, gf71_0, gf71_1, gf71_2, gf71_3, gs74_0, gs74_1, gs74_2, gs74_3, gs100_0, gs100_1, gs100_2, gs100_3, gr64_1, gr64_2, gr64_3, gr64_7, gr64_11, gr64_12, gr64_13, gr64_15, gr64_16, gr64_17, gr64_18, gr64_19, gr64_20, gr64_21, gr64_22, gr64_23, gr70_4, gr71_4, gu73, gu99, gu93, pa72, pa84, pa85, pa86, pa90, pa92, pa87, pa91, pa88, pa89, pf64_4, pf64_5, pf64_6, pf64_8, pf64_9, pf64_10, pf64_14, pf70_0, pf70_1, pf70_2, pf70_3, pf71_0, pf71_1, pf71_2, pf71_3, ps74_0, ps74_1, ps74_2, ps74_3, ps100_0, ps100_1, ps100_2, ps100_3, s_in, s_has, s_one, s_roomOf, s_hurtOf, s_isLost, s_standOf, s_isTray, s_isSoon, s_fallen, s_isPassage, s_isRoom, s_isPassage70, s_leads70, s_isBack70, s_isPassage, s_isRoom, s_isPassage71, s_leads71, s_isBack71, s_onec, s_bitCount, s_be7170, s_be7071, u_tens77, kpC_70, s_draw]
  · obtain ⟨c0, c1, c2⟩ := hc k k0 k1
    have e2 := cut_2 v
    have l1 : (bk_M κ X Y g n).1 201 a 0 = bk_u := (gX (by decide)).trans h1; have l2 : (bk_M κ X Y g n).1 203 a 0 = bk_u := (gX (by decide)).trans h2; have l3 : (bk_M κ X Y g n).1 200 a 0 = .int (bk_i m) := (gX (by decide)).trans h3; have lo : ∀ K : Int32 → bk_R, bk_lenOf (bk_M κ X Y g n) a K = K (bk_i m) := fun K => lenOf_2 l1 l2 l3; have i1 : ∀ A B, bk_inst (bk_M κ X Y g n) a 101 A B = B := fun A B => inst_f l1 lo; have i2 : ∀ A B, bk_inst (bk_M κ X Y g n) a 103 A B = B := fun A B => inst_f l2 lo; have i3 : ∀ A B, bk_inst (bk_M κ X Y g n) a 100 A B = A := fun A B => inst_t l3
    simp (disch := first | assumption | omega) only [e3, i1, i2, i3, l3, er, c0, ew, bi_add, bi_sub, bi_mul, bi_neg, bi_div, bi_64, bl_add, bl_sub, bl_mul, bl_neg, bl_div, bl_32, bi_min, bi_max, bl_min, bl_max, bq_I, bq_J, bq_A, bq_Vi, bq_Vl, bq_Vr, bq_cV, bq_cI, bq_cJ, bq_cA, bq_le, bq_lt, bq_eq, bq_z, bq_o, bq_ref, bq_nz, bq_nzJ, bq_bl, bq_blz, bq_T, bq_F, if_true, if_false, Int.reduceEq, Int.reduceLT, Int.reduceLE, Int.reduceAdd, Int.reduceSub, Int.reduceMul, Int.add_sub_cancel, li_0, li_1, li_3, li_100, li_101, li_103, li_104, li_200, li_201, li_203, li_204, li_3004, ll_0, ll_1, ll_3, ll_100, ll_101, ll_103, ll_104, ll_200, ll_201, ll_203, ll_204, ga72, ga84, ga85, ga86, ga90, ga92, ga87, ga91, ga88, ga89, gf64_4, gf64_5, gf64_6, gf64_8, gf64_9, gf64_10, gf64_14, gf70_0, gf70_1, gf70_2, gf70_3, gf71_0, gf71_1, gf71_2, gf71_3, gs74_0, gs74_1, gs74_2, gs74_3, gs100_0, gs100_1, gs100_2, gs100_3, gr64_1, gr64_2, gr64_3, gr64_7, gr64_11, gr64_12, gr64_13, gr64_15, gr64_16, gr64_17, gr64_18, gr64_19, gr64_20, gr64_21, gr64_22, gr64_23, gr70_4, gr71_4, gu73, gu99, gu93, pa72, pa84, pa85, pa86, pa90, pa92, pa87, pa91, pa88, pa89, pf64_4, pf64_5, pf64_6, pf64_8, pf64_9, pf64_10, pf64_14, pf70_0, pf70_1, pf70_2, pf70_3, pf71_0, pf71_1, pf71_2, pf71_3, ps74_0, ps74_1, ps74_2, ps74_3, ps100_0, ps100_1, ps100_2, ps100_3, s_in, s_has, s_one, s_roomOf, s_hurtOf, s_isLost, s_standOf, s_isTray, s_isSoon, s_fallen, s_isPassage, s_isRoom, s_isPassage70, s_leads70, s_isBack70, s_isPassage, s_isRoom, s_isPassage71, s_leads71, s_isBack71, s_onec, s_bitCount, s_be7170, s_be7071, u_tens77, kpC_70, s_draw]
    rw [← e2]
  · obtain ⟨c0, c1, c2⟩ := hc k k0 k1
    have e2 : cutV 3 v = v := rfl
    have l1 : (bk_M κ X Y g n).1 201 a 0 = bk_u := (gX (by decide)).trans h1; have l2 : (bk_M κ X Y g n).1 203 a 0 = bk_u := (gX (by decide)).trans h2; have l3 : (bk_M κ X Y g n).1 200 a 0 = bk_u := (gX (by decide)).trans h3; have l4 : (bk_M κ X Y g n).1 204 a 0 = .int (bk_i m) := (gX (by decide)).trans h4; have lo : ∀ K : Int32 → bk_R, bk_lenOf (bk_M κ X Y g n) a K = K (bk_i m) := fun K => lenOf_3 l1 l2 l3 l4; have i1 : ∀ A B, bk_inst (bk_M κ X Y g n) a 101 A B = B := fun A B => inst_f l1 lo; have i2 : ∀ A B, bk_inst (bk_M κ X Y g n) a 103 A B = B := fun A B => inst_f l2 lo; have i3 : ∀ A B, bk_inst (bk_M κ X Y g n) a 100 A B = B := fun A B => inst_f l3 lo
    simp (disch := first | assumption | omega) only [e3, i1, i2, i3, l4, er, c0, ew, e2, bi_add, bi_sub, bi_mul, bi_neg, bi_div, bi_64, bl_add, bl_sub, bl_mul, bl_neg, bl_div, bl_32, bi_min, bi_max, bl_min, bl_max, bq_I, bq_J, bq_A, bq_Vi, bq_Vl, bq_Vr, bq_cV, bq_cI, bq_cJ, bq_cA, bq_le, bq_lt, bq_eq, bq_z, bq_o, bq_ref, bq_nz, bq_nzJ, bq_bl, bq_blz, bq_T, bq_F, if_true, if_false, Int.reduceEq, Int.reduceLT, Int.reduceLE, Int.reduceAdd, Int.reduceSub, Int.reduceMul, Int.add_sub_cancel, li_0, li_1, li_3, li_100, li_101, li_103, li_104, li_200, li_201, li_203, li_204, li_3004, ll_0, ll_1, ll_3, ll_100, ll_101, ll_103, ll_104, ll_200, ll_201, ll_203, ll_204, ga72, ga84, ga85, ga86, ga90, ga92, ga87, ga91, ga88, ga89, gf64_4, gf64_5, gf64_6, gf64_8, gf64_9, gf64_10, gf64_14, gf70_0, gf70_1, gf70_2, gf70_3, gf71_0, gf71_1, gf71_2, gf71_3, gs74_0, gs74_1, gs74_2, gs74_3, gs100_0, gs100_1, gs100_2, gs100_3, gr64_1, gr64_2, gr64_3, gr64_7, gr64_11, gr64_12, gr64_13, gr64_15, gr64_16, gr64_17, gr64_18, gr64_19, gr64_20, gr64_21, gr64_22, gr64_23, gr70_4, gr71_4, gu73, gu99, gu93, pa72, pa84, pa85, pa86, pa90, pa92, pa87, pa91, pa88, pa89, pf64_4, pf64_5, pf64_6, pf64_8, pf64_9, pf64_10, pf64_14, pf70_0, pf70_1, pf70_2, pf70_3, pf71_0, pf71_1, pf71_2, pf71_3, ps74_0, ps74_1, ps74_2, ps74_3, ps100_0, ps100_1, ps100_2, ps100_3, s_in, s_has, s_one, s_roomOf, s_hurtOf, s_isLost, s_standOf, s_isTray, s_isSoon, s_fallen, s_isPassage, s_isRoom, s_isPassage70, s_leads70, s_isBack70, s_isPassage, s_isRoom, s_isPassage71, s_leads71, s_isBack71, s_onec, s_bitCount, s_be7170, s_be7071, u_tens77, kpC_70, s_draw]
theorem gW_ne {t' a' k' : Nat} (h : ¬ (a' = a ∧ 100 ≤ t' ∧ t' < 105)) : gW g a s k v t' a' k' = g t' a' k' := by
  unfold gW
  split
  · exact gp_ne (by omega)
  · split
    · exact gp_ne (by omega)
    · split <;> exact gp_ne (by omega)
theorem gW_arr (h : bArr g a s m f) (k0 : 0 ≤ k) (h1 : -9223372036854775808 ≤ v) (h2 : v < 9223372036854775808) : bArr (gW g a s k (cutV s v)) a s m (fun j => if j = k then cutV s v else f j) := by
  have cr := cut_rng s v h1 h2
  have st : ∀ t j (w : Value), gp g t a k.toNat w t a j = if j = k.toNat then w else g t a j := fun t j w => by
    unfold gp
    by_cases c : j = k.toNat
    · rw [if_pos ⟨rfl, rfl, c⟩, if_pos c]
    · rw [if_neg (fun q => c q.2.2), if_neg c]
  have lt : ∀ t', 200 ≤ t' → gW g a s k (cutV s v) t' a 0 = g t' a 0 := fun t' q => gW_ne (by omega)
  unfold bArr
  rw [lt 201 (by decide), lt 203 (by decide), lt 200 (by decide), lt 204 (by decide)]
  unfold gW
  rcases h with ⟨rfl, h1, hc⟩ | ⟨rfl, h1, h2, hc⟩ | ⟨rfl, h1, h2, h3, hc⟩ | ⟨rfl, h1, h2, h3, h4, hc⟩
  · refine Or.inl ⟨rfl, h1, fun j j0 j1 => ?_⟩
    rw [if_pos rfl, st]
    dsimp only
    by_cases c : j = k
    · rw [if_pos (by omega), if_pos c]; exact ⟨rfl, cr.2.2.1 rfl⟩
    · rw [if_neg (by omega), if_neg c]; exact hc j j0 j1
  · refine Or.inr (Or.inl ⟨rfl, h1, h2, fun j j0 j1 => ?_⟩)
    rw [if_neg (by decide), if_pos rfl, st]
    dsimp only
    by_cases c : j = k
    · rw [if_pos (by omega), if_pos c]; exact ⟨rfl, cr.2.2.2.1 rfl⟩
    · rw [if_neg (by omega), if_neg c]; exact hc j j0 j1
  · refine Or.inr (Or.inr (Or.inl ⟨rfl, h1, h2, h3, fun j j0 j1 => ?_⟩))
    rw [if_neg (by decide), if_neg (by decide), if_pos rfl, st]
    dsimp only
    by_cases c : j = k
    · rw [if_pos (by omega), if_pos c]; exact ⟨rfl, cr.2.2.2.2 rfl⟩
    · rw [if_neg (by omega), if_neg c]; exact hc j j0 j1
  · refine Or.inr (Or.inr (Or.inr ⟨rfl, h1, h2, h3, h4, fun j j0 j1 => ?_⟩))
    rw [if_neg (by decide), if_neg (by decide), if_neg (by decide), st]
    dsimp only
    by_cases c : j = k
    · rw [if_pos (by omega), if_pos c]; exact ⟨rfl, cr.1, cr.2.1⟩
    · rw [if_neg (by omega), if_neg c]; exact hc j j0 j1
end AR
