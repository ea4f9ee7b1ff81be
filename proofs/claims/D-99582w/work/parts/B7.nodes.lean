/-! SPECS: the component's parser: trees are made; words -/
set_option maxRecDepth 100000
def gN (g : bG) (c x : Nat) (fs : List Value) : bG := fun t a k => if t = c ∧ a = x ∧ k < fs.length then bk_get fs k else g t a k
theorem bM_new {κ : Nat → Nat} {X : bX} {Y : bY} {g : bG} {n : Nat × Nat} {c : Nat} (h : c ≠ 0 ∧ c ≠ 2 ∧ c ≠ 4 ∧ c ≠ 100 ∧ c ≠ 101 ∧ c ≠ 102 ∧ c ≠ 104) (fs : List Value) : bk_new (bk_M κ X Y g n) c fs = bk_M κ X Y (gN g c n.1 fs) (n.1 + 1, n.2 + fs.length) := by
  apply Prod.ext
  · funext t a k
    show (if t = c ∧ a = n.1 ∧ k < fs.length then bk_get fs k else (bk_M κ X Y g n).1 t a k) = (bk_M κ X Y (gN g c n.1 fs) (n.1 + 1, n.2 + fs.length)).1 t a k
    by_cases q : t = c ∧ a = n.1 ∧ k < fs.length
    · rw [if_pos q, bM_t (by have := so_in a; omega)]
      unfold gN
      rw [if_pos q]
    · rw [if_neg q]
      unfold bk_M gN
      dsimp only
      rw [if_neg q]
  · rfl
theorem dspS_14 {h : bk_H} {x y : Nat} {K : Nat → bk_R} (e : h.1 14 x 0 = .ref y) : bk_dspS h x K = K 14001 := by
  unfold bk_dspS; rw [e]
theorem dspS_13 {h : bk_H} {x : Nat} {z : Int32} {K : Nat → bk_R} (e1 : h.1 14 x 0 = bk_u) (e : h.1 13 x 0 = .int z) : bk_dspS h x K = K 13001 := by
  unfold bk_dspS; rw [e1, e]; rfl
theorem dspS_12 {h : bk_H} {x : Nat} {z : Int32} {K : Nat → bk_R} (e1 : h.1 14 x 0 = bk_u) (e2 : h.1 13 x 0 = bk_u) (e : h.1 12 x 0 = .int z) : bk_dspS h x K = K 12001 := by
  unfold bk_dspS; rw [e1, e2, e]; rfl
theorem dspS_11 {h : bk_H} {x y : Nat} {K : Nat → bk_R} (e1 : h.1 14 x 0 = bk_u) (e2 : h.1 13 x 0 = bk_u) (e3 : h.1 12 x 0 = bk_u) (e : h.1 11 x 0 = .ref y) : bk_dspS h x K = K 11001 := by
  unfold bk_dspS; rw [e1, e2, e3, e]; rfl
theorem dspT_8 {h : bk_H} {x y : Nat} {K : Nat → bk_R} (e : h.1 8 x 0 = .ref y) : bk_dspT h x K = K 8001 := by
  unfold bk_dspT; rw [e]
theorem dspT_9 {h : bk_H} {x y : Nat} {K : Nat → bk_R} (e1 : h.1 8 x 0 = bk_u) (e : h.1 9 x 0 = .ref y) : bk_dspT h x K = K 9001 := by
  unfold bk_dspT; rw [e1, e]; rfl
theorem dspT_7 {h : bk_H} {x y : Nat} {K : Nat → bk_R} (e1 : h.1 8 x 0 = bk_u) (e2 : h.1 9 x 0 = bk_u) (e : h.1 7 x 0 = .ref y) : bk_dspT h x K = K 7001 := by
  unfold bk_dspT; rw [e1, e2, e]; rfl
section ND
variable {κ : Nat → Nat} {X : bX} {Y : bY} {g : bG} {n : Nat × Nat} {rd x y u w : Nat} {F : bF} {v sg : Int} {D : Nat}
/-- a node's cells, read through all that lies over -/
theorem gQ {t a k : Nat} (h : t ≠ 0 ∧ t ≠ 1 ∧ t ≠ 2 ∧ t ≠ 4 ∧ t ≠ 5 ∧ t < 100) : (bk_Q rd F (bk_M κ X Y g n)).1 t a k = g t a k := by
  rw [bQ_off (by omega), gX (by omega)]
theorem pQ {t a k : Nat} (h : t ≠ 0 ∧ t ≠ 1 ∧ t ≠ 2 ∧ t ≠ 4 ∧ t ≠ 5 ∧ t < 100) (z : Value) : bk_put (bk_Q rd F (bk_M κ X Y g n)) t a k z = bk_Q rd F (bk_M κ X Y (gp g t a k z) n) := by
  rw [bQ_pof (by omega), pX (by omega)]
theorem nQ {c : Nat} (h : c ≠ 0 ∧ c ≠ 1 ∧ c ≠ 2 ∧ c ≠ 4 ∧ c ≠ 5 ∧ c < 100) (hr : rd + 6 ≤ n.1) (fs : List Value) : bk_new (bk_Q rd F (bk_M κ X Y g n)) c fs = bk_Q rd F (bk_M κ X Y (gN g c n.1 fs) (n.1 + 1, n.2 + fs.length)) := by
  rw [bQ_new hr, bM_new (by omega)]
theorem q_10000 (h : ∀ K : Nat → bk_R, ∃ m, bk_dspS (bk_Q rd F (bk_M κ X Y g n)) x K = K m) (hD : 1 ≤ D) : bk_call D 10000 [.ref x] (bk_Q rd F (bk_M κ X Y g n)) = some (none, bk_Q rd F (bk_M κ X Y g n)) := by
  obtain ⟨d, rfl⟩ := dep hD
  rw [kX10_init, eX10_init_0]
  show bk_dspS (bk_Q rd F (bk_M κ X Y g n)) x (fun _ => some (none, bk_Q rd F (bk_M κ X Y g n))) = _
  obtain ⟨m, e⟩ := h fun _ => some (none, bk_Q rd F (bk_M κ X Y g n))
  rw [e]
theorem q_6000 (h : ∀ K : Nat → bk_R, ∃ m, bk_dspT (bk_Q rd F (bk_M κ X Y g n)) x K = K m) (hD : 1 ≤ D) : bk_call D 6000 [.ref x] (bk_Q rd F (bk_M κ X Y g n)) = some (none, bk_Q rd F (bk_M κ X Y g n)) := by
  obtain ⟨d, rfl⟩ := dep hD
  rw [kX6_init, eX6_init_0]
  show bk_dspT (bk_Q rd F (bk_M κ X Y g n)) x (fun _ => some (none, bk_Q rd F (bk_M κ X Y g n))) = _
  obtain ⟨m, e⟩ := h fun _ => some (none, bk_Q rd F (bk_M κ X Y g n))
  rw [e]
/-- an object of class c has been made at x, no more -/
def isN1 (g : bG) (c x : Nat) (fs : List Value) : Prop := (∀ t k, t ≠ c → g t x k = bk_u) ∧ ∀ k, k < fs.length → g c x k = bk_get fs k
theorem q_plain (h : isN1 g 13 x (bk_fields 13)) (hD : 2 ≤ D) : bk_call D 13000 [.ref x, .int (bk_i v)] (bk_Q rd F (bk_M κ X Y g n)) = some (none, bk_Q rd F (bk_M κ X Y (gp g 13 x 0 (.int (bk_i v))) n)) := by
  obtain ⟨d, rfl⟩ := dep hD
  obtain ⟨hu, hf⟩ := h
  have f0 : ∀ n, (bk_Q rd F (bk_M κ X Y g n)).1 13 x 0 = .int 0 := fun n => (gQ (by decide)).trans (hf 0 (by decide))
  have e1 := q_10000 (κ := κ) (X := X) (Y := Y) (g := g) (n := n) (rd := rd) (F := F) (x := x) (D := d) (fun K => ⟨13001, dspS_13 ((gQ (by decide)).trans (hu 14 0 (by decide))) (f0 n)⟩) (by omega)
  rw [kX13_init, eX13_init_0, f0]
  show bk_cV (bk_call d 10000 [.ref x] (bk_Q rd F (bk_M κ X Y g n))) _ = _
  rw [e1, bq_cV, f0, bq_I, pQ (by decide)]
theorem q_known (h : isN1 g 12 x (bk_fields 12)) (hD : 2 ≤ D) : bk_call D 12000 [.ref x, .int (bk_i v)] (bk_Q rd F (bk_M κ X Y g n)) = some (none, bk_Q rd F (bk_M κ X Y (gp g 12 x 0 (.int (bk_i v))) n)) := by
  obtain ⟨d, rfl⟩ := dep hD
  obtain ⟨hu, hf⟩ := h
  have f0 : ∀ n, (bk_Q rd F (bk_M κ X Y g n)).1 12 x 0 = .int 0 := fun n => (gQ (by decide)).trans (hf 0 (by decide))
  have e1 := q_10000 (κ := κ) (X := X) (Y := Y) (g := g) (n := n) (rd := rd) (F := F) (x := x) (D := d) (fun K => ⟨12001, dspS_12 ((gQ (by decide)).trans (hu 14 0 (by decide))) ((gQ (by decide)).trans (hu 13 0 (by decide))) (f0 n)⟩) (by omega)
  rw [kX12_init, eX12_init_0, f0]
  show bk_cV (bk_call d 10000 [.ref x] (bk_Q rd F (bk_M κ X Y g n))) _ = _
  rw [e1, bq_cV, f0, bq_I, pQ (by decide)]
/-- three cells of an object -/
def g3 (g : bG) (c x : Nat) (a b d : Value) : bG := fun t a' k => if t = c ∧ a' = x ∧ k = 0 then a else if t = c ∧ a' = x ∧ k = 1 then b else if t = c ∧ a' = x ∧ k = 2 then d else g t a' k
theorem g3_of {c : Nat} {a b d : Value} : gp (gp (gp g c x 0 a) c x 2 d) c x 1 b = g3 g c x a b d := by
  funext t a' k
  unfold gp g3
  by_cases q : t = c ∧ a' = x
  · obtain ⟨rfl, rfl⟩ := q
    by_cases k0 : k = 0
    · subst k0; simp
    · by_cases k1 : k = 1
      · subst k1; simp
      · by_cases k2 : k = 2
        · subst k2; simp
        · simp [k0, k1, k2]
  · rw [if_neg (fun w => q ⟨w.1, w.2.1⟩), if_neg (fun w => q ⟨w.1, w.2.1⟩), if_neg (fun w => q ⟨w.1, w.2.1⟩), if_neg (fun w => q ⟨w.1, w.2.1⟩), if_neg (fun w => q ⟨w.1, w.2.1⟩), if_neg (fun w => q ⟨w.1, w.2.1⟩)]
theorem g3_of2 {c : Nat} {a b d : Value} : gp (gp (gp g c x 0 a) c x 1 b) c x 2 d = g3 g c x a b d := by
  funext t a' k
  unfold gp g3
  by_cases q : t = c ∧ a' = x
  · obtain ⟨rfl, rfl⟩ := q
    by_cases k0 : k = 0
    · subst k0; simp
    · by_cases k1 : k = 1
      · subst k1; simp
      · by_cases k2 : k = 2
        · subst k2; simp
        · simp [k0, k1, k2]
  · rw [if_neg (fun w => q ⟨w.1, w.2.1⟩), if_neg (fun w => q ⟨w.1, w.2.1⟩), if_neg (fun w => q ⟨w.1, w.2.1⟩), if_neg (fun w => q ⟨w.1, w.2.1⟩), if_neg (fun w => q ⟨w.1, w.2.1⟩), if_neg (fun w => q ⟨w.1, w.2.1⟩)]
theorem gp_k {c k k' : Nat} {a : Value} (h : k' ≠ k) : gp g c x k a c x k' = g c x k' := gp_ne (fun w => h w.2.2)
theorem q_pair (h : isN1 g 14 x (bk_fields 14)) (hD : 2 ≤ D) : bk_call D 14000 [.ref x, .ref y, .int (bk_i sg), .ref u] (bk_Q rd F (bk_M κ X Y g n)) = some (none, bk_Q rd F (bk_M κ X Y (g3 g 14 x (.ref y) (.ref u) (.int (bk_i sg))) n)) := by
  obtain ⟨d, rfl⟩ := dep hD
  obtain ⟨hu, hf⟩ := h
  have f0 : ∀ n, (bk_Q rd F (bk_M κ X Y g n)).1 14 x 0 = .ref 0 := fun n => (gQ (by decide)).trans (hf 0 (by decide))
  have f1 : g 14 x 1 = .ref 0 := hf 1 (by decide)
  have f2 : g 14 x 2 = .int 0 := hf 2 (by decide)
  have e1 := q_10000 (κ := κ) (X := X) (Y := Y) (g := g) (n := n) (rd := rd) (F := F) (x := x) (D := d) (fun K => ⟨14001, dspS_14 (f0 n)⟩) (by omega)
  rw [kX14_init, eX14_init_0, f0]
  show bk_cV (bk_call d 10000 [.ref x] (bk_Q rd F (bk_M κ X Y g n))) _ = _
  rw [e1, bq_cV, f0, bq_A, pQ (by decide), gQ (by decide), gp_k (by decide), f2, bq_I, pQ (by decide), gQ (by decide), gp_k (by decide), gp_k (by decide), f1, bq_A, pQ (by decide), g3_of]
theorem q_comp (h : isN1 g 8 x (bk_fields 8)) (hD : 2 ≤ D) : bk_call D 8000 [.ref x, .ref y, .int (bk_i sg), .ref u] (bk_Q rd F (bk_M κ X Y g n)) = some (none, bk_Q rd F (bk_M κ X Y (g3 g 8 x (.ref y) (.ref u) (.int (bk_i sg))) n)) := by
  obtain ⟨d, rfl⟩ := dep hD
  obtain ⟨hu, hf⟩ := h
  have f0 : ∀ n, (bk_Q rd F (bk_M κ X Y g n)).1 8 x 0 = .ref 0 := fun n => (gQ (by decide)).trans (hf 0 (by decide))
  have f1 : g 8 x 1 = .ref 0 := hf 1 (by decide)
  have f2 : g 8 x 2 = .int 0 := hf 2 (by decide)
  have e1 := q_6000 (κ := κ) (X := X) (Y := Y) (g := g) (n := n) (rd := rd) (F := F) (x := x) (D := d) (fun K => ⟨8001, dspT_8 (f0 n)⟩) (by omega)
  rw [kX8_init, eX8_init_0, f0]
  show bk_cV (bk_call d 6000 [.ref x] (bk_Q rd F (bk_M κ X Y g n))) _ = _
  rw [e1, bq_cV, f0, bq_A, pQ (by decide), gQ (by decide), gp_k (by decide), f2, bq_I, pQ (by decide), gQ (by decide), gp_k (by decide), gp_k (by decide), f1, bq_A, pQ (by decide), g3_of]
theorem q_bothN (h : isN1 g 9 x (bk_fields 9)) (hs : sg = 0 ∨ sg = 1) (hD : 2 ≤ D) : bk_call D 9000 [.ref x, .ref y, .int (bk_i sg), .ref u] (bk_Q rd F (bk_M κ X Y g n)) = some (none, bk_Q rd F (bk_M κ X Y (g3 g 9 x (.ref y) (.ref u) (.int (bk_i sg))) n)) := by
  obtain ⟨d, rfl⟩ := dep hD
  obtain ⟨hu, hf⟩ := h
  have f0 : ∀ n, (bk_Q rd F (bk_M κ X Y g n)).1 9 x 0 = .ref 0 := fun n => (gQ (by decide)).trans (hf 0 (by decide))
  have f1 : g 9 x 1 = .ref 0 := hf 1 (by decide)
  have f2 : g 9 x 2 = .int 0 := hf 2 (by decide)
  have e1 := q_6000 (κ := κ) (X := X) (Y := Y) (g := g) (n := n) (rd := rd) (F := F) (x := x) (D := d) (fun K => ⟨9001, dspT_9 ((gQ (by decide)).trans (hu 8 0 (by decide))) (f0 n)⟩) (by omega)
  have hb : ∀ A : bk_R, bk_bl (bk_i sg) A = A := fun A => bq_bl hs
  rw [kX9_init, eX9_init_0, f0]
  show bk_cV (bk_call d 6000 [.ref x] (bk_Q rd F (bk_M κ X Y g n))) _ = _
  rw [e1, bq_cV, f0, bq_A, hb, pQ (by decide), gQ (by decide), gp_k (by decide), f2, bq_I, pQ (by decide), gQ (by decide), gp_k (by decide), gp_k (by decide), f1, bq_A, pQ (by decide), g3_of]
theorem q_ifN (h : isN1 g 11 x (bk_fields 11)) (hD : 2 ≤ D) : bk_call D 11000 [.ref x, .ref y, .ref u, .ref w] (bk_Q rd F (bk_M κ X Y g n)) = some (none, bk_Q rd F (bk_M κ X Y (g3 g 11 x (.ref y) (.ref u) (.ref w)) n)) := by
  obtain ⟨d, rfl⟩ := dep hD
  obtain ⟨hu, hf⟩ := h
  have f0 : ∀ n, (bk_Q rd F (bk_M κ X Y g n)).1 11 x 0 = .ref 0 := fun n => (gQ (by decide)).trans (hf 0 (by decide))
  have f1 : g 11 x 1 = .ref 0 := hf 1 (by decide)
  have f2 : g 11 x 2 = .ref 0 := hf 2 (by decide)
  have e1 := q_10000 (κ := κ) (X := X) (Y := Y) (g := g) (n := n) (rd := rd) (F := F) (x := x) (D := d) (fun K => ⟨11001, dspS_11 ((gQ (by decide)).trans (hu 14 0 (by decide))) ((gQ (by decide)).trans (hu 13 0 (by decide))) ((gQ (by decide)).trans (hu 12 0 (by decide))) (f0 n)⟩) (by omega)
  rw [kX11_init, eX11_init_0, f0]
  show bk_cV (bk_call d 10000 [.ref x] (bk_Q rd F (bk_M κ X Y g n))) _ = _
  rw [e1, bq_cV, f0, bq_A, pQ (by decide), gQ (by decide), gp_k (by decide), f1, bq_A, pQ (by decide), gQ (by decide), gp_k (by decide), gp_k (by decide), f2, bq_A, pQ (by decide), g3_of2]
theorem q_notN (h : isN1 g 7 x (bk_fields 7)) (hD : 2 ≤ D) : bk_call D 7000 [.ref x, .ref y] (bk_Q rd F (bk_M κ X Y g n)) = some (none, bk_Q rd F (bk_M κ X Y (gp g 7 x 0 (.ref y)) n)) := by
  obtain ⟨d, rfl⟩ := dep hD
  obtain ⟨hu, hf⟩ := h
  have f0 : ∀ n, (bk_Q rd F (bk_M κ X Y g n)).1 7 x 0 = .ref 0 := fun n => (gQ (by decide)).trans (hf 0 (by decide))
  have e1 := q_6000 (κ := κ) (X := X) (Y := Y) (g := g) (n := n) (rd := rd) (F := F) (x := x) (D := d) (fun K => ⟨7001, dspT_7 ((gQ (by decide)).trans (hu 8 0 (by decide))) ((gQ (by decide)).trans (hu 9 0 (by decide))) (f0 n)⟩) (by omega)
  rw [kX7_init, eX7_init_0, f0]
  show bk_cV (bk_call d 6000 [.ref x] (bk_Q rd F (bk_M κ X Y g n))) _ = _
  rw [e1, bq_cV, f0, bq_A, pQ (by decide)]
end ND
section WD
variable {κ : Nat → Nat} {cp cs : bF} {cj : bFJ} {Y : bY} {g : bG} {n : Nat × Nat} {rd : Nat} {F : bF} {b σ : Int → Int} {sz may : Int} {D : Nat}
theorem q_takesN {i v : Nat} {kk : Int} (h : bPw cp g n rd b sz) (hz : F rd 0 = sz) (hl : cLx F rd σ) (ok : okL b sz σ) (hk : kOf i kk) (hv : v = 2 + i) (hn : ¬ (σ 4 = 0 ∧ σ 2 = kk)) (hD : 9 ≤ D) :
    bk_call D 5007 [.ref rd, .ref v] (bk_Q rd F (bk_M κ (cp, cs, cj) Y g n)) = some (some (.int (bk_i 0)), bk_Q rd F (bk_M κ (cp, cs, cj) Y g n)) := by
  obtain ⟨d, rfl⟩ := dep hD
  have e1 := q_is (κ := κ) (cs := cs) (cj := cj) (Y := Y) (D := d) h hz hl ok hk hv (by omega)
  rw [bz_f hn] at e1
  rw [kX5_takes, eX5_takes_0]
  simp (disch := first | assumption | omega) only [e1, bi_add, bi_sub, bi_mul, bi_neg, bi_div, bi_64, bl_add, bl_sub, bl_mul, bl_neg, bl_div, bl_32, bi_min, bi_max, bl_min, bl_max, bq_I, bq_J, bq_A, bq_Vi, bq_Vl, bq_Vr, bq_cV, bq_cI, bq_cJ, bq_cA, bq_le, bq_lt, bq_eq, bq_z, bq_o, bq_ref, bq_nz, bq_nzJ, bq_bl, bq_blz, bq_T, bq_F, if_true, if_false, Int.reduceEq, Int.reduceLT, Int.reduceLE, Int.reduceAdd, Int.reduceSub, Int.reduceMul, Int.add_sub_cancel, li_0, li_1, li_5, ll_0, ll_1, ll_5, q5_0, w5_0, q5_2, w5_2, q5_3, w5_3, q5_4, w5_4, q5_5, w5_5, q5_6, w5_6, q5_7, w5_7, q5_8, w5_8, q5_9, w5_9, q1_4, w1_4, q1_5, w1_5, q1_6, w1_6, q1_7, w1_7, q1_8, w1_8, q1_9, w1_9, q1_10, w1_10, q1_11, w1_11, q1_12, w1_12, qa_2, wa_2, qa_3, wa_3, qa_4, wa_4, bU_same, bU_ne, s_in]
theorem q_takesY {i v : Nat} {kk : Int} (h : bPw cp g n rd b sz) (hz : F rd 0 = sz) (hl : cLx F rd σ) (ok : okL b sz σ) (hk : kOf i kk) (hv : v = 2 + i) (hn : σ 4 = 0 ∧ σ 2 = kk) (hD : 9 ≤ D) :
    ∃ F', frF rd F F' ∧ cLx F' rd (nextM b sz σ) ∧ bk_call D 5007 [.ref rd, .ref v] (bk_Q rd F (bk_M κ (cp, cs, cj) Y g n)) = some (some (.int (bk_i 1)), bk_Q rd F' (bk_M κ (cp, cs, cj) Y g n)) := by
  obtain ⟨F', f, c, e⟩ := q_takes (κ := κ) (cs := cs) (cj := cj) (Y := Y) h hz hl ok hk hv hD
  rw [bz_t hn] at e
  unfold takM at c
  rw [if_pos hn] at c
  exact ⟨F', f, c, e⟩
theorem kO2 : kOf 2 0 := by unfold kOf; decide +kernel
theorem kO3 : kOf 3 1 := by unfold kOf; decide +kernel
theorem kO4 : kOf 4 2 := by unfold kOf; decide +kernel
theorem kO5 : kOf 5 6 := by unfold kOf; decide +kernel
theorem kO6 : kOf 6 8 := by unfold kOf; decide +kernel
theorem kO7 : kOf 7 9 := by unfold kOf; decide +kernel
theorem kO8 : kOf 8 10 := by unfold kOf; decide +kernel
theorem kO9 : kOf 9 11 := by unfold kOf; decide +kernel
theorem kO10 : kOf 10 3 := by unfold kOf; decide +kernel
theorem kO11 : kOf 11 4 := by unfold kOf; decide +kernel
theorem kO12 : kOf 12 5 := by unfold kOf; decide +kernel
theorem kO13 : kOf 13 7 := by unfold kOf; decide +kernel
theorem kO14 : kOf 14 12 := by unfold kOf; decide +kernel
theorem kO15 : kOf 15 13 := by unfold kOf; decide +kernel
theorem kO16 : kOf 16 14 := by unfold kOf; decide +kernel
theorem kO17 : kOf 17 15 := by unfold kOf; decide +kernel
theorem kO18 : kOf 18 19 := by unfold kOf; decide +kernel
theorem kO19 : kOf 19 18 := by unfold kOf; decide +kernel
theorem kO20 : kOf 20 20 := by unfold kOf; decide +kernel
theorem kO21 : kOf 21 16 := by unfold kOf; decide +kernel
theorem kO22 : kOf 22 17 := by unfold kOf; decide +kernel
/-- a word of a law: taken, if it is one -/
theorem q_word (h : bPw cp g n rd b sz) (hz : F rd 0 = sz) (hl : cLx F rd σ) (ok : okL b sz σ) (hm : F rd 9 = may) (m0 : may = 0 ∨ may = 1) (hD : 10 ≤ D) :
    (σ 4 = 0 ∧ wdM (σ 2) may ≠ -1 ∧ ∃ F', frF rd F F' ∧ cLx F' rd (nextM b sz σ) ∧ bk_call D 5028 [.ref rd] (bk_Q rd F (bk_M κ (cp, cs, cj) Y g n)) = some (some (.int (bk_i (wdM (σ 2) may))), bk_Q rd F' (bk_M κ (cp, cs, cj) Y g n)))
    ∨ (¬ (σ 4 = 0 ∧ wdM (σ 2) may ≠ -1) ∧ bk_call D 5028 [.ref rd] (bk_Q rd F (bk_M κ (cp, cs, cj) Y g n)) = some (some (.int (bk_i (-1))), bk_Q rd F (bk_M κ (cp, cs, cj) Y g n))) := by
  obtain ⟨d, rfl⟩ := dep hD
  have nn := fun (i v : Nat) (kk : Int) (hk : kOf i kk) (hv : v = 2 + i) (hn : ¬ (σ 4 = 0 ∧ σ 2 = kk)) => q_takesN (κ := κ) (cs := cs) (cj := cj) (Y := Y) (D := d) h hz hl ok hk hv hn (by omega)
  have yy := fun (i v : Nat) (kk : Int) (hk : kOf i kk) (hv : v = 2 + i) (hn : σ 4 = 0 ∧ σ 2 = kk) => q_takesY (κ := κ) (cs := cs) (cj := cj) (Y := Y) (D := d) h hz hl ok hk hv hn (by omega)
  rw [kX5_word, eX5_word_0]
  by_cases c2 : σ 4 = 0 ∧ σ 2 = 2
  · obtain ⟨F', f, c, e⟩ := yy 4 6 2 kO4 rfl c2
    have w : wdM (σ 2) may = 0 := by unfold wdM; rw [if_pos c2.2]
    rw [w]
    refine Or.inl ⟨c2.1, by decide, F', f, c, ?_⟩
    simp (disch := first | assumption | omega) only [e, bi_add, bi_sub, bi_mul, bi_neg, bi_div, bi_64, bl_add, bl_sub, bl_mul, bl_neg, bl_div, bl_32, bi_min, bi_max, bl_min, bl_max, bq_I, bq_J, bq_A, bq_Vi, bq_Vl, bq_Vr, bq_cV, bq_cI, bq_cJ, bq_cA, bq_le, bq_lt, bq_eq, bq_z, bq_o, bq_ref, bq_nz, bq_nzJ, bq_bl, bq_blz, bq_T, bq_F, if_true, if_false, Int.reduceEq, Int.reduceLT, Int.reduceLE, Int.reduceAdd, Int.reduceSub, Int.reduceMul, Int.add_sub_cancel, li_0, li_1, li_2, li_3, li_4, li_5, li_6, li_8, li_9, li_12, li_14, li_15, li_23, li_24, ll_0, ll_1, ll_2, ll_3, ll_4, ll_5, ll_6, ll_8, ll_9, ll_12, ll_14, ll_15, ll_23, ll_24, q5_0, w5_0, q5_2, w5_2, q5_3, w5_3, q5_4, w5_4, q5_5, w5_5, q5_6, w5_6, q5_7, w5_7, q5_8, w5_8, q5_9, w5_9, q1_4, w1_4, q1_5, w1_5, q1_6, w1_6, q1_7, w1_7, q1_8, w1_8, q1_9, w1_9, q1_10, w1_10, q1_11, w1_11, q1_12, w1_12, qa_2, wa_2, qa_3, wa_3, qa_4, wa_4, bU_same, bU_ne, s_in]
  · have n2 := nn 4 6 2 kO4 rfl c2
    by_cases c3 : σ 4 = 0 ∧ σ 2 = 3
    · obtain ⟨F', f, c, e⟩ := yy 10 12 3 kO10 rfl c3
      have w : wdM (σ 2) may = 1 := by rw [c3.2]; rfl
      rw [w]
      refine Or.inl ⟨c3.1, by decide, F', f, c, ?_⟩
      simp (disch := first | assumption | omega) only [n2, e, bi_add, bi_sub, bi_mul, bi_neg, bi_div, bi_64, bl_add, bl_sub, bl_mul, bl_neg, bl_div, bl_32, bi_min, bi_max, bl_min, bl_max, bq_I, bq_J, bq_A, bq_Vi, bq_Vl, bq_Vr, bq_cV, bq_cI, bq_cJ, bq_cA, bq_le, bq_lt, bq_eq, bq_z, bq_o, bq_ref, bq_nz, bq_nzJ, bq_bl, bq_blz, bq_T, bq_F, if_true, if_false, Int.reduceEq, Int.reduceLT, Int.reduceLE, Int.reduceAdd, Int.reduceSub, Int.reduceMul, Int.add_sub_cancel, li_0, li_1, li_2, li_3, li_4, li_5, li_6, li_8, li_9, li_12, li_14, li_15, li_23, li_24, ll_0, ll_1, ll_2, ll_3, ll_4, ll_5, ll_6, ll_8, ll_9, ll_12, ll_14, ll_15, ll_23, ll_24, q5_0, w5_0, q5_2, w5_2, q5_3, w5_3, q5_4, w5_4, q5_5, w5_5, q5_6, w5_6, q5_7, w5_7, q5_8, w5_8, q5_9, w5_9, q1_4, w1_4, q1_5, w1_5, q1_6, w1_6, q1_7, w1_7, q1_8, w1_8, q1_9, w1_9, q1_10, w1_10, q1_11, w1_11, q1_12, w1_12, qa_2, wa_2, qa_3, wa_3, qa_4, wa_4, bU_same, bU_ne, s_in]
    · have n3 := nn 10 12 3 kO10 rfl c3
      by_cases c7 : σ 4 = 0 ∧ σ 2 = 7
      · obtain ⟨F', f, c, e⟩ := yy 13 15 7 kO13 rfl c7
        have w : wdM (σ 2) may = 2 := by rw [c7.2]; rfl
        rw [w]
        refine Or.inl ⟨c7.1, by decide, F', f, c, ?_⟩
        simp (disch := first | assumption | omega) only [n2, n3, e, bi_add, bi_sub, bi_mul, bi_neg, bi_div, bi_64, bl_add, bl_sub, bl_mul, bl_neg, bl_div, bl_32, bi_min, bi_max, bl_min, bl_max, bq_I, bq_J, bq_A, bq_Vi, bq_Vl, bq_Vr, bq_cV, bq_cI, bq_cJ, bq_cA, bq_le, bq_lt, bq_eq, bq_z, bq_o, bq_ref, bq_nz, bq_nzJ, bq_bl, bq_blz, bq_T, bq_F, if_true, if_false, Int.reduceEq, Int.reduceLT, Int.reduceLE, Int.reduceAdd, Int.reduceSub, Int.reduceMul, Int.add_sub_cancel, li_0, li_1, li_2, li_3, li_4, li_5, li_6, li_8, li_9, li_12, li_14, li_15, li_23, li_24, ll_0, ll_1, ll_2, ll_3, ll_4, ll_5, ll_6, ll_8, ll_9, ll_12, ll_14, ll_15, ll_23, ll_24, q5_0, w5_0, q5_2, w5_2, q5_3, w5_3, q5_4, w5_4, q5_5, w5_5, q5_6, w5_6, q5_7, w5_7, q5_8, w5_8, q5_9, w5_9, q1_4, w1_4, q1_5, w1_5, q1_6, w1_6, q1_7, w1_7, q1_8, w1_8, q1_9, w1_9, q1_10, w1_10, q1_11, w1_11, q1_12, w1_12, qa_2, wa_2, qa_3, wa_3, qa_4, wa_4, bU_same, bU_ne, s_in]
      · have n7 := nn 13 15 7 kO13 rfl c7
        by_cases c5 : σ 4 = 0 ∧ σ 2 = 5
        · obtain ⟨F', f, c, e⟩ := yy 12 14 5 kO12 rfl c5
          have w : wdM (σ 2) may = 3 := by rw [c5.2]; rfl
          rw [w]
          refine Or.inl ⟨c5.1, by decide, F', f, c, ?_⟩
          simp (disch := first | assumption | omega) only [n2, n3, n7, e, bi_add, bi_sub, bi_mul, bi_neg, bi_div, bi_64, bl_add, bl_sub, bl_mul, bl_neg, bl_div, bl_32, bi_min, bi_max, bl_min, bl_max, bq_I, bq_J, bq_A, bq_Vi, bq_Vl, bq_Vr, bq_cV, bq_cI, bq_cJ, bq_cA, bq_le, bq_lt, bq_eq, bq_z, bq_o, bq_ref, bq_nz, bq_nzJ, bq_bl, bq_blz, bq_T, bq_F, if_true, if_false, Int.reduceEq, Int.reduceLT, Int.reduceLE, Int.reduceAdd, Int.reduceSub, Int.reduceMul, Int.add_sub_cancel, li_0, li_1, li_2, li_3, li_4, li_5, li_6, li_8, li_9, li_12, li_14, li_15, li_23, li_24, ll_0, ll_1, ll_2, ll_3, ll_4, ll_5, ll_6, ll_8, ll_9, ll_12, ll_14, ll_15, ll_23, ll_24, q5_0, w5_0, q5_2, w5_2, q5_3, w5_3, q5_4, w5_4, q5_5, w5_5, q5_6, w5_6, q5_7, w5_7, q5_8, w5_8, q5_9, w5_9, q1_4, w1_4, q1_5, w1_5, q1_6, w1_6, q1_7, w1_7, q1_8, w1_8, q1_9, w1_9, q1_10, w1_10, q1_11, w1_11, q1_12, w1_12, qa_2, wa_2, qa_3, wa_3, qa_4, wa_4, bU_same, bU_ne, s_in]
        · have n5 := nn 12 14 5 kO12 rfl c5
          by_cases c8 : σ 4 = 0 ∧ σ 2 = 8
          · obtain ⟨F', f, c, e⟩ := yy 6 8 8 kO6 rfl c8
            have w : wdM (σ 2) may = 4 := by rw [c8.2]; rfl
            rw [w]
            refine Or.inl ⟨c8.1, by decide, F', f, c, ?_⟩
            simp (disch := first | assumption | omega) only [n2, n3, n7, n5, e, bi_add, bi_sub, bi_mul, bi_neg, bi_div, bi_64, bl_add, bl_sub, bl_mul, bl_neg, bl_div, bl_32, bi_min, bi_max, bl_min, bl_max, bq_I, bq_J, bq_A, bq_Vi, bq_Vl, bq_Vr, bq_cV, bq_cI, bq_cJ, bq_cA, bq_le, bq_lt, bq_eq, bq_z, bq_o, bq_ref, bq_nz, bq_nzJ, bq_bl, bq_blz, bq_T, bq_F, if_true, if_false, Int.reduceEq, Int.reduceLT, Int.reduceLE, Int.reduceAdd, Int.reduceSub, Int.reduceMul, Int.add_sub_cancel, li_0, li_1, li_2, li_3, li_4, li_5, li_6, li_8, li_9, li_12, li_14, li_15, li_23, li_24, ll_0, ll_1, ll_2, ll_3, ll_4, ll_5, ll_6, ll_8, ll_9, ll_12, ll_14, ll_15, ll_23, ll_24, q5_0, w5_0, q5_2, w5_2, q5_3, w5_3, q5_4, w5_4, q5_5, w5_5, q5_6, w5_6, q5_7, w5_7, q5_8, w5_8, q5_9, w5_9, q1_4, w1_4, q1_5, w1_5, q1_6, w1_6, q1_7, w1_7, q1_8, w1_8, q1_9, w1_9, q1_10, w1_10, q1_11, w1_11, q1_12, w1_12, qa_2, wa_2, qa_3, wa_3, qa_4, wa_4, bU_same, bU_ne, s_in]
          · have n8 := nn 6 8 8 kO6 rfl c8
            by_cases c16 : σ 4 = 0 ∧ σ 2 = 16
            · obtain ⟨F', f, c, e⟩ := yy 21 23 16 kO21 rfl c16
              have w : wdM (σ 2) may = 5 := by rw [c16.2]; rfl
              rw [w]
              refine Or.inl ⟨c16.1, by decide, F', f, c, ?_⟩
              simp (disch := first | assumption | omega) only [n2, n3, n7, n5, n8, e, bi_add, bi_sub, bi_mul, bi_neg, bi_div, bi_64, bl_add, bl_sub, bl_mul, bl_neg, bl_div, bl_32, bi_min, bi_max, bl_min, bl_max, bq_I, bq_J, bq_A, bq_Vi, bq_Vl, bq_Vr, bq_cV, bq_cI, bq_cJ, bq_cA, bq_le, bq_lt, bq_eq, bq_z, bq_o, bq_ref, bq_nz, bq_nzJ, bq_bl, bq_blz, bq_T, bq_F, if_true, if_false, Int.reduceEq, Int.reduceLT, Int.reduceLE, Int.reduceAdd, Int.reduceSub, Int.reduceMul, Int.add_sub_cancel, li_0, li_1, li_2, li_3, li_4, li_5, li_6, li_8, li_9, li_12, li_14, li_15, li_23, li_24, ll_0, ll_1, ll_2, ll_3, ll_4, ll_5, ll_6, ll_8, ll_9, ll_12, ll_14, ll_15, ll_23, ll_24, q5_0, w5_0, q5_2, w5_2, q5_3, w5_3, q5_4, w5_4, q5_5, w5_5, q5_6, w5_6, q5_7, w5_7, q5_8, w5_8, q5_9, w5_9, q1_4, w1_4, q1_5, w1_5, q1_6, w1_6, q1_7, w1_7, q1_8, w1_8, q1_9, w1_9, q1_10, w1_10, q1_11, w1_11, q1_12, w1_12, qa_2, wa_2, qa_3, wa_3, qa_4, wa_4, bU_same, bU_ne, s_in]
            · have n16 := nn 21 23 16 kO21 rfl c16
              rcases m0 with rfl | rfl
              · refine Or.inr ⟨?_, ?_⟩
                · rintro ⟨q, w⟩
                  apply w
                  unfold wdM
                  rw [if_neg (fun t => c2 ⟨q, t⟩), if_neg (fun t => c3 ⟨q, t⟩), if_neg (fun t => c5 ⟨q, t⟩), if_neg (fun t => c7 ⟨q, t⟩), if_neg (fun t => c8 ⟨q, t⟩), if_neg (fun t => c16 ⟨q, t⟩), if_neg (fun t => absurd t.2 (by decide))]
                · simp (disch := first | assumption | omega) only [n2, n3, n7, n5, n8, n16, hm, bi_add, bi_sub, bi_mul, bi_neg, bi_div, bi_64, bl_add, bl_sub, bl_mul, bl_neg, bl_div, bl_32, bi_min, bi_max, bl_min, bl_max, bq_I, bq_J, bq_A, bq_Vi, bq_Vl, bq_Vr, bq_cV, bq_cI, bq_cJ, bq_cA, bq_le, bq_lt, bq_eq, bq_z, bq_o, bq_ref, bq_nz, bq_nzJ, bq_bl, bq_blz, bq_T, bq_F, if_true, if_false, Int.reduceEq, Int.reduceLT, Int.reduceLE, Int.reduceAdd, Int.reduceSub, Int.reduceMul, Int.add_sub_cancel, li_0, li_1, li_2, li_3, li_4, li_5, li_6, li_8, li_9, li_12, li_14, li_15, li_23, li_24, ll_0, ll_1, ll_2, ll_3, ll_4, ll_5, ll_6, ll_8, ll_9, ll_12, ll_14, ll_15, ll_23, ll_24, q5_0, w5_0, q5_2, w5_2, q5_3, w5_3, q5_4, w5_4, q5_5, w5_5, q5_6, w5_6, q5_7, w5_7, q5_8, w5_8, q5_9, w5_9, q1_4, w1_4, q1_5, w1_5, q1_6, w1_6, q1_7, w1_7, q1_8, w1_8, q1_9, w1_9, q1_10, w1_10, q1_11, w1_11, q1_12, w1_12, qa_2, wa_2, qa_3, wa_3, qa_4, wa_4, bU_same, bU_ne, s_in]
              · by_cases c17 : σ 4 = 0 ∧ σ 2 = 17
                · obtain ⟨F', f, c, e⟩ := yy 22 24 17 kO22 rfl c17
                  have w : wdM (σ 2) 1 = 6 := by rw [c17.2]; rfl
                  rw [w]
                  refine Or.inl ⟨c17.1, by decide, F', f, c, ?_⟩
                  simp (disch := first | assumption | omega) only [n2, n3, n7, n5, n8, n16, hm, e, bi_add, bi_sub, bi_mul, bi_neg, bi_div, bi_64, bl_add, bl_sub, bl_mul, bl_neg, bl_div, bl_32, bi_min, bi_max, bl_min, bl_max, bq_I, bq_J, bq_A, bq_Vi, bq_Vl, bq_Vr, bq_cV, bq_cI, bq_cJ, bq_cA, bq_le, bq_lt, bq_eq, bq_z, bq_o, bq_ref, bq_nz, bq_nzJ, bq_bl, bq_blz, bq_T, bq_F, if_true, if_false, Int.reduceEq, Int.reduceLT, Int.reduceLE, Int.reduceAdd, Int.reduceSub, Int.reduceMul, Int.add_sub_cancel, li_0, li_1, li_2, li_3, li_4, li_5, li_6, li_8, li_9, li_12, li_14, li_15, li_23, li_24, ll_0, ll_1, ll_2, ll_3, ll_4, ll_5, ll_6, ll_8, ll_9, ll_12, ll_14, ll_15, ll_23, ll_24, q5_0, w5_0, q5_2, w5_2, q5_3, w5_3, q5_4, w5_4, q5_5, w5_5, q5_6, w5_6, q5_7, w5_7, q5_8, w5_8, q5_9, w5_9, q1_4, w1_4, q1_5, w1_5, q1_6, w1_6, q1_7, w1_7, q1_8, w1_8, q1_9, w1_9, q1_10, w1_10, q1_11, w1_11, q1_12, w1_12, qa_2, wa_2, qa_3, wa_3, qa_4, wa_4, bU_same, bU_ne, s_in]
                · have n17 := nn 22 24 17 kO22 rfl c17
                  refine Or.inr ⟨?_, ?_⟩
                  · rintro ⟨q, w⟩
                    apply w
                    unfold wdM
                    rw [if_neg (fun t => c2 ⟨q, t⟩), if_neg (fun t => c3 ⟨q, t⟩), if_neg (fun t => c5 ⟨q, t⟩), if_neg (fun t => c7 ⟨q, t⟩), if_neg (fun t => c8 ⟨q, t⟩), if_neg (fun t => c16 ⟨q, t⟩), if_neg (fun t => c17 ⟨q, t.1⟩)]
                  · simp (disch := first | assumption | omega) only [n2, n3, n7, n5, n8, n16, hm, n17, bi_add, bi_sub, bi_mul, bi_neg, bi_div, bi_64, bl_add, bl_sub, bl_mul, bl_neg, bl_div, bl_32, bi_min, bi_max, bl_min, bl_max, bq_I, bq_J, bq_A, bq_Vi, bq_Vl, bq_Vr, bq_cV, bq_cI, bq_cJ, bq_cA, bq_le, bq_lt, bq_eq, bq_z, bq_o, bq_ref, bq_nz, bq_nzJ, bq_bl, bq_blz, bq_T, bq_F, if_true, if_false, Int.reduceEq, Int.reduceLT, Int.reduceLE, Int.reduceAdd, Int.reduceSub, Int.reduceMul, Int.add_sub_cancel, li_0, li_1, li_2, li_3, li_4, li_5, li_6, li_8, li_9, li_12, li_14, li_15, li_23, li_24, ll_0, ll_1, ll_2, ll_3, ll_4, ll_5, ll_6, ll_8, ll_9, ll_12, ll_14, ll_15, ll_23, ll_24, q5_0, w5_0, q5_2, w5_2, q5_3, w5_3, q5_4, w5_4, q5_5, w5_5, q5_6, w5_6, q5_7, w5_7, q5_8, w5_8, q5_9, w5_9, q1_4, w1_4, q1_5, w1_5, q1_6, w1_6, q1_7, w1_7, q1_8, w1_8, q1_9, w1_9, q1_10, w1_10, q1_11, w1_11, q1_12, w1_12, qa_2, wa_2, qa_3, wa_3, qa_4, wa_4, bU_same, bU_ne, s_in]
end WD
