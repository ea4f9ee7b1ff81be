/-! SOUNDNESS, second part: what a method stands on; instructions that need no heap -/
set_option maxRecDepth 100000
/-- a word of a nest mate's link, or of what may be cast: such words hold all through a run -/
def bk_isN (x : Cond) : Bool := match x with
  | .fieldLinkNest _ _ _ _ _ _ => true
  | .methodLinkNest _ _ _ _ => true
  | .castable _ _ => true
  | .declares _ => true
  | _ => false
theorem bk_nw_warm {x : Cond} (hx : bk_isN x = true) {s U : State} (hW : s.WarmedH U.vm) (h : va_Nw x s) : va_Nw x U := by
  cases x <;> first | exact va_Nw.warmF hW h | exact va_Nw.warmM hW h | exact va_Nw.warmC hW h | exact va_Nw.warmD hW h | exact absurd hx (by simp [bk_isN])
/-- the constants that are loaded: the class, its entry, the text, its number -/
def bk_ldcs : List (String × Nat × String × Nat) := [("BackRescue$Reader", 68, ";:+-*()[]=<>", 0), ("BackRescue$Reader", 100, "cave", 2), ("BackRescue$Reader", 106, "rooms", 3), ("BackRescue$Reader", 126, "passage", 4), ("BackRescue$Reader", 165, "drop", 10), ("BackRescue$Reader", 169, "both", 11), ("BackRescue$Reader", 174, "roped", 12), ("BackRescue$Reader", 130, "lost", 5), ("BackRescue$Reader", 178, "hurt", 13), ("BackRescue$Reader", 134, "slack", 6), ("BackRescue$Reader", 138, "falls", 7), ("BackRescue$Reader", 142, "hurts", 8), ("BackRescue$Reader", 249, "if", 14), ("BackRescue$Reader", 219, "not", 20), ("BackRescue$Reader", 217, "and", 19), ("BackRescue$Reader", 207, "o\x72", 18), ("BackRescue$Reader", 264, "then", 15), ("BackRescue$Reader", 266, "else", 16), ("BackRescue$Reader", 268, "end", 17), ("BackRescue$Reader", 246, "back", 21), ("BackRescue$Reader", 248, "room", 22), ("BackRescue$Reader", 146, "may", 9), ("BackRescueModel", 86, " cave rooms passage drop both roped lost hurt slack falls hurts may if then else end back room and or not ", 1), ("BackRescueModel", 124, ";:+-*()[]=<>", 0)]
/-- sorts of cells that no cast makes others -/
def bk_ncs : List (String × String) := [("[S", "[B"), ("[I", "[B"), ("[J", "[B"), ("[B", "[S"), ("[I", "[S"), ("[J", "[S"), ("[B", "[I"), ("[S", "[I"), ("[J", "[I"), ("java/lang/ArrayIndexOutOfBoundsException", "java/lang/NullPointerException")]
/-- what is known of the machine: classes, arrays, the script, the constants, the statics -/
def bk_Kn (w : bk_W) (U : State) (H : Heap) : Prop :=
  va_K w.1 bk_cl [] U ∧ (∀ i, i < 8 → ArrOfT U (w.2.1 i) (bk_aty i) ∧ va_RA U (w.2.1 i) (bk_aty i)) ∧
  va_X w.2.2.2.1.1 w.2.2.2.1.2.1 w.2.2.2.1.2.2 U H ∧ w.2.2.2.1.1 < w.2.2.1 ∧ w.2.2.2.1.1 < H.size ∧ w.2.2.2.1.2.1 < 2 ^ 31 ∧
  vk_S 23 bk_lns bk_byt w.2.2.2.2.1 w.2.2.2.2.2 (bk_own w) U H ∧
  va_Z "java/lang/String" "COMPACT_STRINGS" "Z" (.int 1) (bk_own w) U H ∧
  va_Zq "jdk/internal/util/Preconditions" "SIOOBE_FORMATTER" "Ljava/util/function/BiFunction;" (bk_own w) U H ∧
  (∀ q ∈ bk_ldcs, vk_R q.1 q.2.1 q.2.2.1 (w.2.2.2.2.1 q.2.2.2) U) ∧
  (∀ x ∈ lw_tbl, bk_isN x = true → va_Nw x U) ∧
  (∀ i, 5 ≤ i → i < 8 → va_AO (match bk_aty i with | .object C => C | _ => "") U) ∧
  (∀ q ∈ bk_ncs, va_Nc q.1 q.2 U) ∧
  vx_Zq Bundle.tN "UNASSIGNED_STACK" Bundle.steD (bk_own w) U H ∧ vx_Zq Bundle.tN "SUPPRESSED_SENTINEL" Bundle.listD (bk_own w) U H
theorem bk_Kn.warm {w : bk_W} {s U : State} {H : Heap} (hW : s.WarmedH U.vm) (h : bk_Kn w s H) : bk_Kn w U H := by
  obtain ⟨h1, h2, h3, h4, h4b, h5, h6, h7, h8, h9, h10, h11, h11b, h12, h13⟩ := h
  have ha := hW.alike
  exact ⟨va_K.moved ha h1, fun i hi => ⟨arrOfT_moved ha (h2 i hi).1, (h2 i hi).2.moved ha⟩, va_X.moved ha h3, h4, h4b, h5, vk_S.moved ha h6, va_Z.moved ha h7, va_Zq.moved ha h8, fun q hq => vk_R.warm hW (h9 q hq), fun x hx hn => bk_nw_warm hn hW (h10 x hx hn), fun i h5 h8 => va_AO.moved ha (h11 i h5 h8), fun q hq => va_Nc.moved ha (h11b q hq), vx_Zq.moved ha h12, vx_Zq.moved ha h13⟩
theorem bk_Kn.kept {w : bk_W} {U : State} {H H1 : Heap} (h : bk_Kn w U H) (hz : H.size ≤ H1.size) (hq : ∀ a : Nat, a < H.size → ¬ bk_own w a → H1[a]? = H[a]?) : bk_Kn w U H1 := by
  obtain ⟨h1, h2, h3, h4, h4b, h5, h6, h7, h8, h9, h10, h11, h11b, h12, h13⟩ := h
  exact ⟨h1, h2, va_X.kept h3 (hq _ h4b (Nat.not_le.mpr h4)), h4, Nat.lt_of_lt_of_le h4b hz, h5, vk_S.kept h6 hq, va_Z.kept h7 hq, va_Zq.kept h8 hq, h9, h10, h11, h11b, vx_Zq.kept h12 hq, vx_Zq.kept h13 hq⟩
section BKO
variable (w : bk_W) (p : Program) (l : Launch) (e : Env) (R : Room) (s : State) (m : MethodId) (args : Array Value) (below : List Frame) (meth : Method) (c : Code) (cc : ByteArray) (nL : Nat) (own : String) (h0 : bk_H) (σ0 : Nat → Option Nat) (r : Option Value × bk_H) (Q : State → Prop)
/-- from here the machine comes to its end -/
def bk_Gd (pc : Nat) (L st : List Value) (h : bk_H) : Prop := ∀ (σ : Nat → Option Nat) (H : Heap) (locs : List Loc) (ls : Array Slot) (st' : List Value), bk_ext σ0 σ → bk_rel w σ h H → va_S (bk_own w) s.heap H locs → bk_lr σ L ls nL → bk_sr σ st st' →
  W p l e R s m args below meth c H locs (h.2.1 - h0.2.1) (h.2.2 - h0.2.2) Q (F0 m pc ls st')
/-- what a method's body stands on -/
def bk_Cx : Prop := p.tables.exec = Jvm.exec ∧ c.code = cc ∧ c.maxLocals = nL ∧ s.vm.findClass own = some m.cls ∧ (∀ x ∈ lw_all, x.before args s = true) ∧ meth.locks = false ∧ bk_Kn w s s.heap ∧ w.2.2.1 ≤ s.heap.size
/-- an instruction is right: where it goes on well, it goes well -/
def bk_Ok (cl : bk_C) (pc : Nat) (o : bk_O) : Prop := ∀ L st h K, bk_le h0 h → bk_sem o cl pc L st h K = some r → (∀ pc' L' st' h', K pc' L' st' h' = some r → bk_le h' r.2) →
  (∀ pc' L' st' h', bk_le h h' → K pc' L' st' h' = some r → bk_Gd w p l e R s m args below meth c nL h0 σ0 Q pc' L' st' h') → bk_Gd w p l e R s m args below meth c nL h0 σ0 Q pc L st h
end BKO
section BKP
variable {w : bk_W} {p : Program} {l : Launch} {e : Env} {R : Room} {s : State} {m : MethodId} {args : Array Value} {below : List Frame} {meth : Method} {c : Code} {cc : ByteArray} {nL : Nat} {own : String} {h0 : bk_H} {σ0 : Nat → Option Nat} {r : Option Value × bk_H} {Q : State → Prop} {cl : bk_C} {pc : Nat}
theorem bk_Ok_fs {ins : Instr} {n a b k d : Nat} {v : Value} {ps : List (Int32 × Nat)} (fs : List Nat) (h : bk_Ok w p l e R s m args below meth c nL h0 σ0 r Q cl pc (ins, n, a, b, k, d, v, ps, [])) : bk_Ok w p l e R s m args below meth c nL h0 σ0 r Q cl pc (ins, n, a, b, k, d, v, ps, fs) := by
  intro L st h' K hle hs hg hk σ H locs ls st' he hR hS hL hst
  exact h (bk_fg fs L) st h' K hle hs hg hk σ H locs ls st' he hR hS (hL.fg fs) hst
theorem bk_Ok_no : bk_Ok w p l e R s m args below meth c nL h0 σ0 r Q cl pc bk_no := by
  intro L st h K _ hs
  cases hs
theorem bk_sr_int {σ : Nat → Option Nat} {x : Int32} {st x' : List Value} (h : bk_sr σ (.int x :: st) x') : ∃ t, x' = .int x :: t ∧ bk_sr σ st t := by
  obtain ⟨y, t, rfl, rfl, h2⟩ := h
  exact ⟨t, rfl, h2⟩
theorem bk_sr_long {σ : Nat → Option Nat} {x : Int64} {st x' : List Value} (h : bk_sr σ (.long x :: st) x') : ∃ t, x' = .long x :: t ∧ bk_sr σ st t := by
  obtain ⟨y, t, rfl, rfl, h2⟩ := h
  exact ⟨t, rfl, h2⟩
theorem bk_sr_ref {σ : Nat → Option Nat} {a : Nat} {st x' : List Value} (h : bk_sr σ (.ref a :: st) x') : ∃ y t, x' = y :: t ∧ ((a = 0 ∧ y = .null) ∨ ∃ b, σ a = some b ∧ y = .ref b) ∧ bk_sr σ st t := by
  obtain ⟨y, t, rfl, h1, h2⟩ := h
  exact ⟨y, t, rfl, h1, h2⟩
theorem bk_sr_i {σ : Nat → Option Nat} {x : Int32} {st x' : List Value} (h : bk_sr σ st x') : bk_sr σ (.int x :: st) (.int x :: x') := ⟨_, _, rfl, rfl, h⟩
theorem bk_sr_l {σ : Nat → Option Nat} {x : Int64} {st x' : List Value} (h : bk_sr σ st x') : bk_sr σ (.long x :: st) (.long x :: x') := ⟨_, _, rfl, rfl, h⟩
theorem bk_sr_r {σ : Nat → Option Nat} {a b : Nat} {st x' : List Value} (hb : σ a = some b) (h : bk_sr σ st x') : bk_sr σ (.ref a :: st) (.ref b :: x') := ⟨_, _, rfl, Or.inr ⟨b, hb, rfl⟩, h⟩
theorem bk_sr_n {σ : Nat → Option Nat} {st x' : List Value} (h : bk_sr σ st x') : bk_sr σ (.ref 0 :: st) (.null :: x') := ⟨_, _, rfl, Or.inl ⟨rfl, rfl⟩, h⟩
/-- an int, long that is pushed -/
theorem bk_o_pushI {ins : Instr} {n a b k d : Nat} {ps : List (Int32 × Nat)} {x : Int32} (row : ∀ {H : Heap} {locs : List Loc} {cells slots : Nat} {ls : Array Slot} {rest : List Value}, W p l e R s m args below meth c H locs cells slots Q (F0 m (pc + n) ls (.int x :: rest)) → W p l e R s m args below meth c H locs cells slots Q (F0 m pc ls rest))
    (hsem : ∀ L st h K, bk_sem (ins, n, a, b, k, d, .int x, ps, []) cl pc L st h K = K (pc + n) L (.int x :: st) h) : bk_Ok w p l e R s m args below meth c nL h0 σ0 r Q cl pc (ins, n, a, b, k, d, .int x, ps, []) := by
  intro L st h K hle hs hg hk σ H locs ls st' he hR hS hL hst
  rw [hsem] at hs
  exact row (hk _ _ _ _ (bk_le_rf _) hs σ H locs ls _ he hR hS hL (bk_sr_i hst))
theorem bk_o_pushJ {ins : Instr} {n a b k d : Nat} {ps : List (Int32 × Nat)} {x : Int64} (row : ∀ {H : Heap} {locs : List Loc} {cells slots : Nat} {ls : Array Slot} {rest : List Value}, W p l e R s m args below meth c H locs cells slots Q (F0 m (pc + n) ls (.long x :: rest)) → W p l e R s m args below meth c H locs cells slots Q (F0 m pc ls rest))
    (hsem : ∀ L st h K, bk_sem (ins, n, a, b, k, d, .long x, ps, []) cl pc L st h K = K (pc + n) L (.long x :: st) h) : bk_Ok w p l e R s m args below meth c nL h0 σ0 r Q cl pc (ins, n, a, b, k, d, .long x, ps, []) := by
  intro L st h K hle hs hg hk σ H locs ls st' he hR hS hL hst
  rw [hsem] at hs
  exact row (hk _ _ _ _ (bk_le_rf _) hs σ H locs ls _ he hR hS hL (bk_sr_l hst))
theorem bk_o_iconst {n : Int} {x : Int32} {a b k d : Nat} {ps : List (Int32 × Nat)} (C : bk_Cx w p s m args meth c cc nL own) (hd : decode cc pc = .ok (.iconst n, 1)) (hv : Int32.ofInt n = x) : bk_Ok w p l e R s m args below meth c nL h0 σ0 r Q cl pc (.iconst n, 1, a, b, k, d, .int x, ps, []) :=
  bk_o_pushI (fun k => lv_iconst C.1 C.2.1 hd hv k) (fun _ _ _ _ => rfl)
theorem bk_o_bipush {n : Int} {x : Int32} {a b k d : Nat} {ps : List (Int32 × Nat)} (C : bk_Cx w p s m args meth c cc nL own) (hd : decode cc pc = .ok (.bipush n, 2)) (hv : (Int8.ofInt n).toInt32 = x) : bk_Ok w p l e R s m args below meth c nL h0 σ0 r Q cl pc (.bipush n, 2, a, b, k, d, .int x, ps, []) :=
  bk_o_pushI (fun k => lv_bipush C.1 C.2.1 hd hv k) (fun _ _ _ _ => rfl)
theorem bk_o_sipush {n : Int} {x : Int32} {a b k d : Nat} {ps : List (Int32 × Nat)} (C : bk_Cx w p s m args meth c cc nL own) (hd : decode cc pc = .ok (.sipush n, 3)) (hv : (Int16.ofInt n).toInt32 = x) : bk_Ok w p l e R s m args below meth c nL h0 σ0 r Q cl pc (.sipush n, 3, a, b, k, d, .int x, ps, []) :=
  bk_o_pushI (fun k => lv_sipush C.1 C.2.1 hd hv k) (fun _ _ _ _ => rfl)
theorem bk_o_lconst {n : Fin 2} {x : Int64} {a b k d : Nat} {ps : List (Int32 × Nat)} (C : bk_Cx w p s m args meth c cc nL own) (hd : decode cc pc = .ok (.lconst n, 1)) (hv : Int64.ofNat (n : Nat) = x) : bk_Ok w p l e R s m args below meth c nL h0 σ0 r Q cl pc (.lconst n, 1, a, b, k, d, .long x, ps, []) :=
  bk_o_pushJ (fun k => lv_lconst C.1 C.2.1 hd hv k) (fun _ _ _ _ => rfl)
theorem bk_o_ldcI {i : Nat} {x : Int32} {a b k d : Nat} {ps : List (Int32 × Nat)} (C : bk_Cx w p s m args meth c cc nL own) (hd : decode cc pc = .ok (.ldc i, 2)) (hw : Cond.constant own i x ∈ lw_all) : bk_Ok w p l e R s m args below meth c nL h0 σ0 r Q cl pc (.ldc i, 2, a, b, k, d, .int x, ps, []) :=
  bk_o_pushI (fun k => lv_ldc C.1 C.2.1 C.2.2.2.1 (C.2.2.2.2.1 _ hw) hd k) (fun _ _ _ _ => rfl)
theorem bk_o_ldcwI {i : Nat} {x : Int32} {a b k d : Nat} {ps : List (Int32 × Nat)} (C : bk_Cx w p s m args meth c cc nL own) (hd : decode cc pc = .ok (.ldc_w i, 3)) (hw : Cond.constant own i x ∈ lw_all) : bk_Ok w p l e R s m args below meth c nL h0 σ0 r Q cl pc (.ldc_w i, 3, a, b, k, d, .int x, ps, []) :=
  bk_o_pushI (fun k => lv_ldcw C.1 C.2.1 C.2.2.2.1 (C.2.2.2.2.1 _ hw) hd k) (fun _ _ _ _ => rfl)
theorem bk_o_ldc2 {i : Nat} {x : Int64} {a b k d : Nat} {ps : List (Int32 × Nat)} (C : bk_Cx w p s m args meth c cc nL own) (hd : decode cc pc = .ok (.ldc2_w i, 3)) (hw : Cond.constantLong own i x ∈ lw_all) : bk_Ok w p l e R s m args below meth c nL h0 σ0 r Q cl pc (.ldc2_w i, 3, a, b, k, d, .long x, ps, []) :=
  bk_o_pushJ (fun k => lv_ldc2 C.1 C.2.1 C.2.2.2.1 (C.2.2.2.2.1 _ hw) hd k) (fun _ _ _ _ => rfl)
theorem bk_o_null {a b k d : Nat} {v : Value} {ps : List (Int32 × Nat)} (C : bk_Cx w p s m args meth c cc nL own) (hd : decode cc pc = .ok (.aconst_null, 1)) : bk_Ok w p l e R s m args below meth c nL h0 σ0 r Q cl pc (.aconst_null, 1, a, b, k, d, v, ps, []) := by
  intro L st h K hle hs hg hk σ H locs ls st' he hR hS hL hst
  have hs1 : K (pc + 1) L (.ref 0 :: st) h = some r := hs
  exact lv_null C.1 C.2.1 hd (hk _ _ _ _ (bk_le_rf _) hs1 σ H locs ls _ he hR hS hL (bk_sr_n hst))
/-! loads -/
theorem bk_loadI {L : List Value} {i : Nat} {x : Int32} {σ : Nat → Option Nat} {ls : Array Slot} (hL : bk_lr σ L ls nL) (hx : bk_get L i = .int x) : ls[i]? = some (.val (.int x)) := by
  obtain ⟨y, h1, h2⟩ := hL.get hx (by intro q; cases q)
  rw [h1] at h2; exact h2
theorem bk_loadJ {L : List Value} {i : Nat} {x : Int64} {σ : Nat → Option Nat} {ls : Array Slot} (hL : bk_lr σ L ls nL) (hx : bk_get L i = .long x) : ls[i]? = some (.val (.long x)) := by
  obtain ⟨y, h1, h2⟩ := hL.get hx (by intro q; cases q)
  rw [h1] at h2; exact h2
theorem bk_o_iload {ins : Instr} {n a b k d : Nat} {v : Value} {ps : List (Int32 × Nat)} (row : ∀ {x : Int32} {H : Heap} {locs : List Loc} {cells slots : Nat} {ls : Array Slot} {rest : List Value}, ls[a]? = some (.val (.int x)) → W p l e R s m args below meth c H locs cells slots Q (F0 m (pc + n) ls (.int x :: rest)) → W p l e R s m args below meth c H locs cells slots Q (F0 m pc ls rest))
    (hsem : ∀ L st h K, bk_sem (ins, n, a, b, k, d, v, ps, []) cl pc L st h K = bk_I (bk_get L a) fun x => K (pc + n) L (.int x :: st) h) : bk_Ok w p l e R s m args below meth c nL h0 σ0 r Q cl pc (ins, n, a, b, k, d, v, ps, []) := by
  intro L st h K hle hs hg hk σ H locs ls st' he hR hS hL hst
  rw [hsem] at hs
  obtain ⟨x, hx, hs1⟩ := bk_I_inv hs
  exact row (bk_loadI hL hx) (hk _ _ _ _ (bk_le_rf _) hs1 σ H locs ls _ he hR hS hL (bk_sr_i hst))
theorem bk_o_lload {ins : Instr} {n a b k d : Nat} {v : Value} {ps : List (Int32 × Nat)} (row : ∀ {x : Int64} {H : Heap} {locs : List Loc} {cells slots : Nat} {ls : Array Slot} {rest : List Value}, ls[a]? = some (.val (.long x)) → W p l e R s m args below meth c H locs cells slots Q (F0 m (pc + n) ls (.long x :: rest)) → W p l e R s m args below meth c H locs cells slots Q (F0 m pc ls rest))
    (hsem : ∀ L st h K, bk_sem (ins, n, a, b, k, d, v, ps, []) cl pc L st h K = bk_J (bk_get L a) fun x => K (pc + n) L (.long x :: st) h) : bk_Ok w p l e R s m args below meth c nL h0 σ0 r Q cl pc (ins, n, a, b, k, d, v, ps, []) := by
  intro L st h K hle hs hg hk σ H locs ls st' he hR hS hL hst
  rw [hsem] at hs
  obtain ⟨x, hx, hs1⟩ := bk_J_inv hs
  exact row (bk_loadJ hL hx) (hk _ _ _ _ (bk_le_rf _) hs1 σ H locs ls _ he hR hS hL (bk_sr_l hst))
theorem bk_o_aload {ins : Instr} {n a b k d : Nat} {v : Value} {ps : List (Int32 × Nat)} (row : ∀ {x : Nat} {H : Heap} {locs : List Loc} {cells slots : Nat} {ls : Array Slot} {rest : List Value}, ls[a]? = some (.val (.ref x)) → W p l e R s m args below meth c H locs cells slots Q (F0 m (pc + n) ls (.ref x :: rest)) → W p l e R s m args below meth c H locs cells slots Q (F0 m pc ls rest))
    (rowN : ∀ {H : Heap} {locs : List Loc} {cells slots : Nat} {ls : Array Slot} {rest : List Value}, ls[a]? = some (.val .null) → W p l e R s m args below meth c H locs cells slots Q (F0 m (pc + n) ls (.null :: rest)) → W p l e R s m args below meth c H locs cells slots Q (F0 m pc ls rest))
    (hsem : ∀ L st h K, bk_sem (ins, n, a, b, k, d, v, ps, []) cl pc L st h K = bk_A (bk_get L a) fun x => K (pc + n) L (.ref x :: st) h) : bk_Ok w p l e R s m args below meth c nL h0 σ0 r Q cl pc (ins, n, a, b, k, d, v, ps, []) := by
  intro L st h K hle hs hg hk σ H locs ls st' he hR hS hL hst
  rw [hsem] at hs
  obtain ⟨x, hx, hs1⟩ := bk_A_inv hs
  obtain ⟨y, h1, h2⟩ := hL.get hx (by intro q; cases q)
  rcases h1 with ⟨rfl, rfl⟩ | ⟨z, hz, rfl⟩
  · exact rowN h2 (hk _ _ _ _ (bk_le_rf _) hs1 σ H locs ls _ he hR hS hL (bk_sr_n hst))
  · exact row h2 (hk _ _ _ _ (bk_le_rf _) hs1 σ H locs ls _ he hR hS hL (bk_sr_r hz hst))
theorem bk_o_iload_n {i : Fin 4} {a b k d : Nat} {v : Value} {ps : List (Int32 × Nat)} (C : bk_Cx w p s m args meth c cc nL own) (hd : decode cc pc = .ok (.iload_n i, 1)) (hi : (i : Nat) = a) : bk_Ok w p l e R s m args below meth c nL h0 σ0 r Q cl pc (.iload_n i, 1, a, b, k, d, v, ps, []) :=
  bk_o_iload (fun hl k => lv_iload_n C.1 C.2.1 hd hi hl k) (fun _ _ _ _ => rfl)
theorem bk_o_iload_w {a b k d : Nat} {v : Value} {ps : List (Int32 × Nat)} (C : bk_Cx w p s m args meth c cc nL own) (hd : decode cc pc = .ok (.iload a, 2)) : bk_Ok w p l e R s m args below meth c nL h0 σ0 r Q cl pc (.iload a, 2, a, b, k, d, v, ps, []) :=
  bk_o_iload (fun hl k => lv_iload C.1 C.2.1 hd hl k) (fun _ _ _ _ => rfl)
theorem bk_o_lload_n {i : Fin 4} {a b k d : Nat} {v : Value} {ps : List (Int32 × Nat)} (C : bk_Cx w p s m args meth c cc nL own) (hd : decode cc pc = .ok (.lload_n i, 1)) (hi : (i : Nat) = a) : bk_Ok w p l e R s m args below meth c nL h0 σ0 r Q cl pc (.lload_n i, 1, a, b, k, d, v, ps, []) :=
  bk_o_lload (fun hl k => lv_lload_n C.1 C.2.1 hd hi hl k) (fun _ _ _ _ => rfl)
theorem bk_o_lload_w {a b k d : Nat} {v : Value} {ps : List (Int32 × Nat)} (C : bk_Cx w p s m args meth c cc nL own) (hd : decode cc pc = .ok (.lload a, 2)) : bk_Ok w p l e R s m args below meth c nL h0 σ0 r Q cl pc (.lload a, 2, a, b, k, d, v, ps, []) :=
  bk_o_lload (fun hl k => lv_lload C.1 C.2.1 hd hl k) (fun _ _ _ _ => rfl)
theorem bk_o_aload_n {i : Fin 4} {a b k d : Nat} {v : Value} {ps : List (Int32 × Nat)} (C : bk_Cx w p s m args meth c cc nL own) (hd : decode cc pc = .ok (.aload_n i, 1)) (hi : (i : Nat) = a) : bk_Ok w p l e R s m args below meth c nL h0 σ0 r Q cl pc (.aload_n i, 1, a, b, k, d, v, ps, []) :=
  bk_o_aload (fun hl k => lv_aload_n C.1 C.2.1 hd hi hl k) (fun hl k => lv_aload_nN C.1 C.2.1 hd hi hl k) (fun _ _ _ _ => rfl)
theorem bk_o_aload_w {a b k d : Nat} {v : Value} {ps : List (Int32 × Nat)} (C : bk_Cx w p s m args meth c cc nL own) (hd : decode cc pc = .ok (.aload a, 2)) : bk_Ok w p l e R s m args below meth c nL h0 σ0 r Q cl pc (.aload a, 2, a, b, k, d, v, ps, []) :=
  bk_o_aload (fun hl k => lv_aload C.1 C.2.1 hd hl k) (fun hl k => lv_aloadN C.1 C.2.1 hd hl k) (fun _ _ _ _ => rfl)
/-! stores -/
theorem bk_storeT {n i : Nat} {L st : List Value} {v : Value} {h : bk_H} {K : bk_K} (hs : bk_store n i false pc L st v h K = some r) : i < L.length ∧ K (pc + n) (bk_st1 L i v) st h = some r := by
  unfold bk_store at hs
  by_cases e : Nat.blt i L.length = true
  · simp only [cond_false, e, cond_true] at hs
    exact ⟨Nat.ble_eq.mp e, hs⟩
  · simp only [cond_false, Bool.not_eq_true] at e hs
    rw [e] at hs
    cases hs
theorem bk_storeT2 {n i : Nat} {L st : List Value} {v : Value} {h : bk_H} {K : bk_K} (hs : bk_store n i true pc L st v h K = some r) : i + 1 < L.length ∧ K (pc + n) (bk_st2 L i v) st h = some r := by
  unfold bk_store at hs
  by_cases e : Nat.blt (i + 1) L.length = true
  · simp only [e, cond_true] at hs
    exact ⟨Nat.ble_eq.mp e, hs⟩
  · simp only [cond_true, Bool.not_eq_true] at e hs
    rw [e] at hs
    cases hs
theorem bk_o_istore {ins : Instr} {n a b k d : Nat} {v : Value} {ps : List (Int32 × Nat)} (row : ∀ {x : Int32} {H : Heap} {locs : List Loc} {cells slots : Nat} {ls : Array Slot} {rest : List Value}, lv_has ls nL (bk_all ls) → a < nL →
      (∀ ls' : Array Slot, lv_has ls' nL ((a, .int x) :: (bk_all ls).filter (fun q => !(q.1 == a) && !(q.1 + 1 == a && q.2.category == 2))) → W p l e R s m args below meth c H locs cells slots Q (F0 m (pc + n) ls' rest)) → W p l e R s m args below meth c H locs cells slots Q (F0 m pc ls (.int x :: rest)))
    (hsem : ∀ L st h K, bk_sem (ins, n, a, b, k, d, v, ps, []) cl pc L st h K = match st with | v :: st => bk_I v fun x => bk_store n a false pc L st (.int x) h K | _ => none) : bk_Ok w p l e R s m args below meth c nL h0 σ0 r Q cl pc (ins, n, a, b, k, d, v, ps, []) := by
  intro L st h K hle hs hg hk σ H locs ls st' he hR hS hL hst
  rw [hsem] at hs
  rcases st with _ | ⟨v, st⟩
  · cases hs
  · obtain ⟨x, rfl, hs1⟩ := bk_I_inv hs
    obtain ⟨hi, hs2⟩ := bk_storeT hs1
    obtain ⟨t1, rfl, ht1⟩ := bk_sr_int hst
    have hi' : a < nL := by rw [← hL.2.1]; exact hi
    exact row (bk_all_has hL.1 hL.2.2.1) hi' fun ls' hls => hk _ _ _ _ (bk_le_rf _) hs2 σ H locs ls' t1 he hR hS (hL.st1 (v := .int x) (y := .int x) hi' rfl rfl hls) ht1
theorem bk_o_lstore {ins : Instr} {n a b k d : Nat} {v : Value} {ps : List (Int32 × Nat)} (row : ∀ {x : Int64} {H : Heap} {locs : List Loc} {cells slots : Nat} {ls : Array Slot} {rest : List Value}, lv_has ls nL (bk_all ls) → a + 1 < nL →
      (∀ ls' : Array Slot, lv_has ls' nL ((a, .long x) :: (bk_all ls).filter (fun q => !(q.1 == a) && (!(q.1 == a + 1) && !(q.1 + 1 == a && q.2.category == 2)))) → W p l e R s m args below meth c H locs cells slots Q (F0 m (pc + n) ls' rest)) → W p l e R s m args below meth c H locs cells slots Q (F0 m pc ls (.long x :: rest)))
    (hsem : ∀ L st h K, bk_sem (ins, n, a, b, k, d, v, ps, []) cl pc L st h K = match st with | v :: st => bk_J v fun x => bk_store n a true pc L st (.long x) h K | _ => none) : bk_Ok w p l e R s m args below meth c nL h0 σ0 r Q cl pc (ins, n, a, b, k, d, v, ps, []) := by
  intro L st h K hle hs hg hk σ H locs ls st' he hR hS hL hst
  rw [hsem] at hs
  rcases st with _ | ⟨v, st⟩
  · cases hs
  · obtain ⟨x, rfl, hs1⟩ := bk_J_inv hs
    obtain ⟨hi, hs2⟩ := bk_storeT2 hs1
    obtain ⟨t1, rfl, ht1⟩ := bk_sr_long hst
    have hi' : a + 1 < nL := by rw [← hL.2.1]; exact hi
    exact row (bk_all_has hL.1 hL.2.2.1) hi' fun ls' hls => hk _ _ _ _ (bk_le_rf _) hs2 σ H locs ls' t1 he hR hS (hL.st2 (v := .long x) (y := .long x) hi' rfl hls) ht1
theorem bk_o_astore {ins : Instr} {n a b k d : Nat} {v : Value} {ps : List (Int32 × Nat)} (row : ∀ {x : Nat} {H : Heap} {locs : List Loc} {cells slots : Nat} {ls : Array Slot} {rest : List Value}, lv_has ls nL (bk_all ls) → a < nL →
      (∀ ls' : Array Slot, lv_has ls' nL ((a, .ref x) :: (bk_all ls).filter (fun q => !(q.1 == a) && !(q.1 + 1 == a && q.2.category == 2))) → W p l e R s m args below meth c H locs cells slots Q (F0 m (pc + n) ls' rest)) → W p l e R s m args below meth c H locs cells slots Q (F0 m pc ls (.ref x :: rest)))
    (rowN : ∀ {H : Heap} {locs : List Loc} {cells slots : Nat} {ls : Array Slot} {rest : List Value}, lv_has ls nL (bk_all ls) → a < nL →
      (∀ ls' : Array Slot, lv_has ls' nL ((a, .null) :: (bk_all ls).filter (fun q => !(q.1 == a) && !(q.1 + 1 == a && q.2.category == 2))) → W p l e R s m args below meth c H locs cells slots Q (F0 m (pc + n) ls' rest)) → W p l e R s m args below meth c H locs cells slots Q (F0 m pc ls (.null :: rest)))
    (hsem : ∀ L st h K, bk_sem (ins, n, a, b, k, d, v, ps, []) cl pc L st h K = match st with | v :: st => bk_A v fun x => bk_store n a false pc L st (.ref x) h K | _ => none) : bk_Ok w p l e R s m args below meth c nL h0 σ0 r Q cl pc (ins, n, a, b, k, d, v, ps, []) := by
  intro L st h K hle hs hg hk σ H locs ls st' he hR hS hL hst
  rw [hsem] at hs
  rcases st with _ | ⟨v, st⟩
  · cases hs
  · obtain ⟨x, rfl, hs1⟩ := bk_A_inv hs
    obtain ⟨hi, hs2⟩ := bk_storeT hs1
    obtain ⟨y, t, rfl, hy, ht⟩ := bk_sr_ref hst
    have hi' : a < nL := by rw [← hL.2.1]; exact hi
    rcases hy with ⟨rfl, rfl⟩ | ⟨z, hz, rfl⟩
    · exact rowN (bk_all_has hL.1 hL.2.2.1) hi' fun ls' hls => hk _ _ _ _ (bk_le_rf _) hs2 σ H locs ls' t he hR hS (hL.st1 (v := .ref 0) (y := .null) hi' (Or.inl ⟨rfl, rfl⟩) rfl hls) ht
    · exact row (bk_all_has hL.1 hL.2.2.1) hi' fun ls' hls => hk _ _ _ _ (bk_le_rf _) hs2 σ H locs ls' t he hR hS (hL.st1 (v := .ref x) (y := .ref z) hi' (Or.inr ⟨z, hz, rfl⟩) rfl hls) ht
theorem bk_o_istore_n {i : Fin 4} {a b k d : Nat} {v : Value} {ps : List (Int32 × Nat)} (C : bk_Cx w p s m args meth c cc nL own) (hd : decode cc pc = .ok (.istore_n i, 1)) (hi : (i : Nat) = a) : bk_Ok w p l e R s m args below meth c nL h0 σ0 r Q cl pc (.istore_n i, 1, a, b, k, d, v, ps, []) :=
  bk_o_istore (fun h hn kk => lv_istore_n C.1 C.2.1 hd hi h hn rfl kk) (fun _ _ _ _ => rfl)
theorem bk_o_istore_w {a b k d : Nat} {v : Value} {ps : List (Int32 × Nat)} (C : bk_Cx w p s m args meth c cc nL own) (hd : decode cc pc = .ok (.istore a, 2)) : bk_Ok w p l e R s m args below meth c nL h0 σ0 r Q cl pc (.istore a, 2, a, b, k, d, v, ps, []) :=
  bk_o_istore (fun h hn kk => lv_istore C.1 C.2.1 hd h hn rfl kk) (fun _ _ _ _ => rfl)
theorem bk_o_lstore_n {i : Fin 4} {a b k d : Nat} {v : Value} {ps : List (Int32 × Nat)} (C : bk_Cx w p s m args meth c cc nL own) (hd : decode cc pc = .ok (.lstore_n i, 1)) (hi : (i : Nat) = a) : bk_Ok w p l e R s m args below meth c nL h0 σ0 r Q cl pc (.lstore_n i, 1, a, b, k, d, v, ps, []) :=
  bk_o_lstore (fun h hn kk => lv_lstore_n C.1 C.2.1 hd hi h hn rfl kk) (fun _ _ _ _ => rfl)
theorem bk_o_lstore_w {a b k d : Nat} {v : Value} {ps : List (Int32 × Nat)} (C : bk_Cx w p s m args meth c cc nL own) (hd : decode cc pc = .ok (.lstore a, 2)) : bk_Ok w p l e R s m args below meth c nL h0 σ0 r Q cl pc (.lstore a, 2, a, b, k, d, v, ps, []) :=
  bk_o_lstore (fun h hn kk => lv_lstore C.1 C.2.1 hd h hn rfl kk) (fun _ _ _ _ => rfl)
theorem bk_o_astore_n {i : Fin 4} {a b k d : Nat} {v : Value} {ps : List (Int32 × Nat)} (C : bk_Cx w p s m args meth c cc nL own) (hd : decode cc pc = .ok (.astore_n i, 1)) (hi : (i : Nat) = a) : bk_Ok w p l e R s m args below meth c nL h0 σ0 r Q cl pc (.astore_n i, 1, a, b, k, d, v, ps, []) :=
  bk_o_astore (fun h hn kk => lv_astore_n C.1 C.2.1 hd hi h hn rfl kk) (fun h hn kk => lv_astore_nN C.1 C.2.1 hd hi h hn rfl kk) (fun _ _ _ _ => rfl)
theorem bk_o_astore_w {a b k d : Nat} {v : Value} {ps : List (Int32 × Nat)} (C : bk_Cx w p s m args meth c cc nL own) (hd : decode cc pc = .ok (.astore a, 2)) : bk_Ok w p l e R s m args below meth c nL h0 σ0 r Q cl pc (.astore a, 2, a, b, k, d, v, ps, []) :=
  bk_o_astore (fun h hn kk => lv_astore C.1 C.2.1 hd h hn rfl kk) (fun h hn kk => lv_astoreN C.1 C.2.1 hd h hn rfl kk) (fun _ _ _ _ => rfl)
theorem bk_o_iinc {i : Int} {a b k d : Nat} {x : Int32} {ps : List (Int32 × Nat)} (C : bk_Cx w p s m args meth c cc nL own) (hd : decode cc pc = .ok (.iinc a i, 3)) (hx : Int32.ofInt i = x) : bk_Ok w p l e R s m args below meth c nL h0 σ0 r Q cl pc (.iinc a i, 3, a, b, k, d, .int x, ps, []) := by
  intro L st h K hle hs hg hk σ H locs ls st' he hR hS hL hst
  have hs1 : bk_I (.int x) (fun k => bk_I (bk_get L a) fun x => bk_store 3 a false pc L st (.int (x + k)) h K) = some r := hs
  obtain ⟨z, hz, hs2⟩ := bk_I_inv hs1
  cases hz
  obtain ⟨y, hy, hs3⟩ := bk_I_inv hs2
  obtain ⟨hi, hs4⟩ := bk_storeT hs3
  have hi' : a < nL := by rw [← hL.2.1]; exact hi
  obtain ⟨j, hj⟩ := List.getElem?_of_mem (bk_all_mem.mpr (bk_loadI hL hy))
  exact lv_iinc (v := y + x) C.1 C.2.1 hd (bk_all_has hL.1 hL.2.2.1) hj (by rw [hx]) hi' rfl fun ls' hls => hk _ _ _ _ (bk_le_rf _) hs4 σ H locs ls' st' he hR hS (hL.st1 (v := .int (y + x)) (y := .int (y + x)) hi' rfl rfl hls) hst
/-! arithmetic -/
theorem bk_o_ibin {ins : Instr} {n a b k d : Nat} {v : Value} {ps : List (Int32 × Nat)} (f : Int32 → Int32 → Int32) (row : ∀ {x y : Int32} {H : Heap} {locs : List Loc} {cells slots : Nat} {ls : Array Slot} {rest : List Value}, W p l e R s m args below meth c H locs cells slots Q (F0 m (pc + 1) ls (.int (f x y) :: rest)) → W p l e R s m args below meth c H locs cells slots Q (F0 m pc ls (.int y :: .int x :: rest)))
    (hsem : ∀ L st h K, bk_sem (ins, n, a, b, k, d, v, ps, []) cl pc L st h K = bk_ibin f pc L st h K) : bk_Ok w p l e R s m args below meth c nL h0 σ0 r Q cl pc (ins, n, a, b, k, d, v, ps, []) := by
  intro L st h K hle hs hg hk σ H locs ls st' he hR hS hL hst
  rw [hsem] at hs
  rcases st with _ | ⟨v, _ | ⟨u, st⟩⟩
  · cases hs
  · cases hs
  · obtain ⟨y, rfl, hs1⟩ := bk_I_inv hs
    obtain ⟨x, rfl, hs2⟩ := bk_I_inv hs1
    obtain ⟨t1, rfl, ht1⟩ := bk_sr_int hst
    obtain ⟨t2, rfl, ht2⟩ := bk_sr_int ht1
    exact row (hk _ _ _ _ (bk_le_rf _) hs2 σ H locs ls _ he hR hS hL (bk_sr_i ht2))
theorem bk_o_lbin {ins : Instr} {n a b k d : Nat} {v : Value} {ps : List (Int32 × Nat)} (f : Int64 → Int64 → Int64) (row : ∀ {x y : Int64} {H : Heap} {locs : List Loc} {cells slots : Nat} {ls : Array Slot} {rest : List Value}, W p l e R s m args below meth c H locs cells slots Q (F0 m (pc + 1) ls (.long (f x y) :: rest)) → W p l e R s m args below meth c H locs cells slots Q (F0 m pc ls (.long y :: .long x :: rest)))
    (hsem : ∀ L st h K, bk_sem (ins, n, a, b, k, d, v, ps, []) cl pc L st h K = bk_lbin f pc L st h K) : bk_Ok w p l e R s m args below meth c nL h0 σ0 r Q cl pc (ins, n, a, b, k, d, v, ps, []) := by
  intro L st h K hle hs hg hk σ H locs ls st' he hR hS hL hst
  rw [hsem] at hs
  rcases st with _ | ⟨v, _ | ⟨u, st⟩⟩
  · cases hs
  · cases hs
  · obtain ⟨y, rfl, hs1⟩ := bk_J_inv hs
    obtain ⟨x, rfl, hs2⟩ := bk_J_inv hs1
    obtain ⟨t1, rfl, ht1⟩ := bk_sr_long hst
    obtain ⟨t2, rfl, ht2⟩ := bk_sr_long ht1
    exact row (hk _ _ _ _ (bk_le_rf _) hs2 σ H locs ls _ he hR hS hL (bk_sr_l ht2))
theorem bk_o_lsh {ins : Instr} {n a b k d : Nat} {v : Value} {ps : List (Int32 × Nat)} (f : Int64 → Int32 → Int64) (row : ∀ {x : Int64} {y : Int32} {H : Heap} {locs : List Loc} {cells slots : Nat} {ls : Array Slot} {rest : List Value}, W p l e R s m args below meth c H locs cells slots Q (F0 m (pc + 1) ls (.long (f x y) :: rest)) → W p l e R s m args below meth c H locs cells slots Q (F0 m pc ls (.int y :: .long x :: rest)))
    (hsem : ∀ L st h K, bk_sem (ins, n, a, b, k, d, v, ps, []) cl pc L st h K = bk_lsh f pc L st h K) : bk_Ok w p l e R s m args below meth c nL h0 σ0 r Q cl pc (ins, n, a, b, k, d, v, ps, []) := by
  intro L st h K hle hs hg hk σ H locs ls st' he hR hS hL hst
  rw [hsem] at hs
  rcases st with _ | ⟨v, _ | ⟨u, st⟩⟩
  · cases hs
  · cases hs
  · obtain ⟨y, rfl, hs1⟩ := bk_I_inv hs
    obtain ⟨x, rfl, hs2⟩ := bk_J_inv hs1
    obtain ⟨t1, rfl, ht1⟩ := bk_sr_int hst
    obtain ⟨t2, rfl, ht2⟩ := bk_sr_long ht1
    exact row (hk _ _ _ _ (bk_le_rf _) hs2 σ H locs ls _ he hR hS hL (bk_sr_l ht2))
theorem bk_o_iunI {ins : Instr} {n a b k d : Nat} {v : Value} {ps : List (Int32 × Nat)} (f : Int32 → Int32) (row : ∀ {x : Int32} {H : Heap} {locs : List Loc} {cells slots : Nat} {ls : Array Slot} {rest : List Value}, W p l e R s m args below meth c H locs cells slots Q (F0 m (pc + 1) ls (.int (f x) :: rest)) → W p l e R s m args below meth c H locs cells slots Q (F0 m pc ls (.int x :: rest)))
    (hsem : ∀ L st h K, bk_sem (ins, n, a, b, k, d, v, ps, []) cl pc L st h K = bk_iun (fun x => .int (f x)) pc L st h K) : bk_Ok w p l e R s m args below meth c nL h0 σ0 r Q cl pc (ins, n, a, b, k, d, v, ps, []) := by
  intro L st h K hle hs hg hk σ H locs ls st' he hR hS hL hst
  rw [hsem] at hs
  rcases st with _ | ⟨v, st⟩
  · cases hs
  · obtain ⟨x, rfl, hs1⟩ := bk_I_inv hs
    obtain ⟨t1, rfl, ht1⟩ := bk_sr_int hst
    exact row (hk _ _ _ _ (bk_le_rf _) hs1 σ H locs ls _ he hR hS hL (bk_sr_i ht1))
theorem bk_o_i2l {n a b k d : Nat} {v : Value} {ps : List (Int32 × Nat)} (C : bk_Cx w p s m args meth c cc nL own) (hd : decode cc pc = .ok (.i2l, 1)) : bk_Ok w p l e R s m args below meth c nL h0 σ0 r Q cl pc (.i2l, n, a, b, k, d, v, ps, []) := by
  intro L st h K hle hs hg hk σ H locs ls st' he hR hS hL hst
  have hs1 : bk_iun (fun x => .long x.toInt64) pc L st h K = some r := hs
  rcases st with _ | ⟨v, st⟩
  · cases hs
  · obtain ⟨x, rfl, hs2⟩ := bk_I_inv hs1
    obtain ⟨t1, rfl, ht1⟩ := bk_sr_int hst
    exact lv_i2l C.1 C.2.1 hd rfl (hk _ _ _ _ (bk_le_rf _) hs2 σ H locs ls _ he hR hS hL (bk_sr_l ht1))
theorem bk_o_l2i {n a b k d : Nat} {v : Value} {ps : List (Int32 × Nat)} (C : bk_Cx w p s m args meth c cc nL own) (hd : decode cc pc = .ok (.l2i, 1)) : bk_Ok w p l e R s m args below meth c nL h0 σ0 r Q cl pc (.l2i, n, a, b, k, d, v, ps, []) := by
  intro L st h K hle hs hg hk σ H locs ls st' he hR hS hL hst
  have hs1 : bk_lun (fun x => .int x.toInt32) pc L st h K = some r := hs
  rcases st with _ | ⟨v, st⟩
  · cases hs
  · obtain ⟨x, rfl, hs2⟩ := bk_J_inv hs1
    obtain ⟨t1, rfl, ht1⟩ := bk_sr_long hst
    exact lv_l2i C.1 C.2.1 hd rfl (hk _ _ _ _ (bk_le_rf _) hs2 σ H locs ls _ he hR hS hL (bk_sr_i ht1))
theorem bk_o_lcmp {n a b k d : Nat} {v : Value} {ps : List (Int32 × Nat)} (C : bk_Cx w p s m args meth c cc nL own) (hd : decode cc pc = .ok (.lcmp, 1)) : bk_Ok w p l e R s m args below meth c nL h0 σ0 r Q cl pc (.lcmp, n, a, b, k, d, v, ps, []) := by
  intro L st h K hle hs hg hk σ H locs ls st' he hR hS hL hst
  rcases st with _ | ⟨v, _ | ⟨u, st⟩⟩
  · cases hs
  · cases hs
  · have hs1 : bk_J v (fun y => bk_J u fun x => K (pc + 1) L (.int (bk_lcmp x y) :: st) h) = some r := hs
    obtain ⟨y, rfl, hs2⟩ := bk_J_inv hs1
    obtain ⟨x, rfl, hs3⟩ := bk_J_inv hs2
    obtain ⟨t1, rfl, ht1⟩ := bk_sr_long hst
    obtain ⟨t2, rfl, ht2⟩ := bk_sr_long ht1
    exact W.lcmp C.1 C.2.1 hd (hk _ _ _ _ (bk_le_rf _) hs3 σ H locs ls _ he hR hS hL (bk_sr_i ht2))
theorem bk_o_idiv {n a b k d : Nat} {v : Value} {ps : List (Int32 × Nat)} (C : bk_Cx w p s m args meth c cc nL own) (hd : decode cc pc = .ok (.idiv, 1)) : bk_Ok w p l e R s m args below meth c nL h0 σ0 r Q cl pc (.idiv, n, a, b, k, d, v, ps, []) := by
  intro L st h K hle hs hg hk σ H locs ls st' he hR hS hL hst
  rcases st with _ | ⟨v, _ | ⟨u, st⟩⟩
  · cases hs
  · cases hs
  · have hs1 : bk_I v (fun y => bk_I u fun x => bk_nz y (K (pc + 1) L (.int (x / y) :: st) h)) = some r := hs
    obtain ⟨y, rfl, hs2⟩ := bk_I_inv hs1
    obtain ⟨x, rfl, hs3⟩ := bk_I_inv hs2
    obtain ⟨hy, hs4⟩ := bk_nz_inv hs3
    obtain ⟨t1, rfl, ht1⟩ := bk_sr_int hst
    obtain ⟨t2, rfl, ht2⟩ := bk_sr_int ht1
    exact lv_idiv C.1 C.2.1 hd hy (hk _ _ _ _ (bk_le_rf _) hs4 σ H locs ls _ he hR hS hL (bk_sr_i ht2))
theorem bk_o_irem {n a b k d : Nat} {v : Value} {ps : List (Int32 × Nat)} (C : bk_Cx w p s m args meth c cc nL own) (hd : decode cc pc = .ok (.irem, 1)) : bk_Ok w p l e R s m args below meth c nL h0 σ0 r Q cl pc (.irem, n, a, b, k, d, v, ps, []) := by
  intro L st h K hle hs hg hk σ H locs ls st' he hR hS hL hst
  rcases st with _ | ⟨v, _ | ⟨u, st⟩⟩
  · cases hs
  · cases hs
  · have hs1 : bk_I v (fun y => bk_I u fun x => bk_nz y (K (pc + 1) L (.int (x - x / y * y) :: st) h)) = some r := hs
    obtain ⟨y, rfl, hs2⟩ := bk_I_inv hs1
    obtain ⟨x, rfl, hs3⟩ := bk_I_inv hs2
    obtain ⟨hy, hs4⟩ := bk_nz_inv hs3
    obtain ⟨t1, rfl, ht1⟩ := bk_sr_int hst
    obtain ⟨t2, rfl, ht2⟩ := bk_sr_int ht1
    exact lv_irem C.1 C.2.1 hd hy (hk _ _ _ _ (bk_le_rf _) hs4 σ H locs ls _ he hR hS hL (bk_sr_i ht2))
theorem bk_o_ldiv {n a b k d : Nat} {v : Value} {ps : List (Int32 × Nat)} (C : bk_Cx w p s m args meth c cc nL own) (hd : decode cc pc = .ok (.ldiv, 1)) : bk_Ok w p l e R s m args below meth c nL h0 σ0 r Q cl pc (.ldiv, n, a, b, k, d, v, ps, []) := by
  intro L st h K hle hs hg hk σ H locs ls st' he hR hS hL hst
  rcases st with _ | ⟨v, _ | ⟨u, st⟩⟩
  · cases hs
  · cases hs
  · have hs1 : bk_J v (fun y => bk_J u fun x => bk_nzJ y (K (pc + 1) L (.long (x / y) :: st) h)) = some r := hs
    obtain ⟨y, rfl, hs2⟩ := bk_J_inv hs1
    obtain ⟨x, rfl, hs3⟩ := bk_J_inv hs2
    obtain ⟨hy, hs4⟩ := bk_nzJ_inv hs3
    obtain ⟨t1, rfl, ht1⟩ := bk_sr_long hst
    obtain ⟨t2, rfl, ht2⟩ := bk_sr_long ht1
    exact lv_ldiv C.1 C.2.1 hd hy (hk _ _ _ _ (bk_le_rf _) hs4 σ H locs ls _ he hR hS hL (bk_sr_l ht2))
theorem bk_o_lrem {n a b k d : Nat} {v : Value} {ps : List (Int32 × Nat)} (C : bk_Cx w p s m args meth c cc nL own) (hd : decode cc pc = .ok (.lrem, 1)) : bk_Ok w p l e R s m args below meth c nL h0 σ0 r Q cl pc (.lrem, n, a, b, k, d, v, ps, []) := by
  intro L st h K hle hs hg hk σ H locs ls st' he hR hS hL hst
  rcases st with _ | ⟨v, _ | ⟨u, st⟩⟩
  · cases hs
  · cases hs
  · have hs1 : bk_J v (fun y => bk_J u fun x => bk_nzJ y (K (pc + 1) L (.long (x - x / y * y) :: st) h)) = some r := hs
    obtain ⟨y, rfl, hs2⟩ := bk_J_inv hs1
    obtain ⟨x, rfl, hs3⟩ := bk_J_inv hs2
    obtain ⟨hy, hs4⟩ := bk_nzJ_inv hs3
    obtain ⟨t1, rfl, ht1⟩ := bk_sr_long hst
    obtain ⟨t2, rfl, ht2⟩ := bk_sr_long ht1
    exact lv_lrem C.1 C.2.1 hd hy (hk _ _ _ _ (bk_le_rf _) hs4 σ H locs ls _ he hR hS hL (bk_sr_l ht2))
theorem bk_o_iadd {n a b k d : Nat} {v : Value} {ps : List (Int32 × Nat)} (C : bk_Cx w p s m args meth c cc nL own) (hd : decode cc pc = .ok (.iadd, 1)) : bk_Ok w p l e R s m args below meth c nL h0 σ0 r Q cl pc (.iadd, n, a, b, k, d, v, ps, []) :=
  bk_o_ibin (fun x y => x + y) (fun k => lv_iadd C.1 C.2.1 hd k) (fun _ _ _ _ => rfl)
theorem bk_o_isub {n a b k d : Nat} {v : Value} {ps : List (Int32 × Nat)} (C : bk_Cx w p s m args meth c cc nL own) (hd : decode cc pc = .ok (.isub, 1)) : bk_Ok w p l e R s m args below meth c nL h0 σ0 r Q cl pc (.isub, n, a, b, k, d, v, ps, []) :=
  bk_o_ibin (fun x y => x - y) (fun k => lv_isub C.1 C.2.1 hd k) (fun _ _ _ _ => rfl)
theorem bk_o_imul {n a b k d : Nat} {v : Value} {ps : List (Int32 × Nat)} (C : bk_Cx w p s m args meth c cc nL own) (hd : decode cc pc = .ok (.imul, 1)) : bk_Ok w p l e R s m args below meth c nL h0 σ0 r Q cl pc (.imul, n, a, b, k, d, v, ps, []) :=
  bk_o_ibin (fun x y => x * y) (fun k => lv_imul C.1 C.2.1 hd k) (fun _ _ _ _ => rfl)
theorem bk_o_iand {n a b k d : Nat} {v : Value} {ps : List (Int32 × Nat)} (C : bk_Cx w p s m args meth c cc nL own) (hd : decode cc pc = .ok (.iand, 1)) : bk_Ok w p l e R s m args below meth c nL h0 σ0 r Q cl pc (.iand, n, a, b, k, d, v, ps, []) :=
  bk_o_ibin (fun x y => x &&& y) (fun k => lv_iand C.1 C.2.1 hd k) (fun _ _ _ _ => rfl)
theorem bk_o_ior {n a b k d : Nat} {v : Value} {ps : List (Int32 × Nat)} (C : bk_Cx w p s m args meth c cc nL own) (hd : decode cc pc = .ok (.ior, 1)) : bk_Ok w p l e R s m args below meth c nL h0 σ0 r Q cl pc (.ior, n, a, b, k, d, v, ps, []) :=
  bk_o_ibin (fun x y => x ||| y) (fun k => lv_ior C.1 C.2.1 hd k) (fun _ _ _ _ => rfl)
theorem bk_o_ixor {n a b k d : Nat} {v : Value} {ps : List (Int32 × Nat)} (C : bk_Cx w p s m args meth c cc nL own) (hd : decode cc pc = .ok (.ixor, 1)) : bk_Ok w p l e R s m args below meth c nL h0 σ0 r Q cl pc (.ixor, n, a, b, k, d, v, ps, []) :=
  bk_o_ibin (fun x y => x ^^^ y) (fun k => lv_ixor C.1 C.2.1 hd k) (fun _ _ _ _ => rfl)
theorem bk_o_ishl {n a b k d : Nat} {v : Value} {ps : List (Int32 × Nat)} (C : bk_Cx w p s m args meth c cc nL own) (hd : decode cc pc = .ok (.ishl, 1)) : bk_Ok w p l e R s m args below meth c nL h0 σ0 r Q cl pc (.ishl, n, a, b, k, d, v, ps, []) :=
  bk_o_ibin (fun x y => x <<< (y &&& 31)) (fun k => lv_ishl C.1 C.2.1 hd k) (fun _ _ _ _ => rfl)
theorem bk_o_ishr {n a b k d : Nat} {v : Value} {ps : List (Int32 × Nat)} (C : bk_Cx w p s m args meth c cc nL own) (hd : decode cc pc = .ok (.ishr, 1)) : bk_Ok w p l e R s m args below meth c nL h0 σ0 r Q cl pc (.ishr, n, a, b, k, d, v, ps, []) :=
  bk_o_ibin (fun x y => x >>> (y &&& 31)) (fun k => lv_ishr C.1 C.2.1 hd k) (fun _ _ _ _ => rfl)
theorem bk_o_iushr {n a b k d : Nat} {v : Value} {ps : List (Int32 × Nat)} (C : bk_Cx w p s m args meth c cc nL own) (hd : decode cc pc = .ok (.iushr, 1)) : bk_Ok w p l e R s m args below meth c nL h0 σ0 r Q cl pc (.iushr, n, a, b, k, d, v, ps, []) :=
  bk_o_ibin (fun x y => (x.toUInt32 >>> (y.toUInt32 &&& Int32.toUInt32 31)).toInt32) (fun k => lv_iushr C.1 C.2.1 hd rfl k) (fun _ _ _ _ => rfl)
theorem bk_o_ladd {n a b k d : Nat} {v : Value} {ps : List (Int32 × Nat)} (C : bk_Cx w p s m args meth c cc nL own) (hd : decode cc pc = .ok (.ladd, 1)) : bk_Ok w p l e R s m args below meth c nL h0 σ0 r Q cl pc (.ladd, n, a, b, k, d, v, ps, []) :=
  bk_o_lbin (fun x y => x + y) (fun k => lv_ladd C.1 C.2.1 hd k) (fun _ _ _ _ => rfl)
theorem bk_o_lsub {n a b k d : Nat} {v : Value} {ps : List (Int32 × Nat)} (C : bk_Cx w p s m args meth c cc nL own) (hd : decode cc pc = .ok (.lsub, 1)) : bk_Ok w p l e R s m args below meth c nL h0 σ0 r Q cl pc (.lsub, n, a, b, k, d, v, ps, []) :=
  bk_o_lbin (fun x y => x - y) (fun k => lv_lsub C.1 C.2.1 hd k) (fun _ _ _ _ => rfl)
theorem bk_o_lmul {n a b k d : Nat} {v : Value} {ps : List (Int32 × Nat)} (C : bk_Cx w p s m args meth c cc nL own) (hd : decode cc pc = .ok (.lmul, 1)) : bk_Ok w p l e R s m args below meth c nL h0 σ0 r Q cl pc (.lmul, n, a, b, k, d, v, ps, []) :=
  bk_o_lbin (fun x y => x * y) (fun k => lv_lmul C.1 C.2.1 hd k) (fun _ _ _ _ => rfl)
theorem bk_o_land {n a b k d : Nat} {v : Value} {ps : List (Int32 × Nat)} (C : bk_Cx w p s m args meth c cc nL own) (hd : decode cc pc = .ok (.land, 1)) : bk_Ok w p l e R s m args below meth c nL h0 σ0 r Q cl pc (.land, n, a, b, k, d, v, ps, []) :=
  bk_o_lbin (fun x y => x &&& y) (fun k => lv_land C.1 C.2.1 hd k) (fun _ _ _ _ => rfl)
theorem bk_o_lor {n a b k d : Nat} {v : Value} {ps : List (Int32 × Nat)} (C : bk_Cx w p s m args meth c cc nL own) (hd : decode cc pc = .ok (.lor, 1)) : bk_Ok w p l e R s m args below meth c nL h0 σ0 r Q cl pc (.lor, n, a, b, k, d, v, ps, []) :=
  bk_o_lbin (fun x y => x ||| y) (fun k => lv_lor C.1 C.2.1 hd k) (fun _ _ _ _ => rfl)
theorem bk_o_lshl {n a b k d : Nat} {v : Value} {ps : List (Int32 × Nat)} (C : bk_Cx w p s m args meth c cc nL own) (hd : decode cc pc = .ok (.lshl, 1)) : bk_Ok w p l e R s m args below meth c nL h0 σ0 r Q cl pc (.lshl, n, a, b, k, d, v, ps, []) :=
  bk_o_lsh (fun x y => x <<< (y.toInt64 &&& 63)) (fun k => lv_lshl C.1 C.2.1 hd rfl k) (fun _ _ _ _ => rfl)
theorem bk_o_lshr {n a b k d : Nat} {v : Value} {ps : List (Int32 × Nat)} (C : bk_Cx w p s m args meth c cc nL own) (hd : decode cc pc = .ok (.lshr, 1)) : bk_Ok w p l e R s m args below meth c nL h0 σ0 r Q cl pc (.lshr, n, a, b, k, d, v, ps, []) :=
  bk_o_lsh (fun x y => x >>> (y.toInt64 &&& 63)) (fun k => lv_lshr C.1 C.2.1 hd rfl k) (fun _ _ _ _ => rfl)
theorem bk_o_i2b {n a b k d : Nat} {v : Value} {ps : List (Int32 × Nat)} (C : bk_Cx w p s m args meth c cc nL own) (hd : decode cc pc = .ok (.i2b, 1)) : bk_Ok w p l e R s m args below meth c nL h0 σ0 r Q cl pc (.i2b, n, a, b, k, d, v, ps, []) :=
  bk_o_iunI (fun x => x.toInt8.toInt32) (fun k => lv_i2b C.1 C.2.1 hd rfl k) (fun _ _ _ _ => rfl)
theorem bk_o_i2s {n a b k d : Nat} {v : Value} {ps : List (Int32 × Nat)} (C : bk_Cx w p s m args meth c cc nL own) (hd : decode cc pc = .ok (.i2s, 1)) : bk_Ok w p l e R s m args below meth c nL h0 σ0 r Q cl pc (.i2s, n, a, b, k, d, v, ps, []) :=
  bk_o_iunI (fun x => x.toInt16.toInt32) (fun k => lv_i2s C.1 C.2.1 hd rfl k) (fun _ _ _ _ => rfl)
theorem bk_o_i2c {n a b k d : Nat} {v : Value} {ps : List (Int32 × Nat)} (C : bk_Cx w p s m args meth c cc nL own) (hd : decode cc pc = .ok (.i2c, 1)) : bk_Ok w p l e R s m args below meth c nL h0 σ0 r Q cl pc (.i2c, n, a, b, k, d, v, ps, []) :=
  bk_o_iunI (fun x => (x.toUInt32 % 65536).toInt32) (fun k => lv_i2c C.1 C.2.1 hd rfl k) (fun _ _ _ _ => rfl)
/-! the stack -/
theorem bk_o_pop {n a b k d : Nat} {v : Value} {ps : List (Int32 × Nat)} (C : bk_Cx w p s m args meth c cc nL own) (hd : decode cc pc = .ok (.pop, 1)) : bk_Ok w p l e R s m args below meth c nL h0 σ0 r Q cl pc (.pop, n, a, b, k, d, v, ps, []) := by
  intro L st h K hle hs hg hk σ H locs ls st' he hR hS hL hst
  rcases st with _ | ⟨v, st⟩
  · cases hs
  · obtain ⟨y, t, rfl, hy, ht⟩ := hst
    have hc := bk_vr_cat hy
    cases v <;> first | (cases hs; done) | exact lv_pop C.1 C.2.1 hd hc (hk _ _ _ _ (bk_le_rf _) hs σ H locs ls _ he hR hS hL ht)
theorem bk_o_pop2 {n a b k d : Nat} {v : Value} {ps : List (Int32 × Nat)} (C : bk_Cx w p s m args meth c cc nL own) (hd : decode cc pc = .ok (.pop2, 1)) : bk_Ok w p l e R s m args below meth c nL h0 σ0 r Q cl pc (.pop2, n, a, b, k, d, v, ps, []) := by
  intro L st h K hle hs hg hk σ H locs ls st' he hR hS hL hst
  rcases st with _ | ⟨v, st⟩
  · cases hs
  · obtain ⟨y, t, rfl, hy, ht⟩ := hst
    have hc := bk_vr_cat hy
    cases v <;> first | (cases hs; done) | exact lv_pop2_2 C.1 C.2.1 hd hc (hk _ _ _ _ (bk_le_rf _) hs σ H locs ls _ he hR hS hL ht)
theorem bk_o_dup {n a b k d : Nat} {v : Value} {ps : List (Int32 × Nat)} (C : bk_Cx w p s m args meth c cc nL own) (hd : decode cc pc = .ok (.dup, 1)) : bk_Ok w p l e R s m args below meth c nL h0 σ0 r Q cl pc (.dup, n, a, b, k, d, v, ps, []) := by
  intro L st h K hle hs hg hk σ H locs ls st' he hR hS hL hst
  rcases st with _ | ⟨v, st⟩
  · cases hs
  · obtain ⟨y, t, rfl, hy, ht⟩ := hst
    have hc := bk_vr_cat hy
    cases v <;> first | (cases hs; done) | exact lv_dup C.1 C.2.1 hd hc (hk _ _ _ _ (bk_le_rf _) hs σ H locs ls _ he hR hS hL ⟨_, _, rfl, hy, _, _, rfl, hy, ht⟩)
theorem bk_o_dup2 {n a b k d : Nat} {v : Value} {ps : List (Int32 × Nat)} (C : bk_Cx w p s m args meth c cc nL own) (hd : decode cc pc = .ok (.dup2, 1)) : bk_Ok w p l e R s m args below meth c nL h0 σ0 r Q cl pc (.dup2, n, a, b, k, d, v, ps, []) := by
  intro L st h K hle hs hg hk σ H locs ls st' he hR hS hL hst
  rcases st with _ | ⟨v, st⟩
  · cases hs
  · obtain ⟨y, t, rfl, hy, ht⟩ := hst
    have hc := bk_vr_cat hy
    cases v with
    | long x => exact lv_dup2_2 C.1 C.2.1 hd hc (hk _ _ _ _ (bk_le_rf _) hs σ H locs ls _ he hR hS hL ⟨_, _, rfl, hy, _, _, rfl, hy, ht⟩)
    | int x =>
      rcases st with _ | ⟨u, st⟩
      · cases hs
      · obtain ⟨z, t, rfl, hz, ht⟩ := ht
        have hc2 := bk_vr_cat hz
        cases u <;> first | (cases hs; done) | exact lv_dup2_11 C.1 C.2.1 hd hc hc2 (hk _ _ _ _ (bk_le_rf _) hs σ H locs ls _ he hR hS hL ⟨_, _, rfl, hy, _, _, rfl, hz, _, _, rfl, hy, _, _, rfl, hz, ht⟩)
    | _ => cases hs
/-! branches -/
theorem bk_o_ifz {ins : Instr} {n a b k d : Nat} {v : Value} {ps : List (Int32 × Nat)} (P : Int32 → Prop) (cnd : Int32 → bk_R → bk_R → bk_R) (hc : ∀ x A B z, cnd x A B = some z → (P x ∧ A = some z) ∨ (¬ P x ∧ B = some z))
    (row : ∀ {x : Int32} {H : Heap} {locs : List Loc} {cells slots : Nat} {ls : Array Slot} {rest : List Value}, (P x → W p l e R s m args below meth c H locs cells slots Q (F0 m a ls rest)) → (¬ P x → W p l e R s m args below meth c H locs cells slots Q (F0 m (pc + 3) ls rest)) → W p l e R s m args below meth c H locs cells slots Q (F0 m pc ls (.int x :: rest)))
    (hsem : ∀ L st h K, bk_sem (ins, n, a, b, k, d, v, ps, []) cl pc L st h K = bk_ifz cnd a pc L st h K) : bk_Ok w p l e R s m args below meth c nL h0 σ0 r Q cl pc (ins, n, a, b, k, d, v, ps, []) := by
  intro L st h K hle hs hg hk σ H locs ls st' he hR hS hL hst
  rw [hsem] at hs
  rcases st with _ | ⟨v, st⟩
  · cases hs
  · obtain ⟨x, rfl, hs1⟩ := bk_I_inv hs
    obtain ⟨t1, rfl, ht1⟩ := bk_sr_int hst
    rcases hc _ _ _ _ hs1 with ⟨q, hs1⟩ | ⟨q, hs1⟩
    · exact row (fun _ => hk _ _ _ _ (bk_le_rf _) hs1 σ H locs ls _ he hR hS hL ht1) (fun n => absurd q n)
    · exact row (fun n => absurd n q) (fun _ => hk _ _ _ _ (bk_le_rf _) hs1 σ H locs ls _ he hR hS hL ht1)
theorem bk_o_icm {ins : Instr} {n a b k d : Nat} {v : Value} {ps : List (Int32 × Nat)} (P : Int32 → Int32 → Prop) (cnd : Int32 → Int32 → bk_R → bk_R → bk_R) (hc : ∀ x y A B z, cnd x y A B = some z → (P x y ∧ A = some z) ∨ (¬ P x y ∧ B = some z))
    (row : ∀ {x y : Int32} {H : Heap} {locs : List Loc} {cells slots : Nat} {ls : Array Slot} {rest : List Value}, (P x y → W p l e R s m args below meth c H locs cells slots Q (F0 m a ls rest)) → (¬ P x y → W p l e R s m args below meth c H locs cells slots Q (F0 m (pc + 3) ls rest)) → W p l e R s m args below meth c H locs cells slots Q (F0 m pc ls (.int y :: .int x :: rest)))
    (hsem : ∀ L st h K, bk_sem (ins, n, a, b, k, d, v, ps, []) cl pc L st h K = bk_icm cnd a pc L st h K) : bk_Ok w p l e R s m args below meth c nL h0 σ0 r Q cl pc (ins, n, a, b, k, d, v, ps, []) := by
  intro L st h K hle hs hg hk σ H locs ls st' he hR hS hL hst
  rw [hsem] at hs
  rcases st with _ | ⟨v, _ | ⟨u, st⟩⟩
  · cases hs
  · cases hs
  · obtain ⟨y, rfl, hs1⟩ := bk_I_inv hs
    obtain ⟨x, rfl, hs2⟩ := bk_I_inv hs1
    obtain ⟨t1, rfl, ht1⟩ := bk_sr_int hst
    obtain ⟨t2, rfl, ht2⟩ := bk_sr_int ht1
    rcases hc _ _ _ _ _ hs2 with ⟨q, hs2⟩ | ⟨q, hs2⟩
    · exact row (fun _ => hk _ _ _ _ (bk_le_rf _) hs2 σ H locs ls _ he hR hS hL ht2) (fun n => absurd q n)
    · exact row (fun n => absurd n q) (fun _ => hk _ _ _ _ (bk_le_rf _) hs2 σ H locs ls _ he hR hS hL ht2)
theorem bk_if_sw {c : Prop} [Decidable c] {A B : bk_R} {z : Option Value × bk_H} (e : bk_if c B A = some z) : (¬ c ∧ A = some z) ∨ (¬ ¬ c ∧ B = some z) := by
  rcases bk_if_inv e with ⟨h, e⟩ | ⟨h, e⟩
  · exact Or.inr ⟨fun n => n h, e⟩
  · exact Or.inl ⟨h, e⟩
theorem bk_o_if_eq {o : Int} {a b k d : Nat} {v : Value} {ps : List (Int32 × Nat)} (C : bk_Cx w p s m args meth c cc nL own) (hd : decode cc pc = .ok (.ifCond .eq o, 3)) (ht : (pc : Int) + o = (a : Int)) : bk_Ok w p l e R s m args below meth c nL h0 σ0 r Q cl pc (.ifCond .eq o, 3, a, b, k, d, v, ps, []) :=
  bk_o_ifz (fun x => x = 0) (fun x A B => bk_if (x = 0) A B) (fun _ _ _ _ e => bk_if_inv e) (fun kt kf => lv_if_eq C.1 C.2.1 hd ht kt kf) (fun _ _ _ _ => rfl)
theorem bk_o_icmp_eq {o : Int} {a b k d : Nat} {v : Value} {ps : List (Int32 × Nat)} (C : bk_Cx w p s m args meth c cc nL own) (hd : decode cc pc = .ok (.if_icmp .eq o, 3)) (ht : (pc : Int) + o = (a : Int)) : bk_Ok w p l e R s m args below meth c nL h0 σ0 r Q cl pc (.if_icmp .eq o, 3, a, b, k, d, v, ps, []) :=
  bk_o_icm (fun x y => x = y) (fun x y A B => bk_if (x = y) A B) (fun _ _ _ _ _ e => bk_if_inv e) (fun kt kf => lv_icmp_eq C.1 C.2.1 hd ht kt kf) (fun _ _ _ _ => rfl)
theorem bk_o_if_ne {o : Int} {a b k d : Nat} {v : Value} {ps : List (Int32 × Nat)} (C : bk_Cx w p s m args meth c cc nL own) (hd : decode cc pc = .ok (.ifCond .ne o, 3)) (ht : (pc : Int) + o = (a : Int)) : bk_Ok w p l e R s m args below meth c nL h0 σ0 r Q cl pc (.ifCond .ne o, 3, a, b, k, d, v, ps, []) :=
  bk_o_ifz (fun x => ¬ x = 0) (fun x A B => bk_if (x = 0) B A) (fun _ _ _ _ e => bk_if_sw e) (fun kt kf => lv_if_ne C.1 C.2.1 hd ht kt (fun z => kf (fun q => q z))) (fun _ _ _ _ => rfl)
theorem bk_o_icmp_ne {o : Int} {a b k d : Nat} {v : Value} {ps : List (Int32 × Nat)} (C : bk_Cx w p s m args meth c cc nL own) (hd : decode cc pc = .ok (.if_icmp .ne o, 3)) (ht : (pc : Int) + o = (a : Int)) : bk_Ok w p l e R s m args below meth c nL h0 σ0 r Q cl pc (.if_icmp .ne o, 3, a, b, k, d, v, ps, []) :=
  bk_o_icm (fun x y => ¬ x = y) (fun x y A B => bk_if (x = y) B A) (fun _ _ _ _ _ e => bk_if_sw e) (fun kt kf => lv_icmp_ne C.1 C.2.1 hd ht kt (fun z => kf (fun q => q z))) (fun _ _ _ _ => rfl)
theorem bk_o_if_lt {o : Int} {a b k d : Nat} {v : Value} {ps : List (Int32 × Nat)} (C : bk_Cx w p s m args meth c cc nL own) (hd : decode cc pc = .ok (.ifCond .lt o, 3)) (ht : (pc : Int) + o = (a : Int)) : bk_Ok w p l e R s m args below meth c nL h0 σ0 r Q cl pc (.ifCond .lt o, 3, a, b, k, d, v, ps, []) :=
  bk_o_ifz (fun x => x < 0) (fun x A B => bk_if (x < 0) A B) (fun _ _ _ _ e => bk_if_inv e) (fun kt kf => lv_if_lt C.1 C.2.1 hd ht kt kf) (fun _ _ _ _ => rfl)
theorem bk_o_icmp_lt {o : Int} {a b k d : Nat} {v : Value} {ps : List (Int32 × Nat)} (C : bk_Cx w p s m args meth c cc nL own) (hd : decode cc pc = .ok (.if_icmp .lt o, 3)) (ht : (pc : Int) + o = (a : Int)) : bk_Ok w p l e R s m args below meth c nL h0 σ0 r Q cl pc (.if_icmp .lt o, 3, a, b, k, d, v, ps, []) :=
  bk_o_icm (fun x y => x < y) (fun x y A B => bk_if (x < y) A B) (fun _ _ _ _ _ e => bk_if_inv e) (fun kt kf => lv_icmp_lt C.1 C.2.1 hd ht kt kf) (fun _ _ _ _ => rfl)
theorem bk_o_if_ge {o : Int} {a b k d : Nat} {v : Value} {ps : List (Int32 × Nat)} (C : bk_Cx w p s m args meth c cc nL own) (hd : decode cc pc = .ok (.ifCond .ge o, 3)) (ht : (pc : Int) + o = (a : Int)) : bk_Ok w p l e R s m args below meth c nL h0 σ0 r Q cl pc (.ifCond .ge o, 3, a, b, k, d, v, ps, []) :=
  bk_o_ifz (fun x => 0 ≤ x) (fun x A B => bk_if (0 ≤ x) A B) (fun _ _ _ _ e => bk_if_inv e) (fun kt kf => lv_if_ge C.1 C.2.1 hd ht kt kf) (fun _ _ _ _ => rfl)
theorem bk_o_icmp_ge {o : Int} {a b k d : Nat} {v : Value} {ps : List (Int32 × Nat)} (C : bk_Cx w p s m args meth c cc nL own) (hd : decode cc pc = .ok (.if_icmp .ge o, 3)) (ht : (pc : Int) + o = (a : Int)) : bk_Ok w p l e R s m args below meth c nL h0 σ0 r Q cl pc (.if_icmp .ge o, 3, a, b, k, d, v, ps, []) :=
  bk_o_icm (fun x y => y ≤ x) (fun x y A B => bk_if (y ≤ x) A B) (fun _ _ _ _ _ e => bk_if_inv e) (fun kt kf => lv_icmp_ge C.1 C.2.1 hd ht kt kf) (fun _ _ _ _ => rfl)
theorem bk_o_if_gt {o : Int} {a b k d : Nat} {v : Value} {ps : List (Int32 × Nat)} (C : bk_Cx w p s m args meth c cc nL own) (hd : decode cc pc = .ok (.ifCond .gt o, 3)) (ht : (pc : Int) + o = (a : Int)) : bk_Ok w p l e R s m args below meth c nL h0 σ0 r Q cl pc (.ifCond .gt o, 3, a, b, k, d, v, ps, []) :=
  bk_o_ifz (fun x => 0 < x) (fun x A B => bk_if (0 < x) A B) (fun _ _ _ _ e => bk_if_inv e) (fun kt kf => lv_if_gt C.1 C.2.1 hd ht kt kf) (fun _ _ _ _ => rfl)
theorem bk_o_icmp_gt {o : Int} {a b k d : Nat} {v : Value} {ps : List (Int32 × Nat)} (C : bk_Cx w p s m args meth c cc nL own) (hd : decode cc pc = .ok (.if_icmp .gt o, 3)) (ht : (pc : Int) + o = (a : Int)) : bk_Ok w p l e R s m args below meth c nL h0 σ0 r Q cl pc (.if_icmp .gt o, 3, a, b, k, d, v, ps, []) :=
  bk_o_icm (fun x y => y < x) (fun x y A B => bk_if (y < x) A B) (fun _ _ _ _ _ e => bk_if_inv e) (fun kt kf => lv_icmp_gt C.1 C.2.1 hd ht kt kf) (fun _ _ _ _ => rfl)
theorem bk_o_if_le {o : Int} {a b k d : Nat} {v : Value} {ps : List (Int32 × Nat)} (C : bk_Cx w p s m args meth c cc nL own) (hd : decode cc pc = .ok (.ifCond .le o, 3)) (ht : (pc : Int) + o = (a : Int)) : bk_Ok w p l e R s m args below meth c nL h0 σ0 r Q cl pc (.ifCond .le o, 3, a, b, k, d, v, ps, []) :=
  bk_o_ifz (fun x => x ≤ 0) (fun x A B => bk_if (x ≤ 0) A B) (fun _ _ _ _ e => bk_if_inv e) (fun kt kf => lv_if_le C.1 C.2.1 hd ht kt kf) (fun _ _ _ _ => rfl)
theorem bk_o_icmp_le {o : Int} {a b k d : Nat} {v : Value} {ps : List (Int32 × Nat)} (C : bk_Cx w p s m args meth c cc nL own) (hd : decode cc pc = .ok (.if_icmp .le o, 3)) (ht : (pc : Int) + o = (a : Int)) : bk_Ok w p l e R s m args below meth c nL h0 σ0 r Q cl pc (.if_icmp .le o, 3, a, b, k, d, v, ps, []) :=
  bk_o_icm (fun x y => x ≤ y) (fun x y A B => bk_if (x ≤ y) A B) (fun _ _ _ _ _ e => bk_if_inv e) (fun kt kf => lv_icmp_le C.1 C.2.1 hd ht kt kf) (fun _ _ _ _ => rfl)
theorem bk_o_goto {o : Int} {a b k d : Nat} {v : Value} {ps : List (Int32 × Nat)} (C : bk_Cx w p s m args meth c cc nL own) (hd : decode cc pc = .ok (.goto o, 3)) (ht : (pc : Int) + o = (a : Int)) : bk_Ok w p l e R s m args below meth c nL h0 σ0 r Q cl pc (.goto o, 3, a, b, k, d, v, ps, []) := by
  intro L st h K hle hs hg hk σ H locs ls st' he hR hS hL hst
  exact lv_goto C.1 C.2.1 hd ht (hk _ _ _ _ (bk_le_rf _) hs σ H locs ls _ he hR hS hL hst)
theorem bk_o_ifnull {o : Int} {a b k d : Nat} {v : Value} {ps : List (Int32 × Nat)} (C : bk_Cx w p s m args meth c cc nL own) (hd : decode cc pc = .ok (.ifnull o, 3)) (ht : (pc : Int) + o = (a : Int)) : bk_Ok w p l e R s m args below meth c nL h0 σ0 r Q cl pc (.ifnull o, 3, a, b, k, d, v, ps, []) := by
  intro L st h K hle hs hg hk σ H locs ls st' he hR hS hL hst
  rcases st with _ | ⟨v, st⟩
  · cases hs
  · have hs1 : bk_A v (fun x => bk_if (x = 0) (K a L st h) (K (pc + 3) L st h)) = some r := hs
    obtain ⟨x, rfl, hs2⟩ := bk_A_inv hs1
    obtain ⟨y, t, rfl, hy, ht'⟩ := bk_sr_ref hst
    rcases hy with ⟨rfl, rfl⟩ | ⟨z, hz, rfl⟩
    · rcases bk_if_inv hs2 with ⟨-, hs2⟩ | ⟨n, -⟩
      · exact lv_ifnullN C.1 C.2.1 hd ht (hk _ _ _ _ (bk_le_rf _) hs2 σ H locs ls _ he hR hS hL ht')
      · exact absurd rfl n
    · rcases bk_if_inv hs2 with ⟨q, -⟩ | ⟨-, hs2⟩
      · rw [q, hR.2.2.2.1] at hz; cases hz
      · exact lv_ifnull C.1 C.2.1 hd (hk _ _ _ _ (bk_le_rf _) hs2 σ H locs ls _ he hR hS hL ht')
theorem bk_o_ifnonnull {o : Int} {a b k d : Nat} {v : Value} {ps : List (Int32 × Nat)} (C : bk_Cx w p s m args meth c cc nL own) (hd : decode cc pc = .ok (.ifnonnull o, 3)) (ht : (pc : Int) + o = (a : Int)) : bk_Ok w p l e R s m args below meth c nL h0 σ0 r Q cl pc (.ifnonnull o, 3, a, b, k, d, v, ps, []) := by
  intro L st h K hle hs hg hk σ H locs ls st' he hR hS hL hst
  rcases st with _ | ⟨v, st⟩
  · cases hs
  · have hs1 : bk_A v (fun x => bk_if (x = 0) (K (pc + 3) L st h) (K a L st h)) = some r := hs
    obtain ⟨x, rfl, hs2⟩ := bk_A_inv hs1
    obtain ⟨y, t, rfl, hy, ht'⟩ := bk_sr_ref hst
    rcases hy with ⟨rfl, rfl⟩ | ⟨z, hz, rfl⟩
    · rcases bk_if_inv hs2 with ⟨-, hs2⟩ | ⟨n, -⟩
      · exact lv_ifnonnullN C.1 C.2.1 hd (hk _ _ _ _ (bk_le_rf _) hs2 σ H locs ls _ he hR hS hL ht')
      · exact absurd rfl n
    · rcases bk_if_inv hs2 with ⟨q, -⟩ | ⟨-, hs2⟩
      · rw [q, hR.2.2.2.1] at hz; cases hz
      · exact lv_ifnonnull C.1 C.2.1 hd ht (hk _ _ _ _ (bk_le_rf _) hs2 σ H locs ls _ he hR hS hL ht')
end BKP
