/-! SOUNDNESS: Numbers.puts where it throws -/
set_option maxRecDepth 100000
set_option maxHeartbeats 1000000
section BKZ
variable {p : Program} {l : Launch} {e : Env} {R : Room} {s : State} {m : MethodId} {args : Array Value} {below : List Frame} {meth : Method} {c : Code} {H : Heap} {locs : List Loc} {cells slots : Nat} {Q : State → Prop} {cc : ByteArray} {pc : Nat} {ls : Array Slot} {rest : List Value}
/-- a store beyond an array, of each of the four sorts -/
theorem bk_bastZ (hexec : p.tables.exec = Jvm.exec) (hb : c.code = cc) {cA : ClassId} {n : Nat} {f : Nat → Value} {a : Nat} (hcell : H[a]? = some (arrV cA n f)) (harr : ArrOfT s cA .byte) {i x : Int32} (hout : i < 0 ∨ n ≤ i.toNatClampNeg) (hdg : decode cc pc = .ok (.bastore, 1))
    (k : ∀ tx : String, tx = (toString "Index " ++ toString i ++ toString " out of bounds for length " ++ toString n : String) → vx_Note p l e R s m args below meth c H locs cells slots Q (F0 m pc ls rest) "java/lang/ArrayIndexOutOfBoundsException" tx) : W p l e R s m args below meth c H locs cells slots Q (F0 m pc ls (.int x :: .int i :: .ref a :: rest)) := by
  intro T hT X
  obtain ⟨t, st, q⟩ := k _ rfl T hT X
  refine ⟨t, ?_, q⟩
  have h1 := X.bastoreOut hexec (by rw [hT]; exact hcell) (harr n f) (j := i) (by rw [arrV_size]; exact hout) (g := F0 m pc ls (.int x :: .int i :: .ref a :: rest)) rfl (rest := rest) rfl (by rw [hb]; exact hdg) t
  simp only [arrV_size] at h1
  exact h1 st
theorem bk_sastZ (hexec : p.tables.exec = Jvm.exec) (hb : c.code = cc) {cA : ClassId} {n : Nat} {f : Nat → Value} {a : Nat} (hcell : H[a]? = some (arrV cA n f)) (harr : ArrOfT s cA .short) {i x : Int32} (hout : i < 0 ∨ n ≤ i.toNatClampNeg) (hdg : decode cc pc = .ok (.sastore, 1))
    (k : ∀ tx : String, tx = (toString "Index " ++ toString i ++ toString " out of bounds for length " ++ toString n : String) → vx_Note p l e R s m args below meth c H locs cells slots Q (F0 m pc ls rest) "java/lang/ArrayIndexOutOfBoundsException" tx) : W p l e R s m args below meth c H locs cells slots Q (F0 m pc ls (.int x :: .int i :: .ref a :: rest)) := by
  intro T hT X
  obtain ⟨t, st, q⟩ := k _ rfl T hT X
  refine ⟨t, ?_, q⟩
  have h1 := X.sastoreOut hexec (by rw [hT]; exact hcell) (harr n f) (j := i) (by rw [arrV_size]; exact hout) (g := F0 m pc ls (.int x :: .int i :: .ref a :: rest)) rfl (rest := rest) rfl (by rw [hb]; exact hdg) t
  simp only [arrV_size] at h1
  exact h1 st
theorem bk_iastZ (hexec : p.tables.exec = Jvm.exec) (hb : c.code = cc) {cA : ClassId} {n : Nat} {f : Nat → Value} {a : Nat} (hcell : H[a]? = some (arrV cA n f)) (harr : ArrOfT s cA .int) {i x : Int32} (hout : i < 0 ∨ n ≤ i.toNatClampNeg) (hdg : decode cc pc = .ok (.iastore, 1))
    (k : ∀ tx : String, tx = (toString "Index " ++ toString i ++ toString " out of bounds for length " ++ toString n : String) → vx_Note p l e R s m args below meth c H locs cells slots Q (F0 m pc ls rest) "java/lang/ArrayIndexOutOfBoundsException" tx) : W p l e R s m args below meth c H locs cells slots Q (F0 m pc ls (.int x :: .int i :: .ref a :: rest)) := by
  intro T hT X
  obtain ⟨t, st, q⟩ := k _ rfl T hT X
  refine ⟨t, ?_, q⟩
  have h1 := X.iastoreOut hexec (by rw [hT]; exact hcell) (harr n f) (j := i) (by rw [arrV_size]; exact hout) (g := F0 m pc ls (.int x :: .int i :: .ref a :: rest)) rfl (rest := rest) rfl (by rw [hb]; exact hdg) t
  simp only [arrV_size] at h1
  exact h1 st
theorem bk_lastZ (hexec : p.tables.exec = Jvm.exec) (hb : c.code = cc) {cA : ClassId} {n : Nat} {f : Nat → Value} {a : Nat} (hcell : H[a]? = some (arrV cA n f)) (harr : ArrOfT s cA .long) {i : Int32} {x : Int64} (hout : i < 0 ∨ n ≤ i.toNatClampNeg) (hdg : decode cc pc = .ok (.lastore, 1))
    (k : ∀ tx : String, tx = (toString "Index " ++ toString i ++ toString " out of bounds for length " ++ toString n : String) → vx_Note p l e R s m args below meth c H locs cells slots Q (F0 m pc ls rest) "java/lang/ArrayIndexOutOfBoundsException" tx) : W p l e R s m args below meth c H locs cells slots Q (F0 m pc ls (.long x :: .int i :: .ref a :: rest)) := by
  intro T hT X
  obtain ⟨t, st, q⟩ := k _ rfl T hT X
  refine ⟨t, ?_, q⟩
  have h1 := X.lastoreOut hexec (by rw [hT]; exact hcell) (harr n f) (j := i) (by rw [arrV_size]; exact hout) (g := F0 m pc ls (.long x :: .int i :: .ref a :: rest)) rfl (rest := rest) rfl (by rw [hb]; exact hdg) t
  simp only [arrV_size] at h1
  exact h1 st
end BKZ
theorem bk_outof {i : Int32} {n : Nat} (hn : n < 2 ^ 31) (h : i < 0 ∨ Int32.ofNat n ≤ i) : i < 0 ∨ n ≤ i.toNatClampNeg := by
  rcases h with h | h
  · exact Or.inl h
  · refine Or.inr ?_
    rw [Int32.le_iff_toInt_le, Int32.toInt_ofNat_of_lt hn] at h
    show n ≤ i.toInt.toNat
    omega
/-! the steps of puts -/
section BKE
variable (cl : bk_C) (E : bk_K) (nb : Nat) (i : Int32) (v : Int64) (u : Value) (h : bk_H) (n : Nat)
theorem bk_pe0 : bk_runK TX3_puts cl E (n + 3) 0 [.ref nb, .int i, .long v, u] [] h = bk_A (h.1 3 nb 0) fun a => bk_inst h a 101 (bk_runK TX3_puts cl E n 7 [.ref nb, .int i, .long v, u] [.int 1] h) (bk_runK TX3_puts cl E n 7 [.ref nb, .int i, .long v, u] [.int 0] h) := rfl
theorem bk_pe25 : bk_runK TX3_puts cl E (n + 3) 25 [.ref nb, .int i, .long v, u] [] h = bk_A (h.1 3 nb 0) fun a => bk_inst h a 103 (bk_runK TX3_puts cl E n 32 [.ref nb, .int i, .long v, u] [.int 1] h) (bk_runK TX3_puts cl E n 32 [.ref nb, .int i, .long v, u] [.int 0] h) := rfl
theorem bk_pe50 : bk_runK TX3_puts cl E (n + 3) 50 [.ref nb, .int i, .long v, u] [] h = bk_A (h.1 3 nb 0) fun a => bk_inst h a 100 (bk_runK TX3_puts cl E n 57 [.ref nb, .int i, .long v, u] [.int 1] h) (bk_runK TX3_puts cl E n 57 [.ref nb, .int i, .long v, u] [.int 0] h) := rfl
theorem bk_pi7 (x : Int32) : bk_runK TX3_puts cl E (n + 1) 7 [.ref nb, .int i, .long v, u] [.int x] h = bk_if (x = 0) (bk_runK TX3_puts cl E n 25 [.ref nb, .int i, .long v, u] [] h) (bk_runK TX3_puts cl E n 10 [.ref nb, .int i, .long v, u] [] h) := rfl
theorem bk_pi32 (x : Int32) : bk_runK TX3_puts cl E (n + 1) 32 [.ref nb, .int i, .long v, u] [.int x] h = bk_if (x = 0) (bk_runK TX3_puts cl E n 50 [.ref nb, .int i, .long v, u] [] h) (bk_runK TX3_puts cl E n 35 [.ref nb, .int i, .long v, u] [] h) := rfl
theorem bk_pi57 (x : Int32) : bk_runK TX3_puts cl E (n + 1) 57 [.ref nb, .int i, .long v, u] [.int x] h = bk_if (x = 0) (bk_runK TX3_puts cl E n 74 [.ref nb, .int i, .long v, u] [] h) (bk_runK TX3_puts cl E n 60 [.ref nb, .int i, .long v, u] [] h) := rfl
theorem bk_pn7 : bk_runK TX3_puts cl E (n + 1) 7 [.ref nb, .int i, .long v, u] [.int 0] h = bk_runK TX3_puts cl E n 25 [.ref nb, .int i, .long v, u] [] h := (bk_pi7 cl E nb i v u h n 0).trans (if_pos rfl)
theorem bk_pn32 : bk_runK TX3_puts cl E (n + 1) 32 [.ref nb, .int i, .long v, u] [.int 0] h = bk_runK TX3_puts cl E n 50 [.ref nb, .int i, .long v, u] [] h := (bk_pi32 cl E nb i v u h n 0).trans (if_pos rfl)
theorem bk_pn57 : bk_runK TX3_puts cl E (n + 1) 57 [.ref nb, .int i, .long v, u] [.int 0] h = bk_runK TX3_puts cl E n 74 [.ref nb, .int i, .long v, u] [] h := (bk_pi57 cl E nb i v u h n 0).trans (if_pos rfl)
theorem bk_py7 : bk_runK TX3_puts cl E (n + 8) 7 [.ref nb, .int i, .long v, u] [.int 1] h = bk_A (h.1 3 nb 0) fun a => bk_I (h.1 201 a 0) fun _ => bk_runK TX3_puts cl E n 21 [.ref nb, .int i, .long v, u] [.int v.toInt32.toInt8.toInt32, .int i, .ref a] h := (bk_pi7 cl E nb i v u h (n + 7) 1).trans ((if_neg (by decide +kernel)).trans rfl)
theorem bk_py32 : bk_runK TX3_puts cl E (n + 8) 32 [.ref nb, .int i, .long v, u] [.int 1] h = bk_A (h.1 3 nb 0) fun a => bk_I (h.1 203 a 0) fun _ => bk_runK TX3_puts cl E n 46 [.ref nb, .int i, .long v, u] [.int v.toInt32.toInt16.toInt32, .int i, .ref a] h := (bk_pi32 cl E nb i v u h (n + 7) 1).trans ((if_neg (by decide +kernel)).trans rfl)
theorem bk_py57 : bk_runK TX3_puts cl E (n + 7) 57 [.ref nb, .int i, .long v, u] [.int 1] h = bk_A (h.1 3 nb 0) fun a => bk_I (h.1 200 a 0) fun _ => bk_runK TX3_puts cl E n 70 [.ref nb, .int i, .long v, u] [.int v.toInt32, .int i, .ref a] h := (bk_pi57 cl E nb i v u h (n + 6) 1).trans ((if_neg (by decide +kernel)).trans rfl)
theorem bk_p74 : bk_runK TX3_puts cl E (n + 5) 74 [.ref nb, .int i, .long v, u] [] h = bk_A (h.1 3 nb 0) fun a => bk_I (h.1 204 a 0) fun _ => bk_runK TX3_puts cl E n 83 [.ref nb, .int i, .long v, u] [.long v, .int i, .ref a] h := rfl
end BKE
theorem bk_lenOf_some {h : bk_H} {a : Nat} {n : Int32} {B : bk_R} (hn : h.1 201 a 0 = .int n ∨ h.1 203 a 0 = .int n ∨ h.1 200 a 0 = .int n ∨ h.1 204 a 0 = .int n) : bk_lenOf h a (fun _ => B) = B := by
  unfold bk_lenOf
  split
  · rfl
  · rename_i n1
    split
    · rfl
    · rename_i n2
      split
      · rfl
      · rename_i n3
        rcases hn with q | q | q | q
        · exact absurd q (n1 n)
        · exact absurd q (n2 n)
        · exact absurd q (n3 n)
        · rw [q]; rfl
theorem bk_inst_no {h : bk_H} {a t : Nat} {n : Int32} {A B : bk_R} (hne : ∀ z, h.1 (t + 100) a 0 ≠ .int z) (hn : h.1 201 a 0 = .int n ∨ h.1 203 a 0 = .int n ∨ h.1 200 a 0 = .int n ∨ h.1 204 a 0 = .int n) : bk_inst h a t A B = B := by
  unfold bk_inst
  split
  · rename_i z q; exact absurd q (hne z)
  · exact bk_lenOf_some hn
theorem bk_inst_yes {h : bk_H} {a t : Nat} {n : Int32} {A B : bk_R} (hn : h.1 (t + 100) a 0 = .int n) : bk_inst h a t A B = A := by
  unfold bk_inst
  rw [hn]
/-- puts comes to the store of its array's sort -/
theorem bk_puts_stop {cl : bk_C} {nb a : Nat} {i n : Int32} {v : Int64} {u : Value} {h : bk_H} {r : Option Value × bk_H} (h3 : h.1 3 nb 0 = .ref a) (hu : ∀ t t' z z', h.1 (t + 200) a 0 = .int z → h.1 (t' + 200) a 0 = .int z' → t = t') (hn : h.1 201 a 0 = .int n ∨ h.1 203 a 0 = .int n ∨ h.1 200 a 0 = .int n ∨ h.1 204 a 0 = .int n) :
    ∃ k t pc x, ((t = 1 ∧ pc = 21 ∧ ∃ y, x = .int y) ∨ (t = 3 ∧ pc = 46 ∧ ∃ y, x = .int y) ∨ (t = 0 ∧ pc = 70 ∧ ∃ y, x = .int y) ∨ (t = 4 ∧ pc = 83 ∧ ∃ y, x = .long y)) ∧ h.1 (t + 200) a 0 = .int n ∧ bk_runK TX3_puts cl (bk_at [pc] [.ref nb, .int i, .long v, u] [x, .int i, .ref a] h r) k 0 [.ref nb, .int i, .long v, u] [] h = some r := by
  have hA : ∀ F : Nat → bk_R, bk_A (h.1 3 nb 0) F = F a := fun F => by rw [h3]; rfl
  rcases hn with q | q | q | q
  · refine ⟨11, 1, 21, .int v.toInt32.toInt8.toInt32, Or.inl ⟨rfl, rfl, _, rfl⟩, q, ?_⟩
    rw [bk_pe0, hA, bk_inst_yes (t := 101) q, bk_py7, hA, q]
    exact bk_at_hit (List.mem_singleton.mpr rfl)
  · have n1 : ∀ z, h.1 (101 + 100) a 0 ≠ .int z := fun z hz => absurd (hu 1 3 _ _ hz q) (by decide)
    refine ⟨15, 3, 46, .int v.toInt32.toInt16.toInt32, Or.inr (Or.inl ⟨rfl, rfl, _, rfl⟩), q, ?_⟩
    rw [bk_pe0, hA, bk_inst_no n1 (Or.inr (Or.inl q)), bk_pn7, bk_pe25, hA, bk_inst_yes (t := 103) q, bk_py32, hA, q]
    exact bk_at_hit (List.mem_singleton.mpr rfl)
  · have n1 : ∀ z, h.1 (101 + 100) a 0 ≠ .int z := fun z hz => absurd (hu 1 0 _ _ hz q) (by decide)
    have n3 : ∀ z, h.1 (103 + 100) a 0 ≠ .int z := fun z hz => absurd (hu 3 0 _ _ hz q) (by decide)
    refine ⟨18, 0, 70, .int v.toInt32, Or.inr (Or.inr (Or.inl ⟨rfl, rfl, _, rfl⟩)), q, ?_⟩
    rw [bk_pe0, hA, bk_inst_no n1 (Or.inr (Or.inr (Or.inl q))), bk_pn7, bk_pe25, hA, bk_inst_no n3 (Or.inr (Or.inr (Or.inl q))), bk_pn32, bk_pe50, hA, bk_inst_yes (t := 100) q, bk_py57, hA, q]
    exact bk_at_hit (List.mem_singleton.mpr rfl)
  · have n1 : ∀ z, h.1 (101 + 100) a 0 ≠ .int z := fun z hz => absurd (hu 1 4 _ _ hz q) (by decide)
    have n3 : ∀ z, h.1 (103 + 100) a 0 ≠ .int z := fun z hz => absurd (hu 3 4 _ _ hz q) (by decide)
    have n0 : ∀ z, h.1 (100 + 100) a 0 ≠ .int z := fun z hz => absurd (hu 0 4 _ _ hz q) (by decide)
    refine ⟨17, 4, 83, .long v, Or.inr (Or.inr (Or.inr ⟨rfl, rfl, _, rfl⟩)), q, ?_⟩
    rw [bk_pe0, hA, bk_inst_no n1 (Or.inr (Or.inr (Or.inr q))), bk_pn7, bk_pe25, hA, bk_inst_no n3 (Or.inr (Or.inr (Or.inr q))), bk_pn32, bk_pe50, hA, bk_inst_no n0 (Or.inr (Or.inr (Or.inr q))), bk_pn57, bk_p74, hA, q]
    exact bk_at_hit (List.mem_singleton.mpr rfl)
theorem bk_CS0 {w : bk_W} {l : Launch} : bk_CS w l 0 := fun m y ws _ args h r σ args' hc => nomatch (hc : (none : bk_R) = some r)
theorem bk_rel_one {w : bk_W} {σ : Nat → Option Nat} {h : bk_H} {H : Heap} (hR : bk_rel w σ h H) {a t t' : Nat} {z z' : Int32} (h1 : h.1 (t + 200) a 0 = .int z) (h2 : h.1 (t' + 200) a 0 = .int z') : t = t' := by
  obtain ⟨-, -, -, -, -, τ, h5⟩ := hR
  have e1 := h5 (t + 200) a 0 (by rw [h1]; exact bk_real_i _)
  have e2 := h5 (t' + 200) a 0 (by rw [h2]; exact bk_real_i _)
  unfold bk_grp at e1 e2
  rw [if_neg (by omega)] at e1 e2
  omega
def bk_nE : String := "java/lang/NullPointerException"
def bk_iE : String := "java/lang/ArrayIndexOutOfBoundsException"
/-- puts, where it throws -/
theorem bk_putsX {w : bk_W} {l : Launch} (hl : l.stackTraces = false) {nb a : Nat} {i : Int32} {v : Int64} {h : bk_H} {σ : Nat → Option Nat} {as' : List Value} (hh : h.2.1 ≠ 0) (hsr : bk_sr σ [.ref nb, .int i, .long v] as') (h3 : h.1 3 nb 0 = .ref a) (E0 : String)
    (hE : (E0 = bk_nE ∧ a = 0) ∨ (E0 = bk_iE ∧ ∃ n, (h.1 201 a 0 = .int n ∨ h.1 203 a 0 = .int n ∨ h.1 200 a 0 = .int n ∨ h.1 204 a 0 = .int n) ∧ (i < 0 ∨ n ≤ i))) :
    vx_Met l yX3_puts (ws_ yX3_puts cX3_puts 4 none) { frames := 17, cells := 3, slots := 400, locals := 10364 } (va_Pc as' (bk_Pr w σ h)) (fun _ _ _ _ => False) (fun E' st t => E' = E0 ∧ (∃ σ', bk_ext σ σ' ∧ bk_rel w σ' (bk_lost h) t.heap) ∧ va_F (bk_own w) st t) 3 400 (bk_own w) := by
  refine vx_ofW (cc := cX3_puts) (maxL := 4) (ret := none) (by decide +kernel) rfl ?_
  intro p e s m args below meth c s₁ B hml htab hv
  obtain ⟨rfl, hbs, hR, hK⟩ := hv
  have hts0 := atoms_spec (ws := ws_ yX3_puts cX3_puts 4 none) B.pre
  have hts : ∀ x ∈ lw_all, x.before _ s = true := fun x hx => hts0 x (List.mem_cons_of_mem _ hx)
  have C : bk_Cx w p s m as'.toArray meth c cX3_puts 4 "BackRescue$Numbers" := ⟨B.exec, B.bytes, hml, findClass_of_methodNamed B.named, hts, B.notSynchronized, hK, hbs⟩
  have hnm : meth.name = yX3_puts.name := (name_of_methodNamed B.named B.method).1
  have Rm : bk_Rm (0 + 1) ({ frames := 17, cells := 3, slots := 400, locals := 10364 } : Room) h (some (.float 0), bk_lost h) := ⟨Nat.le_refl _, Nat.le_refl _, by show h.2.1 + 3 - h.2.1 ≤ 3; omega, by show h.2.2 + 400 - h.2.2 ≤ 400; omega⟩
  have hlr := bk_entry_lr (n := 4) hsr (Nat.le_refl 4)
  have hL0 : bk_ini [.ref nb, .int i, .long v] 4 = [.ref nb, .int i, .long v, bk_u, bk_u].take 4 ∨ True := Or.inr trivial
  obtain ⟨Q, hQ⟩ : ∃ Q, Q = vx_MQ below (fun _ _ _ _ => False) (fun E' st t => E' = E0 ∧ (∃ σ', bk_ext σ σ' ∧ bk_rel w σ' (bk_lost h) t.heap) ∧ va_F (bk_own w) st t) as'.toArray s 3 400 (bk_own w) := ⟨_, rfl⟩
  have T : bk_Rt w p l e ({ frames := 17, cells := 3, slots := 400, locals := 10364 } : Room) s m as'.toArray below meth c cX3_puts h σ (some (.float 0), bk_lost h) Q 6 := by
    intro σ H locs ls pc st' he hR hS hcase
    rcases hcase with ⟨-, k, -⟩ | ⟨-, x, k, -⟩ | ⟨-, x, k, -⟩ | ⟨-, x, y, k, -⟩
    · exact absurd k (by simp)
    · exact absurd k (by simp)
    · exact absurd k (by simp)
    · exact absurd k (by simp)
  have hok := fun pc => ooX3_puts bk_CS0 p e ({ frames := 17, cells := 3, slots := 400, locals := 10364 } : Room) s m as'.toArray below meth c h σ (some (.float 0), bk_lost h) Q C Rm hnm hh T pc
  have hgo := fun (E : bk_K) hEg hE n pc L st hr => bk_to (E := E) (bk_call_grow 0) hok hEg hE n pc L st h (bk_le_rf h) hr
  have hlost : bk_le h (bk_lost h) := ⟨Nat.le_add_right _ _, Nat.le_add_right _ _⟩
  have hEg : ∀ (pcs : List Nat) (L0 st0 : List Value) pc L st h', bk_at pcs L0 st0 h (some (.float 0), bk_lost h) pc L st h' = some (some (.float 0), bk_lost h) → bk_le h' (bk_lost h) := by
    intro pcs L0 st0 pc L st h' q
    obtain ⟨-, -, -, rfl⟩ := bk_at_inv q
    exact hlost
  -- the end: thrown on
  have hout : ∀ (E1 : String) (H1 : Heap) (locs : List Loc) (σ' : Nat → Option Nat) (cells slots pc : Nat) (ls : Array Slot) (rest : List Value) (q9 : Addr) (ce : Cell), E1 = E0 → cells ≤ 3 → slots ≤ 400 → bk_ext σ σ' → bk_rel w σ' (bk_lost h) H1 → va_S (bk_own w) s.heap H1 locs → H1[q9]? = some ce → ce.vm = .none → s.vm.findClass E1 = some ce.cls →
      vx_W p l e ({ frames := 17, cells := 3, slots := 400, locals := 10364 } : Room) s m as'.toArray below meth c H1 locs cells slots Q (F0 m pc ls rest) q9 := by
    intro E1 H1 locs σ' cells slots pc ls rest q9 ce h1 h2 h4 he hR' hS1 hce hcv hcl
    rw [hQ]
    exact vx_out (E := E1) (fun x hx => (htab x hx).elim) B.notSynchronized hce hcv hcl (fun t ht _ => ⟨h1, ⟨σ', he, by rw [ht]; exact hR'⟩, hS1.F ht⟩) hS1.2.2 h2 h4
  have hu1 := hK.2.2.2.2.2.2.2.2.2.2.2.2.2.1
  have hu2 := hK.2.2.2.2.2.2.2.2.2.2.2.2.2.2
  have goal : bk_Gd w p l e ({ frames := 17, cells := 3, slots := 400, locals := 10364 } : Room) s m as'.toArray below meth c 4 h σ Q 0 [.ref nb, .int i, .long v, bk_u] [] h := by
    rcases hE with ⟨rfl, rfl⟩ | ⟨rfl, n, hn, hout2⟩
    · have hA : ∀ F : Nat → bk_R, bk_A (h.1 3 nb 0) F = F 0 := fun F => by rw [h3]; rfl
      -- the store into null
      have g83 : bk_Gd w p l e ({ frames := 17, cells := 3, slots := 400, locals := 10364 } : Room) s m as'.toArray below meth c 4 h σ Q 83 [.ref nb, .int i, .long v, bk_u] [.long v, .int i, .ref 0] h := by
        intro σ' H locs ls st2 he hR' hS hL' hst
        obtain ⟨t1, rfl, ht1⟩ := bk_sr_long hst
        obtain ⟨t2, rfl, ht2⟩ := bk_sr_int ht1
        obtain ⟨y, t3, rfl, hy, ht3⟩ := bk_sr_ref ht2
        cases ht3
        have hy' : y = .null := by
          rcases hy with ⟨-, rfl⟩ | ⟨z, hz, -⟩
          · rfl
          · rw [hR'.2.2.2.1] at hz; cases hz
        subst hy'
        refine vx_lastoreN C.1 C.2.1 dX3_puts_83 ?_
        refine vx_npe (nb := 8) C.1 hl (bk_okw_spec C bk_atN) bk_otN hu1 hu2 hS (hL'.1.trans C.2.2.1.symm) (by show 7 < 17; omega) (by show 0 + 10240 ≤ 10364; omega) (by show h.2.1 - h.2.1 + 1 ≤ 3; omega) (by show h.2.2 - h.2.2 + 8 ≤ 400; omega) B.notSynchronized fun H1 q9 ce hz hkp hS1 hce hcv hcl => ?_
        exact hout "java/lang/NullPointerException" H1 locs σ' _ _ 83 ls [] q9 ce rfl (by omega) (by omega) he (hR'.lost hz hkp) hS1 hce hcv hcl
      have one : ∀ (pc : Nat) (st : List Value), bk_Gd w p l e ({ frames := 17, cells := 3, slots := 400, locals := 10364 } : Room) s m as'.toArray below meth c 4 h σ Q pc [.ref nb, .int i, .long v, bk_u] st h → ∀ (k pc0 : Nat) (st0 : List Value), bk_runK TX3_puts (bk_call 0) (bk_at [pc] [.ref nb, .int i, .long v, bk_u] st h (some (.float 0), bk_lost h)) k pc0 [.ref nb, .int i, .long v, bk_u] st0 h = some (some (.float 0), bk_lost h) →
          bk_Gd w p l e ({ frames := 17, cells := 3, slots := 400, locals := 10364 } : Room) s m as'.toArray below meth c 4 h σ Q pc0 [.ref nb, .int i, .long v, bk_u] st0 h := by
        intro pc st hg k pc0 st0 hr
        refine hgo _ (hEg [pc] _ _) (fun pc' L' st' h' hle q => ?_) k pc0 _ st0 hr
        obtain ⟨hpc, rfl, rfl, rfl⟩ := bk_at_inv q
        rw [List.mem_singleton.mp hpc]
        exact hg
      have nul : ∀ (pc pc1 : Nat) (st1 : List Value) (y : Value), bk_vr σ y y → (∀ (σ' : Nat → Option Nat) (H : Heap) (locs : List Loc) (ls : Array Slot), W p l e ({ frames := 17, cells := 3, slots := 400, locals := 10364 } : Room) s m as'.toArray below meth c H locs (h.2.1 - h.2.1) (h.2.2 - h.2.2) Q (F0 m pc1 ls [y]) → W p l e ({ frames := 17, cells := 3, slots := 400, locals := 10364 } : Room) s m as'.toArray below meth c H locs (h.2.1 - h.2.1) (h.2.2 - h.2.2) Q (F0 m pc ls [.null])) → True := fun _ _ _ _ _ _ => trivial
      have ins : ∀ (pc ix : Nat), decode cX3_puts pc = .ok (.instanceof ix, 3) → bk_Gd w p l e ({ frames := 17, cells := 3, slots := 400, locals := 10364 } : Room) s m as'.toArray below meth c 4 h σ Q (pc + 3) [.ref nb, .int i, .long v, bk_u] [.int 0] h → bk_Gd w p l e ({ frames := 17, cells := 3, slots := 400, locals := 10364 } : Room) s m as'.toArray below meth c 4 h σ Q pc [.ref nb, .int i, .long v, bk_u] [.ref 0] h := by
        intro pc ix hd hg σ' H locs ls st2 he hR' hS hL' hst
        obtain ⟨y, t3, rfl, hy, ht3⟩ := bk_sr_ref hst
        cases ht3
        have hy' : y = .null := by
          rcases hy with ⟨-, rfl⟩ | ⟨z, hz, -⟩
          · rfl
          · rw [hR'.2.2.2.1] at hz; cases hz
        subst hy'
        exact lv_instN C.1 C.2.1 hd (hg σ' H locs ls _ he hR' hS hL' ⟨_, _, rfl, rfl, rfl⟩)
      have g81 : bk_Gd w p l e ({ frames := 17, cells := 3, slots := 400, locals := 10364 } : Room) s m as'.toArray below meth c 4 h σ Q 81 [.ref nb, .int i, .long v, bk_u] [.ref 0] h := one 83 _ g83 2 81 _ (bk_at_hit (List.mem_singleton.mpr rfl))
      have g78 : bk_Gd w p l e ({ frames := 17, cells := 3, slots := 400, locals := 10364 } : Room) s m as'.toArray below meth c 4 h σ Q 78 [.ref nb, .int i, .long v, bk_u] [.ref 0] h := by
        intro σ' H locs ls st2 he hR' hS hL' hst
        obtain ⟨y, t3, rfl, hy, ht3⟩ := bk_sr_ref hst
        cases ht3
        have hy' : y = .null := by
          rcases hy with ⟨-, rfl⟩ | ⟨z, hz, -⟩
          · rfl
          · rw [hR'.2.2.2.1] at hz; cases hz
        subst hy'
        exact lv_castN C.1 C.2.1 dX3_puts_78 (g81 σ' H locs ls _ he hR' hS hL' ⟨_, _, rfl, Or.inl ⟨rfl, rfl⟩, rfl⟩)
      have seg : ∀ E : bk_K, bk_runK TX3_puts (bk_call 0) E 2 74 [.ref nb, .int i, .long v, bk_u] [] h = bk_A (h.1 3 nb 0) fun a => E 78 [.ref nb, .int i, .long v, bk_u] [.ref a] h := fun E => rfl
      have seg50 : ∀ E : bk_K, bk_runK TX3_puts (bk_call 0) E 2 50 [.ref nb, .int i, .long v, bk_u] [] h = bk_A (h.1 3 nb 0) fun a => E 54 [.ref nb, .int i, .long v, bk_u] [.ref a] h := fun E => rfl
      have seg25 : ∀ E : bk_K, bk_runK TX3_puts (bk_call 0) E 2 25 [.ref nb, .int i, .long v, bk_u] [] h = bk_A (h.1 3 nb 0) fun a => E 29 [.ref nb, .int i, .long v, bk_u] [.ref a] h := fun E => rfl
      have seg0 : ∀ E : bk_K, bk_runK TX3_puts (bk_call 0) E 2 0 [.ref nb, .int i, .long v, bk_u] [] h = bk_A (h.1 3 nb 0) fun a => E 4 [.ref nb, .int i, .long v, bk_u] [.ref a] h := fun E => rfl
      have g57 := one 78 _ g78 3 57 [.int 0] (by rw [bk_pn57, seg, hA]; exact bk_at_hit (List.mem_singleton.mpr rfl))
      have g54 := ins 54 19 dX3_puts_54 g57
      have g32 := one 54 _ g54 3 32 [.int 0] (by rw [bk_pn32, seg50, hA]; exact bk_at_hit (List.mem_singleton.mpr rfl))
      have g29 := ins 29 17 dX3_puts_29 g32
      have g7 := one 29 _ g29 3 7 [.int 0] (by rw [bk_pn7, seg25, hA]; exact bk_at_hit (List.mem_singleton.mpr rfl))
      have g4 := ins 4 15 dX3_puts_4 g7
      exact one 4 _ g4 2 0 [] (by rw [seg0, hA]; exact bk_at_hit (List.mem_singleton.mpr rfl))
    · obtain ⟨k, t, pc, x, hx, hnt, hrun⟩ := bk_puts_stop (cl := bk_call 0) (i := i) (v := v) (u := bk_u) (r := (some (.float 0), bk_lost h)) h3 (fun t t' z z' q1 q2 => bk_rel_one hR q1 q2) hn
      refine hgo _ (hEg [pc] _ _) (fun pc' L' st' h' hle q => ?_) k 0 _ [] hrun
      obtain ⟨hpc, rfl, rfl, rfl⟩ := bk_at_inv q
      rw [List.mem_singleton.mp hpc]
      intro σ' H locs ls st2 he hR' hS hL' hst
      obtain ⟨b, hb, hc⟩ := hR'.read hnt (bk_real_i _)
      have ht8 : t < 8 := by
        rcases hx with ⟨q, -⟩ | ⟨q, -⟩ | ⟨q, -⟩ | ⟨q, -⟩ <;> omega
      obtain ⟨N, f, g1, g2, g3⟩ := hc.len (by omega) (by omega)
      have e200 : t + 200 - 200 = t := by omega
      rw [e200] at g1
      have hnN : n = Int32.ofNat N := by cases g3; rfl
      have ho := bk_outof g2 (hnN ▸ hout2)
      have harr := (hK.2.1 t ht8).1
      have key : ∀ (ls : Array Slot) (tx : String), ls.size = 4 → tx = (toString "Index " ++ toString i ++ toString " out of bounds for length " ++ toString N : String) → vx_Note p l e ({ frames := 17, cells := 3, slots := 400, locals := 10364 } : Room) s m as'.toArray below meth c H locs (h'.2.1 - h'.2.1) (h'.2.2 - h'.2.2) Q (F0 m pc ls []) "java/lang/ArrayIndexOutOfBoundsException" tx := by
        intro ls tx hls htx
        refine vx_vm (nb := 212) (names := ["java/lang/IndexOutOfBoundsException", "java/lang/RuntimeException", "java/lang/Exception"]) C.1 hl (by decide +kernel) (by decide +kernel) (by decide +kernel) (by decide +kernel) (bk_okw_spec C bk_atI) bk_otI hu1 hu2 hS (hls.trans C.2.2.1.symm) (by rw [htx]; exact index_text_modelled i N) (by rw [htx]; exact index_text_bytes i g2) (by omega)
          (by show 3 + 4 < 17; omega) (by show 0 + 10240 ≤ 10364; omega) (by show 13 * 3 + 55 ≤ 10240; omega) (by show h'.2.1 - h'.2.1 + 3 ≤ 3; omega) (by show h'.2.2 - h'.2.2 + (212 + 10) ≤ 400; omega) B.notSynchronized fun H1 q9 ce hz hkp hS1 hce hcv hcl => ?_
        exact hout "java/lang/ArrayIndexOutOfBoundsException" H1 locs σ' _ _ pc ls [] q9 ce rfl (by omega) (by omega) he (hR'.lost hz hkp) hS1 hce hcv hcl
      obtain ⟨y1, t1, rfl, hy1, ht1⟩ := hst
      obtain ⟨t2, rfl, ht2⟩ := bk_sr_int ht1
      obtain ⟨t3, rfl, ht3⟩ := bk_sr_at hR'.2.2.2.1 hb ht2
      cases ht3
      rcases hx with ⟨rfl, rfl, y, rfl⟩ | ⟨rfl, rfl, y, rfl⟩ | ⟨rfl, rfl, y, rfl⟩ | ⟨rfl, rfl, y, rfl⟩
      · cases hy1
        exact bk_bastZ C.1 C.2.1 g1 harr ho dX3_puts_21 fun tx htx => key ls tx hL'.1 htx
      · cases hy1
        exact bk_sastZ C.1 C.2.1 g1 harr ho dX3_puts_46 fun tx htx => key ls tx hL'.1 htx
      · cases hy1
        exact bk_iastZ C.1 C.2.1 g1 harr ho dX3_puts_70 fun tx htx => key ls tx hL'.1 htx
      · cases hy1
        exact bk_lastZ C.1 C.2.1 g1 harr ho dX3_puts_83 fun tx htx => key ls tx hL'.1 htx
  have hW := goal σ s.heap [] _ [] bk_ext.rf hR va_S.rf hlr rfl
  rw [Nat.sub_self, Nat.sub_self, hQ] at hW
  rw [lg_entry_eq]
  exact hW
