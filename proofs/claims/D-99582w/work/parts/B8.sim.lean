/-! SPECS: the two parsers side by side: what is promised of a sum, of a truth -/
set_option maxRecDepth 100000
theorem wfc_mono {W : Int} : ∀ (d : Nat) (tr : Bool) (cs : List Int), wfc d tr W cs → ∀ e, d ≤ e → wfc e tr W cs := by
  intro d
  induction d with
  | zero => intro tr cs h; exact h.elim
  | succ d ih =>
    intro tr cs h e he
    obtain ⟨e', rfl⟩ : ∃ e', e = e' + 1 := ⟨e - 1, by omega⟩
    have up := fun tr cs h => ih tr cs h e' (by omega)
    cases tr with
    | false =>
      rcases h with h | h | ⟨a, b, c, h1, h2, h3⟩ | ⟨q, t, e, h1, h2, h3, h4⟩
      · exact Or.inl h
      · exact Or.inr (Or.inl h)
      · exact Or.inr (Or.inr (Or.inl ⟨a, b, c, up _ _ h1, up _ _ h2, h3⟩))
      · exact Or.inr (Or.inr (Or.inr ⟨q, t, e, up _ _ h1, up _ _ h2, up _ _ h3, h4⟩))
    | true =>
      rcases h with ⟨a, b, c, h1, h2, h3⟩ | ⟨a, h1, h2⟩ | ⟨a, b, c, h1, h2, h3⟩
      · exact Or.inl ⟨a, b, c, up _ _ h1, up _ _ h2, h3⟩
      · exact Or.inr (Or.inl ⟨a, up _ _ h1, h2⟩)
      · exact Or.inr (Or.inr ⟨a, b, c, up _ _ h1, up _ _ h2, h3⟩)
/-- the heap has grown: what was there stays, what is beyond is nothing -/
def bEx (g : bG) (n : Nat × Nat) (g' : bG) (n' : Nat × Nat) : Prop := (∀ t a k, a < n.1 → g' t a k = g t a k) ∧ n.1 ≤ n'.1 ∧ n.2 ≤ n'.2 ∧ ∀ t a k, n'.1 ≤ a → g' t a k = bk_u
theorem bEx_tr {g g' g'' : bG} {n n' n'' : Nat × Nat} (h : bEx g n g' n') (h' : bEx g' n' g'' n'') : bEx g n g'' n'' :=
  ⟨fun t a k q => (h'.1 t a k (by have := h.2.1; omega)).trans (h.1 t a k q), Nat.le_trans h.2.1 h'.2.1, Nat.le_trans h.2.2.1 h'.2.2.1, h'.2.2.2⟩
theorem u_int {x : Int32} : ¬ (bk_u = Value.int x) := fun h => by cases h
theorem u_ref {x : Nat} : ¬ (bk_u = Value.ref x) := fun h => by cases h
/-- the heap's cells from N on -/
def gHi (g : bG) (N : Nat) : bG := fun t a k => if N ≤ a then g t a k else bk_u
theorem gHi_on {g : bG} {N t a k : Nat} (h : N ≤ a) : gHi g N t a k = g t a k := if_pos h
theorem gHi_off {g : bG} {N t a k : Nat} (h : ¬ N ≤ a) : gHi g N t a k = bk_u := if_neg h
/-- a tree in another heap, at any greater depth -/
theorem bTr_on {g g' : bG} (S : Nat → Prop) (hf : ∀ t a k, ¬ S a → g t a k = bk_u) (hx : ∀ t a k, S a → g' t a k = g t a k) {W : Int} : ∀ (d : Nat) (tr : Bool) (x : Nat) (cs : List Int), bTr g d tr W x cs → ∀ e, d ≤ e → bTr g' e tr W x cs := by
  intro d
  induction d with
  | zero => intro tr x cs h; exact h.elim
  | succ d ih =>
    intro tr x cs h e he
    obtain ⟨e', rfl⟩ : ∃ e', e = e' + 1 := ⟨e - 1, by omega⟩
    have up := fun tr x cs h => ih tr x cs h e' (by omega)
    have lt : ∀ t k, g t x k ≠ bk_u → S x := fun t k q => Classical.byContradiction fun w => q (hf t x k w)
    cases tr with
    | false =>
      unfold bTr
      rcases h with ⟨m, h1, h2, h3, h4, h5⟩ | ⟨w, h1, h2, h3, h4, h5, h6⟩ | ⟨a, b, c, y, z, sg, h1, h2, h3, h4, h5, h6, h7⟩ | ⟨q, t, e, y, z, u, h1, h2, h3, h4, h5, h6, h7, h8, h9, h10⟩
      · have l := lt 13 0 (by rw [h5]; exact fun w => u_int w.symm)
        exact Or.inl ⟨m, h1, h2, h3, by rw [hx _ _ _ l]; exact h4, by rw [hx _ _ _ l]; exact h5⟩
      · have l := lt 12 0 (by rw [h6]; exact fun w => u_int w.symm)
        exact Or.inr (Or.inl ⟨w, h1, h2, h3, by rw [hx _ _ _ l]; exact h4, by rw [hx _ _ _ l]; exact h5, by rw [hx _ _ _ l]; exact h6⟩)
      · have l := lt 14 0 (by rw [h5]; exact fun w => u_ref w.symm)
        exact Or.inr (Or.inr (Or.inl ⟨a, b, c, y, z, sg, up _ _ _ h1, up _ _ _ h2, h3, h4, by rw [hx _ _ _ l]; exact h5, by rw [hx _ _ _ l]; exact h6, by rw [hx _ _ _ l]; exact h7⟩))
      · have l := lt 11 0 (by rw [h8]; exact fun w => u_ref w.symm)
        exact Or.inr (Or.inr (Or.inr ⟨q, t, e, y, z, u, up _ _ _ h1, up _ _ _ h2, up _ _ _ h3, h4, by rw [hx _ _ _ l]; exact h5, by rw [hx _ _ _ l]; exact h6, by rw [hx _ _ _ l]; exact h7, by rw [hx _ _ _ l]; exact h8, by rw [hx _ _ _ l]; exact h9, by rw [hx _ _ _ l]; exact h10⟩))
    | true =>
      unfold bTr
      rcases h with ⟨a, b, c, y, z, sg, h1, h2, h3, h4, h5, h6, h7⟩ | ⟨a, y, h1, h2, h3, h4, h5⟩ | ⟨a, b, c, y, z, sg, h1, h2, h3, h4, h5, h6, h7, h8⟩
      · have l := lt 8 0 (by rw [h5]; exact fun w => u_ref w.symm)
        exact Or.inl ⟨a, b, c, y, z, sg, up _ _ _ h1, up _ _ _ h2, h3, h4, by rw [hx _ _ _ l]; exact h5, by rw [hx _ _ _ l]; exact h6, by rw [hx _ _ _ l]; exact h7⟩
      · have l := lt 7 0 (by rw [h5]; exact fun w => u_ref w.symm)
        exact Or.inr (Or.inl ⟨a, y, up _ _ _ h1, h2, by rw [hx _ _ _ l]; exact h3, by rw [hx _ _ _ l]; exact h4, by rw [hx _ _ _ l]; exact h5⟩)
      · have l := lt 9 0 (by rw [h6]; exact fun w => u_ref w.symm)
        exact Or.inr (Or.inr ⟨a, b, c, y, z, sg, up _ _ _ h1, up _ _ _ h2, h3, h4, by rw [hx _ _ _ l]; exact h5, by rw [hx _ _ _ l]; exact h6, by rw [hx _ _ _ l]; exact h7, by rw [hx _ _ _ l]; exact h8⟩)
/-- the component's side: where it stands; what it has done -/
def cW (cp : bF) (g : bG) (n : Nat × Nat) (rd : Nat) (F : bF) (b : Int → Int) (sz W dp : Int) (σ : Int → Int) : Prop := bPw cp g n rd b sz ∧ F rd 0 = sz ∧ cLx F rd σ ∧ F rd 7 = dp ∧ F rd 9 = W - 6
def cP (rd : Nat) (F : bF) (g : bG) (n : Nat × Nat) (σ : Int → Int) (c : Int) (F' : bF) (g' : bG) (n' : Nat × Nat) (σ' : Int → Int) : Prop := frF rd F F' ∧ cLx F' rd σ' ∧ bEx g n g' n' ∧ (n'.1 : Int) ≤ n.1 + 6 * (σ' 0 - σ 0) + c ∧ (n'.2 : Int) ≤ n.2 + 3 * (6 * (σ' 0 - σ 0) + c)
theorem bPw_ex {cp : bF} {g g' : bG} {n n' : Nat × Nat} {rd : Nat} {b : Int → Int} {sz : Int} (h : bPw cp g n rd b sz) (e : bEx g n g' n') : bPw cp g' n' rd b sz := by
  obtain ⟨hF, hS, k10, k1, kb, ke, kd, r0, r1, hfr, z0, z1, hb⟩ := h
  obtain ⟨e1, e2, e3, e4⟩ := e
  refine ⟨⟨fun q hq => ?_, fun i hi => ?_, fun i hi => ?_, fun i hi => ?_⟩, fun i hi => ?_, ?_, ?_, ?_, ?_, ?_, r0, by omega, e4, z0, z1, hb⟩
  · have l : q.2.1 < n.1 := by
      have m : ∀ q ∈ bk_fx, q.2.1 < 122 := by decide
      have := m q hq
      omega
    rw [e1 _ _ _ l]; exact hF.1 q hq
  · rw [e1 _ _ _ (by omega), e1 _ _ _ (by omega)]; exact hF.2.1 i hi
  · rw [e1 _ _ _ (by omega)]; exact hF.2.2.1 i hi
  · rw [e1 _ _ _ (by omega), e1 _ _ _ (by omega)]; exact hF.2.2.2 i hi
  · obtain ⟨a1, a2, a3, a4⟩ := hS i hi
    refine ⟨by rw [e1 _ _ _ (by omega)]; exact a1, by rw [e1 _ _ _ (by omega)]; exact a2, by rw [e1 _ _ _ (by omega)]; exact a3, fun k k0 k1 => by rw [e1 _ _ _ (by omega)]; exact a4 k k0 k1⟩
  · rw [e1 _ _ _ (by omega)]; exact k10
  · rw [e1 _ _ _ (by omega)]; exact k1
  · rw [e1 _ _ _ (by omega)]; exact kb
  · rw [e1 _ _ _ (by omega)]; exact ke
  · rw [e1 _ _ _ (by omega)]; exact kd
section SI
variable {cp : bF} {g g' g'' : bG} {n n' n'' : Nat × Nat} {rd : Nat} {F F' F'' : bF} {b σ σ' σ'' : Int → Int} {sz W dp c c' : Int}
theorem bEx_rf (h : bPw cp g n rd b sz) : bEx g n g n := ⟨fun _ _ _ _ => rfl, Nat.le_refl _, Nat.le_refl _, h.2.2.2.2.2.2.2.2.2.1⟩
theorem cW_ex (h : cW cp g n rd F b sz W dp σ) (p : cP rd F g n σ c F' g' n' σ') : cW cp g' n' rd F' b sz W dp σ' :=
  ⟨bPw_ex h.1 p.2.2.1, (p.1.2 0 (by omega)).trans h.2.1, p.2.1, (p.1.2 7 (by omega)).trans h.2.2.2.1, (p.1.2 9 (by omega)).trans h.2.2.2.2⟩
/-- a step of the parser alone -/
theorem cP_lx (h : cW cp g n rd F b sz W dp σ) (f : frF rd F F') (l : cLx F' rd σ') (c0 : 0 ≤ 6 * (σ' 0 - σ 0) + c) : cP rd F g n σ c F' g n σ' := ⟨f, l, bEx_rf h.1, by omega, by omega⟩
theorem cP_rf (h : cW cp g n rd F b sz W dp σ) : cP rd F g n σ 0 F g n σ := cP_lx h (frF_rf rd F) h.2.2.1 (by omega)
theorem cP_tr (p : cP rd F g n σ c F' g' n' σ') (p' : cP rd F' g' n' σ' c' F'' g'' n'' σ'') : cP rd F g n σ (c + c') F'' g'' n'' σ'' := by
  obtain ⟨a1, a2, a3, a4, a5⟩ := p
  obtain ⟨b1, b2, b3, b4, b5⟩ := p'
  exact ⟨frF_tr a1 b1, b2, bEx_tr a3 b3, by omega, by omega⟩
theorem cP_le (p : cP rd F g n σ c F' g' n' σ') (h : c ≤ c') : cP rd F g n σ c' F' g' n' σ' := ⟨p.1, p.2.1, p.2.2.1, by have := p.2.2.2.1; omega, by have := p.2.2.2.2; omega⟩
/-- counted from a later state -/
theorem cP_at {τ : Int → Int} (p : cP rd F g n σ c F' g' n' σ') (h : 6 * (σ' 0 - σ 0) + c ≤ 6 * (σ' 0 - τ 0) + c') : cP rd F g n τ c' F' g' n' σ' := ⟨p.1, p.2.1, p.2.2.1, by have := p.2.2.2.1; omega, by have := p.2.2.2.2; omega⟩
/-- a new object -/
theorem bEx_new {k : Nat} {fs : List Value} (h : bPw cp g n rd b sz) : bEx g n (gN g k n.1 fs) (n.1 + 1, n.2 + fs.length) ∧ isN1 (gN g k n.1 fs) k n.1 fs := by
  have hf := h.2.2.2.2.2.2.2.2.2.1
  refine ⟨⟨fun t a j q => ?_, Nat.le_succ _, Nat.le_add_right _ _, fun t a j q => ?_⟩, fun t j q => ?_, fun j q => ?_⟩
  · unfold gN; rw [if_neg (by omega)]
  · unfold gN; rw [if_neg (by dsimp only at q; omega)]; exact hf t a j (by dsimp only at q; omega)
  · unfold gN; rw [if_neg (fun w => q w.1)]; exact hf t n.1 j (Nat.le_refl _)
  · unfold gN; rw [if_pos ⟨rfl, rfl, q⟩]
theorem isN1_ex {k x : Nat} {fs : List Value} (h : isN1 g k x fs) (e : bEx g n g' n') (hx : x < n.1) : isN1 g' k x fs :=
  ⟨fun t j q => by rw [e.1 _ _ _ hx]; exact h.1 t j q, fun j q => by rw [e.1 _ _ _ hx]; exact h.2 j q⟩
theorem cP_new {k : Nat} {fs : List Value} (h : cW cp g n rd F b sz W dp σ) (l : fs.length ≤ 3) : cP rd F g n σ 1 F (gN g k n.1 fs) (n.1 + 1, n.2 + fs.length) σ :=
  ⟨frF_rf rd F, h.2.2.1, (bEx_new h.1).1, by dsimp only; omega, by dsimp only; omega⟩
/-- an object below is written -/
theorem bEx_put {x : Nat} (e : bEx g n g' n') (hx : n.1 ≤ x) (hx2 : x < n'.1) (hn : ∀ t a j, a ≠ x → g'' t a j = g' t a j) : bEx g n g'' n' :=
  ⟨fun t a j q => by rw [hn t a j (by omega)]; exact e.1 t a j q, e.2.1, e.2.2.1, fun t a j q => by rw [hn t a j (by omega)]; exact e.2.2.2 t a j q⟩
theorem cP_put {x : Nat} (p : cP rd F g n σ c F' g' n' σ') (hx : n.1 ≤ x) (hx2 : x < n'.1) (hn : ∀ t a j, a ≠ x → g'' t a j = g' t a j) : cP rd F g n σ c F' g'' n' σ' :=
  ⟨p.1, p.2.1, bEx_put p.2.2.1 hx hx2 hn, p.2.2.2.1, p.2.2.2.2⟩
end SI
/-- the twin's side -/
def tW (tp ts : bF) (g : bG) (b : Int → Int) (sz W : Int) (σ : Int → Int) : Prop := bTw tp g b sz ∧ ts 102 8 = sz ∧ tLx ts σ ∧ ts 102 15 = W - 6 ∧ 0 ≤ ts 106 98 ∧ ts 106 98 ≤ σ 0
def tP (ts ts' : bF) (σ σ' : Int → Int) (s : Int) (cs : List Int) : Prop := (∀ a, a ≠ 102 → a ≠ 106 → ts' a = ts a) ∧ (∀ k, k < 6 ∨ k = 8 ∨ 12 < k → ts' 102 k = ts 102 k) ∧ tLx ts' σ' ∧ (∀ k, k ≠ 98 → k < 99 + ts 106 98 → ts' 106 k = ts 106 k) ∧ ts 106 98 ≤ ts' 106 98 ∧ ts' 106 98 - ts 106 98 + s ≤ σ' 0 - σ 0
  ∧ (σ' 4 = 0 → ts' 106 98 = ts 106 98 + cs.length ∧ ∀ i : Int, 0 ≤ i → i < cs.length → ts' 106 (99 + ts 106 98 + i) = cs.getD i.toNat 0)
section TI
variable {tp ts ts' ts'' : bF} {g : bG} {b σ σ' σ'' : Int → Int} {sz W s s' c : Int} {cs cs' : List Int}
theorem tP_lx (h : tW tp ts g b sz W σ) (f : frT ts ts') (l : tLx ts' σ') (hs : σ 0 + s ≤ σ' 0) : tP ts ts' σ σ' s [] := by
  have e : ts' 106 = ts 106 := f.1 106 (by decide)
  refine ⟨fun a q _ => f.1 a q, fun k q => f.2 k q, l, fun k _ _ => by rw [e], by rw [e]; omega, by rw [e]; omega, fun _ => ⟨by rw [e]; simp, fun i i0 i1 => ?_⟩⟩
  simp at i1
  omega
theorem tW_p (h : tW tp ts g b sz W σ) (p : tP ts ts' σ σ' s cs) (hs : 0 ≤ s) : tW tp ts' g b sz W σ' :=
  ⟨h.1, (p.2.1 8 (by omega)).trans h.2.1, p.2.2.1, (p.2.1 15 (by omega)).trans h.2.2.2.1, by have := h.2.2.2.2.1; have := p.2.2.2.2.1; omega, by have := h.2.2.2.2.2; have := p.2.2.2.2.2.1; omega⟩
theorem getD_app {l m : List Int} {i : Int} (i0 : 0 ≤ i) : (l ++ m).getD i.toNat 0 = if i < l.length then l.getD i.toNat 0 else m.getD (i - l.length).toNat 0 := by
  by_cases q : i < l.length
  · rw [if_pos q, List.getD_eq_getElem?_getD, List.getD_eq_getElem?_getD, List.getElem?_append_left (by omega)]
  · rw [if_neg q, List.getD_eq_getElem?_getD, List.getD_eq_getElem?_getD, List.getElem?_append_right (by omega)]
    have e : i.toNat - l.length = (i - l.length).toNat := by omega
    rw [e]
theorem tP_tr (n0 : 0 ≤ ts 106 98) (p : tP ts ts' σ σ' s cs) (p' : tP ts' ts'' σ' σ'' s' cs') (st : σ'' 4 = 0 → σ' 4 = 0) : tP ts ts'' σ σ'' (s + s') (cs ++ cs') := by
  obtain ⟨a1, a2, a3, a4, a5, a6, a7⟩ := p
  obtain ⟨b1, b2, b3, b4, b5, b6, b7⟩ := p'
  refine ⟨fun a q q' => (b1 a q q').trans (a1 a q q'), fun k q => (b2 k q).trans (a2 k q), b3, fun k q q' => (b4 k q (by omega)).trans (a4 k q q'), by omega, by omega, fun q => ?_⟩
  obtain ⟨u1, u2⟩ := b7 q
  obtain ⟨v1, v2⟩ := a7 (st q)
  have hl : ((cs ++ cs').length : Int) = cs.length + cs'.length := by rw [List.length_append]; omega
  refine ⟨by rw [u1, v1, hl]; omega, fun i i0 i1 => ?_⟩
  rw [getD_app i0]
  by_cases w : i < cs.length
  · rw [if_pos w, b4 _ (by omega) (by omega)]
    exact v2 i i0 w
  · rw [if_neg w]
    have := u2 (i - cs.length) (by omega) (by omega)
    rw [v1] at this
    have e : 99 + (ts 106 98 + (cs.length : Int)) + (i - cs.length) = 99 + ts 106 98 + i := by omega
    rw [e] at this
    exact this
theorem tP_le (p : tP ts ts' σ σ' s cs) (h : s' ≤ s) : tP ts ts' σ σ' s' cs := ⟨p.1, p.2.1, p.2.2.1, p.2.2.2.1, p.2.2.2.2.1, by have := p.2.2.2.2.2.1; omega, p.2.2.2.2.2.2⟩
/-- a code is written -/
theorem tP_code (n0 : 0 ≤ ts 106 98) (p : tP ts ts' σ σ' s cs) : tP ts (bU (bU ts' 106 (99 + ts' 106 98) c) 106 98 (ts' 106 98 + 1)) σ σ' (s - 1) (cs ++ [c]) := by
  obtain ⟨a1, a2, a3, a4, a5, a6, a7⟩ := p
  have e102 : ∀ k, bU (bU ts' 106 (99 + ts' 106 98) c) 106 98 (ts' 106 98 + 1) 102 k = ts' 102 k := fun k => by rw [bU_ne _ _ _ _ _ _ (by decide), bU_ne _ _ _ _ _ _ (by decide)]
  have e98 : bU (bU ts' 106 (99 + ts' 106 98) c) 106 98 (ts' 106 98 + 1) 106 98 = ts' 106 98 + 1 := by rw [bU_same, if_pos rfl]
  refine ⟨fun a q q' => by funext k; rw [bU_ne _ _ _ _ _ _ q', bU_ne _ _ _ _ _ _ q', a1 a q q'], fun k q => by rw [e102]; exact a2 k q, ?_, fun k q q' => by rw [bU_same, if_neg q, bU_same, if_neg (by omega)]; exact a4 k q q', by rw [e98]; omega, by rw [e98]; omega, fun q => ?_⟩
  · unfold tLx
    rw [e102, e102, e102, e102, e102, e102]
    exact a3
  · obtain ⟨v1, v2⟩ := a7 q
    have hl : ((cs ++ [c]).length : Int) = cs.length + 1 := by rw [List.length_append]; simp
    refine ⟨by rw [e98, v1, hl]; omega, fun i i0 i1 => ?_⟩
    rw [getD_app i0, bU_same, if_neg (by omega), bU_same]
    by_cases w : i < cs.length
    · rw [if_pos w, if_neg (by omega)]
      exact v2 i i0 w
    · rw [if_neg w, if_pos (by omega)]
      have e : (i - cs.length).toNat = 0 := by omega
      rw [e]; rfl
/-- a faulty parser emits nothing -/
theorem tP_any (p : tP ts ts' σ σ' s cs) (h : σ' 4 ≠ 0) : tP ts ts' σ σ' s cs' := ⟨p.1, p.2.1, p.2.2.1, p.2.2.2.1, p.2.2.2.2.1, p.2.2.2.2.2.1, fun q => absurd q h⟩
end TI
/-- how many calls deep -/
def eN (dp r : Int) : Int := 20 + 12 * (6 - dp) + r
def cSim (b : Int → Int) (sz W dp : Int) (mC : Nat) (tr : Bool) (r c : Int) (σ σ' : Int → Int) (cs : List Int) : Prop := ∀ (κ : Nat → Nat) (cp cs0 : bF) (cj : bFJ) (Y : bY) (g : bG) (n : Nat × Nat) (rd : Nat) (F : bF) (D : Nat), cW cp g n rd F b sz W dp σ → eN dp r ≤ D →
  ∃ F' g' n' x, cP rd F g n σ c F' g' n' σ' ∧ (σ' 4 = 0 → x ≠ 0 ∧ bTr (gHi g' n.1) (σ' 0 - σ 0).toNat tr W x cs) ∧ bk_call D mC [.ref rd] (bk_Q rd F (bk_M κ (cp, cs0, cj) Y g n)) = some (some (.ref x), bk_Q rd F' (bk_M κ (cp, cs0, cj) Y g' n'))
def tSim (b : Int → Int) (sz W dp : Int) (mT : Nat) (r : Int) (σ σ' : Int → Int) (cs : List Int) : Prop := ∀ (κ : Nat → Nat) (X : bX) (tp : bF) (tj : bFJ) (ts : bF) (tk : bFJ) (g : bG) (n : Nat × Nat) (D : Nat), tW tp ts g b sz W σ → eN dp r ≤ D →
  ∃ ts', tP ts ts' σ σ' 0 cs ∧ bk_call D mT [.ref 102, .int (bk_i dp)] (bk_M κ X (tp, tj, ts, tk) g n) = some (none, bk_M κ X (tp, tj, ts', tk) g n)
/-- both parsers, of one thing, from one state -/
def SIM (b : Int → Int) (sz W dp : Int) (mC mT : Nat) (tr : Bool) (r c : Int) (σ : Int → Int) : Prop := ∃ σ' cs, stepL b sz σ σ' ∧ (σ' 4 = 0 → σ 0 < σ' 0 ∧ wfc (σ' 0 - σ 0).toNat tr W cs) ∧ cSim b sz W dp mC tr r c σ σ' cs ∧ tSim b sz W dp mT r σ σ' cs
/-- both parsers' loops -/
def cLp (b : Int → Int) (sz W dp : Int) (R : bk_C → Nat → Nat → Value → bk_H → bk_R) (tr : Bool) (r : Int) (σ σ' : Int → Int) (cs : List Int) : Prop := ∀ (κ : Nat → Nat) (cp cs0 : bF) (cj : bFJ) (Y : bY) (g : bG) (n : Nat × Nat) (rd : Nat) (F : bF) (d x0 : Nat) (w : Value), cW cp g n rd F b sz W dp σ → eN dp r ≤ d + 1 →
  ∃ F' g' n' x, cP rd F g n σ 0 F' g' n' σ' ∧ (σ' 4 = 0 → ∀ (N0 d0 : Nat) (c0 : List Int), N0 ≤ n.1 → x0 ≠ 0 → bTr (gHi g N0) d0 tr W x0 c0 → x ≠ 0 ∧ bTr (gHi g' N0) (d0 + (σ' 0 - σ 0).toNat) tr W x (c0 ++ cs)) ∧ R (bk_call d) rd x0 w (bk_Q rd F (bk_M κ (cp, cs0, cj) Y g n)) = some (some (.ref x), bk_Q rd F' (bk_M κ (cp, cs0, cj) Y g' n'))
def tLp (b : Int → Int) (sz W dp : Int) (R : bk_C → Int32 → Value → bk_H → bk_R) (r : Int) (σ σ' : Int → Int) (cs : List Int) : Prop := ∀ (κ : Nat → Nat) (X : bX) (tp : bF) (tj : bFJ) (ts : bF) (tk : bFJ) (g : bG) (n : Nat × Nat) (d : Nat) (w : Value), tW tp ts g b sz W σ → eN dp r ≤ d + 1 →
  ∃ ts', tP ts ts' σ σ' 0 cs ∧ R (bk_call d) (bk_i dp) w (bk_M κ X (tp, tj, ts, tk) g n) = some (none, bk_M κ X (tp, tj, ts', tk) g n)
def LOOP (b : Int → Int) (sz W dp : Int) (RC : bk_C → Nat → Nat → Value → bk_H → bk_R) (RT : bk_C → Int32 → Value → bk_H → bk_R) (tr : Bool) (r : Int) (σ : Int → Int) : Prop := ∃ σ' cs, stepL b sz σ σ' ∧ (σ' 4 = 0 → ∀ (d0 : Nat) (c0 : List Int), wfc d0 tr W c0 → wfc (d0 + (σ' 0 - σ 0).toNat) tr W (c0 ++ cs)) ∧ cLp b sz W dp RC tr r σ σ' cs ∧ tLp b sz W dp RT r σ σ' cs
/-- a thing, and more of it while a sign follows -/
theorem SIM_of {b σ : Int → Int} {sz W dp r r1 c : Int} {mC mT m1 mT1 : Nat} {tr : Bool} {RC : bk_C → Nat → Nat → Value → bk_H → bk_R} {RT : bk_C → Int32 → Value → bk_H → bk_R} (hr : r1 < r)
    (hC : ∀ d rd h, bk_call (d + 1) mC [.ref rd] h = bk_V (h.1 5 rd 0) (bk_cA (bk_call d m1 [.ref rd] h) fun x h1 => RC (bk_call d) rd x bk_u h1)) (hT : ∀ d x h, bk_call (d + 1) mT [.ref 102, .int x] h = bk_V (h.1 4 102 0) (bk_cV (bk_call d mT1 [.ref 102, .int x] h) fun h1 => RT (bk_call d) x bk_u h1))
    (h1 : SIM b sz W dp m1 mT1 tr r1 c σ) (h2 : ∀ σ', okL b sz σ' → σ 0 ≤ σ' 0 → LOOP b sz W dp RC RT tr r σ') (d0 : dp ≤ 6) (r0 : 1 ≤ r) : SIM b sz W dp mC mT tr r c σ := by
  obtain ⟨σ1, cs1, st1, w1, C1, T1⟩ := h1
  obtain ⟨σ2, cs2, st2, w2, C2, T2⟩ := h2 σ1 st1.1 st1.2.1
  have z1 := st1.2.1
  have z2 := st2.2.1
  have dd : σ2 4 = 0 → (σ1 0 - σ 0).toNat + (σ2 0 - σ1 0).toNat = (σ2 0 - σ 0).toNat := fun _ => by omega
  refine ⟨σ2, cs1 ++ cs2, stepL_tr st1 st2, fun q => ⟨by have := (w1 (st2.2.2.1 q)).1; omega, ?_⟩, ?_, ?_⟩
  · have := w2 q _ _ (w1 (st2.2.2.1 q)).2
    rw [dd q] at this
    exact this
  · intro κ cp cs0 cj Y g n rd F D hw hD
    have D0 : 1 ≤ D := by unfold eN at hD; omega
    obtain ⟨d, rfl⟩ := dep D0
    obtain ⟨F1, g1, n1, x1, p1, t1, e1⟩ := C1 κ cp cs0 cj Y g n rd F d hw (by unfold eN at hD ⊢; omega)
    obtain ⟨F2, g2, n2, x2, p2, t2, e2⟩ := C2 κ cp cs0 cj Y g1 n1 rd F1 d x1 bk_u (cW_ex hw p1) (by omega)
    refine ⟨F2, g2, n2, x2, by have := cP_tr p1 p2; rw [Int.add_zero] at this; exact this, fun q => ?_, ?_⟩
    · obtain ⟨u1, u2⟩ := t1 (st2.2.2.1 q)
      have := t2 q _ _ _ p1.2.2.1.2.1 u1 u2
      rw [dd q] at this
      exact this
    · rw [hC, q5_0, bq_Vi, e1, bq_cA, e2]
  · intro κ X tp tj ts tk g n D hw hD
    have D0 : 1 ≤ D := by unfold eN at hD; omega
    obtain ⟨d, rfl⟩ := dep D0
    obtain ⟨ts1, p1, e1⟩ := T1 κ X tp tj ts tk g n d hw (by unfold eN at hD ⊢; omega)
    obtain ⟨ts2, p2, e2⟩ := T2 κ X tp tj ts1 tk g n d bk_u (tW_p hw p1 (by decide)) (by omega)
    refine ⟨ts2, tP_tr hw.2.2.2.2.1 p1 p2 st2.2.2.1, ?_⟩
    rw [hT, gf102_0, bq_Vi, e1, bq_cV, e2]
theorem g3_ne {g : bG} {c x t a k : Nat} {u v w : Value} (h : a ≠ x) : g3 g c x u v w t a k = g t a k := by
  unfold g3
  rw [if_neg (fun q => h q.2.1), if_neg (fun q => h q.2.1), if_neg (fun q => h q.2.1)]
theorem g3_oth {g : bG} {c x t k : Nat} {u v w : Value} (h : t ≠ c) : g3 g c x u v w t x k = g t x k := by
  unfold g3
  rw [if_neg (fun q => h q.1), if_neg (fun q => h q.1), if_neg (fun q => h q.1)]
theorem g3_0 {g : bG} {c x : Nat} {u v w : Value} : g3 g c x u v w c x 0 = u := if_pos ⟨rfl, rfl, rfl⟩
theorem g3_1 {g : bG} {c x : Nat} {u v w : Value} : g3 g c x u v w c x 1 = v := by
  unfold g3
  rw [if_neg (fun q => absurd q.2.2 (by decide)), if_pos ⟨rfl, rfl, rfl⟩]
theorem g3_2 {g : bG} {c x : Nat} {u v w : Value} : g3 g c x u v w c x 2 = w := by
  unfold g3
  rw [if_neg (fun q => absurd q.2.2 (by decide)), if_neg (fun q => absurd q.2.2 (by decide)), if_pos ⟨rfl, rfl, rfl⟩]
theorem gp_ad {g : bG} {c x t a k k' : Nat} {u : Value} (h : a ≠ x) : gp g c x k u t a k' = g t a k' := gp_ne (fun q => h q.2.1)
