/-! SPECS, first part: what a pure run promises -/
set_option maxRecDepth 100000
/-- it comes to its end, so -/
def bk_wp (r : bk_R) (P : Option Value → bk_H → Prop) : Prop := ∃ v h, r = some (v, h) ∧ P v h
theorem bk_wp.done {v : Option Value} {h : bk_H} {P : Option Value → bk_H → Prop} (hp : P v h) : bk_wp (some (v, h)) P := ⟨v, h, rfl, hp⟩
theorem bk_wp.mono {r : bk_R} {P Q : Option Value → bk_H → Prop} (hr : bk_wp r P) (h : ∀ v h', P v h' → Q v h') : bk_wp r Q := by
  obtain ⟨v, h', e, hp⟩ := hr
  exact ⟨v, h', e, h _ _ hp⟩
theorem bk_wp.I {v : Value} {x : Int32} {K : Int32 → bk_R} {P : Option Value → bk_H → Prop} (hv : v = .int x) (h : bk_wp (K x) P) : bk_wp (bk_I v K) P := by
  subst hv; exact h
theorem bk_wp.J {v : Value} {x : Int64} {K : Int64 → bk_R} {P : Option Value → bk_H → Prop} (hv : v = .long x) (h : bk_wp (K x) P) : bk_wp (bk_J v K) P := by
  subst hv; exact h
theorem bk_wp.A {v : Value} {x : Nat} {K : Nat → bk_R} {P : Option Value → bk_H → Prop} (hv : v = .ref x) (h : bk_wp (K x) P) : bk_wp (bk_A v K) P := by
  subst hv; exact h
theorem bk_wp.V {v : Value} {K : bk_R} {P : Option Value → bk_H → Prop} (hv : bk_real v) (h : bk_wp K P) : bk_wp (bk_V v K) P := by
  rcases hv with ⟨x, rfl⟩ | ⟨x, rfl⟩ | ⟨x, rfl⟩ <;> exact h
theorem bk_wp.if {c : Prop} [Decidable c] {A B : bk_R} {P : Option Value → bk_H → Prop} (h1 : c → bk_wp A P) (h2 : ¬ c → bk_wp B P) : bk_wp (bk_if c A B) P := by
  unfold bk_if
  split
  · exact h1 ‹_›
  · exact h2 ‹_›
theorem bk_wp.cV {r : bk_R} {K : bk_H → bk_R} {P : Option Value → bk_H → Prop} (h : bk_wp r fun v h' => v = none ∧ bk_wp (K h') P) : bk_wp (bk_cV r K) P := by
  obtain ⟨v, h', rfl, rfl, hk⟩ := h; exact hk
theorem bk_wp.cI {r : bk_R} {K : Int32 → bk_H → bk_R} {P : Option Value → bk_H → Prop} (h : bk_wp r fun v h' => ∃ x, v = some (.int x) ∧ bk_wp (K x h') P) : bk_wp (bk_cI r K) P := by
  obtain ⟨v, h', rfl, x, rfl, hk⟩ := h; exact hk
theorem bk_wp.cJ {r : bk_R} {K : Int64 → bk_H → bk_R} {P : Option Value → bk_H → Prop} (h : bk_wp r fun v h' => ∃ x, v = some (.long x) ∧ bk_wp (K x h') P) : bk_wp (bk_cJ r K) P := by
  obtain ⟨v, h', rfl, x, rfl, hk⟩ := h; exact hk
theorem bk_wp.cA {r : bk_R} {K : Nat → bk_H → bk_R} {P : Option Value → bk_H → Prop} (h : bk_wp r fun v h' => ∃ x, v = some (.ref x) ∧ bk_wp (K x h') P) : bk_wp (bk_cA r K) P := by
  obtain ⟨v, h', rfl, x, rfl, hk⟩ := h; exact hk
