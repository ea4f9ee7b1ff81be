/-! SPECS: distances: what is laid is the same on both sides (no machine) -/
set_option maxRecDepth 100000
def sumZ (f : Int → Int) : Nat → Int
  | 0 => 0
  | k + 1 => sumZ f k + f k
def fU (f : Int → Int) (s v : Int) : Int → Int := fun j => if j = s then v else f j
theorem fU_same (f : Int → Int) (s v : Int) : fU f s v s = v := if_pos rfl
theorem fU_ne {f : Int → Int} {s v j : Int} (h : j ≠ s) : fU f s v j = f j := if_neg h
theorem sumZ_out (f : Int → Int) (s v : Int) : ∀ n : Nat, (n : Int) ≤ s → sumZ (fU f s v) n = sumZ f n
  | 0, _ => rfl
  | k + 1, h => by
    show sumZ (fU f s v) k + fU f s v k = sumZ f k + f k
    rw [sumZ_out f s v k (by omega), fU_ne (by omega)]
theorem sumZ_upd (f : Int → Int) (s v : Int) : ∀ n : Nat, 0 ≤ s → s < n → sumZ (fU f s v) n = sumZ f n - f s + v
  | 0, _, _ => by omega
  | k + 1, h0, h => by
    show sumZ (fU f s v) k + fU f s v k = sumZ f k + f k - f s + v
    by_cases c : s = k
    · subst c
      rw [sumZ_out f k v k (by omega), fU_same]; omega
    · rw [sumZ_upd f s v k h0 (by omega), fU_ne (by omega)]; omega
theorem sumZ_nn {f : Int → Int} : ∀ n : Nat, (∀ s : Int, 0 ≤ s → s < n → 0 ≤ f s) → 0 ≤ sumZ f n
  | 0, _ => by exact Int.le_refl 0
  | k + 1, h => by
    have a := sumZ_nn k (fun s h0 h1 => h s h0 (by omega))
    have b := h k (by omega) (by omega)
    show 0 ≤ sumZ f k + f k
    omega
theorem sumZ_ext {f f' : Int → Int} : ∀ n : Nat, (∀ s : Int, 0 ≤ s → s < n → f s = f' s) → sumZ f n = sumZ f' n
  | 0, _ => rfl
  | k + 1, h => by
    show sumZ f k + f k = sumZ f' k + f' k
    rw [sumZ_ext k (fun s h0 h1 => h s h0 (by omega)), h k (by omega) (by omega)]
theorem sumZ_le {f f' : Int → Int} : ∀ n : Nat, (∀ s : Int, 0 ≤ s → s < n → f s ≤ f' s) → sumZ f n ≤ sumZ f' n
  | 0, _ => Int.le_refl _
  | k + 1, h => by
    have a := sumZ_le k (fun s h0 h1 => h s h0 (by omega))
    have b := h k (by omega) (by omega)
    show sumZ f k + f k ≤ sumZ f' k + f' k
    omega
/-- where steps lead: to a stand below R, or nowhere -/
def isN (N : Int → Int → Int) (R : Int) : Prop := ∀ s p, 0 ≤ s → s < R → 0 ≤ p → p < 8 → N s p = -1 ∨ (0 ≤ N s p ∧ N s p < R)
/-- on the way to distances -/
def dInv (N : Int → Int → Int) (R : Int) (Z : Int → Prop) (F : Int) (f : Int → Int) : Prop :=
  (∀ s, 0 ≤ s → s < R → 0 ≤ f s ∧ f s ≤ F) ∧ (∀ s, 0 ≤ s → s < R → Z s → f s = 0)
  ∧ (∀ s, 0 ≤ s → s < R → ¬ Z s → f s = F ∨ ∃ p, 0 ≤ p ∧ p < 8 ∧ N s p ≠ -1 ∧ f (N s p) < F ∧ 1 + f (N s p) ≤ f s)
/-- nothing is left to lower -/
def dFin (N : Int → Int → Int) (R : Int) (F : Int) (f : Int → Int) (s : Int) : Prop := ∀ p, 0 ≤ p → p < 8 → N s p ≠ -1 → f (N s p) < F → f s ≤ 1 + f (N s p)
def isD (N : Int → Int → Int) (R : Int) (Z : Int → Prop) (F : Int) (f : Int → Int) : Prop :=
  dInv N R Z F f ∧ ∀ s, 0 ≤ s → s < R → ¬ Z s → dFin N R F f s
section DI
variable {N : Int → Int → Int} {R F F' : Int} {Z : Int → Prop} {f f' : Int → Int} {s p : Int}
theorem dInv_relax (hN : isN N R) (h : dInv N R Z F f) (s0 : 0 ≤ s) (s1 : s < R) (p0 : 0 ≤ p) (p1 : p < 8) (hp : N s p ≠ -1) (hf : f (N s p) < F) (hl : 1 + f (N s p) < f s) : dInv N R Z F (fU f s (1 + f (N s p))) := by
  obtain ⟨h1, h2, h3⟩ := h
  have np := hN s p s0 s1 p0 p1
  have nr : 0 ≤ N s p ∧ N s p < R := by omega
  have b := h1 _ nr.1 nr.2
  have bs := h1 s s0 s1
  refine ⟨fun t t0 t1 => ?_, fun t t0 t1 hz => ?_, fun t t0 t1 hz => ?_⟩
  · have bt := h1 t t0 t1
    by_cases c : t = s
    · subst c; rw [fU_same]; omega
    · rw [fU_ne c]; exact bt
  · by_cases c : t = s
    · subst c
      have := h2 t t0 t1 hz
      omega
    · rw [fU_ne c]; exact h2 t t0 t1 hz
  · by_cases c : t = s
    · subst c
      right
      have ne : N t p ≠ t := by
        intro e
        rw [e] at hl
        omega
      refine ⟨p, p0, p1, hp, ?_, ?_⟩
      · rw [fU_ne ne]; exact hf
      · rw [fU_ne ne, fU_same]; exact Int.le_refl _
    · rw [fU_ne c]
      rcases h3 t t0 t1 hz with e | ⟨q, q0, q1, q2, q3, q4⟩
      · exact Or.inl e
      · right
        refine ⟨q, q0, q1, q2, ?_, ?_⟩
        · by_cases c2 : N t q = s
          · rw [c2, fU_same]; omega
          · rw [fU_ne c2]; exact q3
        · by_cases c2 : N t q = s
          · rw [c2, fU_same]; rw [c2] at q4; omega
          · rw [fU_ne c2]; exact q4
theorem isD_eq (h : isD N R Z F f) (s0 : 0 ≤ s) (s1 : s < R) (hz : ¬ Z s) (hf : f s < F) : ∃ p, 0 ≤ p ∧ p < 8 ∧ N s p ≠ -1 ∧ f (N s p) < F ∧ f s = 1 + f (N s p) := by
  obtain ⟨⟨h1, h2, h3⟩, h4⟩ := h
  rcases h3 s s0 s1 hz with e | ⟨p, p0, p1, p2, p3, p4⟩
  · omega
  · have := h4 s s0 s1 hz p p0 p1 p2 p3
    exact ⟨p, p0, p1, p2, p3, by omega⟩
theorem isD_chain (hN : isN N R) (h : isD N R Z F f) : ∀ (m : Nat) (s : Int), 0 ≤ s → s < R → f s = m → (m : Int) < F → ∀ j : Nat, j ≤ m → ∃ t, 0 ≤ t ∧ t < R ∧ f t = j := by
  intro m
  induction m with
  | zero => intro s s0 s1 e _ j hj; exact ⟨s, s0, s1, by omega⟩
  | succ m ih =>
    intro s s0 s1 e hm j hj
    by_cases c : j = m + 1
    · exact ⟨s, s0, s1, by omega⟩
    · have hz : ¬ Z s := fun z => by have := h.1.2.1 s s0 s1 z; omega
      obtain ⟨p, p0, p1, p2, p3, p4⟩ := isD_eq h s0 s1 hz (by omega)
      have np := hN s p s0 s1 p0 p1
      exact ih (N s p) (by omega) (by omega) (by omega) (by omega) j (by omega)
def cntZ (P : Int → Bool) : Nat → Nat
  | 0 => 0
  | k + 1 => cntZ P k + (if P k = true then 1 else 0)
theorem cntZ_le (P : Int → Bool) : ∀ n, cntZ P n ≤ n
  | 0 => Nat.le_refl _
  | k + 1 => by
    have := cntZ_le P k
    show cntZ P k + _ ≤ k + 1
    split <;> omega
theorem cntZ_mono {P Q : Int → Bool} (h : ∀ x, P x = true → Q x = true) : ∀ n, cntZ P n ≤ cntZ Q n
  | 0 => Nat.le_refl _
  | k + 1 => by
    have a := cntZ_mono h k
    have b := h k
    show cntZ P k + _ ≤ cntZ Q k + _
    by_cases c : P k = true
    · rw [if_pos c, if_pos (b c)]; omega
    · rw [if_neg c]; omega
theorem cntZ_lt {P Q : Int → Bool} (h : ∀ x, P x = true → Q x = true) {x : Int} (hq : Q x = true) (hp : ¬ P x = true) : ∀ n : Nat, 0 ≤ x → x < n → cntZ P n + 1 ≤ cntZ Q n
  | 0, _, _ => by omega
  | k + 1, h0, h1 => by
    show cntZ P k + _ + 1 ≤ cntZ Q k + _
    by_cases c : x = k
    · have m := cntZ_mono h k
      subst c
      rw [if_neg hp, if_pos hq]; omega
    · have a := cntZ_lt h hq hp k h0 (by omega)
      have b := h k
      by_cases c2 : P k = true
      · rw [if_pos c2, if_pos (b c2)]; omega
      · rw [if_neg c2]; omega
/-- a distance is below the number of stands -/
theorem isD_small (hN : isN N R) (h : isD N R Z F f) (s0 : 0 ≤ s) (s1 : s < R) (hf : f s < F) : f s < R := by
  have b := h.1.1 s s0 s1
  have ch := isD_chain hN h (f s).toNat s s0 s1 (by omega) (by omega)
  have key : ∀ j : Nat, j ≤ (f s).toNat → j + 1 ≤ cntZ (fun x => decide (f x ≤ j)) R.toNat := by
    intro j
    induction j with
    | zero =>
      intro hj
      obtain ⟨t, t0, t1, e⟩ := ch 0 hj
      have a := cntZ_lt (P := fun _ => false) (Q := fun x => decide (f x ≤ (0 : Nat))) (fun x q => by cases q) (x := t) (by simpa using by omega) (by decide) R.toNat t0 (by omega)
      omega
    | succ j ih =>
      intro hj
      have i := ih (by omega)
      obtain ⟨t, t0, t1, e⟩ := ch (j + 1) hj
      have a := cntZ_lt (P := fun x => decide (f x ≤ j)) (Q := fun x => decide (f x ≤ (j + 1 : Nat))) (fun x q => by simp only [decide_eq_true_eq] at q ⊢; omega) (x := t) (by simp only [decide_eq_true_eq]; omega) (by simp only [decide_eq_true_eq]; omega) R.toNat t0 (by omega)
      omega
  have k := key (f s).toNat (Nat.le_refl _)
  have l := cntZ_le (fun x => decide (f x ≤ (f s).toNat)) R.toNat
  omega
theorem isD_le (hN : isN N R) (h : isD N R Z F f) (h' : isD N R Z F' f') (hF : R ≤ F') : ∀ (k : Nat) (s : Int), 0 ≤ s → s < R → f s = k → f s < F → f' s ≤ f s := by
  intro k
  induction k with
  | zero =>
    intro s s0 s1 e hf
    by_cases z : Z s
    · have := h'.1.2.1 s s0 s1 z; omega
    · obtain ⟨p, p0, p1, p2, p3, p4⟩ := isD_eq h s0 s1 z hf
      have np := hN s p s0 s1 p0 p1
      have := h.1.1 (N s p) (by omega) (by omega)
      omega
  | succ k ih =>
    intro s s0 s1 e hf
    by_cases z : Z s
    · have := h'.1.2.1 s s0 s1 z; omega
    · obtain ⟨p, p0, p1, p2, p3, p4⟩ := isD_eq h s0 s1 z hf
      have np := hN s p s0 s1 p0 p1
      have sm := isD_small hN h s0 s1 hf
      have i := ih (N s p) (by omega) (by omega) (by omega) p3
      have := h'.2 s s0 s1 z p p0 p1 p2 (by omega)
      omega
/-- both sides' distances are the same -/
theorem isD_uniq (hN : isN N R) (h : isD N R Z F f) (h' : isD N R Z F' f') (hF : R ≤ F) (hF' : R ≤ F') (s0 : 0 ≤ s) (s1 : s < R) : (f s < F ↔ f' s < F') ∧ (f s < F → f s = f' s) := by
  have b := h.1.1 s s0 s1
  have b' := h'.1.1 s s0 s1
  have a1 : f s < F → f' s ≤ f s := fun q => isD_le hN h h' hF' (f s).toNat s s0 s1 (by omega) q
  have a2 : f' s < F' → f s ≤ f' s := fun q => isD_le hN h' h hF (f' s).toNat s s0 s1 (by omega) q
  have c1 : f s < F → f s < R := fun q => isD_small hN h s0 s1 q
  have c2 : f' s < F' → f' s < R := fun q => isD_small hN h' s0 s1 q
  constructor
  · constructor
    · intro q; have := a1 q; have := c1 q; omega
    · intro q; have := a2 q; have := c2 q; omega
  · intro q
    have q1 := a1 q
    have q2 := c1 q
    have q3 := a2 (by omega)
    omega
end DI
/-- the least that a stand may be lowered to, of so many passages -/
def lw (N : Int → Int → Int) (f : Int → Int) (s : Int) : Nat → Int
  | 0 => 536870912
  | k + 1 => if N s k = -1 then lw N f s k else min (lw N f s k) (1 + f (N s k))
theorem lw_le (N : Int → Int → Int) (f : Int → Int) (s : Int) : ∀ k, lw N f s k ≤ 536870912
  | 0 => Int.le_refl _
  | k + 1 => by
    have := lw_le N f s k
    show (if N s k = -1 then lw N f s k else min (lw N f s k) (1 + f (N s k))) ≤ _
    split <;> omega
theorem lw_low {N : Int → Int → Int} {f : Int → Int} {s : Int} : ∀ (k : Nat) (p : Int), 0 ≤ p → p < k → N s p ≠ -1 → lw N f s k ≤ 1 + f (N s p)
  | 0, p, h0, h1, _ => by omega
  | k + 1, p, h0, h1, h2 => by
    show (if N s k = -1 then lw N f s k else min (lw N f s k) (1 + f (N s k))) ≤ _
    by_cases c : p = k
    · subst c; rw [if_neg h2]; omega
    · have := lw_low k p h0 (by omega) h2 (f := f)
      split <;> omega
theorem lw_hit {N : Int → Int → Int} {f : Int → Int} {s : Int} : ∀ k : Nat, lw N f s k = 536870912 ∨ ∃ p : Int, 0 ≤ p ∧ p < k ∧ N s p ≠ -1 ∧ lw N f s k = 1 + f (N s p)
  | 0 => Or.inl rfl
  | k + 1 => by
    have e : lw N f s (k + 1) = (if N s k = -1 then lw N f s k else min (lw N f s k) (1 + f (N s k))) := rfl
    rw [e]
    by_cases c : N s k = -1
    · rw [if_pos c]
      rcases lw_hit (N := N) (f := f) (s := s) k with q | ⟨p, h0, h1, h2, h3⟩
      · exact Or.inl q
      · exact Or.inr ⟨p, h0, by omega, h2, h3⟩
    · rw [if_neg c]
      by_cases d : lw N f s k ≤ 1 + f (N s k)
      · have m : min (lw N f s k) (1 + f (N s k)) = lw N f s k := by omega
        rw [m]
        rcases lw_hit (N := N) (f := f) (s := s) k with q | ⟨p, h0, h1, h2, h3⟩
        · exact Or.inl q
        · exact Or.inr ⟨p, h0, by omega, h2, h3⟩
      · have m : min (lw N f s k) (1 + f (N s k)) = 1 + f (N s k) := by omega
        rw [m]
        exact Or.inr ⟨k, by omega, by omega, c, rfl⟩
theorem lw_nn {N : Int → Int → Int} {f : Int → Int} {s : Int} : ∀ k : Nat, (∀ p : Int, 0 ≤ p → p < k → N s p ≠ -1 → 0 ≤ f (N s p)) → 0 ≤ lw N f s k
  | 0, _ => by show (0 : Int) ≤ 536870912; omega
  | k + 1, h => by
    have a := lw_nn k (fun p h0 h1 h2 => h p h0 (by omega) h2)
    have b := h k (by omega) (by omega)
    show 0 ≤ (if N s k = -1 then lw N f s k else min (lw N f s k) (1 + f (N s k)))
    split
    · exact a
    · rename_i c; have := b c; omega
/-- all distances together -/
def dS (f : Int → Int) (R : Int) : Int := sumZ f R.toNat
theorem dS_nn {f : Int → Int} {R : Int} (h : ∀ s, 0 ≤ s → s < R → 0 ≤ f s) : 0 ≤ dS f R := sumZ_nn R.toNat (fun s h0 h1 => h s (by omega) (by omega))
theorem dS_upd (f : Int → Int) {s v R : Int} (h0 : 0 ≤ s) (h1 : s < R) : dS (fU f s v) R = dS f R - f s + v := sumZ_upd f s v R.toNat h0 (by omega)
/-- a pass over the stands, so far: whether there was more -/
def dPass (N : Int → Int → Int) (R : Int) (Z : Int → Prop) (F : Int) (f0 : Int → Int) (t : Int) (f : Int → Int) (more : Int) : Prop :=
  dInv N R Z F f ∧ dS f R ≤ dS f0 R ∧ (more = 0 ∨ more = 1) ∧ (more = 0 → ∀ u, 0 ≤ u → u < t → ¬ Z u → dFin N R F f u) ∧ (more = 1 → dS f R < dS f0 R)
/-- a step lowers -/
theorem dPass_relax {N : Int → Int → Int} {R F : Int} {Z : Int → Prop} {f0 f : Int → Int} {t more p : Int} (hN : isN N R) (t0 : 0 ≤ t) (t1 : t < R) (h : dPass N R Z F f0 t f more) (p0 : 0 ≤ p) (p1 : p < 8) (p2 : N t p ≠ -1) (hf : f (N t p) < F) (hl : 1 + f (N t p) < f t) :
    dPass N R Z F f0 t (fU f t (1 + f (N t p))) 1 := by
  obtain ⟨h1, h2, h3, h4, h5⟩ := h
  have r := dInv_relax hN h1 t0 t1 p0 p1 p2 hf hl
  have s := dS_upd f (v := 1 + f (N t p)) t0 t1
  exact ⟨r, by omega, Or.inr rfl, fun q => by omega, fun _ => by omega⟩
theorem dPass_next {N : Int → Int → Int} {R F : Int} {Z : Int → Prop} {f0 f : Int → Int} {t more : Int} (h : dPass N R Z F f0 t f more) (hl : more = 0 → dFin N R F f t) : dPass N R Z F f0 (t + 1) f more := by
  obtain ⟨h1, h2, h3, h4, h5⟩ := h
  refine ⟨h1, h2, h3, fun q u u0 u1 uz => ?_, h5⟩
  by_cases c : u = t
  · subst c; exact hl q
  · exact h4 q u u0 (by omega) uz
theorem dPass_hit {N : Int → Int → Int} {Z : Int → Prop} {f0 f : Int → Int} {t more : Int} {P : Nat} (hP : P ≤ 8) (hN : isN N 36) (t0 : 0 ≤ t) (t1 : t < 36) (h : dPass N 36 Z 536870912 f0 t f more) (hl : lw N f t P < f t) :
    dPass N 36 Z 536870912 f0 (t + 1) (fU f t (lw N f t P)) (max more 1) := by
  have m01 := h.2.2.1
  have b := h.1.1 t t0 t1
  have e : max more 1 = 1 := by omega
  rw [e]
  rcases lw_hit (N := N) (f := f) (s := t) P with q | ⟨p, p0, p1, p2, p3⟩
  · omega
  · have r := dPass_relax hN t0 t1 h p0 (by omega) p2 (by omega) (by omega)
    rw [← p3] at r
    exact dPass_next r (fun q => by omega)
theorem dPass_not {N : Int → Int → Int} {Z : Int → Prop} {f0 f : Int → Int} {t more : Int} {P : Nat} (hdom : ∀ p : Int, 0 ≤ p → p < 8 → N t p ≠ -1 → p < P) (h : dPass N 36 Z 536870912 f0 t f more) (hl : ¬ lw N f t P < f t) :
    dPass N 36 Z 536870912 f0 (t + 1) f (max more 0) := by
  have m01 := h.2.2.1
  have e : max more 0 = more := by omega
  rw [e]
  refine dPass_next h fun _ p p0 p1 p2 p3 => ?_
  have := lw_low (N := N) (f := f) (s := t) P p p0 (hdom p p0 p1 p2) p2
  omega
theorem dPass_skip {N : Int → Int → Int} {R F : Int} {Z : Int → Prop} {f0 f : Int → Int} {t more : Int} (h : dPass N R Z F f0 t f more) (hz : Z t) : dPass N R Z F f0 (t + 1) f more := by
  obtain ⟨h1, h2, h3, h4, h5⟩ := h
  refine ⟨h1, h2, h3, fun q u u0 u1 uz => ?_, h5⟩
  by_cases c : u = t
  · subst c; exact absurd hz uz
  · exact h4 q u u0 (by omega) uz
theorem sumZ_succ (f : Int → Int) {s : Int} (h : 0 ≤ s) : sumZ f (s + 1).toNat = sumZ f s.toNat + f s := by
  have e : (s + 1).toNat = s.toNat + 1 := by omega
  rw [e]
  show sumZ f s.toNat + f (s.toNat : Int) = _
  rw [Int.toNat_of_nonneg h]
/-- nothing behind R -/
theorem sumZ_cut {f : Int → Int} {R : Int} (hR : 0 ≤ R) : ∀ n : Nat, R ≤ n → (∀ s : Int, R ≤ s → s < n → f s = 0) → sumZ f n = sumZ f R.toNat
  | 0, h, _ => by
    have : R.toNat = 0 := by omega
    rw [this]
  | k + 1, h, hz => by
    by_cases c : R = (k + 1 : Nat)
    · rw [c]; rfl
    · show sumZ f k + f k = _
      rw [sumZ_cut hR k (by omega) (fun s a b => hz s a (by omega)), hz k (by omega) (by omega)]
      omega
theorem sumZ_bnd {f : Int → Int} {b : Int} : ∀ n : Nat, (∀ s : Int, 0 ≤ s → s < n → 0 ≤ f s ∧ f s ≤ b) → 0 ≤ sumZ f n ∧ sumZ f n ≤ b * n
  | 0, _ => by
    show (0 : Int) ≤ 0 ∧ (0 : Int) ≤ b * 0
    omega
  | k + 1, h => by
    have a := sumZ_bnd k (fun s h0 h1 => h s h0 (by omega))
    have c := h k (by omega) (by omega)
    show 0 ≤ sumZ f k + f k ∧ sumZ f k + f k ≤ b * ((k + 1 : Nat) : Int)
    have e : b * ((k + 1 : Nat) : Int) = b * k + b := by
      rw [show ((k + 1 : Nat) : Int) = (k : Int) + 1 by omega, Int.mul_add, Int.mul_one]
    rw [e]
    omega
theorem isD_sub {N : Int → Int → Int} {R R' F : Int} {Z : Int → Prop} {f : Int → Int} (h : isD N R Z F f) (hR : R' ≤ R) : isD N R' Z F f :=
  ⟨⟨fun s s0 s1 => h.1.1 s s0 (by omega), fun s s0 s1 z => h.1.2.1 s s0 (by omega) z, fun s s0 s1 z => h.1.2.2 s s0 (by omega) z⟩, fun s s0 s1 z => h.2 s s0 (by omega) z⟩
/-- the first of eight that is so; 8 -/
def fst8 (P : Int → Bool) : Int := if P 0 then 0 else if P 1 then 1 else if P 2 then 2 else if P 3 then 3 else if P 4 then 4 else if P 5 then 5 else if P 6 then 6 else if P 7 then 7 else 8
theorem fst8_eq {P : Int → Bool} {p : Int} (p0 : 0 ≤ p) (p1 : p < 8) (h : P p = true) (hb : ∀ q, 0 ≤ q → q < p → P q = false) : fst8 P = p := by
  have : p = 0 ∨ p = 1 ∨ p = 2 ∨ p = 3 ∨ p = 4 ∨ p = 5 ∨ p = 6 ∨ p = 7 := by omega
  unfold fst8
  rcases this with rfl | rfl | rfl | rfl | rfl | rfl | rfl | rfl
  · simp [h]
  · simp [h, hb 0]
  · simp [h, hb 0, hb 1]
  · simp [h, hb 0, hb 1, hb 2]
  · simp [h, hb 0, hb 1, hb 2, hb 3]
  · simp [h, hb 0, hb 1, hb 2, hb 3, hb 4]
  · simp [h, hb 0, hb 1, hb 2, hb 3, hb 4, hb 5]
  · simp [h, hb 0, hb 1, hb 2, hb 3, hb 4, hb 5, hb 6]
theorem fst8_ext {P Q : Int → Bool} (h : ∀ p, 0 ≤ p → p < 8 → P p = Q p) : fst8 P = fst8 Q := by
  unfold fst8
  rw [h 0 (by omega) (by omega), h 1 (by omega) (by omega), h 2 (by omega) (by omega), h 3 (by omega) (by omega), h 4 (by omega) (by omega), h 5 (by omega) (by omega), h 6 (by omega) (by omega), h 7 (by omega) (by omega)]
/-- the first of eight, where there is one -/
theorem first_of {P : Int → Prop} {q : Int} (q0 : 0 ≤ q) (hq : P q) : ∃ p, 0 ≤ p ∧ p ≤ q ∧ P p ∧ ∀ r, 0 ≤ r → r < p → ¬ P r := by
  have key : ∀ (k : Nat), P (k : Int) → ∃ p, 0 ≤ p ∧ p ≤ (k : Int) ∧ P p ∧ ∀ r, 0 ≤ r → r < p → ¬ P r := by
    intro k
    induction k using Nat.strongRecOn with
    | _ k ih =>
      intro hk
      by_cases c : ∃ r : Nat, r < k ∧ P (r : Int)
      · obtain ⟨r, hr, pr⟩ := c
        obtain ⟨p, a1, a2, a3, a4⟩ := ih r hr pr
        exact ⟨p, a1, by omega, a3, a4⟩
      · refine ⟨k, by omega, Int.le_refl _, hk, fun r r0 r1 pr => c ⟨r.toNat, by omega, ?_⟩⟩
        rw [Int.toNat_of_nonneg r0]; exact pr
  have h := key q.toNat (by rw [Int.toNat_of_nonneg q0]; exact hq)
  rw [Int.toNat_of_nonneg q0] at h
  exact h
/-- a step of a shortest way: the first passage that leads nearer -/
def stp (N : Int → Int → Int) (f : Int → Int) (s : Int) : Int := fst8 fun p => decide (N s p ≠ -1 ∧ f (N s p) = f s - 1)
/-- where he is after so many steps -/
def pos (N : Int → Int → Int) (f : Int → Int) (s : Int) : Nat → Int
  | 0 => s
  | k + 1 => N (pos N f s k) (stp N f (pos N f s k))
section PA
variable {N : Int → Int → Int} {R F F' : Int} {Z : Int → Prop} {f f' : Int → Int} {s p : Int}
theorem stp_is (hN : isN N R) (h : isD N R Z F f) (s0 : 0 ≤ s) (s1 : s < R) (h0 : 0 < f s) (hf : f s < F) : 0 ≤ stp N f s ∧ stp N f s < 8 ∧ N s (stp N f s) ≠ -1 ∧ f (N s (stp N f s)) = f s - 1 ∧ 0 ≤ N s (stp N f s) ∧ N s (stp N f s) < R
    ∧ ∀ q, 0 ≤ q → q < stp N f s → ¬ (N s q ≠ -1 ∧ f (N s q) = f s - 1) := by
  have z : ¬ Z s := fun z => by have := h.1.2.1 s s0 s1 z; omega
  obtain ⟨q, q0, q1, q2, q3, q4⟩ := isD_eq h s0 s1 z hf
  obtain ⟨p, p0, p1, p2, p3⟩ := first_of (P := fun p => N s p ≠ -1 ∧ f (N s p) = f s - 1) q0 ⟨q2, by omega⟩
  have e : stp N f s = p := fst8_eq p0 (by omega) (by simpa using p2) (fun r r0 r1 => by simpa using p3 r r0 r1)
  rw [e]
  have np := hN s p s0 s1 p0 (by omega)
  exact ⟨p0, by omega, p2.1, p2.2, by omega, by omega, p3⟩
theorem stp_uniq (hN : isN N R) (h : isD N R Z F f) (h' : isD N R Z F' f') (hF : R ≤ F) (hF' : R ≤ F') (s0 : 0 ≤ s) (s1 : s < R) (hf : f s < F) : stp N f s = stp N f' s := by
  apply fst8_ext
  intro p p0 p1
  have u := isD_uniq hN h h' hF hF' s0 s1
  have e := u.2 hf
  have sm := isD_small hN h s0 s1 hf
  apply decide_eq_decide.mpr
  constructor
  · rintro ⟨a, b⟩
    have np := hN s p s0 s1 p0 p1
    have u2 := isD_uniq hN h h' hF hF' (s := N s p) (by omega) (by omega)
    exact ⟨a, by have := u2.2 (by omega); omega⟩
  · rintro ⟨a, b⟩
    have np := hN s p s0 s1 p0 p1
    have u2 := isD_uniq hN h' h hF' hF (s := N s p) (by omega) (by omega)
    exact ⟨a, by have := u2.2 (by omega); omega⟩
theorem pos_is (hN : isN N R) (h : isD N R Z F f) (s0 : 0 ≤ s) (s1 : s < R) (hf : f s < F) : ∀ k : Nat, (k : Int) ≤ f s → 0 ≤ pos N f s k ∧ pos N f s k < R ∧ f (pos N f s k) = f s - k
  | 0, _ => ⟨s0, s1, by show f s = f s - ((0 : Nat) : Int); omega⟩
  | k + 1, hk => by
    obtain ⟨a1, a2, a3⟩ := pos_is hN h s0 s1 hf k (by omega)
    have i := stp_is hN h a1 a2 (by omega) (by omega)
    exact ⟨i.2.2.2.2.1, i.2.2.2.2.2.1, by show f (N (pos N f s k) (stp N f (pos N f s k))) = _; rw [i.2.2.2.1]; omega⟩
theorem pos_uniq (hN : isN N R) (h : isD N R Z F f) (h' : isD N R Z F' f') (hF : R ≤ F) (hF' : R ≤ F') (s0 : 0 ≤ s) (s1 : s < R) (hf : f s < F) : ∀ k : Nat, (k : Int) ≤ f s → pos N f s k = pos N f' s k
  | 0, _ => rfl
  | k + 1, hk => by
    have e := pos_uniq hN h h' hF hF' s0 s1 hf k (by omega)
    obtain ⟨a1, a2, a3⟩ := pos_is hN h s0 s1 hf k (by omega)
    show N (pos N f s k) (stp N f (pos N f s k)) = N (pos N f' s k) (stp N f' (pos N f' s k))
    rw [← e, stp_uniq hN h h' hF hF' a1 a2 (by omega)]
end PA
