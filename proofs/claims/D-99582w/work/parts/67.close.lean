/-! SPECS: what can be come to, orphans (no machine) -/
set_option maxRecDepth 100000
noncomputable def bzc (p : Prop) : Int := @ite _ p (Classical.propDecidable p) 1 0
theorem bzc_t {p : Prop} (h : p) : bzc p = 1 := if_pos h
theorem bzc_f {p : Prop} (h : ¬ p) : bzc p = 0 := if_neg h
theorem bzc_01 (p : Prop) : bzc p = 0 ∨ bzc p = 1 := by
  by_cases h : p
  · exact Or.inr (bzc_t h)
  · exact Or.inl (bzc_f h)
theorem bzc_bz (p : Prop) [Decidable p] : bzc p = bz p := by
  by_cases h : p
  · rw [bzc_t h, bz_t h]
  · rw [bzc_f h, bz_f h]
theorem bzc_iff {p q : Prop} (h : p ↔ q) : bzc p = bzc q := by rw [propext h]
/-- all that is come to from one, on the way there, and whole -/
def cInv (E : Int → Int → Prop) (R s0 : Int) (m : Int → Int) : Prop :=
  (∀ s, 0 ≤ s → s < R → m s = 0 ∨ m s = 1) ∧ m s0 = 1 ∧ (∀ X : Int → Prop, X s0 → (∀ u v, 0 ≤ u → u < R → 0 ≤ v → v < R → E u v → X u → X v) → ∀ s, 0 ≤ s → s < R → m s = 1 → X s)
def isCl (E : Int → Int → Prop) (R s0 : Int) (m : Int → Int) : Prop := cInv E R s0 m ∧ ∀ u v, 0 ≤ u → u < R → 0 ≤ v → v < R → E u v → m u = 1 → m v = 1
def zS (m : Int → Int) (R : Int) : Int := dS (fun s => 1 - m s) R
section CL
variable {E : Int → Int → Prop} {R R' s0 u v : Int} {m m' m0 : Int → Int}
theorem isCl_uniq (h : isCl E R s0 m) (h' : isCl E R s0 m') {s : Int} (a : 0 ≤ s) (b : s < R) : m s = m' s := by
  have p : m s = 1 → m' s = 1 := h.1.2.2 (fun s => m' s = 1) h'.1.2.1 (fun u v u0 u1 v0 v1 e x => h'.2 u v u0 u1 v0 v1 e x) s a b
  have q : m' s = 1 → m s = 1 := h'.1.2.2 (fun s => m s = 1) h.1.2.1 (fun u v u0 u1 v0 v1 e x => h.2 u v u0 u1 v0 v1 e x) s a b
  have r := h.1.1 s a b
  have r' := h'.1.1 s a b
  omega
theorem cInv_add (h : cInv E R s0 m) (u0 : 0 ≤ u) (u1 : u < R) (v0 : 0 ≤ v) (v1 : v < R) (e : E u v) (hu : m u = 1) (hv : m v = 0) : cInv E R s0 (fU m v 1) ∧ zS (fU m v 1) R = zS m R - 1 := by
  obtain ⟨h1, h2, h3⟩ := h
  refine ⟨⟨fun s a b => ?_, ?_, fun X x0 xc s a b hs => ?_⟩, ?_⟩
  · by_cases c : s = v
    · subst c; rw [fU_same]; exact Or.inr rfl
    · rw [fU_ne c]; exact h1 s a b
  · by_cases c : s0 = v
    · subst c; rw [fU_same]
    · rw [fU_ne c]; exact h2
  · by_cases c : s = v
    · subst c; exact xc u s u0 u1 v0 v1 e (h3 X x0 xc u u0 u1 hu)
    · rw [fU_ne c] at hs; exact h3 X x0 xc s a b hs
  · unfold zS
    have e : (fun s => 1 - fU m v 1 s) = fU (fun s => 1 - m s) v 0 := by
      funext s
      by_cases c : s = v
      · subst c; rw [fU_same, fU_same]; rfl
      · rw [fU_ne c, fU_ne c]
    rw [e, dS_upd _ v0 v1, hv]; omega
theorem zS_nn (h : cInv E R s0 m) : 0 ≤ zS m R := dS_nn (fun s a b => by have := h.1 s a b; omega)
/-- a pass, so far; C: closed at a stand -/
def cPass (C : (Int → Int) → Int → Prop) (E : Int → Int → Prop) (R s0 : Int) (m0 : Int → Int) (t : Int) (m : Int → Int) (more : Int) : Prop :=
  cInv E R s0 m ∧ zS m R ≤ zS m0 R ∧ (more = 0 ∨ more = 1) ∧ (more = 0 → ∀ u, 0 ≤ u → u < t → C m u) ∧ (more = 1 → zS m R < zS m0 R)
theorem cPass_add {C : (Int → Int) → Int → Prop} {t more : Int} (h : cPass C E R s0 m0 t m more) (u0 : 0 ≤ u) (u1 : u < R) (v0 : 0 ≤ v) (v1 : v < R) (e : E u v) (hu : m u = 1) (hv : m v = 0) : cPass C E R s0 m0 t (fU m v 1) 1 := by
  obtain ⟨h1, h2, h3, h4, h5⟩ := h
  have a := cInv_add h1 u0 u1 v0 v1 e hu hv
  exact ⟨a.1, by omega, Or.inr rfl, fun q => by omega, fun _ => by omega⟩
theorem cPass_next {C : (Int → Int) → Int → Prop} {t more : Int} (h : cPass C E R s0 m0 t m more) (hc : more = 0 → C m t) : cPass C E R s0 m0 (t + 1) m more := by
  obtain ⟨h1, h2, h3, h4, h5⟩ := h
  refine ⟨h1, h2, h3, fun q u a b => ?_, h5⟩
  by_cases c : u = t
  · subst c; exact hc q
  · exact h4 q u a (by omega)
theorem cInv_start (s00 : 0 ≤ s0) (h : ∀ s, 0 ≤ s → s < R → m s = if s = s0 then 1 else 0) (s01 : s0 < R) : cInv E R s0 m := by
  refine ⟨fun s a b => ?_, ?_, fun X x0 xc s a b hs => ?_⟩
  · rw [h s a b]; split
    · exact Or.inr rfl
    · exact Or.inl rfl
  · rw [h s0 s00 s01, if_pos rfl]
  · rw [h s a b] at hs
    by_cases c : s = s0
    · subst c; exact x0
    · rw [if_neg c] at hs; omega
theorem isCl_sub (h : isCl E R s0 m) (hR : R' ≤ R) (h0 : s0 < R') (hE : ∀ u v, 0 ≤ u → u < R → 0 ≤ v → v < R → E u v → u < R' ∧ v < R') : isCl E R' s0 m ∧ ∀ s, R' ≤ s → s < R → 0 ≤ s → m s = 0 := by
  obtain ⟨⟨h1, h2, h3⟩, h4⟩ := h
  refine ⟨⟨⟨fun s a b => h1 s a (by omega), h2, fun X x0 xc s a b hs => ?_⟩, fun u v u0 u1 v0 v1 e hu => h4 u v u0 (by omega) v0 (by omega) e hu⟩, fun s a b c => ?_⟩
  · exact h3 (fun s => s < R' → X s) (fun _ => x0) (fun u v u0 u1 v0 v1 e xu hv => xc u v u0 (hE u v u0 u1 v0 v1 e).1 v0 hv e (xu (hE u v u0 u1 v0 v1 e).1)) s a (by omega) hs b
  · rcases h1 s c b with q | q
    · exact q
    · have := h3 (fun s => s < R') h0 (fun u v u0 u1 v0 v1 e _ => (hE u v u0 u1 v0 v1 e).2) s c b q
      omega
end CL
def Ef (N : Int → Int → Int) (u v : Int) : Prop := ∃ p, 0 ≤ p ∧ p < 8 ∧ N u p = v
def Eb (N : Int → Int → Int) (u v : Int) : Prop := ∃ p, 0 ≤ p ∧ p < 8 ∧ N v p = u
/-- of finite distance: all that comes to it -/
theorem isD_cl {N : Int → Int → Int} {R F s0 : Int} {f : Int → Int} (hN : isN N R) (h : isD N R (fun s => s = s0) F f) (s00 : 0 ≤ s0) (s01 : s0 < R) (hF : R < F) : isCl (Eb N) R s0 (fun s => bz (f s < F)) := by
  have hz : f s0 = 0 := h.1.2.1 s0 s00 s01 rfl
  refine ⟨⟨fun s a b => bz_01 _, bz_t (by omega), fun X x0 xc => ?_⟩, fun u v u0 u1 v0 v1 e hu => ?_⟩
  · have key : ∀ (k : Nat) (s : Int), 0 ≤ s → s < R → f s = k → f s < F → X s := by
      intro k
      induction k with
      | zero =>
        intro s a b e hf
        by_cases c : s = s0
        · subst c; exact x0
        · obtain ⟨p, p0, p1, p2, p3, p4⟩ := isD_eq h a b c hf
          have np := hN s p a b p0 p1
          have := h.1.1 (N s p) (by omega) (by omega)
          omega
      | succ k ih =>
        intro s a b e hf
        by_cases c : s = s0
        · subst c; exact x0
        · obtain ⟨p, p0, p1, p2, p3, p4⟩ := isD_eq h a b c hf
          have np := hN s p a b p0 p1
          exact xc (N s p) s (by omega) (by omega) a b ⟨p, p0, p1, rfl⟩ (ih (N s p) (by omega) (by omega) (by omega) p3)
    intro s a b hs
    have hf : f s < F := by
      by_cases c : f s < F
      · exact c
      · have : bz (f s < F) = 0 := bz_f c
        dsimp only at hs
        omega
    have := h.1.1 s a b
    exact key (f s).toNat s a b (by omega) hf
  · obtain ⟨p, p0, p1, rfl⟩ := e
    have hf : f (N v p) < F := by
      by_cases c : f (N v p) < F
      · exact c
      · have : bz (f (N v p) < F) = 0 := bz_f c
        dsimp only at hu
        omega
    by_cases c : v = s0
    · subst c; exact bz_t (by omega)
    · have sm := isD_small hN h u0 u1 hf
      have a := h.2 v v0 v1 c p p0 p1 (by omega) hf
      have b := h.1.1 v v0 v1
      exact bz_t (by omega)
theorem sumZ_bzc {f : Int → Prop} : ∀ n : Nat, 0 ≤ sumZ (fun s => bzc (f s)) n ∧ sumZ (fun s => bzc (f s)) n ≤ n
  | 0 => by show (0 : Int) ≤ 0 ∧ (0 : Int) ≤ ((0 : Nat) : Int); omega
  | k + 1 => by
    have a := sumZ_bzc (f := f) k
    have b := bzc_01 (f k)
    show 0 ≤ sumZ (fun s => bzc (f s)) k + bzc (f k) ∧ sumZ (fun s => bzc (f s)) k + bzc (f k) ≤ ((k + 1 : Nat) : Int)
    omega
/-- of how many stands it can be come to one in a step -/
noncomputable def befM (N : Int → Int → Int) (R to : Int) : Int := sumZ (fun s => bzc (∃ p, 0 ≤ p ∧ p < 8 ∧ N s p = to)) R.toNat
def orphM (N : Int → Int → Int) (R s : Int) : Prop := s % 6 ≠ 5 ∧ befM N R s = 0
noncomputable def orphN (N : Int → Int → Int) (R : Int) (t : Nat) : Int := sumZ (fun s => bzc (orphM N R s)) t
theorem orphN_mono (N : Int → Int → Int) (R : Int) {t : Nat} : ∀ k : Nat, orphN N R t ≤ orphN N R (t + k)
  | 0 => Int.le_refl _
  | k + 1 => by
    have a := orphN_mono N R (t := t) k
    have b := bzc_01 (orphM N R ((t + k : Nat) : Int))
    show orphN N R t ≤ orphN N R (t + k) + bzc (orphM N R ((t + k : Nat) : Int))
    omega
/-- the k-th orphan -/
def rOrph (N : Int → Int → Int) (R k z : Int) : Prop := (∃ s : Int, 0 ≤ s ∧ s < R ∧ orphM N R s ∧ orphN N R s.toNat = k ∧ z = 10 * (s / 6) + s % 6) ∨ (z = -1 ∧ orphN N R R.toNat ≤ k)
theorem rOrph_uniq {N : Int → Int → Int} {R k z z' : Int} (h : rOrph N R k z) (h' : rOrph N R k z') : z = z' := by
  have less : ∀ s t : Int, 0 ≤ s → s < t → orphM N R s → orphN N R s.toNat + 1 ≤ orphN N R t.toNat := by
    intro s t s0 st o
    have m := orphN_mono N R (t := s.toNat + 1) (t.toNat - (s.toNat + 1))
    have e : s.toNat + 1 + (t.toNat - (s.toNat + 1)) = t.toNat := by omega
    rw [e] at m
    have q : orphN N R (s.toNat + 1) = orphN N R s.toNat + bzc (orphM N R (s.toNat : Int)) := rfl
    rw [Int.toNat_of_nonneg s0, bzc_t o] at q
    omega
  rcases h with ⟨s, a1, a2, a3, a4, rfl⟩ | ⟨rfl, a1⟩
  · rcases h' with ⟨t, b1, b2, b3, b4, rfl⟩ | ⟨rfl, b1⟩
    · by_cases c : s < t
      · have := less s t a1 c a3; omega
      · by_cases c2 : t < s
        · have := less t s b1 c2 b3; omega
        · have : s = t := by omega
          rw [this]
    · have := less s R a1 a2 a3; omega
  · rcases h' with ⟨t, b1, b2, b3, b4, rfl⟩ | ⟨rfl, b1⟩
    · have := less t R b1 b2 b3; omega
    · rfl
