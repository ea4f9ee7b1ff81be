/-! SPECS: the parsers: texts, keys, signs, tokens, as numbers -/
set_option maxRecDepth 100000
def wT : List (List Int) := [[59, 58, 43, 45, 42, 40, 41, 91, 93, 61, 60, 62], [32, 99, 97, 118, 101, 32, 114, 111, 111, 109, 115, 32, 112, 97, 115, 115, 97, 103, 101, 32, 100, 114, 111, 112, 32, 98, 111, 116, 104, 32, 114, 111, 112, 101, 100, 32, 108, 111, 115, 116, 32, 104, 117, 114, 116, 32, 115, 108, 97, 99, 107, 32, 102, 97, 108, 108, 115, 32, 104, 117, 114, 116, 115, 32, 109, 97, 121, 32, 105, 102, 32, 116, 104, 101, 110, 32, 101, 108, 115, 101, 32, 101, 110, 100, 32, 98, 97, 99, 107, 32, 114, 111, 111, 109, 32, 97, 110, 100, 32, 111, 114, 32, 110, 111, 116, 32], [99, 97, 118, 101], [114, 111, 111, 109, 115], [112, 97, 115, 115, 97, 103, 101], [108, 111, 115, 116], [115, 108, 97, 99, 107], [102, 97, 108, 108, 115], [104, 117, 114, 116, 115], [109, 97, 121], [100, 114, 111, 112], [98, 111, 116, 104], [114, 111, 112, 101, 100], [104, 117, 114, 116], [105, 102], [116, 104, 101, 110], [101, 108, 115, 101], [101, 110, 100], [111, 114], [97, 110, 100], [110, 111, 116], [98, 97, 99, 107], [114, 111, 111, 109]]
def keyL : List (List Int) := [[99, 97, 118, 101], [114, 111, 111, 109, 115], [112, 97, 115, 115, 97, 103, 101], [100, 114, 111, 112], [98, 111, 116, 104], [114, 111, 112, 101, 100], [108, 111, 115, 116], [104, 117, 114, 116], [115, 108, 97, 99, 107], [102, 97, 108, 108, 115], [104, 117, 114, 116, 115], [109, 97, 121], [105, 102], [116, 104, 101, 110], [101, 108, 115, 101], [101, 110, 100], [98, 97, 99, 107], [114, 111, 111, 109], [97, 110, 100], [111, 114], [110, 111, 116]]
def koL : List Int := [1, 6, 12, 20, 25, 30, 36, 41, 46, 52, 58, 64, 68, 71, 76, 81, 85, 90, 95, 99, 102, 106]
def rf (P : Int → Prop) [DecidablePred P] (b : Int → Int) : Nat → Int → Int
  | 0, i => i
  | k + 1, i => if P (b i) then rf P b k (i + 1) else i
def run (P : Int → Prop) [DecidablePred P] (b : Int → Int) (sz i : Int) : Int := rf P b (sz - i).toNat i
section RN
variable {b : Int → Int} {sz i : Int}
theorem run_go {P : Int → Prop} [DecidablePred P] (h : i < sz) (hp : P (b i)) : run P b sz i = run P b sz (i + 1) := by
  unfold run
  have e : (sz - i).toNat = (sz - (i + 1)).toNat + 1 := by omega
  rw [e]
  show (if P (b i) then _ else _) = _
  rw [if_pos hp]
theorem run_end {P : Int → Prop} [DecidablePred P] (h : sz ≤ i) : run P b sz i = i := by
  unfold run
  have e : (sz - i).toNat = 0 := by omega
  rw [e]; rfl
theorem run_no {P : Int → Prop} [DecidablePred P] (hp : ¬ P (b i)) : run P b sz i = i := by
  unfold run
  cases (sz - i).toNat with
  | zero => rfl
  | succ k =>
    show (if P (b i) then _ else _) = _
    rw [if_neg hp]
theorem rf_rng {P : Int → Prop} [DecidablePred P] : ∀ (k : Nat) (i : Int), i ≤ rf P b k i ∧ rf P b k i ≤ i + k
  | 0, i => ⟨Int.le_refl _, by show i ≤ i + 0; omega⟩
  | k + 1, i => by
    show i ≤ (if P (b i) then rf P b k (i + 1) else i) ∧ (if P (b i) then rf P b k (i + 1) else i) ≤ i + ((k + 1 : Nat) : Int)
    have := rf_rng (P := P) k (i + 1)
    split <;> omega
theorem run_ge {P : Int → Prop} [DecidablePred P] : i ≤ run P b sz i := (rf_rng _ _).1
theorem run_le {P : Int → Prop} [DecidablePred P] (h : i ≤ sz) : run P b sz i ≤ sz := by
  have : run P b sz i ≤ i + ((sz - i).toNat : Int) := (rf_rng _ _).2
  omega
theorem run_ge1 {P : Int → Prop} [DecidablePred P] (h : i < sz) (hp : P (b i)) : i + 1 ≤ run P b sz i := by
  rw [run_go h hp]; exact run_ge (P := P)
end RN
abbrev pW (c : Int) : Prop := c = 32 ∨ c = 10
abbrev pS (c : Int) : Prop := 97 ≤ c ∧ c ≤ 122
abbrev pD (c : Int) : Prop := 48 ≤ c ∧ c ≤ 57
def dval (b : Int → Int) (a : Int) : Nat → Int
  | 0 => 0
  | k + 1 => 10 * dval b a k + b (a + k) - 48
def txt (b : Int → Int) (a e : Int) : List Int := (List.range (e - a).toNat).map fun (i : Nat) => b (a + (i : Int))
theorem txt_len {b : Int → Int} {a e : Int} (h : a ≤ e) : ((txt b a e).length : Int) = e - a := by
  unfold txt; rw [List.length_map, List.length_range]; omega
theorem txt_get {b : Int → Int} {a e k : Int} (k0 : 0 ≤ k) (k1 : k < e - a) : (txt b a e).getD k.toNat 0 = b (a + k) := by
  unfold txt
  have h : k.toNat < (List.range (e - a).toNat).length := by rw [List.length_range]; omega
  rw [List.getD_eq_getElem?_getD, List.getElem?_map, List.getElem?_range (by omega)]
  show b (a + (k.toNat : Int)) = _
  rw [Int.toNat_of_nonneg k0]
theorem txt_eq {b : Int → Int} {a e : Int} {w : List Int} (h : a ≤ e) : txt b a e = w ↔ (e - a = (w.length : Int) ∧ ∀ k : Int, 0 ≤ k → k < w.length → b (a + k) = w.getD k.toNat 0) := by
  constructor
  · intro q
    have hl := txt_len (b := b) h
    rw [q] at hl
    refine ⟨hl.symm, fun k k0 k1 => ?_⟩
    rw [← txt_get (b := b) k0 (show k < e - a by omega), q]
  · rintro ⟨h1, h2⟩
    have hl := txt_len (b := b) h
    apply List.ext_getElem
    · omega
    · intro i h3 h4
      have g1 : (txt b a e).getD i 0 = (txt b a e)[i] := by rw [List.getD_eq_getElem?_getD, List.getElem?_eq_getElem h3]; rfl
      have g2 : w.getD i 0 = w[i] := by rw [List.getD_eq_getElem?_getD, List.getElem?_eq_getElem h4]; rfl
      have t := txt_get (b := b) (a := a) (e := e) (k := i) (by omega) (by omega)
      have t2 := h2 i (by omega) (by omega)
      simp only [Int.toNat_natCast] at t t2
      rw [← g1, ← g2, t, t2]
def wL (i : Nat) : Int := (wT.getD i []).length
def wC (i : Nat) (k : Int) : Int := (wT.getD i []).getD k.toNat 0
theorem wL_rng {i : Nat} (h : i < 23) : 1 ≤ wL i ∧ wL i ≤ 107 := by
  have q : ∀ i : Fin 23, 1 ≤ wL i.val ∧ wL i.val ≤ 107 := by decide +kernel
  exact q ⟨i, h⟩
theorem wC_rng {i : Nat} (h : i < 23) {k : Int} (k0 : 0 ≤ k) (k1 : k < wL i) : 0 ≤ wC i k ∧ wC i k < 128 := by
  have q : ∀ i : Fin 23, ∀ k : Fin 107, (k.val : Int) < wL i.val → 0 ≤ wC i.val k.val ∧ wC i.val k.val < 128 := by decide +kernel
  have := wL_rng h
  have r := q ⟨i, h⟩ ⟨k.toNat, by omega⟩
  simp only [Int.toNat_of_nonneg k0] at r
  exact r k1
/-- a word's key -/
def keyM (t : List Int) : Int := if keyL.idxOf t < 21 then (keyL.idxOf t : Int) else 22
theorem key_rng (t : List Int) : 0 ≤ keyM t ∧ keyM t ≤ 22 ∧ keyM t ≠ 21 := by
  unfold keyM; split <;> omega
theorem key_iff {t : List Int} {k : Nat} (h : k < 21) : keyM t = k ↔ t = keyL.getD k [] := by
  have q : ∀ k : Fin 21, keyL.idxOf (keyL.getD k.val []) = k.val := by decide +kernel
  have hl : keyL.length = 21 := rfl
  constructor
  · intro e
    unfold keyM at e
    by_cases c : keyL.idxOf t < 21
    · rw [if_pos c] at e
      have e2 : keyL.idxOf t = k := by omega
      have c2 : keyL.idxOf t < keyL.length := by omega
      have m := List.getElem_idxOf c2
      rw [List.getD_eq_getElem?_getD, ← e2, List.getElem?_eq_getElem c2]
      exact m.symm
    · rw [if_neg c] at e; omega
  · intro e
    have e2 := q ⟨k, h⟩
    dsimp only at e2
    rw [← e] at e2
    unfold keyM
    rw [if_pos (by omega), e2]
theorem key_no {t : List Int} (h : ∀ k : Nat, k < 21 → t ≠ keyL.getD k []) : keyM t = 22 := by
  have r := key_rng t
  by_cases c : keyM t = 22
  · exact c
  · exact absurd ((key_iff (t := t) (k := (keyM t).toNat) (by omega)).mp (by omega)) (h _ (by omega))
/-- a sign's kind -/
def signM (c : Int) : Int := if c = 59 then 30 else if c = 58 then 31 else if c = 43 then 32 else if c = 45 then 33 else if c = 42 then 34 else if c = 40 then 35 else if c = 41 then 36 else if c = 91 then 37 else if c = 93 then 38 else if c = 61 then 39 else if c = 60 then 40 else if c = 62 then 41 else 25
/-- the component's token of a kind -/
def tokC (k : Int) : Int := if k ≤ 22 then 1 else if k = 23 then 2 else if k = 24 then 0 else if k = 25 then 3 else if k = 30 then 59 else if k = 31 then 58 else if k = 32 then 43 else if k = 33 then 45 else if k = 34 then 42 else if k = 35 then 40 else if k = 36 then 41 else if k = 37 then 91 else if k = 38 then 93 else if k = 39 then 61 else if k = 40 then 60 else 62
theorem signM_rng (c : Int) : signM c = 25 ∨ (30 ≤ signM c ∧ signM c ≤ 41) := by
  unfold signM
  repeat' (first | omega | split)
theorem tokC_rng (k : Int) : 0 ≤ tokC k ∧ tokC k ≤ 93 := by
  unfold tokC
  repeat' (first | omega | split)
theorem signM_at {j : Int} (j0 : 0 ≤ j) (j1 : j < 12) : signM (wC 0 j) = 30 + j := by
  have q : ∀ j : Fin 12, signM (wC 0 j.val) = 30 + (j.val : Int) := by decide +kernel
  have := q ⟨j.toNat, by omega⟩
  simp only [Int.toNat_of_nonneg j0] at this
  exact this
theorem signM_no {c : Int} (h : ∀ j, 0 ≤ j → j < 12 → wC 0 j ≠ c) : signM c = 25 := by
  have e : ∀ j : Fin 12, wC 0 j.val ≠ c := fun j => h j.val (by omega) (by omega)
  have e0 : (59 : Int) ≠ c := e 0
  have e1 : (58 : Int) ≠ c := e 1
  have e2 : (43 : Int) ≠ c := e 2
  have e3 : (45 : Int) ≠ c := e 3
  have e4 : (42 : Int) ≠ c := e 4
  have e5 : (40 : Int) ≠ c := e 5
  have e6 : (41 : Int) ≠ c := e 6
  have e7 : (91 : Int) ≠ c := e 7
  have e8 : (93 : Int) ≠ c := e 8
  have e9 : (61 : Int) ≠ c := e 9
  have e10 : (60 : Int) ≠ c := e 10
  have e11 : (62 : Int) ≠ c := e 11
  unfold signM
  rw [if_neg (fun q => e0 q.symm), if_neg (fun q => e1 q.symm), if_neg (fun q => e2 q.symm), if_neg (fun q => e3 q.symm), if_neg (fun q => e4 q.symm), if_neg (fun q => e5 q.symm), if_neg (fun q => e6 q.symm), if_neg (fun q => e7 q.symm), if_neg (fun q => e8 q.symm), if_neg (fun q => e9 q.symm), if_neg (fun q => e10 q.symm), if_neg (fun q => e11 q.symm)]
theorem tok_sign {c : Int} (h : signM c ≠ 25) : tokC (signM c) = c := by
  have q : ∀ j : Fin 12, tokC (30 + (j.val : Int)) = wC 0 j.val := by decide +kernel
  by_cases e : ∀ j, 0 ≤ j → j < 12 → wC 0 j ≠ c
  · exact absurd (signM_no e) h
  · refine Classical.byContradiction fun n => e fun j j0 j1 ej => n ?_
    rw [← ej, signM_at j0 j1]
    have := q ⟨j.toNat, by omega⟩
    simp only [Int.toNat_of_nonneg j0] at this
    exact this
/-- a kind that a token can have -/
def okK (k : Int) : Prop := 0 ≤ k ∧ k ≠ 21 ∧ (k ≤ 25 ∨ (30 ≤ k ∧ k ≤ 41))
theorem tok_iff {k j : Int} (h : okK k) (j0 : 23 ≤ j) (j1 : j ≤ 41) (j2 : j ≤ 25 ∨ 30 ≤ j) : tokC k = tokC j ↔ k = j := by
  have q : ∀ k : Fin 42, ∀ j : Fin 42, (k.val ≤ 25 ∨ 30 ≤ k.val) → 23 ≤ j.val → (j.val ≤ 25 ∨ 30 ≤ j.val) → (tokC k.val = tokC j.val ↔ (k.val : Int) = j.val) := by decide +kernel
  obtain ⟨h0, h1, h2⟩ := h
  have := q ⟨k.toNat, by omega⟩ ⟨j.toNat, by omega⟩ (by dsimp only; omega) (by dsimp only; omega) (by dsimp only; omega)
  simp only [Int.toNat_of_nonneg h0, Int.toNat_of_nonneg (show 0 ≤ j by omega)] at this
  exact this
theorem tok_word {k : Int} (h : okK k) : tokC k = 1 ↔ k ≤ 22 := by
  have q : ∀ k : Fin 42, (k.val ≤ 25 ∨ 30 ≤ k.val) → (tokC k.val = 1 ↔ (k.val : Int) ≤ 22) := by decide +kernel
  obtain ⟨h0, h1, h2⟩ := h
  have := q ⟨k.toNat, by omega⟩ (by dsimp only; omega)
  simp only [Int.toNat_of_nonneg h0] at this
  exact this
/-- six numbers: begin, end, kind, value, fault, its place -/
def s6 (a b c d e f : Int) : Int → Int := fun k => if k = 0 then a else if k = 1 then b else if k = 2 then c else if k = 3 then d else if k = 4 then e else f
/-- the next token -/
def nextM (b : Int → Int) (sz : Int) (σ : Int → Int) : Int → Int :=
  if sz ≤ run pW b sz (σ 1) then s6 (run pW b sz (σ 1)) (run pW b sz (σ 1)) 24 (σ 3) (σ 4) (σ 5)
  else if pS (b (run pW b sz (σ 1))) then s6 (run pW b sz (σ 1)) (run pS b sz (run pW b sz (σ 1))) (keyM (txt b (run pW b sz (σ 1)) (run pS b sz (run pW b sz (σ 1))))) (σ 3) (σ 4) (σ 5)
  else if pD (b (run pW b sz (σ 1))) then s6 (run pW b sz (σ 1)) (run pD b sz (run pW b sz (σ 1))) (if run pD b sz (run pW b sz (σ 1)) - run pW b sz (σ 1) ≤ 3 then 23 else 25) (dval b (run pW b sz (σ 1)) (min 3 (run pD b sz (run pW b sz (σ 1)) - run pW b sz (σ 1))).toNat) (σ 4) (σ 5)
  else s6 (run pW b sz (σ 1)) (run pW b sz (σ 1) + 1) (signM (b (run pW b sz (σ 1)))) (σ 3) (σ 4) (σ 5)
/-- a state of a parser that can be -/
def okL (b : Int → Int) (sz : Int) (σ : Int → Int) : Prop := 0 ≤ σ 0 ∧ σ 0 ≤ σ 1 ∧ σ 1 ≤ sz ∧ okK (σ 2) ∧ (σ 2 ≠ 24 → σ 0 < σ 1) ∧ (σ 2 ≤ 22 → σ 2 = keyM (txt b (σ 0) (σ 1))) ∧ (σ 2 = 23 → 0 ≤ σ 3 ∧ σ 3 ≤ 999) ∧ 0 ≤ σ 4 ∧ σ 4 ≤ 4
theorem run_all {P : Int → Prop} [DecidablePred P] {b : Int → Int} {sz : Int} : ∀ (m : Nat) (i : Int), (sz - i).toNat ≤ m → ∀ j, i ≤ j → j < run P b sz i → P (b j)
  | 0, i, h, j, j0, j1 => by rw [run_end (by omega)] at j1; omega
  | m + 1, i, h, j, j0, j1 => by
    by_cases c : i < sz
    · by_cases p : P (b i)
      · by_cases e : j = i
        · rw [e]; exact p
        · rw [run_go c p] at j1
          exact run_all m (i + 1) (by omega) j (by omega) j1
      · rw [run_no p] at j1; omega
    · rw [run_end (by omega)] at j1; omega
theorem dval_rng {b : Int → Int} {a : Int} : ∀ (k : Nat), k ≤ 3 → (∀ j : Int, a ≤ j → j < a + k → pD (b j)) → 0 ≤ dval b a k ∧ dval b a k < (10 : Int) ^ k
  | 0, _, _ => ⟨Int.le_refl _, show (0 : Int) < 1 by decide⟩
  | k + 1, h, hp => by
    have ih := dval_rng k (by omega) (fun j j0 j1 => hp j j0 (by omega))
    have d := hp (a + k) (by omega) (by omega)
    show 0 ≤ 10 * dval b a k + b (a + k) - 48 ∧ 10 * dval b a k + b (a + k) - 48 < (10 : Int) ^ (k + 1)
    rw [Int.pow_succ]
    unfold pD at d
    omega
theorem nextM_ok {b : Int → Int} {sz : Int} {σ : Int → Int} (h0 : 0 ≤ σ 1) (h1 : σ 1 ≤ sz) (h2 : 0 ≤ σ 4) (h3 : σ 4 ≤ 4) : okL b sz (nextM b sz σ) ∧ σ 1 ≤ nextM b sz σ 0 ∧ nextM b sz σ 4 = σ 4 ∧ nextM b sz σ 5 = σ 5 := by
  have r1 := run_ge (P := pW) (b := b) (sz := sz) (i := σ 1)
  have r2 := run_le (P := pW) (b := b) h1
  generalize hr : run pW b sz (σ 1) = r at r1 r2
  unfold nextM okL
  rw [hr]
  by_cases c : sz ≤ r
  · rw [if_pos c]
    exact ⟨⟨by show 0 ≤ r; omega, Int.le_refl r, r2, show okK 24 from ⟨by decide, by decide, by decide⟩, fun q => absurd rfl q, fun q => absurd (show (24 : Int) ≤ 22 from q) (by decide), fun q => absurd (show (24 : Int) = 23 from q) (by decide), h2, h3⟩, r1, rfl, rfl⟩
  · rw [if_neg c]
    by_cases c2 : pS (b r)
    · have s1 := run_ge1 (P := pS) (show r < sz by omega) c2
      have s2 := run_le (P := pS) (b := b) r2
      have kr := key_rng (txt b r (run pS b sz r))
      rw [if_pos c2]
      exact ⟨⟨by show 0 ≤ r; omega, by show r ≤ run pS b sz r; omega, s2, ⟨kr.1, kr.2.2, Or.inl (by show keyM _ ≤ 25; omega)⟩, fun _ => (by show r < run pS b sz r; omega), fun _ => rfl, fun q => absurd (show keyM (txt b r (run pS b sz r)) = 23 from q) (by omega), h2, h3⟩, r1, rfl, rfl⟩
    · rw [if_neg c2]
      by_cases c3 : pD (b r)
      · have s1 := run_ge1 (P := pD) (show r < sz by omega) c3
        have s2 := run_le (P := pD) (b := b) r2
        have al := run_all (P := pD) (b := b) (sz := sz) (sz - r).toNat r (by omega)
        have dr := dval_rng (b := b) (a := r) (min 3 (run pD b sz r - r)).toNat (by omega) (fun j j0 j1 => al j j0 (by omega))
        have pw : (10 : Int) ^ (min 3 (run pD b sz r - r)).toNat ≤ 1000 := by
          have : ∀ k : Fin 4, (10 : Int) ^ k.val ≤ 1000 := by decide
          exact this ⟨(min 3 (run pD b sz r - r)).toNat, by omega⟩
        rw [if_pos c3]
        have kk : (if run pD b sz r - r ≤ 3 then (23 : Int) else 25) = 23 ∨ (if run pD b sz r - r ≤ 3 then (23 : Int) else 25) = 25 := by
          split <;> simp
        refine ⟨⟨by show 0 ≤ r; omega, by show r ≤ run pD b sz r; omega, s2, ?_, fun _ => (by show r < run pD b sz r; omega), fun q => ?_, fun _ => ⟨dr.1, by show dval _ _ _ ≤ 999; omega⟩, h2, h3⟩, r1, rfl, rfl⟩
        · show okK (if run pD b sz r - r ≤ 3 then (23 : Int) else 25)
          rcases kk with e | e <;> rw [e] <;> exact ⟨by decide, by decide, by decide⟩
        · have q' : (if run pD b sz r - r ≤ 3 then (23 : Int) else 25) ≤ 22 := q
          omega
      · rw [if_neg c3]
        have sr := signM_rng (b r)
        refine ⟨⟨by show 0 ≤ r; omega, by show r ≤ r + 1; omega, by show r + 1 ≤ sz; omega, ?_, fun _ => (by show r < r + 1; omega), fun q => ?_, fun q => ?_, h2, h3⟩, r1, rfl, rfl⟩
        · show okK (signM (b r))
          exact ⟨by omega, by omega, by omega⟩
        · have q' : signM (b r) ≤ 22 := q
          omega
        · have q' : signM (b r) = 23 := q
          omega
