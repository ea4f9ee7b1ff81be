/-! SPECS: what deeds do to both, side by side -/
set_option maxRecDepth 100000
/-- states that can be undone, side by side -/
def bUn (cp : bF) (A : Int → Int) : Prop := cp 64 8 = A 47 ∧ 0 ≤ A 47 ∧ A 47 ≤ 10 ∧ 0 ≤ cp 64 9 ∧ cp 64 9 < 10
  ∧ ∀ j, 0 ≤ j → j < A 47 → sam (cp (74 + ((cp 64 9 - 1 - j) % 10).toNat)) (fun k => A (48 + 5 * (A 47 - 1 - j) + k)) ∧ bSt A (48 + 5 * (A 47 - 1 - j)) (A 1)
/-- a row of five is a state -/
def okS (st : Int → Int) (rooms : Int) : Prop := 0 ≤ st 0 ∧ st 0 < rooms ∧ 0 ≤ st 1 ∧ st 1 ≤ 5 ∧ 0 ≤ st 2 ∧ st 2 < 256 ∧ 0 ≤ st 3 ∧ st 3 ≤ 9
theorem bSt_of {A : Int → Int} {o rooms : Int} {st : Int → Int} (h : okS st rooms) (e : ∀ k, 0 ≤ k → k < 5 → A (o + k) = st k) : bSt A o rooms := by
  unfold bSt
  have e0 := e 0 (by decide) (by decide)
  rw [Int.add_zero] at e0
  rw [e0, e 1 (by decide) (by decide), e 2 (by decide) (by decide), e 3 (by decide) (by decide)]
  exact h
theorem okS_of {A : Int → Int} {o rooms : Int} (h : bSt A o rooms) : okS (fun k => A (o + k)) rooms := by
  unfold okS
  simp only [Int.add_zero]
  exact h
theorem sam_ext {c c' r r' : Int → Int} (h : sam c r) (e1 : ∀ k, 0 ≤ k → k < 4 → c' k = c k) (e2 : ∀ k, 0 ≤ k → k < 5 → r' k = r k) : sam c' r' := by
  unfold sam at *
  rw [e1 0 (by decide) (by decide), e1 1 (by decide) (by decide), e1 2 (by decide) (by decide), e1 3 (by decide) (by decide), e2 0 (by decide) (by decide), e2 1 (by decide) (by decide), e2 2 (by decide) (by decide), e2 3 (by decide) (by decide), e2 4 (by decide) (by decide)]
  exact h
theorem un_deed {cp cp' tp tp' : bF} {st : Int → Int} (hU : bUn cp (tp 103)) (hs : bSt (tp 103) 42 (tp 103 1)) (h70 : sam (cp 70) (fun k => tp 103 (42 + k))) (hk : bKp cp cp') (hn : bNo tp tp' (fun k => tp 103 (42 + k)) st) (ho : okS st (tp 103 1)) (h7 : sam (cp' 70) st) :
    bUn cp' (tp' 103) ∧ bSt (tp' 103) 42 (tp' 103 1) ∧ sam (cp' 70) (fun k => tp' 103 (42 + k)) := by
  obtain ⟨a1, a2, a3, a4, a5, a6⟩ := hU
  obtain ⟨k1, k2, k3, k4⟩ := hk
  obtain ⟨n1, n2, n3, n4, n5, n6⟩ := hn
  have r1 : tp' 103 1 = tp 103 1 := n2 1 (by omega)
  refine ⟨⟨by rw [k2, n4, a1], by omega, by omega, by omega, by omega, fun j j0 j1 => ?_⟩, ?_, ?_⟩
  · rw [r1]
    by_cases z : j = 0
    · subst z
      have es : (cp' 64 9 - 1 - 0) % 10 = cp 64 9 := by omega
      have eo : tp' 103 47 - 1 - 0 = tp' 103 47 - 1 := by omega
      rw [es, eo]
      exact ⟨sam_ext h70 k3 (fun k q0 q1 => n5 k q0 q1), bSt_of (okS_of hs) (fun k q0 q1 => n5 k q0 q1)⟩
    · have es : (cp' 64 9 - 1 - j) % 10 = (cp 64 9 - 1 - (j - 1)) % 10 := by omega
      have em : ((cp 64 9 - 1 - (j - 1)) % 10).toNat ≠ (cp 64 9).toNat := by omega
      have ej := a6 (j - 1) (by omega) (by omega)
      have eo : tp 103 47 - 1 - (j - 1) = tp 103 47 - j := by omega
      rw [eo] at ej
      rw [es]
      exact ⟨sam_ext ej.1 (fun k q0 q1 => k4 _ k (by omega) (by omega) (by omega)) (fun k q0 q1 => n6 j k q0 q1 (by omega) j1), bSt_of (okS_of ej.2) (fun k q0 q1 => n6 j k q0 q1 (by omega) j1)⟩
  · rw [r1]; exact bSt_of ho n3
  · exact sam_ext h7 (fun _ _ _ => rfl) n3
theorem un_undo {cp cp' tp tp' : bF} {i : Int} (hU : bUn cp (tp 103)) (i0 : 1 ≤ i) (i1 : i ≤ tp 103 47) (k1 : cp' 64 9 = (cp 64 9 + 10 - i) % 10) (k2 : cp' 64 8 = cp 64 8 - i) (k3 : ∀ k, 0 ≤ k → k < 4 → cp' 70 k = cp (74 + ((cp 64 9 + 10 - i) % 10).toNat) k) (k4 : ∀ a k, a ≠ 70 → ¬ (a = 64 ∧ (k = 8 ∨ k = 9)) → cp' a k = cp a k)
    (n1 : tp' 103 47 = tp 103 47 - i) (n2 : ∀ k, 0 ≤ k → k < 5 → tp' 103 (42 + k) = tp 103 (48 + 5 * (tp 103 47 - i) + k)) (n3 : ∀ k, (k < 42 ∨ 48 ≤ k) → tp' 103 k = tp 103 k) :
    bUn cp' (tp' 103) ∧ bSt (tp' 103) 42 (tp' 103 1) ∧ sam (cp' 70) (fun k => tp' 103 (42 + k)) := by
  obtain ⟨a1, a2, a3, a4, a5, a6⟩ := hU
  have r1 : tp' 103 1 = tp 103 1 := n3 1 (by omega)
  have ei := a6 (i - 1) (by omega) (by omega)
  have eo : tp 103 47 - 1 - (i - 1) = tp 103 47 - i := by omega
  have es : (cp 64 9 - 1 - (i - 1)) % 10 = (cp 64 9 + 10 - i) % 10 := by omega
  rw [eo, es] at ei
  refine ⟨⟨by rw [k2, n1, a1], by omega, by omega, by omega, by omega, fun j j0 j1 => ?_⟩, ?_, ?_⟩
  · rw [r1, n1]
    have ej := a6 (i + j) (by omega) (by omega)
    have es2 : (cp' 64 9 - 1 - j) % 10 = (cp 64 9 - 1 - (i + j)) % 10 := by omega
    have eo2 : tp 103 47 - i - 1 - j = tp 103 47 - 1 - (i + j) := by omega
    rw [es2, eo2]
    exact ⟨sam_ext ej.1 (fun k q0 q1 => k4 _ k (by omega) (by omega)) (fun k q0 q1 => n3 _ (by omega)), bSt_of (okS_of ej.2) (fun k q0 q1 => n3 _ (by omega))⟩
  · rw [r1]; exact bSt_of (okS_of ei.2) n2
  · exact sam_ext ei.1 k3 n2
theorem mL_congr {A A' : Int → Int} {law : Int} (h : ∀ k, k < 42 ∨ 98 ≤ k → A' k = A k) (l : law = 0 ∨ law = 1) (h6 : 0 ≤ A (6 + law)) : mL A' 0 law = mL A 0 law := by
  unfold mL
  have e8 : A' (0 + 8 + law) = A (0 + 8 + law) := h _ (by omega)
  have e6 : A' (0 + 6 + law) = A (0 + 6 + law) := h _ (by omega)
  rw [e8, e6]
  apply List.map_congr_left
  intro a ha
  have e : (0 : Int) + 6 + law = 6 + law := by omega
  rw [e]
  exact h _ (by omega)
theorem bWF_congr {A A' : Int → Int} (h : ∀ k, k < 42 ∨ 98 ≤ k → A' k = A k) (hw : bWF A 0) : bWF A' 0 := by
  have l0 : A 4 = 1 → mL A' 0 0 = mL A 0 0 := fun q => mL_congr h (Or.inl rfl) (by have := (hw.2.2.2.2.2.2.2.2.2.1 (by simpa using q)).1; simpa using this)
  have l1 : A 5 = 1 → mL A' 0 1 = mL A 0 1 := fun q => mL_congr h (Or.inr rfl) (by have := (hw.2.2.2.2.2.2.2.2.2.2 (by simpa using q)).1; simpa using this)
  unfold bWF at hw ⊢
  simp only [Int.zero_add] at hw ⊢
  have e : ∀ k, k < 42 → A' k = A k := fun k q => h k (Or.inl q)
  rw [e 1 (by decide), e 2 (by decide), e 3 (by decide), e 4 (by decide), e 5 (by decide), e 6 (by decide), e 7 (by decide), e 8 (by decide), e 9 (by decide)]
  obtain ⟨h1, h2, h3, h4, h5, h6, h7, h8, h9, h10, h11⟩ := hw
  refine ⟨h1, h2, h3, h4, h5, h6, h7, h8, fun p p0 p1 => ?_, fun q => ?_, fun q => ?_⟩
  · rw [e (10 + p) (by omega), e (18 + p) (by omega), e (26 + p) (by omega), e (34 + p) (by omega)]
    exact h9 p p0 p1
  · rw [l0 q]; exact h10 q
  · rw [l1 q]; exact h11 q
theorem bRC_congr {κ : Nat → Nat} {g : bG} {ca : Nat} {A A' : Int → Int} (h : ∀ k, k < 42 ∨ 98 ≤ k → A' k = A k) (hw : bWF A 0) (hc : bRC κ g ca A) : bRC κ g ca A' := by
  have l0 : A 4 = 1 → mL A' 0 0 = mL A 0 0 := fun q => mL_congr h (Or.inl rfl) (by have := (hw.2.2.2.2.2.2.2.2.2.1 (by simpa using q)).1; simpa using this)
  have l1 : A 5 = 1 → mL A' 0 1 = mL A 0 1 := fun q => mL_congr h (Or.inr rfl) (by have := (hw.2.2.2.2.2.2.2.2.2.2 (by simpa using q)).1; simpa using this)
  have w4 : A 2 ≤ 8 := by have := hw.2.2.2.1; simpa using this
  have e : ∀ k, k < 42 → A' k = A k := fun k q => h k (Or.inl q)
  unfold bRC at hc ⊢
  rw [e 0 (by decide), e 1 (by decide), e 2 (by decide), e 3 (by decide), e 4 (by decide), e 5 (by decide)]
  obtain ⟨c0, c1, c2, c3, c4, c5, c6, c7, c8, ⟨tw, ctw, htw⟩, cb, ce, cd, cw, cwp, hca, hl0, hl1⟩ := hc
  refine ⟨c0, c1, c2, c3, c4, c5, c6, c7, c8, ⟨tw, ctw, fun p p0 p1 => by rw [e (34 + p) (by omega)]; exact htw p p0 p1⟩, fun X Y n z z0 z1 => by rw [e (10 + z) (by omega)]; exact cb X Y n z z0 z1, fun X Y n z z0 z1 => by rw [e (18 + z) (by omega)]; exact ce X Y n z z0 z1, fun X Y n z z0 z1 => by rw [e (26 + z) (by omega)]; exact cd X Y n z z0 z1, cw, cwp, hca, ?_, ?_⟩
  · rcases hl0 with q | ⟨q, x, d, a, b, c, f⟩
    · exact Or.inl q
    · exact Or.inr ⟨q, x, d, a, b, c, by rw [l0 q]; exact f⟩
  · rcases hl1 with q | ⟨q, x, d, a, b, c, f⟩
    · exact Or.inl q
    · exact Or.inr ⟨q, x, d, a, b, c, by rw [l1 q]; exact f⟩
theorem bCt_new {κ : Nat → Nat} {g : bG} {ca : Nat} {A A' : Int → Int} {cp cp' : bF} (h : bCt κ g ca A cp) (e : ∀ k, k < 42 ∨ 98 ≤ k → A' k = A k) (hs : bSt A' 42 (A' 1)) (hm : sam (cp' 70) (fun k => A' (42 + k))) : bCt κ g ca A' cp' := by
  obtain ⟨hF, hc, hw, -, -⟩ := h
  exact ⟨hF, bRC_congr e hw hc, bWF_congr e hw, hs, hm.1, hm.2.1, hm.2.2.1, hm.2.2.2⟩
