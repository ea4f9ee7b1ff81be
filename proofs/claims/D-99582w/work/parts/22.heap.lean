/-! SOUNDNESS, third part: the heap's laws -/
set_option maxRecDepth 100000
theorem bk_real_i (x : Int32) : bk_real (.int x) := Or.inl ⟨x, rfl⟩
theorem bk_real_l (x : Int64) : bk_real (.long x) := Or.inr (Or.inl ⟨x, rfl⟩)
theorem bk_real_r (x : Nat) : bk_real (.ref x) := Or.inr (Or.inr ⟨x, rfl⟩)
theorem bk_rel.read {w : bk_W} {σ : Nat → Option Nat} {h : bk_H} {H : Heap} (hR : bk_rel w σ h H) {t a k : Nat} {v : Value} (hv : h.1 t a k = v) (hr : bk_real v) : ∃ b, σ a = some b ∧ bk_cell w σ t k v b H := by
  subst hv; exact hR.1 t a k hr
theorem bk_cell.obj {w : bk_W} {σ : Nat → Option Nat} {t k : Nat} {v : Value} {b : Nat} {H : Heap} (h : bk_cell w σ t k v b H) (ht : t < 15) :
    w.2.2.1 ≤ b ∧ ∃ (q : vw_C) (V : Nat → Value), bk_cl[t]? = some q ∧ k < q.2.2 ∧ t_OB b (w.1.1 t) q.2.2 (w.1.2 t) H V ∧ bk_vr σ v (V k) := by
  rcases h with ⟨-, h⟩ | ⟨h, -⟩ | ⟨h, -⟩ | ⟨h, -⟩ | ⟨h, -⟩ | ⟨h, -⟩ | ⟨h, -⟩ | ⟨h, -⟩
  · exact h
  all_goals omega
theorem bk_cell.arr {w : bk_W} {σ : Nat → Option Nat} {t k : Nat} {v : Value} {b : Nat} {H : Heap} (h : bk_cell w σ t k v b H) (ht : 100 ≤ t) (ht2 : t < 108) :
    w.2.2.1 ≤ b ∧ ∃ (n : Nat) (f : Nat → Value), H[b]? = some (arrV (w.2.1 (t - 100)) n f) ∧ k < n ∧ n < 2 ^ 31 ∧ bk_vr σ v (f k) := by
  rcases h with ⟨h, -⟩ | ⟨-, -, h⟩ | ⟨h, -⟩ | ⟨h, -⟩ | ⟨h, -⟩ | ⟨h, -⟩ | ⟨h, -⟩ | ⟨h, -⟩
  · omega
  · exact h
  all_goals omega
theorem bk_cell.len {w : bk_W} {σ : Nat → Option Nat} {t k : Nat} {v : Value} {b : Nat} {H : Heap} (h : bk_cell w σ t k v b H) (ht : 200 ≤ t) (ht2 : t < 208) :
    ∃ (n : Nat) (f : Nat → Value), H[b]? = some (arrV (w.2.1 (t - 200)) n f) ∧ n < 2 ^ 31 ∧ v = .int (Int32.ofNat n) := by
  rcases h with ⟨h, -⟩ | ⟨-, h, -⟩ | ⟨-, -, h⟩ | ⟨h, -⟩ | ⟨h, -⟩ | ⟨h, -⟩ | ⟨h, -⟩ | ⟨h, -⟩
  · omega
  · omega
  · exact h
  all_goals omega
theorem bk_put_at (h : bk_H) (t a k : Nat) (v : Value) (t' a' k' : Nat) : (bk_put h t a k v).1 t' a' k' = if t' = t ∧ a' = a ∧ k' = k then v else h.1 t' a' k' := rfl
/-- a field is written -/
theorem bk_rel.putO {w : bk_W} {σ : Nat → Option Nat} {h : bk_H} {H H' : Heap} (hR : bk_rel w σ h H) {t a k b : Nat} {v v0 x : Value} {cell : Cell} {q : vw_C} {V : Nat → Value} (ht : t < 15) (hv : h.1 t a k = v0) (hr0 : bk_real v0) (hb : σ a = some b) (hw : w.2.2.1 ≤ b) (hq : bk_cl[t]? = some q)
    (hcell : H[b]? = some cell) (hcls : cell.cls = w.1.1 t) (hvm : cell.vm = .none) (hV : ∀ j, j < q.2.2 → cell.slots[w.1.2 t j]? = some (V j)) (hap : ∀ i j, i < q.2.2 → j < q.2.2 → i ≠ j → w.1.2 t i ≠ w.1.2 t j) (hk : k < q.2.2)
    (e1 : H'[b]? = some (cell.setSlot (w.1.2 t k) x)) (e2 : H'.size = H.size) (e3 : ∀ y, y ≠ b → H'[y]? = H[y]?) (hvx : bk_vr σ v x) (hr : bk_real v) : bk_rel w σ (bk_put h t a k v) H' := by
  obtain ⟨h1, h2, h3, h4, h6, τ, h5⟩ := hR
  have hgt : bk_grp t = t := by unfold bk_grp; rw [if_pos (by omega)]
  have hta : τ a = t := by rw [← h5 t a k (by rw [hv]; exact hr0), hgt]
  have key : ∀ t' a' k', bk_real ((bk_put h t a k v).1 t' a' k') → ((t' = t ∧ a' = a ∧ k' = k) ∧ (bk_put h t a k v).1 t' a' k' = v) ∨ (¬ (t' = t ∧ a' = a ∧ k' = k) ∧ (bk_put h t a k v).1 t' a' k' = h.1 t' a' k') := by
    intro t' a' k' _
    rw [bk_put_at]
    by_cases e : t' = t ∧ a' = a ∧ k' = k
    · rw [if_pos e]; exact Or.inl ⟨e, rfl⟩
    · rw [if_neg e]; exact Or.inr ⟨e, rfl⟩
  refine ⟨fun t' a' k' hreal => ?_, h2, fun a' b' hb' => by rw [e2]; exact h3 a' b' hb', h4, h6, τ, fun t' a' k' hreal => ?_⟩
  · rcases key t' a' k' hreal with ⟨⟨rfl, rfl, rfl⟩, e⟩ | ⟨ne, e⟩
    · rw [e]
      refine ⟨b, hb, Or.inl ⟨ht, hw, q, updV V k' x, hq, hk, ⟨_, e1, hcls, hvm, t_set hV hap hk x⟩, ?_⟩⟩
      simp only [updV, if_true]; exact hvx
    · rw [e] at hreal ⊢
      obtain ⟨b', hb', hc⟩ := h1 t' a' k' hreal
      refine ⟨b', hb', ?_⟩
      by_cases hbb : b' = b
      · subst hbb
        have ha : a' = a := h2 a' a b' hb' hb hw
        subst ha
        have hg' : bk_grp t' = t := by rw [h5 t' a' k' hreal, hta]
        have ht' : t' = t := by
          unfold bk_grp at hg'
          split at hg'
          · exact hg'
          · omega
        subst ht'
        obtain ⟨-, q', V', g1, g2, ⟨cell', c1, c2, c3, c4⟩, g4⟩ := hc.obj ht
        cases hq.symm.trans g1
        cases hcell.symm.trans c1
        have hkk : k' ≠ k := fun z => ne ⟨rfl, rfl, z⟩
        refine Or.inl ⟨ht, hw, q, updV V' k x, hq, g2, ⟨_, e1, hcls, hvm, t_set c4 hap hk x⟩, ?_⟩
        simp only [updV, if_neg hkk]; exact g4
      · exact hc.kept (e3 b' hbb)
  · rcases key t' a' k' hreal with ⟨⟨rfl, rfl, rfl⟩, e⟩ | ⟨ne, e⟩
    · exact h5 t' a' k' (by rw [hv]; exact hr0)
    · rw [e] at hreal
      exact h5 t' a' k' hreal
/-- an array's element is written -/
theorem bk_rel.putA {w : bk_W} {σ : Nat → Option Nat} {h : bk_H} {H H' : Heap} (hR : bk_rel w σ h H) {t a k b n : Nat} {v v0 x : Value} {f : Nat → Value} (ht : 100 ≤ t) (ht2 : t < 108) (hv : h.1 t a k = v0) (hr0 : bk_real v0) (hb : σ a = some b) (hw : w.2.2.1 ≤ b)
    (hcell : H[b]? = some (arrV (w.2.1 (t - 100)) n f)) (hk : k < n) (hn : n < 2 ^ 31)
    (e1 : H'[b]? = some (arrV (w.2.1 (t - 100)) n (updV f k x))) (e2 : H'.size = H.size) (e3 : ∀ y, y ≠ b → H'[y]? = H[y]?) (hvx : bk_vr σ v x) (hr : bk_real v) : bk_rel w σ (bk_put h t a k v) H' := by
  obtain ⟨h1, h2, h3, h4, h6, τ, h5⟩ := hR
  have hgt : bk_grp t = t := by unfold bk_grp; rw [if_pos (by omega)]
  have hta : τ a = t := by rw [← h5 t a k (by rw [hv]; exact hr0), hgt]
  have key : ∀ t' a' k', bk_real ((bk_put h t a k v).1 t' a' k') → ((t' = t ∧ a' = a ∧ k' = k) ∧ (bk_put h t a k v).1 t' a' k' = v) ∨ (¬ (t' = t ∧ a' = a ∧ k' = k) ∧ (bk_put h t a k v).1 t' a' k' = h.1 t' a' k') := by
    intro t' a' k' _
    rw [bk_put_at]
    by_cases e : t' = t ∧ a' = a ∧ k' = k
    · rw [if_pos e]; exact Or.inl ⟨e, rfl⟩
    · rw [if_neg e]; exact Or.inr ⟨e, rfl⟩
  refine ⟨fun t' a' k' hreal => ?_, h2, fun a' b' hb' => by rw [e2]; exact h3 a' b' hb', h4, h6, τ, fun t' a' k' hreal => ?_⟩
  · rcases key t' a' k' hreal with ⟨⟨rfl, rfl, rfl⟩, e⟩ | ⟨ne, e⟩
    · rw [e]
      refine ⟨b, hb, Or.inr (Or.inl ⟨ht, ht2, hw, n, updV f k' x, e1, hk, hn, ?_⟩)⟩
      simp only [updV, if_true]; exact hvx
    · rw [e] at hreal ⊢
      obtain ⟨b', hb', hc⟩ := h1 t' a' k' hreal
      refine ⟨b', hb', ?_⟩
      by_cases hbb : b' = b
      · subst hbb
        have ha : a' = a := h2 a' a b' hb' hb hw
        subst ha
        have hg' : bk_grp t' = t := by rw [h5 t' a' k' hreal, hta]
        have ht' : t' = t ∨ t' = t + 100 := by
          unfold bk_grp at hg'
          split at hg'
          · exact Or.inl hg'
          · omega
        rcases ht' with ht' | ht'
        · subst ht'
          obtain ⟨-, n', f', g1, g2, g3, g4⟩ := hc.arr ht ht2
          have eq : arrV (w.2.1 (t' - 100)) n f = arrV (w.2.1 (t' - 100)) n' f' := Option.some.inj (hcell.symm.trans g1)
          have en : n = n' := by rw [← arrV_size (w.2.1 (t' - 100)) n f, eq, arrV_size]
          subst en
          have ef : f k' = f' k' := by
            have r1 := arrV_read (w.2.1 (t' - 100)) f g2
            rw [eq, arrV_read _ _ g2] at r1
            exact (Option.some.inj r1).symm
          have hkk : k' ≠ k := fun z => ne ⟨rfl, rfl, z⟩
          refine Or.inr (Or.inl ⟨ht, ht2, hw, n, updV f k x, e1, g2, hn, ?_⟩)
          simp only [updV, if_neg hkk]; rw [ef]; exact g4
        · subst ht'
          obtain ⟨n', f', g1, g2, g3⟩ := hc.len (by omega) (by omega)
          have e200 : t + 100 - 200 = t - 100 := by omega
          rw [e200] at g1
          have eq : arrV (w.2.1 (t - 100)) n f = arrV (w.2.1 (t - 100)) n' f' := Option.some.inj (hcell.symm.trans g1)
          have en : n = n' := by rw [← arrV_size (w.2.1 (t - 100)) n f, eq, arrV_size]
          refine Or.inr (Or.inr (Or.inl ⟨by omega, by omega, n, updV f k x, by rw [e200]; exact e1, hn, by rw [en]; exact g3⟩))
      · exact hc.kept (e3 b' hbb)
  · rcases key t' a' k' hreal with ⟨⟨rfl, rfl, rfl⟩, e⟩ | ⟨ne, e⟩
    · exact h5 t' a' k' (by rw [hv]; exact hr0)
    · rw [e] at hreal
      exact h5 t' a' k' hreal
/-- where the new cell is -/
def bk_sn (σ : Nat → Option Nat) (a b : Nat) : Nat → Option Nat := fun x => if x = a then some b else σ x
theorem bk_sn_ext {w : bk_W} {σ : Nat → Option Nat} {h : bk_H} {H : Heap} (hR : bk_rel w σ h H) (b : Nat) : bk_ext σ (bk_sn σ h.2.1 b) := by
  intro a b' hb
  unfold bk_sn
  rw [if_neg (Nat.ne_of_lt (hR.2.2.1 a b' hb).1)]
  exact hb
/-- a new cell -/
theorem bk_rel.new {w : bk_W} {σ : Nat → Option Nat} {h h' : bk_H} {H H' : Heap} (hR : bk_rel w σ h H) (h0 : h.2.1 ≠ 0) (hz : H'.size = H.size + 1) (ho : ∀ y, y < H.size → H'[y]? = H[y]?) (hn : h'.2.1 = h.2.1 + 1) (hw : w.2.2.1 ≤ H.size) (g : Nat)
    (hin : ∀ t a k, bk_real (h'.1 t a k) → (a = h.2.1 ∧ bk_grp t = g ∧ bk_cell w (bk_sn σ h.2.1 H.size) t k (h'.1 t a k) H.size H') ∨ h'.1 t a k = h.1 t a k) : bk_rel w (bk_sn σ h.2.1 H.size) h' H' := by
  have hext := bk_sn_ext hR H.size
  obtain ⟨h1, h2, h3, h4, h6, τ, h5⟩ := hR
  have old : ∀ a b, bk_sn σ h.2.1 H.size a = some b → (a = h.2.1 ∧ b = H.size) ∨ (a ≠ h.2.1 ∧ σ a = some b) := by
    intro a b hb
    unfold bk_sn at hb
    by_cases e : a = h.2.1
    · rw [if_pos e] at hb; cases hb; exact Or.inl ⟨e, rfl⟩
    · rw [if_neg e] at hb; exact Or.inr ⟨e, hb⟩
  refine ⟨fun t a k hreal => ?_, fun a a' b ha ha' hb => ?_, fun a b ha => ?_, ?_, fun i hi => hext _ _ (h6 i hi), fun a => if a = h.2.1 then g else τ a, fun t a k hreal => ?_⟩
  · rcases hin t a k hreal with ⟨rfl, -, hc⟩ | e
    · exact ⟨H.size, by unfold bk_sn; rw [if_pos rfl], hc⟩
    · rw [e] at hreal ⊢
      obtain ⟨b, hb, hc⟩ := h1 t a k hreal
      exact ⟨b, hext a b hb, (hc.ext hext).kept (ho b (h3 a b hb).2)⟩
  · rcases old a b ha with ⟨e1, e2⟩ | ⟨n1, e1⟩ <;> rcases old a' b ha' with ⟨e3, e4⟩ | ⟨n3, e3⟩
    · rw [e1, e3]
    · have := (h3 a' b e3).2; omega
    · have := (h3 a b e1).2; omega
    · exact h2 a a' b e1 e3 hb
  · rcases old a b ha with ⟨e1, e2⟩ | ⟨n1, e1⟩
    · rw [e1, e2, hn, hz]; omega
    · have := h3 a b e1; rw [hn, hz]; omega
  · unfold bk_sn; rw [if_neg (Ne.symm h0)]; exact h4
  · rcases hin t a k hreal with ⟨rfl, hg, -⟩ | e
    · show bk_grp t = if h.2.1 = h.2.1 then g else τ h.2.1
      rw [if_pos rfl]; exact hg
    · rw [e] at hreal
      have ha := h1 t a k hreal
      obtain ⟨b, hb, -⟩ := ha
      show bk_grp t = if a = h.2.1 then g else τ a
      rw [if_neg (Nat.ne_of_lt (h3 a b hb).1)]
      exact h5 t a k hreal
theorem bk_ix_in {j : Int32} {n : Nat} (h : bk_ix j < n) (hn : n < 2 ^ 31) : ¬ j < 0 ∧ j.toNatClampNeg = bk_ix j := by
  have h1 : j.toInt = j.toBitVec.toInt := rfl
  have h2 : bk_ix j = j.toBitVec.toNat := rfl
  have h3 := BitVec.toInt_eq_toNat_cond j.toBitVec
  rw [if_pos (by omega)] at h3
  have h4 : j.toInt = (bk_ix j : Int) := by rw [h1, h3, h2]
  refine ⟨?_, ?_⟩
  · rw [Int32.lt_iff_toInt_lt, h4, Int32.toInt_zero]; omega
  · show j.toInt.toNat = _
    rw [h4]; rfl
