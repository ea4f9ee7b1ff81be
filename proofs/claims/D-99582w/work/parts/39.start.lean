/-! SOUNDNESS: the start: the pure heap that the machine's heap begins as -/
set_option maxRecDepth 100000
/-- the script at 1, the constants at 2.., their bytes at 32.. -/
def bk_h0 (L : Nat) (xs : Nat → Int32) : bk_H := (fun t a k =>
  if t = 110 ∧ a = 1 ∧ k < L then .int (xs k)
  else if t = 210 ∧ a = 1 ∧ k = 0 then .int (Int32.ofNat L)
  else if t = 15 ∧ 2 ≤ a ∧ a < 25 ∧ k = 0 then .ref (a + 30)
  else if t = 15 ∧ 2 ≤ a ∧ a < 25 ∧ k = 1 then .int 0
  else if t = 111 ∧ 32 ≤ a ∧ a < 55 ∧ k < bk_lns.getD (a - 32) 0 then .int ((bk_byt.getD (a - 32) []).getD k 0)
  else if t = 211 ∧ 32 ≤ a ∧ a < 55 ∧ k = 0 then .int (Int32.ofNat (bk_lns.getD (a - 32) 0))
  else bk_u, 64, 0)
def bk_s0 (w : bk_W) (a : Nat) : Option Nat :=
  if a = 1 then some w.2.2.2.1.1 else if 2 ≤ a ∧ a < 25 then some (w.2.2.2.2.1 (a - 2)) else if 32 ≤ a ∧ a < 55 then some (w.2.2.2.2.2 (a - 32)) else none
theorem bk_u_real : ¬ bk_real bk_u := by
  rintro (⟨x, h⟩ | ⟨x, h⟩ | ⟨x, h⟩) <;> cases h
theorem bk_rel0 {w : bk_W} {H : Heap} (hs : w.2.2.2.1.1 < w.2.2.1) (hK : ∀ i, i < 23 → w.2.2.2.2.1 i < w.2.2.1) (hV : ∀ i, i < 23 → w.2.2.2.2.2 i < w.2.2.1) (hz : w.2.2.1 ≤ H.size) : bk_rel w (bk_s0 w) (bk_h0 w.2.2.2.1.2.1 w.2.2.2.1.2.2) H := by
  have s1 : bk_s0 w 1 = some w.2.2.2.1.1 := if_pos rfl
  have s2 : ∀ a, 2 ≤ a → a < 25 → bk_s0 w a = some (w.2.2.2.2.1 (a - 2)) := fun a h1 h2 => by
    unfold bk_s0
    rw [if_neg (by omega), if_pos ⟨h1, h2⟩]
  have s3 : ∀ a, 32 ≤ a → a < 55 → bk_s0 w a = some (w.2.2.2.2.2 (a - 32)) := fun a h1 h2 => by
    unfold bk_s0
    rw [if_neg (by omega), if_neg (by omega), if_pos ⟨h1, h2⟩]
  have dom : ∀ a b, bk_s0 w a = some b → a < 64 ∧ b < w.2.2.1 := by
    intro a b h
    unfold bk_s0 at h
    split at h
    · cases h; exact ⟨by omega, hs⟩
    · split at h
      · cases h; exact ⟨by omega, hK _ (by omega)⟩
      · split at h
        · cases h; exact ⟨by omega, hV _ (by omega)⟩
        · cases h
  refine ⟨fun t a k hr => ?_, fun a a' b h1 h2 h3 => ?_, fun a b h => ⟨(dom a b h).1, Nat.lt_of_lt_of_le (dom a b h).2 hz⟩, ?_, fun i hi => ?_, fun a => if a = 1 then 110 else if a < 25 then 15 else 111, fun t a k hr => ?_⟩
  · have e : (bk_h0 w.2.2.2.1.2.1 w.2.2.2.1.2.2).1 t a k = if t = 110 ∧ a = 1 ∧ k < w.2.2.2.1.2.1 then .int (w.2.2.2.1.2.2 k)
      else if t = 210 ∧ a = 1 ∧ k = 0 then .int (Int32.ofNat w.2.2.2.1.2.1)
      else if t = 15 ∧ 2 ≤ a ∧ a < 25 ∧ k = 0 then .ref (a + 30)
      else if t = 15 ∧ 2 ≤ a ∧ a < 25 ∧ k = 1 then .int 0
      else if t = 111 ∧ 32 ≤ a ∧ a < 55 ∧ k < bk_lns.getD (a - 32) 0 then .int ((bk_byt.getD (a - 32) []).getD k 0)
      else if t = 211 ∧ 32 ≤ a ∧ a < 55 ∧ k = 0 then .int (Int32.ofNat (bk_lns.getD (a - 32) 0))
      else bk_u := rfl
    rw [e] at hr ⊢
    split at hr
    · rename_i q
      obtain ⟨rfl, rfl, hk⟩ := q
      rw [if_pos ⟨rfl, rfl, hk⟩]
      exact ⟨_, s1, Or.inr (Or.inr (Or.inr (Or.inl ⟨rfl, rfl, hk, rfl⟩)))⟩
    · rename_i n1
      rw [if_neg n1]
      split at hr
      · rename_i q
        obtain ⟨rfl, rfl, rfl⟩ := q
        rw [if_pos ⟨rfl, rfl, rfl⟩]
        exact ⟨_, s1, Or.inr (Or.inr (Or.inr (Or.inr (Or.inl ⟨rfl, rfl, rfl⟩))))⟩
      · rename_i n2
        rw [if_neg n2]
        split at hr
        · rename_i q
          rw [if_pos q]
          obtain ⟨rfl, h1, h2, rfl⟩ := q
          refine ⟨_, s2 a h1 h2, Or.inr (Or.inr (Or.inr (Or.inr (Or.inr (Or.inl ⟨rfl, a - 2, by omega, rfl, Or.inl ⟨rfl, a + 30, rfl, ?_⟩⟩)))))⟩
          rw [s3 _ (by omega) (by omega)]
          have : a + 30 - 32 = a - 2 := by omega
          rw [this]
        · rename_i n3
          rw [if_neg n3]
          split at hr
          · rename_i q
            rw [if_pos q]
            obtain ⟨rfl, h1, h2, rfl⟩ := q
            exact ⟨_, s2 a h1 h2, Or.inr (Or.inr (Or.inr (Or.inr (Or.inr (Or.inl ⟨rfl, a - 2, by omega, rfl, Or.inr ⟨rfl, rfl⟩⟩)))))⟩
          · rename_i n4
            rw [if_neg n4]
            split at hr
            · rename_i q
              rw [if_pos q]
              obtain ⟨rfl, h1, h2, hk⟩ := q
              exact ⟨_, s3 a h1 h2, Or.inr (Or.inr (Or.inr (Or.inr (Or.inr (Or.inr (Or.inl ⟨rfl, a - 32, by omega, rfl, hk, rfl⟩))))))⟩
            · rename_i n5
              rw [if_neg n5]
              split at hr
              · rename_i q
                rw [if_pos q]
                obtain ⟨rfl, h1, h2, rfl⟩ := q
                exact ⟨_, s3 a h1 h2, Or.inr (Or.inr (Or.inr (Or.inr (Or.inr (Or.inr (Or.inr ⟨rfl, a - 32, by omega, rfl, rfl⟩))))))⟩
              · exact absurd hr bk_u_real
  · have := (dom a b h1).2
    omega
  · unfold bk_s0
    rw [if_neg (by omega), if_neg (by omega), if_neg (by omega)]
  · rw [s2 _ (by omega) (by omega)]
    have : 2 + i - 2 = i := by omega
    rw [this]
  · have e : (bk_h0 w.2.2.2.1.2.1 w.2.2.2.1.2.2).1 t a k = if t = 110 ∧ a = 1 ∧ k < w.2.2.2.1.2.1 then .int (w.2.2.2.1.2.2 k)
      else if t = 210 ∧ a = 1 ∧ k = 0 then .int (Int32.ofNat w.2.2.2.1.2.1)
      else if t = 15 ∧ 2 ≤ a ∧ a < 25 ∧ k = 0 then .ref (a + 30)
      else if t = 15 ∧ 2 ≤ a ∧ a < 25 ∧ k = 1 then .int 0
      else if t = 111 ∧ 32 ≤ a ∧ a < 55 ∧ k < bk_lns.getD (a - 32) 0 then .int ((bk_byt.getD (a - 32) []).getD k 0)
      else if t = 211 ∧ 32 ≤ a ∧ a < 55 ∧ k = 0 then .int (Int32.ofNat (bk_lns.getD (a - 32) 0))
      else bk_u := rfl
    rw [e] at hr
    show (if t < 200 then t else t - 100) = (if a = 1 then 110 else if a < 25 then 15 else 111)
    split at hr
    · rename_i q; obtain ⟨rfl, rfl, -⟩ := q; rfl
    · split at hr
      · rename_i q; obtain ⟨rfl, rfl, -⟩ := q; rfl
      · split at hr
        · rename_i q
          obtain ⟨rfl, h1, h2, -⟩ := q
          rw [if_pos (by omega), if_neg (by omega), if_pos (by omega)]
        · split at hr
          · rename_i q
            obtain ⟨rfl, h1, h2, -⟩ := q
            rw [if_pos (by omega), if_neg (by omega), if_pos (by omega)]
          · split at hr
            · rename_i q
              obtain ⟨rfl, h1, h2, -⟩ := q
              rw [if_pos (by omega), if_neg (by omega), if_neg (by omega)]
            · split at hr
              · rename_i q
                obtain ⟨rfl, h1, h2, -⟩ := q
                rw [if_neg (by omega), if_neg (by omega), if_neg (by omega)]
              · exact absurd hr bk_u_real
