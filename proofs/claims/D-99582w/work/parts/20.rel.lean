/-! SOUNDNESS of the pure machine, first part: what the pure heap says of the machine's heap -/
set_option maxRecDepth 100000
def bk_cl : List vw_C := [(RX0, TX0, 24), (RX1, TX1, 15), (RX2, TX2, 5), (RX3, TX3, 1), (RX4, TX4, 33), (RX5, TX5, 11), (RX0, TX0, 24), (RX7, TX7, 1), (RX8, TX8, 3), (RX9, TX9, 3), (RX0, TX0, 24), (RX11, TX11, 3), (RX12, TX12, 1), (RX13, TX13, 1), (RX14, TX14, 3)]
/-- the types of arrays, by their numbers -/
def bk_aty : Nat → FieldType
  | 0 => .int
  | 1 => .byte
  | 2 => .boolean
  | 3 => .short
  | 4 => .long
  | 5 => .object "BackRescue$State"
  | 6 => .object "BackRescue$Numbers"
  | _ => .object "BackRescue$Cave"
/-- the constants' texts: lengths and bytes -/
def bk_txt : List String := [";:+-*()[]=<>", " cave rooms passage drop both roped lost hurt slack falls hurts may if then else end back room and or not ", "cave", "rooms", "passage", "lost", "slack", "falls", "hurts", "may", "drop", "both", "roped", "hurt", "if", "then", "else", "end", "o\x72", "and", "not", "back", "room"]
def bk_byt : List (List Int32) := bk_txt.map fun t => t.toList.map fun c => Int32.ofNat c.toNat
def bk_lns : List Nat := bk_byt.map List.length
/-- where all lies: the classes' numbers and places, the arrays' classes, the first address that is the law's own, the script and its numbers, the constants and their bytes -/
abbrev bk_W : Type := va_G × (Nat → ClassId) × Nat × (Nat × Nat × (Nat → Int32)) × (Nat → Nat) × (Nat → Nat)
def bk_own (w : bk_W) : Nat → Prop := fun q => w.2.2.1 ≤ q
def bk_vr (σ : Nat → Option Nat) (v x : Value) : Prop := match v with
  | .int y => x = .int y
  | .long y => x = .long y
  | .ref a => (a = 0 ∧ x = .null) ∨ ∃ b, σ a = some b ∧ x = .ref b
  | .float _ => x = .null ∨ ∃ b, x = .ref b
  | _ => False
def bk_sr (σ : Nat → Option Nat) : List Value → List Value → Prop
  | [], x => x = []
  | v :: st, x => ∃ y t, x = y :: t ∧ bk_vr σ v y ∧ bk_sr σ st t
/-- a local that is known, and holds the pure machine's value -/
def bk_lr (σ : Nat → Option Nat) (L : List Value) (ls : Array Slot) (nL : Nat) : Prop :=
  ls.size = nL ∧ L.length = nL ∧ lv_wf ls ∧ ∀ i, bk_get L i = .retAddr 0 ∨ ∃ y, bk_vr σ (bk_get L i) y ∧ ls[i]? = some (.val y)
/-- what one place of the pure heap says -/
def bk_cell (w : bk_W) (σ : Nat → Option Nat) (t k : Nat) (v : Value) (b : Nat) (H : Heap) : Prop :=
  (t < 15 ∧ w.2.2.1 ≤ b ∧ ∃ (q : vw_C) (V : Nat → Value), bk_cl[t]? = some q ∧ k < q.2.2 ∧ t_OB b (w.1.1 t) q.2.2 (w.1.2 t) H V ∧ bk_vr σ v (V k)) ∨
  (100 ≤ t ∧ t < 108 ∧ w.2.2.1 ≤ b ∧ ∃ (n : Nat) (f : Nat → Value), H[b]? = some (arrV (w.2.1 (t - 100)) n f) ∧ k < n ∧ n < 2 ^ 31 ∧ bk_vr σ v (f k)) ∨
  (200 ≤ t ∧ t < 208 ∧ ∃ (n : Nat) (f : Nat → Value), H[b]? = some (arrV (w.2.1 (t - 200)) n f) ∧ n < 2 ^ 31 ∧ v = .int (Int32.ofNat n)) ∨
  (t = 110 ∧ b = w.2.2.2.1.1 ∧ k < w.2.2.2.1.2.1 ∧ v = .int (w.2.2.2.1.2.2 k)) ∨
  (t = 210 ∧ b = w.2.2.2.1.1 ∧ v = .int (Int32.ofNat w.2.2.2.1.2.1)) ∨
  (t = 15 ∧ ∃ i, i < 23 ∧ b = w.2.2.2.2.1 i ∧ ((k = 0 ∧ ∃ a, v = .ref a ∧ σ a = some (w.2.2.2.2.2 i)) ∨ (k = 1 ∧ v = .int 0))) ∨
  (t = 111 ∧ ∃ i, i < 23 ∧ b = w.2.2.2.2.2 i ∧ k < bk_lns.getD i 0 ∧ v = .int ((bk_byt.getD i []).getD k 0)) ∨
  (t = 211 ∧ ∃ i, i < 23 ∧ b = w.2.2.2.2.2 i ∧ v = .int (Int32.ofNat (bk_lns.getD i 0)))
def bk_real (v : Value) : Prop := (∃ x, v = .int x) ∨ (∃ x, v = .long x) ∨ ∃ x, v = .ref x
/-- the sort of an address: its class, or the array's sort -/
def bk_grp (t : Nat) : Nat := if t < 200 then t else t - 100
def bk_rel (w : bk_W) (σ : Nat → Option Nat) (h : bk_H) (H : Heap) : Prop :=
  (∀ t a k, bk_real (h.1 t a k) → ∃ b, σ a = some b ∧ bk_cell w σ t k (h.1 t a k) b H) ∧
  (∀ a a' b, σ a = some b → σ a' = some b → w.2.2.1 ≤ b → a = a') ∧
  (∀ a b, σ a = some b → a < h.2.1 ∧ b < H.size) ∧ σ 0 = none ∧ (∀ i, i < 23 → σ (2 + i) = some (w.2.2.2.2.1 i)) ∧
  ∃ τ : Nat → Nat, ∀ t a k, bk_real (h.1 t a k) → bk_grp t = τ a
def bk_ext (σ σ' : Nat → Option Nat) : Prop := ∀ a b, σ a = some b → σ' a = some b
theorem bk_ext.rf {σ : Nat → Option Nat} : bk_ext σ σ := fun _ _ h => h
theorem bk_ext.tr {σ σ1 σ2 : Nat → Option Nat} (h1 : bk_ext σ σ1) (h2 : bk_ext σ1 σ2) : bk_ext σ σ2 := fun a b h => h2 a b (h1 a b h)
theorem bk_vr.ext {σ σ' : Nat → Option Nat} (he : bk_ext σ σ') {v x : Value} (h : bk_vr σ v x) : bk_vr σ' v x := by
  cases v <;> first | exact h | skip
  rcases h with h | ⟨b, h1, h2⟩
  · exact Or.inl h
  · exact Or.inr ⟨b, he _ _ h1, h2⟩
theorem bk_sr.ext {σ σ' : Nat → Option Nat} (he : bk_ext σ σ') : ∀ {st x : List Value}, bk_sr σ st x → bk_sr σ' st x
  | [], _, h => h
  | _ :: _, _, ⟨y, t, e, h1, h2⟩ => ⟨y, t, e, h1.ext he, h2.ext he⟩
theorem bk_lr.ext {σ σ' : Nat → Option Nat} (he : bk_ext σ σ') {L : List Value} {ls : Array Slot} {nL : Nat} (h : bk_lr σ L ls nL) : bk_lr σ' L ls nL :=
  ⟨h.1, h.2.1, h.2.2.1, fun i => (h.2.2.2 i).imp id fun ⟨y, a, b⟩ => ⟨y, a.ext he, b⟩⟩
theorem bk_cell.ext {w : bk_W} {σ σ' : Nat → Option Nat} (he : bk_ext σ σ') {t k : Nat} {v : Value} {b : Nat} {H : Heap} (h : bk_cell w σ t k v b H) : bk_cell w σ' t k v b H := by
  rcases h with ⟨h1, h2, q, V, h3, h4, h5, h6⟩ | ⟨h1, h2, h3, n, f, h4, h5, h6, h7⟩ | h | h | h | ⟨h1, i, h2, h3, h4⟩ | h
  · exact Or.inl ⟨h1, h2, q, V, h3, h4, h5, h6.ext he⟩
  · exact Or.inr (Or.inl ⟨h1, h2, h3, n, f, h4, h5, h6, h7.ext he⟩)
  · exact Or.inr (Or.inr (Or.inl h))
  · exact Or.inr (Or.inr (Or.inr (Or.inl h)))
  · exact Or.inr (Or.inr (Or.inr (Or.inr (Or.inl h))))
  · refine Or.inr (Or.inr (Or.inr (Or.inr (Or.inr (Or.inl ⟨h1, i, h2, h3, ?_⟩)))))
    exact h4.imp (fun ⟨e, a, e2, e3⟩ => ⟨e, a, e2, he _ _ e3⟩) id
  · exact Or.inr (Or.inr (Or.inr (Or.inr (Or.inr (Or.inr h)))))
theorem bk_cell.kept {w : bk_W} {σ : Nat → Option Nat} {t k : Nat} {v : Value} {b : Nat} {H H1 : Heap} (h : bk_cell w σ t k v b H) (hq : H1[b]? = H[b]?) : bk_cell w σ t k v b H1 := by
  rcases h with ⟨h1, h2, q, V, h3, h4, h5, h6⟩ | ⟨h1, h2, h3, n, f, h4, h5⟩ | ⟨h1, h2, n, f, h4, h5⟩ | h
  · exact Or.inl ⟨h1, h2, q, V, h3, h4, h5.kept hq, h6⟩
  · exact Or.inr (Or.inl ⟨h1, h2, h3, n, f, hq.trans h4, h5⟩)
  · exact Or.inr (Or.inr (Or.inl ⟨h1, h2, n, f, hq.trans h4, h5⟩))
  · exact Or.inr (Or.inr (Or.inr h))
/-! the locals -/
theorem bk_get_set : ∀ (L : List Value) (i : Nat) (v : Value) (j : Nat), i < L.length → bk_get (bk_set L i v) j = if j = i then v else bk_get L j
  | [], i, v, j, h => by simp at h
  | x :: L, 0, v, 0, h => rfl
  | x :: L, 0, v, j + 1, h => rfl
  | x :: L, i + 1, v, 0, h => rfl
  | x :: L, i + 1, v, j + 1, h => by
    show bk_get (bk_set L i v) j = if j + 1 = i + 1 then v else bk_get L j
    rw [bk_get_set L i v j (by simpa using h)]
    by_cases e : j = i <;> simp [e]
theorem bk_set_length : ∀ (L : List Value) (i : Nat) (v : Value), (bk_set L i v).length = L.length
  | [], _, _ => rfl
  | _ :: _, 0, _ => rfl
  | x :: L, i + 1, v => by show (bk_set L i v).length + 1 = L.length + 1; rw [bk_set_length L i v]
theorem bk_get_out : ∀ (L : List Value) (i : Nat), L.length ≤ i → bk_get L i = .retAddr 0
  | [], _, _ => rfl
  | _ :: _, 0, h => by simp at h
  | x :: L, i + 1, h => bk_get_out L i (by simpa using h)
theorem bk_lr.forget {σ : Nat → Option Nat} {L : List Value} {ls : Array Slot} {nL : Nat} (h : bk_lr σ L ls nL) (i : Nat) : bk_lr σ (bk_set L i bk_u) ls nL := by
  refine ⟨h.1, (bk_set_length _ _ _).trans h.2.1, h.2.2.1, fun j => ?_⟩
  by_cases hi : i < L.length
  · rw [bk_get_set L i bk_u j hi]
    by_cases e : j = i
    · rw [if_pos e]; exact Or.inl rfl
    · rw [if_neg e]; exact h.2.2.2 j
  · have e : bk_set L i bk_u = L := by
      clear h
      induction L generalizing i with
      | nil => rfl
      | cons x L ih =>
        cases i with
        | zero => simp at hi
        | succ i => show x :: bk_set L i bk_u = x :: L; rw [ih i (by simpa using hi)]
    rw [e]; exact h.2.2.2 j
theorem bk_lr.fg {σ : Nat → Option Nat} {ls : Array Slot} {nL : Nat} : ∀ (is : List Nat) {L : List Value}, bk_lr σ L ls nL → bk_lr σ (bk_fg is L) ls nL
  | [], _, h => h
  | i :: is, _, h => bk_lr.fg is (h.forget i)
theorem bk_kill_get (L : List Value) (i j : Nat) : bk_get (bk_kill L i) j = bk_get L j ∨ bk_get (bk_kill L i) j = .retAddr 0 := by
  unfold bk_kill
  split
  · exact Or.inl rfl
  · rename_i i'
    split
    · by_cases hi : i' < L.length
      · rw [bk_get_set _ _ _ _ hi]
        by_cases e : j = i'
        · rw [if_pos e]; exact Or.inr rfl
        · rw [if_neg e]; exact Or.inl rfl
      · rename_i e
        rw [bk_get_out L i' (by omega)] at e
        cases e
    · exact Or.inl rfl
theorem bk_kill_long (L : List Value) (i j : Nat) (hij : j + 1 = i) (y : Int64) : bk_get (bk_kill L i) j ≠ .long y := by
  subst hij
  intro h
  unfold bk_kill at h
  split at h
  · rename_i e; cases e
  · rename_i e
    cases e
    split at h
    · rename_i x e
      by_cases hi : j < L.length
      · rw [bk_get_set _ _ _ _ hi, if_pos rfl] at h
        cases h
      · rw [bk_get_out L j (by omega)] at e
        cases e
    · rename_i n
      exact n y h
theorem bk_kill_length (L : List Value) (i : Nat) : (bk_kill L i).length = L.length := by
  unfold bk_kill
  split
  · rfl
  · split
    · exact bk_set_length _ _ _
    · rfl
/-- all that the machine's locals hold, as a list -/
def bk_all (ls : Array Slot) : List (Nat × Value) := (List.range ls.size).filterMap fun i => match (ls[i]? : Option Slot) with
  | some (Slot.val v) => some (i, v)
  | _ => none
theorem bk_all_mem {ls : Array Slot} {i : Nat} {v : Value} : (i, v) ∈ bk_all ls ↔ ls[i]? = some (.val v) := by
  unfold bk_all
  rw [List.mem_filterMap]
  constructor
  · rintro ⟨j, -, h⟩
    split at h
    · rename_i w hw
      cases h
      exact hw
    · cases h
  · intro h
    exact ⟨i, List.mem_range.mpr (lv_lt h), by simp [h]⟩
theorem bk_all_has {ls : Array Slot} {nL : Nat} (hs : ls.size = nL) (hw : lv_wf ls) : lv_has ls nL (bk_all ls) := ⟨hs, hw, fun q hq => bk_all_mem.mp hq⟩
theorem bk_vr_cat {σ : Nat → Option Nat} {v y : Value} (h : bk_vr σ v y) : y.category = v.category := by
  cases v with
  | int x => rw [h]
  | long x => rw [h]
  | ref a =>
    rcases h with ⟨-, h⟩ | ⟨b, -, h⟩ <;> rw [h] <;> rfl
  | float x =>
    rcases h with h | ⟨b, h⟩ <;> rw [h] <;> rfl
  | _ => exact h.elim
theorem bk_lr.get {σ : Nat → Option Nat} {L : List Value} {ls : Array Slot} {nL : Nat} (h : bk_lr σ L ls nL) {i : Nat} {v : Value} (hv : bk_get L i = v) (hr : v ≠ .retAddr 0) : ∃ y, bk_vr σ v y ∧ ls[i]? = some (.val y) := by
  rcases h.2.2.2 i with h | h
  · exact absurd (hv.symm.trans h) hr
  · rw [hv] at h; exact h
/-- behind a store of one slot -/
theorem bk_lr.st1 {σ : Nat → Option Nat} {L : List Value} {ls ls' : Array Slot} {nL i : Nat} {v y : Value} (h : bk_lr σ L ls nL) (hi : i < nL) (hv : bk_vr σ v y) (hc : v.category = 1)
    (h' : lv_has ls' nL ((i, y) :: (bk_all ls).filter (fun q => !(q.1 == i) && !(q.1 + 1 == i && q.2.category == 2)))) : bk_lr σ (bk_st1 L i v) ls' nL := by
  obtain ⟨hs, hw, hl⟩ := h'
  have hlen : (bk_kill L i).length = nL := (bk_kill_length L i).trans h.2.1
  refine ⟨hs, (bk_set_length _ _ _).trans hlen, hw, fun j => ?_⟩
  show bk_get (bk_set (bk_kill L i) i v) j = _ ∨ ∃ y, bk_vr σ (bk_get (bk_set (bk_kill L i) i v) j) y ∧ _
  rw [bk_get_set _ _ _ _ (by rw [hlen]; exact hi)]
  by_cases e : j = i
  · rw [if_pos e, e]
    exact Or.inr ⟨y, hv, hl (i, y) List.mem_cons_self⟩
  · rw [if_neg e]
    rcases bk_kill_get L i j with g | g
    · rcases h.2.2.2 j with z | ⟨z, z1, z2⟩
      · rw [g]; exact Or.inl z
      · rw [g]
        refine Or.inr ⟨z, z1, hl (j, z) (List.mem_cons_of_mem _ (List.mem_filter.mpr ⟨bk_all_mem.mpr z2, ?_⟩))⟩
        by_cases e2 : j + 1 = i
        · have n2 : ¬ z.category = 2 := by
            rw [bk_vr_cat z1]
            cases hg : bk_get L j with
            | long q => exact absurd (g.trans hg) (bk_kill_long L i j e2 q)
            | double q => rw [hg] at z1; exact z1.elim
            | _ => simp [Value.category]
          simp [e, e2, n2]
        · simp [e, e2]
    · exact Or.inl g
theorem bk_lr.st2 {σ : Nat → Option Nat} {L : List Value} {ls ls' : Array Slot} {nL i : Nat} {v y : Value} (h : bk_lr σ L ls nL) (hi : i + 1 < nL) (hv : bk_vr σ v y)
    (h' : lv_has ls' nL ((i, y) :: (bk_all ls).filter (fun q => !(q.1 == i) && (!(q.1 == i + 1) && !(q.1 + 1 == i && q.2.category == 2))))) : bk_lr σ (bk_st2 L i v) ls' nL := by
  obtain ⟨hs, hw, hl⟩ := h'
  have hlen : (bk_kill L i).length = nL := (bk_kill_length L i).trans h.2.1
  have hlen2 : (bk_set (bk_kill L i) i v).length = nL := (bk_set_length _ _ _).trans hlen
  refine ⟨hs, (bk_set_length _ _ _).trans hlen2, hw, fun j => ?_⟩
  show bk_get (bk_set (bk_set (bk_kill L i) i v) (i + 1) bk_u) j = _ ∨ ∃ y, bk_vr σ (bk_get (bk_set (bk_set (bk_kill L i) i v) (i + 1) bk_u) j) y ∧ _
  rw [bk_get_set _ _ _ _ (by rw [hlen2]; exact hi)]
  by_cases e1 : j = i + 1
  · rw [if_pos e1]; exact Or.inl rfl
  · rw [if_neg e1, bk_get_set _ _ _ _ (by omega)]
    by_cases e : j = i
    · rw [if_pos e, e]
      exact Or.inr ⟨y, hv, hl (i, y) List.mem_cons_self⟩
    · rw [if_neg e]
      rcases bk_kill_get L i j with g | g
      · rcases h.2.2.2 j with z | ⟨z, z1, z2⟩
        · rw [g]; exact Or.inl z
        · rw [g]
          refine Or.inr ⟨z, z1, hl (j, z) (List.mem_cons_of_mem _ (List.mem_filter.mpr ⟨bk_all_mem.mpr z2, ?_⟩))⟩
          by_cases e2 : j + 1 = i
          · have n2 : ¬ z.category = 2 := by
              rw [bk_vr_cat z1]
              cases hg : bk_get L j with
              | long q => exact absurd (g.trans hg) (bk_kill_long L i j e2 q)
              | double q => rw [hg] at z1; exact z1.elim
              | _ => simp [Value.category]
            simp [e, e1, e2, n2]
          · simp [e, e1, e2]
      · exact Or.inl g
