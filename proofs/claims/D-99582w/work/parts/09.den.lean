/-! the pure machine's laws: an instruction ends, or goes to one place; where the steps lead; several steps at once -/
def bk_le (h0 h : bk_H) : Prop := h0.2.1 ≤ h.2.1 ∧ h0.2.2 ≤ h.2.2
def bk_grow (cl : bk_C) : Prop := ∀ m args h r, cl m args h = some r → bk_le h r.2
def bk_T (G : Prop) (h0 : bk_H) (f : bk_K → bk_R) : Prop :=
  (∃ v, (∀ K, f K = v) ∧ (G → ∀ r, v = some r → bk_le h0 r.2)) ∨ ∃ pc L st h, (G → bk_le h0 h) ∧ ∀ K, f K = K pc L st h
theorem bk_le_rf (h : bk_H) : bk_le h h := ⟨Nat.le_refl _, Nat.le_refl _⟩
theorem bk_le_tr {a b c : bk_H} (h1 : bk_le a b) (h2 : bk_le b c) : bk_le a c := ⟨Nat.le_trans h1.1 h2.1, Nat.le_trans h1.2 h2.2⟩
section BKT
variable {G : Prop} {h0 h : bk_H} {pc : Nat} {L st : List Value}
theorem bk_T_n : bk_T G h0 (fun _ => none) := Or.inl ⟨none, fun _ => rfl, fun _ r e => by cases e⟩
theorem bk_T_v {v : Option Value} : bk_T G h0 (fun _ => some (v, h0)) := Or.inl ⟨_, fun _ => rfl, fun _ r e => by cases e; exact bk_le_rf _⟩
theorem bk_T_K : bk_T G h0 (fun K => K pc L st h0) := Or.inr ⟨_, _, _, _, fun _ => bk_le_rf _, fun _ => rfl⟩
theorem bk_T_G (hl : G → bk_le h0 h) : bk_T G h0 (fun K => K pc L st h) := Or.inr ⟨_, _, _, _, hl, fun _ => rfl⟩
theorem bk_T_I {v : Value} {F : Int32 → bk_K → bk_R} (hF : ∀ x, bk_T G h0 (F x)) : bk_T G h0 (fun K => bk_I v fun x => F x K) := by
  cases v <;> first | exact hF _ | exact bk_T_n
theorem bk_T_J {v : Value} {F : Int64 → bk_K → bk_R} (hF : ∀ x, bk_T G h0 (F x)) : bk_T G h0 (fun K => bk_J v fun x => F x K) := by
  cases v <;> first | exact hF _ | exact bk_T_n
theorem bk_T_A {v : Value} {F : Nat → bk_K → bk_R} (hF : ∀ x, bk_T G h0 (F x)) : bk_T G h0 (fun K => bk_A v fun x => F x K) := by
  cases v <;> first | exact hF _ | exact bk_T_n
theorem bk_T_V {v : Value} {F : bk_K → bk_R} (hF : bk_T G h0 F) : bk_T G h0 (fun K => bk_V v (F K)) := by
  cases v <;> first | exact hF | exact bk_T_n
theorem bk_T_ite {c : Prop} [Decidable c] {A B : bk_K → bk_R} (hA : bk_T G h0 A) (hB : bk_T G h0 B) : bk_T G h0 (fun K => bk_if c (A K) (B K)) := by
  by_cases e : c
  · simp only [bk_if, if_pos e]; exact hA
  · simp only [bk_if, if_neg e]; exact hB
theorem bk_T_nz {x : Int32} {A : bk_K → bk_R} (hA : bk_T G h0 A) : bk_T G h0 (fun K => bk_nz x (A K)) := by
  by_cases e : x = 0
  · simp only [bk_nz, if_pos e]; exact bk_T_n
  · simp only [bk_nz, if_neg e]; exact hA
theorem bk_T_nzJ {x : Int64} {A : bk_K → bk_R} (hA : bk_T G h0 A) : bk_T G h0 (fun K => bk_nzJ x (A K)) := by
  by_cases e : x = 0
  · simp only [bk_nzJ, if_pos e]; exact bk_T_n
  · simp only [bk_nzJ, if_neg e]; exact hA
theorem bk_T_bl {x : Int32} {A : bk_K → bk_R} (hA : bk_T G h0 A) : bk_T G h0 (fun K => bk_bl x (A K)) := by
  by_cases e : x = 0 ∨ x = 1
  · simp only [bk_bl, if_pos e]; exact hA
  · simp only [bk_bl, if_neg e]; exact bk_T_n
theorem bk_T_len {x : Int32} {F : Nat → bk_K → bk_R} (hF : ∀ k, bk_T G h0 (F k)) : bk_T G h0 (fun K => bk_len x fun k => F k K) := by
  by_cases e : x < 0 ∨ 4096 < x
  · simp only [bk_len, if_pos e]; exact bk_T_n
  · simp only [bk_len, if_neg e]; exact hF _
theorem bk_T_cond {b : Bool} {A B : bk_K → bk_R} (hA : bk_T G h0 A) (hB : bk_T G h0 B) : bk_T G h0 (fun K => bif b then A K else B K) := by
  cases b
  · exact hB
  · exact hA
theorem bk_T_sw {F : Nat → bk_K → bk_R} (hF : ∀ t, bk_T G h0 (F t)) (x : Int32) (d : Nat) : ∀ ps : List (Int32 × Nat), bk_T G h0 (fun K => bk_sw ps x d fun t => F t K)
  | [] => hF d
  | (k, t) :: ps => bk_T_ite (c := x = k) (hF t) (bk_T_sw hF x d ps)
theorem bk_T_pop {F : List Value → List Value → bk_K → bk_R} (hF : ∀ a s, bk_T G h0 (F a s)) : ∀ (n : Nat) (st acc : List Value), bk_T G h0 (fun K => bk_pop n st acc fun a s => F a s K)
  | 0, st, acc => hF acc st
  | n + 1, [], acc => bk_T_n
  | n + 1, v :: st, acc => bk_T_pop hF n st (v :: acc)
theorem bk_T_cV {r : bk_R} {F : bk_H → bk_K → bk_R} (hr : G → ∀ x, r = some x → bk_le h0 x.2) (hF : ∀ h, (G → bk_le h0 h) → bk_T G h0 (F h)) : bk_T G h0 (fun K => bk_cV r fun h => F h K) := by
  rcases r with _ | ⟨_ | v, h⟩
  · exact bk_T_n
  · exact hF h (fun g => hr g _ rfl)
  · exact bk_T_n
theorem bk_T_cI {r : bk_R} {F : Int32 → bk_H → bk_K → bk_R} (hr : G → ∀ x, r = some x → bk_le h0 x.2) (hF : ∀ x h, (G → bk_le h0 h) → bk_T G h0 (F x h)) : bk_T G h0 (fun K => bk_cI r fun x h => F x h K) := by
  rcases r with _ | ⟨_ | v, h⟩
  · exact bk_T_n
  · exact bk_T_n
  · cases v <;> first | exact hF _ h (fun g => hr g _ rfl) | exact bk_T_n
theorem bk_T_cJ {r : bk_R} {F : Int64 → bk_H → bk_K → bk_R} (hr : G → ∀ x, r = some x → bk_le h0 x.2) (hF : ∀ x h, (G → bk_le h0 h) → bk_T G h0 (F x h)) : bk_T G h0 (fun K => bk_cJ r fun x h => F x h K) := by
  rcases r with _ | ⟨_ | v, h⟩
  · exact bk_T_n
  · exact bk_T_n
  · cases v <;> first | exact hF _ h (fun g => hr g _ rfl) | exact bk_T_n
theorem bk_T_cA {r : bk_R} {F : Nat → bk_H → bk_K → bk_R} (hr : G → ∀ x, r = some x → bk_le h0 x.2) (hF : ∀ x h, (G → bk_le h0 h) → bk_T G h0 (F x h)) : bk_T G h0 (fun K => bk_cA r fun x h => F x h K) := by
  rcases r with _ | ⟨_ | v, h⟩
  · exact bk_T_n
  · exact bk_T_n
  · cases v <;> first | exact hF _ h (fun g => hr g _ rfl) | exact bk_T_n
theorem bk_T_store {n i : Nat} {w : Bool} {v : Value} : bk_T G h0 (fun K => bk_store n i w pc L st v h0 K) :=
  bk_T_cond (bk_T_cond bk_T_K bk_T_n) (bk_T_cond bk_T_K bk_T_n)
theorem bk_T_ibin (f : Int32 → Int32 → Int32) : bk_T G h0 (fun K => bk_ibin f pc L st h0 K) := by
  rcases st with _ | ⟨b, _ | ⟨a, st⟩⟩
  · exact bk_T_n
  · exact bk_T_n
  · exact bk_T_I fun _ => bk_T_I fun _ => bk_T_K
theorem bk_T_lbin (f : Int64 → Int64 → Int64) : bk_T G h0 (fun K => bk_lbin f pc L st h0 K) := by
  rcases st with _ | ⟨b, _ | ⟨a, st⟩⟩
  · exact bk_T_n
  · exact bk_T_n
  · exact bk_T_J fun _ => bk_T_J fun _ => bk_T_K
theorem bk_T_lsh (f : Int64 → Int32 → Int64) : bk_T G h0 (fun K => bk_lsh f pc L st h0 K) := by
  rcases st with _ | ⟨b, _ | ⟨a, st⟩⟩
  · exact bk_T_n
  · exact bk_T_n
  · exact bk_T_I fun _ => bk_T_J fun _ => bk_T_K
theorem bk_T_iun (f : Int32 → Value) : bk_T G h0 (fun K => bk_iun f pc L st h0 K) := by
  rcases st with _ | ⟨b, st⟩
  · exact bk_T_n
  · exact bk_T_I fun _ => bk_T_K
theorem bk_T_lun (f : Int64 → Value) : bk_T G h0 (fun K => bk_lun f pc L st h0 K) := by
  rcases st with _ | ⟨b, st⟩
  · exact bk_T_n
  · exact bk_T_J fun _ => bk_T_K
theorem bk_T_ifz {c : Int32 → bk_R → bk_R → bk_R} {t : Nat} (hc : ∀ (x : Int32) (A B : bk_K → bk_R), bk_T G h0 A → bk_T G h0 B → bk_T G h0 (fun K => c x (A K) (B K))) : bk_T G h0 (fun K => bk_ifz c t pc L st h0 K) := by
  rcases st with _ | ⟨b, st⟩
  · exact bk_T_n
  · exact bk_T_I fun _ => hc _ _ _ bk_T_K bk_T_K
theorem bk_T_icm {c : Int32 → Int32 → bk_R → bk_R → bk_R} {t : Nat} (hc : ∀ (x y : Int32) (A B : bk_K → bk_R), bk_T G h0 A → bk_T G h0 B → bk_T G h0 (fun K => c x y (A K) (B K))) : bk_T G h0 (fun K => bk_icm c t pc L st h0 K) := by
  rcases st with _ | ⟨b, _ | ⟨a, st⟩⟩
  · exact bk_T_n
  · exact bk_T_n
  · exact bk_T_I fun _ => bk_T_I fun _ => hc _ _ _ _ bk_T_K bk_T_K
theorem bk_T_ald {w t : Nat} : bk_T G h0 (fun K => bk_ald w t pc L st h0 K) := by
  rcases st with _ | ⟨b, _ | ⟨a, st⟩⟩
  · exact bk_T_n
  · exact bk_T_n
  · refine bk_T_I fun _ => bk_T_A fun _ => ?_
    rcases w with _ | _ | w
    · exact bk_T_I fun _ => bk_T_K
    · exact bk_T_J fun _ => bk_T_K
    · exact bk_T_A fun _ => bk_T_K
theorem bk_T_nar {t : Nat} {x : Int32} {F : Int32 → bk_K → bk_R} (hF : ∀ x, bk_T G h0 (F x)) : bk_T G h0 (fun K => bk_nar t x fun y => F y K) := by
  unfold bk_nar
  split
  · exact hF _
  · exact hF _
  · exact bk_T_bl (hF _)
  · exact hF _
  · exact bk_T_n
theorem bk_T_ast {w t : Nat} : bk_T G h0 (fun K => bk_ast w t pc L st h0 K) := by
  rcases st with _ | ⟨b, _ | ⟨a, _ | ⟨r, st⟩⟩⟩
  · exact bk_T_n
  · exact bk_T_n
  · exact bk_T_n
  · refine bk_T_I fun _ => bk_T_A fun _ => ?_
    rcases w with _ | _ | w
    · exact bk_T_I fun _ => bk_T_nar fun _ => bk_T_I fun _ => bk_T_G fun _ => bk_le_rf _
    · exact bk_T_J fun _ => bk_T_J fun _ => bk_T_G fun _ => bk_le_rf _
    · exact bk_T_A fun _ => bk_T_A fun _ => bk_T_V (bk_T_G fun _ => bk_le_rf _)
theorem bk_T_ret {cl : bk_C} {m w : Nat} {args : List Value} : bk_T (bk_grow cl) h0 (fun K => bk_ret cl m w args pc L st h0 K) := by
  refine bk_T_cond ?_ bk_T_n
  rcases w with _ | _ | _ | w
  · exact bk_T_cV (fun g x e => g _ _ _ _ e) fun h hl => bk_T_G hl
  · exact bk_T_cI (fun g x e => g _ _ _ _ e) fun x h hl => bk_T_G hl
  · exact bk_T_cJ (fun g x e => g _ _ _ _ e) fun x h hl => bk_T_G hl
  · exact bk_T_cA (fun g x e => g _ _ _ _ e) fun x h hl => bk_T_G hl
theorem bk_T_inv {cl : bk_C} {m n w c : Nat} : bk_T (bk_grow cl) h0 (fun K => bk_inv cl m n w c pc L st h0 K) := by
  refine bk_T_pop (F := fun args st K => match args with
    | r :: _ => bk_A r fun x => bk_V (h0.1 c x 0) (bk_ret cl m w args pc L st h0 K)
    | [] => none) (fun a s => ?_) n st []
  rcases a with _ | ⟨r, a⟩
  · exact bk_T_n
  · exact bk_T_A fun _ => bk_T_V bk_T_ret
theorem bk_T_mm {m : Nat} : bk_T G h0 (fun K => bk_mm m pc L st h0 K) := by
  rcases st with _ | ⟨b, _ | ⟨a, st⟩⟩
  · exact bk_T_n
  · exact bk_T_n
  · refine bk_T_cond (b := bk_rm st 8) (A := fun K => match m with
    | 2001 => bk_I b fun y => bk_I a fun x => K (pc + 3) L (.int (if y ≤ x then x else y) :: st) h0
    | 2002 => bk_I b fun y => bk_I a fun x => K (pc + 3) L (.int (if x ≤ y then x else y) :: st) h0
    | 2003 => bk_J b fun y => bk_J a fun x => K (pc + 3) L (.long (if y ≤ x then x else y) :: st) h0
    | _ => bk_J b fun y => bk_J a fun x => K (pc + 3) L (.long (if x ≤ y then x else y) :: st) h0) ?_ bk_T_n
    split
    · exact bk_T_I fun _ => bk_T_I fun _ => bk_T_K
    · exact bk_T_I fun _ => bk_T_I fun _ => bk_T_K
    · exact bk_T_J fun _ => bk_T_J fun _ => bk_T_K
    · exact bk_T_J fun _ => bk_T_J fun _ => bk_T_K
theorem bk_T_dS {x : Nat} {F : Nat → bk_K → bk_R} (hF : ∀ m, bk_T G h0 (F m)) : bk_T G h0 (fun K => bk_dspS h0 x fun m => F m K) := by
  unfold bk_dspS
  split
  · exact hF _
  · split
    · exact hF _
    · split
      · exact hF _
      · split
        · exact hF _
        · exact bk_T_n
theorem bk_T_dT {x : Nat} {F : Nat → bk_K → bk_R} (hF : ∀ m, bk_T G h0 (F m)) : bk_T G h0 (fun K => bk_dspT h0 x fun m => F m K) := by
  unfold bk_dspT
  split
  · exact hF _
  · split
    · exact hF _
    · split
      · exact hF _
      · exact bk_T_n
theorem bk_T_oi {a x : Nat} {F : bk_K → bk_R} (hF : bk_T G h0 F) : bk_T G h0 (fun K => bk_oi h0 a x (F K)) := by
  unfold bk_oi
  split
  · exact bk_T_dS (F := fun _ K => F K) fun _ => hF
  · exact bk_T_dT (F := fun _ K => F K) fun _ => hF
  · exact bk_T_V hF
theorem bk_T_s1 {st : List Value} {F : Value → List Value → bk_K → bk_R} (hF : ∀ v s, bk_T G h0 (F v s)) : bk_T G h0 (fun K => match st with
    | v :: s => F v s K
    | _ => none) := by
  cases st with
  | nil => exact bk_T_n
  | cons v s => exact hF v s
theorem bk_T_s2 {st : List Value} {F : Value → Value → List Value → bk_K → bk_R} (hF : ∀ v w s, bk_T G h0 (F v w s)) : bk_T G h0 (fun K => match st with
    | v :: w :: s => F v w s K
    | _ => none) := by
  rcases st with _ | ⟨b, _ | ⟨a, st⟩⟩
  · exact bk_T_n
  · exact bk_T_n
  · exact hF _ _ _
end BKT
theorem bk_T_rn {G : Prop} {h0 : bk_H} {a : Nat} {x : Int32} {F : bk_K → bk_R} (hF : bk_T G h0 F) : bk_T G h0 (fun K => bk_rn a x (F K)) := by
  unfold bk_rn
  split
  · exact hF
  · exact bk_T_bl hF
  · by_cases e : x.toInt8.toInt32 = x
    · simp only [if_pos e]; exact hF
    · simp only [if_neg e]; exact bk_T_n
  · by_cases e : (x.toUInt32 % 65536).toInt32 = x
    · simp only [if_pos e]; exact hF
    · simp only [if_neg e]; exact bk_T_n
theorem bk_T_of {G : Prop} {h0 : bk_H} {v : bk_R} (hv : G → ∀ r, v = some r → bk_le h0 r.2) : bk_T G h0 (fun _ => v) := Or.inl ⟨v, fun _ => rfl, hv⟩
theorem bk_I_inv {v : Value} {K : Int32 → bk_R} {z : Option Value × bk_H} (e : bk_I v K = some z) : ∃ x, v = .int x ∧ K x = some z := by
  cases v <;> first | exact ⟨_, rfl, e⟩ | cases e
theorem bk_J_inv {v : Value} {K : Int64 → bk_R} {z : Option Value × bk_H} (e : bk_J v K = some z) : ∃ x, v = .long x ∧ K x = some z := by
  cases v <;> first | exact ⟨_, rfl, e⟩ | cases e
theorem bk_A_inv {v : Value} {K : Nat → bk_R} {z : Option Value × bk_H} (e : bk_A v K = some z) : ∃ x, v = .ref x ∧ K x = some z := by
  cases v <;> first | exact ⟨_, rfl, e⟩ | cases e
theorem bk_V_inv {v : Value} {K : bk_R} {z : Option Value × bk_H} (e : bk_V v K = some z) : ((∃ x, v = .int x) ∨ (∃ x, v = .long x) ∨ ∃ x, v = .ref x) ∧ K = some z := by
  cases v <;> first | exact ⟨Or.inl ⟨_, rfl⟩, e⟩ | exact ⟨Or.inr (Or.inl ⟨_, rfl⟩), e⟩ | exact ⟨Or.inr (Or.inr ⟨_, rfl⟩), e⟩ | cases e
theorem bk_len_inv {x : Int32} {K : Nat → bk_R} {z : Option Value × bk_H} (e : bk_len x K = some z) : ¬ x < 0 ∧ ¬ 4096 < x ∧ K (bk_ix x) = some z := by
  unfold bk_len at e
  split at e
  · cases e
  · rename_i n
    exact ⟨fun q => n (Or.inl q), fun q => n (Or.inr q), e⟩
theorem bk_nz_inv {x : Int32} {K : bk_R} {z : Option Value × bk_H} (e : bk_nz x K = some z) : ¬ x = 0 ∧ K = some z := by
  unfold bk_nz at e
  split at e
  · cases e
  · rename_i n
    exact ⟨n, e⟩
theorem bk_nzJ_inv {x : Int64} {K : bk_R} {z : Option Value × bk_H} (e : bk_nzJ x K = some z) : ¬ x = 0 ∧ K = some z := by
  unfold bk_nzJ at e
  split at e
  · cases e
  · rename_i n
    exact ⟨n, e⟩
theorem bk_bl_inv {x : Int32} {K : bk_R} {z : Option Value × bk_H} (e : bk_bl x K = some z) : (x = 0 ∨ x = 1) ∧ K = some z := by
  unfold bk_bl at e
  split at e
  · rename_i n
    exact ⟨n, e⟩
  · cases e
theorem bk_if_inv {c : Prop} [Decidable c] {A B : bk_R} {z : Option Value × bk_H} (e : bk_if c A B = some z) : (c ∧ A = some z) ∨ (¬ c ∧ B = some z) := by
  unfold bk_if at e
  split at e
  · rename_i n
    exact Or.inl ⟨n, e⟩
  · rename_i n
    exact Or.inr ⟨n, e⟩
theorem bk_rn_inv {a : Nat} {x : Int32} {K : bk_R} {z : Option Value × bk_H} (e : bk_rn a x K = some z) : (a = 0 ∨ (a = 1 ∧ (x = 0 ∨ x = 1)) ∨ (a = 2 ∧ x.toInt8.toInt32 = x) ∨ (2 < a ∧ (x.toUInt32 % 65536).toInt32 = x)) ∧ K = some z := by
  unfold bk_rn at e
  split at e
  · exact ⟨Or.inl rfl, e⟩
  · obtain ⟨h1, h2⟩ := bk_bl_inv e
    exact ⟨Or.inr (Or.inl ⟨rfl, h1⟩), h2⟩
  · split at e
    · rename_i q; exact ⟨Or.inr (Or.inr (Or.inl ⟨rfl, q⟩)), e⟩
    · cases e
  · rename_i n0 n1 n2
    split at e
    · rename_i q
      refine ⟨Or.inr (Or.inr (Or.inr ⟨?_, q⟩)), e⟩
      rcases a with _ | _ | _ | a
      · exact absurd rfl n0
      · exact absurd rfl n1
      · exact absurd rfl n2
      · omega
    · cases e

theorem bk_begins_le (L : List Value) (h : bk_H) : ∀ r, bk_begins L h = some r → bk_le h r.2 := by
  intro r e
  have l1 : bk_le h (bk_lost h) := ⟨Nat.le_add_right _ _, Nat.le_add_right _ _⟩
  have l2 : ∀ t k v x w, bk_le h (bk_put (bk_newA h t k v) 3 x 0 w) := fun t k v x w => ⟨Nat.le_succ _, Nat.le_add_right _ _⟩
  obtain ⟨x, -, e⟩ := bk_A_inv e
  obtain ⟨y, -, e⟩ := bk_I_inv e
  obtain ⟨n, -, e⟩ := bk_I_inv e
  obtain ⟨_, -, e⟩ := bk_A_inv e
  split at e
  · cases e; exact l1
  · obtain ⟨-, -, e⟩ := bk_len_inv e
    split at e
    · cases e; exact l2 _ _ _ _ _
    · split at e
      · cases e; exact l2 _ _ _ _ _
      · split at e
        · cases e; exact l2 _ _ _ _ _
        · cases e; exact l2 _ _ _ _ _
theorem bk_cV_inv {r : bk_R} {K : bk_H → bk_R} {z : Option Value × bk_H} (e : bk_cV r K = some z) : ∃ h, r = some (none, h) ∧ K h = some z := by
  rcases r with _ | ⟨_ | v, h⟩
  · cases e
  · exact ⟨h, rfl, e⟩
  · cases e
theorem bk_cI_inv {r : bk_R} {K : Int32 → bk_H → bk_R} {z : Option Value × bk_H} (e : bk_cI r K = some z) : ∃ x h, r = some (some (.int x), h) ∧ K x h = some z := by
  rcases r with _ | ⟨_ | v, h⟩
  · cases e
  · cases e
  · cases v <;> first | exact ⟨_, h, rfl, e⟩ | cases e
theorem bk_cJ_inv {r : bk_R} {K : Int64 → bk_H → bk_R} {z : Option Value × bk_H} (e : bk_cJ r K = some z) : ∃ x h, r = some (some (.long x), h) ∧ K x h = some z := by
  rcases r with _ | ⟨_ | v, h⟩
  · cases e
  · cases e
  · cases v <;> first | exact ⟨_, h, rfl, e⟩ | cases e
theorem bk_cA_inv {r : bk_R} {K : Nat → bk_H → bk_R} {z : Option Value × bk_H} (e : bk_cA r K = some z) : ∃ x h, r = some (some (.ref x), h) ∧ K x h = some z := by
  rcases r with _ | ⟨_ | v, h⟩
  · cases e
  · cases e
  · cases v <;> first | exact ⟨_, h, rfl, e⟩ | cases e
theorem bk_lenOf_inv {h : bk_H} {a : Nat} {K : Int32 → bk_R} {z : Option Value × bk_H} (e : bk_lenOf h a K = some z) : ∃ x, (h.1 201 a 0 = .int x ∨ h.1 203 a 0 = .int x ∨ h.1 200 a 0 = .int x ∨ h.1 204 a 0 = .int x) ∧ K x = some z := by
  unfold bk_lenOf at e
  split at e
  · rename_i q; exact ⟨_, Or.inl q, e⟩
  · split at e
    · rename_i q; exact ⟨_, Or.inr (Or.inl q), e⟩
    · split at e
      · rename_i q; exact ⟨_, Or.inr (Or.inr (Or.inl q)), e⟩
      · obtain ⟨x, q, e⟩ := bk_I_inv e
        exact ⟨_, Or.inr (Or.inr (Or.inr q)), e⟩
theorem bk_write_le {cl : bk_C} (g : bk_grow cl) (p q tr : Nat) (L : List Value) (h : bk_H) : ∀ r, bk_write cl p q tr L h = some r → bk_le h r.2 := by
  intro r e
  obtain ⟨x, -, e⟩ := bk_A_inv e
  obtain ⟨t, -, e⟩ := bk_I_inv e
  obtain ⟨i, -, e⟩ := bk_I_inv e
  obtain ⟨v, -, e⟩ := bk_J_inv e
  obtain ⟨b9, h9, e9, e⟩ := bk_cI_inv e
  refine bk_le_tr (g _ _ _ _ e9) ?_
  clear e9
  have l1 : bk_le h9 (bk_lost h9) := ⟨Nat.le_add_right _ _, Nat.le_add_right _ _⟩
  split at e
  · cases e; exact bk_le_rf _
  · obtain ⟨ts, -, e⟩ := bk_A_inv e
    obtain ⟨nb, -, e⟩ := bk_A_inv e
    obtain ⟨a, -, e⟩ := bk_A_inv e
    split at e
    · cases e; exact l1
    · obtain ⟨n, -, e⟩ := bk_lenOf_inv e
      split at e
      · cases e; exact l1
      · obtain ⟨-, e⟩ := bk_V_inv e
        obtain ⟨h1, e1, e⟩ := bk_cV_inv e
        obtain ⟨ts2, -, e⟩ := bk_A_inv e
        obtain ⟨nb2, -, e⟩ := bk_A_inv e
        obtain ⟨-, e⟩ := bk_V_inv e
        obtain ⟨x2, h2, e2, e⟩ := bk_cJ_inv e
        cases e
        exact bk_le_tr (g _ _ _ _ e1) (g _ _ _ _ e2)
theorem bk_T_lenOf {G : Prop} {h0 : bk_H} {h : bk_H} {x : Nat} {F : Int32 → bk_K → bk_R} (hF : ∀ x, bk_T G h0 (F x)) : bk_T G h0 (fun K => bk_lenOf h x fun n => F n K) := by
  unfold bk_lenOf
  split
  · exact hF _
  · split
    · exact hF _
    · split
      · exact hF _
      · exact bk_T_I fun _ => hF _
theorem bk_T_inst {G : Prop} {h0 : bk_H} {h : bk_H} {x a : Nat} {A B : bk_K → bk_R} (hA : bk_T G h0 A) (hB : bk_T G h0 B) : bk_T G h0 (fun K => bk_inst h x a (A K) (B K)) := by
  unfold bk_inst
  split
  · exact hA
  · exact bk_T_lenOf (F := fun _ K => B K) fun _ => hB
theorem bk_sem_T (o : bk_O) (cl : bk_C) (pc : Nat) (L st : List Value) (h : bk_H) : bk_T (bk_grow cl) h (fun K => bk_sem o cl pc L st h K) := by
  obtain ⟨ins, n, a, b, c, d, v, ps, fs⟩ := o
  have e0 : (fun K => bk_sem (ins, n, a, b, c, d, v, ps, fs) cl pc L st h K) = (fun K => bk_sem (ins, n, a, b, c, d, v, ps, []) cl pc (bk_fg fs L) st h K) := rfl
  rw [e0]; clear e0
  generalize bk_fg fs L = L
  have hgo : ∀ k : Nat, bk_le h (bk_new h k (bk_fields k)) := fun k => ⟨Nat.le_succ _, Nat.le_add_right _ _⟩
  have hga : ∀ (t k : Nat) (v : Value), bk_le h (bk_newA h t k v) := fun t k v => ⟨Nat.le_succ _, Nat.le_add_right _ _⟩
  cases ins
  all_goals first
    | exact bk_T_n
    | exact bk_T_K
    | exact bk_T_I fun _ => bk_T_K
    | exact bk_T_J fun _ => bk_T_K
    | exact bk_T_A fun _ => bk_T_K
    | exact bk_T_ibin _
    | exact bk_T_lbin _
    | exact bk_T_lsh _
    | exact bk_T_iun _
    | exact bk_T_lun _
    | exact bk_T_ald
    | exact bk_T_ast
    | exact bk_T_s1 fun _ _ => bk_T_I fun _ => bk_T_store
    | exact bk_T_s1 fun _ _ => bk_T_J fun _ => bk_T_store
    | exact bk_T_s1 fun _ _ => bk_T_A fun _ => bk_T_store
    | exact bk_T_I fun _ => bk_T_I fun _ => bk_T_store
    | exact bk_T_s2 fun _ _ _ => bk_T_I fun _ => bk_T_I fun _ => bk_T_nz bk_T_K
    | exact bk_T_s2 fun _ _ _ => bk_T_J fun _ => bk_T_J fun _ => bk_T_nzJ bk_T_K
    | exact bk_T_s2 fun _ _ _ => bk_T_J fun _ => bk_T_J fun _ => bk_T_K
    | exact bk_T_s1 fun _ _ => bk_T_A fun _ => bk_T_ite bk_T_K bk_T_K
    | exact bk_T_s1 fun _ _ => bk_T_I fun _ => bk_T_sw (fun _ => bk_T_K) _ _ _
    | exact bk_T_s1 fun _ _ => bk_T_A fun _ => bk_T_I fun _ => bk_T_K
    | exact bk_T_G fun _ => hgo _
    | exact bk_T_s1 fun _ _ => bk_T_I fun _ => bk_T_len fun _ => bk_T_G fun _ => hga _ _ _
    | skip
  case aaload => exact bk_T_ald (w := 2) (t := a)
  case baload => exact bk_T_ald (w := 0) (t := a)
  case iaload => exact bk_T_ald (w := 0) (t := a)
  case saload => exact bk_T_ald (w := 0) (t := a)
  case laload => exact bk_T_ald (w := 1) (t := a)
  case aastore => exact bk_T_ast (w := 2) (t := a)
  case bastore => exact bk_T_ast (w := 0) (t := a)
  case iastore => exact bk_T_ast (w := 0) (t := a)
  case sastore => exact bk_T_ast (w := 0) (t := a)
  case lastore => exact bk_T_ast (w := 1) (t := a)
  case pop =>
    show bk_T _ h (fun K => match st with
      | .int _ :: st => K (pc + 1) L st h
      | .ref _ :: st => K (pc + 1) L st h
      | _ => none)
    split <;> first | exact bk_T_K | exact bk_T_n
  case pop2 =>
    show bk_T _ h (fun K => match st with
      | .long _ :: st => K (pc + 1) L st h
      | _ => none)
    split <;> first | exact bk_T_K | exact bk_T_n
  case dup =>
    show bk_T _ h (fun K => match st with
      | .int x :: st => K (pc + 1) L (.int x :: .int x :: st) h
      | .ref x :: st => K (pc + 1) L (.ref x :: .ref x :: st) h
      | _ => none)
    split <;> first | exact bk_T_K | exact bk_T_n
  case dup2 =>
    show bk_T _ h (fun K => match st with
      | .int x :: .ref y :: st => K (pc + 1) L (.int x :: .ref y :: .int x :: .ref y :: st) h
      | .long x :: st => K (pc + 1) L (.long x :: .long x :: st) h
      | _ => none)
    split <;> first | exact bk_T_K | exact bk_T_n
  case ifCond q _ =>
    cases q
    · exact bk_T_ifz fun _ _ _ hA hB => bk_T_ite hA hB
    · exact bk_T_ifz (c := fun x A B => bk_if (x = 0) B A) fun _ _ _ hA hB => bk_T_ite hB hA
    · exact bk_T_ifz fun _ _ _ hA hB => bk_T_ite hA hB
    · exact bk_T_ifz fun _ _ _ hA hB => bk_T_ite hA hB
    · exact bk_T_ifz fun _ _ _ hA hB => bk_T_ite hA hB
    · exact bk_T_ifz fun _ _ _ hA hB => bk_T_ite hA hB
  case if_icmp q _ =>
    cases q
    · exact bk_T_icm fun _ _ _ _ hA hB => bk_T_ite hA hB
    · exact bk_T_icm (c := fun x y A B => bk_if (x = y) B A) fun _ _ _ _ hA hB => bk_T_ite hB hA
    · exact bk_T_icm fun _ _ _ _ hA hB => bk_T_ite hA hB
    · exact bk_T_icm fun _ _ _ _ hA hB => bk_T_ite hA hB
    · exact bk_T_icm fun _ _ _ _ hA hB => bk_T_ite hA hB
    · exact bk_T_icm fun _ _ _ _ hA hB => bk_T_ite hA hB
  case getfield _ =>
    refine bk_T_s1 (F := fun r st K => bk_A r fun x => match c with
        | 0 => bk_I (h.1 a x b) fun y => K (pc + 3) L (.int y :: st) h
        | _ => bk_A (h.1 a x b) fun y => K (pc + 3) L (.ref y :: st) h) fun r s => bk_T_A fun x => ?_
    rcases c with _ | c
    · exact bk_T_I fun _ => bk_T_K
    · exact bk_T_A fun _ => bk_T_K
  case putfield _ =>
    refine bk_T_s2 (F := fun v r st K => bk_A r fun x => match c with
        | 0 => bk_I v fun y => bk_I (h.1 a x b) fun _ => K (pc + 3) L st (bk_put h a x b (.int y))
        | 2 => bk_I v fun y => bk_bl y (bk_I (h.1 a x b) fun _ => K (pc + 3) L st (bk_put h a x b (.int y)))
        | _ => bk_A v fun y => bk_A (h.1 a x b) fun _ => K (pc + 3) L st (bk_put h a x b (.ref y))) fun v r s => bk_T_A fun x => ?_
    rcases c with _ | _ | _ | c
    · exact bk_T_I fun _ => bk_T_I fun _ => bk_T_G fun _ => bk_le_rf _
    · exact bk_T_A fun _ => bk_T_A fun _ => bk_T_G fun _ => bk_le_rf _
    · exact bk_T_I fun _ => bk_T_bl (bk_T_I fun _ => bk_T_G fun _ => bk_le_rf _)
    · exact bk_T_A fun _ => bk_T_A fun _ => bk_T_G fun _ => bk_le_rf _
  case instanceof _ =>
    refine bk_T_s1 fun r s => bk_T_A fun x => bk_T_inst bk_T_K bk_T_K
  case invokestatic _ =>
    rcases d with _ | d
    · exact bk_T_pop (fun _ _ => bk_T_ret) b st []
    · exact bk_T_mm
  case invokespecial _ =>
    show bk_T _ h (fun K => match d with
      | 99 => match st with
        | u :: st => bif bk_rm st 8 then bk_A u fun x => bk_oi h a x (K (pc + 3) L st h) else none
        | _ => none
      | _ => bk_inv cl a b c d pc L st h K)
    split
    · exact bk_T_s1 fun _ _ => bk_T_cond (bk_T_A fun _ => bk_T_oi bk_T_K) bk_T_n
    · exact bk_T_inv
  case invokevirtual _ =>
    show bk_T _ h (fun K => match d with
      | 98 => bk_pop b st [] fun args st => match args with
        | r :: _ => bk_A r fun x => bk_dspS h x fun m => bk_ret cl m c args pc L st h K
        | [] => none
      | 97 => bk_pop b st [] fun args st => match args with
        | r :: _ => bk_A r fun x => bk_dspT h x fun m => bk_ret cl m c args pc L st h K
        | [] => none
      | _ => bk_inv cl a b c d pc L st h K)
    split
    · refine bk_T_pop (F := fun args st K => match args with
        | r :: _ => bk_A r fun x => bk_dspS h x fun m => bk_ret cl m c args pc L st h K
        | [] => none) (fun a s => ?_) b st []
      rcases a with _ | ⟨r, a⟩
      · exact bk_T_n
      · exact bk_T_A fun _ => bk_T_dS fun _ => bk_T_ret
    · refine bk_T_pop (F := fun args st K => match args with
        | r :: _ => bk_A r fun x => bk_dspT h x fun m => bk_ret cl m c args pc L st h K
        | [] => none) (fun a s => ?_) b st []
      rcases a with _ | ⟨r, a⟩
      · exact bk_T_n
      · exact bk_T_A fun _ => bk_T_dT fun _ => bk_T_ret
    · exact bk_T_inv
  case athrow =>
    show bk_T _ h (fun K => match d with
      | 1 => bk_begins L h
      | 2 => bk_write cl a b c L h
      | _ => none)
    split
    · exact bk_T_of fun _ => bk_begins_le L h
    · exact bk_T_of fun g => bk_write_le g a b c L h
    · exact bk_T_n
  case ireturn =>
    rcases st with _ | ⟨v, _ | ⟨w, st⟩⟩
    · exact bk_T_n
    · exact bk_T_I fun _ => bk_T_rn bk_T_v
    · exact bk_T_n
  case lreturn =>
    rcases st with _ | ⟨v, _ | ⟨w, st⟩⟩
    · exact bk_T_n
    · exact bk_T_J fun _ => bk_T_v
    · exact bk_T_n
  case areturn =>
    rcases st with _ | ⟨v, _ | ⟨w, st⟩⟩
    · exact bk_T_n
    · exact bk_T_A fun _ => bk_T_v
    · exact bk_T_n
  case return_ =>
    rcases st with _ | ⟨v, st⟩
    · exact bk_T_v
    · exact bk_T_n
theorem bk_run_mono (C : Nat → bk_O) (cl : bk_C) : ∀ (n : Nat) (pc : Nat) (L st : List Value) (h : bk_H) (r : Option Value × bk_H), bk_run C cl n pc L st h = some r → bk_run C cl (n + 1) pc L st h = some r
  | 0, pc, L, st, h, r, e => by cases e
  | n + 1, pc, L, st, h, r, e => by
    rcases bk_sem_T (C pc) cl pc L st h with ⟨v, hv, -⟩ | ⟨pc', L', st', h', -, hv⟩ <;> dsimp only at hv
    · have e1 : bk_sem (C pc) cl pc L st h (bk_run C cl n) = some r := e
      show bk_sem (C pc) cl pc L st h (bk_run C cl (n + 1)) = some r
      rw [hv] at e1 ⊢
      exact e1
    · have e1 : bk_sem (C pc) cl pc L st h (bk_run C cl n) = some r := e
      show bk_sem (C pc) cl pc L st h (bk_run C cl (n + 1)) = some r
      rw [hv] at e1 ⊢
      exact bk_run_mono C cl n _ _ _ _ _ e1
theorem bk_run_le (C : Nat → bk_O) (cl : bk_C) {n : Nat} {pc : Nat} {L st : List Value} {h : bk_H} {r : Option Value × bk_H} (e : bk_run C cl n pc L st h = some r) : ∀ k, bk_run C cl (n + k) pc L st h = some r
  | 0 => e
  | k + 1 => bk_run_mono C cl _ _ _ _ _ _ (bk_run_le C cl e k)
theorem bk_den_run {C : Nat → bk_O} {cl : bk_C} {pc : Nat} {L st : List Value} {h : bk_H} {r : Option Value × bk_H} : bk_den C cl pc L st h = some r ↔ ∃ n, bk_run C cl n pc L st h = some r := by
  unfold bk_den
  by_cases H : ∃ n r, bk_run C cl n pc L st h = some r
  · rw [dif_pos H]
    have h1 := H.choose_spec.choose_spec
    constructor
    · intro e
      exact ⟨_, h1.trans e⟩
    · rintro ⟨n, e⟩
      have a := bk_run_le C cl h1 n
      have b := bk_run_le C cl e H.choose
      rw [Nat.add_comm] at b
      exact a.symm.trans b
  · rw [dif_neg H]
    constructor
    · intro e; cases e
    · rintro ⟨n, e⟩
      exact absurd ⟨n, r, e⟩ H
theorem bk_den_eq (C : Nat → bk_O) (cl : bk_C) (pc : Nat) (L st : List Value) (h : bk_H) : bk_den C cl pc L st h = bk_sem (C pc) cl pc L st h (bk_den C cl) := by
  apply Option.ext
  intro r
  show bk_den C cl pc L st h = some r ↔ _ = some r
  rw [bk_den_run]
  rcases bk_sem_T (C pc) cl pc L st h with ⟨v, hv, -⟩ | ⟨pc', L', st', h', -, hv⟩ <;> dsimp only at hv
  · rw [hv]
    constructor
    · rintro ⟨n, e⟩
      cases n with
      | zero => cases e
      | succ n => exact (hv (bk_run C cl n)).symm.trans e
    · intro e
      exact ⟨1, (hv _).trans e⟩
  · rw [hv, bk_den_run]
    constructor
    · rintro ⟨n, e⟩
      cases n with
      | zero => cases e
      | succ n => exact ⟨n, (hv (bk_run C cl n)).symm.trans e⟩
    · rintro ⟨n, e⟩
      exact ⟨n + 1, (hv _).trans e⟩
/-- several steps at once: to a place where it stops -/
noncomputable def bk_tx (C : Nat → bk_O) (cl : bk_C) (stop : Nat → Bool) : Nat → bk_K
  | 0 => bk_den C cl
  | n + 1 => fun pc L st h => bk_sem (C pc) cl pc L st h (fun pc' L' st' h' => bif stop pc' then bk_den C cl pc' L' st' h' else bk_tx C cl stop n pc' L' st' h')
theorem bk_tx_eq (C : Nat → bk_O) (cl : bk_C) (stop : Nat → Bool) : ∀ n, bk_den C cl = bk_tx C cl stop n
  | 0 => rfl
  | n + 1 => by
    funext pc L st h
    have e : (fun pc' L' st' h' => bif stop pc' then bk_den C cl pc' L' st' h' else bk_tx C cl stop n pc' L' st' h') = bk_den C cl := by
      funext pc' L' st' h'
      rw [← bk_tx_eq C cl stop n]
      cases stop pc' <;> rfl
    have e2 : bk_tx C cl stop (n + 1) pc L st h = bk_sem (C pc) cl pc L st h (fun pc' L' st' h' => bif stop pc' then bk_den C cl pc' L' st' h' else bk_tx C cl stop n pc' L' st' h') := rfl
    rw [e2, e]
    exact bk_den_eq C cl pc L st h
theorem bk_tx_at {C : Nat → bk_O} {cl : bk_C} (stop : Nat → Bool) (n : Nat) {pc : Nat} {L st : List Value} {h : bk_H} {r : bk_R} (e : bk_tx C cl stop n pc L st h = r) : bk_den C cl pc L st h = r := by
  rw [bk_tx_eq C cl stop n]; exact e
