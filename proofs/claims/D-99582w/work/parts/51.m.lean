/-! SPECS: numbers, the heap in its own form (bk_M): what is stored where, by address and place, as whole numbers -/
set_option maxRecDepth 100000
def bk_i (z : Int) : Int32 := Int32.ofInt z
def bk_l (z : Int) : Int64 := Int64.ofInt z
def bz (p : Prop) [Decidable p] : Int := if p then 1 else 0
theorem bz_t {p : Prop} [Decidable p] (h : p) : bz p = 1 := if_pos h
theorem bz_f {p : Prop} [Decidable p] (h : ¬ p) : bz p = 0 := if_neg h
theorem bz_01 (p : Prop) [Decidable p] : bz p = 0 ∨ bz p = 1 := by
  unfold bz; split
  · exact Or.inr rfl
  · exact Or.inl rfl
theorem bi_self (x : Int32) : x = bk_i x.toInt := (Int32.ofInt_toInt x).symm
theorem bl_self (x : Int64) : x = bk_l x.toInt := (Int64.ofInt_toInt x).symm
theorem bi_to {a : Int} (h1 : -2147483648 ≤ a) (h2 : a < 2147483648) : (bk_i a).toInt = a := Int32.toInt_ofInt_of_le (by omega) (by omega)
theorem bl_to {a : Int} (h1 : -9223372036854775808 ≤ a) (h2 : a < 9223372036854775808) : (bk_l a).toInt = a := Int64.toInt_ofInt_of_le (by omega) (by omega)
theorem bi_rng (x : Int32) : -2147483648 ≤ x.toInt ∧ x.toInt < 2147483648 := ⟨Int32.le_toInt x, Int32.toInt_lt x⟩
theorem bl_rng (x : Int64) : -9223372036854775808 ≤ x.toInt ∧ x.toInt < 9223372036854775808 := ⟨Int64.le_toInt x, Int64.toInt_lt x⟩
theorem bi_add (a b : Int) : bk_i a + bk_i b = bk_i (a + b) := (Int32.ofInt_add a b).symm
theorem bi_sub (a b : Int) : bk_i a - bk_i b = bk_i (a - b) := (Int32.ofInt_sub a b).symm
theorem bi_mul (a b : Int) : bk_i a * bk_i b = bk_i (a * b) := (Int32.ofInt_mul a b).symm
theorem bi_neg (a : Int) : - bk_i a = bk_i (- a) := (Int32.ofInt_neg a).symm
theorem bl_add (a b : Int) : bk_l a + bk_l b = bk_l (a + b) := (Int64.ofInt_add a b).symm
theorem bl_sub (a b : Int) : bk_l a - bk_l b = bk_l (a - b) := (Int64.ofInt_sub a b).symm
theorem bl_mul (a b : Int) : bk_l a * bk_l b = bk_l (a * b) := (Int64.ofInt_mul a b).symm
theorem bl_neg (a : Int) : - bk_l a = bk_l (- a) := (Int64.ofInt_neg a).symm
theorem bi_le {a b : Int} (h1 : -2147483648 ≤ a) (h2 : a < 2147483648) (h3 : -2147483648 ≤ b) (h4 : b < 2147483648) : (bk_i a ≤ bk_i b) ↔ a ≤ b := by
  rw [Int32.le_iff_toInt_le, bi_to h1 h2, bi_to h3 h4]
theorem bi_lt {a b : Int} (h1 : -2147483648 ≤ a) (h2 : a < 2147483648) (h3 : -2147483648 ≤ b) (h4 : b < 2147483648) : (bk_i a < bk_i b) ↔ a < b := by
  rw [Int32.lt_iff_toInt_lt, bi_to h1 h2, bi_to h3 h4]
theorem bi_eq {a b : Int} (h1 : -2147483648 ≤ a) (h2 : a < 2147483648) (h3 : -2147483648 ≤ b) (h4 : b < 2147483648) : (bk_i a = bk_i b) ↔ a = b := by
  rw [← Int32.toInt_inj, bi_to h1 h2, bi_to h3 h4]
theorem bl_le {a b : Int} (h1 : -9223372036854775808 ≤ a) (h2 : a < 9223372036854775808) (h3 : -9223372036854775808 ≤ b) (h4 : b < 9223372036854775808) : (bk_l a ≤ bk_l b) ↔ a ≤ b := by
  rw [Int64.le_iff_toInt_le, bl_to h1 h2, bl_to h3 h4]
theorem bl_lt {a b : Int} (h1 : -9223372036854775808 ≤ a) (h2 : a < 9223372036854775808) (h3 : -9223372036854775808 ≤ b) (h4 : b < 9223372036854775808) : (bk_l a < bk_l b) ↔ a < b := by
  rw [Int64.lt_iff_toInt_lt, bl_to h1 h2, bl_to h3 h4]
theorem bl_eq {a b : Int} (h1 : -9223372036854775808 ≤ a) (h2 : a < 9223372036854775808) (h3 : -9223372036854775808 ≤ b) (h4 : b < 9223372036854775808) : (bk_l a = bk_l b) ↔ a = b := by
  rw [← Int64.toInt_inj, bl_to h1 h2, bl_to h3 h4]
theorem bi_div {a b : Int} (h1 : 0 ≤ a) (h2 : a < 2147483648) (h3 : 0 < b) (h4 : b < 2147483648) : bk_i a / bk_i b = bk_i (a / b) := by
  have e : a / b = a.tdiv b := (Int.tdiv_eq_ediv_of_nonneg h1).symm
  rw [e]
  have m1 : Int32.minValue.toInt = -2147483648 := rfl
  have m2 : Int32.maxValue.toInt = 2147483647 := rfl
  exact (Int32.ofInt_tdiv (by omega) (by omega) (by omega) (by omega)).symm
theorem bl_div {a b : Int} (h1 : 0 ≤ a) (h2 : a < 9223372036854775808) (h3 : 0 < b) (h4 : b < 9223372036854775808) : bk_l a / bk_l b = bk_l (a / b) := by
  have e : a / b = a.tdiv b := (Int.tdiv_eq_ediv_of_nonneg h1).symm
  rw [e]
  have m1 : Int64.minValue.toInt = -9223372036854775808 := rfl
  have m2 : Int64.maxValue.toInt = 9223372036854775807 := rfl
  exact (Int64.ofInt_tdiv (by omega) (by omega) (by omega) (by omega)).symm
theorem bi_64 {a : Int} (h1 : -2147483648 ≤ a) (h2 : a < 2147483648) : Int32.toInt64 (bk_i a) = bk_l a := by
  apply Int64.toInt_inj.mp
  rw [Int32.toInt_toInt64, bi_to h1 h2, bl_to (by omega) (by omega)]
theorem bl_32 (a : Int) : Int64.toInt32 (bk_l a) = bk_i a := Int64.toInt32_ofInt
theorem bi_ix {a : Int} (h1 : 0 ≤ a) (h2 : a < 2147483648) : bk_ix (bk_i a) = a.toNat := by
  show (bk_i a).toUInt32.toNat = a.toNat
  have z : (0 : Int32) ≤ bk_i a := (bi_le (a := 0) (by omega) (by omega) (by omega) (by omega)).mpr h1
  rw [Int32.toNat_toUInt32_of_le z]
  exact Int32.toNatClampNeg_ofInt_of_le (by omega) (by omega)
theorem bi_min {a b : Int} (h1 : -2147483648 ≤ a) (h2 : a < 2147483648) (h3 : -2147483648 ≤ b) (h4 : b < 2147483648) : (if bk_i a ≤ bk_i b then bk_i a else bk_i b) = bk_i (min a b) := by
  have e := bi_le h1 h2 h3 h4
  by_cases c : a ≤ b
  · rw [if_pos (e.mpr c)]; congr 1; omega
  · rw [if_neg (fun q => c (e.mp q))]; congr 1; omega
theorem bi_max {a b : Int} (h1 : -2147483648 ≤ a) (h2 : a < 2147483648) (h3 : -2147483648 ≤ b) (h4 : b < 2147483648) : (if bk_i a ≤ bk_i b then bk_i b else bk_i a) = bk_i (max a b) := by
  have e := bi_le h1 h2 h3 h4
  by_cases c : a ≤ b
  · rw [if_pos (e.mpr c)]; congr 1; omega
  · rw [if_neg (fun q => c (e.mp q))]; congr 1; omega
theorem bl_min {a b : Int} (h1 : -9223372036854775808 ≤ a) (h2 : a < 9223372036854775808) (h3 : -9223372036854775808 ≤ b) (h4 : b < 9223372036854775808) : (if bk_l a ≤ bk_l b then bk_l a else bk_l b) = bk_l (min a b) := by
  have e := bl_le h1 h2 h3 h4
  by_cases c : a ≤ b
  · rw [if_pos (e.mpr c)]; congr 1; omega
  · rw [if_neg (fun q => c (e.mp q))]; congr 1; omega
theorem bl_max {a b : Int} (h1 : -9223372036854775808 ≤ a) (h2 : a < 9223372036854775808) (h3 : -9223372036854775808 ≤ b) (h4 : b < 9223372036854775808) : (if bk_l a ≤ bk_l b then bk_l b else bk_l a) = bk_l (max a b) := by
  have e := bl_le h1 h2 h3 h4
  by_cases c : a ≤ b
  · rw [if_pos (e.mpr c)]; congr 1; omega
  · rw [if_neg (fun q => c (e.mp q))]; congr 1; omega
theorem bl_cmp {a b : Int} (h1 : -9223372036854775808 ≤ a) (h2 : a < 9223372036854775808) (h3 : -9223372036854775808 ≤ b) (h4 : b < 9223372036854775808) : bk_lcmp (bk_l a) (bk_l b) = bk_i (if b < a then 1 else if a = b then 0 else -1) := by
  unfold bk_lcmp
  have e1 := bl_lt h3 h4 h1 h2
  have e2 := bl_eq h1 h2 h3 h4
  by_cases c : b < a
  · rw [if_pos (e1.mpr c), if_pos c]; rfl
  · rw [if_neg (fun q => c (e1.mp q)), if_neg c]
    by_cases d : a = b
    · rw [if_pos (e2.mpr d), if_pos d]; rfl
    · rw [if_neg (fun q => d (e2.mp q)), if_neg d]; rfl
-- what is asked of numbers
theorem bq_I (x : Int32) (K : Int32 → bk_R) : bk_I (.int x) K = K x := rfl
theorem bq_J (x : Int64) (K : Int64 → bk_R) : bk_J (.long x) K = K x := rfl
theorem bq_A (x : Nat) (K : Nat → bk_R) : bk_A (.ref x) K = K x := rfl
theorem bq_Vi (x : Int32) (K : bk_R) : bk_V (.int x) K = K := rfl
theorem bq_Vl (x : Int64) (K : bk_R) : bk_V (.long x) K = K := rfl
theorem bq_Vr (x : Nat) (K : bk_R) : bk_V (.ref x) K = K := rfl
theorem bq_cV (h : bk_H) (K : bk_H → bk_R) : bk_cV (some (none, h)) K = K h := rfl
theorem bq_cI (x : Int32) (h : bk_H) (K : Int32 → bk_H → bk_R) : bk_cI (some (some (.int x), h)) K = K x h := rfl
theorem bq_cJ (x : Int64) (h : bk_H) (K : Int64 → bk_H → bk_R) : bk_cJ (some (some (.long x), h)) K = K x h := rfl
theorem bq_cA (x : Nat) (h : bk_H) (K : Nat → bk_H → bk_R) : bk_cA (some (some (.ref x), h)) K = K x h := rfl
theorem bq_le {a b : Int} {A B : bk_R} (h1 : -2147483648 ≤ a) (h2 : a < 2147483648) (h3 : -2147483648 ≤ b) (h4 : b < 2147483648) : bk_if (bk_i a ≤ bk_i b) A B = if a ≤ b then A else B := by
  have e := bi_le h1 h2 h3 h4
  unfold bk_if
  by_cases c : a ≤ b
  · rw [if_pos (e.mpr c), if_pos c]
  · rw [if_neg (fun q => c (e.mp q)), if_neg c]
theorem bq_lt {a b : Int} {A B : bk_R} (h1 : -2147483648 ≤ a) (h2 : a < 2147483648) (h3 : -2147483648 ≤ b) (h4 : b < 2147483648) : bk_if (bk_i a < bk_i b) A B = if a < b then A else B := by
  have e := bi_lt h1 h2 h3 h4
  unfold bk_if
  by_cases c : a < b
  · rw [if_pos (e.mpr c), if_pos c]
  · rw [if_neg (fun q => c (e.mp q)), if_neg c]
theorem bq_eq {a b : Int} {A B : bk_R} (h1 : -2147483648 ≤ a) (h2 : a < 2147483648) (h3 : -2147483648 ≤ b) (h4 : b < 2147483648) : bk_if (bk_i a = bk_i b) A B = if a = b then A else B := by
  have e := bi_eq h1 h2 h3 h4
  unfold bk_if
  by_cases c : a = b
  · rw [if_pos (e.mpr c), if_pos c]
  · rw [if_neg (fun q => c (e.mp q)), if_neg c]
theorem bi_one0 : ¬ (bk_i 1 = bk_i 0) := by decide
theorem bq_z {p : Prop} [Decidable p] {A B : bk_R} : bk_if (bk_i (bz p) = bk_i 0) A B = if p then B else A := by
  unfold bk_if bz
  by_cases c : p
  · rw [if_pos c, if_pos c, if_neg bi_one0]
  · rw [if_neg c, if_neg c, if_pos rfl]
theorem bq_o {p : Prop} [Decidable p] {A B : bk_R} : bk_if (bk_i (bz p) = bk_i 1) A B = if p then A else B := by
  unfold bk_if bz
  by_cases c : p
  · rw [if_pos c, if_pos c, if_pos rfl]
  · rw [if_neg c, if_neg c, if_neg (fun q => bi_one0 q.symm)]
theorem bq_T {i : Decidable True} {A B : bk_R} : @bk_if True i A B = A := if_pos trivial
theorem bq_F {i : Decidable False} {A B : bk_R} : @bk_if False i A B = B := if_neg id
theorem bq_ref {x y : Nat} {A B : bk_R} : bk_if (x = y) A B = if x = y then A else B := rfl
theorem bq_nz {b : Int} {A : bk_R} (h1 : b ≠ 0) (h3 : -2147483648 ≤ b) (h4 : b < 2147483648) : bk_nz (bk_i b) A = A := by
  exact if_neg (fun q => h1 ((bi_eq (b := 0) h3 h4 (by omega) (by omega)).mp q))
theorem bq_nzJ {b : Int} {A : bk_R} (h1 : b ≠ 0) (h3 : -9223372036854775808 ≤ b) (h4 : b < 9223372036854775808) : bk_nzJ (bk_l b) A = A := by
  exact if_neg (fun q => h1 ((bl_eq (b := 0) h3 h4 (by omega) (by omega)).mp q))
theorem bq_bl {b : Int} {A : bk_R} (h : b = 0 ∨ b = 1) : bk_bl (bk_i b) A = A := by
  unfold bk_bl
  rcases h with rfl | rfl
  · exact if_pos (Or.inl rfl)
  · exact if_pos (Or.inr rfl)
theorem bq_blz {p : Prop} [Decidable p] {A : bk_R} : bk_bl (bk_i (bz p)) A = A := bq_bl (bz_01 p)
theorem bk_wp.ite {c : Prop} [Decidable c] {A B : bk_R} {P : Option Value → bk_H → Prop} (h1 : c → bk_wp A P) (h2 : ¬ c → bk_wp B P) : bk_wp (if c then A else B) P := by
  split
  · exact h1 ‹_›
  · exact h2 ‹_›
-- loops
theorem bk_loop {σ : Type} {Q : Option Value → bk_H → Prop} (D : Int → σ → bk_R) (J : Int → σ → Prop) (n : Int) (step : ∀ s x, s < n → J s x → (∀ x', J (s + 1) x' → bk_wp (D (s + 1) x') Q) → bk_wp (D s x) Q) (fin : ∀ x, J n x → bk_wp (D n x) Q) (s : Int) (x : σ) (hs : s ≤ n) (h : J s x) : bk_wp (D s x) Q := by
  have key : ∀ (k : Nat) (s : Int) (x : σ), s + k = n → J s x → bk_wp (D s x) Q := by
    intro k
    induction k with
    | zero => intro s x e h; have : s = n := by omega
              subst this; exact fin x h
    | succ k ih => intro s x e h; exact step s x (by omega) h fun x' h' => ih (s + 1) x' (by omega) h'
  exact key (n - s).toNat s x (by omega) h
theorem bk_while {σ : Type} {Q : Option Value → bk_H → Prop} (D : σ → bk_R) (μ : σ → Nat) (J : σ → Prop) (step : ∀ x, J x → (∀ x', μ x' < μ x → J x' → bk_wp (D x') Q) → bk_wp (D x) Q) (x : σ) (h : J x) : bk_wp (D x) Q := by
  have key : ∀ (k : Nat) (x : σ), μ x < k → J x → bk_wp (D x) Q := by
    intro k
    induction k with
    | zero => intro x e; omega
    | succ k ih => intro x e h; exact step x h fun x' e' h' => ih x' (by omega) h'
  exact key (μ x + 1) x (by omega) h
-- the heap: component's ints that last, its scratch, its scratch of longs; the twin's ints that last, longs that last, scratch, scratch of longs
abbrev bG : Type := Nat → Nat → Nat → Value
abbrev bF : Type := Nat → Int → Int
abbrev bFJ : Type := Nat → Int → Int64
abbrev bX : Type := bF × bF × bFJ
abbrev bY : Type := bF × bFJ × bF × bFJ
def bU (f : bF) (a : Nat) (k v : Int) : bF := fun a' k' => if a' = a ∧ k' = k then v else f a' k'
def bUJ (f : bFJ) (a : Nat) (k : Int) (v : Int64) : bFJ := fun a' k' => if a' = a ∧ k' = k then v else f a' k'
theorem bU_same (f : bF) (a : Nat) (k v j : Int) : bU f a k v a j = if j = k then v else f a j := by
  unfold bU
  by_cases c : j = k
  · rw [if_pos ⟨rfl, c⟩, if_pos c]
  · rw [if_neg (fun q => c q.2), if_neg c]
theorem bU_ne (f : bF) (a b : Nat) (k v j : Int) (h : b ≠ a) : bU f a k v b j = f b j := by
  unfold bU
  rw [if_neg (fun q => h q.1)]
theorem bU_hit (f : bF) (a : Nat) (k v : Int) : bU f a k v a k = v := by
  unfold bU
  rw [if_pos ⟨rfl, rfl⟩]
theorem bUJ_same (f : bFJ) (a : Nat) (k j : Int) (v : Int64) : bUJ f a k v a j = if j = k then v else f a j := by
  unfold bUJ
  by_cases c : j = k
  · rw [if_pos ⟨rfl, c⟩, if_pos c]
  · rw [if_neg (fun q => c q.2), if_neg c]
theorem bUJ_ne (f : bFJ) (a b : Nat) (k j : Int) (v : Int64) (h : b ≠ a) : bUJ f a k v b j = f b j := by
  unfold bUJ
  rw [if_neg (fun q => h q.1)]
/-- an address' sort -/
def bk_so (a : Nat) : Nat := match a with
  | 64 => 0
  | 70 => 2 | 71 => 2 | 74 => 2 | 75 => 2 | 76 => 2 | 77 => 2 | 78 => 2 | 79 => 2 | 80 => 2 | 81 => 2 | 82 => 2 | 83 => 2 | 100 => 2 | 101 => 2
  | 72 => 101
  | 87 => 102 | 91 => 102 | 104 => 102 | 112 => 102 | 114 => 102 | 115 => 102 | 117 => 102
  | 88 => 104 | 89 => 104 | 113 => 104 | 121 => 104
  | 102 => 4
  | _ => 100
def bk_c1 (k : Nat) : Nat := match k with
  | 4 => 1 | 5 => 1 | 6 => 1 | 8 => 1 | 9 => 1 | 10 => 2 | 14 => 2
  | _ => 0
def bk_c2 (k : Nat) : Nat := match k with
  | 5 => 4 | 13 => 4 | 14 => 4
  | 0 => 6 | 6 => 6 | 7 => 6 | 8 => 6 | 9 => 6 | 10 => 6 | 11 => 6 | 12 => 6 | 15 => 6 | 19 => 6 | 20 => 6
  | _ => 0
def bk_n (k n c : Nat) : Nat := if k < n then c else 0
/-- where a cell is kept: 1, 2, 3 the component's, 4 to 7 the twin's, 0 elsewhere -/
def bk_kd (κ : Nat → Nat) (a k : Nat) : Nat := match a with
  | 64 => bk_c1 k
  | 70 => bk_n k 4 1 | 71 => bk_n k 4 2
  | 74 => bk_n k 4 1 | 75 => bk_n k 4 1 | 76 => bk_n k 4 1 | 77 => bk_n k 4 1 | 78 => bk_n k 4 1 | 79 => bk_n k 4 1 | 80 => bk_n k 4 1 | 81 => bk_n k 4 1 | 82 => bk_n k 4 1 | 83 => bk_n k 4 1 | 100 => bk_n k 4 1 | 101 => bk_n k 4 1
  | 72 => bk_n k 900 1
  | 84 => bk_n k 288 2 | 85 => bk_n k 36 2 | 86 => bk_n k 36 2 | 87 => bk_n k 36 2 | 90 => bk_n k 6 2 | 91 => bk_n k 360 2 | 92 => bk_n k 324 2
  | 88 => bk_n k 396 3 | 89 => bk_n k 396 3
  | 102 => bk_c2 k
  | 103 => bk_n k 2997 4 | 104 => bk_n k 2 4 | 105 => bk_n k 900 4 | 119 => bk_n k 4 4 | 120 => bk_n k 4 4
  | 121 => bk_n k 160 5
  | 106 => bk_n k 999 6 | 107 => bk_n k 900 6 | 108 => bk_n k 7 6 | 109 => bk_n k 5 6 | 110 => bk_n k 288 6 | 111 => bk_n k 36 6 | 112 => bk_n k 36 6 | 114 => bk_n k 36 6 | 115 => bk_n k 36 6 | 116 => bk_n k 6 6 | 117 => bk_n k 360 6 | 118 => bk_n k 324 6
  | 113 => bk_n k 396 7
  | _ => if κ a = 4 then bk_n k 7 2 else 0
def bk_M (κ : Nat → Nat) (X : bX) (Y : bY) (g : bG) (n : Nat × Nat) : bk_H := (fun t a k =>
  if t = bk_so a then (match bk_kd κ a k with
    | 1 => .int (bk_i (X.1 a k)) | 2 => .int (bk_i (X.2.1 a k)) | 3 => .long (X.2.2 a k)
    | 4 => .int (bk_i (Y.1 a k)) | 5 => .long (Y.2.1 a k) | 6 => .int (bk_i (Y.2.2.1 a k)) | 7 => .long (Y.2.2.2 a k)
    | _ => g t a k) else g t a k, n)
section BM
variable {κ : Nat → Nat} {cp cs : bF} {cj : bFJ} {X : bX} {Y : bY} {tp ts : bF} {tj tk : bFJ} {g : bG} {n : Nat × Nat} {t a k : Nat}
theorem bM_0 (h : bk_kd κ a k = 0) : (bk_M κ X Y g n).1 t a k = g t a k := by
  unfold bk_M; dsimp only; rw [h]; split <;> rfl
theorem bM_t (h : t ≠ bk_so a) : (bk_M κ X Y g n).1 t a k = g t a k := by
  unfold bk_M; dsimp only; rw [if_neg h]
theorem bM_1 (e : t = bk_so a) (h : bk_kd κ a k = 1) : (bk_M κ (cp, cs, cj) Y g n).1 t a k = .int (bk_i (cp a k)) := by
  unfold bk_M; dsimp only; rw [if_pos e, h]; rfl
theorem bM_2 (e : t = bk_so a) (h : bk_kd κ a k = 2) : (bk_M κ (cp, cs, cj) Y g n).1 t a k = .int (bk_i (cs a k)) := by
  unfold bk_M; dsimp only; rw [if_pos e, h]; rfl
theorem bM_3 (e : t = bk_so a) (h : bk_kd κ a k = 3) : (bk_M κ (cp, cs, cj) Y g n).1 t a k = .long (cj a k) := by
  unfold bk_M; dsimp only; rw [if_pos e, h]; rfl
theorem bM_4 (e : t = bk_so a) (h : bk_kd κ a k = 4) : (bk_M κ X (tp, tj, ts, tk) g n).1 t a k = .int (bk_i (tp a k)) := by
  unfold bk_M; dsimp only; rw [if_pos e, h]; rfl
theorem bM_5 (e : t = bk_so a) (h : bk_kd κ a k = 5) : (bk_M κ X (tp, tj, ts, tk) g n).1 t a k = .long (tj a k) := by
  unfold bk_M; dsimp only; rw [if_pos e, h]; rfl
theorem bM_6 (e : t = bk_so a) (h : bk_kd κ a k = 6) : (bk_M κ X (tp, tj, ts, tk) g n).1 t a k = .int (bk_i (ts a k)) := by
  unfold bk_M; dsimp only; rw [if_pos e, h]; rfl
theorem bM_7 (e : t = bk_so a) (h : bk_kd κ a k = 7) : (bk_M κ X (tp, tj, ts, tk) g n).1 t a k = .long (tk a k) := by
  unfold bk_M; dsimp only; rw [if_pos e, h]; rfl
end BM
theorem bk_put_eq {h h' : bk_H} {t a k : Nat} {v : Value} (h1 : h'.2 = h.2) (h2 : h'.1 t a k = v) (h3 : ∀ t' a' k', ¬ (t' = t ∧ a' = a ∧ k' = k) → h'.1 t' a' k' = h.1 t' a' k') : bk_put h t a k v = h' := by
  apply Prod.ext
  · funext t' a' k'
    by_cases c : t' = t ∧ a' = a ∧ k' = k
    · obtain ⟨rfl, rfl, rfl⟩ := c
      exact (if_pos ⟨rfl, rfl, rfl⟩).trans h2.symm
    · exact (if_neg c).trans (h3 _ _ _ c).symm
  · exact h1.symm
section BP
variable {κ : Nat → Nat} {cp cs : bF} {cj : bFJ} {X : bX} {Y : bY} {tp ts : bF} {tj tk : bFJ} {g : bG} {n : Nat × Nat} {t a k : Nat}
theorem bU_off {f : bF} {v : Int} {t' a' k' : Nat} (e : t = bk_so a) (e' : t' = bk_so a') (c : ¬ (t' = t ∧ a' = a ∧ k' = k)) : bU f a k v a' k' = f a' k' := by
  refine if_neg fun q => c ?_
  obtain ⟨q1, q2⟩ := q
  subst q1
  exact ⟨e'.trans e.symm, rfl, by omega⟩
theorem bUJ_off {f : bFJ} {v : Int64} {t' a' k' : Nat} (e : t = bk_so a) (e' : t' = bk_so a') (c : ¬ (t' = t ∧ a' = a ∧ k' = k)) : bUJ f a k v a' k' = f a' k' := by
  refine if_neg fun q => c ?_
  obtain ⟨q1, q2⟩ := q
  subst q1
  exact ⟨e'.trans e.symm, rfl, by omega⟩
theorem bP_1 (e : t = bk_so a) (h : bk_kd κ a k = 1) (v : Int) : bk_put (bk_M κ (cp, cs, cj) Y g n) t a k (.int (bk_i v)) = bk_M κ (bU cp a k v, cs, cj) Y g n := by
  refine bk_put_eq rfl ((bM_1 e h).trans (by rw [bU_hit])) fun t' a' k' c => ?_
  unfold bk_M; dsimp only
  by_cases q : t' = bk_so a'
  · rw [if_pos q, if_pos q, bU_off e q c]
  · rw [if_neg q, if_neg q]
theorem bP_2 (e : t = bk_so a) (h : bk_kd κ a k = 2) (v : Int) : bk_put (bk_M κ (cp, cs, cj) Y g n) t a k (.int (bk_i v)) = bk_M κ (cp, bU cs a k v, cj) Y g n := by
  refine bk_put_eq rfl ((bM_2 e h).trans (by rw [bU_hit])) fun t' a' k' c => ?_
  unfold bk_M; dsimp only
  by_cases q : t' = bk_so a'
  · rw [if_pos q, if_pos q, bU_off e q c]
  · rw [if_neg q, if_neg q]
theorem bP_3 (e : t = bk_so a) (h : bk_kd κ a k = 3) (v : Int64) : bk_put (bk_M κ (cp, cs, cj) Y g n) t a k (.long v) = bk_M κ (cp, cs, bUJ cj a k v) Y g n := by
  refine bk_put_eq rfl ((bM_3 e h).trans (by unfold bUJ; rw [if_pos ⟨rfl, rfl⟩])) fun t' a' k' c => ?_
  unfold bk_M; dsimp only
  by_cases q : t' = bk_so a'
  · rw [if_pos q, if_pos q, bUJ_off e q c]
  · rw [if_neg q, if_neg q]
theorem bP_4 (e : t = bk_so a) (h : bk_kd κ a k = 4) (v : Int) : bk_put (bk_M κ X (tp, tj, ts, tk) g n) t a k (.int (bk_i v)) = bk_M κ X (bU tp a k v, tj, ts, tk) g n := by
  refine bk_put_eq rfl ((bM_4 e h).trans (by rw [bU_hit])) fun t' a' k' c => ?_
  unfold bk_M; dsimp only
  by_cases q : t' = bk_so a'
  · rw [if_pos q, if_pos q, bU_off e q c]
  · rw [if_neg q, if_neg q]
theorem bP_5 (e : t = bk_so a) (h : bk_kd κ a k = 5) (v : Int64) : bk_put (bk_M κ X (tp, tj, ts, tk) g n) t a k (.long v) = bk_M κ X (tp, bUJ tj a k v, ts, tk) g n := by
  refine bk_put_eq rfl ((bM_5 e h).trans (by unfold bUJ; rw [if_pos ⟨rfl, rfl⟩])) fun t' a' k' c => ?_
  unfold bk_M; dsimp only
  by_cases q : t' = bk_so a'
  · rw [if_pos q, if_pos q, bUJ_off e q c]
  · rw [if_neg q, if_neg q]
theorem bP_6 (e : t = bk_so a) (h : bk_kd κ a k = 6) (v : Int) : bk_put (bk_M κ X (tp, tj, ts, tk) g n) t a k (.int (bk_i v)) = bk_M κ X (tp, tj, bU ts a k v, tk) g n := by
  refine bk_put_eq rfl ((bM_6 e h).trans (by rw [bU_hit])) fun t' a' k' c => ?_
  unfold bk_M; dsimp only
  by_cases q : t' = bk_so a'
  · rw [if_pos q, if_pos q, bU_off e q c]
  · rw [if_neg q, if_neg q]
theorem bP_7 (e : t = bk_so a) (h : bk_kd κ a k = 7) (v : Int64) : bk_put (bk_M κ X (tp, tj, ts, tk) g n) t a k (.long v) = bk_M κ X (tp, tj, ts, bUJ tk a k v) g n := by
  refine bk_put_eq rfl ((bM_7 e h).trans (by unfold bUJ; rw [if_pos ⟨rfl, rfl⟩])) fun t' a' k' c => ?_
  unfold bk_M; dsimp only
  by_cases q : t' = bk_so a'
  · rw [if_pos q, if_pos q, bUJ_off e q c]
  · rw [if_neg q, if_neg q]
end BP
