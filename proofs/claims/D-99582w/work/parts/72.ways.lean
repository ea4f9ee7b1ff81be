/-! SPECS: how many ways, of so many steps; sets (no machine, but for small ones) -/
set_option maxRecDepth 100000
theorem lc0 {w : Int} {A B : bk_R} {i : Decidable (bk_lcmp (bk_l w) (bk_l 0) = bk_i 0)} (h1 : -9223372036854775808 ≤ w) (h2 : w < 9223372036854775808) : @bk_if (bk_lcmp (bk_l w) (bk_l 0) = bk_i 0) i A B = if w = 0 then A else B := by
  unfold bk_if
  have e := bl_cmp (a := w) (b := 0) h1 h2 (by omega) (by omega)
  by_cases c : w = 0
  · subst c; rw [if_pos (by rw [e]; rfl), if_pos rfl]
  · rw [if_neg c, if_neg]
    rw [e]
    by_cases d : 0 < w
    · rw [if_pos d]; decide
    · rw [if_neg d, if_neg c]; decide
theorem lcle {w : Int} {A B : bk_R} {i : Decidable (bk_lcmp (bk_l w) (bk_l 0) ≤ bk_i 0)} (h1 : -9223372036854775808 ≤ w) (h2 : w < 9223372036854775808) : @bk_if (bk_lcmp (bk_l w) (bk_l 0) ≤ bk_i 0) i A B = if w ≤ 0 then A else B := by
  unfold bk_if
  have e := bl_cmp (a := w) (b := 0) h1 h2 (by omega) (by omega)
  by_cases c : w ≤ 0
  · rw [if_pos c, if_pos]
    rw [e, if_neg (by omega)]
    by_cases d : w = 0
    · rw [if_pos d]; decide
    · rw [if_neg d]; decide
  · rw [if_neg c, if_neg]
    rw [e, if_pos (by omega)]; decide
/-- sets as numbers -/
def io (a b : Int) : Int := (bk_i a ||| bk_i b).toInt
def ia (a b : Int) : Int := (bk_i a &&& bk_i b).toInt
def sh (p : Int) : Int := ((1 : Int32) <<< (bk_i p &&& 31)).toInt
theorem bi_io (a b : Int) : bk_i a ||| bk_i b = bk_i (io a b) := bi_self _
theorem bi_ia (a b : Int) : bk_i a &&& bk_i b = bk_i (ia a b) := bi_self _
theorem bi_sh (p : Int) : bk_i 1 <<< (bk_i p &&& bk_i 31) = bk_i (sh p) := bi_self _
theorem fin8 {P : Int → Prop} (h : ∀ k : Fin 8, P k.val) {p : Int} (h0 : 0 ≤ p) (h1 : p < 8) : P p := by
  have := h ⟨p.toNat, by omega⟩
  simp only [Int.toNat_of_nonneg h0] at this
  exact this
theorem bt_sh {b p : Int} (b0 : 0 ≤ b) (b1 : b < 8) (p0 : 0 ≤ p) (p1 : p < 8) : bt (sh b) p = 1 ↔ p = b := by
  have k : ∀ b : Fin 8, ∀ p : Fin 8, bt (sh b.val) p.val = 1 ↔ (p.val : Int) = (b.val : Int) := by decide +kernel
  exact fin8 (P := fun b => bt (sh b) p = 1 ↔ p = b) (fun b => fin8 (P := fun p => bt (sh b.val) p = 1 ↔ p = (b.val : Int)) (fun p => k b p) p0 p1) b0 b1
theorem sh_val {p : Int} (p0 : 0 ≤ p) (p1 : p < 10) : sh p = (2 : Int) ^ p.toNat := by
  have k : ∀ p : Fin 10, sh p.val = (2 : Int) ^ p.val := by decide +kernel
  have := k ⟨p.toNat, by omega⟩
  simp only [Int.toNat_of_nonneg p0] at this
  exact this
theorem sh_rng {p : Int} (p0 : 0 ≤ p) (p1 : p < 10) : 1 ≤ sh p ∧ sh p ≤ 512 := by
  have k : ∀ p : Fin 10, 1 ≤ sh p.val ∧ sh p.val ≤ 512 := by decide +kernel
  have := k ⟨p.toNat, by omega⟩
  simp only [Int.toNat_of_nonneg p0] at this
  exact this
theorem sh_rng8 {p : Int} (p0 : 0 ≤ p) (p1 : p ≤ 8) : 1 ≤ sh p ∧ sh p ≤ 256 := by
  have k : ∀ p : Fin 9, 1 ≤ sh p.val ∧ sh p.val ≤ 256 := by decide +kernel
  have := k ⟨p.toNat, by omega⟩
  simp only [Int.toNat_of_nonneg p0] at this
  exact this
theorem io_rng {a b : Int} (a0 : 0 ≤ a) (a1 : a < 256) (b0 : 0 ≤ b) (b1 : b < 256) : 0 ≤ io a b ∧ io a b < 256 := by
  have k : ∀ a : Fin 256, ∀ b : Fin 256, 0 ≤ io a.val b.val ∧ io a.val b.val < 256 := by decide +kernel
  have := k ⟨a.toNat, by omega⟩ ⟨b.toNat, by omega⟩
  simp only [Int.toNat_of_nonneg a0, Int.toNat_of_nonneg b0] at this
  exact this
/-- how many members -/
def szM (x : Int) : Int := sumZ (fun k => bt x k) 10
theorem szM_rng (x : Int) : 0 ≤ szM x ∧ szM x ≤ 10 := by
  have := sumZ_bnd (f := fun k => bt x k) (b := 1) 10 (fun s _ _ => by have := bt_01 x s; omega)
  unfold szM
  omega
theorem s_bitCount {k : Int} (h0 : 0 ≤ k) (h1 : k < 256) {D : Nat} (hD : 2 ≤ D) (h : bk_H) : bk_call D 60 [.int (bk_i k)] h = some (some (.int (bk_i (szM k))), h) := by
  have key : ∃ e : Int32 → Int32, (∀ cl v h, bk_den TJ6_bitCount cl 0 [.int v] [] h = some (some (.int (e v)), h)) ∧ ∀ k : Fin 256, e (bk_i k.val) = bk_i (szM k.val) := ⟨_, fun cl v h => eJ6_bitCount_0 cl v h, by decide +kernel⟩
  obtain ⟨e, h2, h3⟩ := key
  have := h3 ⟨k.toNat, by omega⟩
  simp only [Int.toNat_of_nonneg h0] at this
  obtain ⟨d, rfl⟩ := dep hD
  obtain ⟨d, rfl⟩ := dep (show 1 ≤ d by omega)
  rw [kX0_size, eX0_size_0, kJ6_bitCount, h2, this]; rfl
theorem t_bitsOf {k : Int} {D : Nat} (hD : 1 ≤ D) (h : bk_H) : bk_call D 4095 [.int (bk_i k)] h = some (some (.int (bk_i (szM k))), h) := by
  obtain ⟨d, rfl⟩ := dep hD
  have goal : bk_wp (bk_call (d + 1) 4095 [.int (bk_i k)] h) (fun v h' => v = some (.int (bk_i (szM k))) ∧ h' = h) := by
    rw [kX4_bitsOf, eX4_bitsOf_0]
    refine bk_loop (σ := Unit) (fun s _ => bk_den TX4_bitsOf (bk_call d) 4 [.int (bk_i k), .int (bk_i (sumZ (fun j => bt k j) s.toNat)), .int (bk_i s)] [] h) (fun s _ => 0 ≤ s) 10 ?_ ?_ 0 () (by omega) (by omega)
    · rintro s - hs s0 cont
      rw [eX4_bitsOf_4]
      simp (disch := first | assumption | omega) only [if_neg (show ¬ 10 ≤ s by omega), bi_bt, bi_add, bi_sub, bi_mul, bi_neg, bi_div, bi_64, bl_add, bl_sub, bl_mul, bl_neg, bl_div, bl_32, bi_min, bi_max, bl_min, bl_max, bq_I, bq_J, bq_A, bq_Vi, bq_Vl, bq_Vr, bq_cV, bq_cI, bq_cJ, bq_cA, bq_le, bq_lt, bq_eq, bq_z, bq_o, bq_ref, bq_nz, bq_nzJ, bq_bl, bq_blz, bq_T, bq_F, if_true, if_false, Int.reduceEq, Int.reduceLT, Int.reduceLE, Int.reduceAdd, Int.reduceSub, Int.reduceMul, Int.add_sub_cancel, li_0, li_1, li_4, li_10, li_31, li_4095, ll_0, ll_1, ll_4, ll_10, ll_31]
      have c := cont () (by omega)
      rw [sumZ_succ _ s0] at c
      exact c
    · rintro - s0
      rw [eX4_bitsOf_4]
      simp (disch := first | assumption | omega) only [if_pos (Int.le_refl 10), bi_add, bi_sub, bi_mul, bi_neg, bi_div, bi_64, bl_add, bl_sub, bl_mul, bl_neg, bl_div, bl_32, bi_min, bi_max, bl_min, bl_max, bq_I, bq_J, bq_A, bq_Vi, bq_Vl, bq_Vr, bq_cV, bq_cI, bq_cJ, bq_cA, bq_le, bq_lt, bq_eq, bq_z, bq_o, bq_ref, bq_nz, bq_nzJ, bq_bl, bq_blz, bq_T, bq_F, if_true, if_false, Int.reduceEq, Int.reduceLT, Int.reduceLE, Int.reduceAdd, Int.reduceSub, Int.reduceMul, Int.add_sub_cancel, li_0, li_1, li_4, li_10, li_31, li_4095, ll_0, ll_1, ll_4, ll_10, ll_31]
      exact ⟨_, _, rfl, rfl, rfl⟩
  obtain ⟨z, h', e, rfl, rfl⟩ := goal
  exact e
/-- ways -/
def sw (N : Int → Int → Int) (f : Int → Int) (s : Int) : Nat → Int
  | 0 => 0
  | k + 1 => sw N f s k + (if N s k = -1 then 0 else f (N s k))
def wy (N : Int → Int → Int) (to : Int) : Nat → Int → Int
  | 0, s => if s = to then 1 else 0
  | k + 1, s => sw N (wy N to k) s 8
theorem sw_succ (N : Int → Int → Int) (f : Int → Int) (s : Int) {p : Int} (h : 0 ≤ p) : sw N f s (p + 1).toNat = sw N f s p.toNat + (if N s p = -1 then 0 else f (N s p)) := by
  have e : (p + 1).toNat = p.toNat + 1 := by omega
  rw [e]
  show sw N f s p.toNat + (if N s (p.toNat : Int) = -1 then 0 else f (N s (p.toNat : Int))) = _
  rw [Int.toNat_of_nonneg h]
theorem sw_rng {N : Int → Int → Int} {f : Int → Int} {s B : Int} (hB : 0 ≤ B) : ∀ k : Nat, (∀ p : Int, 0 ≤ p → p < k → N s p ≠ -1 → 0 ≤ f (N s p) ∧ f (N s p) ≤ B) → 0 ≤ sw N f s k ∧ sw N f s k ≤ B * k
  | 0, _ => by show (0 : Int) ≤ 0 ∧ (0 : Int) ≤ B * ((0 : Nat) : Int); omega
  | k + 1, h => by
    have a := sw_rng hB k (fun p h0 h1 => h p h0 (by omega))
    have b := h k (by omega) (by omega)
    have e : B * ((k + 1 : Nat) : Int) = B * k + B := by
      rw [show ((k + 1 : Nat) : Int) = (k : Int) + 1 by omega, Int.mul_add, Int.mul_one]
    show 0 ≤ sw N f s k + _ ∧ sw N f s k + _ ≤ B * ((k + 1 : Nat) : Int)
    rw [e]
    split
    · omega
    · rename_i c; have := b c; omega
theorem sw_cut {N : Int → Int → Int} {f : Int → Int} {s P : Int} (h0 : 0 ≤ P) : ∀ k : Nat, P ≤ k → (∀ p : Int, P ≤ p → p < k → N s p = -1) → sw N f s k = sw N f s P.toNat
  | 0, h, _ => by
    have : P.toNat = 0 := by omega
    rw [this]
  | k + 1, h, hz => by
    by_cases c : P = (k + 1 : Nat)
    · rw [c]; rfl
    · show sw N f s k + (if N s k = -1 then 0 else f (N s k)) = _
      rw [if_pos (hz k (by omega) (by omega)), sw_cut h0 k (by omega) (fun p a b => hz p a (by omega))]
      omega
theorem sw_ext {N N' : Int → Int → Int} {f f' : Int → Int} {s : Int} : ∀ k : Nat, (∀ p : Int, 0 ≤ p → p < k → N s p = N' s p ∧ (N s p ≠ -1 → f (N s p) = f' (N s p))) → sw N f s k = sw N' f' s k
  | 0, _ => rfl
  | k + 1, h => by
    have a := sw_ext (f := f) (f' := f') k (fun p h0 h1 => h p h0 (by omega))
    have b := h k (by omega) (by omega)
    show sw N f s k + (if N s k = -1 then 0 else f (N s k)) = sw N' f' s k + (if N' s k = -1 then 0 else f' (N' s k))
    rw [a, ← b.1]
    by_cases c : N s k = -1
    · rw [if_pos c, if_pos c]
    · rw [if_neg c, if_neg c, b.2 c]
theorem sw_ne {N : Int → Int → Int} {f : Int → Int} {s : Int} : ∀ k : Nat, sw N f s k ≠ 0 → ∃ p : Int, 0 ≤ p ∧ p < k ∧ N s p ≠ -1 ∧ f (N s p) ≠ 0
  | 0, h => absurd rfl h
  | k + 1, h => by
    by_cases c : N s k ≠ -1 ∧ f (N s k) ≠ 0
    · exact ⟨k, by omega, by omega, c.1, c.2⟩
    · have e : sw N f s (k + 1) = sw N f s k := by
        show sw N f s k + (if N s k = -1 then 0 else f (N s k)) = _
        by_cases d : N s k = -1
        · rw [if_pos d]; omega
        · rw [if_neg d]
          by_cases d2 : f (N s k) = 0
          · rw [d2]; omega
          · exact absurd ⟨d, d2⟩ c
      rw [e] at h
      obtain ⟨p, a, b, c, d⟩ := sw_ne k h
      exact ⟨p, a, by omega, c, d⟩
theorem wy_rng {N : Int → Int → Int} {R to : Int} (hN : isN N R) : ∀ (k : Nat) (s : Int), 0 ≤ s → s < R → 0 ≤ wy N to k s ∧ wy N to k s ≤ (8 : Int) ^ k
  | 0, s, _, _ => by
    show 0 ≤ (if s = to then (1 : Int) else 0) ∧ (if s = to then (1 : Int) else 0) ≤ 1
    split <;> omega
  | k + 1, s, s0, s1 => by
    have B : (0 : Int) ≤ (8 : Int) ^ k := by
      have : ∀ k : Nat, (0 : Int) ≤ (8 : Int) ^ k := by
        intro k
        induction k with
        | zero => decide
        | succ k ih => rw [Int.pow_succ]; omega
      exact this k
    have a := sw_rng (N := N) (f := wy N to k) (s := s) B 8 (fun p p0 p1 hp => by
      have np := hN s p s0 s1 p0 (by omega)
      exact wy_rng hN k (N s p) (by omega) (by omega))
    have e : (8 : Int) ^ (k + 1) = (8 : Int) ^ k * 8 := Int.pow_succ _ _
    show 0 ≤ sw N (wy N to k) s 8 ∧ sw N (wy N to k) s 8 ≤ _
    rw [e]
    omega
theorem pow8 {k : Nat} (h : k ≤ 10) : (8 : Int) ^ k ≤ 1073741824 := by
  have q : ∀ k : Fin 11, (8 : Int) ^ k.val ≤ 1073741824 := by decide
  exact q ⟨k, by omega⟩
theorem wy_b {N : Int → Int → Int} {R to : Int} (hN : isN N R) {k : Nat} (hk : k ≤ 10) {s : Int} (s0 : 0 ≤ s) (s1 : s < R) : 0 ≤ wy N to k s ∧ wy N to k s ≤ 1073741824 := by
  have a := wy_rng (to := to) hN k s s0 s1
  have b := pow8 hk
  omega
theorem wy_ext {N N' : Int → Int → Int} {R to : Int} (hN : isN N R) (h : ∀ s p, 0 ≤ s → s < R → 0 ≤ p → p < 8 → N s p = N' s p) : ∀ (k : Nat) (s : Int), 0 ≤ s → s < R → wy N to k s = wy N' to k s
  | 0, s, _, _ => rfl
  | k + 1, s, s0, s1 => sw_ext 8 (fun p p0 p1 => ⟨h s p s0 s1 p0 (by omega), fun hp => by
      have np := hN s p s0 s1 p0 (by omega)
      exact wy_ext hN h k (N s p) (by omega) (by omega)⟩)
/-- the first passage on a way -/
def stpF (N : Int → Int → Int) (f : Int → Int) (s : Int) : Int := fst8 fun p => decide (N s p ≠ -1 ∧ f (N s p) ≠ 0)
theorem stpF_is {N : Int → Int → Int} {f : Int → Int} {s : Int} (h : sw N f s 8 ≠ 0) : 0 ≤ stpF N f s ∧ stpF N f s < 8 ∧ N s (stpF N f s) ≠ -1 ∧ f (N s (stpF N f s)) ≠ 0 ∧ ∀ q, 0 ≤ q → q < stpF N f s → ¬ (N s q ≠ -1 ∧ f (N s q) ≠ 0) := by
  obtain ⟨q, q0, q1, q2, q3⟩ := sw_ne 8 h
  obtain ⟨p, p0, p1, p2, p3⟩ := first_of (P := fun p => N s p ≠ -1 ∧ f (N s p) ≠ 0) q0 ⟨q2, q3⟩
  have e : stpF N f s = p := fst8_eq p0 (by omega) (by simpa using p2) (fun r r0 r1 => by simpa using p3 r r0 r1)
  rw [e]
  exact ⟨p0, by omega, p2.1, p2.2, p3⟩
def posF (N : Int → Int → Int) (to : Int) (n : Nat) (s : Int) : Nat → Int
  | 0 => s
  | k + 1 => N (posF N to n s k) (stpF N (wy N to (n - (k + 1))) (posF N to n s k))
theorem posF_is {N : Int → Int → Int} {R to : Int} (hN : isN N R) {n : Nat} {s : Int} (s0 : 0 ≤ s) (s1 : s < R) (h : wy N to n s ≠ 0) : ∀ k : Nat, k ≤ n → 0 ≤ posF N to n s k ∧ posF N to n s k < R ∧ wy N to (n - k) (posF N to n s k) ≠ 0
  | 0, _ => ⟨s0, s1, h⟩
  | k + 1, hk => by
    obtain ⟨a1, a2, a3⟩ := posF_is hN s0 s1 h k (by omega)
    have e : n - k = (n - (k + 1)) + 1 := by omega
    rw [e] at a3
    have i := stpF_is a3
    have np := hN _ _ a1 a2 i.1 i.2.1
    have i3 := i.2.2.1
    exact ⟨by show 0 ≤ N _ _; omega, by show N _ _ < R; omega, i.2.2.2.1⟩
/-- passages that lie on every way -/
def Nb (N : Int → Int → Int) (b : Int) : Int → Int → Int := fun s p => if p = b then -1 else N s p
def suM (N : Int → Int → Int) (to : Int) (n : Nat) (st : Int) : Nat → Int
  | 0 => 0
  | k + 1 => io (suM N to n st k) (if wy (Nb N k) to n st = 0 then sh k else 0)
theorem suM_succ (N : Int → Int → Int) (to : Int) (n : Nat) (st : Int) {p : Int} (h : 0 ≤ p) : suM N to n st (p + 1).toNat = io (suM N to n st p.toNat) (if wy (Nb N p) to n st = 0 then sh p else 0) := by
  have e : (p + 1).toNat = p.toNat + 1 := by omega
  rw [e]
  show io (suM N to n st p.toNat) (if wy (Nb N (p.toNat : Int)) to n st = 0 then sh (p.toNat : Int) else 0) = _
  rw [Int.toNat_of_nonneg h]
theorem Nb_N {N : Int → Int → Int} {R : Int} (hN : isN N R) (b : Int) : isN (Nb N b) R := by
  intro s p s0 s1 p0 p1
  unfold Nb
  split
  · exact Or.inl rfl
  · exact hN s p s0 s1 p0 p1
/-- where a walk of so many steps can end, into no room of a set -/
def rc (N : Int → Int → Int) (rooms st : Int) : Nat → Int → Prop
  | 0, s => s = st
  | k + 1, s => bt rooms (s / 6) ≠ 1 ∧ ∃ u p, 0 ≤ u ∧ u < 36 ∧ 0 ≤ p ∧ p < 8 ∧ rc N rooms st k u ∧ N u p = s
