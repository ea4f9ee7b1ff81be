/-! SPECS: falls, chances, common measures (no machine, but for small ones) -/
set_option maxRecDepth 100000
def wInv (E : Int → Int → Prop) (R : Int) (B : Int → Prop) (m : Int → Int) : Prop :=
  (∀ s, 0 ≤ s → s < R → m s = 0 ∨ m s = 1) ∧ (∀ s, 0 ≤ s → s < R → B s → m s = 1) ∧ (∀ X : Int → Prop, (∀ s, 0 ≤ s → s < R → B s → X s) → (∀ u v, 0 ≤ u → u < R → 0 ≤ v → v < R → E u v → X u → X v) → ∀ s, 0 ≤ s → s < R → m s = 1 → X s)
def isW (E : Int → Int → Prop) (R : Int) (B : Int → Prop) (m : Int → Int) : Prop := wInv E R B m ∧ ∀ u v, 0 ≤ u → u < R → 0 ≤ v → v < R → E u v → m u = 1 → m v = 1
section WI
variable {E E' : Int → Int → Prop} {R R' u v : Int} {B : Int → Prop} {m m' m0 : Int → Int}
theorem isW_uniq (h : isW E R B m) (h' : isW E' R B m') (hE : ∀ u v, 0 ≤ u → u < R → 0 ≤ v → v < R → (E u v ↔ E' u v)) {s : Int} (a : 0 ≤ s) (b : s < R) : m s = m' s := by
  have p : m s = 1 → m' s = 1 := h.1.2.2 (fun s => m' s = 1) h'.1.2.1 (fun u v u0 u1 v0 v1 e x => h'.2 u v u0 u1 v0 v1 ((hE u v u0 u1 v0 v1).mp e) x) s a b
  have q : m' s = 1 → m s = 1 := h'.1.2.2 (fun s => m s = 1) h.1.2.1 (fun u v u0 u1 v0 v1 e x => h.2 u v u0 u1 v0 v1 ((hE u v u0 u1 v0 v1).mpr e) x) s a b
  have r := h.1.1 s a b
  have r' := h'.1.1 s a b
  omega
theorem wInv_add (h : wInv E R B m) (u0 : 0 ≤ u) (u1 : u < R) (v0 : 0 ≤ v) (v1 : v < R) (e : E u v) (hu : m u = 1) (hv : m v = 0) : wInv E R B (fU m v 1) ∧ zS (fU m v 1) R = zS m R - 1 := by
  obtain ⟨h1, h2, h3⟩ := h
  refine ⟨⟨fun s a b => ?_, fun s a b hb => ?_, fun X x0 xc s a b hs => ?_⟩, ?_⟩
  · by_cases c : s = v
    · subst c; rw [fU_same]; exact Or.inr rfl
    · rw [fU_ne c]; exact h1 s a b
  · by_cases c : s = v
    · subst c; rw [fU_same]
    · rw [fU_ne c]; exact h2 s a b hb
  · by_cases c : s = v
    · subst c; exact xc u s u0 u1 v0 v1 e (h3 X x0 xc u u0 u1 hu)
    · rw [fU_ne c] at hs; exact h3 X x0 xc s a b hs
  · unfold zS
    have e : (fun s => 1 - fU m v 1 s) = fU (fun s => 1 - m s) v 0 := by
      funext s
      by_cases c : s = v
      · subst c; rw [fU_same, fU_same]; rfl
      · rw [fU_ne c, fU_ne c]
    rw [e, dS_upd _ v0 v1, hv]; omega
theorem wS_nn (h : wInv E R B m) : 0 ≤ zS m R := dS_nn (fun s a b => by have := h.1 s a b; omega)
def wPass (C : (Int → Int) → Int → Prop) (E : Int → Int → Prop) (R : Int) (B : Int → Prop) (m0 : Int → Int) (t : Int) (m : Int → Int) (more : Int) : Prop :=
  wInv E R B m ∧ zS m R ≤ zS m0 R ∧ (more = 0 ∨ more = 1) ∧ (more = 0 → ∀ u, 0 ≤ u → u < t → C m u) ∧ (more = 1 → zS m R < zS m0 R)
theorem wPass_add {C : (Int → Int) → Int → Prop} {t more : Int} (h : wPass C E R B m0 t m more) (u0 : 0 ≤ u) (u1 : u < R) (v0 : 0 ≤ v) (v1 : v < R) (e : E u v) (hu : m u = 1) (hv : m v = 0) : wPass C E R B m0 t (fU m v 1) 1 := by
  obtain ⟨h1, h2, h3, h4, h5⟩ := h
  have a := wInv_add h1 u0 u1 v0 v1 e hu hv
  exact ⟨a.1, by omega, Or.inr rfl, fun q => by omega, fun _ => by omega⟩
theorem wPass_next {C : (Int → Int) → Int → Prop} {t more : Int} (h : wPass C E R B m0 t m more) (hc : more = 0 → C m t) : wPass C E R B m0 (t + 1) m more := by
  obtain ⟨h1, h2, h3, h4, h5⟩ := h
  refine ⟨h1, h2, h3, fun q u a b => ?_, h5⟩
  by_cases c : u = t
  · subst c; exact hc q
  · exact h4 q u a (by omega)
theorem wInv_start (h : ∀ s, 0 ≤ s → s < R → m s = bzc (B s)) : wInv E R B m := by
  refine ⟨fun s a b => by rw [h s a b]; exact bzc_01 _, fun s a b hb => by rw [h s a b, bzc_t hb], fun X x0 xc s a b hs => ?_⟩
  rw [h s a b] at hs
  by_cases c : B s
  · exact x0 s a b c
  · rw [bzc_f c] at hs; omega
theorem isW_sub (h : isW E R B m) (hR : R' ≤ R) (hB : ∀ s, 0 ≤ s → s < R → B s → s < R') (hE : ∀ u v, 0 ≤ u → u < R → 0 ≤ v → v < R → E u v → u < R' ∧ v < R') : isW E R' B m := by
  obtain ⟨⟨h1, h2, h3⟩, h4⟩ := h
  refine ⟨⟨fun s a b => h1 s a (by omega), fun s a b => h2 s a (by omega), fun X x0 xc s a b hs => ?_⟩, fun u v u0 u1 v0 v1 e hu => h4 u v u0 (by omega) v0 (by omega) e hu⟩
  exact h3 (fun s => s < R' → X s) (fun s a b hb hr => x0 s a hr hb) (fun u v u0 u1 v0 v1 e xu hv => xc u v u0 (hE u v u0 u1 v0 v1 e).1 v0 hv e (xu (hE u v u0 u1 v0 v1 e).1)) s a (by omega) hs b
end WI
/-- he can step from v so that, fallen or not, he stands where it is well -/
def Ew (N : Int → Int → Int) (pv : Option (Int → Int)) (u v : Int) : Prop := ∃ p, 0 ≤ p ∧ p < 8 ∧ N v p = u ∧ (match pv with
  | none => True
  | some w => w (fln u) = 1)
def wB (room : Int) (s : Int) : Prop := s / 6 = room ∧ s % 6 ≠ 5
def isWs (N : Int → Int → Int) (R room : Int) : Nat → (Int → Int) → Prop
  | 0, m => isW (Ew N none) R (wB room) m
  | k + 1, m => ∃ w, isWs N R room k w ∧ isW (Ew N (some w)) R (wB room) m
theorem fln_R {u R : Int} (h : R % 6 = 0) (u0 : 0 ≤ u) (u1 : u < R) : 0 ≤ fln u ∧ fln u < R := by
  unfold fln
  split <;> omega
theorem isWs_uniq {N : Int → Int → Int} {R room : Int} (hR : R % 6 = 0) : ∀ (k : Nat) (m m' : Int → Int), isWs N R room k m → isWs N R room k m' → ∀ s, 0 ≤ s → s < R → m s = m' s
  | 0, m, m', h, h', s, a, b => isW_uniq h h' (fun _ _ _ _ _ _ => Iff.rfl) a b
  | k + 1, m, m', ⟨w, hw, h⟩, ⟨w', hw', h'⟩, s, a, b => isW_uniq h h' (fun u v u0 u1 _ _ => by
      have f := fln_R hR u0 u1
      have e := isWs_uniq hR k w w' hw hw' (fln u) f.1 f.2
      show (∃ p, 0 ≤ p ∧ p < 8 ∧ N v p = u ∧ w (fln u) = 1) ↔ (∃ p, 0 ≤ p ∧ p < 8 ∧ N v p = u ∧ w' (fln u) = 1)
      rw [e]) a b
theorem isWs_mono {N : Int → Int → Int} {R room : Int} (hR : R % 6 = 0) : ∀ (k : Nat) (m w : Int → Int), isWs N R room (k + 1) m → isWs N R room k w → ∀ s, 0 ≤ s → s < R → m s = 1 → w s = 1 := by
  intro k
  induction k with
  | zero =>
    intro m w h hw s a b hs
    obtain ⟨w0, hw0, h⟩ := h
    refine h.1.2.2 (fun s => w s = 1) hw.1.2.1 (fun u v u0 u1 v0 v1 e x => hw.2 u v u0 u1 v0 v1 ?_ x) s a b hs
    obtain ⟨p, p0, p1, p2, _⟩ := e
    exact ⟨p, p0, p1, p2, trivial⟩
  | succ k ih =>
    intro m w h hw s a b hs
    obtain ⟨w1, hw1, h⟩ := h
    have hw' := hw
    obtain ⟨w0, hw0, hww⟩ := hw
    refine h.1.2.2 (fun s => w s = 1) hww.1.2.1 (fun u v u0 u1 v0 v1 e x => hww.2 u v u0 u1 v0 v1 ?_ x) s a b hs
    obtain ⟨p, p0, p1, p2, p3⟩ := e
    have f := fln_R hR u0 u1
    have p3' : w1 (fln u) = 1 := p3
    exact ⟨p, p0, p1, p2, show w0 (fln u) = 1 from ih w1 w0 hw1 hw0 (fln u) f.1 f.2 p3'⟩
def holds (N : Int → Int → Int) (R room st : Int) (k : Nat) : Prop := ∃ m, isWs N R room k m ∧ m st = 1
theorem holds_mono {N : Int → Int → Int} {R room st : Int} (hR : R % 6 = 0) (s0 : 0 ≤ st) (s1 : st < R) (k : Nat) : ∀ j : Nat, holds N R room st (k + j) → holds N R room st k
  | 0, h => h
  | j + 1, ⟨m, ⟨w, hw, h⟩, hm⟩ => holds_mono hR s0 s1 k j ⟨w, hw, isWs_mono hR _ m w ⟨w, hw, h⟩ hw st s0 s1 hm⟩
def rHold (N : Int → Int → Int) (R room st z : Int) : Prop := (z = -1 ∧ ¬ holds N R room st 0) ∨ (0 ≤ z ∧ z ≤ 9 ∧ holds N R room st z.toNat ∧ (z = 9 ∨ ¬ holds N R room st (z.toNat + 1)))
theorem rHold_uniq {N : Int → Int → Int} {R room st z z' : Int} (hR : R % 6 = 0) (s0 : 0 ≤ st) (s1 : st < R) (h : rHold N R room st z) (h' : rHold N R room st z') : z = z' := by
  have down : ∀ a b : Nat, a ≤ b → holds N R room st b → holds N R room st a := fun a b hab hb => holds_mono hR s0 s1 a (b - a) ((show a + (b - a) = b by omega).symm ▸ hb)
  rcases h with ⟨rfl, a⟩ | ⟨a1, a2, a3, a4⟩
  · rcases h' with ⟨rfl, -⟩ | ⟨b1, b2, b3, -⟩
    · rfl
    · exact absurd (down 0 _ (by omega) b3) a
  · rcases h' with ⟨rfl, b⟩ | ⟨b1, b2, b3, b4⟩
    · exact absurd (down 0 _ (by omega) a3) b
    · by_cases c : z < z'
      · rcases a4 with e | e
        · omega
        · exact absurd (down (z.toNat + 1) z'.toNat (by omega) b3) e
      · by_cases c2 : z' < z
        · rcases b4 with e | e
          · omega
          · exact absurd (down (z'.toNat + 1) z.toNat (by omega) a3) e
        · omega
/-- chances -/
def mx (f : Int → Int) : Nat → Int
  | 0 => 0
  | k + 1 => max (mx f k) (f k)
theorem mx_succ (f : Int → Int) {p : Int} (h : 0 ≤ p) : mx f (p + 1).toNat = max (mx f p.toNat) (f p) := by
  have e : (p + 1).toNat = p.toNat + 1 := by omega
  rw [e]
  show max (mx f p.toNat) (f (p.toNat : Int)) = _
  rw [Int.toNat_of_nonneg h]
theorem mx_bnd {f : Int → Int} {b : Int} (hb : 0 ≤ b) : ∀ k : Nat, (∀ p : Int, 0 ≤ p → p < k → f p ≤ b) → 0 ≤ mx f k ∧ mx f k ≤ b
  | 0, _ => ⟨Int.le_refl 0, hb⟩
  | k + 1, h => by
    have a := mx_bnd hb k (fun p h0 h1 => h p h0 (by omega))
    have c := h k (by omega) (by omega)
    show 0 ≤ max (mx f k) (f k) ∧ max (mx f k) (f k) ≤ b
    omega
theorem mx_cut {f : Int → Int} {P : Int} (h0 : 0 ≤ P) : ∀ k : Nat, P ≤ k → (∀ p : Int, P ≤ p → p < k → f p ≤ 0) → mx f k = mx f P.toNat
  | 0, h, _ => by
    have : P.toNat = 0 := by omega
    rw [this]
  | k + 1, h, hz => by
    by_cases c : P = (k + 1 : Nat)
    · rw [c]; rfl
    · have a := mx_cut h0 k (by omega) (fun p a b => hz p a (by omega))
      have b := hz k (by omega) (by omega)
      have nn : ∀ k : Nat, 0 ≤ mx f k := by
        intro k
        induction k with
        | zero => exact Int.le_refl 0
        | succ k ih => show 0 ≤ max (mx f k) (f k); omega
      have c := nn k
      show max (mx f k) (f k) = _
      rw [← a]; omega
theorem mx_ge {f : Int → Int} : ∀ (k : Nat) (p : Int), 0 ≤ p → p < k → f p ≤ mx f k
  | 0, p, a, b => by omega
  | k + 1, p, a, b => by
    show f p ≤ max (mx f k) (f k)
    by_cases c : p = k
    · subst c; omega
    · have := mx_ge (f := f) k p a (by omega); omega
theorem mx_hit {f : Int → Int} : ∀ k : Nat, mx f k = 0 ∨ ∃ p : Int, 0 ≤ p ∧ p < k ∧ f p = mx f k
  | 0 => Or.inl rfl
  | k + 1 => by
    have e : mx f (k + 1) = max (mx f k) (f k) := rfl
    rw [e]
    by_cases c : f k ≤ mx f k
    · have m : max (mx f k) (f k) = mx f k := by omega
      rw [m]
      rcases mx_hit (f := f) k with q | ⟨p, a, b, d⟩
      · exact Or.inl q
      · exact Or.inr ⟨p, a, by omega, d⟩
    · exact Or.inr ⟨k, by omega, by omega, by omega⟩
def chB (N : Int → Int → Int) (F : Int) (l : Int → Int) (s p : Int) : Int := if N s p = -1 then 0 else (10 - F) * l (N s p) + F * l (fln (N s p))
def lk (N : Int → Int → Int) (F room : Int) : Nat → Int → Int
  | 0, s => if s % 6 = 5 then 0 else if s / 6 = room then 1 else 0
  | k + 1, s => if s % 6 = 5 then 0 else if s / 6 = room then (10 : Int) ^ (k + 1) else mx (fun p => chB N F (lk N F room k) s p) 8
theorem ten_pos : ∀ k : Nat, (1 : Int) ≤ (10 : Int) ^ k
  | 0 => Int.le_refl 1
  | k + 1 => by have := ten_pos k; rw [Int.pow_succ]; omega
theorem ten8 {k : Nat} (h : k ≤ 8) : (10 : Int) ^ k ≤ 100000000 := by
  have q : ∀ k : Fin 9, (10 : Int) ^ k.val ≤ 100000000 := by decide
  exact q ⟨k, by omega⟩
theorem mix {F a b T : Int} (f0 : 0 ≤ F) (f1 : F ≤ 10) (a0 : 0 ≤ a) (a1 : a ≤ T) (b0 : 0 ≤ b) (b1 : b ≤ T) : 0 ≤ (10 - F) * a + F * b ∧ (10 - F) * a + F * b ≤ T * 10 := by
  have : F = 0 ∨ F = 1 ∨ F = 2 ∨ F = 3 ∨ F = 4 ∨ F = 5 ∨ F = 6 ∨ F = 7 ∨ F = 8 ∨ F = 9 ∨ F = 10 := by omega
  rcases this with rfl | rfl | rfl | rfl | rfl | rfl | rfl | rfl | rfl | rfl | rfl <;> omega
theorem lk_rng {N : Int → Int → Int} {R F room : Int} (hN : isN N R) (hR : R % 6 = 0) (f0 : 0 ≤ F) (f1 : F ≤ 10) : ∀ (k : Nat) (s : Int), 0 ≤ s → s < R → 0 ≤ lk N F room k s ∧ lk N F room k s ≤ (10 : Int) ^ k
  | 0, s, _, _ => by
    show 0 ≤ (if s % 6 = 5 then (0 : Int) else if s / 6 = room then 1 else 0) ∧ (if s % 6 = 5 then (0 : Int) else if s / 6 = room then 1 else 0) ≤ 1
    split
    · omega
    · split <;> omega
  | k + 1, s, s0, s1 => by
    have t := ten_pos (k + 1)
    have e : (10 : Int) ^ (k + 1) = (10 : Int) ^ k * 10 := Int.pow_succ _ _
    show 0 ≤ (if s % 6 = 5 then (0 : Int) else if s / 6 = room then (10 : Int) ^ (k + 1) else mx (fun p => chB N F (lk N F room k) s p) 8) ∧ (if s % 6 = 5 then (0 : Int) else if s / 6 = room then (10 : Int) ^ (k + 1) else mx (fun p => chB N F (lk N F room k) s p) 8) ≤ (10 : Int) ^ (k + 1)
    split
    · omega
    · split
      · omega
      · refine mx_bnd (by omega) 8 fun p p0 p1 => ?_
        unfold chB
        split
        · omega
        · have np := hN s p s0 s1 p0 (by omega)
          have fl := fln_R hR (u := N s p) (by omega) (by omega)
          have a := lk_rng (room := room) hN hR f0 f1 k (N s p) (by omega) (by omega)
          have b := lk_rng (room := room) hN hR f0 f1 k (fln (N s p)) fl.1 fl.2
          have := mix f0 f1 a.1 a.2 b.1 b.2
          omega
theorem chB_rng {N : Int → Int → Int} {R F room : Int} (hN : isN N R) (hR : R % 6 = 0) (f0 : 0 ≤ F) (f1 : F ≤ 10) (k : Nat) {s p : Int} (s0 : 0 ≤ s) (s1 : s < R) (p0 : 0 ≤ p) (p1 : p < 8) : 0 ≤ chB N F (lk N F room k) s p ∧ chB N F (lk N F room k) s p ≤ (10 : Int) ^ (k + 1) := by
  have e : (10 : Int) ^ (k + 1) = (10 : Int) ^ k * 10 := Int.pow_succ _ _
  have t := ten_pos (k + 1)
  unfold chB
  split
  · omega
  · have np := hN s p s0 s1 p0 p1
    have fl := fln_R hR (u := N s p) (by omega) (by omega)
    have a := lk_rng (room := room) hN hR f0 f1 k (N s p) (by omega) (by omega)
    have b := lk_rng (room := room) hN hR f0 f1 k (fln (N s p)) fl.1 fl.2
    have := mix f0 f1 a.1 a.2 b.1 b.2
    omega
-- small methods
theorem u_tens77 {k : Int} (k0 : 0 ≤ k) (k1 : k ≤ 8) {D : Nat} (hD : 1 ≤ D) (h : bk_H) : bk_call D 77 [.int (bk_i k)] h = some (some (.int (bk_i ((10 : Int) ^ k.toNat))), h) := by
  obtain ⟨d, rfl⟩ := dep hD
  have goal : bk_wp (bk_call (d + 1) 77 [.int (bk_i k)] h) (fun v h' => v = some (.int (bk_i ((10 : Int) ^ k.toNat))) ∧ h' = h) := by
    rw [kX0_tens, eX0_tens_0]
    refine bk_loop (σ := Unit) (fun s _ => bk_den TX0_tens (bk_call d) 4 [.int (bk_i k), .int (bk_i ((10 : Int) ^ s.toNat)), .int (bk_i s)] [] h) (fun s _ => 0 ≤ s) k ?_ ?_ 0 () k0 (by omega)
    · rintro s - hs s0 cont
      have c := cont () (by omega)
      have e : (s + 1).toNat = s.toNat + 1 := by omega
      rw [e, Int.pow_succ] at c
      rw [eX0_tens_4]
      simp (disch := first | assumption | omega) only [if_neg (show ¬ k ≤ s by omega), bi_add, bi_sub, bi_mul, bi_neg, bi_div, bi_64, bl_add, bl_sub, bl_mul, bl_neg, bl_div, bl_32, bi_min, bi_max, bl_min, bl_max, bq_I, bq_J, bq_A, bq_Vi, bq_Vl, bq_Vr, bq_cV, bq_cI, bq_cJ, bq_cA, bq_le, bq_lt, bq_eq, bq_z, bq_o, bq_ref, bq_nz, bq_nzJ, bq_bl, bq_blz, bq_T, bq_F, if_true, if_false, Int.reduceEq, Int.reduceLT, Int.reduceLE, Int.reduceAdd, Int.reduceSub, Int.reduceMul, Int.add_sub_cancel, li_0, li_1, li_4, li_10, li_77, ll_0, ll_1, ll_4, ll_10, ll_77]
      exact c
    · rintro - s0
      rw [eX0_tens_4]
      simp (disch := first | assumption | omega) only [if_pos (Int.le_refl k), bi_add, bi_sub, bi_mul, bi_neg, bi_div, bi_64, bl_add, bl_sub, bl_mul, bl_neg, bl_div, bl_32, bi_min, bi_max, bl_min, bl_max, bq_I, bq_J, bq_A, bq_Vi, bq_Vl, bq_Vr, bq_cV, bq_cI, bq_cJ, bq_cA, bq_le, bq_lt, bq_eq, bq_z, bq_o, bq_ref, bq_nz, bq_nzJ, bq_bl, bq_blz, bq_T, bq_F, if_true, if_false, Int.reduceEq, Int.reduceLT, Int.reduceLE, Int.reduceAdd, Int.reduceSub, Int.reduceMul, Int.add_sub_cancel, li_0, li_1, li_4, li_10, li_77, ll_0, ll_1, ll_4, ll_10, ll_77]
      exact ⟨_, _, rfl, rfl, rfl⟩
  obtain ⟨z, h', e, rfl, rfl⟩ := goal
  exact e
theorem u_tens4109 {k : Int} (k0 : 0 ≤ k) (k1 : k ≤ 8) {D : Nat} (hD : 1 ≤ D) (h : bk_H) : bk_call D 4109 [.int (bk_i k)] h = some (some (.int (bk_i ((10 : Int) ^ k.toNat))), h) := by
  obtain ⟨d, rfl⟩ := dep hD
  have goal : bk_wp (bk_call (d + 1) 4109 [.int (bk_i k)] h) (fun v h' => v = some (.int (bk_i ((10 : Int) ^ k.toNat))) ∧ h' = h) := by
    rw [kX4_wholeOf, eX4_wholeOf_0]
    refine bk_loop (σ := Unit) (fun s _ => bk_den TX4_wholeOf (bk_call d) 4 [.int (bk_i k), .int (bk_i ((10 : Int) ^ s.toNat)), .int (bk_i s)] [] h) (fun s _ => 0 ≤ s) k ?_ ?_ 0 () k0 (by omega)
    · rintro s - hs s0 cont
      have c := cont () (by omega)
      have e : (s + 1).toNat = s.toNat + 1 := by omega
      rw [e, Int.pow_succ] at c
      rw [eX4_wholeOf_4]
      simp (disch := first | assumption | omega) only [if_neg (show ¬ k ≤ s by omega), bi_add, bi_sub, bi_mul, bi_neg, bi_div, bi_64, bl_add, bl_sub, bl_mul, bl_neg, bl_div, bl_32, bi_min, bi_max, bl_min, bl_max, bq_I, bq_J, bq_A, bq_Vi, bq_Vl, bq_Vr, bq_cV, bq_cI, bq_cJ, bq_cA, bq_le, bq_lt, bq_eq, bq_z, bq_o, bq_ref, bq_nz, bq_nzJ, bq_bl, bq_blz, bq_T, bq_F, if_true, if_false, Int.reduceEq, Int.reduceLT, Int.reduceLE, Int.reduceAdd, Int.reduceSub, Int.reduceMul, Int.add_sub_cancel, li_0, li_1, li_4, li_10, ll_0, ll_1, ll_4, ll_10]
      exact c
    · rintro - s0
      rw [eX4_wholeOf_4]
      simp (disch := first | assumption | omega) only [if_pos (Int.le_refl k), bi_add, bi_sub, bi_mul, bi_neg, bi_div, bi_64, bl_add, bl_sub, bl_mul, bl_neg, bl_div, bl_32, bi_min, bi_max, bl_min, bl_max, bq_I, bq_J, bq_A, bq_Vi, bq_Vl, bq_Vr, bq_cV, bq_cI, bq_cJ, bq_cA, bq_le, bq_lt, bq_eq, bq_z, bq_o, bq_ref, bq_nz, bq_nzJ, bq_bl, bq_blz, bq_T, bq_F, if_true, if_false, Int.reduceEq, Int.reduceLT, Int.reduceLE, Int.reduceAdd, Int.reduceSub, Int.reduceMul, Int.add_sub_cancel, li_0, li_1, li_4, li_10, ll_0, ll_1, ll_4, ll_10]
      exact ⟨_, _, rfl, rfl, rfl⟩
  obtain ⟨z, h', e, rfl, rfl⟩ := goal
  exact e
theorem half {a b : Int} (hb : 0 < b) (hr : 0 < a % b) : b % (a % b) < (b + 1) / 2 := by
  have h1 : a % b < b := Int.emod_lt_of_pos a hb
  have h2 : b % (a % b) < a % b := Int.emod_lt_of_pos b hr
  have h3 : 0 ≤ b % (a % b) := Int.emod_nonneg b (by omega)
  have h4 : (a % b) * (b / (a % b)) + b % (a % b) = b := Int.mul_ediv_add_emod b (a % b)
  have h5 : 1 ≤ b / (a % b) := by
    have := (Int.le_ediv_iff_mul_le hr (a := 1) (b := b)).mpr (by omega)
    exact this
  have h6 : (a % b) * 1 ≤ (a % b) * (b / (a % b)) := Int.mul_le_mul_of_nonneg_left h5 (by omega)
  omega
theorem u_common79 : ∀ (k : Nat) (a b : Int), 0 ≤ a → a < 2147483648 → 0 ≤ b → b < 2 ^ k → b < 2147483648 → ∀ (D : Nat), 2 * k + 1 ≤ D → ∀ h, bk_call D 79 [.int (bk_i a), .int (bk_i b)] h = some (some (.int (bk_i (Int.gcd a b : Nat))), h) := by
  have z : ∀ (a : Int), 0 ≤ a → a < 2147483648 → ∀ (D : Nat), 1 ≤ D → ∀ h, bk_call D 79 [.int (bk_i a), .int (bk_i 0)] h = some (some (.int (bk_i (Int.gcd a 0 : Nat))), h) := by
    intro a a0 a1 D hD h
    obtain ⟨d, rfl⟩ := dep hD
    have e : ((Int.gcd a 0 : Nat) : Int) = a := by rw [Int.gcd_zero_right]; omega
    rw [kX0_common, eX0_common_0, e]; rfl
  have st : ∀ (a b : Int), 0 ≤ a → a < 2147483648 → 0 < b → b < 2147483648 → ∀ (d : Nat) h, bk_call d 79 [.int (bk_i b), .int (bk_i (a % b))] h = some (some (.int (bk_i (Int.gcd b (a % b) : Nat))), h) → bk_call (d + 1) 79 [.int (bk_i a), .int (bk_i b)] h = some (some (.int (bk_i (Int.gcd a b : Nat))), h) := by
    intro a b a0 a1 b0 b1 d h hc
    have e : a - a / b * b = a % b := by have := Int.emod_def a b; rw [this, Int.mul_comm]
    have eg : Int.gcd b (a % b) = Int.gcd a b := by rw [← Int.gcd_mul_left_add_right b (a % b) (a / b), Int.mul_ediv_add_emod, Int.gcd_comm]
    rw [eg] at hc
    rw [kX0_common, eX0_common_0]
    simp (disch := first | assumption | omega) only [if_neg (show ¬ b = 0 by omega), e, hc, bi_add, bi_sub, bi_mul, bi_neg, bi_div, bi_64, bl_add, bl_sub, bl_mul, bl_neg, bl_div, bl_32, bi_min, bi_max, bl_min, bl_max, bq_I, bq_J, bq_A, bq_Vi, bq_Vl, bq_Vr, bq_cV, bq_cI, bq_cJ, bq_cA, bq_le, bq_lt, bq_eq, bq_z, bq_o, bq_ref, bq_nz, bq_nzJ, bq_bl, bq_blz, bq_T, bq_F, if_true, if_false, Int.reduceEq, Int.reduceLT, Int.reduceLE, Int.reduceAdd, Int.reduceSub, Int.reduceMul, Int.add_sub_cancel, li_0, li_1, li_79, ll_0, ll_1, ll_79]
  intro k
  induction k with
  | zero =>
    intro a b a0 a1 b0 b1 b2 D hD h
    have : b = 0 := by simp at b1; omega
    subst this
    exact z a a0 a1 D (by omega) h
  | succ k ih =>
    intro a b a0 a1 b0 b1 b2 D hD h
    by_cases c : b = 0
    · subst c; exact z a a0 a1 D (by omega) h
    · obtain ⟨d, rfl⟩ := dep (show 1 ≤ D by omega)
      have r0 : 0 ≤ a % b := Int.emod_nonneg a c
      have r1 : a % b < b := Int.emod_lt_of_pos a (by omega)
      refine st a b a0 a1 (by omega) b2 d h ?_
      by_cases c2 : a % b = 0
      · rw [c2]; exact z b b0 b2 d (by omega) h
      · obtain ⟨d, rfl⟩ := dep (show 1 ≤ d by omega)
        refine st b (a % b) b0 b2 (by omega) (by omega) d h ?_
        have hf := half (a := a) (b := b) (by omega) (by omega)
        have p : (2 : Int) ^ (k + 1) = 2 ^ k * 2 := Int.pow_succ _ _
        have q0 : 0 ≤ b % (a % b) := Int.emod_nonneg b c2
        exact ih (a % b) (b % (a % b)) r0 (by omega) q0 (by omega) (by omega) d (by omega) h
theorem u_common4111 : ∀ (k : Nat) (a b : Int), 0 ≤ a → a < 2147483648 → 0 ≤ b → b < 2 ^ k → b < 2147483648 → ∀ (D : Nat), 2 * k + 1 ≤ D → ∀ h, bk_call D 4111 [.int (bk_i a), .int (bk_i b)] h = some (some (.int (bk_i (Int.gcd a b : Nat))), h) := by
  have z : ∀ (a : Int), 0 ≤ a → a < 2147483648 → ∀ (D : Nat), 1 ≤ D → ∀ h, bk_call D 4111 [.int (bk_i a), .int (bk_i 0)] h = some (some (.int (bk_i (Int.gcd a 0 : Nat))), h) := by
    intro a a0 a1 D hD h
    obtain ⟨d, rfl⟩ := dep hD
    have e : ((Int.gcd a 0 : Nat) : Int) = a := by rw [Int.gcd_zero_right]; omega
    rw [kX4_common, eX4_common_0, e]; rfl
  have st : ∀ (a b : Int), 0 ≤ a → a < 2147483648 → 0 < b → b < 2147483648 → ∀ (d : Nat) h, bk_call d 4111 [.int (bk_i b), .int (bk_i (a % b))] h = some (some (.int (bk_i (Int.gcd b (a % b) : Nat))), h) → bk_call (d + 1) 4111 [.int (bk_i a), .int (bk_i b)] h = some (some (.int (bk_i (Int.gcd a b : Nat))), h) := by
    intro a b a0 a1 b0 b1 d h hc
    have e : a - a / b * b = a % b := by have := Int.emod_def a b; rw [this, Int.mul_comm]
    have eg : Int.gcd b (a % b) = Int.gcd a b := by rw [← Int.gcd_mul_left_add_right b (a % b) (a / b), Int.mul_ediv_add_emod, Int.gcd_comm]
    rw [eg] at hc
    rw [kX4_common, eX4_common_0]
    simp (disch := first | assumption | omega) only [if_neg (show ¬ b = 0 by omega), e, hc, bi_add, bi_sub, bi_mul, bi_neg, bi_div, bi_64, bl_add, bl_sub, bl_mul, bl_neg, bl_div, bl_32, bi_min, bi_max, bl_min, bl_max, bq_I, bq_J, bq_A, bq_Vi, bq_Vl, bq_Vr, bq_cV, bq_cI, bq_cJ, bq_cA, bq_le, bq_lt, bq_eq, bq_z, bq_o, bq_ref, bq_nz, bq_nzJ, bq_bl, bq_blz, bq_T, bq_F, if_true, if_false, Int.reduceEq, Int.reduceLT, Int.reduceLE, Int.reduceAdd, Int.reduceSub, Int.reduceMul, Int.add_sub_cancel, li_0, li_1, ll_0, ll_1]
  intro k
  induction k with
  | zero =>
    intro a b a0 a1 b0 b1 b2 D hD h
    have : b = 0 := by simp at b1; omega
    subst this
    exact z a a0 a1 D (by omega) h
  | succ k ih =>
    intro a b a0 a1 b0 b1 b2 D hD h
    by_cases c : b = 0
    · subst c; exact z a a0 a1 D (by omega) h
    · obtain ⟨d, rfl⟩ := dep (show 1 ≤ D by omega)
      have r0 : 0 ≤ a % b := Int.emod_nonneg a c
      have r1 : a % b < b := Int.emod_lt_of_pos a (by omega)
      refine st a b a0 a1 (by omega) b2 d h ?_
      by_cases c2 : a % b = 0
      · rw [c2]; exact z b b0 b2 d (by omega) h
      · obtain ⟨d, rfl⟩ := dep (show 1 ≤ d by omega)
        refine st b (a % b) b0 b2 (by omega) (by omega) d h ?_
        have hf := half (a := a) (b := b) (by omega) (by omega)
        have p : (2 : Int) ^ (k + 1) = 2 ^ k * 2 := Int.pow_succ _ _
        have q0 : 0 ≤ b % (a % b) := Int.emod_nonneg b c2
        exact ih (a % b) (b % (a % b)) r0 (by omega) q0 (by omega) (by omega) d (by omega) h
