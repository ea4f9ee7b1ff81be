/-! SOUNDNESS, sixth part: new cells, ends, constants, switches, Math -/
set_option maxRecDepth 100000
/-- the room of a method whose calls go at most d deep -/
def bk_Rm (d : Nat) (R : Room) (h0 : bk_H) (r : Option Value × bk_H) : Prop := d + 16 ≤ R.frames ∧ 10300 + 64 * d ≤ R.locals ∧ r.2.2.1 - h0.2.1 ≤ R.cells ∧ r.2.2.2 - h0.2.2 ≤ R.slots
section BKS
variable {w : bk_W} {p : Program} {l : Launch} {e : Env} {R : Room} {s : State} {m : MethodId} {args : Array Value} {below : List Frame} {meth : Method} {c : Code} {cc : ByteArray} {nL : Nat} {own : String} {h0 : bk_H} {σ0 : Nat → Option Nat} {r : Option Value × bk_H} {Q : State → Prop} {cl : bk_C} {pc : Nat}
theorem bk_sub {a b : Nat} (h : a ≤ b) : b + 1 - a = b - a + 1 := by omega
theorem bk_sub2 {a b n : Nat} (h : a ≤ b) : b + n - a = b - a + n := by omega
/-- the fields of a class as they begin -/
def bk_dfl (q : vw_C) (t : Nat) (ty : Nat → FieldType) : Prop := (bk_fields t).length = q.2.2 ∧ ∀ k, k < q.2.2 → (bk_get (bk_fields t) k = .int 0 ∧ defaultValue (ty k) = .int 0) ∨ (bk_get (bk_fields t) k = .ref 0 ∧ defaultValue (ty k) = .null)
theorem bk_o_new {i t b k d1 n dd : Nat} {v : Value} {ps : List (Int32 × Nat)} {q : vw_C} (ty : Nat → FieldType) (C : bk_Cx w p s m args meth c cc nL own) (Rm : bk_Rm dd R h0 r) (hd : decode cc pc = .ok (.new i, 3)) (ht : t < 15) (hq : bk_cl[t]? = some q) (hin : ∀ x ∈ u_ws q.1 q.2.1 q.2.2, x ∈ lw_all)
    (hty : ∀ k, k < q.2.2 → parseFieldDescriptor (q.2.1 k).2.2.1 = some (ty k)) (hf : bk_dfl q t ty) (hl : Cond.classLink own i q.1 ∈ lw_all) (hi : Cond.instantiable q.1 q.2.2 ∈ lw_all) (hini : Cond.initialized q.1 ∈ lw_all) (hne : h0.2.1 ≠ 0) :
    bk_Ok w p l e R s m args below meth c nL h0 σ0 r Q cl pc (.new i, n, t, b, k, d1, v, ps, []) := by
  intro L st h K hle hs hg hk σ H locs ls st' he hR hS hL hst
  have hs1 : K (pc + 3) L (.ref h.2.1 :: st) (bk_new h t (bk_fields t)) = some r := hs
  have hle2 := hg _ _ _ _ hs1
  have e1' : (bk_new h t (bk_fields t)).2.1 = h.2.1 + 1 := rfl
  have e2' : (bk_new h t (bk_fields t)).2.2 = h.2.2 + q.2.2 := by rw [← hf.1]; rfl
  have hKn := C.2.2.2.2.2.2.1
  have hK := hKn.1.1 t q hq
  have hc1 : h.2.1 - h0.2.1 + 1 ≤ R.cells := by
    have a1 := hle2.1
    have a2 := Rm.2.2.1
    have a3 := hle.1
    rw [e1'] at a1
    omega
  have hc2 : h.2.2 - h0.2.2 + q.2.2 ≤ R.slots := by
    have a1 := hle2.2
    have a2 := Rm.2.2.2
    have a3 := hle.2
    rw [e2'] at a1
    omega
  have hbs : w.2.2.1 ≤ H.size := Nat.le_trans C.2.2.2.2.2.2.2 hS.1
  have hh : h.2.1 ≠ 0 := by
    have := hle.1
    omega
  refine W.newcK C.1 C.2.1 C.2.2.2.1 (C.2.2.2.2.1 _ hl) (C.2.2.2.2.1 _ hi) (C.2.2.2.2.1 _ hini) rfl hd hc1 hc2 hK.2.1 rfl fun H1 kC hkC e1 z1 o1 => ?_
  have hR' : bk_rel w (bk_sn σ h.2.1 H.size) (bk_new h t (bk_fields t)) H1 := by
    refine hR.new hh z1 o1 e1' hbs t fun t' a' k' hreal => ?_
    by_cases e9 : t' = t ∧ a' = h.2.1 ∧ k' < (bk_fields t).length
    · obtain ⟨rfl, rfl, hk'⟩ := e9
      refine Or.inl ⟨rfl, by unfold bk_grp; rw [if_pos (by omega)], ?_⟩
      have ev : (bk_new h t' (bk_fields t')).1 t' h.2.1 k' = bk_get (bk_fields t') k' := if_pos ⟨rfl, rfl, hk'⟩
      rw [ev]
      rw [hf.1] at hk'
      refine Or.inl ⟨ht, hbs, q, fun k => defaultValue (ty k), hq, hk', u_born ty C.2.2.2.2.1 hin hK hkC e1 hty, ?_⟩
      rcases hf.2 k' hk' with ⟨f1, f2⟩ | ⟨f1, f2⟩
      · show bk_vr _ _ (defaultValue (ty k')); rw [f1, f2]; exact rfl
      · show bk_vr _ _ (defaultValue (ty k')); rw [f1, f2]; exact Or.inl ⟨rfl, rfl⟩
    · exact Or.inr (if_neg e9)
  have hext := bk_sn_ext hR H.size
  have hW := hk _ _ _ _ (show bk_le h (bk_new h t (bk_fields t)) from ⟨by rw [e1']; omega, by rw [e2']; omega⟩) hs1 (bk_sn σ h.2.1 H.size) H1 locs ls (.ref H.size :: st') (he.tr hext) hR' ⟨Nat.le_trans hS.1 (by omega), fun x h1 h2 => (o1 x (Nat.lt_of_lt_of_le h1 hS.1)).trans (hS.2.1 x h1 h2), hS.2.2⟩ (hL.ext hext) ⟨_, _, rfl, Or.inr ⟨H.size, by unfold bk_sn; rw [if_pos rfl], rfl⟩, hst.ext hext⟩
  rw [e1', e2', bk_sub hle.1, bk_sub2 hle.2] at hW
  exact hW
theorem bk_len_ix {x : Int32} (h1 : ¬ x < 0) (h2 : ¬ 4096 < x) : x.toNatClampNeg = bk_ix x ∧ bk_ix x ≤ 4096 := by
  have h0 : 0 ≤ x.toInt := by
    rw [Int32.lt_iff_toInt_lt, Int32.toInt_zero] at h1; omega
  have h3 : x.toInt ≤ 4096 := by
    rw [Int32.lt_iff_toInt_lt] at h2
    have : (4096 : Int32).toInt = 4096 := by decide +kernel
    omega
  have e1 : x.toInt = x.toBitVec.toInt := rfl
  have e2 : bk_ix x = x.toBitVec.toNat := rfl
  have e3 := BitVec.toInt_eq_toNat_cond x.toBitVec
  have e4 := x.toBitVec.isLt
  have e5 : x.toInt = (bk_ix x : Int) := by
    rw [e1, e3, e2]
    split
    · rfl
    · rename_i hn
      rw [e1, e3, if_neg hn] at h0
      omega
  refine ⟨?_, by omega⟩
  show x.toInt.toNat = _
  rw [e5]; rfl
/-- the relation behind a new array -/
theorem bk_rel.newA {σ : Nat → Option Nat} {h : bk_H} {H H1 : Heap} {t N : Nat} {dv dc : Value} (hR : bk_rel w σ h H) (h0 : h.2.1 ≠ 0) (ht : 100 ≤ t) (ht2 : t < 108) (hbs : w.2.2.1 ≤ H.size) (hN : N < 2 ^ 31) (e1 : H1[H.size]? = some (arrV (w.2.1 (t - 100)) N (fun _ => dc))) (z1 : H1.size = H.size + 1) (o1 : ∀ q : Nat, q < H.size → H1[q]? = H[q]?)
    (hdv : ∀ σ', bk_vr σ' dv dc) : bk_rel w (bk_sn σ h.2.1 H.size) (bk_newA h t N dv) H1 := by
  refine hR.new h0 z1 o1 rfl hbs t fun t' a' k' hreal => ?_
  by_cases e9 : t' = t ∧ a' = h.2.1 ∧ k' < N
  · obtain ⟨rfl, rfl, hk'⟩ := e9
    refine Or.inl ⟨rfl, by unfold bk_grp; rw [if_pos (by omega)], ?_⟩
    have ev : (bk_newA h t' N dv).1 t' h.2.1 k' = dv := if_pos ⟨rfl, rfl, hk'⟩
    rw [ev]
    exact Or.inr (Or.inl ⟨ht, ht2, hbs, N, _, e1, hk', hN, hdv _⟩)
  · by_cases e8 : t' = t + 100 ∧ a' = h.2.1 ∧ k' = 0
    · obtain ⟨rfl, rfl, rfl⟩ := e8
      refine Or.inl ⟨rfl, by unfold bk_grp; rw [if_neg (by omega)]; omega, ?_⟩
      have ev : (bk_newA h t N dv).1 (t + 100) h.2.1 0 = .int (Int32.ofNat N) := (if_neg e9).trans (if_pos ⟨rfl, rfl, rfl⟩)
      rw [ev]
      have e200 : t + 100 - 200 = t - 100 := by omega
      exact Or.inr (Or.inr (Or.inl ⟨by omega, by omega, N, _, by rw [e200]; exact e1, hN, rfl⟩))
    · exact Or.inr ((if_neg e9).trans (if_neg e8))
theorem bk_o_newA {at_ : ArrayType} {t b k d1 n dd : Nat} {v : Value} {ps : List (Int32 × Nat)} (C : bk_Cx w p s m args meth c cc nL own) (Rm : bk_Rm dd R h0 r) (hd : decode cc pc = .ok (.newarray at_, 2)) (ht : 100 ≤ t) (ht2 : t < 105) (hty : newarray.typeOf at_ = bk_aty (t - 100)) (hl : Cond.arrayClass (bk_aty (t - 100)) ∈ lw_all) (hne : h0.2.1 ≠ 0) :
    bk_Ok w p l e R s m args below meth c nL h0 σ0 r Q cl pc (.newarray at_, n, t, b, k, d1, v, ps, []) := by
  intro L st h K hle hs hg hk σ H locs ls st' he hR hS hL hst
  rcases st with _ | ⟨u, st⟩
  · cases hs
  · have hs1 : bk_I u (fun x => bk_len x fun k => K (pc + 2) L (.ref h.2.1 :: st) (bk_newA h t k (bk_dflt t))) = some r := hs
    obtain ⟨x, rfl, hs2⟩ := bk_I_inv hs1
    obtain ⟨hx0, hx1, hs3⟩ := bk_len_inv hs2
    obtain ⟨t1, rfl, ht1⟩ := bk_sr_int hst
    obtain ⟨hcl, hmx⟩ := bk_len_ix hx0 hx1
    have hle2 := hg _ _ _ _ hs3
    have e1' : (bk_newA h t (bk_ix x) (bk_dflt t)).2.1 = h.2.1 + 1 := rfl
    have e2' : (bk_newA h t (bk_ix x) (bk_dflt t)).2.2 = h.2.2 + bk_ix x := rfl
    have hKn := C.2.2.2.2.2.2.1
    have hc1 : h.2.1 - h0.2.1 + 1 ≤ R.cells := by
      have a1 := hle2.1
      have a2 := Rm.2.2.1
      have a3 := hle.1
      rw [e1'] at a1
      omega
    have hc2 : h.2.2 - h0.2.2 + bk_ix x ≤ R.slots := by
      have a1 := hle2.2
      have a2 := Rm.2.2.2
      have a3 := hle.2
      rw [e2'] at a1
      omega
    have hbs : w.2.2.1 ≤ H.size := Nat.le_trans C.2.2.2.2.2.2.2 hS.1
    have hh : h.2.1 ≠ 0 := by
      have := hle.1
      omega
    have hcb : componentBytes (newarray.typeOf at_) ≤ 8 := by cases at_ <;> decide
    have hra := (hKn.2.1 (t - 100) (by omega)).2
    refine va_newaK C.1 C.2.1 (by rw [hty]; exact C.2.2.2.2.1 _ hl) rfl hd rfl hx0 hcl (Nat.le_trans (Nat.mul_le_mul hmx hcb) (by decide)) hc1 hc2 rfl fun H1 cA e1 z1 o1 hAr hfc => ?_
    have hcA : cA = w.2.1 (t - 100) := by
      rw [hty] at hfc
      rcases (show t = 100 ∨ t = 101 ∨ t = 102 ∨ t = 103 ∨ t = 104 by omega) with rfl | rfl | rfl | rfl | rfl <;> exact Option.some.inj (hfc.symm.trans hra)
    rw [hcA] at e1
    have hdv : ∀ σ', bk_vr σ' (bk_dflt t) (defaultValue (newarray.typeOf at_)) := by
      intro σ'
      rw [hty]
      rcases (show t = 100 ∨ t = 101 ∨ t = 102 ∨ t = 103 ∨ t = 104 by omega) with rfl | rfl | rfl | rfl | rfl <;> exact rfl
    have hR' := hR.newA hh ht (by omega) hbs (by omega) e1 z1 o1 hdv
    have hext := bk_sn_ext hR H.size
    have hW := hk _ _ _ _ (show bk_le h (bk_newA h t (bk_ix x) (bk_dflt t)) from ⟨by rw [e1']; omega, by rw [e2']; omega⟩) hs3 (bk_sn σ h.2.1 H.size) H1 locs ls (.ref H.size :: t1) (he.tr hext) hR' ⟨Nat.le_trans hS.1 (by omega), fun x h1 h2 => (o1 x (Nat.lt_of_lt_of_le h1 hS.1)).trans (hS.2.1 x h1 h2), hS.2.2⟩ (hL.ext hext) ⟨_, _, rfl, Or.inr ⟨H.size, by unfold bk_sn; rw [if_pos rfl], rfl⟩, ht1.ext hext⟩
    rw [e1', e2', bk_sub hle.1, bk_sub2 hle.2] at hW
    exact hW
theorem bk_o_anew {i t b k d1 n dd : Nat} {v : Value} {ps : List (Int32 × Nat)} {E : String} (C : bk_Cx w p s m args meth c cc nL own) (Rm : bk_Rm dd R h0 r) (hd : decode cc pc = .ok (.anewarray i, 3)) (ht : 105 ≤ t) (ht2 : t < 108) (hE : bk_aty (t - 100) = .object E) (hl : Cond.classLink own i E ∈ lw_all) (hne : h0.2.1 ≠ 0) :
    bk_Ok w p l e R s m args below meth c nL h0 σ0 r Q cl pc (.anewarray i, n, t, b, k, d1, v, ps, []) := by
  intro L st h K hle hs hg hk σ H locs ls st' he hR hS hL hst
  rcases st with _ | ⟨u, st⟩
  · cases hs
  · have hs1 : bk_I u (fun x => bk_len x fun k => K (pc + 3) L (.ref h.2.1 :: st) (bk_newA h t k (bk_dflt t))) = some r := hs
    obtain ⟨x, rfl, hs2⟩ := bk_I_inv hs1
    obtain ⟨hx0, hx1, hs3⟩ := bk_len_inv hs2
    obtain ⟨t1, rfl, ht1⟩ := bk_sr_int hst
    obtain ⟨hcl, hmx⟩ := bk_len_ix hx0 hx1
    have hle2 := hg _ _ _ _ hs3
    have e1' : (bk_newA h t (bk_ix x) (bk_dflt t)).2.1 = h.2.1 + 1 := rfl
    have e2' : (bk_newA h t (bk_ix x) (bk_dflt t)).2.2 = h.2.2 + bk_ix x := rfl
    have hKn := C.2.2.2.2.2.2.1
    have hc1 : h.2.1 - h0.2.1 + 1 ≤ R.cells := by
      have a1 := hle2.1
      have a2 := Rm.2.2.1
      have a3 := hle.1
      rw [e1'] at a1
      omega
    have hc2 : h.2.2 - h0.2.2 + x.toNatClampNeg ≤ R.slots := by
      have a1 := hle2.2
      have a2 := Rm.2.2.2
      have a3 := hle.2
      rw [e2'] at a1
      rw [hcl]
      omega
    have hbs : w.2.2.1 ≤ H.size := Nat.le_trans C.2.2.2.2.2.2.2 hS.1
    have hh : h.2.1 ≠ 0 := by
      have := hle.1
      omega
    have hra := (hKn.2.1 (t - 100) (by omega)).2
    have hover := hKn.2.2.2.2.2.2.2.2.2.2.2.1 (t - 100) (by omega) (by omega)
    rw [hE] at hra hover
    obtain ⟨kA0, comp0, a1, a2, a3, a4⟩ := hra
    refine W.anew C.1 C.2.1 C.2.2.2.1 (C.2.2.2.2.1 _ hl) (va_AO.use hover) rfl hd rfl hx0 (by rw [hcl]; omega) hc1 hc2 fun cA kA comp f1 f2 f3 f4 => ?_
    have hcA : cA = w.2.1 (t - 100) := Option.some.inj (f1.symm.trans a4)
    subst hcA
    generalize hH1 : H.push ({ cls := w.2.1 (t - 100), slots := Array.replicate x.toNatClampNeg .null, vm := .none } : Cell) = H1
    have z1 : H1.size = H.size + 1 := by rw [← hH1, Array.size_push]
    have e1 : H1[H.size]? = some (arrV (w.2.1 (t - 100)) (bk_ix x) (fun _ => .null)) := by rw [← hH1, Array.getElem?_push_size, ← arrV_new, hcl]
    have o1 : ∀ q : Nat, q < H.size → H1[q]? = H[q]? := fun q hq => by rw [← hH1, Array.getElem?_push, if_neg (Nat.ne_of_lt hq)]
    have hdv : ∀ σ', bk_vr σ' (bk_dflt t) .null := by
      intro σ'
      rcases (show t = 105 ∨ t = 106 ∨ t = 107 by omega) with rfl | rfl | rfl <;> exact Or.inl ⟨rfl, rfl⟩
    have hR' := hR.newA hh (by omega) ht2 hbs (by omega) e1 z1 o1 hdv
    have hext := bk_sn_ext hR H.size
    have hW := hk _ _ _ _ (show bk_le h (bk_newA h t (bk_ix x) (bk_dflt t)) from ⟨by rw [e1']; omega, by rw [e2']; omega⟩) hs3 (bk_sn σ h.2.1 H.size) H1 locs ls (.ref H.size :: t1) (he.tr hext) hR' ⟨Nat.le_trans hS.1 (by omega), fun x h1 h2 => (o1 x (Nat.lt_of_lt_of_le h1 hS.1)).trans (hS.2.1 x h1 h2), hS.2.2⟩ (hL.ext hext) ⟨_, _, rfl, Or.inr ⟨H.size, by unfold bk_sn; rw [if_pos rfl], rfl⟩, ht1.ext hext⟩
    rw [e1', e2', bk_sub hle.1, bk_sub2 hle.2] at hW
    rw [hcl]; exact hW
end BKS
