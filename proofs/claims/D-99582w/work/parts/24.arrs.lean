/-! SOUNDNESS, fifth part: arrays, new cells, ends, constants, switches -/
set_option maxRecDepth 100000
section BKR
variable {w : bk_W} {p : Program} {l : Launch} {e : Env} {R : Room} {s : State} {m : MethodId} {args : Array Value} {below : List Frame} {meth : Method} {c : Code} {cc : ByteArray} {nL : Nat} {own : String} {h0 : bk_H} {σ0 : Nat → Option Nat} {r : Option Value × bk_H} {Q : State → Prop} {cl : bk_C} {pc : Nat}
theorem bk_ald_inv {ww t : Nat} {L st : List Value} {h : bk_H} {K : bk_K} (hs : bk_ald ww t pc L st h K = some r) : ∃ (j : Int32) (x : Nat) (st1 : List Value) (u : Value), st = .int j :: .ref x :: st1 ∧ h.1 t x (bk_ix j) = u ∧ bk_real u ∧ K (pc + 1) L (u :: st1) h = some r := by
  rcases st with _ | ⟨i, _ | ⟨y, st⟩⟩
  · cases hs
  · cases hs
  · rcases ww with _ | _ | ww
    · have hs1 : bk_I i (fun j => bk_A y fun a => bk_I (h.1 t a (bk_ix j)) fun x => K (pc + 1) L (.int x :: st) h) = some r := hs
      obtain ⟨j, rfl, hs2⟩ := bk_I_inv hs1
      obtain ⟨x, rfl, hs3⟩ := bk_A_inv hs2
      obtain ⟨z, hz, hs4⟩ := bk_I_inv hs3
      exact ⟨j, x, st, _, rfl, hz, bk_real_i _, hs4⟩
    · have hs1 : bk_I i (fun j => bk_A y fun a => bk_J (h.1 t a (bk_ix j)) fun x => K (pc + 1) L (.long x :: st) h) = some r := hs
      obtain ⟨j, rfl, hs2⟩ := bk_I_inv hs1
      obtain ⟨x, rfl, hs3⟩ := bk_A_inv hs2
      obtain ⟨z, hz, hs4⟩ := bk_J_inv hs3
      exact ⟨j, x, st, _, rfl, hz, bk_real_l _, hs4⟩
    · have hs1 : bk_I i (fun j => bk_A y fun a => bk_A (h.1 t a (bk_ix j)) fun x => K (pc + 1) L (.ref x :: st) h) = some r := hs
      obtain ⟨j, rfl, hs2⟩ := bk_I_inv hs1
      obtain ⟨x, rfl, hs3⟩ := bk_A_inv hs2
      obtain ⟨z, hz, hs4⟩ := bk_A_inv hs3
      exact ⟨j, x, st, _, rfl, hz, bk_real_r _, hs4⟩
theorem bk_o_ald {ins : Instr} {n ww t a b d : Nat} {v : Value} {ps : List (Int32 × Nat)} (C : bk_Cx w p s m args meth c cc nL own) (ht : 100 ≤ t) (ht2 : t < 108)
    (row : ∀ {H : Heap} {locs : List Loc} {cells slots : Nat} {ls : Array Slot} {rest : List Value} {b : Nat} {cell : Cell} {j : Int32} {u : Value}, H[b]? = some cell → s.isArrayOf cell (bk_aty (t - 100)) → cell.vm ≠ .unknown → ¬ (j < 0 ∨ cell.slots.size ≤ j.toNatClampNeg) → cell.slots[j.toNatClampNeg]? = some u →
      W p l e R s m args below meth c H locs cells slots Q (F0 m (pc + 1) ls (u :: rest)) → W p l e R s m args below meth c H locs cells slots Q (F0 m pc ls (.int j :: .ref b :: rest)))
    (hsem : ∀ L st h K, bk_sem (ins, n, t, a, b, d, v, ps, []) cl pc L st h K = bk_ald ww t pc L st h K) : bk_Ok w p l e R s m args below meth c nL h0 σ0 r Q cl pc (ins, n, t, a, b, d, v, ps, []) := by
  intro L st h K hle hs hg hk σ H locs ls st' he hR hS hL hst
  rw [hsem] at hs
  obtain ⟨j, x, st1, u, rfl, hu, hreal, hs1⟩ := bk_ald_inv hs
  obtain ⟨b, hb, hc⟩ := hR.read hu hreal
  obtain ⟨-, N, f, g1, g2, g3, g4⟩ := hc.arr ht ht2
  obtain ⟨t0, rfl, ht0⟩ := bk_sr_int hst
  obtain ⟨t1, rfl, ht1⟩ := bk_sr_at hR.2.2.2.1 hb ht0
  obtain ⟨hj0, hj1⟩ := bk_ix_in g2 g3
  have hi : t - 100 < 8 := by omega
  refine row g1 ((C.2.2.2.2.2.2.1.2.1 _ hi).1 N f) (fun z => by cases z) ?_ (by rw [hj1]; exact arrV_read _ _ g2) (hk _ _ _ _ (bk_le_rf _) hs1 σ H locs ls _ he hR hS hL ⟨_, _, rfl, g4, ht1⟩)
  rw [arrV_size, hj1]
  rintro (q | q)
  · exact hj0 q
  · omega
theorem bk_o_iald {a b d n : Nat} {v : Value} {ps : List (Int32 × Nat)} (C : bk_Cx w p s m args meth c cc nL own) (hd : decode cc pc = .ok (.iaload, 1)) : bk_Ok w p l e R s m args below meth c nL h0 σ0 r Q cl pc (.iaload, n, 100, a, b, d, v, ps, []) :=
  bk_o_ald (ww := 0) C (by omega) (by omega) (fun h1 h2 h3 h4 h5 k => W.iald C.1 C.2.1 h1 h2 h3 h4 h5 rfl rfl hd k) (fun _ _ _ _ => rfl)
theorem bk_o_bald {a b d n : Nat} {v : Value} {ps : List (Int32 × Nat)} (C : bk_Cx w p s m args meth c cc nL own) (hd : decode cc pc = .ok (.baload, 1)) : bk_Ok w p l e R s m args below meth c nL h0 σ0 r Q cl pc (.baload, n, 101, a, b, d, v, ps, []) :=
  bk_o_ald (ww := 0) C (by omega) (by omega) (fun h1 h2 h3 h4 h5 k => W.bald C.1 C.2.1 h1 h2 h3 h4 h5 rfl rfl hd k) (fun _ _ _ _ => rfl)
theorem bk_o_zald {a b d n : Nat} {v : Value} {ps : List (Int32 × Nat)} (C : bk_Cx w p s m args meth c cc nL own) (hd : decode cc pc = .ok (.baload, 1)) : bk_Ok w p l e R s m args below meth c nL h0 σ0 r Q cl pc (.baload, n, 102, a, b, d, v, ps, []) :=
  bk_o_ald (ww := 0) C (by omega) (by omega) (fun h1 h2 h3 h4 h5 k => W.zald C.1 C.2.1 h1 h2 h3 h4 h5 rfl rfl hd k) (fun _ _ _ _ => rfl)
theorem bk_o_sald {a b d n : Nat} {v : Value} {ps : List (Int32 × Nat)} (C : bk_Cx w p s m args meth c cc nL own) (hd : decode cc pc = .ok (.saload, 1)) : bk_Ok w p l e R s m args below meth c nL h0 σ0 r Q cl pc (.saload, n, 103, a, b, d, v, ps, []) :=
  bk_o_ald (ww := 0) C (by omega) (by omega) (fun h1 h2 h3 h4 h5 k => W.sald C.1 C.2.1 h1 h2 h3 h4 h5 rfl rfl hd k) (fun _ _ _ _ => rfl)
theorem bk_o_lald {a b d n : Nat} {v : Value} {ps : List (Int32 × Nat)} (C : bk_Cx w p s m args meth c cc nL own) (hd : decode cc pc = .ok (.laload, 1)) : bk_Ok w p l e R s m args below meth c nL h0 σ0 r Q cl pc (.laload, n, 104, a, b, d, v, ps, []) :=
  bk_o_ald (ww := 1) C (by omega) (by omega) (fun h1 h2 h3 h4 h5 k => W.lald C.1 C.2.1 h1 h2 h3 h4 h5 rfl rfl hd k) (fun _ _ _ _ => rfl)
theorem bk_o_aald {a b d n t : Nat} {v : Value} {ps : List (Int32 × Nat)} (C : bk_Cx w p s m args meth c cc nL own) (hd : decode cc pc = .ok (.aaload, 1)) (ht : 105 ≤ t) (ht2 : t < 108) : bk_Ok w p l e R s m args below meth c nL h0 σ0 r Q cl pc (.aaload, n, t, a, b, d, v, ps, []) := by
  have hr : (bk_aty (t - 100)).isReference = true := by
    rcases (show t = 105 ∨ t = 106 ∨ t = 107 by omega) with rfl | rfl | rfl <;> rfl
  exact bk_o_ald (ww := 2) C (by omega) (by omega) (fun h1 h2 h3 h4 h5 k => W.aald C.1 C.2.1 h1 h2 hr h3 h4 h5 rfl rfl hd k) (fun _ _ _ _ => rfl)
/-- the script's numbers -/
theorem bk_o_sld {a b d n : Nat} {v : Value} {ps : List (Int32 × Nat)} (C : bk_Cx w p s m args meth c cc nL own) (hd : decode cc pc = .ok (.iaload, 1)) : bk_Ok w p l e R s m args below meth c nL h0 σ0 r Q cl pc (.iaload, n, 110, a, b, d, v, ps, []) := by
  intro L st h K hle hs hg hk σ H locs ls st' he hR hS hL hst
  have hs0 : bk_ald 0 110 pc L st h K = some r := hs
  obtain ⟨j, x, st1, u, rfl, hu, hreal, hs1⟩ := bk_ald_inv hs0
  obtain ⟨b, hb, hc⟩ := hR.read hu hreal
  obtain ⟨t0, rfl, ht0⟩ := bk_sr_int hst
  obtain ⟨t1, rfl, ht1⟩ := bk_sr_at hR.2.2.2.1 hb ht0
  have hKn := C.2.2.2.2.2.2.1
  rcases hc with ⟨z, -⟩ | ⟨-, z, -⟩ | ⟨z, -⟩ | ⟨-, rfl, hk2, rfl⟩ | ⟨z, -⟩ | ⟨z, -⟩ | ⟨z, -⟩ | ⟨z, -⟩
  · omega
  · omega
  · omega
  · obtain ⟨hj0, hj1⟩ := bk_ix_in hk2 hKn.2.2.2.2.2.1
    have hin : vp_in j w.2.2.2.1.2.1 := by
      unfold vp_in
      rw [hj1]
      rintro (q | q)
      · exact hj0 q
      · omega
    refine va_sld C.1 C.2.1 hKn.2.2.1 hKn.2.2.2.2.1 (Nat.not_le.mpr hKn.2.2.2.1) hS hin hd ?_
    rw [hj1]
    exact hk _ _ _ _ (bk_le_rf _) hs1 σ H locs ls _ he hR hS hL ⟨_, _, rfl, rfl, ht1⟩
  all_goals omega
/-- a constant's bytes -/
theorem bk_o_tld {a b d n : Nat} {v : Value} {ps : List (Int32 × Nat)} (C : bk_Cx w p s m args meth c cc nL own) (hd : decode cc pc = .ok (.baload, 1)) : bk_Ok w p l e R s m args below meth c nL h0 σ0 r Q cl pc (.baload, n, 111, a, b, d, v, ps, []) := by
  intro L st h K hle hs hg hk σ H locs ls st' he hR hS hL hst
  have hs0 : bk_ald 0 111 pc L st h K = some r := hs
  obtain ⟨j, x, st1, u, rfl, hu, hreal, hs1⟩ := bk_ald_inv hs0
  obtain ⟨b, hb, hc⟩ := hR.read hu hreal
  obtain ⟨t0, rfl, ht0⟩ := bk_sr_int hst
  obtain ⟨t1, rfl, ht1⟩ := bk_sr_at hR.2.2.2.1 hb ht0
  have hKn := C.2.2.2.2.2.2.1
  rcases hc with ⟨z, -⟩ | ⟨-, z, -⟩ | ⟨z, -⟩ | ⟨z, -⟩ | ⟨z, -⟩ | ⟨z, -⟩ | ⟨-, i, hi, rfl, hk2, rfl⟩ | ⟨z, -⟩
  · omega
  · omega
  · omega
  · omega
  · omega
  · omega
  · have hlen : ∀ i, i < 23 → bk_lns.getD i 0 < 2 ^ 31 := by decide +kernel
    obtain ⟨hj0, hj1⟩ := bk_ix_in hk2 (hlen i hi)
    have hin : vp_in j (bk_lns.getD i 0) := by
      unfold vp_in
      rw [hj1]
      rintro (q | q)
      · exact hj0 q
      · omega
    obtain ⟨-, -, -, o4⟩ := hKn.2.2.2.2.2.2.1.1 i hi
    refine va_tb C.1 C.2.1 o4 hS hin rfl hd ?_
    rw [hj1]
    exact hk _ _ _ _ (bk_le_rf _) hs1 σ H locs ls _ he hR hS hL ⟨_, _, rfl, rfl, ht1⟩
  · omega
theorem bk_alen_inv {t a b d n : Nat} {v : Value} {ps : List (Int32 × Nat)} {L st : List Value} {h : bk_H} {K : bk_K} (hs : bk_sem (.arraylength, n, t, a, b, d, v, ps, []) cl pc L st h K = some r) : ∃ (x : Nat) (st1 : List Value) (y : Int32), st = .ref x :: st1 ∧ h.1 (t + 100) x 0 = .int y ∧ K (pc + 1) L (.int y :: st1) h = some r := by
  rcases st with _ | ⟨y, st⟩
  · cases hs
  · have hs1 : bk_A y (fun x => bk_I (h.1 (t + 100) x 0) fun y => K (pc + 1) L (.int y :: st) h) = some r := hs
    obtain ⟨x, rfl, hs2⟩ := bk_A_inv hs1
    obtain ⟨z, hz, hs3⟩ := bk_I_inv hs2
    exact ⟨x, st, z, rfl, hz, hs3⟩
theorem bk_o_alen {t a b d n : Nat} {v : Value} {ps : List (Int32 × Nat)} (C : bk_Cx w p s m args meth c cc nL own) (hd : decode cc pc = .ok (.arraylength, 1)) (ht : 100 ≤ t) (ht2 : t < 108) : bk_Ok w p l e R s m args below meth c nL h0 σ0 r Q cl pc (.arraylength, n, t, a, b, d, v, ps, []) := by
  intro L st h K hle hs hg hk σ H locs ls st' he hR hS hL hst
  obtain ⟨x, st1, y, rfl, hu, hs1⟩ := bk_alen_inv hs
  obtain ⟨b, hb, hc⟩ := hR.read hu (bk_real_i _)
  obtain ⟨t1, rfl, ht1⟩ := bk_sr_at hR.2.2.2.1 hb hst
  obtain ⟨N, f, g1, g2, g3⟩ := hc.len (by omega) (by omega)
  cases g3
  exact W.alen C.1 C.2.1 (n := Int32.ofNat N) g1 ((C.2.2.2.2.2.2.1.2.1 _ (by omega)).1 N f) (by rw [arrV_size] <;> rfl) rfl rfl hd (hk _ _ _ _ (bk_le_rf _) hs1 σ H locs ls _ he hR hS hL (bk_sr_i ht1))
theorem bk_o_slen {a b d n : Nat} {v : Value} {ps : List (Int32 × Nat)} (C : bk_Cx w p s m args meth c cc nL own) (hd : decode cc pc = .ok (.arraylength, 1)) : bk_Ok w p l e R s m args below meth c nL h0 σ0 r Q cl pc (.arraylength, n, 110, a, b, d, v, ps, []) := by
  intro L st h K hle hs hg hk σ H locs ls st' he hR hS hL hst
  obtain ⟨x, st1, y, rfl, hu, hs1⟩ := bk_alen_inv hs
  obtain ⟨b, hb, hc⟩ := hR.read hu (bk_real_i _)
  obtain ⟨t1, rfl, ht1⟩ := bk_sr_at hR.2.2.2.1 hb hst
  have hKn := C.2.2.2.2.2.2.1
  rcases hc with ⟨z, -⟩ | ⟨-, z, -⟩ | ⟨-, z, -⟩ | ⟨z, -⟩ | ⟨-, rfl, g3⟩ | ⟨z, -⟩ | ⟨z, -⟩ | ⟨z, -⟩
  · omega
  · omega
  · omega
  · omega
  · cases g3
    exact va_slen C.1 C.2.1 hKn.2.2.1 hKn.2.2.2.2.1 (Nat.not_le.mpr hKn.2.2.2.1) hS hd (hk _ _ _ _ (bk_le_rf _) hs1 σ H locs ls _ he hR hS hL (bk_sr_i ht1))
  all_goals omega
theorem bk_o_tlen {a b d n : Nat} {v : Value} {ps : List (Int32 × Nat)} (C : bk_Cx w p s m args meth c cc nL own) (hd : decode cc pc = .ok (.arraylength, 1)) : bk_Ok w p l e R s m args below meth c nL h0 σ0 r Q cl pc (.arraylength, n, 111, a, b, d, v, ps, []) := by
  intro L st h K hle hs hg hk σ H locs ls st' he hR hS hL hst
  obtain ⟨x, st1, y, rfl, hu, hs1⟩ := bk_alen_inv hs
  obtain ⟨b, hb, hc⟩ := hR.read hu (bk_real_i _)
  obtain ⟨t1, rfl, ht1⟩ := bk_sr_at hR.2.2.2.1 hb hst
  have hKn := C.2.2.2.2.2.2.1
  rcases hc with ⟨z, -⟩ | ⟨-, z, -⟩ | ⟨-, z, -⟩ | ⟨z, -⟩ | ⟨z, -⟩ | ⟨z, -⟩ | ⟨z, -⟩ | ⟨-, i, hi, rfl, g3⟩
  · omega
  · omega
  · omega
  · omega
  · omega
  · omega
  · omega
  · cases g3
    obtain ⟨-, -, -, cell, o1, o2, o3, o4, o5, o6, o7⟩ := hKn.2.2.2.2.2.2.1.1 i hi
    exact W.alen C.1 C.2.1 (n := Int32.ofNat (bk_lns.getD i 0)) (cell := cell) (by rw [hS.2.1 _ (Array.getElem?_eq_some_iff.mp o1).1 o7]; exact o1) o2 o5 rfl rfl hd (hk _ _ _ _ (bk_le_rf _) hs1 σ H locs ls _ he hR hS hL (bk_sr_i ht1))
/-! stores -/
theorem bk_nar_inv {t : Nat} {x : Int32} {K : Int32 → bk_R} {z : Option Value × bk_H} (hs : bk_nar t x K = some z) : ∃ y, K y = some z ∧ ((t = 100 ∧ y = x) ∨ (t = 101 ∧ y = x.toInt8.toInt32) ∨ (t = 102 ∧ y = x ∧ (x = 0 ∨ x = 1)) ∨ (t = 103 ∧ y = x.toInt16.toInt32)) := by
  unfold bk_nar at hs
  split at hs
  · exact ⟨_, hs, Or.inl ⟨rfl, rfl⟩⟩
  · exact ⟨_, hs, Or.inr (Or.inl ⟨rfl, rfl⟩)⟩
  · obtain ⟨h1, h2⟩ := bk_bl_inv hs
    exact ⟨_, h2, Or.inr (Or.inr (Or.inl ⟨rfl, rfl, h1⟩))⟩
  · exact ⟨_, hs, Or.inr (Or.inr (Or.inr ⟨rfl, rfl⟩))⟩
  · cases hs
theorem bk_o_ast {ins : Instr} {n ww t a b d : Nat} {v : Value} {ps : List (Int32 × Nat)} (C : bk_Cx w p s m args meth c cc nL own) (ht : 100 ≤ t) (ht2 : t < 108)
    (hinv : ∀ {L st : List Value} {h : bk_H} {K : bk_K}, bk_ast ww t pc L st h K = some r → ∃ (j : Int32) (x : Nat) (st1 : List Value) (u y u0 : Value), st = u :: .int j :: .ref x :: st1 ∧ h.1 t x (bk_ix j) = u0 ∧ bk_real u0 ∧ bk_real y ∧ K (pc + 1) L st1 (bk_put h t x (bk_ix j) y) = some r ∧
      ∀ {σ : Nat → Option Nat} {H : Heap} {locs : List Loc} {cells slots : Nat} {ls : Array Slot} {rest : List Value} {b N : Nat} {f : Nat → Value} {ux : Value}, bk_rel w σ h H → va_S (bk_own w) s.heap H locs → bk_vr σ u ux → H[b]? = some (arrV (w.2.1 (t - 100)) N f) → ¬ (j < 0 ∨ N ≤ j.toNatClampNeg) →
        (∀ (H' : Heap) (yx : Value), bk_vr σ y yx → H'[b]? = some (arrV (w.2.1 (t - 100)) N (updV f j.toNatClampNeg yx)) → H'.size = H.size → (∀ q, q ≠ b → H'[q]? = H[q]?) → W p l e R s m args below meth c H' (locs ++ [⟨b, j.toNatClampNeg⟩]) cells slots Q (F0 m (pc + 1) ls rest)) →
          W p l e R s m args below meth c H locs cells slots Q (F0 m pc ls (ux :: .int j :: .ref b :: rest)))
    (hsem : ∀ L st h K, bk_sem (ins, n, t, a, b, d, v, ps, []) cl pc L st h K = bk_ast ww t pc L st h K) : bk_Ok w p l e R s m args below meth c nL h0 σ0 r Q cl pc (ins, n, t, a, b, d, v, ps, []) := by
  intro L st h K hle hs hg hk σ H locs ls st' he hR hS hL hst
  rw [hsem] at hs
  obtain ⟨j, x, st1, u, y, u0, rfl, hu0, hreal0, hreal, hs1, row⟩ := hinv hs
  obtain ⟨b, hb, hc⟩ := hR.read hu0 hreal0
  obtain ⟨hw, N, f, g1, g2, g3, g4⟩ := hc.arr ht ht2
  obtain ⟨ux, t9, rfl, hux, ht9⟩ := hst
  obtain ⟨t0, rfl, ht0⟩ := bk_sr_int ht9
  obtain ⟨t1, rfl, ht1⟩ := bk_sr_at hR.2.2.2.1 hb ht0
  obtain ⟨hj0, hj1⟩ := bk_ix_in g2 g3
  refine row hR hS hux g1 ?_ fun H' yx hy e1 e2 e3 => ?_
  · rw [hj1]
    rintro (q | q)
    · exact hj0 q
    · omega
  · rw [hj1] at e1
    have hR' := hR.putA ht ht2 hu0 hreal0 hb hw g1 g2 g3 e1 e2 e3 hy hreal
    exact hk _ _ _ (bk_put h t x (bk_ix j) y) (show bk_le h (bk_put h t x (bk_ix j) y) from bk_le_rf h) hs1 σ H' _ ls t1 he hR' (hS.put e2 e3 hw) hL ht1
theorem bk_ast0_inv {t : Nat} {L st : List Value} {h : bk_H} {K : bk_K} (hs : bk_ast 0 t pc L st h K = some r) : ∃ (j : Int32) (x : Nat) (st1 : List Value) (z y : Int32) (u0 : Value), st = .int z :: .int j :: .ref x :: st1 ∧ h.1 t x (bk_ix j) = u0 ∧ bk_real u0 ∧ K (pc + 1) L st1 (bk_put h t x (bk_ix j) (.int y)) = some r ∧
    ((t = 100 ∧ y = z) ∨ (t = 101 ∧ y = z.toInt8.toInt32) ∨ (t = 102 ∧ y = z ∧ (z = 0 ∨ z = 1)) ∨ (t = 103 ∧ y = z.toInt16.toInt32)) := by
  rcases st with _ | ⟨u, _ | ⟨i, _ | ⟨y, st⟩⟩⟩
  · cases hs
  · cases hs
  · cases hs
  · have hs1 : bk_I i (fun j => bk_A y fun a => bk_I u fun x => bk_nar t x fun y => bk_I (h.1 t a (bk_ix j)) fun _ => K (pc + 1) L st (bk_put h t a (bk_ix j) (.int y))) = some r := hs
    obtain ⟨j, rfl, hs2⟩ := bk_I_inv hs1
    obtain ⟨x, rfl, hs3⟩ := bk_A_inv hs2
    obtain ⟨z, rfl, hs4⟩ := bk_I_inv hs3
    obtain ⟨yy, hs5, hy⟩ := bk_nar_inv hs4
    obtain ⟨q, hq, hs6⟩ := bk_I_inv hs5
    exact ⟨j, x, st, z, yy, _, rfl, hq, bk_real_i _, hs6, hy⟩
theorem bk_o_iast {a b d n : Nat} {v : Value} {ps : List (Int32 × Nat)} (C : bk_Cx w p s m args meth c cc nL own) (hd : decode cc pc = .ok (.iastore, 1)) : bk_Ok w p l e R s m args below meth c nL h0 σ0 r Q cl pc (.iastore, n, 100, a, b, d, v, ps, []) := by
  refine bk_o_ast (ww := 0) C (by omega) (by omega) (fun hs => ?_) (fun _ _ _ _ => rfl)
  obtain ⟨j, x, st1, z, y, u0, h1, h2, h3, h4, h5⟩ := bk_ast0_inv hs
  refine ⟨j, x, st1, _, _, u0, h1, h2, h3, bk_real_i _, h4, fun {σ H locs cells slots ls rest b N f ux} hR hS hux g1 hin kk => ?_⟩
  rcases h5 with ⟨-, rfl⟩ | ⟨q, -⟩ | ⟨q, -⟩ | ⟨q, -⟩
  · rw [show ux = .int y from hux]
    refine W.iast C.1 C.2.1 g1 ((C.2.2.2.2.2.2.1.2.1 0 (by omega)).1 N f) (fun q => by cases q) (by rw [arrV_size]; exact hin) rfl rfl hd fun H' e1 e2 e3 => kk H' (.int y) rfl ?_ e2 e3
    rw [e1, arrV_store]
  all_goals omega
theorem bk_o_bast {a b d n : Nat} {v : Value} {ps : List (Int32 × Nat)} (C : bk_Cx w p s m args meth c cc nL own) (hd : decode cc pc = .ok (.bastore, 1)) : bk_Ok w p l e R s m args below meth c nL h0 σ0 r Q cl pc (.bastore, n, 101, a, b, d, v, ps, []) := by
  refine bk_o_ast (ww := 0) C (by omega) (by omega) (fun hs => ?_) (fun _ _ _ _ => rfl)
  obtain ⟨j, x, st1, z, y, u0, h1, h2, h3, h4, h5⟩ := bk_ast0_inv hs
  refine ⟨j, x, st1, _, _, u0, h1, h2, h3, bk_real_i _, h4, fun {σ H locs cells slots ls rest b N f ux} hR hS hux g1 hin kk => ?_⟩
  rcases h5 with ⟨q, -⟩ | ⟨-, rfl⟩ | ⟨q, -⟩ | ⟨q, -⟩
  · omega
  · rw [show ux = .int z from hux]
    refine W.bast C.1 C.2.1 g1 ((C.2.2.2.2.2.2.1.2.1 1 (by omega)).1 N f) (fun q => by cases q) (by rw [arrV_size]; exact hin) rfl rfl hd fun H' e1 e2 e3 => kk H' (.int z.toInt8.toInt32) rfl ?_ e2 e3
    rw [e1, narrow_byte, arrV_store]
  all_goals omega
theorem bk_o_zast {a b d n : Nat} {v : Value} {ps : List (Int32 × Nat)} (C : bk_Cx w p s m args meth c cc nL own) (hd : decode cc pc = .ok (.bastore, 1)) : bk_Ok w p l e R s m args below meth c nL h0 σ0 r Q cl pc (.bastore, n, 102, a, b, d, v, ps, []) := by
  refine bk_o_ast (ww := 0) C (by omega) (by omega) (fun hs => ?_) (fun _ _ _ _ => rfl)
  obtain ⟨j, x, st1, z, y, u0, h1, h2, h3, h4, h5⟩ := bk_ast0_inv hs
  refine ⟨j, x, st1, _, _, u0, h1, h2, h3, bk_real_i _, h4, fun {σ H locs cells slots ls rest b N f ux} hR hS hux g1 hin kk => ?_⟩
  rcases h5 with ⟨q, -⟩ | ⟨q, -⟩ | ⟨-, rfl, hbl⟩ | ⟨q, -⟩
  · omega
  · omega
  · rw [show ux = .int y from hux]
    refine W.zast C.1 C.2.1 g1 ((C.2.2.2.2.2.2.1.2.1 2 (by omega)).1 N f) (fun q => by cases q) (by rw [arrV_size]; exact hin) rfl rfl hd fun H' e1 e2 e3 => kk H' (.int y) rfl ?_ e2 e3
    have e4 : narrow .boolean (.int y) = .int y := by rcases hbl with rfl | rfl <;> decide +kernel
    rw [e1, e4, arrV_store]
  · omega
theorem bk_o_sast {a b d n : Nat} {v : Value} {ps : List (Int32 × Nat)} (C : bk_Cx w p s m args meth c cc nL own) (hd : decode cc pc = .ok (.sastore, 1)) : bk_Ok w p l e R s m args below meth c nL h0 σ0 r Q cl pc (.sastore, n, 103, a, b, d, v, ps, []) := by
  refine bk_o_ast (ww := 0) C (by omega) (by omega) (fun hs => ?_) (fun _ _ _ _ => rfl)
  obtain ⟨j, x, st1, z, y, u0, h1, h2, h3, h4, h5⟩ := bk_ast0_inv hs
  refine ⟨j, x, st1, _, _, u0, h1, h2, h3, bk_real_i _, h4, fun {σ H locs cells slots ls rest b N f ux} hR hS hux g1 hin kk => ?_⟩
  rcases h5 with ⟨q, -⟩ | ⟨q, -⟩ | ⟨q, -⟩ | ⟨-, rfl⟩
  · omega
  · omega
  · omega
  · rw [show ux = .int z from hux]
    refine W.sast C.1 C.2.1 g1 ((C.2.2.2.2.2.2.1.2.1 3 (by omega)).1 N f) (fun q => by cases q) (by rw [arrV_size]; exact hin) rfl rfl hd fun H' e1 e2 e3 => kk H' (.int z.toInt16.toInt32) rfl ?_ e2 e3
    rw [e1, narrow_short, arrV_store]
theorem bk_o_last {a b d n : Nat} {v : Value} {ps : List (Int32 × Nat)} (C : bk_Cx w p s m args meth c cc nL own) (hd : decode cc pc = .ok (.lastore, 1)) : bk_Ok w p l e R s m args below meth c nL h0 σ0 r Q cl pc (.lastore, n, 104, a, b, d, v, ps, []) := by
  refine bk_o_ast (ww := 1) C (by omega) (by omega) (fun {L st h K} hs => ?_) (fun _ _ _ _ => rfl)
  rcases st with _ | ⟨u, _ | ⟨i, _ | ⟨y, st⟩⟩⟩
  · cases hs
  · cases hs
  · cases hs
  · have hs1 : bk_I i (fun j => bk_A y fun a => bk_J u fun x => bk_J (h.1 104 a (bk_ix j)) fun _ => K (pc + 1) L st (bk_put h 104 a (bk_ix j) (.long x))) = some r := hs
    obtain ⟨j, rfl, hs2⟩ := bk_I_inv hs1
    obtain ⟨x, rfl, hs3⟩ := bk_A_inv hs2
    obtain ⟨z, rfl, hs4⟩ := bk_J_inv hs3
    obtain ⟨q, hq, hs6⟩ := bk_J_inv hs4
    refine ⟨j, x, st, _, _, _, rfl, hq, bk_real_l _, bk_real_l _, hs6, fun {σ H locs cells slots ls rest b N f ux} hR hS hux g1 hin kk => ?_⟩
    rw [show ux = .long z from hux]
    refine W.last C.1 C.2.1 g1 ((C.2.2.2.2.2.2.1.2.1 4 (by omega)).1 N f) (fun q => by cases q) (by rw [arrV_size]; exact hin) rfl rfl hd fun H' e1 e2 e3 => kk H' (.long z) rfl ?_ e2 e3
    rw [e1, arrV_store]
theorem bk_o_aast {a b d n t : Nat} {v : Value} {ps : List (Int32 × Nat)} (C : bk_Cx w p s m args meth c cc nL own) (hd : decode cc pc = .ok (.aastore, 1)) (ht : 105 ≤ t) (ht2 : t < 108) : bk_Ok w p l e R s m args below meth c nL h0 σ0 r Q cl pc (.aastore, n, t, a, b, d, v, ps, []) := by
  refine bk_o_ast (ww := 2) C (by omega) (by omega) (fun {L st h K} hs => ?_) (fun _ _ _ _ => rfl)
  rcases st with _ | ⟨u, _ | ⟨i, _ | ⟨y, st⟩⟩⟩
  · cases hs
  · cases hs
  · cases hs
  · have hs1 : bk_I i (fun j => bk_A y fun a => bk_A u fun x => bk_A (h.1 t a (bk_ix j)) fun _ => bk_V (h.1 (bk_ec t) x 0) (K (pc + 1) L st (bk_put h t a (bk_ix j) (.ref x)))) = some r := hs
    obtain ⟨j, rfl, hs2⟩ := bk_I_inv hs1
    obtain ⟨x, rfl, hs3⟩ := bk_A_inv hs2
    obtain ⟨z, rfl, hs4⟩ := bk_A_inv hs3
    obtain ⟨q, hq, hs5⟩ := bk_A_inv hs4
    obtain ⟨hv, hs6⟩ := bk_V_inv hs5
    refine ⟨j, x, st, _, _, _, rfl, hq, bk_real_r _, bk_real_r _, hs6, fun {σ H locs cells slots ls rest b N f ux} hR hS hux g1 hin kk => ?_⟩
    obtain ⟨bz, hbz, hcz⟩ := hR.1 (bk_ec t) z 0 hv
    have hec : bk_ec t < 15 ∧ ∃ (q9 : vw_C) (E : String), bk_cl[bk_ec t]? = some q9 ∧ bk_aty (t - 100) = .object E ∧ q9.1 = E := by
      rcases (show t = 105 ∨ t = 106 ∨ t = 107 by omega) with rfl | rfl | rfl
      · exact ⟨by decide, _, _, rfl, rfl, rfl⟩
      · exact ⟨by decide, _, _, rfl, rfl, rfl⟩
      · exact ⟨by decide, _, _, rfl, rfl, rfl⟩
    obtain ⟨hec1, q9, E, hq9, hE, hn9⟩ := hec
    obtain ⟨-, q', V, k1, k2, ⟨cv, v1, v2, v3, -⟩, -⟩ := hcz.obj hec1
    cases hq9.symm.trans k1
    have hux2 : ux = .ref bz := by
      rcases hux with ⟨rfl, -⟩ | ⟨b2, hb2, rfl⟩
      · rw [hR.2.2.2.1] at hbz; cases hbz
      · rw [Option.some.inj (hb2.symm.trans hbz)]
    rw [hux2]
    have hKn := C.2.2.2.2.2.2.1
    have hcls := (hKn.1.1 (bk_ec t) _ hq9).2
    have hra := (hKn.2.1 (t - 100) (by omega)).2
    rw [hE] at hra
    obtain ⟨kA, comp, a1, a2, a3, -⟩ := hra
    have hcomp : comp = w.1.1 (bk_ec t) := Option.some.inj (a3.symm.trans (hn9 ▸ hcls.1))
    subst hcomp
    obtain ⟨kC, hkC, -⟩ := hcls.2
    refine W.aast C.1 C.2.1 g1 (fun q h => by cases h) (fun h => by cases h) a1 a2 rfl hkC ⟨fun q => hin (Or.inl q), by rw [arrV_size]; exact Nat.not_le.mp fun q => hin (Or.inr q)⟩ v1 (fun q h => by rw [v3] at h; cases h) (by rw [v2]; exact hkC) (by rw [v2]; exact va_asg _ _) rfl rfl hd fun H' e1 e2 e3 => kk H' (.ref bz) (Or.inr ⟨bz, hbz, rfl⟩) ?_ e2 e3
    rw [e1, arrV_store]
end BKR
