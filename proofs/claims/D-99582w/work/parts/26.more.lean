/-! SOUNDNESS, seventh part: ends, constants, casts, switches, Math -/
set_option maxRecDepth 100000
section BKT
variable {w : bk_W} {p : Program} {l : Launch} {e : Env} {R : Room} {s : State} {m : MethodId} {args : Array Value} {below : List Frame} {meth : Method} {c : Code} {cc : ByteArray} {nL : Nat} {own : String} {h0 : bk_H} {σ0 : Nat → Option Nat} {r : Option Value × bk_H} {Q : State → Prop} {cl : bk_C} {pc : Nat}
/-- where the method ends, the machine ends well -/
def bk_Rt (w : bk_W) (p : Program) (l : Launch) (e : Env) (R : Room) (s : State) (m : MethodId) (args : Array Value) (below : List Frame) (meth : Method) (c : Code) (cc : ByteArray) (h0 : bk_H) (σ0 : Nat → Option Nat) (r : Option Value × bk_H) (Q : State → Prop) (rk : Nat) : Prop :=
  ∀ (σ : Nat → Option Nat) (H : Heap) (locs : List Loc) (ls : Array Slot) (pc : Nat) (st' : List Value), bk_ext σ0 σ → bk_rel w σ r.2 H → va_S (bk_own w) s.heap H locs →
    ((rk = 6 ∧ r.1 = none ∧ decode cc pc = .ok (.return_, 1) ∧ st' = []) ∨ (rk ≤ 3 ∧ ∃ x, r.1 = some (.int x) ∧ decode cc pc = .ok (.ireturn, 1) ∧ st' = [.int x] ∧ (rk = 0 ∨ (rk = 1 ∧ (x = 0 ∨ x = 1)) ∨ (rk = 2 ∧ x.toInt8.toInt32 = x) ∨ (2 < rk ∧ (x.toUInt32 % 65536).toInt32 = x))) ∨ (rk = 4 ∧ ∃ x, r.1 = some (.long x) ∧ decode cc pc = .ok (.lreturn, 1) ∧ st' = [.long x]) ∨ (rk = 5 ∧ ∃ x y, r.1 = some (.ref x) ∧ decode cc pc = .ok (.areturn, 1) ∧ st' = [y] ∧ bk_vr σ (.ref x) y)) →
    W p l e R s m args below meth c H locs (r.2.2.1 - h0.2.1) (r.2.2.2 - h0.2.2) Q (F0 m pc ls st')
theorem bk_o_return {a b k d n : Nat} {v : Value} {ps : List (Int32 × Nat)} (T : bk_Rt w p l e R s m args below meth c cc h0 σ0 r Q 6) (hd : decode cc pc = .ok (.return_, 1)) : bk_Ok w p l e R s m args below meth c nL h0 σ0 r Q cl pc (.return_, n, a, b, k, d, v, ps, []) := by
  intro L st h K hle hs hg hk σ H locs ls st' he hR hS hL hst
  rcases st with _ | ⟨u, st⟩
  · have hs1 : (none, h) = r := Option.some.inj hs
    subst hs1
    exact T σ H locs ls pc st' he hR hS (Or.inl ⟨rfl, rfl, hd, hst⟩)
  · cases hs
theorem bk_o_ireturn {b k d n rk : Nat} {v : Value} {ps : List (Int32 × Nat)} (T : bk_Rt w p l e R s m args below meth c cc h0 σ0 r Q rk) (h3 : rk ≤ 3) (hd : decode cc pc = .ok (.ireturn, 1)) : bk_Ok w p l e R s m args below meth c nL h0 σ0 r Q cl pc (.ireturn, n, rk, b, k, d, v, ps, []) := by
  intro L st h K hle hs hg hk σ H locs ls st' he hR hS hL hst
  rcases st with _ | ⟨u, _ | ⟨u2, st⟩⟩
  · cases hs
  · have hs1 : bk_I u (fun x => bk_rn rk x (some (some (.int x), h))) = some r := hs
    obtain ⟨x, rfl, hs2⟩ := bk_I_inv hs1
    obtain ⟨hrk, hs2'⟩ := bk_rn_inv hs2
    have hs3 : (some (.int x), h) = r := Option.some.inj hs2'
    subst hs3
    obtain ⟨t, rfl, ht⟩ := bk_sr_int hst
    cases ht
    exact T σ H locs ls pc _ he hR hS (Or.inr (Or.inl ⟨h3, x, rfl, hd, rfl, hrk⟩))
  · cases hs
theorem bk_o_lreturn {a b k d n : Nat} {v : Value} {ps : List (Int32 × Nat)} (T : bk_Rt w p l e R s m args below meth c cc h0 σ0 r Q 4) (hd : decode cc pc = .ok (.lreturn, 1)) : bk_Ok w p l e R s m args below meth c nL h0 σ0 r Q cl pc (.lreturn, n, a, b, k, d, v, ps, []) := by
  intro L st h K hle hs hg hk σ H locs ls st' he hR hS hL hst
  rcases st with _ | ⟨u, _ | ⟨u2, st⟩⟩
  · cases hs
  · have hs1 : bk_J u (fun x => some (some (.long x), h)) = some r := hs
    obtain ⟨x, rfl, hs2⟩ := bk_J_inv hs1
    have hs3 : (some (.long x), h) = r := Option.some.inj hs2
    subst hs3
    obtain ⟨t, rfl, ht⟩ := bk_sr_long hst
    cases ht
    exact T σ H locs ls pc _ he hR hS (Or.inr (Or.inr (Or.inl ⟨rfl, x, rfl, hd, rfl⟩)))
  · cases hs
theorem bk_o_areturn {a b k d n : Nat} {v : Value} {ps : List (Int32 × Nat)} (T : bk_Rt w p l e R s m args below meth c cc h0 σ0 r Q 5) (hd : decode cc pc = .ok (.areturn, 1)) : bk_Ok w p l e R s m args below meth c nL h0 σ0 r Q cl pc (.areturn, n, a, b, k, d, v, ps, []) := by
  intro L st h K hle hs hg hk σ H locs ls st' he hR hS hL hst
  rcases st with _ | ⟨u, _ | ⟨u2, st⟩⟩
  · cases hs
  · have hs1 : bk_A u (fun x => some (some (.ref x), h)) = some r := hs
    obtain ⟨x, rfl, hs2⟩ := bk_A_inv hs1
    have hs3 : (some (.ref x), h) = r := Option.some.inj hs2
    subst hs3
    obtain ⟨y, t, rfl, hy, ht⟩ := hst
    cases ht
    exact T σ H locs ls pc _ he hR hS (Or.inr (Or.inr (Or.inr ⟨rfl, x, y, rfl, hd, rfl, hy⟩)))
  · cases hs
/-! constants -/
theorem bk_o_ldcS {i a b k d n : Nat} {tx : String} {ps : List (Int32 × Nat)} (C : bk_Cx w p s m args meth c cc nL own) (hd : decode cc pc = .ok (.ldc i, 2)) (hl : (own, i, tx, n) ∈ bk_ldcs) (hn : n < 23) : bk_Ok w p l e R s m args below meth c nL h0 σ0 r Q cl pc (.ldc i, 2, a, b, k, d, .ref (2 + n), ps, []) := by
  intro L st h K hle hs hg hk σ H locs ls st' he hR hS hL hst
  have hs1 : K (pc + 2) L (.ref (2 + n) :: st) h = some r := hs
  have hv : vk_R own i tx (w.2.2.2.2.1 n) s := C.2.2.2.2.2.2.1.2.2.2.2.2.2.2.2.2.1 _ hl
  exact va_ldcS C.1 C.2.1 C.2.2.2.1 hv hd (hk _ _ _ _ (bk_le_rf _) hs1 σ H locs ls _ he hR hS hL (bk_sr_r (hR.2.2.2.2.1 n hn) hst))
theorem bk_o_ldcSw {i a b k d n : Nat} {tx : String} {ps : List (Int32 × Nat)} (C : bk_Cx w p s m args meth c cc nL own) (hd : decode cc pc = .ok (.ldc_w i, 3)) (hl : (own, i, tx, n) ∈ bk_ldcs) (hn : n < 23) : bk_Ok w p l e R s m args below meth c nL h0 σ0 r Q cl pc (.ldc_w i, 3, a, b, k, d, .ref (2 + n), ps, []) := by
  intro L st h K hle hs hg hk σ H locs ls st' he hR hS hL hst
  have hs1 : K (pc + 3) L (.ref (2 + n) :: st) h = some r := hs
  have hv : vk_R own i tx (w.2.2.2.2.1 n) s := C.2.2.2.2.2.2.1.2.2.2.2.2.2.2.2.2.1 _ hl
  have hW := hk _ _ _ _ (bk_le_rf _) hs1 σ H locs ls _ he hR hS hL (bk_sr_r (hR.2.2.2.2.1 n hn) hst)
  intro T hT X
  obtain ⟨t, a1, b1⟩ := hW T hT X
  exact ⟨t, Stand.ldcStringW X C.1 C.2.2.2.1 (text := tx) (a := w.2.2.2.2.1 n) hv.1 hv.2 (g := F0 m pc ls st') rfl (by rw [C.2.1]; exact hd) t a1, b1⟩
theorem bk_o_gets1 {i a b k d : Nat} {ps : List (Int32 × Nat)} (C : bk_Cx w p s m args meth c cc nL own) (hd : decode cc pc = .ok (.getstatic i, 3)) (hl : Cond.fieldLink own i "java/lang/String" "COMPACT_STRINGS" "Z" ∈ lw_all) : bk_Ok w p l e R s m args below meth c nL h0 σ0 r Q cl pc (.getstatic i, 3, a, b, k, d, .int 1, ps, []) := by
  intro L st h K hle hs hg hk σ H locs ls st' he hR hS hL hst
  have hs1 : K (pc + 3) L (.int 1 :: st) h = some r := hs
  exact va_gets C.1 C.2.1 C.2.2.2.2.2.2.1.2.2.2.2.2.2.2.1 hS C.2.2.2.1 (C.2.2.2.2.1 _ hl) (fun _ z => z) hd (hk _ _ _ _ (bk_le_rf _) hs1 σ H locs ls _ he hR hS hL (bk_sr_i hst))
theorem bk_o_gets2 {i a b k d : Nat} {ps : List (Int32 × Nat)} (C : bk_Cx w p s m args meth c cc nL own) (hd : decode cc pc = .ok (.getstatic i, 3)) (hl : Cond.fieldLink own i "jdk/internal/util/Preconditions" "SIOOBE_FORMATTER" "Ljava/util/function/BiFunction;" ∈ lw_all) : bk_Ok w p l e R s m args below meth c nL h0 σ0 r Q cl pc (.getstatic i, 3, a, b, k, d, .float 7, ps, []) := by
  intro L st h K hle hs hg hk σ H locs ls st' he hR hS hL hst
  have hs1 : K (pc + 3) L (.float 7 :: st) h = some r := hs
  rcases C.2.2.2.2.2.2.1.2.2.2.2.2.2.2.2.1 with hz | ⟨t, hz⟩
  · exact va_gets C.1 C.2.1 hz hS C.2.2.2.1 (C.2.2.2.2.1 _ hl) (fun _ z => z) hd (hk _ _ _ _ (bk_le_rf _) hs1 σ H locs ls _ he hR hS hL ⟨_, _, rfl, Or.inl rfl, hst⟩)
  · exact va_gets C.1 C.2.1 hz hS C.2.2.2.1 (C.2.2.2.2.1 _ hl) (fun _ z => z) hd (hk _ _ _ _ (bk_le_rf _) hs1 σ H locs ls _ he hR hS hL ⟨_, _, rfl, Or.inr ⟨t, rfl⟩, hst⟩)
/-! casts to arrays -/
def bk_anm : Nat → String
  | 100 => "[I"
  | 101 => "[B"
  | 103 => "[S"
  | _ => "[J"
theorem bk_anm_ra {U : State} {cA : ClassId} {t : Nat} (ht : t = 100 ∨ t = 101 ∨ t = 103 ∨ t = 104) (h : va_RA U cA (bk_aty (t - 100))) : U.vm.findClass (bk_anm t) = some cA := by
  have e1 : "[" ++ FieldType.int.toString = "[I" := by decide +kernel
  have e2 : "[" ++ FieldType.byte.toString = "[B" := by decide +kernel
  have e3 : "[" ++ FieldType.short.toString = "[S" := by decide +kernel
  have e4 : "[" ++ FieldType.long.toString = "[J" := by decide +kernel
  rcases ht with rfl | rfl | rfl | rfl
  · show U.vm.findClass "[I" = _; rw [← e1]; exact h
  · show U.vm.findClass "[B" = _; rw [← e2]; exact h
  · show U.vm.findClass "[S" = _; rw [← e3]; exact h
  · show U.vm.findClass "[J" = _; rw [← e4]; exact h
theorem bk_o_castA {i t b k d n : Nat} {v : Value} {ps : List (Int32 × Nat)} (C : bk_Cx w p s m args meth c cc nL own) (hd : decode cc pc = .ok (.checkcast i, 3)) (ht : t = 100 ∨ t = 101 ∨ t = 103 ∨ t = 104) (hl : Cond.classLink own i (bk_anm t) ∈ lw_all) : bk_Ok w p l e R s m args below meth c nL h0 σ0 r Q cl pc (.checkcast i, n, t, b, k, d, v, ps, []) := by
  intro L st h K hle hs hg hk σ H locs ls st' he hR hS hL hst
  rcases st with _ | ⟨u, st⟩
  · cases hs
  · have hs1 : bk_A u (fun x => bk_I (h.1 (t + 100) x 0) fun _ => K (pc + 3) L (.ref x :: st) h) = some r := hs
    obtain ⟨x, rfl, hs2⟩ := bk_A_inv hs1
    obtain ⟨z, hz, hs3⟩ := bk_I_inv hs2
    obtain ⟨b, hb, hc⟩ := hR.read hz (bk_real_i _)
    obtain ⟨t1, rfl, ht1⟩ := bk_sr_at hR.2.2.2.1 hb hst
    obtain ⟨N, f, g1, g2, g3⟩ := hc.len (by omega) (by omega)
    have e200 : t + 100 - 200 = t - 100 := by omega
    rw [e200] at g1
    have hra := bk_anm_ra ht (C.2.2.2.2.2.2.1.2.1 (t - 100) (by omega)).2
    exact va_castE C.1 C.2.1 C.2.2.2.1 (C.2.2.2.2.1 _ hl) ⟨_, g1, rfl, hra⟩ hd (hk _ _ _ _ (bk_le_rf _) hs3 σ H locs ls _ he hR hS hL (bk_sr_r hb ht1))
theorem bk_o_instA {i t b k d n : Nat} {v : Value} {ps : List (Int32 × Nat)} (C : bk_Cx w p s m args meth c cc nL own) (hd : decode cc pc = .ok (.instanceof i, 3)) (ht : t = 100 ∨ t = 101 ∨ t = 103) (hl : Cond.classLink own i (bk_anm t) ∈ lw_all) : bk_Ok w p l e R s m args below meth c nL h0 σ0 r Q cl pc (.instanceof i, n, t, b, k, d, v, ps, []) := by
  intro L st h K hle hs hg hk σ H locs ls st' he hR hS hL hst
  have hKn := C.2.2.2.2.2.2.1
  rcases st with _ | ⟨u, st⟩
  · cases hs
  · have hs1 : bk_A u (fun x => bk_inst h x t (K (pc + 3) L (.int 1 :: st) h) (K (pc + 3) L (.int 0 :: st) h)) = some r := hs
    obtain ⟨x, rfl, hs2⟩ := bk_A_inv hs1
    unfold bk_inst at hs2
    split at hs2
    · rename_i z hz
      obtain ⟨b, hb, hc⟩ := hR.read hz (bk_real_i _)
      obtain ⟨t1, rfl, ht1⟩ := bk_sr_at hR.2.2.2.1 hb hst
      obtain ⟨N, f, g1, g2, g3⟩ := hc.len (by omega) (by omega)
      have e200 : t + 100 - 200 = t - 100 := by omega
      rw [e200] at g1
      have hra := bk_anm_ra (t := t) (by omega) (hKn.2.1 (t - 100) (by omega)).2
      exact va_instE C.1 C.2.1 C.2.2.2.1 (C.2.2.2.2.1 _ hl) ⟨_, g1, rfl, hra⟩ hd (hk _ _ _ _ (bk_le_rf _) hs2 σ H locs ls _ he hR hS hL (bk_sr_i ht1))
    · rename_i hno
      obtain ⟨z, hz, hs3⟩ := bk_lenOf_inv hs2
      have key : ∃ t', (t' = 100 ∨ t' = 101 ∨ t' = 103 ∨ t' = 104) ∧ h.1 (t' + 100) x 0 = .int z ∧ t' ≠ t := by
        have nt : ∀ t', h.1 (t' + 100) x 0 = .int z → t' ≠ t := fun t' q1 q2 => hno z (by rw [← q2]; exact q1)
        rcases hz with q | q | q | q
        · exact ⟨101, by omega, q, nt 101 q⟩
        · exact ⟨103, by omega, q, nt 103 q⟩
        · exact ⟨100, by omega, q, nt 100 q⟩
        · exact ⟨104, by omega, q, nt 104 q⟩
      obtain ⟨t', ht', hz', hne⟩ := key
      obtain ⟨b, hb, hc⟩ := hR.read hz' (bk_real_i _)
      obtain ⟨t1, rfl, ht1⟩ := bk_sr_at hR.2.2.2.1 hb hst
      obtain ⟨N, f, g1, g2, g3⟩ := hc.len (by omega) (by omega)
      have e200 : t' + 100 - 200 = t' - 100 := by omega
      rw [e200] at g1
      have hra := bk_anm_ra ht' (hKn.2.1 (t' - 100) (by omega)).2
      have hnc : va_Nc (bk_anm t') (bk_anm t) s := by
        refine hKn.2.2.2.2.2.2.2.2.2.2.2.2.1 (bk_anm t', bk_anm t) ?_
        rcases ht with rfl | rfl | rfl <;> rcases ht' with rfl | rfl | rfl | rfl <;> first | (exact absurd rfl hne) | (show (_, _) ∈ bk_ncs; decide +kernel)
      exact va_instNo C.1 C.2.1 C.2.2.2.1 (C.2.2.2.2.1 _ hl) hnc ⟨_, g1, rfl, hra⟩ hd (hk _ _ _ _ (bk_le_rf _) hs3 σ H locs ls _ he hR hS hL (bk_sr_i ht1))
/-! switches -/
theorem bk_sw_inv {F : Nat → bk_R} {x : Int32} {dflt : Nat} {z : Option Value × bk_H} : ∀ {ps : List (Int32 × Nat)}, bk_sw ps x dflt F = some z → (∃ t, (x, t) ∈ ps ∧ F t = some z) ∨ ((∀ q ∈ ps, x ≠ q.1) ∧ F dflt = some z)
  | [], h => Or.inr ⟨(fun _ q => nomatch q), h⟩
  | (k, t) :: ps, h => by
    rcases bk_if_inv h with ⟨hx, h'⟩ | ⟨hn, h⟩
    · subst hx; exact Or.inl ⟨t, List.mem_cons_self, h'⟩
    · rcases bk_sw_inv h with ⟨t', h1, h2⟩ | ⟨h1, h2⟩
      · exact Or.inl ⟨t', List.mem_cons_of_mem _ h1, h2⟩
      · refine Or.inr ⟨fun q hq => ?_, h2⟩
        rcases List.mem_cons.mp hq with rfl | hq
        · exact hn
        · exact h1 q hq
/-- a tableswitch: its places are as the list has them -/
def bk_swok (pc : Nat) (dflt lo hi : Int) (offs : Array Int) (a : Nat) (ps : List (Int32 × Nat)) : Prop :=
  (∀ q ∈ ps, ¬ q.1.toInt < lo ∧ ¬ hi < q.1.toInt ∧ ∃ off, offs[(q.1.toInt - lo).toNat]? = some off ∧ (pc : Int) + off = (q.2 : Int)) ∧ (∀ z : Int, lo ≤ z → z ≤ hi → ∃ q ∈ ps, q.1.toInt = z) ∧ (pc : Int) + dflt = (a : Int)
theorem bk_o_tsw {dflt lo hi : Int} {offs : Array Int} {len a b k d n : Nat} {v : Value} {ps : List (Int32 × Nat)} (C : bk_Cx w p s m args meth c cc nL own) (hd : decode cc pc = .ok (.tableswitch dflt lo hi offs, len)) (hok : bk_swok pc dflt lo hi offs a ps) : bk_Ok w p l e R s m args below meth c nL h0 σ0 r Q cl pc (.tableswitch dflt lo hi offs, n, a, b, k, d, v, ps, []) := by
  intro L st h K hle hs hg hk σ H locs ls st' he hR hS hL hst
  rcases st with _ | ⟨u, st⟩
  · cases hs
  · have hs1 : bk_I u (fun x => bk_sw ps x a fun t => K t L st h) = some r := hs
    obtain ⟨x, rfl, hs2⟩ := bk_I_inv hs1
    obtain ⟨t1, rfl, ht1⟩ := bk_sr_int hst
    rcases bk_sw_inv hs2 with ⟨t, hm, hs3⟩ | ⟨hm, hs3⟩
    · obtain ⟨q1, q2, off, q3, q4⟩ := hok.1 _ hm
      exact lv_tableIn C.1 C.2.1 hd q1 q2 q3 q4 (hk _ _ _ _ (bk_le_rf _) hs3 σ H locs ls _ he hR hS hL ht1)
    · refine lv_tableOut C.1 C.2.1 hd ?_ hok.2.2 (hk _ _ _ _ (bk_le_rf _) hs3 σ H locs ls _ he hR hS hL ht1)
      by_cases q1 : x.toInt < lo
      · exact Or.inl q1
      · by_cases q2 : hi < x.toInt
        · exact Or.inr q2
        · obtain ⟨q, hq, e⟩ := hok.2.1 x.toInt (by omega) (by omega)
          exact absurd (Int32.toInt_inj.mp e.symm) (hm q hq)
/-! the words below a call's arguments -/
theorem bk_rm_sum {σ : Nat → Option Nat} : ∀ {st st' : List Value} {n : Nat}, bk_rm st n = true → bk_sr σ st st' → (st'.map fun v => v.category).sum ≤ n
  | [], st', n, _, h => by cases h; exact Nat.zero_le _
  | v :: st, st', n, hr, ⟨y, t, e, h1, h2⟩ => by
    subst e
    have hc := bk_vr_cat h1
    have step : ∀ k, v.category = k → (∃ m, n = m + k ∧ bk_rm st m = true) → (((y :: t).map fun v => v.category).sum ≤ n) := by
      intro k hk ⟨m, hm, hr2⟩
      have ih := bk_rm_sum hr2 h2
      show y.category + (t.map fun v => v.category).sum ≤ n
      rw [hc, hk]
      omega
    unfold bk_rm at hr
    split at hr
    · split at hr
      · exact step 2 rfl ⟨_, rfl, hr⟩
      · cases hr
    · rename_i hnl
      split at hr
      · refine step 1 ?_ ⟨_, rfl, hr⟩
        cases v with
        | long x => exact absurd rfl (hnl x)
        | double x => exact h1.elim
        | _ => rfl
      · cases hr
theorem bk_dspS_inv {h : bk_H} {x : Nat} {F : Nat → bk_R} {z : Option Value × bk_H} (hs : bk_dspS h x F = some z) : ∃ t, bk_real (h.1 t x 0) ∧ ((t = 14 ∧ F 14001 = some z) ∨ (t = 13 ∧ F 13001 = some z) ∨ (t = 12 ∧ F 12001 = some z) ∨ (t = 11 ∧ F 11001 = some z)) := by
  unfold bk_dspS at hs
  split at hs
  · rename_i q; exact ⟨14, by rw [q]; exact bk_real_r _, Or.inl ⟨rfl, hs⟩⟩
  · split at hs
    · rename_i q; exact ⟨13, by rw [q]; exact bk_real_i _, Or.inr (Or.inl ⟨rfl, hs⟩)⟩
    · split at hs
      · rename_i q; exact ⟨12, by rw [q]; exact bk_real_i _, Or.inr (Or.inr (Or.inl ⟨rfl, hs⟩))⟩
      · split at hs
        · rename_i q; exact ⟨11, by rw [q]; exact bk_real_r _, Or.inr (Or.inr (Or.inr ⟨rfl, hs⟩))⟩
        · cases hs
theorem bk_dspT_inv {h : bk_H} {x : Nat} {F : Nat → bk_R} {z : Option Value × bk_H} (hs : bk_dspT h x F = some z) : ∃ t, bk_real (h.1 t x 0) ∧ ((t = 8 ∧ F 8001 = some z) ∨ (t = 9 ∧ F 9001 = some z) ∨ (t = 7 ∧ F 7001 = some z)) := by
  unfold bk_dspT at hs
  split at hs
  · rename_i q; exact ⟨8, by rw [q]; exact bk_real_r _, Or.inl ⟨rfl, hs⟩⟩
  · split at hs
    · rename_i q; exact ⟨9, by rw [q]; exact bk_real_r _, Or.inr (Or.inl ⟨rfl, hs⟩)⟩
    · split at hs
      · rename_i q; exact ⟨7, by rw [q]; exact bk_real_r _, Or.inr (Or.inr ⟨rfl, hs⟩)⟩
      · cases hs
theorem bk_oi_inv {h : bk_H} {a x : Nat} {K : bk_R} {z : Option Value × bk_H} (hs : bk_oi h a x K = some z) : (∃ t k, bk_real (h.1 t x k)) ∧ K = some z := by
  unfold bk_oi at hs
  split at hs
  · obtain ⟨t, h1, h2⟩ := bk_dspS_inv hs
    exact ⟨⟨t, 0, h1⟩, by rcases h2 with ⟨-, q⟩ | ⟨-, q⟩ | ⟨-, q⟩ | ⟨-, q⟩ <;> exact q⟩
  · obtain ⟨t, h1, h2⟩ := bk_dspT_inv hs
    exact ⟨⟨t, 0, h1⟩, by rcases h2 with ⟨-, q⟩ | ⟨-, q⟩ | ⟨-, q⟩ <;> exact q⟩
  · obtain ⟨h1, h2⟩ := bk_V_inv hs
    exact ⟨⟨_, 0, h1⟩, h2⟩
theorem bk_o_objInit {i a b k n dd : Nat} {v : Value} {ps : List (Int32 × Nat)} (C : bk_Cx w p s m args meth c cc nL own) (Rm : bk_Rm dd R h0 r) (hd : decode cc pc = .ok (.invokespecial i, 3)) (h1 : Cond.methodLink own i Lib.objectInit ∈ lw_all) (h2 : Cond.instanceMethod Lib.objectInit ∈ lw_all) (h3 : Cond.code Lib.objectInit ⟨#[0xb1]⟩ 1 none ∈ lw_all) : bk_Ok w p l e R s m args below meth c nL h0 σ0 r Q cl pc (.invokespecial i, n, a, b, k, 99, v, ps, []) := by
  intro L st h K hle hs hg hk σ H locs ls st' he hR hS hL hst
  rcases st with _ | ⟨u, st⟩
  · cases hs
  · have hs1 : (bif bk_rm st 8 then bk_A u fun x => bk_oi h a x (K (pc + 3) L st h) else none) = some r := hs
    cases hrm : bk_rm st 8 with
    | false => rw [hrm] at hs1; cases hs1
    | true =>
      rw [hrm] at hs1
      obtain ⟨x, rfl, hs2⟩ := bk_A_inv hs1
      obtain ⟨⟨t, k, hreal⟩, hs3⟩ := bk_oi_inv hs2
      obtain ⟨b, hb, -⟩ := hR.1 t x k hreal
      obtain ⟨t1, rfl, ht1⟩ := bk_sr_at hR.2.2.2.1 hb hst
      have hsum := bk_rm_sum hrm ht1
      refine W.objInit C.1 C.2.1 C.2.2.2.1 (C.2.2.2.2.1 _ h1) (C.2.2.2.2.1 _ h2) (C.2.2.2.2.1 _ h3) rfl (by rw [C.2.2.1]; exact hL.1) rfl hd (by have := Rm.1; omega) ?_ (hk _ _ _ _ (bk_le_rf _) hs3 σ H locs ls _ he hR hS hL ht1)
      have := Rm.2.1
      show 2 * 0 + _ + 12 ≤ _
      omega
theorem bk_mm_inv {mm : Nat} {L st : List Value} {h : bk_H} {K : bk_K} (hs : bk_mm mm pc L st h K = some r) : ∃ st1, bk_rm st1 8 = true ∧
    ((mm = 2001 ∧ ∃ x y, st = .int y :: .int x :: st1 ∧ K (pc + 3) L (.int (if y ≤ x then x else y) :: st1) h = some r) ∨
    (mm = 2002 ∧ ∃ x y, st = .int y :: .int x :: st1 ∧ K (pc + 3) L (.int (if x ≤ y then x else y) :: st1) h = some r) ∨
    (mm = 2003 ∧ ∃ x y, st = .long y :: .long x :: st1 ∧ K (pc + 3) L (.long (if y ≤ x then x else y) :: st1) h = some r) ∨
    (mm ≠ 2001 ∧ mm ≠ 2002 ∧ mm ≠ 2003 ∧ ∃ x y, st = .long y :: .long x :: st1 ∧ K (pc + 3) L (.long (if x ≤ y then x else y) :: st1) h = some r)) := by
  rcases st with _ | ⟨b, _ | ⟨a, st⟩⟩
  · cases hs
  · cases hs
  · refine ⟨st, ?_⟩
    cases hrm : bk_rm st 8 with
    | false => unfold bk_mm at hs; simp only [hrm, cond_false] at hs; cases hs
    | true =>
      refine ⟨rfl, ?_⟩
      unfold bk_mm at hs
      simp only [hrm, cond_true] at hs
      split at hs
      · obtain ⟨y, rfl, hs1⟩ := bk_I_inv hs
        obtain ⟨x, rfl, hs2⟩ := bk_I_inv hs1
        exact Or.inl ⟨rfl, x, y, rfl, hs2⟩
      · obtain ⟨y, rfl, hs1⟩ := bk_I_inv hs
        obtain ⟨x, rfl, hs2⟩ := bk_I_inv hs1
        exact Or.inr (Or.inl ⟨rfl, x, y, rfl, hs2⟩)
      · obtain ⟨y, rfl, hs1⟩ := bk_J_inv hs
        obtain ⟨x, rfl, hs2⟩ := bk_J_inv hs1
        exact Or.inr (Or.inr (Or.inl ⟨rfl, x, y, rfl, hs2⟩))
      · rename_i n1 n2 n3
        obtain ⟨y, rfl, hs1⟩ := bk_J_inv hs
        obtain ⟨x, rfl, hs2⟩ := bk_J_inv hs1
        exact Or.inr (Or.inr (Or.inr ⟨n1, n2, n3, x, y, rfl, hs2⟩))
end BKT
