/-! SOUNDNESS, eighth part: calls -/
set_option maxRecDepth 100000
def bk_vo (σ : Nat → Option Nat) : Option Value → Option Value → Prop
  | none, x => x = none
  | some v, x => ∃ y, x = some y ∧ bk_vr σ v y
def bk_psh : Option Value → List Value → List Value
  | none, st => st
  | some v, st => v :: st
/-- the room of a call -/
def bk_room (d : Nat) (h : bk_H) (r : Option Value × bk_H) : Room := { frames := d + 16, cells := r.2.2.1 - h.2.1, slots := r.2.2.2 - h.2.2, locals := 10300 + 64 * d }
/-- what a call begins with, ends with -/
def bk_Pr (w : bk_W) (σ : Nat → Option Nat) (h : bk_H) (U : State) : Prop := w.2.2.1 ≤ U.heap.size ∧ bk_rel w σ h U.heap ∧ bk_Kn w U U.heap
def bk_Qc (w : bk_W) (σ : Nat → Option Nat) (r : Option Value × bk_H) : Array Value → State → Outcome → State → Prop := fun _ st oc t =>
  (∃ (v' : Option Value) (σ' : Nat → Option Nat), oc = .returned v' ∧ bk_ext σ σ' ∧ bk_rel w σ' r.2 t.heap ∧ bk_vo σ' r.1 v') ∧ va_F (bk_own w) st t
/-- calls of a method, at most so deep, are right -/
def bk_CS1 (w : bk_W) (l : Launch) (d m' : Nat) (y : MethodName) (ws : List Cond) : Prop := ∀ (args : List Value) (h : bk_H) (r : Option Value × bk_H) (σ : Nat → Option Nat) (args' : List Value), bk_call d m' args h = some r → h.2.1 ≠ 0 → bk_sr σ args args' →
  Met l y ws (bk_room d h r) (va_Pc args' (bk_Pr w σ h)) (bk_Qc w σ r) (r.2.2.1 - h.2.1) (r.2.2.2 - h.2.2) (bk_own w)
theorem bk_Pr_blind {w : bk_W} {σ : Nat → Option Nat} {h : bk_H} {args' : List Value} : FrameBlind (va_Pc args' (bk_Pr w σ h)) := fun a U g mk q => ⟨q.1, q.2.1, q.2.2.1, bk_Kn.warm (s := U) (U := U.calling g mk a) (State.WarmedH.refl U) q.2.2.2⟩
section BKU
variable {w : bk_W} {p : Program} {l : Launch} {e : Env} {R : Room} {s : State} {m : MethodId} {args : Array Value} {below : List Frame} {meth : Method} {c : Code} {cc : ByteArray} {nL : Nat} {own : String} {h0 : bk_H} {σ0 : Nat → Option Nat} {r : Option Value × bk_H} {Q : State → Prop} {cl : bk_C} {pc : Nat}
theorem bk_Pr_at {σ : Nat → Option Nat} {h : bk_H} {H : Heap} {locs : List Loc} {args' : List Value} (C : bk_Cx w p s m args meth c cc nL own) (hR : bk_rel w σ h H) (hS : va_S (bk_own w) s.heap H locs) (U : State) (hU : U.heap = H) (hW : s.WarmedH U.vm) : va_Pc args' (bk_Pr w σ h) args'.toArray U := by
  refine ⟨rfl, ?_, ?_, ?_⟩
  · rw [hU]; exact Nat.le_trans C.2.2.2.2.2.2.2 hS.1
  · rw [hU]; exact hR
  · rw [hU]
    exact bk_Kn.warm hW (C.2.2.2.2.2.2.1.kept hS.1 fun a h1 h2 => hS.2.1 a h1 h2)
theorem bk_callgo {σ : Nat → Option Nat} {H : Heap} {locs : List Loc} {ls : Array Slot} {st0 rest' : List Value} {h : bk_H} {r1 : Option Value × bk_H} {a : Array Value}
    (hr : va_Run p l e R s m args below meth c H locs (h.2.1 - h0.2.1) (h.2.2 - h0.2.2) (r1.2.2.1 - h.2.1) (r1.2.2.2 - h.2.2) (F0 m pc ls st0) rest' (bk_Qc w σ r1 a) (bk_own w)) (hS : va_S (bk_own w) s.heap H locs) (hle0 : bk_le h0 h) (hle : bk_le h r1.2)
    (kk : ∀ (σ' : Nat → Option Nat) (v' : Option Value) (H1 : Heap) (locs1 : List Loc), bk_ext σ σ' → bk_rel w σ' r1.2 H1 → va_S (bk_own w) s.heap H1 locs1 → bk_vo σ' r1.1 v' → W p l e R s m args below meth c H1 locs1 (r1.2.2.1 - h0.2.1) (r1.2.2.2 - h0.2.2) Q (F0 m (pc + 3) ls (v'.toList ++ rest'))) :
    W p l e R s m args below meth c H locs (h.2.1 - h0.2.1) (h.2.2 - h0.2.2) Q (F0 m pc ls st0) := by
  intro T hT X
  obtain ⟨v, st₀, t, T', L, e0, X', hL, e1, e2, ⟨⟨v', σ', hv, hx, hrel, hvo⟩, hz, hk⟩, st⟩ := hr T hT X
  cases hv
  rw [e0] at hz hk
  have q1 : h.2.1 - h0.2.1 + (r1.2.2.1 - h.2.1) = r1.2.2.1 - h0.2.1 := by have := hle0.1; have := hle.1; omega
  have q2 : h.2.2 - h0.2.2 + (r1.2.2.2 - h.2.2) = r1.2.2.2 - h0.2.2 := by have := hle0.2; have := hle.2; omega
  rw [q1, q2] at X'
  obtain ⟨t2, a1, b1⟩ := kk σ' v T'.heap (locs ++ L) hx (by rw [e1]; exact hrel)
    ⟨Nat.le_trans hS.1 (by rw [e1]; exact hz), fun q h1 h2 => by rw [e1, hk q (Nat.lt_of_lt_of_le h1 hS.1) h2]; exact hS.2.1 q h1 h2, fun q hq => by
      rcases List.mem_append.mp hq with h | h
      · exact hS.2.2 q h
      · exact hL q h⟩ hvo T' rfl X'
  exact ⟨t2, st t2 a1, b1⟩
theorem bk_ret_inv {m' ww : Nat} {as L st : List Value} {h : bk_H} {K : bk_K} (hs : bk_ret cl m' ww as pc L st h K = some r) : ∃ r1, cl m' as h = some r1 ∧ bk_rm st 8 = true ∧ K (pc + 3) L (bk_psh r1.1 st) r1.2 = some r := by
  unfold bk_ret at hs
  cases hrm : bk_rm st 8 with
  | false => rw [hrm] at hs; cases hs
  | true =>
    rw [hrm] at hs
    rcases ww with _ | _ | _ | ww
    · obtain ⟨h1, e1, hs⟩ := bk_cV_inv hs
      exact ⟨_, e1, rfl, hs⟩
    · obtain ⟨x, h1, e1, hs⟩ := bk_cI_inv hs
      exact ⟨_, e1, rfl, hs⟩
    · obtain ⟨x, h1, e1, hs⟩ := bk_cJ_inv hs
      exact ⟨_, e1, rfl, hs⟩
    · obtain ⟨x, h1, e1, hs⟩ := bk_cA_inv hs
      exact ⟨_, e1, rfl, hs⟩
theorem bk_pop_inv {F : List Value → List Value → bk_R} {z : Option Value × bk_H} : ∀ {n : Nat} {st acc : List Value}, bk_pop n st acc F = some z → ∃ as rest, st = as.reverse ++ rest ∧ as.length = n ∧ F (as ++ acc) rest = some z
  | 0, st, acc, h => ⟨[], st, rfl, rfl, h⟩
  | n + 1, [], acc, h => nomatch h
  | n + 1, v :: st, acc, h => by
    obtain ⟨as, rest, e1, e2, e3⟩ := bk_pop_inv (n := n) (st := st) (acc := v :: acc) h
    refine ⟨as ++ [v], rest, ?_, ?_, ?_⟩
    · rw [List.reverse_append, e1]; rfl
    · rw [List.length_append, e2]; rfl
    · rw [List.append_assoc]; exact e3
theorem bk_sr_app {σ : Nat → Option Nat} : ∀ {a b st' : List Value}, bk_sr σ (a ++ b) st' → ∃ a' b', st' = a' ++ b' ∧ bk_sr σ a a' ∧ bk_sr σ b b'
  | [], b, st', h => ⟨[], st', rfl, rfl, h⟩
  | v :: a, b, st', ⟨y, t, e, h1, h2⟩ => by
    obtain ⟨a', b', e1, h3, h4⟩ := bk_sr_app h2
    exact ⟨y :: a', b', by rw [e, e1]; rfl, ⟨y, a', rfl, h1, h3⟩, h4⟩
theorem bk_sr_cat {σ : Nat → Option Nat} : ∀ {a b a' b' : List Value}, bk_sr σ a a' → bk_sr σ b b' → bk_sr σ (a ++ b) (a' ++ b')
  | [], b, a', b', h1, h2 => by cases h1; exact h2
  | v :: a, b, a', b', ⟨y, t, e, h1, h3⟩, h2 => by
    subst e
    exact ⟨y, t ++ b', rfl, h1, bk_sr_cat h3 h2⟩
theorem bk_sr_rev {σ : Nat → Option Nat} : ∀ {a a' : List Value}, bk_sr σ a a' → bk_sr σ a.reverse a'.reverse
  | [], a', h => by cases h; rfl
  | v :: a, a', ⟨y, t, e, h1, h2⟩ => by
    subst e
    rw [List.reverse_cons, List.reverse_cons]
    exact bk_sr_cat (bk_sr_rev h2) ⟨y, [], rfl, h1, rfl⟩
theorem bk_sr_len {σ : Nat → Option Nat} : ∀ {a a' : List Value}, bk_sr σ a a' → a'.length = a.length
  | [], a', h => by cases h; rfl
  | v :: a, a', ⟨y, t, e, h1, h2⟩ => by subst e; rw [List.length_cons, List.length_cons, bk_sr_len h2]
theorem bk_sr_args {σ : Nat → Option Nat} {as rest st' : List Value} (h : bk_sr σ (as.reverse ++ rest) st') : ∃ as' rest', st' = as'.reverse ++ rest' ∧ bk_sr σ as as' ∧ bk_sr σ rest rest' := by
  obtain ⟨a', b', e, h1, h2⟩ := bk_sr_app h
  refine ⟨a'.reverse, b', by rw [List.reverse_reverse]; exact e, ?_, h2⟩
  have := bk_sr_rev h1
  rwa [List.reverse_reverse] at this
theorem bk_vo_psh {σ : Nat → Option Nat} {v v' : Option Value} {st st' : List Value} (h : bk_vo σ v v') (hs : bk_sr σ st st') : bk_sr σ (bk_psh v st) (v'.toList ++ st') := by
  cases v with
  | none => cases h; exact hs
  | some v => obtain ⟨y, rfl, hy⟩ := h; exact ⟨y, st', rfl, hy, hs⟩
/-- the class of a receiver -/
def bk_cn : Nat → String
  | 15 => "java/lang/String"
  | t => match bk_cl[t]? with
    | some q => q.1
    | none => ""
theorem bk_recv {t x : Nat} {σ : Nat → Option Nat} {h : bk_H} {H : Heap} {locs : List Loc} (C : bk_Cx w p s m args meth c cc nL own) (ht : t < 16) (hR : bk_rel w σ h H) (hS : va_S (bk_own w) s.heap H locs) (hreal : bk_real (h.1 t x 0)) : ∃ b, σ x = some b ∧ ∃ cell : Cell, H[b]? = some cell ∧ cell.vm.isStatics = false ∧ s.vm.findClass (bk_cn t) = some cell.cls := by
  obtain ⟨b, hb, hc⟩ := hR.1 t x 0 hreal
  refine ⟨b, hb, ?_⟩
  by_cases h15 : t = 15
  · subst h15
    rcases hc with ⟨z, -⟩ | ⟨z, -⟩ | ⟨z, -⟩ | ⟨z, -⟩ | ⟨z, -⟩ | ⟨-, j, hj, rfl, -⟩ | ⟨z, -⟩ | ⟨z, -⟩
    · omega
    · omega
    · omega
    · omega
    · omega
    · exact vk_recv C.2.2.2.2.2.2.1.2.2.2.2.2.2.1 hj hS
    · omega
    · omega
  · obtain ⟨-, q, V, g1, g2, ⟨cell, c1, c2, c3, -⟩, -⟩ := hc.obj (by omega)
    refine ⟨cell, c1, by rw [c3]; rfl, ?_⟩
    have e1 : bk_cn t = q.1 := by
      unfold bk_cn
      split
      · exact absurd rfl h15
      · rw [g1]
    rw [e1, c2]
    exact (C.2.2.2.2.2.2.1.1.1 t q g1).2.1
theorem bk_fix (C : bk_Cx w p s m args meth c cc nL own) : CallFix p m c cc nL s args lw_all own := ⟨C.1, C.2.1, C.2.2.1, C.2.2.2.1, C.2.2.2.2.1⟩
/-- the room that a call leaves -/
theorem bk_roomOk {d : Nat} {h : bk_H} {r1 : Option Value × bk_H} {maxL : Nat} (Rm : bk_Rm (d + 1) R h0 r) (hle0 : bk_le h0 h) (hle : bk_le h r1.2) (hle2 : bk_le r1.2 r.2) (hm : maxL ≤ 45) :
    ((bk_room d h r1).frames + 1 ≤ R.frames ∧ 8 + (maxL + 11) + (bk_room d h r1).locals ≤ R.locals) ∧ (h.2.1 - h0.2.1 + (r1.2.2.1 - h.2.1) ≤ R.cells ∧ h.2.2 - h0.2.2 + (r1.2.2.2 - h.2.2) ≤ R.slots) := by
  obtain ⟨a1, a2, a3, a4⟩ := Rm
  have b1 := hle0.1
  have b2 := hle0.2
  have b3 := hle.1
  have b4 := hle.2
  have b5 := hle2.1
  have b6 := hle2.2
  refine ⟨⟨?_, ?_⟩, ?_, ?_⟩
  · show d + 16 + 1 ≤ R.frames; omega
  · show 8 + (maxL + 11) + (10300 + 64 * d) ≤ R.locals; omega
  · omega
  · omega
/-- a static method's call -/
theorem bk_o_callS {i m' b k d n maxL : Nat} {v : Value} {ps : List (Int32 × Nat)} {y : MethodName} {ws : List Cond} (G : bk_grow (bk_call d)) (C : bk_Cx w p s m args meth c cc nL own) (Rm : bk_Rm (d + 1) R h0 r) (M : bk_CS1 w l d m' y ws) (hd : decode cc pc = .ok (.invokestatic i, 3)) (hm : maxL ≤ 45) (hne : h0.2.1 ≠ 0)
    (run : ∀ {H : Heap} {locs : List Loc} {ls : Array Slot} {cells slots mc ms : Nat} {rm : Room} {Pc : Array Value → State → Prop} {Qc : Array Value → State → Outcome → State → Prop} {free : Addr → Prop} {As rest : List Value}, Met l y ws rm Pc Qc mc ms free → rm.cells = mc → rm.slots = ms → (rm.frames + 1 ≤ R.frames ∧ 8 + (maxL + 11) + rm.locals ≤ R.locals) → PreS s H Pc As → As.length = b → ls.size = nL →
      (rest.map fun v => v.category).sum ≤ 8 → cells + mc ≤ R.cells ∧ slots + ms ≤ R.slots → va_Run p l e R s m args below meth c H locs cells slots mc ms (F0 m pc ls (As.reverse ++ rest)) rest (Qc As.toArray) free) :
    bk_Ok w p l e R s m args below meth c nL h0 σ0 r Q (bk_call d) pc (.invokestatic i, n, m', b, k, 0, v, ps, []) := by
  intro L st h K hle hs hg hk σ H locs ls st' he hR hS hL hst
  have hs1 : bk_pop b st [] (fun args st => bk_ret (bk_call d) m' k args pc L st h K) = some r := hs
  obtain ⟨as, rest, rfl, hlen, hs2⟩ := bk_pop_inv hs1
  rw [List.append_nil] at hs2
  obtain ⟨r1, hcall, hrm, hs3⟩ := bk_ret_inv hs2
  obtain ⟨as', rest', rfl, ha, hre⟩ := bk_sr_args hst
  have g1 := G _ _ _ _ hcall
  have g2 := hg _ _ _ _ hs3
  have hh : h.2.1 ≠ 0 := by have := hle.1; omega
  have hMet := M as h r1 σ as' hcall hh ha
  obtain ⟨ro1, ro2⟩ := bk_roomOk (maxL := maxL) Rm hle g1 g2 hm
  refine bk_callgo (run (As := as') (rest := rest') hMet rfl rfl ro1 ⟨bk_Pr_blind, bk_Pr_at C hR hS⟩ ((bk_sr_len ha).trans hlen) hL.1 (bk_rm_sum hrm hre) ro2) hS hle g1 fun σ' v' H1 locs1 hx hR1 hS1 hvo => ?_
  exact hk _ _ _ _ g1 hs3 σ' H1 locs1 ls _ (he.tr hx) hR1 hS1 (hL.ext hx) (bk_vo_psh hvo (hre.ext hx))
/-- a call through an object: the rest is as above -/
theorem bk_invgo {m' k d maxL x : Nat} {ins : Instr} {y : MethodName} {ws : List Cond} {as rest : List Value} {L : List Value} {h : bk_H} {K : bk_K} {σ : Nat → Option Nat} {H : Heap} {locs : List Loc} {ls : Array Slot} {st' : List Value} (G : bk_grow (bk_call d)) (C : bk_Cx w p s m args meth c cc nL own) (Rm : bk_Rm (d + 1) R h0 r) (M : bk_CS1 w l d m' y ws) (hm : maxL ≤ 45) (hne : h0.2.1 ≠ 0) (hle : bk_le h0 h)
    (hs : bk_ret (bk_call d) m' k (.ref x :: as) pc L rest h K = some r) (hg : ∀ pc' L' st' h', K pc' L' st' h' = some r → bk_le h' r.2) (hk : ∀ pc' L' st' h', bk_le h h' → K pc' L' st' h' = some r → bk_Gd w p l e R s m args below meth c nL h0 σ0 Q pc' L' st' h')
    (he : bk_ext σ0 σ) (hR : bk_rel w σ h H) (hS : va_S (bk_own w) s.heap H locs) (hL : bk_lr σ L ls nL) (hst : bk_sr σ ((Value.ref x :: as).reverse ++ rest) st') {b : Nat} (hb : σ x = some b)
    (run : ∀ {ls : Array Slot} {cells slots mc ms : Nat} {rm : Room} {Pc : Array Value → State → Prop} {Qc : Array Value → State → Outcome → State → Prop} {free : Addr → Prop} {As rest : List Value}, Met l y ws rm Pc Qc mc ms free → rm.cells = mc → rm.slots = ms → (rm.frames + 1 ≤ R.frames ∧ 8 + (maxL + 11) + rm.locals ≤ R.locals) → FrameBlind Pc → (∀ U : State, U.heap = H → s.WarmedH U.vm → Pc (Value.ref b :: As).toArray U) → As.length = as.length → ls.size = nL →
      (rest.map fun v => v.category).sum ≤ 8 → cells + mc ≤ R.cells ∧ slots + ms ≤ R.slots → va_Run p l e R s m args below meth c H locs cells slots mc ms (F0 m pc ls (As.reverse ++ .ref b :: rest)) rest (Qc (Value.ref b :: As).toArray) free) :
    W p l e R s m args below meth c H locs (h.2.1 - h0.2.1) (h.2.2 - h0.2.2) Q (F0 m pc ls st') := by
  obtain ⟨r1, hcall, hrm, hs3⟩ := bk_ret_inv hs
  obtain ⟨as1, rest', rfl, ha, hre⟩ := bk_sr_args hst
  obtain ⟨y1, as', rfl, hy1, ha'⟩ := ha
  have hy2 : y1 = .ref b := by
    rcases hy1 with ⟨rfl, -⟩ | ⟨b2, hb2, rfl⟩
    · rw [hR.2.2.2.1] at hb; cases hb
    · rw [Option.some.inj (hb2.symm.trans hb)]
  subst hy2
  have g1 := G _ _ _ _ hcall
  have g2 := hg _ _ _ _ hs3
  have hh : h.2.1 ≠ 0 := by have := hle.1; omega
  have hMet := M (.ref x :: as) h r1 σ (.ref b :: as') hcall hh ⟨_, _, rfl, Or.inr ⟨b, hb, rfl⟩, ha'⟩
  obtain ⟨ro1, ro2⟩ := bk_roomOk (maxL := maxL) Rm hle g1 g2 hm
  have e1 : (Value.ref b :: as').reverse ++ rest' = as'.reverse ++ .ref b :: rest' := by simp
  rw [e1]
  refine bk_callgo (run (As := as') (rest := rest') hMet rfl rfl ro1 bk_Pr_blind (bk_Pr_at C hR hS) (bk_sr_len ha') hL.1 (bk_rm_sum hrm hre) ro2) hS hle g1 fun σ' v' H1 locs1 hx hR1 hS1 hvo => ?_
  exact hk _ _ _ _ g1 hs3 σ' H1 locs1 ls _ (he.tr hx) hR1 hS1 (hL.ext hx) (bk_vo_psh hvo (hre.ext hx))
theorem bk_inv_inv {m' b k d' : Nat} {L st : List Value} {h : bk_H} {K : bk_K} (hs : bk_inv cl m' b k d' pc L st h K = some r) : ∃ x as rest, st = (Value.ref x :: as).reverse ++ rest ∧ as.length + 1 = b ∧ bk_real (h.1 d' x 0) ∧ bk_ret cl m' k (.ref x :: as) pc L rest h K = some r := by
  obtain ⟨as, rest, rfl, hlen, hs2⟩ := bk_pop_inv hs
  rw [List.append_nil] at hs2
  rcases as with _ | ⟨u, as⟩
  · cases hs2
  · have hs3 : bk_A u (fun x => bk_V (h.1 d' x 0) (bk_ret cl m' k (u :: as) pc L rest h K)) = some r := hs2
    obtain ⟨x, rfl, hs4⟩ := bk_A_inv hs3
    obtain ⟨hv, hs5⟩ := bk_V_inv hs4
    exact ⟨x, as, rest, rfl, hlen, hv, hs5⟩
/-- a constructor's call -/
theorem bk_o_callI {i m' b k d t n maxL : Nat} {v : Value} {ps : List (Int32 × Nat)} {y : MethodName} {ws : List Cond} (G : bk_grow (bk_call d)) (C : bk_Cx w p s m args meth c cc nL own) (Rm : bk_Rm (d + 1) R h0 r) (M : bk_CS1 w l d m' y ws) (hd : decode cc pc = .ok (.invokespecial i, 3)) (hm : maxL ≤ 45) (hne : h0.2.1 ≠ 0) (ht : t < 16)
    (run : ∀ {H : Heap} {locs : List Loc} {ls : Array Slot} {cells slots mc ms : Nat} {rm : Room} {Pc : Array Value → State → Prop} {Qc : Array Value → State → Outcome → State → Prop} {free : Addr → Prop} {As rest : List Value} {b' : Nat}, Met l y ws rm Pc Qc mc ms free → rm.cells = mc → rm.slots = ms → (rm.frames + 1 ≤ R.frames ∧ 8 + (maxL + 11) + rm.locals ≤ R.locals) → PreS s H Pc (.ref b' :: As) → As.length + 1 = b → ls.size = nL →
      (rest.map fun v => v.category).sum ≤ 8 → cells + mc ≤ R.cells ∧ slots + ms ≤ R.slots → va_Run p l e R s m args below meth c H locs cells slots mc ms (F0 m pc ls (As.reverse ++ .ref b' :: rest)) rest (Qc (Value.ref b' :: As).toArray) free) :
    bk_Ok w p l e R s m args below meth c nL h0 σ0 r Q (bk_call d) pc (.invokespecial i, n, m', b, k, t, v, ps, []) := by
  intro L st h K hle hs hg hk σ H locs ls st' he hR hS hL hst
  have hs1 : bk_inv (bk_call d) m' b k t pc L st h K = some r := by
    rcases (show t = 0 ∨ t = 1 ∨ t = 2 ∨ t = 3 ∨ t = 4 ∨ t = 5 ∨ t = 6 ∨ t = 7 ∨ t = 8 ∨ t = 9 ∨ t = 10 ∨ t = 11 ∨ t = 12 ∨ t = 13 ∨ t = 14 ∨ t = 15 by omega) with rfl | rfl | rfl | rfl | rfl | rfl | rfl | rfl | rfl | rfl | rfl | rfl | rfl | rfl | rfl | rfl <;> exact hs
  obtain ⟨x, as, rest, rfl, hlen, hreal, hs2⟩ := bk_inv_inv hs1
  obtain ⟨b', hb, -⟩ := bk_recv C ht hR hS hreal
  exact bk_invgo (ins := .nop) G C Rm M hm hne hle hs2 hg hk he hR hS hL hst hb fun hMet h1 h2 h3 h4 h5 h6 h7 h8 h9 => run hMet h1 h2 h3 ⟨h4, h5⟩ (by rw [h6]; exact hlen) h7 h8 h9
/-- an object's method's call -/
theorem bk_o_callV {i m' b k d t n maxL : Nat} {v : Value} {ps : List (Int32 × Nat)} {y : MethodName} {ws : List Cond} (G : bk_grow (bk_call d)) (C : bk_Cx w p s m args meth c cc nL own) (Rm : bk_Rm (d + 1) R h0 r) (M : bk_CS1 w l d m' y ws) (hd : decode cc pc = .ok (.invokevirtual i, 3)) (hm : maxL ≤ 45) (hne : h0.2.1 ≠ 0) (ht : t < 16)
    (run : ∀ {H : Heap} {locs : List Loc} {ls : Array Slot} {cells slots mc ms : Nat} {rm : Room} {Pc : Array Value → State → Prop} {Qc : Array Value → State → Outcome → State → Prop} {free : Addr → Prop} {As rest : List Value} {b' : Nat}, Met l y ws rm Pc Qc mc ms free → rm.cells = mc → rm.slots = ms → (rm.frames + 1 ≤ R.frames ∧ 8 + (maxL + 11) + rm.locals ≤ R.locals) → PreV s H (bk_cn t) b' Pc As → As.length + 1 = b → ls.size = nL →
      (rest.map fun v => v.category).sum ≤ 8 → cells + mc ≤ R.cells ∧ slots + ms ≤ R.slots → va_Run p l e R s m args below meth c H locs cells slots mc ms (F0 m pc ls (As.reverse ++ .ref b' :: rest)) rest (Qc (Value.ref b' :: As).toArray) free) :
    bk_Ok w p l e R s m args below meth c nL h0 σ0 r Q (bk_call d) pc (.invokevirtual i, n, m', b, k, t, v, ps, []) := by
  intro L st h K hle hs hg hk σ H locs ls st' he hR hS hL hst
  have hs1 : bk_inv (bk_call d) m' b k t pc L st h K = some r := by
    rcases (show t = 0 ∨ t = 1 ∨ t = 2 ∨ t = 3 ∨ t = 4 ∨ t = 5 ∨ t = 6 ∨ t = 7 ∨ t = 8 ∨ t = 9 ∨ t = 10 ∨ t = 11 ∨ t = 12 ∨ t = 13 ∨ t = 14 ∨ t = 15 by omega) with rfl | rfl | rfl | rfl | rfl | rfl | rfl | rfl | rfl | rfl | rfl | rfl | rfl | rfl | rfl | rfl <;> exact hs
  obtain ⟨x, as, rest, rfl, hlen, hreal, hs2⟩ := bk_inv_inv hs1
  obtain ⟨b', hb, hrecv⟩ := bk_recv C ht hR hS hreal
  exact bk_invgo (ins := .nop) G C Rm M hm hne hle hs2 hg hk he hR hS hL hst hb fun hMet h1 h2 h3 h4 h5 h6 h7 h8 h9 => run hMet h1 h2 h3 ⟨h4, hrecv, h5⟩ (by rw [h6]; exact hlen) h7 h8 h9
end BKU
