/-! SOUNDNESS, ninth part: a method whole -/
set_option maxRecDepth 100000
theorem bk_run_grow {T : Nat → bk_O} {cl : bk_C} (G : bk_grow cl) : ∀ (n pc : Nat) (L st : List Value) (h : bk_H) (r : Option Value × bk_H), bk_run T cl n pc L st h = some r → bk_le h r.2
  | 0, pc, L, st, h, r, e => by cases e
  | n + 1, pc, L, st, h, r, e => by
    have e1 : bk_sem (T pc) cl pc L st h (bk_run T cl n) = some r := e
    rcases bk_sem_T (T pc) cl pc L st h with ⟨v, hv, hl⟩ | ⟨pc', L', st', h', hl, hv⟩ <;> dsimp only at hv
    · rw [hv] at e1
      exact hl G r e1
    · rw [hv] at e1
      exact bk_le_tr (hl G) (bk_run_grow G n _ _ _ _ _ e1)
theorem bk_call_grow : ∀ d, bk_grow (bk_call d)
  | 0 => fun m args h r e => by cases e
  | d + 1 => fun m args h r e => by
    have e1 : (bif Nat.ble (bk_exp args).length (bk_P m).2 then bk_den (bk_P m).1 (bk_call d) 0 (bk_ini args (bk_P m).2) [] h else none) = some r := e
    cases hb : Nat.ble (bk_exp args).length (bk_P m).2 with
    | false => rw [hb] at e1; cases e1
    | true =>
      rw [hb] at e1
      obtain ⟨n, hn⟩ := bk_den_run.mp e1
      exact bk_run_grow (bk_call_grow d) n _ _ _ _ _ hn
theorem bk_sl_len {σ : Nat → Option Nat} : ∀ {as as' : List Value}, bk_sr σ as as' → (lg_sl as').length = (bk_exp as).length
  | [], as', h => by cases h; rfl
  | v :: as, as', ⟨y, t, e, h1, h2⟩ => by
    subst e
    have hc := bk_vr_cat h1
    have ih := bk_sl_len h2
    have e1 : lg_sl (y :: t) = (if y.category = 2 then [.val y, .second] else [.val y]) ++ lg_sl t := by simp [lg_sl]
    rw [e1, hc, List.length_append, ih]
    cases v with
    | long x => show 2 + (bk_exp as).length = (bk_exp as).length + 1 + 1; omega
    | int x => show 1 + (bk_exp as).length = (bk_exp as).length + 1; omega
    | ref x => show 1 + (bk_exp as).length = (bk_exp as).length + 1; omega
    | float x => show 1 + (bk_exp as).length = (bk_exp as).length + 1; omega
    | _ => exact h1.elim
theorem bk_exp_at {σ : Nat → Option Nat} : ∀ {as as' : List Value} (off i : Nat), bk_sr σ as as' → bk_get (bk_exp as) i = .retAddr 0 ∨ ∃ y, bk_vr σ (bk_get (bk_exp as) i) y ∧ (off + i, y) ∈ lv_args off as'
  | [], as', off, i, h => Or.inl rfl
  | v :: as, as', off, i, ⟨y, t, e, h1, h2⟩ => by
    subst e
    have hc := bk_vr_cat h1
    have one : bk_exp (v :: as) = v :: bk_exp as → v.category = 1 → bk_get (bk_exp (v :: as)) i = .retAddr 0 ∨ ∃ z, bk_vr σ (bk_get (bk_exp (v :: as)) i) z ∧ (off + i, z) ∈ lv_args off (y :: t) := by
      intro e1 e2
      rw [e1]
      have ea : lv_args off (y :: t) = (off, y) :: lv_args (off + 1) t := by
        show (off, y) :: lv_args (if y.category = 2 then off + 2 else off + 1) t = _
        rw [if_neg (by omega)]
      rw [ea]
      rcases i with _ | i
      · exact Or.inr ⟨y, h1, List.mem_cons_self⟩
      · rcases bk_exp_at (off + 1) i h2 with g | ⟨z, g1, g2⟩
        · exact Or.inl g
        · refine Or.inr ⟨z, g1, List.mem_cons_of_mem _ ?_⟩
          have : off + (i + 1) = off + 1 + i := by omega
          rw [this]; exact g2
    cases v with
    | long x =>
      have ea : lv_args off (y :: t) = (off, y) :: lv_args (off + 2) t := by
        show (off, y) :: lv_args (if y.category = 2 then off + 2 else off + 1) t = _
        rw [if_pos (show y.category = 2 from hc)]
      rw [ea]
      show bk_get (.long x :: bk_u :: bk_exp as) i = _ ∨ ∃ z, bk_vr σ (bk_get (.long x :: bk_u :: bk_exp as) i) z ∧ _
      rcases i with _ | _ | i
      · exact Or.inr ⟨y, h1, List.mem_cons_self⟩
      · exact Or.inl rfl
      · rcases bk_exp_at (off + 2) i h2 with g | ⟨z, g1, g2⟩
        · exact Or.inl g
        · refine Or.inr ⟨z, g1, List.mem_cons_of_mem _ ?_⟩
          have : off + (i + 1 + 1) = off + 2 + i := by omega
          rw [this]; exact g2
    | int x => exact one rfl rfl
    | ref x => exact one rfl rfl
    | float x => exact one rfl rfl
    | _ => exact h1.elim
theorem bk_get_app : ∀ (a : List Value) (k i : Nat), bk_get (a ++ List.replicate k bk_u) i = bk_get a i
  | [], 0, i => rfl
  | [], k + 1, 0 => rfl
  | [], k + 1, i + 1 => bk_get_app [] k i
  | v :: a, k, 0 => rfl
  | v :: a, k, i + 1 => bk_get_app a k i
theorem bk_entry_lr {σ : Nat → Option Nat} {as as' : List Value} {n : Nat} (h : bk_sr σ as as') (hn : (bk_exp as).length ≤ n) : bk_lr σ (bk_ini as n) ((lg_sl as' ++ List.replicate (n - (lg_sl as').length) Slot.unset).toArray) n := by
  have hl := bk_sl_len h
  have he := lv_entry as' (n := n) (by rw [hl]; exact hn)
  refine ⟨he.1, ?_, he.2.1, fun i => ?_⟩
  · unfold bk_ini
    rw [List.length_append, List.length_replicate]
    omega
  · unfold bk_ini
    rw [bk_get_app]
    rcases bk_exp_at 0 i h with g | ⟨y, g1, g2⟩
    · exact Or.inl g
    · rw [Nat.zero_add] at g2
      exact Or.inr ⟨y, g1, he.2.2 _ g2⟩
/-- what a method gives back, by its number and its type -/
def bk_rty (rk : Nat) (ret : Option FieldType) : Prop := (rk = 0 ∧ ret = some .int) ∨ (rk = 1 ∧ ret = some .boolean) ∨ (rk = 2 ∧ ret = some .byte) ∨ (rk = 3 ∧ ret = some .char) ∨ (rk = 4 ∧ ret = some .long) ∨ (rk = 5 ∧ ∃ n, ret = some (.object n)) ∨ (rk = 6 ∧ ret = none)
theorem bk_nar_char {x : Int32} (h : (x.toUInt32 % 65536).toInt32 = x) : narrow .char (.int x) = .int x := by
  rw [← h]; exact pk_nc _
section BKM
variable {w : bk_W} {l : Launch}
theorem bk_runs {p : Program} {e : Env} {R : Room} {s : State} {m : MethodId} {args : Array Value} {below : List Frame} {meth : Method} {c : Code} {nL : Nat} {h0 : bk_H} {σ0 : Nat → Option Nat} {r : Option Value × bk_H} {Q : State → Prop} {T : Nat → bk_O} {cl : bk_C} (G : bk_grow cl)
    (hok : ∀ pc, bk_Ok w p l e R s m args below meth c nL h0 σ0 r Q cl pc (T pc)) : ∀ (n pc : Nat) (L st : List Value) (h : bk_H), bk_le h0 h → bk_run T cl n pc L st h = some r → bk_Gd w p l e R s m args below meth c nL h0 σ0 Q pc L st h
  | 0, pc, L, st, h, _, e => by cases e
  | n + 1, pc, L, st, h, hle, hr => by
    have e1 : bk_sem (T pc) cl pc L st h (bk_run T cl n) = some r := hr
    exact hok pc L st h _ hle e1 (fun pc' L' st' h' q => bk_run_grow G n _ _ _ _ _ q) (fun pc' L' st' h' q1 q2 => bk_runs G hok n pc' L' st' h' (bk_le_tr hle q1) q2)
theorem bk_rt {p : Program} {e : Env} {R : Room} {s : State} {m : MethodId} {args : Array Value} {below : List Frame} {meth : Method} {c : Code} {cc : ByteArray} {h0 : bk_H} {σ0 : Nat → Option Nat} {r : Option Value × bk_H} {rk : Nat} {ret : Option FieldType} (hx : p.tables.exec = Jvm.exec) (hb : c.code = cc) (hr : meth.sig.returnType = ret) (hlk : meth.locks = false) (hrk : bk_rty rk ret) :
    bk_Rt w p l e R s m args below meth c cc h0 σ0 r (MQ below (bk_Qc w σ0 r) args s (r.2.2.1 - h0.2.1) (r.2.2.2 - h0.2.2) (bk_own w)) rk := by
  intro σ H locs ls pc st' he hR hS hcase
  have hq : ∀ (v' : Option Value), bk_vo σ r.1 v' → ∀ t : State, t.heap = H → s.WarmedH t.vm → bk_Qc w σ0 r args s (.returned v') t := fun v' hv t ht _ => ⟨⟨v', σ, rfl, he, by rw [ht]; exact hR, hv⟩, hS.F ht⟩
  rcases hcase with ⟨k1, k2, k3, rfl⟩ | ⟨k1, x, k2, k3, rfl, k4⟩ | ⟨k1, x, k2, k3, rfl⟩ | ⟨k1, x, y, k2, k3, rfl, k4⟩
  · have hr0 : ret = none := by
      rcases hrk with ⟨q, -⟩ | ⟨q, -⟩ | ⟨q, -⟩ | ⟨q, -⟩ | ⟨q, -⟩ | ⟨q, -⟩ | ⟨-, q⟩
      all_goals first | exact q | omega
    exact W.vret hx hb (hr.trans hr0) (hq none (by rw [k2]; exact rfl)) hS.2.2 k3 hlk
  · have hv : bk_vo σ r.1 (some (.int x)) := by rw [k2]; exact ⟨_, rfl, rfl⟩
    rcases hrk with ⟨q, hr0⟩ | ⟨q, hr0⟩ | ⟨q, hr0⟩ | ⟨q, hr0⟩ | ⟨q, -⟩ | ⟨q, -⟩ | ⟨q, -⟩
    · exact W.iret hx hb (hr.trans hr0) (hq _ hv) hS.2.2 k3 hlk
    · refine W.zret hx hb (hr.trans hr0) ?_ (hq _ hv) hS.2.2 k3 hlk
      rcases k4 with k4 | ⟨-, k4⟩ | ⟨k4, -⟩ | ⟨k4, -⟩
      · omega
      · rcases k4 with rfl | rfl <;> decide +kernel
      · omega
      · omega
    · refine W.zret hx hb (hr.trans hr0) ?_ (hq _ hv) hS.2.2 k3 hlk
      rcases k4 with k4 | ⟨k4, -⟩ | ⟨-, k4⟩ | ⟨k4, -⟩
      · omega
      · omega
      · rw [narrow_byte, k4]
      · omega
    · refine W.zret hx hb (hr.trans hr0) ?_ (hq _ hv) hS.2.2 k3 hlk
      rcases k4 with k4 | ⟨k4, -⟩ | ⟨k4, -⟩ | ⟨-, k4⟩
      · omega
      · omega
      · omega
      · exact bk_nar_char k4
    all_goals omega
  · have hr0 : ret = some .long := by
      rcases hrk with ⟨q, -⟩ | ⟨q, -⟩ | ⟨q, -⟩ | ⟨q, -⟩ | ⟨-, q⟩ | ⟨q, -⟩ | ⟨q, -⟩
      all_goals first | exact q | omega
    exact W.lret hx hb (hr.trans hr0) (hq _ (by rw [k2]; exact ⟨_, rfl, rfl⟩)) hS.2.2 k3 hlk
  · have hr0 : ∃ n, ret = some (.object n) := by
      rcases hrk with ⟨q, -⟩ | ⟨q, -⟩ | ⟨q, -⟩ | ⟨q, -⟩ | ⟨q, -⟩ | ⟨-, q⟩ | ⟨q, -⟩
      all_goals first | exact q | omega
    obtain ⟨n, hr0⟩ := hr0
    refine W.aret hx hb (hr.trans hr0) (Or.inl ⟨n, rfl⟩) ?_ (hq _ (by rw [k2]; exact ⟨_, rfl, k4⟩)) hS.2.2 k3 hlk
    rcases k4 with ⟨-, rfl⟩ | ⟨b, -, rfl⟩
    · exact Or.inl rfl
    · exact Or.inr ⟨b, rfl⟩
/-- a method whose instructions are right -/
theorem bk_meth {m' nL d rk : Nat} {cc : ByteArray} {own : String} {ret : Option FieldType} {T : Nat → bk_O} {y : MethodName} (hP : bk_P m' = (T, nL)) (hy : plainName y.cls = true) (hown : y.cls = own) (hrk : bk_rty rk ret)
    (hok : ∀ (p : Program) (e : Env) (R : Room) (s : State) (m : MethodId) (args : Array Value) (below : List Frame) (meth : Method) (c : Code) (h0 : bk_H) (σ0 : Nat → Option Nat) (r : Option Value × bk_H) (Q : State → Prop), bk_Cx w p s m args meth c cc nL own → bk_Rm (d + 1) R h0 r → meth.name = y.name → h0.2.1 ≠ 0 →
      bk_Rt w p l e R s m args below meth c cc h0 σ0 r Q rk → ∀ pc, bk_Ok w p l e R s m args below meth c nL h0 σ0 r Q (bk_call d) pc (T pc)) : bk_CS1 w l (d + 1) m' y (ws_ y cc nL ret) := by
  intro as h r σ as' hcall hh hsr
  have e1 : (bif Nat.ble (bk_exp as).length (bk_P m').2 then bk_den (bk_P m').1 (bk_call d) 0 (bk_ini as (bk_P m').2) [] h else none) = some r := hcall
  rw [hP] at e1
  cases hb : Nat.ble (bk_exp as).length nL with
  | false => rw [show Nat.ble (bk_exp as).length (T, nL).2 = false from hb] at e1; cases e1
  | true =>
    rw [show Nat.ble (bk_exp as).length (T, nL).2 = true from hb] at e1
    obtain ⟨n, hn⟩ := bk_den_run.mp e1
    refine Met.ofW (cc := cc) (maxL := nL) (ret := ret) hy rfl ?_
    intro p e s m args below meth c s₁ B hml hv
    obtain ⟨rfl, hbs, hR, hK⟩ := hv
    have hts := atoms_spec (ws := ws_ y cc nL ret) B.pre
    have hts : ∀ x ∈ lw_all, x.before _ s = true := fun x hx => hts x (List.mem_cons_of_mem _ hx)
    have C : bk_Cx w p s m as'.toArray meth c cc nL own := ⟨B.exec, B.bytes, hml, hown ▸ findClass_of_methodNamed B.named, hts, B.notSynchronized, hK, hbs⟩
    have hnm : meth.name = y.name := (name_of_methodNamed B.named B.method).1
    have Rm : bk_Rm (d + 1) (bk_room (d + 1) h r) h r := ⟨Nat.le_refl _, Nat.le_refl _, Nat.le_refl _, Nat.le_refl _⟩
    have hrt := bk_rt (w := w) (l := l) (p := p) (e := e) (R := bk_room (d + 1) h r) (s := s) (m := m) (args := as'.toArray) (below := below) (h0 := h) (σ0 := σ) (r := r) (rk := rk) B.exec B.bytes B.returns B.notSynchronized hrk
    have hW := bk_runs (bk_call_grow d) (hok p e (bk_room (d + 1) h r) s m as'.toArray below meth c h σ r _ C Rm hnm hh hrt) n 0 (bk_ini as nL) [] h (bk_le_rf h) hn σ s.heap [] _ [] bk_ext.rf hR va_S.rf (bk_entry_lr hsr (Nat.ble_eq.mp hb)) rfl
    rw [Nat.sub_self, Nat.sub_self] at hW
    rw [lg_entry_eq]
    exact hW
end BKM
