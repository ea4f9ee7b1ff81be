/-! SOUNDNESS, fourth part: instructions that read and write the heap -/
set_option maxRecDepth 100000
section BKQ
variable {w : bk_W} {p : Program} {l : Launch} {e : Env} {R : Room} {s : State} {m : MethodId} {args : Array Value} {below : List Frame} {meth : Method} {c : Code} {cc : ByteArray} {nL : Nat} {own : String} {h0 : bk_H} {σ0 : Nat → Option Nat} {r : Option Value × bk_H} {Q : State → Prop} {cl : bk_C} {pc : Nat}
theorem bk_sr_at {σ : Nat → Option Nat} {a b : Nat} {st x' : List Value} (h0 : σ 0 = none) (hb : σ a = some b) (h : bk_sr σ (.ref a :: st) x') : ∃ t, x' = .ref b :: t ∧ bk_sr σ st t := by
  obtain ⟨y, t, rfl, hy, ht⟩ := bk_sr_ref h
  rcases hy with ⟨rfl, -⟩ | ⟨z, hz, rfl⟩
  · rw [h0] at hb; cases hb
  · cases hb.symm.trans hz
    exact ⟨t, rfl, ht⟩
/-- a field of an object of the own classes: how the machine finds it -/
theorem bk_fieldAt {q : vw_C} {t k b : Nat} {H : Heap} {V : Nat → Value} (C : bk_Cx w p s m args meth c cc nL own) (hq : bk_cl[t]? = some q) (hin : ∀ x ∈ u_ws q.1 q.2.1 q.2.2, x ∈ lw_all) (hk : k < q.2.2) (hO : t_OB b (w.1.1 t) q.2.2 (w.1.2 t) H V) :
    ∃ (cell : Cell) (cf : ClassId) (kf : Class) (fi : Nat) (f : Field), H[b]? = some cell ∧ cell.cls = w.1.1 t ∧ cell.vm = .none ∧ (∀ j, j < q.2.2 → cell.slots[w.1.2 t j]? = some (V j)) ∧ s.fieldFound? (q.2.1 k).1 (q.2.1 k).2.1 (q.2.1 k).2.2.1 = some (cf, kf, fi, f) ∧ f.slot = w.1.2 t k ∧ f.isStatic = false ∧
      ∃ kC : Class, s.vm.findClass q.1 = some (w.1.1 t) ∧ s.vm.classes[w.1.1 t]? = some kC ∧ kC.kind = .ordinary := by
  obtain ⟨cell, c1, c2, c3, c4⟩ := hO
  obtain ⟨hS, hfc, kC, hkC, hkind⟩ := C.2.2.2.2.2.2.1.1.1 t q hq
  obtain ⟨cf, kf, fi, f, hi, hsl⟩ := hS k hk
  exact ⟨cell, cf, kf, fi, f, c1, c2, c3, c4, hi, hsl, (u_facts hfc hkC (u_lays C.2.2.2.2.1 hin hk) hi).1, kC, hfc, hkC, hkind⟩
theorem bk_getf_inv {i t k kind d : Nat} {v : Value} {ps : List (Int32 × Nat)} {L st : List Value} {h : bk_H} {K : bk_K} (hs : bk_sem (.getfield i, 3, t, k, kind, d, v, ps, []) cl pc L st h K = some r) : ∃ (x : Nat) (st1 : List Value) (u : Value), st = .ref x :: st1 ∧ h.1 t x k = u ∧ bk_real u ∧ K (pc + 3) L (u :: st1) h = some r := by
  rcases st with _ | ⟨y, st⟩
  · cases hs
  · rcases kind with _ | kind
    · have hs1 : bk_A y (fun x => bk_I (h.1 t x k) fun y => K (pc + 3) L (.int y :: st) h) = some r := hs
      obtain ⟨x, hx, hs2⟩ := bk_A_inv hs1
      subst hx
      obtain ⟨y, hy, hs3⟩ := bk_I_inv hs2
      exact ⟨x, st, _, rfl, hy, bk_real_i _, hs3⟩
    · have hs1 : bk_A y (fun x => bk_A (h.1 t x k) fun y => K (pc + 3) L (.ref y :: st) h) = some r := hs
      obtain ⟨x, hx, hs2⟩ := bk_A_inv hs1
      subst hx
      obtain ⟨y, hy, hs3⟩ := bk_A_inv hs2
      exact ⟨x, st, _, rfl, hy, bk_real_r _, hs3⟩
theorem bk_o_getf {i t k kind d : Nat} {v : Value} {ps : List (Int32 × Nat)} {q : vw_C} (C : bk_Cx w p s m args meth c cc nL own) (hd : decode cc pc = .ok (.getfield i, 3)) (ht : t < 15) (hq : bk_cl[t]? = some q) (hin : ∀ x ∈ u_ws q.1 q.2.1 q.2.2, x ∈ lw_all) (hl : Cond.fieldLink own i (q.2.1 k).1 (q.2.1 k).2.1 (q.2.1 k).2.2.1 ∈ lw_all) :
    bk_Ok w p l e R s m args below meth c nL h0 σ0 r Q cl pc (.getfield i, 3, t, k, kind, d, v, ps, []) := by
  intro L st h K hle hs hg hk σ H locs ls st' he hR hS hL hst
  obtain ⟨x, st1, u, rfl, hu, hreal, hs1⟩ := bk_getf_inv hs
  obtain ⟨b, hb, hc⟩ := hR.read hu hreal
  obtain ⟨-, q', V, g1, g2, g3, g4⟩ := hc.obj ht
  cases hq.symm.trans g1
  obtain ⟨t1, rfl, ht1⟩ := bk_sr_at hR.2.2.2.1 hb hst
  obtain ⟨cell, cf, kf, fi, f, c1, c2, c3, c4, hi, hsl, hstat, -⟩ := bk_fieldAt C hq hin g2 g3
  refine W.getf C.1 C.2.1 C.2.2.2.1 (C.2.2.2.2.1 _ hl) hi hstat c1 (by rw [c3]; exact fun z => by cases z) (v := V k) (by rw [hsl]; exact c4 k g2) rfl rfl hd ?_
  exact hk _ _ _ _ (bk_le_rf _) hs1 σ H locs ls _ he hR hS hL ⟨_, _, rfl, g4, ht1⟩
theorem bk_o_getfN {i t k kind d : Nat} {v : Value} {ps : List (Int32 × Nat)} {q : vw_C} {host : String} (C : bk_Cx w p s m args meth c cc nL own) (hd : decode cc pc = .ok (.getfield i, 3)) (ht : t < 15) (hq : bk_cl[t]? = some q) (hin : ∀ x ∈ u_ws q.1 q.2.1 q.2.2, x ∈ lw_all) (hl : Cond.fieldLinkNest own i (q.2.1 k).1 (q.2.1 k).2.1 (q.2.1 k).2.2.1 host ∈ lw_tbl) :
    bk_Ok w p l e R s m args below meth c nL h0 σ0 r Q cl pc (.getfield i, 3, t, k, kind, d, v, ps, []) := by
  intro L st h K hle hs hg hk σ H locs ls st' he hR hS hL hst
  obtain ⟨x, st1, u, rfl, hu, hreal, hs1⟩ := bk_getf_inv hs
  obtain ⟨b, hb, hc⟩ := hR.read hu hreal
  obtain ⟨-, q', V, g1, g2, g3, g4⟩ := hc.obj ht
  cases hq.symm.trans g1
  obtain ⟨t1, rfl, ht1⟩ := bk_sr_at hR.2.2.2.1 hb hst
  obtain ⟨cell, cf, kf, fi, f, c1, c2, c3, c4, hi, hsl, hstat, -⟩ := bk_fieldAt C hq hin g2 g3
  have hnw : va_Nw (Cond.fieldLinkNest own i (q.2.1 k).1 (q.2.1 k).2.1 (q.2.1 k).2.2.1 host) s := C.2.2.2.2.2.2.1.2.2.2.2.2.2.2.2.2.2.1 _ hl rfl
  refine va_Wgetf C.1 C.2.1 C.2.2.2.1 (va_Nw.use rfl hnw) hi hstat c1 (by rw [c3]; exact fun z => by cases z) (v := V k) (by rw [hsl]; exact c4 k g2) rfl rfl hd ?_
  exact hk _ _ _ _ (bk_le_rf _) hs1 σ H locs ls _ he hR hS hL ⟨_, _, rfl, g4, ht1⟩
/-- String's two fields -/
theorem bk_o_getfS {i k kind d : Nat} {v : Value} {ps : List (Int32 × Nat)} (C : bk_Cx w p s m args meth c cc nL own) (hd : decode cc pc = .ok (.getfield i, 3)) (hl : (k = 0 ∧ Cond.fieldLink own i "java/lang/String" "value" "[B" ∈ lw_all) ∨ (k = 1 ∧ Cond.fieldLink own i "java/lang/String" "coder" "B" ∈ lw_all)) :
    bk_Ok w p l e R s m args below meth c nL h0 σ0 r Q cl pc (.getfield i, 3, 15, k, kind, d, v, ps, []) := by
  intro L st h K hle hs hg hk σ H locs ls st' he hR hS hL hst
  obtain ⟨x, st1, u, rfl, hu, hreal, hs1⟩ := bk_getf_inv hs
  obtain ⟨b, hb, hc⟩ := hR.read hu hreal
  obtain ⟨t1, rfl, ht1⟩ := bk_sr_at hR.2.2.2.1 hb hst
  rcases hc with ⟨z, -⟩ | ⟨z, -⟩ | ⟨z, -⟩ | ⟨z, -⟩ | ⟨z, -⟩ | ⟨-, j, hj, rfl, hkv⟩ | ⟨z, -⟩ | ⟨z, -⟩
  · omega
  · omega
  · omega
  · omega
  · omega
  · obtain ⟨-, o2, o3, -⟩ := C.2.2.2.2.2.2.1.2.2.2.2.2.2.1.1 j hj
    rcases hkv with ⟨rfl, a, rfl, ha⟩ | ⟨rfl, rfl⟩
    · rcases hl with ⟨-, hl⟩ | ⟨z, -⟩
      · exact vk_getf C.1 C.2.1 o3 hS C.2.2.2.1 (C.2.2.2.2.1 _ hl) (fun _ z => z) hd (hk _ _ _ _ (bk_le_rf _) hs1 σ H locs ls _ he hR hS hL ⟨_, _, rfl, Or.inr ⟨_, ha, rfl⟩, ht1⟩)
      · cases z
    · rcases hl with ⟨z, -⟩ | ⟨-, hl⟩
      · cases z
      · exact vk_getf C.1 C.2.1 o2 hS C.2.2.2.1 (C.2.2.2.2.1 _ hl) (fun _ z => z) hd (hk _ _ _ _ (bk_le_rf _) hs1 σ H locs ls _ he hR hS hL ⟨_, _, rfl, rfl, ht1⟩)
  · omega
  · omega
theorem bk_putf_inv {i t k kind d : Nat} {v : Value} {ps : List (Int32 × Nat)} {L st : List Value} {h : bk_H} {K : bk_K} (hs : bk_sem (.putfield i, 3, t, k, kind, d, v, ps, []) cl pc L st h K = some r) : ∃ (x : Nat) (st1 : List Value) (u u0 : Value), st = u :: .ref x :: st1 ∧ h.1 t x k = u0 ∧ bk_real u0 ∧ bk_real u ∧
    ((kind = 0 ∧ ∃ y, u = .int y) ∨ (kind = 2 ∧ ∃ y, u = .int y ∧ (y = 0 ∨ y = 1)) ∨ (kind = 1 ∧ ∃ y, u = .ref y) ∨ 2 < kind) ∧ K (pc + 3) L st1 (bk_put h t x k u) = some r := by
  rcases st with _ | ⟨u, _ | ⟨y, st⟩⟩
  · cases hs
  · cases hs
  · rcases kind with _ | _ | _ | kind
    · have hs1 : bk_A y (fun x => bk_I u fun y => bk_I (h.1 t x k) fun _ => K (pc + 3) L st (bk_put h t x k (.int y))) = some r := hs
      obtain ⟨x, hx, hs2⟩ := bk_A_inv hs1
      subst hx
      obtain ⟨y, rfl, hs3⟩ := bk_I_inv hs2
      obtain ⟨z, hz, hs4⟩ := bk_I_inv hs3
      exact ⟨x, st, _, _, rfl, hz, bk_real_i _, bk_real_i _, Or.inl ⟨rfl, _, rfl⟩, hs4⟩
    · have hs1 : bk_A y (fun x => bk_A u fun y => bk_A (h.1 t x k) fun _ => K (pc + 3) L st (bk_put h t x k (.ref y))) = some r := hs
      obtain ⟨x, hx, hs2⟩ := bk_A_inv hs1
      subst hx
      obtain ⟨y, rfl, hs3⟩ := bk_A_inv hs2
      obtain ⟨z, hz, hs4⟩ := bk_A_inv hs3
      exact ⟨x, st, _, _, rfl, hz, bk_real_r _, bk_real_r _, Or.inr (Or.inr (Or.inl ⟨rfl, _, rfl⟩)), hs4⟩
    · have hs1 : bk_A y (fun x => bk_I u fun y => bk_bl y (bk_I (h.1 t x k) fun _ => K (pc + 3) L st (bk_put h t x k (.int y)))) = some r := hs
      obtain ⟨x, hx, hs2⟩ := bk_A_inv hs1
      subst hx
      obtain ⟨y, rfl, hs3⟩ := bk_I_inv hs2
      obtain ⟨hbl, hs4⟩ := bk_bl_inv hs3
      obtain ⟨z, hz, hs5⟩ := bk_I_inv hs4
      exact ⟨x, st, _, _, rfl, hz, bk_real_i _, bk_real_i _, Or.inr (Or.inl ⟨rfl, _, rfl, hbl⟩), hs5⟩
    · have hs1 : bk_A y (fun x => bk_A u fun y => bk_A (h.1 t x k) fun _ => K (pc + 3) L st (bk_put h t x k (.ref y))) = some r := hs
      obtain ⟨x, hx, hs2⟩ := bk_A_inv hs1
      subst hx
      obtain ⟨y, rfl, hs3⟩ := bk_A_inv hs2
      obtain ⟨z, hz, hs4⟩ := bk_A_inv hs3
      exact ⟨x, st, _, _, rfl, hz, bk_real_r _, bk_real_r _, Or.inr (Or.inr (Or.inr (by omega))), hs4⟩
/-- what a field of this type takes -/
def bk_fty (kind : Nat) (ty : FieldType) : Prop := (kind = 0 ∧ ty = .int) ∨ (kind = 2 ∧ ty = .boolean) ∨ (kind = 1 ∧ ((∃ n, ty = .object n) ∨ ∃ t, ty = .array t))
theorem bk_fits {kind : Nat} {ty : FieldType} {σ : Nat → Option Nat} {u x : Value} (hty : bk_fty kind ty) (hu : (kind = 0 ∧ ∃ y, u = .int y) ∨ (kind = 2 ∧ ∃ y, u = .int y ∧ (y = 0 ∨ y = 1)) ∨ (kind = 1 ∧ ∃ y, u = .ref y) ∨ 2 < kind) (hx : bk_vr σ u x) : narrow ty x = x ∧ fits ty x = true := by
  rcases hty with ⟨rfl, rfl⟩ | ⟨rfl, rfl⟩ | ⟨rfl, hty⟩
  · rcases hu with ⟨-, y, rfl⟩ | ⟨z, -⟩ | ⟨z, -⟩ | z
    · rw [show x = .int y from hx]; exact ⟨rfl, rfl⟩
    · omega
    · omega
    · omega
  · rcases hu with ⟨z, -⟩ | ⟨-, y, rfl, hy⟩ | ⟨z, -⟩ | z
    · omega
    · rw [show x = .int y from hx]
      rcases hy with rfl | rfl
      · exact ⟨by decide +kernel, by decide +kernel⟩
      · exact ⟨by decide +kernel, by decide +kernel⟩
    · omega
    · omega
  · rcases hu with ⟨z, -⟩ | ⟨z, -⟩ | ⟨-, y, rfl⟩ | z
    · omega
    · omega
    · rcases hx with ⟨-, rfl⟩ | ⟨b, -, rfl⟩ <;> rcases hty with ⟨n, rfl⟩ | ⟨t, rfl⟩ <;> exact ⟨rfl, rfl⟩
    · omega
theorem bk_apart {q : vw_C} {t : Nat} (C : bk_Cx w p s m args meth c cc nL own) (hq : bk_cl[t]? = some q) (hin : ∀ x ∈ u_ws q.1 q.2.1 q.2.2, x ∈ lw_all) (ty : Nat → FieldType) (hty : ∀ k, k < q.2.2 → parseFieldDescriptor (q.2.1 k).2.2.1 = some (ty k)) (hnm : ∀ a, a < q.2.2 → ∀ b, b < q.2.2 → a ≠ b → (q.2.1 a).2.1 ≠ (q.2.1 b).2.1) :
    ∀ i j, i < q.2.2 → j < q.2.2 → i ≠ j → w.1.2 t i ≠ w.1.2 t j := va_apart (own := own) C.2.2.2.2.1 hin ty hty hnm C.2.2.2.2.2.2.1.1 hq
/-- a field is written; 'n': by a nest mate's link, 'f': a final field, in its constructor -/
theorem bk_o_putf {i t k kind d : Nat} {v : Value} {ps : List (Int32 × Nat)} {q : vw_C} (ty : Nat → FieldType) (C : bk_Cx w p s m args meth c cc nL own) (hd : decode cc pc = .ok (.putfield i, 3)) (ht : t < 15) (hq : bk_cl[t]? = some q) (hin : ∀ x ∈ u_ws q.1 q.2.1 q.2.2, x ∈ lw_all)
    (hty : ∀ k, k < q.2.2 → parseFieldDescriptor (q.2.1 k).2.2.1 = some (ty k)) (hnm : ∀ a, a < q.2.2 → ∀ b, b < q.2.2 → a ≠ b → (q.2.1 a).2.1 ≠ (q.2.1 b).2.1) (hkd : bk_fty kind (ty k))
    (hl : (Cond.fieldLink own i (q.2.1 k).1 (q.2.1 k).2.1 (q.2.1 k).2.2.1 ∈ lw_all ∧ ((q.2.1 k).2.2.2 = false ∨ ((q.2.1 k).2.2.2 = true ∧ meth.name = "<init>" ∧ (q.2.1 k).1 = own))) ∨
      (∃ host, Cond.fieldLinkNest own i (q.2.1 k).1 (q.2.1 k).2.1 (q.2.1 k).2.2.1 host ∈ lw_tbl ∧ (q.2.1 k).2.2.2 = false)) :
    bk_Ok w p l e R s m args below meth c nL h0 σ0 r Q cl pc (.putfield i, 3, t, k, kind, d, v, ps, []) := by
  intro L st h K hle hs hg hk σ H locs ls st' he hR hS hL hst
  obtain ⟨x, st1, u, u0, rfl, hu0, hreal0, hreal, hu, hs1⟩ := bk_putf_inv hs
  obtain ⟨b, hb, hc⟩ := hR.read hu0 hreal0
  obtain ⟨hw, q', V, g1, g2, g3, g4⟩ := hc.obj ht
  cases hq.symm.trans g1
  obtain ⟨ux, t0, rfl, hux, hst0⟩ := hst
  obtain ⟨t1, rfl, ht1⟩ := bk_sr_at hR.2.2.2.1 hb hst0
  obtain ⟨cell, cf, kf, fi, f, c1, c2, c3, c4, hi, hsl, hstat, kC, hfc, hkC, hkind⟩ := bk_fieldAt C hq hin g2 g3
  obtain ⟨hn, hfit⟩ := bk_fits hkd hu hux
  have hap := bk_apart C hq hin ty hty hnm
  have hlt : f.slot < cell.slots.size := by rw [hsl]; exact k2_hasslot (c4 k g2)
  have hlay := C.2.2.2.2.1 _ (hin _ (u_in_lay g2))
  have kk : ∀ H' : Heap, H'[b]? = some (cell.setSlot f.slot ux) → H'.size = H.size → (∀ y, y ≠ b → H'[y]? = H[y]?) → W p l e R s m args below meth c H' (locs ++ [⟨b, f.slot⟩]) (h.2.1 - h0.2.1) (h.2.2 - h0.2.2) Q (F0 m (pc + 3) ls t1) := by
    intro H' e1 e2 e3
    have hR' := hR.putO ht hu0 hreal0 hb hw hq c1 c2 c3 c4 hap g2 (by rw [← hsl]; exact e1) e2 e3 hux hreal
    exact hk _ _ _ (bk_put h t x k u) (show bk_le h (bk_put h t x k u) from bk_le_rf h) hs1 σ H' _ ls t1 he hR' (hS.put e2 e3 hw) hL ht1
  rcases hl with ⟨hl, hfin⟩ | ⟨host, hl, hfin⟩
  · rcases hfin with hfin | ⟨hfin, hini, hdecl⟩
    · unfold u_lay at hlay
      rw [if_neg (by rw [hfin]; decide)] at hlay
      exact W.putK C.1 C.2.1 ⟨C.2.2.2.1, C.2.2.2.2.1 _ hl, ⟨_, _, _, hi⟩, hstat⟩ (by rw [c2]; exact u_store hfc hkC hkind hlay hi (hty k g2) hn hfit) c1 c3 hlt rfl rfl hd kk
    · unfold u_lay at hlay
      rw [if_pos hfin] at hlay
      have hcf : m.cls = cf := by
        obtain ⟨_, _, c', _, _, _, -, -, hf', -, -, -, hown2, -⟩ := Cond.laysFinal_spec hlay
        have e1 : c' = cf := by have := hi.symm.trans hf'; simp at this; exact this.1.symm
        rw [hdecl] at hown2
        rw [← e1]; exact Option.some.inj (C.2.2.2.1.symm.trans hown2)
      exact W.putFinK C.1 C.2.1 C.2.2.2.1 (C.2.2.2.2.1 _ hl) hi hstat hcf hini (by rw [c2]; exact u_fits hfc hkC hkind (Or.inr hlay) hi (hty k g2) hn hfit) c1 c3 hlt rfl rfl hd kk
  · unfold u_lay at hlay
    rw [if_neg (by rw [hfin]; decide)] at hlay
    have hnw : va_Nw (Cond.fieldLinkNest own i (q.2.1 k).1 (q.2.1 k).2.1 (q.2.1 k).2.2.1 host) s := C.2.2.2.2.2.2.1.2.2.2.2.2.2.2.2.2.2.1 _ hl rfl
    exact va_WputK C.1 C.2.1 C.2.2.2.1 (va_Nw.use rfl hnw) hi hstat (by rw [c2]; exact u_store hfc hkC hkind hlay hi (hty k g2) hn hfit) c1 c3 hlt rfl rfl hd kk
end BKQ
