/-! SOUNDNESS: the law's body, out of the pure machine's -/
set_option maxRecDepth 100000
set_option maxHeartbeats 4000000
theorem bk_lawgo {p : Program} {e : Env} {s : State} {m : MethodId} {below : List Frame} {meth : Method} {c : Code} {l : Launch} (hl : l.stackTraces = false) {b L : Nat} {xs : Nat → Int32} (hL : L ≤ 384) (hx : p.tables.exec = Jvm.exec) (hc : c.code = cL_law) (hml : c.maxLocals = 4) (hown : s.vm.findClass "BackRescueLaw" = some m.cls)
    (hts : ∀ x ∈ lw_tbl, x.before #[Value.ref b] s = true) (hX : va_X b L xs s s.heap) (hb : b < s.heap.size) (hlk : meth.locks = false) (hg : (Jvm.Cond.and given_1 narrow_1).before #[Value.ref b] s = true) {D : Nat} (hD : D ≤ 1463) {r : Option Value × bk_H} (pure : bk_den TL_law (bk_call D) 0 (bk_ini [.ref 1] 4) [] (bk_h0 L xs) = some r) (h1 : r.1 = some (.int 1)) (hc1 : r.2.2.1 ≤ 64 + 1200384) (hs1 : r.2.2.2 ≤ 5488810)
    {Q : State → Prop} (hQ : ∀ (H : Heap) (ls : Array Slot) (pc : Nat), decode cL_law pc = .ok (.ireturn, 1) → W p l e room_1 s m #[Value.ref b] below meth c H [] 1200384 5488810 Q (F0 m pc ls [.int 1])) : W p l e room_1 s m #[Value.ref b] below meth c s.heap [] 0 0 Q (entryFrame m ([Value.ref b] : List Value).toArray 4) := by
  obtain ⟨w, w1, w2, hK, hK1, hV1⟩ := bk_known hts hX hb hL hg
  have hw : ∀ x ∈ lw_all, x.before #[Value.ref b] s = true := fun x h => hts x (lw_all_tbl h)
  have C : bk_Cx w p s m #[Value.ref b] meth c cL_law 4 "BackRescueLaw" := ⟨hx, hc, hml, hown, hw, hlk, hK, Nat.le_of_eq w1⟩
  have Rm : bk_Rm (D + 1) room_1 (bk_h0 L xs) r := ⟨by show D + 1 + 16 ≤ 8192; omega, by show 10300 + 64 * (D + 1) ≤ 104096; omega, by show r.2.2.1 - 64 ≤ 1200384; omega, by show r.2.2.2 - 0 ≤ 5488810; omega⟩
  have e2 : w.2.2.2.1.1 = b := by rw [w2]
  have e3 : bk_h0 w.2.2.2.1.2.1 w.2.2.2.1.2.2 = bk_h0 L xs := by rw [w2]
  have hR : bk_rel w (bk_s0 w) (bk_h0 L xs) s.heap := by
    rw [← e3]
    exact bk_rel0 (by rw [e2, w1]; exact hb) (fun i hi => by rw [w1]; exact hK1 i hi) (fun i hi => by rw [w1]; exact hV1 i hi) (Nat.le_of_eq w1)
  have hs : bk_sr (bk_s0 w) [.ref 1] [.ref b] := ⟨_, _, rfl, Or.inr ⟨w.2.2.2.1.1, rfl, by rw [e2]⟩, rfl⟩
  have hlr := bk_entry_lr (n := 4) hs (by show 1 ≤ 4; omega)
  have T : bk_Rt w p l e room_1 s m #[Value.ref b] below meth c cL_law (bk_h0 L xs) (bk_s0 w) r Q 1 := by
    intro σ H locs ls pc st' he hR hS hcase
    have hfo : ∀ q ∈ locs, s.heap.size ≤ q.base := fun q hq => by rw [← w1]; exact hS.2.2 q hq
    rcases hcase with ⟨k, -⟩ | ⟨-, x, k, hd, rfl, -⟩ | ⟨k, -⟩ | ⟨k, -⟩
    · omega
    · have hx1 : x = 1 := by
        rw [h1] at k
        cases k
        rfl
      subst hx1
      exact va_forget hfo (W.widen (k := 1200384) (n := 5488810) (by show r.2.2.1 - 64 ≤ 1200384; omega) (by show r.2.2.2 - 0 ≤ 5488810; omega) (hQ H ls pc hd))
    · omega
    · omega
  have hok := fun pc => ooL_law (bk_CSs hl D) p e room_1 s m #[Value.ref b] below meth c (bk_h0 L xs) (bk_s0 w) r Q C Rm (by show (64 : Nat) ≠ 0; omega) T pc
  obtain ⟨n0, hn0⟩ := bk_den_run.mp pure
  have hW := bk_runs (bk_call_grow D) hok n0 0 _ [] (bk_h0 L xs) (bk_le_rf _) hn0 (bk_s0 w) s.heap [] _ [] bk_ext.rf hR va_S.rf hlr rfl
  rw [Nat.sub_self, Nat.sub_self] at hW
  rw [lg_entry_eq]
  exact hW
