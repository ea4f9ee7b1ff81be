/-! SOUNDNESS: BackRescue.write, with its handlers -/
set_option maxRecDepth 100000
set_option maxHeartbeats 1000000
theorem bk_len6 : ∀ {L : List Value}, L.length = 6 → ∃ a b c d e f, L = [a, b, c, d, e, f]
  | [a, b, c, d, e, f], _ => ⟨a, b, c, d, e, f, rfl⟩
theorem bk_ew0 (cl : bk_C) (v0 : Nat) (v1 : Int32) (v2 : Int32) (v3 : Int64) (u4 u5 : Value) (h : bk_H) : bk_den TX0_writeB cl 0 [.ref v0, .int v1, .int v2, .long v3, u4, u5] [] h = bk_cI (cl 24 [.int v1] h) fun x2 h1 => bk_if (x2 = 0) (some (some (.long (-2)), h1)) (bk_A (h1.1 0 v0 21) fun r3 => bk_A (h1.1 106 r3 (bk_ix v1)) fun r4 => bk_V (h1.1 3 r4 0) (bk_cV (cl 3004 [.ref r4, .int v2, .long v3] h1) fun h5 => bk_A (h5.1 0 v0 21) fun r6 => bk_A (h5.1 106 r6 (bk_ix v1)) fun r7 => bk_V (h5.1 3 r7 0) (bk_cJ (cl 3002 [.ref r7, .int v2] h5) fun y9 h8 => some (some (.long y9), h8)))) := bk_tx_at (bk_mem []) 17 rfl
theorem bk_ew1 (cl : bk_C) (E : bk_K) (v0 : Nat) (v1 : Int32) (v2 : Int32) (v3 : Int64) (u4 u5 : Value) (h : bk_H) : bk_runK TX0_writeB cl E 9 0 [.ref v0, .int v1, .int v2, .long v3, u4, u5] [] h = bk_cI (cl 24 [.int v1] h) fun x2 h1 => bk_if (x2 = 0) (bk_runK TX0_writeB cl E 6 7 [.ref v0, .int v1, .int v2, .long v3, u4, u5] [] h1) (bk_A (h1.1 0 v0 21) fun r3 => bk_A (h1.1 106 r3 (bk_ix v1)) fun r4 => E 19 [.ref v0, .int v1, .int v2, .long v3, u4, u5] [.long v3, .int v2, .ref r4] h1) := rfl
theorem oX0_write {w : bk_W} {l : Launch} {d : Nat} (hl : l.stackTraces = false) (M : bk_CS w l d) : bk_CS1 w l (d + 1) 82 yX0_write (wsW_ yX0_write cX0_write 6 (some .long) [(11, 32, 33, 383), (11, 32, 39, 387)]) := by
  intro as h r σ as' hcall hh hsr
  have e1 : (bif Nat.ble (bk_exp as).length 6 then bk_den TX0_write (bk_call d) 0 (bk_ini as 6) [] h else none) = some r := hcall
  cases hb : Nat.ble (bk_exp as).length 6 with
  | false => rw [hb] at e1; cases e1
  | true =>
    rw [hb] at e1
    have e2 : bk_write (bk_call d) 3004 3002 24 (bk_ini as 6) h = some r := (bk_den_eq TX0_write (bk_call d) 0 (bk_ini as 6) [] h).symm.trans e1
    refine bk_ofWH (cc := cX0_write) (maxL := 6) (ret := some .long) (hh := [(11, 32, 33, 383), (11, 32, 39, 387)]) (by decide +kernel) rfl ?_
    intro p e s m args below meth c s₁ B hml hv
    obtain ⟨rfl, hbs, hR, hK⟩ := hv
    have hts0 := atoms_spec (ws := wsW_ yX0_write cX0_write 6 (some .long) [(11, 32, 33, 383), (11, 32, 39, 387)]) B.pre
    have hts : ∀ x ∈ lw_all, x.before _ s = true := fun x hx => hts0 x (List.mem_cons_of_mem _ hx)
    have htab : c.exceptionTable.toList = [] ++ (⟨11, 32, 33, 383⟩ : ExceptionTableEntry) :: [⟨11, 32, 39, 387⟩] := vx_table (x := yX0_write) B (hts0 _ List.mem_cons_self)
    have htab2 : c.exceptionTable.toList = [(⟨11, 32, 33, 383⟩ : ExceptionTableEntry)] ++ (⟨11, 32, 39, 387⟩ : ExceptionTableEntry) :: [] := htab
    have C : bk_Cx w p s m as'.toArray meth c cX0_write 6 "BackRescue" := ⟨B.exec, B.bytes, hml, findClass_of_methodNamed B.named, hts, B.notSynchronized, hK, hbs⟩
    have hnm : meth.name = yX0_write.name := (name_of_methodNamed B.named B.method).1
    have Rm : bk_Rm (d + 1) (bk_room (d + 1) h r) h r := ⟨Nat.le_refl _, Nat.le_refl _, Nat.le_refl _, Nat.le_refl _⟩
    have hrt := bk_rt (w := w) (l := l) (p := p) (e := e) (R := bk_room (d + 1) h r) (s := s) (m := m) (args := as'.toArray) (below := below) (h0 := h) (σ0 := σ) (r := r) (rk := 4) B.exec B.bytes B.returns B.notSynchronized (Or.inr (Or.inr (Or.inr (Or.inr (Or.inl ⟨rfl, rfl⟩)))))
    have hlr := bk_entry_lr hsr (Nat.ble_eq.mp hb)
    obtain ⟨v0, v1, v2, v3, u4, u5, hL⟩ := bk_len6 hlr.2.1
    rw [hL] at e2 hlr
    obtain ⟨x, hx, e3⟩ := bk_A_inv e2
    obtain ⟨t, ht1, e4⟩ := bk_I_inv e3
    obtain ⟨i, hi1, e5⟩ := bk_I_inv e4
    obtain ⟨v, hv1, e6⟩ := bk_J_inv e5
    obtain ⟨b9, h9, e9, e7⟩ := bk_cI_inv e6
    have hx : v0 = .ref x := hx
    have ht1 : v1 = .int t := ht1
    have hi1 : v2 = .int i := hi1
    have hv1 : v3 = .long v := hv1
    subst hx; subst ht1; subst hi1; subst hv1
    have hle9 : bk_le h h9 := bk_call_grow d _ _ _ _ e9
    have hd1 : 1 ≤ d := by
      rcases d with _ | d
      · exact nomatch (e9 : (none : bk_R) = _)
      · omega
    have hok := fun pc => ooX0_writeB M p e (bk_room (d + 1) h r) s m as'.toArray below meth c h σ r _ C Rm hnm hh hrt pc
    have whole : bk_den TX0_writeB (bk_call d) 0 [.ref x, .int t, .int i, .long v, u4, u5] [] h = some r → bk_Gd w p l e (bk_room (d + 1) h r) s m as'.toArray below meth c 6 h σ (MQ below (bk_Qc w σ r) as'.toArray s (r.2.2.1 - h.2.1) (r.2.2.2 - h.2.2) (bk_own w)) 0 [.ref x, .int t, .int i, .long v, u4, u5] [] h := by
      intro hden
      obtain ⟨n0, hn0⟩ := bk_den_run.mp hden
      exact bk_runs (bk_call_grow d) hok n0 0 _ [] h (bk_le_rf h) hn0
    have goal : bk_Gd w p l e (bk_room (d + 1) h r) s m as'.toArray below meth c 6 h σ (MQ below (bk_Qc w σ r) as'.toArray s (r.2.2.1 - h.2.1) (r.2.2.2 - h.2.2) (bk_own w)) 0 [.ref x, .int t, .int i, .long v, u4, u5] [] h := by
      by_cases hb0 : b9 = 0
      · rw [if_pos hb0] at e7
        refine whole ?_
        rw [bk_ew0, e9]
        show bk_if (b9 = 0) _ _ = _
        unfold bk_if
        rw [if_pos hb0]
        exact e7
      · rw [if_neg hb0] at e7
        obtain ⟨ts, hts1, e10⟩ := bk_A_inv e7
        obtain ⟨nb, hnb1, e11⟩ := bk_A_inv e10
        obtain ⟨a, ha1, e12⟩ := bk_A_inv e11
        have hstop : ∀ E : bk_K, E 19 [.ref x, .int t, .int i, .long v, u4, u5] [.long v, .int i, .ref nb] h9 = some r → bk_runK TX0_writeB (bk_call d) E 9 0 [.ref x, .int t, .int i, .long v, u4, u5] [] h = some r := by
          intro E hE
          rw [bk_ew1, e9]
          show bk_if (b9 = 0) _ _ = _
          unfold bk_if
          rw [if_neg hb0, hts1]
          show bk_A (h9.1 106 ts (bk_ix t)) _ = _
          rw [hnb1]
          exact hE
        -- where puts throws
        have thrown : ∀ (E0 : String) (z : Int64), ((E0 = bk_nE ∧ a = 0) ∨ (E0 = bk_iE ∧ ∃ n, (h9.1 201 a 0 = .int n ∨ h9.1 203 a 0 = .int n ∨ h9.1 200 a 0 = .int n ∨ h9.1 204 a 0 = .int n) ∧ (i < 0 ∨ n ≤ i))) → r = (some (.long z), bk_lost h9) →
            (∀ (σ' : Nat → Option Nat) (H1 : Heap) (locs : List Loc) (ls : Array Slot) (q9 : Addr) (ce : Cell), bk_ext σ σ' → bk_rel w σ' (bk_lost h9) H1 → va_S (bk_own w) s.heap H1 locs → bk_lr σ' [.ref x, .int t, .int i, .long v, u4, u5] ls 6 → H1[q9]? = some ce → ce.vm = .none → s.vm.findClass E0 = some ce.cls →
              vx_W p l e (bk_room (d + 1) h r) s m as'.toArray below meth c H1 locs (r.2.2.1 - h.2.1) (r.2.2.2 - h.2.2) (MQ below (bk_Qc w σ r) as'.toArray s (r.2.2.1 - h.2.1) (r.2.2.2 - h.2.2) (bk_own w)) (F0 m 19 ls []) q9) →
            bk_Gd w p l e (bk_room (d + 1) h r) s m as'.toArray below meth c 6 h σ (MQ below (bk_Qc w σ r) as'.toArray s (r.2.2.1 - h.2.1) (r.2.2.2 - h.2.2) (bk_own w)) 0 [.ref x, .int t, .int i, .long v, u4, u5] [] h := by
          intro E0 z hE hr hgo
          have f1 : r.2.2.1 = h9.2.1 + 3 := by rw [hr]; rfl
          have f2 : r.2.2.2 = h9.2.2 + 400 := by rw [hr]; rfl
          refine bk_to (bk_call_grow d) hok (E := bk_at [19] [.ref x, .int t, .int i, .long v, u4, u5] [.long v, .int i, .ref nb] h9 r) (fun pc L st h' q => ?_) (fun pc L st h' hle q => ?_) 9 0 _ [] h (bk_le_rf h) (hstop _ (bk_at_hit (List.mem_singleton.mpr rfl)))
          · obtain ⟨-, -, -, rfl⟩ := bk_at_inv q
            exact ⟨by omega, by omega⟩
          · obtain ⟨hpc, rfl, rfl, rfl⟩ := bk_at_inv q
            rw [List.mem_singleton.mp hpc]
            intro σ' H locs ls st2 he hR' hS hL' hst
            obtain ⟨t1, rfl, ht1⟩ := bk_sr_long hst
            obtain ⟨t2, rfl, ht2⟩ := bk_sr_int ht1
            obtain ⟨b', hb', hrecv⟩ := bk_recv (t := 3) C (by omega) hR' hS (by rw [ha1]; exact bk_real_r _)
            obtain ⟨t3, rfl, ht3⟩ := bk_sr_at hR'.2.2.2.1 hb' ht2
            cases ht3
            have hh9 : h'.2.1 ≠ 0 := by have := hle9.1; omega
            have hM := bk_putsX (w := w) (l := l) hl (nb := nb) (a := a) (i := i) (v := v) (h := h') (σ := σ') (as' := [.ref b', .int i, .long v]) hh9 ⟨_, _, rfl, Or.inr ⟨b', hb', rfl⟩, _, _, rfl, rfl, _, _, rfl, rfl, rfl⟩ ha1 E0 hE
            have run := vx_runV (g := F0 m 19 ls (Value.long v :: .int i :: .ref b' :: [])) (cells := h'.2.1 - h.2.1) (slots := h'.2.2 - h.2.2) (below := below) (p := p) (e := e) (R := bk_room (d + 1) h r) (meth := meth) (H := H) (locs := locs) (b := b') (As := [.int i, .long v]) (rest := []) (bk_fix C) hM (cwV 2 C.2.2.2.2.1 (lw_V q1360 q1361 q1362 q137 q1363) rfl rfl rfl ⟨rfl, by decide +kernel⟩ ⟨by show 17 + 1 ≤ d + 1 + 16; omega, by show 8 + (4 + 11) + 10364 ≤ 10300 + 64 * (d + 1); omega⟩)
              ⟨bk_Pr_blind, hrecv, bk_Pr_at C hR' hS⟩ rfl rfl hL'.1 rfl (bk_mr (by show 0 ≤ 8; omega)) dX0_write_19 ⟨by show h'.2.1 - h.2.1 + 3 ≤ r.2.2.1 - h.2.1; have := hle9.1; omega, by show h'.2.2 - h.2.2 + 400 ≤ r.2.2.2 - h.2.2; have := hle9.2; omega⟩
            intro T hT X
            rcases run T hT X with ⟨v9, st₀, t9, T', L9, h0, X', hL9, k1, k2, hF, st⟩ | ⟨q9, st₀, t9, T', L9, E9, ce, h0, X', hL9, k1, k2, ⟨rfl, ⟨σ2, hx2, hrel2⟩, hz, hkp⟩, hce, hcv, hcl, st⟩
            · exact hF.elim
            · rw [h0] at hz hkp
              have q1 : h'.2.1 - h.2.1 + 3 = r.2.2.1 - h.2.1 := by have := hle9.1; omega
              have q2 : h'.2.2 - h.2.2 + 400 = r.2.2.2 - h.2.2 := by have := hle9.2; omega
              rw [q1, q2] at X'
              obtain ⟨tg, a1, b1⟩ := hgo σ2 T'.heap (locs ++ L9) ls q9 ce (he.tr hx2) (by rw [k1]; exact hrel2)
                ⟨Nat.le_trans hS.1 (by rw [k1]; exact hz), fun q h1 h2 => by rw [k1, hkp q (Nat.lt_of_lt_of_le h1 hS.1) h2]; exact hS.2.1 q h1 h2, fun q hq => by
                  rcases List.mem_append.mp hq with h | h
                  · exact hS.2.2 q h
                  · exact hL9 q h⟩ (hL'.ext hx2) (by rw [k1]; exact hce) hcv hcl T' rfl X'
              exact ⟨tg, st.trans a1, b1⟩
        by_cases ha0 : a = 0
        · rw [if_pos ha0] at e12
          have hr : r = (some (.long (-6)), bk_lost h9) := (Option.some.inj e12).symm
          refine thrown bk_nE (-6) (Or.inl ⟨rfl, ha0⟩) hr fun σ' H1 locs ls q9 ce he hR' hS hL' hce hcv hcl => ?_
          refine vx_catch (own := "BackRescue") (name := "java/lang/NullPointerException") C.2.2.2.1 [] ⟨11, 32, 33, 383⟩ [⟨11, 32, 39, 387⟩] htab (fun z hz => nomatch hz) rfl (by decide) (C.2.2.2.2.1 _ q1315) (bk_nw_use rfl (hK.2.2.2.2.2.2.2.2.2.2.1 _ q1337 rfl)) hce hcv hcl ?_
          refine lv_astore C.1 C.2.1 dX0_write_33 (bk_all_has hL'.1 hL'.2.2.1) (by omega) rfl fun ls' hls => ?_
          refine lv_ldc2 C.1 C.2.1 C.2.2.2.1 (C.2.2.2.2.1 _ q1364) dX0_write_35 ?_
          exact hrt σ' H1 locs ls' 38 [.long (-6)] he (by rw [hr]; exact hR') hS (Or.inr (Or.inr (Or.inl ⟨rfl, -6, by rw [hr], dX0_write_38, rfl⟩)))
        · rw [if_neg ha0] at e12
          obtain ⟨n, hn, e13⟩ := bk_lenOf_inv e12
          by_cases hout : i < 0 ∨ n ≤ i
          · rw [if_pos hout] at e13
            have hr : r = (some (.long (-7)), bk_lost h9) := (Option.some.inj e13).symm
            refine thrown bk_iE (-7) (Or.inr ⟨rfl, n, hn, hout⟩) hr fun σ' H1 locs ls q9 ce he hR' hS hL' hce hcv hcl => ?_
            refine vx_catch (own := "BackRescue") (name := "java/lang/ArrayIndexOutOfBoundsException") C.2.2.2.1 [⟨11, 32, 33, 383⟩] ⟨11, 32, 39, 387⟩ [] htab2 (fun z hz => by
              rw [List.mem_singleton.mp hz]
              exact Or.inr ⟨by decide, "java/lang/NullPointerException", C.2.2.2.2.1 _ q1315, hK.2.2.2.2.2.2.2.2.2.2.2.2.1 ("java/lang/ArrayIndexOutOfBoundsException", "java/lang/NullPointerException") (by decide +kernel)⟩) rfl (by decide) (C.2.2.2.2.1 _ q1340) (bk_nw_use rfl (hK.2.2.2.2.2.2.2.2.2.2.1 _ q1355 rfl)) hce hcv hcl ?_
            refine lv_astore C.1 C.2.1 dX0_write_39 (bk_all_has hL'.1 hL'.2.2.1) (by omega) rfl fun ls' hls => ?_
            refine lv_ldc2 C.1 C.2.1 C.2.2.2.1 (C.2.2.2.2.1 _ q1365) dX0_write_41 ?_
            exact hrt σ' H1 locs ls' 44 [.long (-7)] he (by rw [hr]; exact hR') hS (Or.inr (Or.inr (Or.inl ⟨rfl, -7, by rw [hr], dX0_write_44, rfl⟩)))
          · rw [if_neg hout] at e13
            refine whole ?_
            rw [bk_ew0, e9]
            show bk_if (b9 = 0) _ _ = _
            unfold bk_if
            rw [if_neg hb0, hts1]
            show bk_A (h9.1 106 ts (bk_ix t)) _ = _
            rw [hnb1]
            exact e13
    have hW := goal σ s.heap [] _ [] bk_ext.rf hR va_S.rf hlr rfl
    rw [Nat.sub_self, Nat.sub_self] at hW
    rw [lg_entry_eq]
    exact hW
