/-! SOUNDNESS: methods with handlers: words of exceptions, a run that stops at a throw; Numbers.begins -/
set_option maxRecDepth 100000
set_option maxHeartbeats 1000000
def bk_exw : List Cond := ([140, 141, 142, 143, 144, 145, 155, 156, 157, 158, 159, 160, 161, 162, 169, 170, 246, 273, 275, 286, 287, 288, 289, 459, 460, 461, 462, 463, 464, 465, 466, 467, 468, 469, 470, 471, 472, 473, 474, 475, 476, 477, 478, 479, 480, 481, 482, 483, 484, 485, 486, 487, 488, 489, 490, 491, 492, 493, 494, 495, 496, 497, 498, 499, 500, 501, 502, 503, 504, 505, 506, 507, 508, 509, 510, 511, 512, 513, 514, 515, 516, 517, 518, 519, 520, 521, 522, 523, 524, 525, 526, 527, 528, 529, 530, 531, 532, 533, 534, 535, 536, 537, 538, 539, 540, 541, 542, 543, 559, 560, 561, 562, 563, 564, 565, 566, 567, 568, 569, 570, 571, 572, 573, 574, 575, 576, 577, 875, 876, 878, 879, 1135, 1136, 1137, 1138, 1139, 1228, 1229, 1230, 1231, 1232, 1233, 1234, 1235, 1236, 1237, 1238, 1239, 1240, 1241, 1242, 1243, 1244, 1245, 1246, 1247, 1248, 1249, 1250, 1251, 1252, 1253, 1254, 1255, 1256, 1257, 1258, 1259, 1260, 1261, 1262, 1263, 1264, 1265, 1266, 1267, 1268, 1269, 1270, 1271, 1272, 1273, 1274, 1275, 1276, 1277, 1278, 1279, 1280, 1281, 1282, 1283, 1284, 1285, 1286, 1287, 1288, 1289, 1290, 1291, 1292, 1293, 1294, 1295, 1296, 1297, 1298, 1299, 1300, 1301, 1302, 1303, 1304, 1305, 1306, 1307, 1308, 1309, 1310, 1316, 1317, 1318, 1319, 1320, 1321, 1322, 1323, 1324, 1325, 1326, 1327, 1328, 1329, 1330, 1331, 1332, 1333, 1334, 1335, 1336, 1337, 1338, 1339, 1341, 1342, 1343, 1344, 1345, 1346, 1347, 1348, 1349, 1350, 1351, 1352, 1353, 1354, 1355, 1356, 1357, 1358, 1973, 1974, 1975] : List Nat).filterMap (fun i => lw_tbl[i]?)
theorem bk_exw_in : ∀ x ∈ bk_exw, x ∈ lw_tbl := by
  intro x h
  obtain ⟨i, -, hi⟩ := List.mem_filterMap.mp h
  exact List.mem_of_getElem? hi
def bk_okw (ws : List Cond) : Bool := ws.all fun x => (goodWord x || bk_isN x) && decide (x ∈ bk_exw)
theorem bk_nw_use {x : Cond} (hx : bk_isN x = true) {s : State} {args : Array Value} (h : va_Nw x s) : x.before args s = true := by
  cases x <;> first | exact va_Nw.use rfl h | exact absurd hx (by simp [bk_isN])
theorem bk_okw_spec {w : bk_W} {p : Program} {s : State} {m : MethodId} {args : Array Value} {meth : Method} {c : Code} {cc : ByteArray} {nL : Nat} {own : String} (C : bk_Cx w p s m args meth c cc nL own) {ws : List Cond} (h : bk_okw ws = true) : ∀ x ∈ ws, x.before args s = true := by
  intro x hx
  have h1 := List.all_eq_true.mp h x hx
  rw [Bool.and_eq_true, Bool.or_eq_true] at h1
  obtain ⟨h1, h2⟩ := h1
  have h2 := bk_exw_in x (of_decide_eq_true h2)
  rcases h1 with h1 | h1
  · exact C.2.2.2.2.1 x (lw_g h2 h1)
  · exact bk_nw_use h1 (C.2.2.2.2.2.2.1.2.2.2.2.2.2.2.2.2.2.1 x h2 h1)
theorem bk_atN : bk_okw (vx_atN 8) = true := by decide +kernel
theorem bk_atI : bk_okw (vx_atM "java/lang/ArrayIndexOutOfBoundsException" ["java/lang/IndexOutOfBoundsException", "java/lang/RuntimeException", "java/lang/Exception"]) = true := by decide +kernel
theorem bk_atG : bk_okw (vx_atM "java/lang/NegativeArraySizeException" ["java/lang/RuntimeException", "java/lang/Exception"]) = true := by decide +kernel
theorem bk_otN : ∀ x ∈ vx_atN 8, vx_ot x = true := by decide +kernel
theorem bk_otI : ∀ x ∈ vx_atM "java/lang/ArrayIndexOutOfBoundsException" ["java/lang/IndexOutOfBoundsException", "java/lang/RuntimeException", "java/lang/Exception"], vx_ot x = true := by decide +kernel
theorem bk_otG : ∀ x ∈ vx_atM "java/lang/NegativeArraySizeException" ["java/lang/RuntimeException", "java/lang/Exception"], vx_ot x = true := by decide +kernel
/-! a run that stops at given places -/
def bk_runK (T : Nat → bk_O) (cl : bk_C) (E : bk_K) : Nat → bk_K
  | 0 => E
  | n + 1 => fun pc L st h => bk_sem (T pc) cl pc L st h (bk_runK T cl E n)
noncomputable def bk_at (pcs : List Nat) (L0 st0 : List Value) (h0 : bk_H) (r : Option Value × bk_H) : bk_K := fun pc L st h => @ite _ (pc ∈ pcs ∧ L = L0 ∧ st = st0 ∧ h = h0) (Classical.propDecidable _) (some r) none
theorem bk_at_hit {pcs : List Nat} {L0 st0 : List Value} {h0 : bk_H} {r : Option Value × bk_H} {pc : Nat} (hp : pc ∈ pcs) : bk_at pcs L0 st0 h0 r pc L0 st0 h0 = some r := if_pos ⟨hp, rfl, rfl, rfl⟩
theorem bk_at_inv {pcs : List Nat} {L0 st0 : List Value} {h0 : bk_H} {r z : Option Value × bk_H} {pc : Nat} {L st : List Value} {h : bk_H} (e : bk_at pcs L0 st0 h0 r pc L st h = some z) : pc ∈ pcs ∧ L = L0 ∧ st = st0 ∧ h = h0 := by
  unfold bk_at at e
  split at e
  · assumption
  · cases e
theorem bk_runK_grow {T : Nat → bk_O} {cl : bk_C} {E : bk_K} {r : Option Value × bk_H} (G : bk_grow cl) (hE : ∀ pc L st h, E pc L st h = some r → bk_le h r.2) : ∀ (n pc : Nat) (L st : List Value) (h : bk_H), bk_runK T cl E n pc L st h = some r → bk_le h r.2
  | 0, pc, L, st, h, e => hE _ _ _ _ e
  | n + 1, pc, L, st, h, e => by
    have e1 : bk_sem (T pc) cl pc L st h (bk_runK T cl E n) = some r := e
    rcases bk_sem_T (T pc) cl pc L st h with ⟨v, hv, hl⟩ | ⟨pc', L', st', h', hl, hv⟩ <;> dsimp only at hv
    · rw [hv] at e1
      exact hl G r e1
    · rw [hv] at e1
      exact bk_le_tr (hl G) (bk_runK_grow G hE n _ _ _ _ e1)
theorem bk_rel.lost {w : bk_W} {σ : Nat → Option Nat} {h : bk_H} {H H1 : Heap} (hR : bk_rel w σ h H) (hz : H.size ≤ H1.size) (hk : ∀ q : Nat, q < H.size → H1[q]? = H[q]?) : bk_rel w σ (bk_lost h) H1 := by
  obtain ⟨h1, h2, h3, h4, h6, τ, h5⟩ := hR
  refine ⟨fun t a k hr => ?_, h2, fun a b hb => ⟨?_, ?_⟩, h4, h6, τ, h5⟩
  · obtain ⟨b, hb, hc⟩ := h1 t a k hr
    exact ⟨b, hb, hc.kept (hk b (h3 a b hb).2)⟩
  · show a < h.2.1 + 3
    have := (h3 a b hb).1
    omega
  · exact Nat.lt_of_lt_of_le (h3 a b hb).2 hz
section BKX
variable {w : bk_W} {p : Program} {l : Launch} {e : Env} {R : Room} {s : State} {m : MethodId} {args : Array Value} {below : List Frame} {meth : Method} {c : Code} {cc : ByteArray} {nL : Nat} {own : String} {h0 : bk_H} {σ0 : Nat → Option Nat} {r : Option Value × bk_H} {Q : State → Prop}
theorem bk_to {T : Nat → bk_O} {cl : bk_C} {E : bk_K} (G : bk_grow cl) (hok : ∀ pc, bk_Ok w p l e R s m args below meth c nL h0 σ0 r Q cl pc (T pc)) (hEg : ∀ pc L st h, E pc L st h = some r → bk_le h r.2)
    (hE : ∀ pc L st h, bk_le h0 h → E pc L st h = some r → bk_Gd w p l e R s m args below meth c nL h0 σ0 Q pc L st h) : ∀ (n pc : Nat) (L st : List Value) (h : bk_H), bk_le h0 h → bk_runK T cl E n pc L st h = some r → bk_Gd w p l e R s m args below meth c nL h0 σ0 Q pc L st h
  | 0, pc, L, st, h, hle, hr => hE _ _ _ _ hle hr
  | n + 1, pc, L, st, h, hle, hr => by
    have e1 : bk_sem (T pc) cl pc L st h (bk_runK T cl E n) = some r := hr
    exact hok pc L st h _ hle e1 (fun pc' L' st' h' q => bk_runK_grow G hEg n _ _ _ _ q) (fun pc' L' st' h' q1 q2 => bk_to G hok hEg hE n pc' L' st' h' (bk_le_tr hle q1) q2)
end BKX
theorem bk_ofWH {l : Launch} {y : MethodName} {ws ws' : List Cond} {rm : Room} {Pc : Array Value → State → Prop} {Qc : Array Value → State → Outcome → State → Prop} {mc ms : Nat} {free : Addr → Prop} {cc : ByteArray} {maxL : Nat} {ret : Option FieldType} {hh : List (Nat × Nat × Nat × Nat)}
    (hy : plainName y.cls = true) (hw : ws = Cond.codeWith y cc maxL ret hh :: ws')
    (body : ∀ p e s m args below meth c s₁, BodyLoose p l y (headSpec ws rm) cc maxL ret e s m args below meth c s₁ → c.maxLocals = maxL → Pc args s →
      W p l e (headSpec ws rm).room s m args below meth c s.heap [] 0 0 (MQ below Qc args s mc ms free) (entryFrame m args maxL)) : Met l y ws rm Pc Qc mc ms free := by
  refine MetFree.of_bodyS (code := cc) (maxLocals := maxL) (ret := ret) hy ?_ ?_
  · intro args s m h hn
    obtain ⟨m9, meth, c, hn9, h1, h2, h3, h4, -, h5, h6, -⟩ := Cond.codeWith_spec (atoms_spec (ws := ws) h _ (by rw [hw]; exact List.mem_cons_self))
    cases hn.symm.trans hn9
    exact ⟨meth, c, h1, h2, h3, h4, h5, h6⟩
  · intro p e s m args below meth c s₁ B hml hP _
    have hh0 : s₁.heap = s.heap := by rw [B.state]; rfl
    obtain ⟨t, a1, o, b1, b2, b3⟩ := body p e s m args below meth c s₁ B hml hP s₁ hh0 (Stand.of_body B)
    exact ⟨t, o, a1, b1, b2, ⟨b3.1, b3.2⟩⟩
theorem bk_len4 : ∀ {L : List Value}, L.length = 4 → ∃ a b c d, L = [a, b, c, d]
  | [a, b, c, d], _ => ⟨a, b, c, d, rfl⟩
theorem bk_newA_ne {h : bk_H} {t n x k t0 : Nat} {d : Value} (h1 : t0 ≠ t) (h2 : t0 ≠ t + 100) : (bk_newA h t n d).1 t0 x k = h.1 t0 x k := by
  show (if t0 = t ∧ x = h.2.1 ∧ k < n then d else if t0 = t + 100 ∧ x = h.2.1 ∧ k = 0 then .int (Int32.ofNat n) else h.1 t0 x k) = _
  rw [if_neg (fun z => h1 z.1), if_neg (fun z => h2 z.1)]
theorem bk_eb0 (cl : bk_C) (v0 : Nat) (v1 : Int32) (v2 : Int32) (u : Value) (h : bk_H) : bk_den TX3_beginsB cl 0 [.ref v0, .int v1, .int v2, u] [] h = bk_if (v1 = 0) (bk_len v2 fun k1 => bk_den TX3_beginsB cl 32 [.ref v0, .int v1, .int v2, u] [.ref h.2.1, .ref v0] (bk_newA h 101 k1 (.int 0))) (bk_if (v1 = 1) (bk_len v2 fun k2 => bk_den TX3_beginsB cl 42 [.ref v0, .int v1, .int v2, u] [.ref h.2.1, .ref v0] (bk_newA h 103 k2 (.int 0))) (bk_if (v1 = 2) (bk_len v2 fun k3 => bk_den TX3_beginsB cl 52 [.ref v0, .int v1, .int v2, u] [.ref h.2.1, .ref v0] (bk_newA h 100 k3 (.int 0))) (bk_len v2 fun k4 => bk_den TX3_beginsB cl 62 [.ref v0, .int v1, .int v2, u] [.ref h.2.1, .ref v0] (bk_newA h 104 k4 (.long 0))))) := bk_tx_at (bk_mem [32, 42, 52, 62]) 5 rfl
theorem bk_eb1 (cl : bk_C) (v0 : Nat) (v1 : Int32) (v2 : Int32) (u : Value) (s0 : Nat) (s1 : Nat) (h : bk_H) (pc : Nat) (hpc : pc ∈ [32, 42, 52, 62]) {v3 : Nat} (h3 : h.1 3 s1 0 = .ref v3) : bk_den TX3_beginsB cl pc [.ref v0, .int v1, .int v2, u] [.ref s0, .ref s1] h = some (some (.int 1), bk_put h 3 s1 0 (.ref s0)) := by
  have k : bk_A (h.1 3 s1 0) (fun _ => bk_bl 1 (some (some (.int 1), bk_put h 3 s1 0 (.ref s0)))) = some (some (.int 1), bk_put h 3 s1 0 (.ref s0)) := by rw [h3]; rfl
  simp only [List.mem_cons, List.not_mem_nil, or_false] at hpc
  rcases hpc with rfl | rfl | rfl | rfl
  · exact (bk_tx_at (bk_mem []) 4 rfl).trans k
  · exact (bk_tx_at (bk_mem []) 4 rfl).trans k
  · exact (bk_tx_at (bk_mem []) 4 rfl).trans k
  · exact (bk_tx_at (bk_mem []) 3 rfl).trans k
theorem bk_begins_den {cl : bk_C} {x v3 : Nat} {sr n : Int32} {u : Value} {h : bk_H} {r : Option Value × bk_H} (h3 : h.1 3 x 0 = .ref v3) (e : (bk_len n fun k => if sr = 0 then some (some (.int 1), bk_put (bk_newA h 101 k (.int 0)) 3 x 0 (.ref h.2.1))
        else if sr = 1 then some (some (.int 1), bk_put (bk_newA h 103 k (.int 0)) 3 x 0 (.ref h.2.1))
        else if sr = 2 then some (some (.int 1), bk_put (bk_newA h 100 k (.int 0)) 3 x 0 (.ref h.2.1))
        else some (some (.int 1), bk_put (bk_newA h 104 k (.long 0)) 3 x 0 (.ref h.2.1))) = some r) : bk_den TX3_beginsB cl 0 [.ref x, .int sr, .int n, u] [] h = some r := by
  obtain ⟨n1, n2, e⟩ := bk_len_inv e
  have nn : ¬ (n < 0 ∨ 4096 < n) := fun z => z.elim n1 n2
  rw [bk_eb0]
  unfold bk_if bk_len
  by_cases c0 : sr = 0
  · rw [if_pos c0] at e
    rw [if_pos c0, if_neg nn]
    exact (bk_eb1 cl x sr n u _ _ _ 32 (by simp) ((bk_newA_ne (t := 101) (by decide) (by decide)).trans h3)).trans e
  · rw [if_neg c0] at e ⊢
    by_cases c1 : sr = 1
    · rw [if_pos c1] at e
      rw [if_pos c1, if_neg nn]
      exact (bk_eb1 cl x sr n u _ _ _ 42 (by simp) ((bk_newA_ne (t := 103) (by decide) (by decide)).trans h3)).trans e
    · rw [if_neg c1] at e ⊢
      by_cases c2 : sr = 2
      · rw [if_pos c2] at e
        rw [if_pos c2, if_neg nn]
        exact (bk_eb1 cl x sr n u _ _ _ 52 (by simp) ((bk_newA_ne (t := 100) (by decide) (by decide)).trans h3)).trans e
      · rw [if_neg c2] at e ⊢
        rw [if_neg nn]
        exact (bk_eb1 cl x sr n u _ _ _ 62 (by simp) ((bk_newA_ne (t := 104) (by decide) (by decide)).trans h3)).trans e
theorem bk_begins_stop (cl : bk_C) (x : Nat) (sr n : Int32) (u : Value) (h : bk_H) (r : Option Value × bk_H) : bk_runK TX3_beginsB cl (bk_at [30, 40, 50, 60] [.ref x, .int sr, .int n, u] [.int n, .ref x] h r) 4 0 [.ref x, .int sr, .int n, u] [] h = some r := by
  have e1 : bk_runK TX3_beginsB cl (bk_at [30, 40, 50, 60] [.ref x, .int sr, .int n, u] [.int n, .ref x] h r) 4 0 [.ref x, .int sr, .int n, u] [] h =
    bk_if (sr = 0) (bk_at [30, 40, 50, 60] [.ref x, .int sr, .int n, u] [.int n, .ref x] h r 30 [.ref x, .int sr, .int n, u] [.int n, .ref x] h)
      (bk_if (sr = 1) (bk_at [30, 40, 50, 60] [.ref x, .int sr, .int n, u] [.int n, .ref x] h r 40 [.ref x, .int sr, .int n, u] [.int n, .ref x] h)
        (bk_if (sr = 2) (bk_at [30, 40, 50, 60] [.ref x, .int sr, .int n, u] [.int n, .ref x] h r 50 [.ref x, .int sr, .int n, u] [.int n, .ref x] h)
          (bk_at [30, 40, 50, 60] [.ref x, .int sr, .int n, u] [.int n, .ref x] h r 60 [.ref x, .int sr, .int n, u] [.int n, .ref x] h))) := rfl
  rw [e1, bk_at_hit (by simp), bk_at_hit (by simp), bk_at_hit (by simp), bk_at_hit (by simp)]
  unfold bk_if
  simp only [ite_self]
theorem oX3_begins {w : bk_W} {l : Launch} {d : Nat} (hl : l.stackTraces = false) (M : bk_CS w l d) : bk_CS1 w l (d + 1) 3003 yX3_begins (wsW_ yX3_begins cX3_begins 4 (some .boolean) [(0, 66, 67, 13)]) := by
  intro as h r σ as' hcall hh hsr
  have e1 : (bif Nat.ble (bk_exp as).length 4 then bk_den TX3_begins (bk_call d) 0 (bk_ini as 4) [] h else none) = some r := hcall
  cases hb : Nat.ble (bk_exp as).length 4 with
  | false => rw [hb] at e1; cases e1
  | true =>
    rw [hb] at e1
    have e2 : bk_begins (bk_ini as 4) h = some r := (bk_den_eq TX3_begins (bk_call d) 0 (bk_ini as 4) [] h).symm.trans e1
    refine bk_ofWH (cc := cX3_begins) (maxL := 4) (ret := some .boolean) (hh := [(0, 66, 67, 13)]) (by decide +kernel) rfl ?_
    intro p e s m args below meth c s₁ B hml hv
    obtain ⟨rfl, hbs, hR, hK⟩ := hv
    have hts0 := atoms_spec (ws := wsW_ yX3_begins cX3_begins 4 (some .boolean) [(0, 66, 67, 13)]) B.pre
    have hts : ∀ x ∈ lw_all, x.before _ s = true := fun x hx => hts0 x (List.mem_cons_of_mem _ hx)
    have htab : c.exceptionTable.toList = [] ++ (⟨0, 66, 67, 13⟩ : ExceptionTableEntry) :: [] := vx_table (x := yX3_begins) B (hts0 _ List.mem_cons_self)
    have C : bk_Cx w p s m as'.toArray meth c cX3_begins 4 "BackRescue$Numbers" := ⟨B.exec, B.bytes, hml, findClass_of_methodNamed B.named, hts, B.notSynchronized, hK, hbs⟩
    have hnm : meth.name = yX3_begins.name := (name_of_methodNamed B.named B.method).1
    have Rm : bk_Rm (d + 1) (bk_room (d + 1) h r) h r := ⟨Nat.le_refl _, Nat.le_refl _, Nat.le_refl _, Nat.le_refl _⟩
    have hrt := bk_rt (w := w) (l := l) (p := p) (e := e) (R := bk_room (d + 1) h r) (s := s) (m := m) (args := as'.toArray) (below := below) (h0 := h) (σ0 := σ) (r := r) (rk := 1) B.exec B.bytes B.returns B.notSynchronized (Or.inr (Or.inl ⟨rfl, rfl⟩))
    have hlr := bk_entry_lr hsr (Nat.ble_eq.mp hb)
    obtain ⟨v0, v1, v2, u, hL⟩ := bk_len4 hlr.2.1
    rw [hL] at e2 hlr
    obtain ⟨x, hx, e3⟩ := bk_A_inv e2
    obtain ⟨sr, hsr1, e4⟩ := bk_I_inv e3
    obtain ⟨n, hn1, e5⟩ := bk_I_inv e4
    obtain ⟨v3, h3, e6⟩ := bk_A_inv e5
    have hx : v0 = .ref x := hx
    have hsr1 : v1 = .int sr := hsr1
    have hn1 : v2 = .int n := hn1
    subst hx; subst hsr1; subst hn1
    have hok := fun pc => ooX3_beginsB M p e (bk_room (d + 1) h r) s m as'.toArray below meth c h σ r _ C Rm hnm hh hrt pc
    have goal : W p l e (bk_room (d + 1) h r) s m as'.toArray below meth c s.heap [] (h.2.1 - h.2.1) (h.2.2 - h.2.2) (MQ below (bk_Qc w σ r) as'.toArray s (r.2.2.1 - h.2.1) (r.2.2.2 - h.2.2) (bk_own w)) (F0 m 0 ((lg_sl as' ++ List.replicate (4 - (lg_sl as').length) Slot.unset).toArray) []) := by
      by_cases hn : n < 0
      · rw [if_pos hn] at e6
        have hr : (some (Value.int 0), bk_lost h) = r := Option.some.inj e6
        refine bk_to (bk_call_grow d) hok (E := bk_at [30, 40, 50, 60] [.ref x, .int sr, .int n, u] [.int n, .ref x] h r) (fun pc L st h' q => ?_) (fun pc L st h' hle q => ?_) 4 0 _ [] h (bk_le_rf h) (bk_begins_stop _ x sr n u h r) σ s.heap [] _ [] bk_ext.rf hR va_S.rf hlr rfl
        · obtain ⟨-, -, -, rfl⟩ := bk_at_inv q
          rw [← hr]
          exact ⟨Nat.le_add_right _ _, Nat.le_add_right _ _⟩
        · obtain ⟨hpc, rfl, rfl, rfl⟩ := bk_at_inv q
          intro σ' H locs ls st2 he hR' hS hL' hst
          obtain ⟨t1, rfl, ht1⟩ := bk_sr_int hst
          obtain ⟨y, t2, rfl, hy, ht2⟩ := ht1
          cases ht2
          have hcat : y.category = 1 := bk_vr_cat hy
          have hd : ∃ at_, decode cX3_begins pc = .ok (.newarray at_, 2) ∧ covers (⟨0, 66, 67, 13⟩ : ExceptionTableEntry) pc = true := by
            simp only [List.mem_cons, List.not_mem_nil, or_false] at hpc
            rcases hpc with rfl | rfl | rfl | rfl
            · exact ⟨_, dX3_begins_30, rfl⟩
            · exact ⟨_, dX3_begins_40, rfl⟩
            · exact ⟨_, dX3_begins_50, rfl⟩
            · exact ⟨_, dX3_begins_60, rfl⟩
          obtain ⟨at_, hd, hcov⟩ := hd
          have f1 : r.2.2.1 = h'.2.1 + 3 := by rw [← hr]; rfl
          have f2 : r.2.2.2 = h'.2.2 + 400 := by rw [← hr]; rfl
          have f3 : r.1 = some (.int 0) := by rw [← hr]
          have f4 : r.2 = bk_lost h' := by rw [← hr]
          refine vx_newarrayZ C.1 C.2.1 hn hd fun tx htx => ?_
          refine vx_vm (nb := 44) (names := ["java/lang/RuntimeException", "java/lang/Exception"]) C.1 hl (by decide +kernel) (by decide +kernel) (by decide +kernel) (by decide +kernel) (bk_okw_spec C bk_atG) bk_otG hK.2.2.2.2.2.2.2.2.2.2.2.2.2.1 hK.2.2.2.2.2.2.2.2.2.2.2.2.2.2 hS (hL'.1.trans C.2.2.1.symm) (by rw [htx]; exact negative_text_modelled hn) (by rw [htx]; exact negative_text_bytes n) (by omega)
            (by show 2 + 4 < d + 1 + 16; omega) (by show (y.category + 0) + 10240 ≤ 10300 + 64 * (d + 1); omega) (by show 13 * 2 + 55 ≤ 10240; omega) (by have := Rm.2.2.1; omega) (by have := Rm.2.2.2; omega) C.2.2.2.2.2.1 fun H1 q9 ce hz hkp hS1 hce hcv hcl => ?_
          refine vx_catch (own := "BackRescue$Numbers") (name := "java/lang/NegativeArraySizeException") C.2.2.2.1 [] ⟨0, 66, 67, 13⟩ [] htab (fun z hz => nomatch hz) hcov (by decide) (C.2.2.2.2.1 _ q1227) (bk_nw_use rfl (hK.2.2.2.2.2.2.2.2.2.2.1 _ q1288 rfl)) hce hcv hcl ?_
          refine lv_astore_n C.1 C.2.1 dX3_begins_67 rfl (bk_all_has hL'.1 hL'.2.2.1) (by omega) rfl fun ls' hls => ?_
          refine lv_iconst (v := 0) C.1 C.2.1 dX3_begins_68 (by decide +kernel) ?_
          refine W.widen (k := r.2.2.1 - h'.2.1) (n := r.2.2.2 - h'.2.2) (by omega) (by omega) ?_
          exact hrt σ' H1 locs ls' 69 [.int 0] he (by rw [f4]; exact hR'.lost hz hkp) hS1 (Or.inr (Or.inl ⟨by omega, 0, f3, dX3_begins_69, rfl, Or.inr (Or.inl ⟨rfl, Or.inl rfl⟩)⟩))
      · rw [if_neg hn] at e6
        obtain ⟨n0, hn0⟩ := bk_den_run.mp (bk_begins_den (cl := bk_call d) (u := u) h3 e6)
        exact bk_runs (bk_call_grow d) hok n0 0 _ [] h (bk_le_rf h) hn0 σ s.heap [] _ [] bk_ext.rf hR va_S.rf hlr rfl
    rw [Nat.sub_self, Nat.sub_self] at goal
    rw [lg_entry_eq]
    exact goal
