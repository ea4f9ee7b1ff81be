/-! SPECS: the two parsers side by side: if .. then .. else .. end -/
set_option maxRecDepth 100000
theorem tree_keep {g1 g' : bG} {N N1 n1 d e x : Nat} {tr : Bool} {W : Int} {cs : List Int} (h : bTr (gHi g1 N1) d tr W x cs) (hf : ∀ t a k, n1 ≤ a → g1 t a k = bk_u) (hx : ∀ t a k, a < n1 → g' t a k = g1 t a k) (hN : N ≤ N1) (he : d ≤ e) : bTr (gHi g' N) e tr W x cs := by
  refine bTr_on (fun a => N1 ≤ a ∧ a < n1) (fun t a k q => ?_) (fun t a k q => ?_) _ _ _ _ h _ he
  · by_cases w : N1 ≤ a
    · rw [gHi_on w]; exact hf t a k (by omega)
    · exact gHi_off w
  · rw [gHi_on (by omega), gHi_on q.1]; exact hx t a k q.2
/-- a part is parsed, if there is no fault; else it is null -/
def oC (b : Int → Int) (sz W dp : Int) (m d : Nat) (tr : Bool) (c : Int) (σ σ' : Int → Int) (cs : List Int) : Prop := ∀ (κ : Nat → Nat) (cp cs0 : bF) (cj : bFJ) (Y : bY) (g : bG) (n : Nat × Nat) (rd : Nat) (F : bF), cW cp g n rd F b sz W dp σ →
  ∃ F' g' n' x, cP rd F g n σ c F' g' n' σ' ∧ (σ' 4 = 0 → x ≠ 0 ∧ bTr (gHi g' n.1) (σ' 0 - σ 0).toNat tr W x cs) ∧ ∀ K : Nat → bk_H → bk_R, (bk_I ((bk_Q rd F (bk_M κ (cp, cs0, cj) Y g n)).1 5 rd 6) fun x2 => bk_if (x2 = 0) (bk_V ((bk_Q rd F (bk_M κ (cp, cs0, cj) Y g n)).1 5 rd 0) (bk_cA (bk_call d m [.ref rd] (bk_Q rd F (bk_M κ (cp, cs0, cj) Y g n))) fun r h => K r h)) (K 0 (bk_Q rd F (bk_M κ (cp, cs0, cj) Y g n)))) = K x (bk_Q rd F' (bk_M κ (cp, cs0, cj) Y g' n'))
theorem z32 : (0 : Int32) = bk_i 0 := by decide
section OC
variable {b σ σ' : Int → Int} {sz W dp r c : Int} {m d : Nat} {tr : Bool} {cs : List Int}
theorem oC_of (C : cSim b sz W dp m tr r c σ σ' cs) (st : stepL b sz σ σ') (ok : okL b sz σ) (hc : 0 ≤ c) (hD : eN dp r ≤ d) : oC b sz W dp m d tr c σ σ' cs := by
  intro κ cp cs0 cj Y g n rd F hw
  have l6 := hw.2.2.1.2.2.2.2.1
  have s4 := ok.2.2.2.2.2.2.2
  by_cases q : σ 4 = 0
  · obtain ⟨F', g', n', x, p, t, e⟩ := C κ cp cs0 cj Y g n rd F d hw hD
    refine ⟨F', g', n', x, p, t, fun K => ?_⟩
    rw [q5_6, bq_I, l6, q, z32, bq_eq (by decide) (by decide) (by decide) (by decide), if_pos rfl, q5_0, bq_Vi, e, bq_cA]
  · have e := st.2.2.2 q
    subst e
    refine ⟨F, g, n, 0, cP_le (cP_rf hw) hc, fun w => absurd w q, fun K => ?_⟩
    rw [q5_6, bq_I, l6, z32, bq_eq (by omega) (by omega) (by decide) (by decide), if_neg q]
theorem oC_no (q : σ 4 ≠ 0) (ok : okL b sz σ) : oC b sz W dp m d tr 0 σ σ cs := by
  intro κ cp cs0 cj Y g n rd F hw
  have l6 := hw.2.2.1.2.2.2.2.1
  have s4 := ok.2.2.2.2.2.2.2
  refine ⟨F, g, n, 0, cP_rf hw, fun w => absurd w q, fun K => ?_⟩
  rw [q5_6, bq_I, l6, z32, bq_eq (by omega) (by omega) (by decide) (by decide), if_neg q]
theorem mustM_s {kk : Int} (h : σ 4 ≠ 0) : mustM b sz kk σ = σ := by
  unfold mustM; rw [if_neg (fun w => h w.1), failM_s h]
/-- the twin: a sign that must be there -/
theorem t_must {κ : Nat → Nat} {X : bX} {tp ts : bF} {tj tk : bFJ} {g : bG} {n : Nat × Nat} {kk : Int} {lit : Int32} (h : bTw tp g b sz) (hz : ts 102 8 = sz) (hl : tLx ts σ) (ok : okL b sz σ) (hk : lit = bk_i kk) (k0 : 0 ≤ kk) (k1 : kk ≤ 41) (hD : 9 ≤ d) :
    ∃ ts', frT ts ts' ∧ tLx ts' (mustM b sz kk σ) ∧ ∀ K : bk_H → bk_R, (bk_cI (bk_call d 4010 [.ref 102, .int lit] (bk_M κ X (tp, tj, ts, tk) g n)) fun x h1 => bk_if (x = 0) (bk_V (h1.1 4 102 0) (bk_cV (bk_call d 4012 [.ref 102, .int 2] h1) fun h2 => K h2)) (K h1)) = K (bk_M κ X (tp, tj, ts', tk) g n) := by
  subst hk
  obtain ⟨ts1, f1, l1, e1⟩ := t_eats (κ := κ) (X := X) (tj := tj) (tk := tk) (n := n) (kk := kk) (D := d) h hz hl ok k0 k1 hD
  unfold takM at l1
  unfold mustM
  by_cases q : σ 4 = 0 ∧ σ 2 = kk
  · rw [if_pos q] at l1 ⊢
    rw [bz_t q] at e1
    refine ⟨ts1, f1, l1, fun K => ?_⟩
    rw [e1, bq_cI, z32, bq_eq (by decide) (by decide) (by decide) (by decide), if_neg (by decide)]
  · rw [if_neg q] at l1 ⊢
    rw [bz_f q] at e1
    obtain ⟨ts2, f2, l2, e2⟩ := t_fails (κ := κ) (X := X) (tp := tp) (tj := tj) (tk := tk) (g := g) (n := n) (f := 2) (D := d) l1 ok (by omega)
    have l2' : (2 : Int32) = bk_i 2 := by decide
    refine ⟨ts2, frT_tr f1 f2, l2, fun K => ?_⟩
    rw [e1, bq_cI, z32, bq_eq (by decide) (by decide) (by decide) (by decide), if_pos rfl, gf102_0, bq_Vi, l2', e2, bq_cV]
end OC
theorem frD_of {rd : Nat} {F F' : bF} (h : frF rd F F') : frD rd F F' := ⟨h.1, fun k q => h.2 k (by omega)⟩
theorem frD_tr {rd : Nat} {F F' F'' : bF} (h : frD rd F F') (h' : frD rd F' F'') : frD rd F F'' := ⟨fun a q => (h'.1 a q).trans (h.1 a q), fun k q => (h'.2 k q).trans (h.2 k q)⟩
theorem frF_of {rd : Nat} {F F' : bF} (h : frD rd F F') (e : F' rd 7 = F rd 7) : frF rd F F' := ⟨h.1, fun k q => by
  by_cases w : k = 7
  · rw [w]; exact e
  · exact h.2 k (by omega)⟩
/-- deeper: the world one in -/
theorem cW_in {cp : bF} {g : bG} {n : Nat × Nat} {rd : Nat} {F F' : bF} {b σ σ' : Int → Int} {sz W dp dp' : Int} (h : cW cp g n rd F b sz W dp σ) (f : frD rd F F') (e : F' rd 7 = dp') (l : cLx F' rd σ') : cW cp g n rd F' b sz W dp' σ' :=
  ⟨h.1, (f.2 0 (by omega)).trans h.2.1, l, e, (f.2 9 (by omega)).trans h.2.2.2.2⟩
theorem cLx_7 {F : bF} {rd : Nat} {σ : Int → Int} {v : Int} (c : cLx F rd σ) : cLx (bU F rd 7 v) rd σ := ⟨by rw [bU_same, if_neg (by decide)]; exact c.1, by rw [bU_same, if_neg (by decide)]; exact c.2.1, by rw [bU_same, if_neg (by decide)]; exact c.2.2.1, by rw [bU_same, if_neg (by decide)]; exact c.2.2.2.1, by rw [bU_same, if_neg (by decide)]; exact c.2.2.2.2.1, by rw [bU_same, if_neg (by decide)]; exact c.2.2.2.2.2⟩
section AK
variable {b σ σ2 σ4 σ6 : Int → Int} {sz W dp ca cb cc : Int} {d : Nat} {cs1 cs2 cs3 : List Int}
theorem c_asks (ok : okL b sz σ) (d0 : 0 ≤ dp) (d6 : dp ≤ 6) (q4 : σ 4 = 0) (q12 : σ 2 = 12) (h1 : oC b sz W (dp + 1) 5024 d true ca (goM b sz dp σ) σ2 cs1) (st1 : stepL b sz (goM b sz dp σ) σ2) (h2 : oC b sz W (dp + 1) 5019 d false cb (mustM b sz 13 σ2) σ4 cs2) (st2 : stepL b sz (mustM b sz 13 σ2) σ4) (h3 : oC b sz W (dp + 1) 5019 d false cc (mustM b sz 14 σ4) σ6 cs3) (st3 : stepL b sz (mustM b sz 14 σ4) σ6)
    (hc : ca + cb + cc ≤ 6 * (goM b sz dp σ 0 - σ 0)) (hD : 12 ≤ d) (κ : Nat → Nat) (cp cs0 : bF) (cj : bFJ) (Y : bY) (g : bG) (n : Nat × Nat) (rd : Nat) (F : bF) (hw : cW cp g n rd F b sz W dp σ) :
    ∃ F' g' n' x, cP rd F g n σ 1 F' g' n' (mustM b sz 15 σ6) ∧ (mustM b sz 15 σ6 4 = 0 → x ≠ 0 ∧ bTr (gHi g' n.1) (mustM b sz 15 σ6 0 - σ 0).toNat false W x (cs1 ++ cs2 ++ cs3 ++ [3009])) ∧ bk_call (d + 1) 5022 [.ref rd] (bk_Q rd F (bk_M κ (cp, cs0, cj) Y g n)) = some (some (.ref x), bk_Q rd F' (bk_M κ (cp, cs0, cj) Y g' n')) := by
  have go := goM_st (dp := dp) ok
  have m13 := mustM_st (kk := 13) st1.1
  have m14 := mustM_st (kk := 14) st2.1
  have m15 := mustM_st (kk := 15) st3.1
  have o1 := go.2.1
  have o2 := st1.2.1
  have o3 := m13.2.1
  have o4 := st2.2.1
  have o5 := m14.2.1
  have o6 := st3.2.1
  have o7 := m15.2.1
  obtain ⟨F1, f1, e17, l1, e1⟩ := q_goesIn (κ := κ) (cs := cs0) (cj := cj) (Y := Y) (D := d) hw.1 hw.2.1 hw.2.2.1 ok hw.2.2.2.1 d0 d6 (by omega)
  have hw1 := cW_in hw f1 e17 l1
  obtain ⟨F2, g2, n2, x2, p2, t2, e2⟩ := h1 κ cp cs0 cj Y g n rd F1 hw1
  have hw2 := cW_ex hw1 p2
  obtain ⟨F3, f3, l3, e3⟩ := q_mustWord (κ := κ) (cs := cs0) (cj := cj) (Y := Y) (D := d) hw2.1 hw2.2.1 hw2.2.2.1 st1.1 kO15 (show 17 = 2 + 15 from rfl) (by omega)
  have p3 := cP_lx (c := 0) hw2 f3 l3 (by omega)
  have hw3 := cW_ex hw2 p3
  obtain ⟨F4, g4, n4, x4, p4, t4, e4⟩ := h2 κ cp cs0 cj Y g2 n2 rd F3 hw3
  have hw4 := cW_ex hw3 p4
  obtain ⟨F5, f5, l5, e5⟩ := q_mustWord (κ := κ) (cs := cs0) (cj := cj) (Y := Y) (D := d) hw4.1 hw4.2.1 hw4.2.2.1 st2.1 kO16 (show 18 = 2 + 16 from rfl) (by omega)
  have p5 := cP_lx (c := 0) hw4 f5 l5 (by omega)
  have hw5 := cW_ex hw4 p5
  obtain ⟨F6, g6, n6, x6, p6, t6, e6⟩ := h3 κ cp cs0 cj Y g4 n4 rd F5 hw5
  have hw6 := cW_ex hw5 p6
  obtain ⟨F7, f7, l7, e7⟩ := q_mustWord (κ := κ) (cs := cs0) (cj := cj) (Y := Y) (D := d) hw6.1 hw6.2.1 hw6.2.2.1 st3.1 kO17 (show 19 = 2 + 17 from rfl) (by omega)
  have p7 := cP_lx (c := 0) hw6 f7 l7 (by omega)
  have hw7 := cW_ex hw6 p7
  have pA := cP_tr (cP_tr (cP_tr (cP_tr (cP_tr p2 p3) p4) p5) p6) p7
  have h77 : F7 rd 7 = dp + 1 := hw7.2.2.2.1
  have p8 := cP_new (k := 11) (fs := bk_fields 11) hw7 (by decide)
  have nw := (bEx_new (k := 11) (fs := bk_fields 11) hw7.1).2
  have e8 := q_ifN (κ := κ) (X := (cp, cs0, cj)) (Y := Y) (n := (n6.1 + 1, n6.2 + (bk_fields 11).length)) (rd := rd) (F := bU F7 rd 7 dp) (y := x2) (u := x4) (w := x6) (D := d) nw (by omega)
  have p9 := cP_put (g'' := g3 (gN g6 11 n6.1 (bk_fields 11)) 11 n6.1 (.ref x2) (.ref x4) (.ref x6)) (cP_tr pA p8) pA.2.2.1.2.1 (Nat.lt_succ_self _) (fun t a j ha => g3_ne ha)
  have rr := hw.1.2.2.2.2.2.2.2.2.1
  have rr6 := hw7.1.2.2.2.2.2.2.2.2.1
  have n26 := (bEx_tr (bEx_tr (bEx_tr p3.2.2.1 p4.2.2.1) p5.2.2.1) p6.2.2.1)
  have q2 := p2.2.2.1
  have q4' := p4.2.2.1
  have q6 := p6.2.2.1
  have dd : dp + 1 - 1 = dp := by omega
  refine ⟨bU F7 rd 7 dp, g3 (gN g6 11 n6.1 (bk_fields 11)) 11 n6.1 (.ref x2) (.ref x4) (.ref x6), (n6.1 + 1, n6.2 + (bk_fields 11).length), n6.1, ⟨frF_of (frD_tr f1 (frD_tr (frD_of pA.1) ⟨fun a ha => by funext k; rw [bU_ne _ _ _ _ _ _ ha], fun k hk => by rw [bU_same, if_neg (by omega)]⟩)) (by rw [bU_same, if_pos rfl]; exact hw.2.2.2.1.symm), cLx_7 l7, p9.2.2.1, ?_, ?_⟩, fun z => ⟨by omega, ?_⟩, ?_⟩
  · have := p9.2.2.2.1; omega
  · have := p9.2.2.2.2; omega
  · have z6 := m15.2.2.1 z
    have z5 := st3.2.2.1 z6
    have z4 := m14.2.2.1 z5
    have z3 := st2.2.2.1 z4
    have z2 := m13.2.2.1 z3
    have k15 := mustM_0 st3.1 z
    have z1 := st1.2.2.1 z2
    have k1 := goM_0 ok z1
    have lt1 : σ 0 < σ 1 := ok.2.2.2.2.1 (by omega)
    have lt6 : ∀ t a k, a < n6.1 → g3 (gN g6 11 n6.1 (bk_fields 11)) 11 n6.1 (.ref x2) (.ref x4) (.ref x6) t a k = g6 t a k := fun t a k ha => by
      rw [g3_ne (by omega)]; unfold gN; rw [if_neg (by omega)]
    have a2 := q2.2.1
    have a4 := q4'.2.1
    have a6 := q6.2.1
    have a34 := bEx_tr p5.2.2.1 p6.2.2.1
    have a44 := a34.2.1
    have a24 := n26.2.1
    have ed : (mustM b sz 15 σ6 0 - σ 0).toNat = ((mustM b sz 15 σ6 0 - σ 0).toNat - 1) + 1 := by omega
    have u2 := tree_keep (N := n.1) (e := (mustM b sz 15 σ6 0 - σ 0).toNat - 1) (t2 z2).2 q2.2.2.2 (fun t a k ha => (lt6 t a k (by omega)).trans (n26.1 t a k ha)) (Nat.le_refl _) (by omega)
    have u4 := tree_keep (N := n.1) (e := (mustM b sz 15 σ6 0 - σ 0).toNat - 1) (t4 z4).2 q4'.2.2.2 (fun t a k ha => (lt6 t a k (by omega)).trans (a34.1 t a k ha)) a2 (by omega)
    have u6 := tree_keep (N := n.1) (e := (mustM b sz 15 σ6 0 - σ 0).toNat - 1) (t6 z6).2 q6.2.2.2 lt6 (by omega) (by omega)
    rw [ed]
    have hi : n.1 ≤ n6.1 := pA.2.2.1.2.1
    exact Or.inr (Or.inr (Or.inr ⟨cs1, cs2, cs3, x2, x4, x6, u2, u4, u6, rfl, (gHi_on hi).trans ((g3_oth (by decide)).trans (nw.1 14 0 (by decide))), (gHi_on hi).trans ((g3_oth (by decide)).trans (nw.1 13 0 (by decide))), (gHi_on hi).trans ((g3_oth (by decide)).trans (nw.1 12 0 (by decide))), (gHi_on hi).trans g3_0, (gHi_on hi).trans g3_1, (gHi_on hi).trans g3_2⟩))
  · have hnew : bk_new (bk_Q rd (bU F7 rd 7 dp) (bk_M κ (cp, cs0, cj) Y g6 n6)) 11 (bk_fields 11) = bk_Q rd (bU F7 rd 7 dp) (bk_M κ (cp, cs0, cj) Y (gN g6 11 n6.1 (bk_fields 11)) (n6.1 + 1, n6.2 + (bk_fields 11).length)) := nQ (by decide) rr6 _
    have hn1 : (bk_Q rd (bU F7 rd 7 dp) (bk_M κ (cp, cs0, cj) Y g6 n6)).2.1 = n6.1 := rfl
    have v11 : ∀ n, (bk_Q rd (bU F7 rd 7 dp) (bk_M κ (cp, cs0, cj) Y (gN g6 11 n6.1 (bk_fields 11)) n)).1 11 n6.1 0 = .ref 0 := fun n => (gQ (by decide)).trans (nw.2 0 (by decide))
    rw [kX5_asks, eX5_asks_0, q5_0, bq_Vi, e1, bq_cV]
    refine (e2 _).trans ?_
    show bk_den TX5_asks (bk_call d) 19 [.ref rd, bk_u, bk_u, bk_u] [.ref x2] (bk_Q rd F2 (bk_M κ (cp, cs0, cj) Y g2 n2)) = _
    rw [eX5_asks_19, q5_0, bq_Vi, e3, bq_cV]
    refine (e4 _).trans ?_
    show bk_den TX5_asks (bk_call d) 42 [.ref rd, .ref x2, bk_u, bk_u] [.ref x4] (bk_Q rd F4 (bk_M κ (cp, cs0, cj) Y g4 n4)) = _
    rw [eX5_asks_42, q5_0, bq_Vi, e5, bq_cV]
    refine (e6 _).trans ?_
    show bk_den TX5_asks (bk_call d) 65 [.ref rd, .ref x2, .ref x4, bk_u] [.ref x6] (bk_Q rd F6 (bk_M κ (cp, cs0, cj) Y g6 n6)) = _
    rw [eX5_asks_65]
    simp (disch := first | assumption | omega) only [e7, h77, dd, hnew, hn1, eX5_asks_86, v11, e8, bi_add, bi_sub, bi_mul, bi_neg, bi_div, bi_64, bl_add, bl_sub, bl_mul, bl_neg, bl_div, bl_32, bi_min, bi_max, bl_min, bl_max, bq_I, bq_J, bq_A, bq_Vi, bq_Vl, bq_Vr, bq_cV, bq_cI, bq_cJ, bq_cA, bq_le, bq_lt, bq_eq, bq_z, bq_o, bq_ref, bq_nz, bq_nzJ, bq_bl, bq_blz, bq_T, bq_F, if_true, if_false, Int.reduceEq, Int.reduceLT, Int.reduceLE, Int.reduceAdd, Int.reduceSub, Int.reduceMul, Int.add_sub_cancel, li_0, li_1, li_5, li_6, li_7, li_11, li_17, li_18, li_19, li_42, li_65, li_86, ll_0, ll_1, ll_5, ll_6, ll_7, ll_11, ll_17, ll_18, ll_19, ll_42, ll_65, ll_86, q5_0, w5_0, q5_2, w5_2, q5_3, w5_3, q5_4, w5_4, q5_5, w5_5, q5_6, w5_6, q5_7, w5_7, q5_8, w5_8, q5_9, w5_9, q1_4, w1_4, q1_5, w1_5, q1_6, w1_6, q1_7, w1_7, q1_8, w1_8, q1_9, w1_9, q1_10, w1_10, q1_11, w1_11, q1_12, w1_12, qa_2, wa_2, qa_3, wa_3, qa_4, wa_4, bU_same, bU_ne, s_in]
end AK
section TA
variable {b σ : Int → Int} {sz W dp : Int}
theorem sim_asks (ok : okL b sz σ) (d0 : 0 ≤ dp) (d6 : dp ≤ 6) (q4 : σ 4 = 0) (q12 : σ 2 = 12) (hT : dp < 6 → ∀ σ', okL b sz σ' → σ 0 < σ' 0 → SIM b sz W (dp + 1) 5024 4027 true 7 3 σ') (hS : dp < 6 → ∀ σ', okL b sz σ' → σ 0 < σ' 0 → SIM b sz W (dp + 1) 5019 4020 false 4 1 σ') : SIM b sz W dp 5022 4026 false 1 1 σ := by
  have go := goM_st (dp := dp) ok
  have o1 := go.2.1
  have lt1 : σ 0 < σ 1 := ok.2.2.2.2.1 (by omega)
  by_cases c : goM b sz dp σ 4 = 0
  · have k1 := goM_0 ok c
    obtain ⟨σ2, cs1, st1, w1, C1, T1⟩ := hT (by omega) (goM b sz dp σ) go.1 (by omega)
    have m13 := mustM_st (kk := 13) st1.1
    have o2 := st1.2.1
    have o3 := m13.2.1
    obtain ⟨σ4, cs2, st2, w2, C2, T2⟩ := hS (by omega) (mustM b sz 13 σ2) m13.1 (by omega)
    have m14 := mustM_st (kk := 14) st2.1
    have o4 := st2.2.1
    have o5 := m14.2.1
    obtain ⟨σ6, cs3, st3, w3, C3, T3⟩ := hS (by omega) (mustM b sz 14 σ4) m14.1 (by omega)
    have m15 := mustM_st (kk := 15) st3.1
    have o6 := st3.2.1
    have o7 := m15.2.1
    have stA := stepL_tr (stepL_tr (stepL_tr (stepL_tr (stepL_tr (stepL_tr go st1) m13) st2) m14) st3) m15
    refine ⟨mustM b sz 15 σ6, cs1 ++ cs2 ++ cs3 ++ [3009], stA, fun z => ⟨by omega, ?_⟩, ?_, ?_⟩
    · have z6 := m15.2.2.1 z
      have z5 := st3.2.2.1 z6
      have z4 := m14.2.2.1 z5
      have z3 := st2.2.2.1 z4
      have z2 := m13.2.2.1 z3
      have ed : (mustM b sz 15 σ6 0 - σ 0).toNat = ((mustM b sz 15 σ6 0 - σ 0).toNat - 1) + 1 := by omega
      rw [ed]
      exact Or.inr (Or.inr (Or.inr ⟨cs1, cs2, cs3, wfc_mono _ _ _ (w1 z2).2 _ (by omega), wfc_mono _ _ _ (w2 z4).2 _ (by omega), wfc_mono _ _ _ (w3 z6).2 _ (by omega), rfl⟩))
    · intro κ cp cs0 cj Y g n rd F D hw hD
      unfold eN at hD
      obtain ⟨d, rfl⟩ := dep (show 1 ≤ D by omega)
      exact c_asks ok d0 d6 q4 q12 (oC_of C1 st1 go.1 (by decide) (by unfold eN; omega)) st1 (oC_of C2 st2 m13.1 (by decide) (by unfold eN; omega)) st2 (oC_of C3 st3 m14.1 (by decide) (by unfold eN; omega)) st3 (by omega) (by omega) κ cp cs0 cj Y g n rd F hw
    · intro κ X tp tj ts tk g n D hw hD
      unfold eN at hD
      obtain ⟨d, rfl⟩ := dep (show 1 ≤ D by omega)
      have n0 := hw.2.2.2.2.1
      have n1 := hw.2.2.2.2.2
      have b1 := hw.1.2.2.2.1
      obtain ⟨ts1, f1, l1, e1⟩ := t_goesIn (κ := κ) (X := X) (tj := tj) (tk := tk) (n := n) (D := d) hw.1 hw.2.1 hw.2.2.1 ok d0 d6 (by omega)
      rw [bz_t c] at e1
      have p1 := tP_lx (s := 1) hw f1 l1 (by omega)
      have hw1 := tW_p hw p1 (by decide)
      obtain ⟨ts2, p2, e2⟩ := T1 κ X tp tj ts1 tk g n d hw1 (by unfold eN; omega)
      have hw2 := tW_p hw1 p2 (by decide)
      obtain ⟨ts3, f3, l3, e3⟩ := t_must (κ := κ) (X := X) (tj := tj) (tk := tk) (n := n) (kk := 13) (d := d) hw2.1 hw2.2.1 hw2.2.2.1 st1.1 li_13 (by decide) (by decide) (by omega)
      have p3 := tP_lx (s := 0) hw2 f3 l3 (by omega)
      have hw3 := tW_p hw2 p3 (by decide)
      obtain ⟨ts4, p4, e4⟩ := T2 κ X tp tj ts3 tk g n d hw3 (by unfold eN; omega)
      have hw4 := tW_p hw3 p4 (by decide)
      obtain ⟨ts5, f5, l5, e5⟩ := t_must (κ := κ) (X := X) (tj := tj) (tk := tk) (n := n) (kk := 14) (d := d) hw4.1 hw4.2.1 hw4.2.2.1 st2.1 li_14 (by decide) (by decide) (by omega)
      have p5 := tP_lx (s := 0) hw4 f5 l5 (by omega)
      have hw5 := tW_p hw4 p5 (by decide)
      obtain ⟨ts6, p6, e6⟩ := T3 κ X tp tj ts5 tk g n d hw5 (by unfold eN; omega)
      have hw6 := tW_p hw5 p6 (by decide)
      obtain ⟨ts7, f7, l7, e7⟩ := t_must (κ := κ) (X := X) (tj := tj) (tk := tk) (n := n) (kk := 15) (d := d) hw6.1 hw6.2.1 hw6.2.2.1 st3.1 li_15 (by decide) (by decide) (by omega)
      have p7 := tP_lx (s := 0) hw6 f7 l7 (by omega)
      have pA := tP_tr n0 (tP_tr n0 (tP_tr n0 (tP_tr n0 (tP_tr n0 (tP_tr n0 p1 p2 st1.2.2.1) p3 m13.2.2.1) p4 st2.2.2.1) p5 m14.2.2.1) p6 st3.2.2.1) p7 m15.2.2.1
      have m1 := pA.2.2.2.2.1
      have m2 := pA.2.2.2.2.2.1
      have y1 := m15.1.2.1
      have y2 := m15.1.2.2.1
      have s24 := m15.1.2.2.2.2.2.2.2
      have l11 := l7.2.2.2.2.1
      have en : bk_den TX4_readIf (bk_call d) 72 [.ref 102, .int (bk_i dp)] [] (bk_M κ X (tp, tj, ts7, tk) g n) = bk_call (d + 1) 4026 [.ref 102, .int (bk_i dp)] (bk_M κ X (tp, tj, ts, tk) g n) := by
        symm
        rw [kX4_readIf, eX4_readIf_0, gf102_0, bq_Vi, e1, bq_cI, z32, bq_eq (by decide) (by decide) (by decide) (by decide), if_neg (by decide), gf102_0, bq_Vi, li_1, bi_add, e2, bq_cV, gf102_0, bq_Vi]
        refine (e3 _).trans ?_
        show bk_den TX4_readIf (bk_call d) 30 [.ref 102, .int (bk_i dp)] [] (bk_M κ X (tp, tj, ts3, tk) g n) = _
        rw [eX4_readIf_30, gf102_0, bq_Vi, li_1, bi_add, e4, bq_cV, gf102_0, bq_Vi]
        refine (e5 _).trans ?_
        show bk_den TX4_readIf (bk_call d) 51 [.ref 102, .int (bk_i dp)] [] (bk_M κ X (tp, tj, ts5, tk) g n) = _
        rw [eX4_readIf_51, gf102_0, bq_Vi, li_1, bi_add, e6, bq_cV, gf102_0, bq_Vi]
        exact e7 _
      rw [← en, eX4_readIf_72]
      by_cases c4 : mustM b sz 15 σ6 4 = 0
      · rw [c4] at l11
        have e8 := t_emit (κ := κ) (X := X) (tp := tp) (tj := tj) (ts := ts7) (tk := tk) (g := g) (n := n) (c := 3009) (D := d) hw.1.1 l11 (by omega) (by omega) (by omega)
        refine ⟨_, tP_code (c := 3009) n0 (cs := cs1 ++ cs2 ++ cs3) (by simpa using pA), ?_⟩
        simp (disch := first | assumption | omega) only [e8, bi_add, bi_sub, bi_mul, bi_neg, bi_div, bi_64, bl_add, bl_sub, bl_mul, bl_neg, bl_div, bl_32, bi_min, bi_max, bl_min, bl_max, bq_I, bq_J, bq_A, bq_Vi, bq_Vl, bq_Vr, bq_cV, bq_cI, bq_cJ, bq_cA, bq_le, bq_lt, bq_eq, bq_z, bq_o, bq_ref, bq_nz, bq_nzJ, bq_bl, bq_blz, bq_T, bq_F, if_true, if_false, Int.reduceEq, Int.reduceLT, Int.reduceLE, Int.reduceAdd, Int.reduceSub, Int.reduceMul, Int.add_sub_cancel, li_0, li_1, li_2, li_4, li_13, li_14, li_15, li_30, li_51, li_72, li_3009, li_4010, li_4012, li_4020, li_4023, li_4025, li_4026, li_4027, ll_0, ll_1, ll_2, ll_4, ll_13, ll_14, ll_15, ll_30, ll_51, ll_72, ga103, ga105, ga119, ga120, ga106, ga107, ga108, ga109, ga110, ga111, ga116, ga118, ga104, ga112, ga114, ga115, ga117, ga113, ga121, gf102_5, gf102_13, gf102_14, gf102_0, gf102_6, gf102_7, gf102_8, gf102_9, gf102_10, gf102_11, gf102_12, gf102_15, gf102_19, gf102_20, gr102_1, gr102_2, gr102_3, gr102_4, gr102_16, gr102_17, gr102_18, gr102_21, gr102_22, gr102_23, gr102_24, gr102_25, gr102_26, gr102_27, gr102_28, gr102_29, gr102_30, gr102_31, gr102_32, pa103, pa105, pa119, pa120, pa106, pa107, pa108, pa109, pa110, pa111, pa116, pa118, pa104, pa112, pa114, pa115, pa117, pa113, pa121, pf102_5, pf102_13, pf102_14, pf102_0, pf102_6, pf102_7, pf102_8, pf102_9, pf102_10, pf102_11, pf102_12, pf102_15, pf102_19, pf102_20, s_within, t_isLost, t_fallen, t_isHurt, t_between, t_isPassage, t_isRoom, t_standNow, t_standsAll, t_isIn, t_noComing, t_noStand, t_bitsOf, u_tens4109, t_draw]
      · have e8 := t_emitF (κ := κ) (X := X) (tp := tp) (tj := tj) (ts := ts7) (tk := tk) (g := g) (n := n) (c := 3009) (D := d) hw.1.1 l11 c4 s24.1 s24.2 (by omega)
        refine ⟨ts7, tP_any (tP_le pA (by decide)) c4, ?_⟩
        simp (disch := first | assumption | omega) only [e8, bi_add, bi_sub, bi_mul, bi_neg, bi_div, bi_64, bl_add, bl_sub, bl_mul, bl_neg, bl_div, bl_32, bi_min, bi_max, bl_min, bl_max, bq_I, bq_J, bq_A, bq_Vi, bq_Vl, bq_Vr, bq_cV, bq_cI, bq_cJ, bq_cA, bq_le, bq_lt, bq_eq, bq_z, bq_o, bq_ref, bq_nz, bq_nzJ, bq_bl, bq_blz, bq_T, bq_F, if_true, if_false, Int.reduceEq, Int.reduceLT, Int.reduceLE, Int.reduceAdd, Int.reduceSub, Int.reduceMul, Int.add_sub_cancel, li_0, li_1, li_2, li_4, li_13, li_14, li_15, li_30, li_51, li_72, li_3009, li_4010, li_4012, li_4020, li_4023, li_4025, li_4026, li_4027, ll_0, ll_1, ll_2, ll_4, ll_13, ll_14, ll_15, ll_30, ll_51, ll_72, ga103, ga105, ga119, ga120, ga106, ga107, ga108, ga109, ga110, ga111, ga116, ga118, ga104, ga112, ga114, ga115, ga117, ga113, ga121, gf102_5, gf102_13, gf102_14, gf102_0, gf102_6, gf102_7, gf102_8, gf102_9, gf102_10, gf102_11, gf102_12, gf102_15, gf102_19, gf102_20, gr102_1, gr102_2, gr102_3, gr102_4, gr102_16, gr102_17, gr102_18, gr102_21, gr102_22, gr102_23, gr102_24, gr102_25, gr102_26, gr102_27, gr102_28, gr102_29, gr102_30, gr102_31, gr102_32, pa103, pa105, pa119, pa120, pa106, pa107, pa108, pa109, pa110, pa111, pa116, pa118, pa104, pa112, pa114, pa115, pa117, pa113, pa121, pf102_5, pf102_13, pf102_14, pf102_0, pf102_6, pf102_7, pf102_8, pf102_9, pf102_10, pf102_11, pf102_12, pf102_15, pf102_19, pf102_20, s_within, t_isLost, t_fallen, t_isHurt, t_between, t_isPassage, t_isRoom, t_standNow, t_standsAll, t_isIn, t_noComing, t_noStand, t_bitsOf, u_tens4109, t_draw]
  · have ms := fun kk => mustM_s (b := b) (sz := sz) (kk := kk) c
    refine ⟨goM b sz dp σ, [3009], go, fun z => absurd z c, ?_, ?_⟩
    · intro κ cp cs0 cj Y g n rd F D hw hD
      unfold eN at hD
      obtain ⟨d, rfl⟩ := dep (show 1 ≤ D by omega)
      have rf := stepL_rf go.1
      have oo := fun m tr => oC_no (W := W) (dp := dp + 1) (m := m) (d := d) (tr := tr) (cs := []) c go.1
      have := c_asks (W := W) (d := d) (σ2 := goM b sz dp σ) (σ4 := goM b sz dp σ) (σ6 := goM b sz dp σ) ok d0 d6 q4 q12 (oo 5024 true) rf (by rw [ms]; exact oo 5019 false) (by rw [ms]; exact rf) (by rw [ms]; exact oo 5019 false) (by rw [ms]; exact rf) (by omega) (by omega) κ cp cs0 cj Y g n rd F hw
      rw [ms] at this
      exact this
    · intro κ X tp tj ts tk g n D hw hD
      unfold eN at hD
      obtain ⟨d, rfl⟩ := dep (show 1 ≤ D by omega)
      obtain ⟨ts1, f1, l1, e1⟩ := t_goesIn (κ := κ) (X := X) (tj := tj) (tk := tk) (n := n) (D := d) hw.1 hw.2.1 hw.2.2.1 ok d0 d6 (by omega)
      rw [bz_f c] at e1
      refine ⟨ts1, tP_any (tP_lx (s := 0) hw f1 l1 (by omega)) c, ?_⟩
      rw [kX4_readIf, eX4_readIf_0]
      simp (disch := first | assumption | omega) only [e1, bi_add, bi_sub, bi_mul, bi_neg, bi_div, bi_64, bl_add, bl_sub, bl_mul, bl_neg, bl_div, bl_32, bi_min, bi_max, bl_min, bl_max, bq_I, bq_J, bq_A, bq_Vi, bq_Vl, bq_Vr, bq_cV, bq_cI, bq_cJ, bq_cA, bq_le, bq_lt, bq_eq, bq_z, bq_o, bq_ref, bq_nz, bq_nzJ, bq_bl, bq_blz, bq_T, bq_F, if_true, if_false, Int.reduceEq, Int.reduceLT, Int.reduceLE, Int.reduceAdd, Int.reduceSub, Int.reduceMul, Int.add_sub_cancel, li_0, li_1, li_2, li_4, li_13, li_14, li_15, li_30, li_51, li_72, li_3009, li_4010, li_4012, li_4020, li_4023, li_4025, li_4026, li_4027, ll_0, ll_1, ll_2, ll_4, ll_13, ll_14, ll_15, ll_30, ll_51, ll_72, ga103, ga105, ga119, ga120, ga106, ga107, ga108, ga109, ga110, ga111, ga116, ga118, ga104, ga112, ga114, ga115, ga117, ga113, ga121, gf102_5, gf102_13, gf102_14, gf102_0, gf102_6, gf102_7, gf102_8, gf102_9, gf102_10, gf102_11, gf102_12, gf102_15, gf102_19, gf102_20, gr102_1, gr102_2, gr102_3, gr102_4, gr102_16, gr102_17, gr102_18, gr102_21, gr102_22, gr102_23, gr102_24, gr102_25, gr102_26, gr102_27, gr102_28, gr102_29, gr102_30, gr102_31, gr102_32, pa103, pa105, pa119, pa120, pa106, pa107, pa108, pa109, pa110, pa111, pa116, pa118, pa104, pa112, pa114, pa115, pa117, pa113, pa121, pf102_5, pf102_13, pf102_14, pf102_0, pf102_6, pf102_7, pf102_8, pf102_9, pf102_10, pf102_11, pf102_12, pf102_15, pf102_19, pf102_20, s_within, t_isLost, t_fallen, t_isHurt, t_between, t_isPassage, t_isRoom, t_standNow, t_standsAll, t_isIn, t_noComing, t_noStand, t_bitsOf, u_tens4109, t_draw]
end TA
