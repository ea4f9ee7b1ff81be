/-! SPECS: the twin's parser: the next token -/
set_option maxRecDepth 100000
section TN
variable {κ : Nat → Nat} {X : bX} {Y : bY} {tp ts : bF} {tj tk : bFJ} {g : bG} {n : Nat × Nat} {b σ : Int → Int} {sz k c f a e : Int} {d D : Nat}
theorem t_nx89 (h : bTw tp g b sz) (hz : ts 102 8 = sz) (e4 : ts 102 11 = σ 4) (e5 : σ 4 ≠ 0 → ts 102 12 = σ 5) {r : Int} (r0 : 0 ≤ r) (r1 : r < sz) (hD : 7 ≤ d) (q1 : pS (b r)) {y : bF} (ya : ∀ a, a ≠ 102 → y a = ts a) (yk : ∀ k, k ≠ 6 → k ≠ 7 → y 102 k = ts 102 k) (y6 : y 102 6 = r) (y7 : y 102 7 = r) :
    bk_wp (bk_den TX4_next (bk_call d) 89 [.ref 102, bk_u] [] (bk_M κ X (tp, tj, y, tk) g n)) (fun v h' => ∃ ts', v = none ∧ h' = bk_M κ X (tp, tj, ts', tk) g n ∧ frT ts ts' ∧ tLx ts' (s6 r (run pS b sz r) (keyM (txt b r (run pS b sz r))) (σ 3) (σ 4) (σ 5))) := by
  have hw := h
  obtain ⟨hF, hS, z0, z1, hb⟩ := h
  have p := r1
  have g1 := run_ge1 (P := pS) (sz := sz) p q1
  have g2 := run_le (P := pS) (b := b) (show r ≤ sz by omega)
  refine bk_while (σ := bF) (fun x => bk_den TX4_next (bk_call d) 89 [.ref 102, bk_u] [] (bk_M κ X (tp, tj, x, tk) g n)) (fun x => (sz - x 102 7).toNat) (fun x => (∀ a, a ≠ 102 → x a = ts a) ∧ (∀ k, k ≠ 6 → k ≠ 7 → x 102 k = ts 102 k) ∧ x 102 6 = r ∧ r ≤ x 102 7 ∧ x 102 7 ≤ sz ∧ run pS b sz (x 102 7) = run pS b sz r) ?_ y ⟨ya, yk, y6, by rw [y7]; omega, by rw [y7]; omega, by rw [y7]⟩
  rintro x ⟨xa, xk, x6, x7, x7', xr⟩ cont2
  have x8 : x 102 8 = sz := (xk 8 (by decide) (by decide)).trans hz
  have es3 := t_see (κ := κ) (X := X) (tj := tj) (tk := tk) (n := n) (ts := x) (k := x 102 7) (D := d) hw x8 (by omega) (by omega) (by omega)
  rw [eX4_next_89]
  by_cases w : x 102 7 < sz ∧ pS (b (x 102 7))
  · have bx := hb (x 102 7) (by omega) (by omega)
    have em3 := fun h => t_isSmall (c := b (x 102 7)) (D := d) (by omega) (by omega) (by omega) h
    rw [if_pos w.1] at es3
    rw [bz_t w.2] at em3
    rw [gf102_7, bq_I, gf102_0, bq_Vi, es3, bq_cI, em3, bq_cI]; simp (disch := first | assumption | omega) only [es3, em3, bi_add, bi_sub, bi_mul, bi_neg, bi_div, bi_64, bl_add, bl_sub, bl_mul, bl_neg, bl_div, bl_32, bi_min, bi_max, bl_min, bl_max, bq_I, bq_J, bq_A, bq_Vi, bq_Vl, bq_Vr, bq_cV, bq_cI, bq_cJ, bq_cA, bq_le, bq_lt, bq_eq, bq_z, bq_o, bq_ref, bq_nz, bq_nzJ, bq_bl, bq_blz, bq_T, bq_F, if_true, if_false, Int.reduceEq, Int.reduceLT, Int.reduceLE, Int.reduceAdd, Int.reduceSub, Int.reduceMul, Int.add_sub_cancel, li_0, li_1, li_2, li_3, li_4, li_6, li_7, li_8, li_9, li_10, li_15, li_23, li_24, li_25, li_30, li_32, li_34, li_48, li_89, li_146, li_196, li_230, li_254, li_288, li_4005, li_4006, li_4007, li_4008, li_4009, ll_0, ll_1, ll_2, ll_3, ll_4, ll_6, ll_7, ll_8, ll_9, ll_10, ll_15, ll_23, ll_24, ll_25, ll_30, ll_32, ll_34, ll_48, ll_89, ll_146, ll_196, ll_230, ll_254, ll_288, ga103, ga105, ga119, ga120, ga106, ga107, ga108, ga109, ga110, ga111, ga116, ga118, ga104, ga112, ga114, ga115, ga117, ga113, ga121, gf102_5, gf102_13, gf102_14, gf102_0, gf102_6, gf102_7, gf102_8, gf102_9, gf102_10, gf102_11, gf102_12, gf102_15, gf102_19, gf102_20, gr102_1, gr102_2, gr102_3, gr102_4, gr102_16, gr102_17, gr102_18, gr102_21, gr102_22, gr102_23, gr102_24, gr102_25, gr102_26, gr102_27, gr102_28, gr102_29, gr102_30, gr102_31, gr102_32, pa103, pa105, pa119, pa120, pa106, pa107, pa108, pa109, pa110, pa111, pa116, pa118, pa104, pa112, pa114, pa115, pa117, pa113, pa121, pf102_5, pf102_13, pf102_14, pf102_0, pf102_6, pf102_7, pf102_8, pf102_9, pf102_10, pf102_11, pf102_12, pf102_15, pf102_19, pf102_20, s_within, t_isLost, t_fallen, t_isHurt, t_between, t_isPassage, t_isRoom, t_standNow, t_standsAll, t_isIn, t_noComing, t_noStand, t_bitsOf, u_tens4109, t_draw]
    refine cont2 _ (by rw [bU_same, if_pos rfl]; omega) ⟨fun a ha => by funext k; rw [bU_ne _ _ _ _ _ _ ha, xa a ha], fun k h2 h3 => by rw [bU_same, if_neg h3]; exact xk k h2 h3, by rw [bU_same, if_neg (by decide)]; exact x6, by rw [bU_same, if_pos rfl]; omega, by rw [bU_same, if_pos rfl]; omega, by rw [bU_same, if_pos rfl, ← xr]; exact (run_go w.1 w.2).symm⟩
  · have ee : x 102 7 = run pS b sz r := by
      rw [← xr]
      by_cases w1 : x 102 7 < sz
      · exact (run_no (fun v => w ⟨w1, v⟩)).symm
      · exact (run_end (by omega)).symm
    have cr : -1 ≤ (if x 102 7 < sz then b (x 102 7) else -1) ∧ (if x 102 7 < sz then b (x 102 7) else -1) < 256 := by
      split
      · have := hb (x 102 7) (by omega) (by omega)
        omega
      · omega
    have em3 := fun h => t_isSmall (c := if x 102 7 < sz then b (x 102 7) else -1) (D := d) (by omega) (by omega) (by omega) h
    have np : ¬ pS (if x 102 7 < sz then b (x 102 7) else -1) := by
      split
      · rename_i v; exact fun t => w ⟨v, t⟩
      · decide
    rw [bz_f np] at em3
    have ek := t_keyAt (κ := κ) (X := X) (tj := tj) (tk := tk) (n := n) (ts := x) (D := d) hw x6 ee (by omega) (by omega) g2 (by omega)
    have kr := key_rng (txt b r (run pS b sz r))
    generalize (if x 102 7 < sz then b (x 102 7) else -1) = u at es3 em3
    rw [gf102_7, bq_I, gf102_0, bq_Vi, es3, bq_cI, em3, bq_cI]; simp (disch := first | assumption | omega) only [es3, em3, ek, bi_add, bi_sub, bi_mul, bi_neg, bi_div, bi_64, bl_add, bl_sub, bl_mul, bl_neg, bl_div, bl_32, bi_min, bi_max, bl_min, bl_max, bq_I, bq_J, bq_A, bq_Vi, bq_Vl, bq_Vr, bq_cV, bq_cI, bq_cJ, bq_cA, bq_le, bq_lt, bq_eq, bq_z, bq_o, bq_ref, bq_nz, bq_nzJ, bq_bl, bq_blz, bq_T, bq_F, if_true, if_false, Int.reduceEq, Int.reduceLT, Int.reduceLE, Int.reduceAdd, Int.reduceSub, Int.reduceMul, Int.add_sub_cancel, li_0, li_1, li_2, li_3, li_4, li_6, li_7, li_8, li_9, li_10, li_15, li_23, li_24, li_25, li_30, li_32, li_34, li_48, li_89, li_146, li_196, li_230, li_254, li_288, li_4005, li_4006, li_4007, li_4008, li_4009, ll_0, ll_1, ll_2, ll_3, ll_4, ll_6, ll_7, ll_8, ll_9, ll_10, ll_15, ll_23, ll_24, ll_25, ll_30, ll_32, ll_34, ll_48, ll_89, ll_146, ll_196, ll_230, ll_254, ll_288, ga103, ga105, ga119, ga120, ga106, ga107, ga108, ga109, ga110, ga111, ga116, ga118, ga104, ga112, ga114, ga115, ga117, ga113, ga121, gf102_5, gf102_13, gf102_14, gf102_0, gf102_6, gf102_7, gf102_8, gf102_9, gf102_10, gf102_11, gf102_12, gf102_15, gf102_19, gf102_20, gr102_1, gr102_2, gr102_3, gr102_4, gr102_16, gr102_17, gr102_18, gr102_21, gr102_22, gr102_23, gr102_24, gr102_25, gr102_26, gr102_27, gr102_28, gr102_29, gr102_30, gr102_31, gr102_32, pa103, pa105, pa119, pa120, pa106, pa107, pa108, pa109, pa110, pa111, pa116, pa118, pa104, pa112, pa114, pa115, pa117, pa113, pa121, pf102_5, pf102_13, pf102_14, pf102_0, pf102_6, pf102_7, pf102_8, pf102_9, pf102_10, pf102_11, pf102_12, pf102_15, pf102_19, pf102_20, s_within, t_isLost, t_fallen, t_isHurt, t_between, t_isPassage, t_isRoom, t_standNow, t_standsAll, t_isIn, t_noComing, t_noStand, t_bitsOf, u_tens4109, t_draw]
    refine ⟨_, _, rfl, _, rfl, rfl, ⟨fun a ha => by funext k; rw [bU_ne _ _ _ _ _ _ ha, xa a ha], fun k hk => by rw [bU_same, if_neg (by omega)]; exact xk k (by omega) (by omega)⟩, by rw [bU_same, if_neg (by decide)]; exact x6, by rw [bU_same, if_neg (by decide)]; exact ee, by rw [bU_same, if_pos rfl]; rfl, fun v => absurd (show keyM (txt b r (run pS b sz r)) = 23 from v) (by omega), ?_, fun v => ?_⟩
    · rw [bU_same, if_neg (by decide), xk 11 (by decide) (by decide)]; exact e4
    · rw [bU_same, if_neg (by decide), xk 12 (by decide) (by decide)]; exact e5 v
theorem t_nx146 (h : bTw tp g b sz) (hz : ts 102 8 = sz) (e4 : ts 102 11 = σ 4) (e5 : σ 4 ≠ 0 → ts 102 12 = σ 5) {r : Int} (r0 : 0 ≤ r) (r1 : r < sz) (hD : 7 ≤ d) (q2 : pD (b r)) {y : bF} (ya : ∀ a, a ≠ 102 → y a = ts a) (yk : ∀ k, k ≠ 6 → k ≠ 7 → k ≠ 10 → y 102 k = ts 102 k) (y6 : y 102 6 = r) (y7 : y 102 7 = r) (y10 : y 102 10 = 0) :
    bk_wp (bk_den TX4_next (bk_call d) 146 [.ref 102, bk_u] [] (bk_M κ X (tp, tj, y, tk) g n)) (fun v h' => ∃ ts', v = none ∧ h' = bk_M κ X (tp, tj, ts', tk) g n ∧ frT ts ts' ∧ tLx ts' (s6 r (run pD b sz r) (if run pD b sz r - r ≤ 3 then 23 else 25) (dval b r (min 3 (run pD b sz r - r)).toNat) (σ 4) (σ 5))) := by
  have hw := h
  obtain ⟨hF, hS, z0, z1, hb⟩ := h
  have p := r1
  have g1 := run_ge1 (P := pD) (sz := sz) p q2
  have g2 := run_le (P := pD) (b := b) (show r ≤ sz by omega)
  refine bk_while (σ := bF) (fun x => bk_den TX4_next (bk_call d) 146 [.ref 102, bk_u] [] (bk_M κ X (tp, tj, x, tk) g n)) (fun x => (sz - x 102 7).toNat) (fun x => (∀ a, a ≠ 102 → x a = ts a) ∧ (∀ k, k ≠ 6 → k ≠ 7 → k ≠ 10 → x 102 k = ts 102 k) ∧ x 102 6 = r ∧ r ≤ x 102 7 ∧ x 102 7 ≤ sz ∧ run pD b sz (x 102 7) = run pD b sz r ∧ x 102 10 = dval b r (min 3 (x 102 7 - r)).toNat) ?_ y ⟨ya, yk, y6, by rw [y7]; omega, by rw [y7]; omega, by rw [y7], ?_⟩
  · rintro x ⟨xa, xk, x6, x7, x7', xr, x10⟩ cont2
    have x8 : x 102 8 = sz := (xk 8 (by decide) (by decide) (by decide)).trans hz
    have es3 := t_see (κ := κ) (X := X) (tj := tj) (tk := tk) (n := n) (ts := x) (k := x 102 7) (D := d) hw x8 (by omega) (by omega) (by omega)
    rw [eX4_next_146]
    by_cases w : x 102 7 < sz ∧ pD (b (x 102 7))
    · have bx := hb (x 102 7) (by omega) (by omega)
      have em3 := fun h => t_isDigit (c := b (x 102 7)) (D := d) (by omega) (by omega) (by omega) h
      rw [if_pos w.1] at es3
      rw [bz_t w.2] at em3
      by_cases p3 : 3 ≤ x 102 7 - r
      · have d5 : dval b r (min 3 (x 102 7 + 1 - r)).toNat = dval b r (min 3 (x 102 7 - r)).toNat := by
          have e : min 3 (x 102 7 + 1 - r) = min 3 (x 102 7 - r) := by omega
          rw [e]
        rw [gf102_7, bq_I, gf102_0, bq_Vi, es3, bq_cI, em3, bq_cI]; simp (disch := first | assumption | omega) only [es3, em3, x6, if_pos p3, eX4_next_196, bi_add, bi_sub, bi_mul, bi_neg, bi_div, bi_64, bl_add, bl_sub, bl_mul, bl_neg, bl_div, bl_32, bi_min, bi_max, bl_min, bl_max, bq_I, bq_J, bq_A, bq_Vi, bq_Vl, bq_Vr, bq_cV, bq_cI, bq_cJ, bq_cA, bq_le, bq_lt, bq_eq, bq_z, bq_o, bq_ref, bq_nz, bq_nzJ, bq_bl, bq_blz, bq_T, bq_F, if_true, if_false, Int.reduceEq, Int.reduceLT, Int.reduceLE, Int.reduceAdd, Int.reduceSub, Int.reduceMul, Int.add_sub_cancel, li_0, li_1, li_2, li_3, li_4, li_6, li_7, li_8, li_9, li_10, li_15, li_23, li_24, li_25, li_30, li_32, li_34, li_48, li_89, li_146, li_196, li_230, li_254, li_288, li_4005, li_4006, li_4007, li_4008, li_4009, ll_0, ll_1, ll_2, ll_3, ll_4, ll_6, ll_7, ll_8, ll_9, ll_10, ll_15, ll_23, ll_24, ll_25, ll_30, ll_32, ll_34, ll_48, ll_89, ll_146, ll_196, ll_230, ll_254, ll_288, ga103, ga105, ga119, ga120, ga106, ga107, ga108, ga109, ga110, ga111, ga116, ga118, ga104, ga112, ga114, ga115, ga117, ga113, ga121, gf102_5, gf102_13, gf102_14, gf102_0, gf102_6, gf102_7, gf102_8, gf102_9, gf102_10, gf102_11, gf102_12, gf102_15, gf102_19, gf102_20, gr102_1, gr102_2, gr102_3, gr102_4, gr102_16, gr102_17, gr102_18, gr102_21, gr102_22, gr102_23, gr102_24, gr102_25, gr102_26, gr102_27, gr102_28, gr102_29, gr102_30, gr102_31, gr102_32, pa103, pa105, pa119, pa120, pa106, pa107, pa108, pa109, pa110, pa111, pa116, pa118, pa104, pa112, pa114, pa115, pa117, pa113, pa121, pf102_5, pf102_13, pf102_14, pf102_0, pf102_6, pf102_7, pf102_8, pf102_9, pf102_10, pf102_11, pf102_12, pf102_15, pf102_19, pf102_20, s_within, t_isLost, t_fallen, t_isHurt, t_between, t_isPassage, t_isRoom, t_standNow, t_standsAll, t_isIn, t_noComing, t_noStand, t_bitsOf, u_tens4109, t_draw]
        refine cont2 _ (by rw [bU_same, if_pos rfl]; omega) ⟨fun a ha => by funext k; rw [bU_ne _ _ _ _ _ _ ha, xa a ha], fun k h2 h3 h5 => by rw [bU_same, if_neg h3]; exact xk k h2 h3 h5, by rw [bU_same, if_neg (by decide)]; exact x6, by rw [bU_same, if_pos rfl]; omega, by rw [bU_same, if_pos rfl]; omega, by rw [bU_same, if_pos rfl, ← xr]; exact (run_go w.1 w.2).symm, by rw [bU_same, if_neg (by decide), bU_same, if_pos rfl, d5]; exact x10⟩
      · have d5 := dval_next (b := b) x7 (by omega)
        have dr := dval_rng (b := b) (a := r) (min 3 (x 102 7 - r)).toNat (by omega) (fun j j0 j1 => run_all (P := pD) (b := b) (sz := sz) (sz - r).toNat r (by omega) j j0 (by have := run_ge (P := pD) (b := b) (sz := sz) (i := x 102 7); omega))
        have dp : (10 : Int) ^ (min 3 (x 102 7 - r)).toNat ≤ 1000 := by
          have : ∀ k : Fin 4, (10 : Int) ^ k.val ≤ 1000 := by decide
          exact this ⟨(min 3 (x 102 7 - r)).toNat, by omega⟩
        have u7 : ∀ v, bU x 102 10 v 102 7 = x 102 7 := fun v => by rw [bU_same, if_neg (by decide)]
        rw [gf102_7, bq_I, gf102_0, bq_Vi, es3, bq_cI, em3, bq_cI]; simp (disch := first | assumption | omega) only [es3, em3, x6, if_neg p3, eX4_next_196, u7, bi_add, bi_sub, bi_mul, bi_neg, bi_div, bi_64, bl_add, bl_sub, bl_mul, bl_neg, bl_div, bl_32, bi_min, bi_max, bl_min, bl_max, bq_I, bq_J, bq_A, bq_Vi, bq_Vl, bq_Vr, bq_cV, bq_cI, bq_cJ, bq_cA, bq_le, bq_lt, bq_eq, bq_z, bq_o, bq_ref, bq_nz, bq_nzJ, bq_bl, bq_blz, bq_T, bq_F, if_true, if_false, Int.reduceEq, Int.reduceLT, Int.reduceLE, Int.reduceAdd, Int.reduceSub, Int.reduceMul, Int.add_sub_cancel, li_0, li_1, li_2, li_3, li_4, li_6, li_7, li_8, li_9, li_10, li_15, li_23, li_24, li_25, li_30, li_32, li_34, li_48, li_89, li_146, li_196, li_230, li_254, li_288, li_4005, li_4006, li_4007, li_4008, li_4009, ll_0, ll_1, ll_2, ll_3, ll_4, ll_6, ll_7, ll_8, ll_9, ll_10, ll_15, ll_23, ll_24, ll_25, ll_30, ll_32, ll_34, ll_48, ll_89, ll_146, ll_196, ll_230, ll_254, ll_288, ga103, ga105, ga119, ga120, ga106, ga107, ga108, ga109, ga110, ga111, ga116, ga118, ga104, ga112, ga114, ga115, ga117, ga113, ga121, gf102_5, gf102_13, gf102_14, gf102_0, gf102_6, gf102_7, gf102_8, gf102_9, gf102_10, gf102_11, gf102_12, gf102_15, gf102_19, gf102_20, gr102_1, gr102_2, gr102_3, gr102_4, gr102_16, gr102_17, gr102_18, gr102_21, gr102_22, gr102_23, gr102_24, gr102_25, gr102_26, gr102_27, gr102_28, gr102_29, gr102_30, gr102_31, gr102_32, pa103, pa105, pa119, pa120, pa106, pa107, pa108, pa109, pa110, pa111, pa116, pa118, pa104, pa112, pa114, pa115, pa117, pa113, pa121, pf102_5, pf102_13, pf102_14, pf102_0, pf102_6, pf102_7, pf102_8, pf102_9, pf102_10, pf102_11, pf102_12, pf102_15, pf102_19, pf102_20, s_within, t_isLost, t_fallen, t_isHurt, t_between, t_isPassage, t_isRoom, t_standNow, t_standsAll, t_isIn, t_noComing, t_noStand, t_bitsOf, u_tens4109, t_draw]
        refine cont2 _ (by rw [bU_same, if_pos rfl]; omega) ⟨fun a ha => by funext k; rw [bU_ne _ _ _ _ _ _ ha, bU_ne _ _ _ _ _ _ ha, xa a ha], fun k h2 h3 h5 => by rw [bU_same, if_neg h3, bU_same, if_neg h5]; exact xk k h2 h3 h5, by rw [bU_same, if_neg (by decide), bU_same, if_neg (by decide)]; exact x6, by rw [bU_same, if_pos rfl]; omega, by rw [bU_same, if_pos rfl]; omega, by rw [bU_same, if_pos rfl, ← xr]; exact (run_go w.1 w.2).symm, by rw [bU_same, if_neg (by decide), bU_same, if_pos rfl, bU_same, if_pos rfl, d5, x10]⟩
    · have ee : x 102 7 = run pD b sz r := by
        rw [← xr]
        by_cases w1 : x 102 7 < sz
        · exact (run_no (fun v => w ⟨w1, v⟩)).symm
        · exact (run_end (by omega)).symm
      have cr : -1 ≤ (if x 102 7 < sz then b (x 102 7) else -1) ∧ (if x 102 7 < sz then b (x 102 7) else -1) < 256 := by
        split
        · have := hb (x 102 7) (by omega) (by omega)
          omega
        · omega
      have em3 := fun h => t_isDigit (c := if x 102 7 < sz then b (x 102 7) else -1) (D := d) (by omega) (by omega) (by omega) h
      have np : ¬ pD (if x 102 7 < sz then b (x 102 7) else -1) := by
        split
        · rename_i v; exact fun t => w ⟨v, t⟩
        · decide
      rw [bz_f np] at em3
      generalize (if x 102 7 < sz then b (x 102 7) else -1) = u at es3 em3
      have fin2 : ∀ kn : Int, kn = (if run pD b sz r - r ≤ 3 then 23 else 25) → bk_wp (some (none, bk_M κ X (tp, tj, bU x 102 9 kn, tk) g n)) (fun v h' => ∃ ts', v = none ∧ h' = bk_M κ X (tp, tj, ts', tk) g n ∧ frT ts ts' ∧ tLx ts' (s6 r (run pD b sz r) (if run pD b sz r - r ≤ 3 then 23 else 25) (dval b r (min 3 (run pD b sz r - r)).toNat) (σ 4) (σ 5))) := by
        intro kn hk
        refine ⟨_, _, rfl, _, rfl, rfl, ⟨fun a ha => by funext k; rw [bU_ne _ _ _ _ _ _ ha, xa a ha], fun k hk => by rw [bU_same, if_neg (by omega)]; exact xk k (by omega) (by omega) (by omega)⟩, by rw [bU_same, if_neg (by decide)]; exact x6, by rw [bU_same, if_neg (by decide)]; exact ee, by rw [bU_same, if_pos rfl]; exact hk, fun v => by rw [bU_same, if_neg (by decide), x10, ee]; rfl, ?_, fun v => ?_⟩
        · rw [bU_same, if_neg (by decide), xk 11 (by decide) (by decide) (by decide)]; exact e4
        · rw [bU_same, if_neg (by decide), xk 12 (by decide) (by decide) (by decide)]; exact e5 v
      by_cases p3 : run pD b sz r - r ≤ 3
      · have p4 : x 102 7 - r ≤ 3 := by omega
        rw [gf102_7, bq_I, gf102_0, bq_Vi, es3, bq_cI, em3, bq_cI]; simp (disch := first | assumption | omega) only [es3, em3, x6, if_pos p4, eX4_next_230, bi_add, bi_sub, bi_mul, bi_neg, bi_div, bi_64, bl_add, bl_sub, bl_mul, bl_neg, bl_div, bl_32, bi_min, bi_max, bl_min, bl_max, bq_I, bq_J, bq_A, bq_Vi, bq_Vl, bq_Vr, bq_cV, bq_cI, bq_cJ, bq_cA, bq_le, bq_lt, bq_eq, bq_z, bq_o, bq_ref, bq_nz, bq_nzJ, bq_bl, bq_blz, bq_T, bq_F, if_true, if_false, Int.reduceEq, Int.reduceLT, Int.reduceLE, Int.reduceAdd, Int.reduceSub, Int.reduceMul, Int.add_sub_cancel, li_0, li_1, li_2, li_3, li_4, li_6, li_7, li_8, li_9, li_10, li_15, li_23, li_24, li_25, li_30, li_32, li_34, li_48, li_89, li_146, li_196, li_230, li_254, li_288, li_4005, li_4006, li_4007, li_4008, li_4009, ll_0, ll_1, ll_2, ll_3, ll_4, ll_6, ll_7, ll_8, ll_9, ll_10, ll_15, ll_23, ll_24, ll_25, ll_30, ll_32, ll_34, ll_48, ll_89, ll_146, ll_196, ll_230, ll_254, ll_288, ga103, ga105, ga119, ga120, ga106, ga107, ga108, ga109, ga110, ga111, ga116, ga118, ga104, ga112, ga114, ga115, ga117, ga113, ga121, gf102_5, gf102_13, gf102_14, gf102_0, gf102_6, gf102_7, gf102_8, gf102_9, gf102_10, gf102_11, gf102_12, gf102_15, gf102_19, gf102_20, gr102_1, gr102_2, gr102_3, gr102_4, gr102_16, gr102_17, gr102_18, gr102_21, gr102_22, gr102_23, gr102_24, gr102_25, gr102_26, gr102_27, gr102_28, gr102_29, gr102_30, gr102_31, gr102_32, pa103, pa105, pa119, pa120, pa106, pa107, pa108, pa109, pa110, pa111, pa116, pa118, pa104, pa112, pa114, pa115, pa117, pa113, pa121, pf102_5, pf102_13, pf102_14, pf102_0, pf102_6, pf102_7, pf102_8, pf102_9, pf102_10, pf102_11, pf102_12, pf102_15, pf102_19, pf102_20, s_within, t_isLost, t_fallen, t_isHurt, t_between, t_isPassage, t_isRoom, t_standNow, t_standsAll, t_isIn, t_noComing, t_noStand, t_bitsOf, u_tens4109, t_draw]
        exact fin2 23 (by rw [if_pos p3])
      · have p4 : ¬ x 102 7 - r ≤ 3 := by omega
        rw [gf102_7, bq_I, gf102_0, bq_Vi, es3, bq_cI, em3, bq_cI]; simp (disch := first | assumption | omega) only [es3, em3, x6, if_neg p4, eX4_next_230, bi_add, bi_sub, bi_mul, bi_neg, bi_div, bi_64, bl_add, bl_sub, bl_mul, bl_neg, bl_div, bl_32, bi_min, bi_max, bl_min, bl_max, bq_I, bq_J, bq_A, bq_Vi, bq_Vl, bq_Vr, bq_cV, bq_cI, bq_cJ, bq_cA, bq_le, bq_lt, bq_eq, bq_z, bq_o, bq_ref, bq_nz, bq_nzJ, bq_bl, bq_blz, bq_T, bq_F, if_true, if_false, Int.reduceEq, Int.reduceLT, Int.reduceLE, Int.reduceAdd, Int.reduceSub, Int.reduceMul, Int.add_sub_cancel, li_0, li_1, li_2, li_3, li_4, li_6, li_7, li_8, li_9, li_10, li_15, li_23, li_24, li_25, li_30, li_32, li_34, li_48, li_89, li_146, li_196, li_230, li_254, li_288, li_4005, li_4006, li_4007, li_4008, li_4009, ll_0, ll_1, ll_2, ll_3, ll_4, ll_6, ll_7, ll_8, ll_9, ll_10, ll_15, ll_23, ll_24, ll_25, ll_30, ll_32, ll_34, ll_48, ll_89, ll_146, ll_196, ll_230, ll_254, ll_288, ga103, ga105, ga119, ga120, ga106, ga107, ga108, ga109, ga110, ga111, ga116, ga118, ga104, ga112, ga114, ga115, ga117, ga113, ga121, gf102_5, gf102_13, gf102_14, gf102_0, gf102_6, gf102_7, gf102_8, gf102_9, gf102_10, gf102_11, gf102_12, gf102_15, gf102_19, gf102_20, gr102_1, gr102_2, gr102_3, gr102_4, gr102_16, gr102_17, gr102_18, gr102_21, gr102_22, gr102_23, gr102_24, gr102_25, gr102_26, gr102_27, gr102_28, gr102_29, gr102_30, gr102_31, gr102_32, pa103, pa105, pa119, pa120, pa106, pa107, pa108, pa109, pa110, pa111, pa116, pa118, pa104, pa112, pa114, pa115, pa117, pa113, pa121, pf102_5, pf102_13, pf102_14, pf102_0, pf102_6, pf102_7, pf102_8, pf102_9, pf102_10, pf102_11, pf102_12, pf102_15, pf102_19, pf102_20, s_within, t_isLost, t_fallen, t_isHurt, t_between, t_isPassage, t_isRoom, t_standNow, t_standsAll, t_isIn, t_noComing, t_noStand, t_bitsOf, u_tens4109, t_draw]
        exact fin2 25 (by rw [if_neg p3])
  · rw [y10, y7]
    have e : (min 3 (r - r)).toNat = 0 := by omega
    rw [e]; rfl
theorem t_nx254 (h : bTw tp g b sz) (hz : ts 102 8 = sz) (e4 : ts 102 11 = σ 4) (e5 : σ 4 ≠ 0 → ts 102 12 = σ 5) {r : Int} (r0 : 0 ≤ r) (r1 : r < sz) (hD : 7 ≤ d) {y : bF} (ya : ∀ a, a ≠ 102 → y a = ts a) (yk : ∀ k, k ≠ 6 → k ≠ 7 → k ≠ 9 → y 102 k = ts 102 k) (y6 : y 102 6 = r) (y7 : y 102 7 = r + 1) (y9 : y 102 9 = 25) :
    bk_wp (bk_den TX4_next (bk_call d) 254 [.ref 102, .int (bk_i 0)] [] (bk_M κ X (tp, tj, y, tk) g n)) (fun v h' => ∃ ts', v = none ∧ h' = bk_M κ X (tp, tj, ts', tk) g n ∧ frT ts ts' ∧ tLx ts' (s6 r (r + 1) (signM (b r)) (σ 3) (σ 4) (σ 5))) := by
  have hw := h
  obtain ⟨hF, hS, z0, z1, hb⟩ := h
  have p := r1
  have ev2 : ∀ X Y n, (bk_M κ X Y g n).1 15 2 0 = .ref 32 := fun X Y n => by rw [gX (by decide)]; exact (hS 0 (by decide)).1
  have w0 : wL 0 = 12 := by decide
  have br := hb r (by omega) (by omega)
  have el : ∀ ts, bk_call d 15003 [.ref 2] (bk_M κ X (tp, tj, ts, tk) g n) = some (some (.int (bk_i 12)), bk_M κ X (tp, tj, ts, tk) g n) := fun ts => by
    have := s_strlen (h := bk_M κ X (tp, tj, ts, tk) g n) (i := 0) (v := 2) (D := d) (bStr_M hS) (by decide) rfl (by omega)
    rw [w0] at this
    exact this
  refine bk_loop (σ := bF) (fun j x => bk_den TX4_next (bk_call d) 254 [.ref 102, .int (bk_i j)] [] (bk_M κ X (tp, tj, x, tk) g n)) (fun j x => 0 ≤ j ∧ (∀ a, a ≠ 102 → x a = ts a) ∧ (∀ k, k ≠ 6 → k ≠ 7 → k ≠ 9 → x 102 k = ts 102 k) ∧ x 102 6 = r ∧ x 102 7 = r + 1 ∧ ((x 102 9 = 25 ∧ ∀ i, 0 ≤ i → i < j → wC 0 i ≠ b r) ∨ ∃ i, 0 ≤ i ∧ i < 12 ∧ wC 0 i = b r ∧ x 102 9 = 30 + i)) 12 ?_ ?_ 0 y (by omega) ⟨by omega, ya, yk, y6, y7, Or.inl ⟨y9, fun i _ _ => by omega⟩⟩
  · rintro j x hj ⟨j0, xa, xk, x6, x7, x9⟩ cont2
    have x8 : x 102 8 = sz := (xk 8 (by decide) (by decide) (by decide)).trans hz
    have es3 := t_see (κ := κ) (X := X) (tj := tj) (tk := tk) (n := n) (ts := x) (k := r) (D := d) hw x8 (by omega) (by omega) (by omega)
    rw [if_pos p] at es3
    have wr := wC_rng (i := 0) (by decide) j0 (show j < wL 0 by omega)
    have ec := s_charAt (h := bk_M κ X (tp, tj, x, tk) g n) (i := 0) (v := 2) (D := d) (bStr_M hS) (by decide) rfl j0 (show j < wL 0 by omega) (by omega)
    rw [eX4_next_254]
    by_cases w : b r = wC 0 j
    · simp (disch := first | assumption | omega) only [ev2, el, if_neg (show ¬ 12 ≤ j by omega), x6, es3, ec, if_pos w, eX4_next_288, bi_add, bi_sub, bi_mul, bi_neg, bi_div, bi_64, bl_add, bl_sub, bl_mul, bl_neg, bl_div, bl_32, bi_min, bi_max, bl_min, bl_max, bq_I, bq_J, bq_A, bq_Vi, bq_Vl, bq_Vr, bq_cV, bq_cI, bq_cJ, bq_cA, bq_le, bq_lt, bq_eq, bq_z, bq_o, bq_ref, bq_nz, bq_nzJ, bq_bl, bq_blz, bq_T, bq_F, if_true, if_false, Int.reduceEq, Int.reduceLT, Int.reduceLE, Int.reduceAdd, Int.reduceSub, Int.reduceMul, Int.add_sub_cancel, li_0, li_1, li_2, li_3, li_4, li_6, li_7, li_8, li_9, li_10, li_15, li_23, li_24, li_25, li_30, li_32, li_34, li_48, li_89, li_146, li_196, li_230, li_254, li_288, li_4005, li_4006, li_4007, li_4008, li_4009, ll_0, ll_1, ll_2, ll_3, ll_4, ll_6, ll_7, ll_8, ll_9, ll_10, ll_15, ll_23, ll_24, ll_25, ll_30, ll_32, ll_34, ll_48, ll_89, ll_146, ll_196, ll_230, ll_254, ll_288, ga103, ga105, ga119, ga120, ga106, ga107, ga108, ga109, ga110, ga111, ga116, ga118, ga104, ga112, ga114, ga115, ga117, ga113, ga121, gf102_5, gf102_13, gf102_14, gf102_0, gf102_6, gf102_7, gf102_8, gf102_9, gf102_10, gf102_11, gf102_12, gf102_15, gf102_19, gf102_20, gr102_1, gr102_2, gr102_3, gr102_4, gr102_16, gr102_17, gr102_18, gr102_21, gr102_22, gr102_23, gr102_24, gr102_25, gr102_26, gr102_27, gr102_28, gr102_29, gr102_30, gr102_31, gr102_32, pa103, pa105, pa119, pa120, pa106, pa107, pa108, pa109, pa110, pa111, pa116, pa118, pa104, pa112, pa114, pa115, pa117, pa113, pa121, pf102_5, pf102_13, pf102_14, pf102_0, pf102_6, pf102_7, pf102_8, pf102_9, pf102_10, pf102_11, pf102_12, pf102_15, pf102_19, pf102_20, s_within, t_isLost, t_fallen, t_isHurt, t_between, t_isPassage, t_isRoom, t_standNow, t_standsAll, t_isIn, t_noComing, t_noStand, t_bitsOf, u_tens4109, t_draw]
      exact cont2 _ ⟨by omega, fun a ha => by funext k; rw [bU_ne _ _ _ _ _ _ ha, xa a ha], fun k h2 h3 h5 => by rw [bU_same, if_neg h5]; exact xk k h2 h3 h5, by rw [bU_same, if_neg (by decide)]; exact x6, by rw [bU_same, if_neg (by decide)]; exact x7, Or.inr ⟨j, j0, hj, w.symm, by rw [bU_same, if_pos rfl]⟩⟩
    · simp (disch := first | assumption | omega) only [ev2, el, if_neg (show ¬ 12 ≤ j by omega), x6, es3, ec, if_neg w, eX4_next_288, bi_add, bi_sub, bi_mul, bi_neg, bi_div, bi_64, bl_add, bl_sub, bl_mul, bl_neg, bl_div, bl_32, bi_min, bi_max, bl_min, bl_max, bq_I, bq_J, bq_A, bq_Vi, bq_Vl, bq_Vr, bq_cV, bq_cI, bq_cJ, bq_cA, bq_le, bq_lt, bq_eq, bq_z, bq_o, bq_ref, bq_nz, bq_nzJ, bq_bl, bq_blz, bq_T, bq_F, if_true, if_false, Int.reduceEq, Int.reduceLT, Int.reduceLE, Int.reduceAdd, Int.reduceSub, Int.reduceMul, Int.add_sub_cancel, li_0, li_1, li_2, li_3, li_4, li_6, li_7, li_8, li_9, li_10, li_15, li_23, li_24, li_25, li_30, li_32, li_34, li_48, li_89, li_146, li_196, li_230, li_254, li_288, li_4005, li_4006, li_4007, li_4008, li_4009, ll_0, ll_1, ll_2, ll_3, ll_4, ll_6, ll_7, ll_8, ll_9, ll_10, ll_15, ll_23, ll_24, ll_25, ll_30, ll_32, ll_34, ll_48, ll_89, ll_146, ll_196, ll_230, ll_254, ll_288, ga103, ga105, ga119, ga120, ga106, ga107, ga108, ga109, ga110, ga111, ga116, ga118, ga104, ga112, ga114, ga115, ga117, ga113, ga121, gf102_5, gf102_13, gf102_14, gf102_0, gf102_6, gf102_7, gf102_8, gf102_9, gf102_10, gf102_11, gf102_12, gf102_15, gf102_19, gf102_20, gr102_1, gr102_2, gr102_3, gr102_4, gr102_16, gr102_17, gr102_18, gr102_21, gr102_22, gr102_23, gr102_24, gr102_25, gr102_26, gr102_27, gr102_28, gr102_29, gr102_30, gr102_31, gr102_32, pa103, pa105, pa119, pa120, pa106, pa107, pa108, pa109, pa110, pa111, pa116, pa118, pa104, pa112, pa114, pa115, pa117, pa113, pa121, pf102_5, pf102_13, pf102_14, pf102_0, pf102_6, pf102_7, pf102_8, pf102_9, pf102_10, pf102_11, pf102_12, pf102_15, pf102_19, pf102_20, s_within, t_isLost, t_fallen, t_isHurt, t_between, t_isPassage, t_isRoom, t_standNow, t_standsAll, t_isIn, t_noComing, t_noStand, t_bitsOf, u_tens4109, t_draw]
      refine cont2 x ⟨by omega, xa, xk, x6, x7, x9.elim (fun v => Or.inl ⟨v.1, fun i i0 i1 => ?_⟩) Or.inr⟩
      by_cases t : i = j
      · rw [t]; exact fun u => w u.symm
      · exact v.2 i i0 (by omega)
  · rintro x ⟨j0, xa, xk, x6, x7, x9⟩
    have k9 : x 102 9 = signM (b r) := by
      rcases x9 with ⟨v1, v2⟩ | ⟨i, i0, i1, v1, v2⟩
      · rw [v1, signM_no v2]
      · rw [v2, ← v1, signM_at i0 i1]
    have sr := signM_rng (b r)
    rw [eX4_next_254]
    simp (disch := first | assumption | omega) only [ev2, el, if_pos (Int.le_refl 12), bi_add, bi_sub, bi_mul, bi_neg, bi_div, bi_64, bl_add, bl_sub, bl_mul, bl_neg, bl_div, bl_32, bi_min, bi_max, bl_min, bl_max, bq_I, bq_J, bq_A, bq_Vi, bq_Vl, bq_Vr, bq_cV, bq_cI, bq_cJ, bq_cA, bq_le, bq_lt, bq_eq, bq_z, bq_o, bq_ref, bq_nz, bq_nzJ, bq_bl, bq_blz, bq_T, bq_F, if_true, if_false, Int.reduceEq, Int.reduceLT, Int.reduceLE, Int.reduceAdd, Int.reduceSub, Int.reduceMul, Int.add_sub_cancel, li_0, li_1, li_2, li_3, li_4, li_6, li_7, li_8, li_9, li_10, li_15, li_23, li_24, li_25, li_30, li_32, li_34, li_48, li_89, li_146, li_196, li_230, li_254, li_288, li_4005, li_4006, li_4007, li_4008, li_4009, ll_0, ll_1, ll_2, ll_3, ll_4, ll_6, ll_7, ll_8, ll_9, ll_10, ll_15, ll_23, ll_24, ll_25, ll_30, ll_32, ll_34, ll_48, ll_89, ll_146, ll_196, ll_230, ll_254, ll_288, ga103, ga105, ga119, ga120, ga106, ga107, ga108, ga109, ga110, ga111, ga116, ga118, ga104, ga112, ga114, ga115, ga117, ga113, ga121, gf102_5, gf102_13, gf102_14, gf102_0, gf102_6, gf102_7, gf102_8, gf102_9, gf102_10, gf102_11, gf102_12, gf102_15, gf102_19, gf102_20, gr102_1, gr102_2, gr102_3, gr102_4, gr102_16, gr102_17, gr102_18, gr102_21, gr102_22, gr102_23, gr102_24, gr102_25, gr102_26, gr102_27, gr102_28, gr102_29, gr102_30, gr102_31, gr102_32, pa103, pa105, pa119, pa120, pa106, pa107, pa108, pa109, pa110, pa111, pa116, pa118, pa104, pa112, pa114, pa115, pa117, pa113, pa121, pf102_5, pf102_13, pf102_14, pf102_0, pf102_6, pf102_7, pf102_8, pf102_9, pf102_10, pf102_11, pf102_12, pf102_15, pf102_19, pf102_20, s_within, t_isLost, t_fallen, t_isHurt, t_between, t_isPassage, t_isRoom, t_standNow, t_standsAll, t_isIn, t_noComing, t_noStand, t_bitsOf, u_tens4109, t_draw]
    refine ⟨_, _, rfl, x, rfl, rfl, ⟨xa, fun k hk => xk k (by omega) (by omega) (by omega)⟩, x6, x7, k9, fun v => absurd (show signM (b r) = 23 from v) (by omega), ?_, fun v => ?_⟩
    · rw [xk 11 (by decide) (by decide) (by decide)]; exact e4
    · rw [xk 12 (by decide) (by decide) (by decide)]; exact e5 v
theorem t_next (h : bTw tp g b sz) (hz : ts 102 8 = sz) (e1 : ts 102 7 = σ 1) (e4 : ts 102 11 = σ 4) (e5 : σ 4 ≠ 0 → ts 102 12 = σ 5) (s0 : 0 ≤ σ 1) (s1 : σ 1 ≤ sz) (hD : 8 ≤ D) :
    ∃ ts', frT ts ts' ∧ tLx ts' (nextM b sz σ) ∧ bk_call D 4005 [.ref 102] (bk_M κ X (tp, tj, ts, tk) g n) = some (none, bk_M κ X (tp, tj, ts', tk) g n) := by
  obtain ⟨d, rfl⟩ := dep hD
  have hw := h
  obtain ⟨hF, hS, z0, z1, hb⟩ := h
  have r0' := run_ge (P := pW) (b := b) (sz := sz) (i := σ 1)
  have r1' := run_le (P := pW) (b := b) s1
  have ev2 : ∀ X Y n, (bk_M κ X Y g n).1 15 2 0 = .ref 32 := fun X Y n => by rw [gX (by decide)]; exact (hS 0 (by decide)).1
  have w0 : wL 0 = 12 := by decide
  have el : ∀ ts, bk_call d 15003 [.ref 2] (bk_M κ X (tp, tj, ts, tk) g n) = some (some (.int (bk_i 12)), bk_M κ X (tp, tj, ts, tk) g n) := fun ts => by
    have := s_strlen (h := bk_M κ X (tp, tj, ts, tk) g n) (i := 0) (v := 2) (D := d) (bStr_M hS) (by decide) rfl (by omega)
    rw [w0] at this
    exact this
  have goal : bk_wp (bk_call (d + 1) 4005 [.ref 102] (bk_M κ X (tp, tj, ts, tk) g n)) (fun v h' => ∃ ts', v = none ∧ h' = bk_M κ X (tp, tj, ts', tk) g n ∧ frT ts ts' ∧ tLx ts' (nextM b sz σ)) := by
    rw [kX4_next, eX4_next_0, gf102_7, e1, bq_I, gf102_6, bq_I, pf102_6]
    refine bk_while (σ := bF) (fun y => bk_den TX4_next (bk_call d) 8 [.ref 102, bk_u] [] (bk_M κ X (tp, tj, y, tk) g n)) (fun y => (sz - y 102 6).toNat) (fun y => (∀ a, a ≠ 102 → y a = ts a) ∧ (∀ k, k ≠ 6 → y 102 k = ts 102 k) ∧ 0 ≤ y 102 6 ∧ y 102 6 ≤ sz ∧ run pW b sz (y 102 6) = run pW b sz (σ 1)) ?_ (bU ts 102 6 (σ 1)) ⟨fun a ha => by funext k; rw [bU_ne _ _ _ _ _ _ ha], fun k hk => by rw [bU_same, if_neg hk], by rw [bU_same, if_pos rfl]; omega, by rw [bU_same, if_pos rfl]; omega, by rw [bU_same, if_pos rfl]⟩
    rintro y ⟨ya, yk, y6, y6', yr⟩ cont
    have y8 : y 102 8 = sz := (yk 8 (by decide)).trans hz
    have es := t_see (κ := κ) (X := X) (tj := tj) (tk := tk) (n := n) (ts := y) (k := y 102 6) (D := d) hw y8 (by omega) (by omega) (by omega)
    have go : y 102 6 < sz → pW (b (y 102 6)) → bk_wp (bk_den TX4_next (bk_call d) 8 [.ref 102, bk_u] [] (bk_M κ X (tp, tj, bU y 102 6 (y 102 6 + 1), tk) g n)) (fun v h' => ∃ ts', v = none ∧ h' = bk_M κ X (tp, tj, ts', tk) g n ∧ frT ts ts' ∧ tLx ts' (nextM b sz σ)) := fun p w => cont _ (by rw [bU_same, if_pos rfl]; omega) ⟨fun a ha => by funext k; rw [bU_ne _ _ _ _ _ _ ha, ya a ha], fun k h2 => by rw [bU_same, if_neg h2]; exact yk k h2, by rw [bU_same, if_pos rfl]; omega, by rw [bU_same, if_pos rfl]; omega, by rw [bU_same, if_pos rfl, ← yr]; exact (run_go p w).symm⟩
    have y11 : y 102 11 = σ 4 := (yk 11 (by decide)).trans e4
    have y12 : σ 4 ≠ 0 → y 102 12 = σ 5 := fun q => (yk 12 (by decide)).trans (e5 q)
    rw [eX4_next_8]
    by_cases p : y 102 6 < sz
    · rw [if_pos p] at es
      have br := hb (y 102 6) (by omega) (by omega)
      by_cases p1 : b (y 102 6) = 10
      · rw [gf102_6, bq_I, gf102_0, bq_Vi, es, bq_cI, li_10, bq_eq (by omega) (by omega) (by omega) (by omega), if_pos p1, eX4_next_34, gf102_6, bq_I, bq_I, li_1, bi_add, pf102_6]
        exact go p (Or.inr p1)
      · by_cases p2 : b (y 102 6) = 32
        · rw [gf102_6, bq_I, gf102_0, bq_Vi, es, bq_cI, li_10, bq_eq (by omega) (by omega) (by omega) (by omega), if_neg p1, gf102_6, bq_I, gf102_0, bq_Vi, es, bq_cI, li_32, bq_eq (by omega) (by omega) (by omega) (by omega), if_pos p2, eX4_next_34, gf102_6, bq_I, bq_I, li_1, bi_add, pf102_6]
          exact go p (Or.inl p2)
        · have hrr : y 102 6 = run pW b sz (σ 1) := by rw [← yr]; exact (run_no (fun w => w.elim p2 p1)).symm
          have e6 : bU y 102 7 (y 102 6) 102 6 = y 102 6 := by rw [bU_same, if_neg (by decide)]
          have e7 : bU y 102 7 (y 102 6) 102 7 = y 102 6 := by rw [bU_same, if_pos rfl]
          have e8 : bU y 102 7 (y 102 6) 102 8 = sz := by rw [bU_same, if_neg (by decide)]; exact y8
          have es2 := t_see (κ := κ) (X := X) (tj := tj) (tk := tk) (n := n) (ts := bU y 102 7 (y 102 6)) (k := y 102 6) (D := d) hw e8 (by omega) (by omega) (by omega)
          rw [if_pos p] at es2
          have em := fun h => t_isSmall (c := b (y 102 6)) (D := d) (by omega) (by omega) (by omega) h
          have ed := fun h => t_isDigit (c := b (y 102 6)) (D := d) (by omega) (by omega) (by omega) h
          unfold nextM tLx
          rw [← hrr]
          generalize hrv : y 102 6 = r at *
          rw [if_neg (show ¬ sz ≤ r by omega)]
          by_cases q1 : pS (b r)
          · rw [if_pos q1]
            rw [bz_t q1] at em
            rw [gf102_6, hrv, bq_I, gf102_0, bq_Vi, es, bq_cI, li_10, bq_eq (by omega) (by omega) (by omega) (by omega), if_neg p1, gf102_6, hrv, bq_I, gf102_0, bq_Vi, es, bq_cI, li_32, bq_eq (by omega) (by omega) (by omega) (by omega), if_neg p2, gf102_6, hrv, bq_I, gf102_7, bq_I, pf102_7, gf102_6, e6, bq_I, gf102_8, e8, bq_I, bq_lt (by omega) (by omega) (by omega) (by omega), if_pos p, bq_I, gf102_0, bq_Vi, es2, bq_cI, em, bq_cI, li_0, bq_eq (by decide) (by decide) (by decide) (by decide), if_neg (by decide)]
            exact t_nx89 hw hz e4 e5 (by omega) p (by omega) q1 (fun a ha => by funext k; rw [bU_ne _ _ _ _ _ _ ha, ya a ha]) (fun k h2 h3 => by rw [bU_same, if_neg h3]; exact yk k h2) e6 e7
          · rw [if_neg q1]
            rw [bz_f q1] at em
            by_cases q2 : pD (b r)
            · rw [if_pos q2]
              rw [bz_t q2] at ed
              rw [gf102_6, hrv, bq_I, gf102_0, bq_Vi, es, bq_cI, li_10, bq_eq (by omega) (by omega) (by omega) (by omega), if_neg p1, gf102_6, hrv, bq_I, gf102_0, bq_Vi, es, bq_cI, li_32, bq_eq (by omega) (by omega) (by omega) (by omega), if_neg p2, gf102_6, hrv, bq_I, gf102_7, bq_I, pf102_7, gf102_6, e6, bq_I, gf102_8, e8, bq_I, bq_lt (by omega) (by omega) (by omega) (by omega), if_pos p, bq_I, gf102_0, bq_Vi, es2, bq_cI, em, bq_cI, li_0, bq_eq (by decide) (by decide) (by decide) (by decide), if_pos rfl, gf102_6, e6, bq_I, gf102_0, bq_Vi, es2, bq_cI, ed, bq_cI, bq_eq (by decide) (by decide) (by decide) (by decide), if_neg (by decide), gf102_10, bq_I, pf102_10]
              exact t_nx146 hw hz e4 e5 (by omega) p (by omega) q2 (fun a ha => by funext k; rw [bU_ne _ _ _ _ _ _ ha, bU_ne _ _ _ _ _ _ ha, ya a ha]) (fun k h2 h3 h5 => by rw [bU_same, if_neg h5, bU_same, if_neg h3]; exact yk k h2) (by rw [bU_same, if_neg (by decide)]; exact e6) (by rw [bU_same, if_neg (by decide)]; exact e7) (by rw [bU_same, if_pos rfl])
            · rw [if_neg q2]
              rw [bz_f q2] at ed
              have u9 : ∀ v : Int, bU (bU y 102 7 r) 102 7 v 102 9 = y 102 9 := fun v => by rw [bU_same, if_neg (by decide), bU_same, if_neg (by decide)]
              rw [gf102_6, hrv, bq_I, gf102_0, bq_Vi, es, bq_cI, li_10, bq_eq (by omega) (by omega) (by omega) (by omega), if_neg p1, gf102_6, hrv, bq_I, gf102_0, bq_Vi, es, bq_cI, li_32, bq_eq (by omega) (by omega) (by omega) (by omega), if_neg p2, gf102_6, hrv, bq_I, gf102_7, bq_I, pf102_7, gf102_6, e6, bq_I, gf102_8, e8, bq_I, bq_lt (by omega) (by omega) (by omega) (by omega), if_pos p, bq_I, gf102_0, bq_Vi, es2, bq_cI, em, bq_cI, li_0, bq_eq (by decide) (by decide) (by decide) (by decide), if_pos rfl, gf102_6, e6, bq_I, gf102_0, bq_Vi, es2, bq_cI, ed, bq_cI, bq_eq (by decide) (by decide) (by decide) (by decide), if_pos rfl, gf102_7, e7, bq_I, bq_I, li_1, bi_add, pf102_7, gf102_9, bq_I, li_25, pf102_9]
              exact t_nx254 hw hz e4 e5 (by omega) p (by omega) (fun a ha => by funext k; rw [bU_ne _ _ _ _ _ _ ha, bU_ne _ _ _ _ _ _ ha, bU_ne _ _ _ _ _ _ ha, ya a ha]) (fun k h2 h3 h5 => by rw [bU_same, if_neg h5, bU_same, if_neg h3, bU_same, if_neg h3]; exact yk k h2) (by rw [bU_same, if_neg (by decide), bU_same, if_neg (by decide)]; exact e6) (by rw [bU_same, if_neg (by decide), bU_same, if_pos rfl]) (by rw [bU_same, if_pos rfl])
    · rw [if_neg p] at es
      have hrr : y 102 6 = run pW b sz (σ 1) := by rw [← yr]; exact (run_end (by omega)).symm
      have e8 : bU y 102 7 (y 102 6) 102 8 = sz := by rw [bU_same, if_neg (by decide)]; exact y8
      have e6 : bU y 102 7 (y 102 6) 102 6 = y 102 6 := by rw [bU_same, if_neg (by decide)]
      unfold nextM tLx
      rw [← hrr, if_pos (show sz ≤ y 102 6 by omega)]
      rw [gf102_6, bq_I, gf102_0, bq_Vi, es, bq_cI, li_10, bq_eq (by decide) (by decide) (by decide) (by decide), if_neg (by decide), gf102_6, bq_I, gf102_0, bq_Vi, es, bq_cI, li_32, bq_eq (by decide) (by decide) (by decide) (by decide), if_neg (by decide), gf102_6, bq_I, gf102_7, bq_I, pf102_7, gf102_6, e6, bq_I, gf102_8, e8, bq_I, bq_lt (by omega) (by omega) (by omega) (by omega), if_neg p, gf102_9, bq_I, li_24, pf102_9]
      refine ⟨_, _, rfl, _, rfl, rfl, ⟨fun a ha => by funext k; rw [bU_ne _ _ _ _ _ _ ha, bU_ne _ _ _ _ _ _ ha, ya a ha], fun k hk => by rw [bU_same, if_neg (by omega), bU_same, if_neg (by omega)]; exact yk k (by omega)⟩, by rw [bU_same, if_neg (by decide), bU_same, if_neg (by decide)]; rfl, by rw [bU_same, if_neg (by decide), bU_same, if_pos rfl]; rfl, by rw [bU_same, if_pos rfl]; rfl, fun w => absurd (show (24 : Int) = 23 from w) (by decide), ?_, fun w => ?_⟩
      · rw [bU_same, if_neg (by decide), bU_same, if_neg (by decide)]; exact y11
      · rw [bU_same, if_neg (by decide), bU_same, if_neg (by decide)]; exact y12 w
  obtain ⟨z, h', e, ts', rfl, rfl, f1, f2⟩ := goal
  exact ⟨ts', f1, f2, e⟩
end TN
