/-! SOUNDNESS, tenth part: calls, by their words -/
set_option maxRecDepth 100000
theorem bk_max_eq {x y : Int32} : (if x < y then y else x) = (if y ≤ x then x else y) := by
  by_cases h : x < y
  · rw [if_pos h, if_neg (Int32.not_le.mpr h)]
  · rw [if_neg h, if_pos (Int32.not_lt.mp h)]
theorem bk_min_eq {x y : Int32} : (if y < x then y else x) = (if x ≤ y then x else y) := by
  by_cases h : y < x
  · rw [if_pos h, if_neg (Int32.not_le.mpr h)]
  · rw [if_neg h, if_pos (Int32.not_lt.mp h)]
theorem bk_maxJ_eq {x y : Int64} : (if y < x then x else y) = (if y ≤ x then x else y) := by
  by_cases h : y < x
  · rw [if_pos h, if_pos (Int64.le_of_lt h)]
  · rw [if_neg h]
    by_cases h2 : y ≤ x
    · rw [if_pos h2]
      exact Int64.le_antisymm h2 (Int64.not_lt.mp h)
    · rw [if_neg h2]
theorem bk_minJ_eq {x y : Int64} : (if y < x then y else x) = (if x ≤ y then x else y) := by
  by_cases h : y < x
  · rw [if_pos h, if_neg (Int64.not_le.mpr h)]
  · rw [if_neg h, if_pos (Int64.not_lt.mp h)]
theorem bk_mr {n : Nat} (h : n ≤ 8) : 2 * 0 + n ≤ 8 := by omega
section BKC
variable {w : bk_W} {p : Program} {l : Launch} {e : Env} {R : Room} {s : State} {m : MethodId} {args : Array Value} {below : List Frame} {meth : Method} {c : Code} {cc : ByteArray} {nL : Nat} {own : String} {h0 : bk_H} {σ0 : Nat → Option Nat} {r : Option Value × bk_H} {Q : State → Prop} {cl : bk_C} {pc : Nat}
/-- what a method takes, told by its descriptor -/
def bk_ar (y : MethodName) (n : Nat) : Prop := y.cls ≠ "java/lang/invoke/MethodHandle" ∧ y.cls ≠ "java/lang/invoke/VarHandle" ∧ (parseMethodDescriptor y.desc).map (fun d => d.parameters.length) = some n
theorem bk_o_mm1 {i n b k dd : Nat} {v : Value} {ps : List (Int32 × Nat)} (C : bk_Cx w p s m args meth c cc nL own) (Rm : bk_Rm dd R h0 r) (hd : decode cc pc = .ok (.invokestatic i, 3)) (h1 : Cond.methodLink own i Lib.Math.max.name ∈ lw_all) : bk_Ok w p l e R s m args below meth c nL h0 σ0 r Q cl pc (.invokestatic i, n, 2001, b, k, 1, v, ps, []) := by
  intro L st h K hle hs hg hk σ H locs ls st' he hR hS hL hst
  have hs1 : bk_mm 2001 pc L st h K = some r := hs
  obtain ⟨st1, hrm, ⟨-, x, y, rfl, hs2⟩ | ⟨z, -⟩ | ⟨z, -⟩ | ⟨z, -⟩⟩ := bk_mm_inv hs1
  · obtain ⟨t1, rfl, ht1⟩ := bk_sr_int hst
    obtain ⟨t2, rfl, ht2⟩ := bk_sr_int ht1
    have hle2 := hg _ _ _ _ hs2
    have hsum := bk_rm_sum hrm ht2
    have a1 := hle2.1
    have a2 := hle2.2
    obtain ⟨b1, b2, b3, b4⟩ := Rm
    refine va_mmax C.1 C.2.1 (C.2.2.1.trans hL.1.symm) C.2.2.2.1 (C.2.2.2.2.1 _ h1) (C.2.2.2.2.1 _ q487) (C.2.2.2.2.1 _ q142) (C.2.2.2.2.1 _ q488) (by omega) (by omega) (by omega) (by omega) hd ?_
    rw [bk_max_eq]
    exact hk _ _ _ _ (bk_le_rf _) hs2 σ H locs ls _ he hR hS hL (bk_sr_i ht2)
  · omega
  · omega
  · omega
theorem bk_o_mm2 {i n b k dd : Nat} {v : Value} {ps : List (Int32 × Nat)} (C : bk_Cx w p s m args meth c cc nL own) (Rm : bk_Rm dd R h0 r) (hd : decode cc pc = .ok (.invokestatic i, 3)) (h1 : Cond.methodLink own i Lib.Math.min.name ∈ lw_all) : bk_Ok w p l e R s m args below meth c nL h0 σ0 r Q cl pc (.invokestatic i, n, 2002, b, k, 1, v, ps, []) := by
  intro L st h K hle hs hg hk σ H locs ls st' he hR hS hL hst
  have hs1 : bk_mm 2002 pc L st h K = some r := hs
  obtain ⟨st1, hrm, ⟨z, -⟩ | ⟨-, x, y, rfl, hs2⟩ | ⟨z, -⟩ | ⟨-, z, -⟩⟩ := bk_mm_inv hs1
  · omega
  · obtain ⟨t1, rfl, ht1⟩ := bk_sr_int hst
    obtain ⟨t2, rfl, ht2⟩ := bk_sr_int ht1
    have hle2 := hg _ _ _ _ hs2
    have hsum := bk_rm_sum hrm ht2
    have a1 := hle2.1
    have a2 := hle2.2
    obtain ⟨b1, b2, b3, b4⟩ := Rm
    refine va_mmin C.1 C.2.1 (C.2.2.1.trans hL.1.symm) C.2.2.2.1 (C.2.2.2.2.1 _ h1) (C.2.2.2.2.1 _ q490) (C.2.2.2.2.1 _ q142) (C.2.2.2.2.1 _ q491) (by omega) (by omega) (by omega) (by omega) hd ?_
    rw [bk_min_eq]
    exact hk _ _ _ _ (bk_le_rf _) hs2 σ H locs ls _ he hR hS hL (bk_sr_i ht2)
  · omega
  · omega
theorem bk_o_mm3 {i n b k dd : Nat} {v : Value} {ps : List (Int32 × Nat)} (C : bk_Cx w p s m args meth c cc nL own) (Rm : bk_Rm dd R h0 r) (hd : decode cc pc = .ok (.invokestatic i, 3)) (h1 : Cond.methodLink own i Lib.MathLoose.max_long.x ∈ lw_all) : bk_Ok w p l e R s m args below meth c nL h0 σ0 r Q cl pc (.invokestatic i, n, 2003, b, k, 1, v, ps, []) := by
  intro L st h K hle hs hg hk σ H locs ls st' he hR hS hL hst
  have hs1 : bk_mm 2003 pc L st h K = some r := hs
  obtain ⟨st1, hrm, ⟨z, -⟩ | ⟨z, -⟩ | ⟨-, x, y, rfl, hs2⟩ | ⟨-, -, z, -⟩⟩ := bk_mm_inv hs1
  · omega
  · omega
  · obtain ⟨t1, rfl, ht1⟩ := bk_sr_long hst
    obtain ⟨t2, rfl, ht2⟩ := bk_sr_long ht1
    have hle2 := hg _ _ _ _ hs2
    have hsum := bk_rm_sum hrm ht2
    have a1 := hle2.1
    have a2 := hle2.2
    obtain ⟨b1, b2, b3, b4⟩ := Rm
    refine va_mmax_long C.1 C.2.1 (C.2.2.1.trans hL.1.symm) C.2.2.2.1 (C.2.2.2.2.1 _ h1) (C.2.2.2.2.1 _ q878) (C.2.2.2.2.1 _ q142) (C.2.2.2.2.1 _ q879) (by omega) (by omega) (by omega) (by omega) hd ?_
    rw [bk_maxJ_eq]
    exact hk _ _ _ _ (bk_le_rf _) hs2 σ H locs ls _ he hR hS hL (bk_sr_l ht2)
  · omega
theorem bk_o_mm4 {i n b k dd : Nat} {v : Value} {ps : List (Int32 × Nat)} (C : bk_Cx w p s m args meth c cc nL own) (Rm : bk_Rm dd R h0 r) (hd : decode cc pc = .ok (.invokestatic i, 3)) (h1 : Cond.methodLink own i Lib.MathLoose.min_long.x ∈ lw_all) : bk_Ok w p l e R s m args below meth c nL h0 σ0 r Q cl pc (.invokestatic i, n, 2004, b, k, 1, v, ps, []) := by
  intro L st h K hle hs hg hk σ H locs ls st' he hR hS hL hst
  have hs1 : bk_mm 2004 pc L st h K = some r := hs
  obtain ⟨st1, hrm, ⟨z, -⟩ | ⟨z, -⟩ | ⟨z, -⟩ | ⟨-, -, -, x, y, rfl, hs2⟩⟩ := bk_mm_inv hs1
  · omega
  · omega
  · omega
  · obtain ⟨t1, rfl, ht1⟩ := bk_sr_long hst
    obtain ⟨t2, rfl, ht2⟩ := bk_sr_long ht1
    have hle2 := hg _ _ _ _ hs2
    have hsum := bk_rm_sum hrm ht2
    have a1 := hle2.1
    have a2 := hle2.2
    obtain ⟨b1, b2, b3, b4⟩ := Rm
    refine va_mmin_long C.1 C.2.1 (C.2.2.1.trans hL.1.symm) C.2.2.2.1 (C.2.2.2.2.1 _ h1) (C.2.2.2.2.1 _ q875) (C.2.2.2.2.1 _ q142) (C.2.2.2.2.1 _ q876) (by omega) (by omega) (by omega) (by omega) hd ?_
    rw [bk_minJ_eq]
    exact hk _ _ _ _ (bk_le_rf _) hs2 σ H locs ls _ he hR hS hL (bk_sr_l ht2)
/-- a static call -/
theorem bk_o_cS {i m' b k d n maxL : Nat} {v : Value} {ps : List (Int32 × Nat)} {y : MethodName} {bytes : ByteArray} {ret : Option FieldType} (C : bk_Cx w p s m args meth c cc nL own) (Rm : bk_Rm (d + 1) R h0 r) (M : bk_CS1 w l d m' y (ws_ y bytes maxL ret)) (hd : decode cc pc = .ok (.invokestatic i, 3)) (hne : h0.2.1 ≠ 0)
    (q1 : Cond.methodLink own i y ∈ lw_all) (q2 : Cond.static y ∈ lw_all) (q3 : Cond.initialized y.cls ∈ lw_all) (q4 : Cond.code y bytes maxL ret ∈ lw_all) (hm : maxL ≤ 45) (hy : bk_ar y b) :
    bk_Ok w p l e R s m args below meth c nL h0 σ0 r Q (bk_call d) pc (.invokestatic i, n, m', b, k, 0, v, ps, []) :=
  bk_o_callS (bk_call_grow d) C Rm M hd hm hne fun hMet h1 h2 h3 h4 h5 h6 h7 h8 => va_runS (bk_fix C) hMet (va_cwS b C.2.2.2.2.1 (lw_S q1 q2 q3 q4) rfl h1 h2 hy h3) h4 rfl h5 h6 rfl (bk_mr h7) hd h8
/-- a static call of a nest mate's -/
theorem bk_o_cSN {i m' b k d n maxL : Nat} {v : Value} {ps : List (Int32 × Nat)} {y : MethodName} {bytes : ByteArray} {ret : Option FieldType} {host : String} (C : bk_Cx w p s m args meth c cc nL own) (Rm : bk_Rm (d + 1) R h0 r) (M : bk_CS1 w l d m' y (ws_ y bytes maxL ret)) (hd : decode cc pc = .ok (.invokestatic i, 3)) (hne : h0.2.1 ≠ 0)
    (q1 : Cond.methodLinkNest own i y host ∈ lw_tbl) (q2 : Cond.static y ∈ lw_all) (q3 : Cond.initialized y.cls ∈ lw_all) (q4 : Cond.code y bytes maxL ret ∈ lw_all) (hm : maxL ≤ 45) (hy : bk_ar y b) :
    bk_Ok w p l e R s m args below meth c nL h0 σ0 r Q (bk_call d) pc (.invokestatic i, n, m', b, k, 0, v, ps, []) :=
  bk_o_callS (bk_call_grow d) C Rm M hd hm hne fun hMet h1 h2 h3 h4 h5 h6 h7 h8 => va_runSN (bk_fix C) hMet ⟨va_cnB b C.2.2.2.2.1 (lw_meth q4) rfl h1 h2 (C.2.2.2.2.2.2.1.2.2.2.2.2.2.2.2.2.2.1 _ q1 rfl) (C.2.2.2.2.1 _ q3) hy h3, C.2.2.2.2.1 _ q2, trivial⟩ h4 rfl h5 h6 rfl (bk_mr h7) hd h8
/-- a constructor's call -/
theorem bk_o_cI {i m' b k d t n maxL : Nat} {v : Value} {ps : List (Int32 × Nat)} {y : MethodName} {bytes : ByteArray} (C : bk_Cx w p s m args meth c cc nL own) (Rm : bk_Rm (d + 1) R h0 r) (M : bk_CS1 w l d m' y (ws_ y bytes maxL none)) (hd : decode cc pc = .ok (.invokespecial i, 3)) (hne : h0.2.1 ≠ 0) (ht : t < 16)
    (q1 : Cond.methodLink own i y ∈ lw_all) (q2 : Cond.instanceMethod y ∈ lw_all) (q3 : Cond.initialized y.cls ∈ lw_all) (q4 : Cond.code y bytes maxL none ∈ lw_all) (hm : maxL ≤ 45) (hy1 : y.name = "<init>") (hy : bk_ar y b) :
    bk_Ok w p l e R s m args below meth c nL h0 σ0 r Q (bk_call d) pc (.invokespecial i, n, m', b + 1, k, t, v, ps, []) :=
  bk_o_callI (bk_call_grow d) C Rm M hd hm hne ht fun hMet h1 h2 h3 h4 h5 h6 h7 h8 => va_runI (bk_fix C) hMet (cwI b C.2.2.2.2.1 (lw_meth q4) rfl h1 h2 (C.2.2.2.2.1 _ q3) (C.2.2.2.2.1 _ q1) (C.2.2.2.2.1 _ q2) hy1 hy h3) h4 rfl (Nat.succ.inj h5) h6 rfl (bk_mr h7) hd h8
theorem bk_o_cIN {i m' b k d t n maxL : Nat} {v : Value} {ps : List (Int32 × Nat)} {y : MethodName} {bytes : ByteArray} {host : String} (C : bk_Cx w p s m args meth c cc nL own) (Rm : bk_Rm (d + 1) R h0 r) (M : bk_CS1 w l d m' y (ws_ y bytes maxL none)) (hd : decode cc pc = .ok (.invokespecial i, 3)) (hne : h0.2.1 ≠ 0) (ht : t < 16)
    (q1 : Cond.methodLinkNest own i y host ∈ lw_tbl) (q2 : Cond.instanceMethod y ∈ lw_all) (q3 : Cond.initialized y.cls ∈ lw_all) (q4 : Cond.code y bytes maxL none ∈ lw_all) (hm : maxL ≤ 45) (hy1 : y.name = "<init>") (hy : bk_ar y b) :
    bk_Ok w p l e R s m args below meth c nL h0 σ0 r Q (bk_call d) pc (.invokespecial i, n, m', b + 1, k, t, v, ps, []) :=
  bk_o_callI (bk_call_grow d) C Rm M hd hm hne ht fun hMet h1 h2 h3 h4 h5 h6 h7 h8 => va_runIN (bk_fix C) hMet ⟨va_cnB b C.2.2.2.2.1 (lw_meth q4) rfl h1 h2 (C.2.2.2.2.2.2.1.2.2.2.2.2.2.2.2.2.2.1 _ q1 rfl) (C.2.2.2.2.1 _ q3) hy h3, hy1, C.2.2.2.2.1 _ q2⟩ h4 rfl (Nat.succ.inj h5) h6 rfl (bk_mr h7) hd h8
/-- a call through an object -/
theorem bk_o_cV {i m' b k d t n maxL : Nat} {v : Value} {ps : List (Int32 × Nat)} {y : MethodName} {bytes : ByteArray} {ret : Option FieldType} (C : bk_Cx w p s m args meth c cc nL own) (Rm : bk_Rm (d + 1) R h0 r) (M : bk_CS1 w l d m' y (ws_ y bytes maxL ret)) (hd : decode cc pc = .ok (.invokevirtual i, 3)) (hne : h0.2.1 ≠ 0) (ht : t < 16)
    (q1 : Cond.methodLink own i y ∈ lw_all) (q2 : Cond.instanceMethod y ∈ lw_all) (q3 : Cond.selects (bk_cn t) y y ∈ lw_all) (q4 : Cond.initialized (bk_cn t) ∈ lw_all) (q5 : Cond.code y bytes maxL ret ∈ lw_all) (hm : maxL ≤ 45) (hyc : y.cls = bk_cn t) (hy : bk_ar y b) :
    bk_Ok w p l e R s m args below meth c nL h0 σ0 r Q (bk_call d) pc (.invokevirtual i, n, m', b + 1, k, t, v, ps, []) :=
  bk_o_callV (bk_call_grow d) C Rm M hd hm hne ht fun hMet h1 h2 h3 h4 h5 h6 h7 h8 => va_runV (bk_fix C) hMet (cwV b C.2.2.2.2.1 (lw_V q1 q2 q3 q4 q5) rfl h1 h2 ⟨hyc, hy⟩ h3) h4 rfl (Nat.succ.inj h5) h6 rfl (bk_mr h7) hd h8
theorem bk_o_cVN {i m' b k d t n maxL : Nat} {v : Value} {ps : List (Int32 × Nat)} {y : MethodName} {bytes : ByteArray} {ret : Option FieldType} {host : String} (C : bk_Cx w p s m args meth c cc nL own) (Rm : bk_Rm (d + 1) R h0 r) (M : bk_CS1 w l d m' y (ws_ y bytes maxL ret)) (hd : decode cc pc = .ok (.invokevirtual i, 3)) (hne : h0.2.1 ≠ 0) (ht : t < 16)
    (q1 : Cond.methodLinkNest own i y host ∈ lw_tbl) (q2 : Cond.instanceMethod y ∈ lw_all) (q3 : Cond.selects (bk_cn t) y y ∈ lw_all) (q4 : Cond.initialized y.cls ∈ lw_all) (q5 : Cond.code y bytes maxL ret ∈ lw_all) (hm : maxL ≤ 45) (hy : bk_ar y b) :
    bk_Ok w p l e R s m args below meth c nL h0 σ0 r Q (bk_call d) pc (.invokevirtual i, n, m', b + 1, k, t, v, ps, []) :=
  bk_o_callV (bk_call_grow d) C Rm M hd hm hne ht fun hMet h1 h2 h3 h4 h5 h6 h7 h8 => va_runVN (bk_fix C) hMet ⟨va_cnB b C.2.2.2.2.1 (lw_meth q5) rfl h1 h2 (C.2.2.2.2.2.2.1.2.2.2.2.2.2.2.2.2.2.1 _ q1 rfl) (C.2.2.2.2.1 _ q4) hy h3, C.2.2.2.2.1 _ q2, C.2.2.2.2.1 _ q3⟩ h4 rfl (Nat.succ.inj h5) h6 rfl (bk_mr h7) hd h8
/-- a call through an object, of a method with handlers -/
theorem bk_o_cVW {i m' b k d t n maxL : Nat} {v : Value} {ps : List (Int32 × Nat)} {y : MethodName} {bytes : ByteArray} {ret : Option FieldType} {hh : List (Nat × Nat × Nat × Nat)} (C : bk_Cx w p s m args meth c cc nL own) (Rm : bk_Rm (d + 1) R h0 r) (M : bk_CS1 w l d m' y (wsW_ y bytes maxL ret hh)) (hd : decode cc pc = .ok (.invokevirtual i, 3)) (hne : h0.2.1 ≠ 0) (ht : t < 16)
    (q1 : Cond.methodLink own i y ∈ lw_all) (q2 : Cond.instanceMethod y ∈ lw_all) (q3 : Cond.selects (bk_cn t) y y ∈ lw_all) (q4 : Cond.initialized (bk_cn t) ∈ lw_all) (q5 : Cond.codeWith y bytes maxL ret hh ∈ lw_all) (hm : maxL ≤ 45) (hyc : y.cls = bk_cn t) (hy : bk_ar y b) :
    bk_Ok w p l e R s m args below meth c nL h0 σ0 r Q (bk_call d) pc (.invokevirtual i, n, m', b + 1, k, t, v, ps, []) :=
  bk_o_callV (bk_call_grow d) C Rm M hd hm hne ht fun hMet h1 h2 h3 h4 h5 h6 h7 h8 => vx_runVW (bk_fix C) hMet (vx_cwVW b C.2.2.2.2.1 (lw_VW q1 q2 q3 q4 q5) rfl h1 h2 ⟨hyc, hy⟩ h3) h4 rfl (Nat.succ.inj h5) h6 rfl (bk_mr h7) hd h8
/-- one arm of a call whose method is abstract -/
theorem bk_abs1 {i m' k d t maxL x bb : Nat} {y xx : MethodName} {bytes : ByteArray} {ret : Option FieldType} {as rest L : List Value} {h : bk_H} {K : bk_K} {σ : Nat → Option Nat} {H : Heap} {locs : List Loc} {ls : Array Slot} {st' : List Value} (C : bk_Cx w p s m args meth c cc nL own) (Rm : bk_Rm (d + 1) R h0 r) (M : bk_CS1 w l d m' y (ws_ y bytes maxL ret)) (hd : decode cc pc = .ok (.invokevirtual i, 3)) (hne : h0.2.1 ≠ 0) (ht : t < 16) (hle : bk_le h0 h)
    (hs : bk_ret (bk_call d) m' k (.ref x :: as) pc L rest h K = some r) (hg : ∀ pc' L' st' h', K pc' L' st' h' = some r → bk_le h' r.2) (hk : ∀ pc' L' st' h', bk_le h h' → K pc' L' st' h' = some r → bk_Gd w p l e R s m args below meth c nL h0 σ0 Q pc' L' st' h')
    (he : bk_ext σ0 σ) (hR : bk_rel w σ h H) (hS : va_S (bk_own w) s.heap H locs) (hL : bk_lr σ L ls nL) (hst : bk_sr σ ((Value.ref x :: as).reverse ++ rest) st') (hreal : bk_real (h.1 t x 0)) (hlen : as.length = bb)
    (q1 : Cond.methodLink own i xx ∈ lw_all) (q2 : Cond.sameMethod xx.cls xx.cls xx.name xx.desc ∈ lw_all) (q3 : Cond.selects (bk_cn t) xx y ∈ lw_all) (q4 : Cond.instanceMethod y ∈ lw_all) (q5 : Cond.initialized y.cls ∈ lw_all) (q6 : Cond.code y bytes maxL ret ∈ lw_all) (q7 : Cond.declares xx ∈ lw_tbl) (hm : maxL ≤ 45) (hy : bk_ar xx bb) :
    W p l e R s m args below meth c H locs (h.2.1 - h0.2.1) (h.2.2 - h0.2.2) Q (F0 m pc ls st') := by
  obtain ⟨b', hb, hrecv⟩ := bk_recv C ht hR hS hreal
  have hG : GoodIn lw_all (va_wsU own i (bk_cn t) xx.cls xx y (ws_ y bytes maxL ret)) := by
    refine lw_app ?_ (lw_meth q6)
    intro w hw
    simp only [List.mem_cons, List.not_mem_nil, or_false] at hw
    rcases hw with e | e | e | e | e
    · rw [e]; exact q1
    · rw [e]; exact q2
    · rw [e]; exact q3
    · rw [e]; exact q4
    · rw [e]; exact q5
  exact bk_invgo (ins := .nop) (bk_call_grow d) C Rm M hm hne hle hs hg hk he hR hS hL hst hb fun hMet h1 h2 h3 h4 h5 h6 h7 h8 h9 => va_runU (bk_fix C) hMet (va_cwA bb C.2.2.2.2.1 hG rfl h1 h2 (C.2.2.2.2.2.2.1.2.2.2.2.2.2.2.2.2.2.1 _ q7 rfl) hy h3) ⟨h4, hrecv, h5⟩ rfl (h6.trans hlen) h7 rfl (bk_mr h8) hd h9
def bk_xS : MethodName := ⟨"BackRescue$Sum", "value", "([I)I"⟩
def bk_xT : MethodName := ⟨"BackRescue$Truth", "holds", "([I)Z"⟩
theorem bk_arS : bk_ar bk_xS 1 := by unfold bk_ar; decide +kernel
theorem bk_arT : bk_ar bk_xT 1 := by unfold bk_ar; decide +kernel
theorem bk_o_dS {i k a d n : Nat} {v : Value} {ps : List (Int32 × Nat)} (C : bk_Cx w p s m args meth c cc nL own) (Rm : bk_Rm (d + 1) R h0 r) (hd : decode cc pc = .ok (.invokevirtual i, 3)) (hne : h0.2.1 ≠ 0) (q1 : Cond.methodLink own i bk_xS ∈ lw_all)
    (M14 : bk_CS1 w l d 14001 yX14_value (ws_ yX14_value cX14_value 8 (some .int))) (M13 : bk_CS1 w l d 13001 yX13_value (ws_ yX13_value cX13_value 2 (some .int))) (M12 : bk_CS1 w l d 12001 yX12_value (ws_ yX12_value cX12_value 2 (some .int))) (M11 : bk_CS1 w l d 11001 yX11_value (ws_ yX11_value cX11_value 2 (some .int))) :
    bk_Ok w p l e R s m args below meth c nL h0 σ0 r Q (bk_call d) pc (.invokevirtual i, n, a, 2, k, 98, v, ps, []) := by
  intro L st h K hle hs hg hk σ H locs ls st' he hR hS hL hst
  have hs1 : (bk_pop 2 st [] fun args st => match args with
        | r :: _ => bk_A r fun x => bk_dspS h x fun m => bk_ret (bk_call d) m k args pc L st h K
        | [] => none) = some r := hs
  obtain ⟨as, rest, rfl, hlen, hs2⟩ := bk_pop_inv hs1
  rw [List.append_nil] at hs2
  rcases as with _ | ⟨u, as⟩
  · cases hs2
  · have hs3 : (bk_A u fun x => bk_dspS h x fun m => bk_ret (bk_call d) m k (u :: as) pc L rest h K) = some r := hs2
    obtain ⟨x, rfl, hs4⟩ := bk_A_inv hs3
    obtain ⟨t, hreal, ⟨rfl, hs5⟩ | ⟨rfl, hs5⟩ | ⟨rfl, hs5⟩ | ⟨rfl, hs5⟩⟩ := bk_dspS_inv hs4
    · exact bk_abs1 C Rm M14 hd hne (by omega) hle hs5 hg hk he hR hS hL hst hreal (Nat.succ.inj hlen) q1 q856 q881 q867 q154 q868 q855 (by omega) bk_arS
    · exact bk_abs1 C Rm M13 hd hne (by omega) hle hs5 hg hk he hR hS hL hst hreal (Nat.succ.inj hlen) q1 q856 q882 q870 q153 q871 q855 (by omega) bk_arS
    · exact bk_abs1 C Rm M12 hd hne (by omega) hle hs5 hg hk he hR hS hL hst hreal (Nat.succ.inj hlen) q1 q856 q880 q865 q152 q866 q855 (by omega) bk_arS
    · exact bk_abs1 C Rm M11 hd hne (by omega) hle hs5 hg hk he hR hS hL hst hreal (Nat.succ.inj hlen) q1 q856 q857 q858 q151 q859 q855 (by omega) bk_arS
theorem bk_o_dT {i k a d n : Nat} {v : Value} {ps : List (Int32 × Nat)} (C : bk_Cx w p s m args meth c cc nL own) (Rm : bk_Rm (d + 1) R h0 r) (hd : decode cc pc = .ok (.invokevirtual i, 3)) (hne : h0.2.1 ≠ 0) (q1 : Cond.methodLink own i bk_xT ∈ lw_all)
    (M8 : bk_CS1 w l d 8001 yX8_holds (ws_ yX8_holds cX8_holds 4 (some .boolean))) (M9 : bk_CS1 w l d 9001 yX9_holds (ws_ yX9_holds cX9_holds 2 (some .boolean))) (M7 : bk_CS1 w l d 7001 yX7_holds (ws_ yX7_holds cX7_holds 2 (some .boolean))) :
    bk_Ok w p l e R s m args below meth c nL h0 σ0 r Q (bk_call d) pc (.invokevirtual i, n, a, 2, k, 97, v, ps, []) := by
  intro L st h K hle hs hg hk σ H locs ls st' he hR hS hL hst
  have hs1 : (bk_pop 2 st [] fun args st => match args with
        | r :: _ => bk_A r fun x => bk_dspT h x fun m => bk_ret (bk_call d) m k args pc L st h K
        | [] => none) = some r := hs
  obtain ⟨as, rest, rfl, hlen, hs2⟩ := bk_pop_inv hs1
  rw [List.append_nil] at hs2
  rcases as with _ | ⟨u, as⟩
  · cases hs2
  · have hs3 : (bk_A u fun x => bk_dspT h x fun m => bk_ret (bk_call d) m k (u :: as) pc L rest h K) = some r := hs2
    obtain ⟨x, rfl, hs4⟩ := bk_A_inv hs3
    obtain ⟨t, hreal, ⟨rfl, hs5⟩ | ⟨rfl, hs5⟩ | ⟨rfl, hs5⟩⟩ := bk_dspT_inv hs4
    · exact bk_abs1 C Rm M8 hd hne (by omega) hle hs5 hg hk he hR hS hL hst hreal (Nat.succ.inj hlen) q1 q847 q883 q852 q148 q853 q846 (by omega) bk_arT
    · exact bk_abs1 C Rm M9 hd hne (by omega) hle hs5 hg hk he hR hS hL hst hreal (Nat.succ.inj hlen) q1 q847 q848 q849 q149 q850 q846 (by omega) bk_arT
    · exact bk_abs1 C Rm M7 hd hne (by omega) hle hs5 hg hk he hR hS hL hst hreal (Nat.succ.inj hlen) q1 q847 q884 q861 q147 q862 q846 (by omega) bk_arT
theorem bk_nd {b : Bool} {x y : bk_O} (h1 : bk_Ok w p l e R s m args below meth c nL h0 σ0 r Q cl pc x) (h2 : bk_Ok w p l e R s m args below meth c nL h0 σ0 r Q cl pc y) : bk_Ok w p l e R s m args below meth c nL h0 σ0 r Q cl pc (bif b then x else y) := by
  cases b
  · exact h2
  · exact h1
theorem bk_lf {k : Nat} {o : bk_O} (h : bk_Ok w p l e R s m args below meth c nL h0 σ0 r Q cl k o) : bk_Ok w p l e R s m args below meth c nL h0 σ0 r Q cl pc (bif Nat.beq pc k then o else bk_no) := by
  cases hb : Nat.beq pc k with
  | false => exact bk_Ok_no
  | true =>
    have := Nat.eq_of_beq_eq_true hb
    subst this
    exact h
end BKC
def bk_swl (pc : Nat) : Int → List Int → List (Int32 × Nat) → Bool
  | z, o :: os, q :: qs => decide (q.1.toInt = z) && (decide ((pc : Int) + o = (q.2 : Int)) && bk_swl pc (z + 1) os qs)
  | _, [], [] => true
  | _, _, _ => false
theorem bk_swl_ok {pc : Nat} : ∀ {os : List Int} {ps : List (Int32 × Nat)} {z : Int}, bk_swl pc z os ps = true → (∀ q ∈ ps, ∃ j : Nat, j < os.length ∧ q.1.toInt = z + (j : Int) ∧ ∃ off, os[j]? = some off ∧ (pc : Int) + off = (q.2 : Int)) ∧ (∀ j : Nat, j < os.length → ∃ q ∈ ps, q.1.toInt = z + (j : Int))
  | [], [], z, _ => ⟨(fun q h => nomatch h), fun j h => absurd h (Nat.not_lt_zero j)⟩
  | [], _ :: _, z, h => by simp [bk_swl] at h
  | _ :: _, [], z, h => by simp [bk_swl] at h
  | o :: os, q :: qs, z, h => by
    have h' : (decide (q.1.toInt = z) && (decide ((pc : Int) + o = (q.2 : Int)) && bk_swl pc (z + 1) os qs)) = true := h
    rw [Bool.and_eq_true, Bool.and_eq_true] at h'
    obtain ⟨h1, h2, h3⟩ := h'
    have h1 := of_decide_eq_true h1
    have h2 := of_decide_eq_true h2
    obtain ⟨i1, i2⟩ := bk_swl_ok h3
    refine ⟨fun x hx => ?_, fun j hj => ?_⟩
    · rcases List.mem_cons.mp hx with rfl | hx
      · exact ⟨0, Nat.zero_lt_succ _, by rw [h1]; simp, o, rfl, h2⟩
      · obtain ⟨j, a1, a2, off, a3, a4⟩ := i1 x hx
        exact ⟨j + 1, Nat.succ_lt_succ a1, by rw [a2]; omega, off, a3, a4⟩
    · rcases j with _ | j
      · exact ⟨q, List.mem_cons_self, by rw [h1]; simp⟩
      · obtain ⟨x, a1, a2⟩ := i2 j (Nat.lt_of_succ_lt_succ hj)
        exact ⟨x, List.mem_cons_of_mem _ a1, by rw [a2]; omega⟩
theorem bk_swok_of {pc : Nat} {dflt lo hi : Int} {offs : Array Int} {a : Nat} {ps : List (Int32 × Nat)} (h1 : (pc : Int) + dflt = (a : Int)) (h2 : bk_swl pc lo offs.toList ps = true) (h3 : lo + (offs.toList.length : Int) = hi + 1) : bk_swok pc dflt lo hi offs a ps := by
  obtain ⟨i1, i2⟩ := bk_swl_ok h2
  refine ⟨fun q hq => ?_, fun z hz1 hz2 => ?_, h1⟩
  · obtain ⟨j, a1, a2, off, a3, a4⟩ := i1 q hq
    refine ⟨by omega, by omega, off, ?_, a4⟩
    have e : (q.1.toInt - lo).toNat = j := by omega
    rw [e, ← a3, Array.getElem?_toList]
  · obtain ⟨q, a1, a2⟩ := i2 (z - lo).toNat (by omega)
    exact ⟨q, a1, by rw [a2]; omega⟩
