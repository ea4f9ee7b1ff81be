/-! SOUNDNESS: bk_Kn at the start, whole -/
set_option maxRecDepth 100000
set_option maxHeartbeats 4000000
def bk_srs : List Cond := ([457, 544, 582, 599, 612, 613, 614, 615, 620, 621, 622, 623, 640, 661, 695, 712, 713, 714, 715, 739, 740, 777, 1517, 1523] : List Nat).filterMap (fun i => lw_tbl[i]?)
theorem bk_srs_in : ∀ x ∈ bk_srs, x ∈ lw_tbl := by
  intro x h
  obtain ⟨i, -, hi⟩ := List.mem_filterMap.mp h
  exact List.mem_of_getElem? hi
theorem bk_sr1 : ∀ q ∈ bk_ldcs, Cond.stringRef q.1 q.2.1 q.2.2.1 ∈ bk_srs ∧ q.2.2.2 < 23 ∧ (bk_tms.getD q.2.2.2 ("", 0) = (q.1, q.2.1) ∨ (q.2.2.2 = 0 ∧ q.1 = "BackRescueModel" ∧ q.2.1 = 124)) := by decide +kernel
theorem bk_lns31 : ∀ i, i < 23 → bk_lns.getD i 0 < 2 ^ 31 := by decide +kernel
theorem bk_eqr {args : Array Value} {s : State} {t u : Term} {a : Nat} (h : (Cond.eq t u).before args s = true) (ht : t.eval args s none [] s = some (.ref a)) : u.eval args s none [] s = some (.ref a) := by
  simp only [Cond.before, Cond.holds, Cond.value, ht] at h
  cases hu : u.eval args s none [] s with
  | none => simp [hu] at h
  | some v => cases v <;> simp_all
theorem bk_known {s : State} {b L : Nat} {xs : Nat → Int32} (hts : ∀ x ∈ lw_tbl, x.before #[Value.ref b] s = true) (hX : va_X b L xs s s.heap) (hb : b < s.heap.size) (hL : L ≤ 384) (hg : (Jvm.Cond.and given_1 narrow_1).before #[Value.ref b] s = true) :
    ∃ w : bk_W, w.2.2.1 = s.heap.size ∧ w.2.2.2.1 = (b, L, xs) ∧ bk_Kn w s s.heap ∧ (∀ i, i < 23 → w.2.2.2.2.1 i < s.heap.size) ∧ (∀ i, i < 23 → w.2.2.2.2.2 i < s.heap.size) := by
  have hw : ∀ x ∈ lw_all, x.before #[Value.ref b] s = true := fun x h => hts x (lw_all_tbl h)
  have hf : ∀ x ∈ bk_gn, x.before #[Value.ref b] s = true := flat_of_before _ hg
  have hn : narrow_1.before #[Value.ref b] s = true := by
    rw [Cond.before_and, Bool.and_eq_true] at hg
    exact hg.2
  have hA : ∀ a : Nat, a < s.heap.size → ¬ (fun q : Nat => s.heap.size ≤ q) a := fun a h z => absurd h (Nat.not_lt.mpr z)
  obtain ⟨D, hD⟩ := bk_D hts
  obtain ⟨dA, hdA⟩ := bk_dA hts
  obtain ⟨adK, adV, hS, hev⟩ := vk_Sof (args := #[Value.ref b]) (s := s) (N := 23) (tm := bk_tm) (len := bk_lns) (byt := bk_byt) (A := fun q : Nat => s.heap.size ≤ q) bk_lns31 (fun i hi => hf _ (bk_g1 i hi)) (fun i hi => hf _ (bk_g2 i hi)) (fun i hi => hf _ (bk_g3 i hi)) (fun i hi => hf _ (bk_g4 i hi))
    (fun i hi j hj => by rw [← bk_g5 i hi j hj]; exact bk_nth_of 12 715 _ narrow_1 hn)
    (fun i j hi hj hij => by
      rcases Nat.lt_or_gt_of_ne hij with h | h
      · rcases bk_g6 i hi j hj h with e | e
        · exact Or.inl (by rw [← e]; exact bk_nth_of 12 715 _ narrow_1 hn)
        · exact Or.inr (by rw [← e]; exact bk_nth_of 12 715 _ narrow_1 hn)
      · rcases bk_g6 j hj i hi h with e | e
        · exact Or.inr (by rw [← e]; exact bk_nth_of 12 715 _ narrow_1 hn)
        · exact Or.inl (by rw [← e]; exact bk_nth_of 12 715 _ narrow_1 hn)) hA
  refine ⟨(D, dA, s.heap.size, (b, L, xs), adK, adV), rfl, rfl, ⟨hD, hdA, hX, hb, hb, by show L < 2 ^ 31; omega, hS, va_Zof (hts _ q471) (hw _ q140) (va_eqi (hf _ bk_g8.1)) hA, va_Zqof (hts _ q514) (hw _ q144) (hf _ bk_g8.2.1) hA, ?_, ?_, ?_, fun q hq => va_Nc.of (hf _ (bk_g7 q hq)), vx_Zqof (hts _ q1242) (hw _ q156) (hf _ bk_g8.2.2.1) hA, vx_Zqof (hts _ q1244) (hw _ q156) (hf _ bk_g8.2.2.2.1) hA⟩, ?_, ?_⟩
  · intro q hq
    obtain ⟨h1, h2, h3⟩ := bk_sr1 q hq
    refine vk_R.of (A := #[Value.ref b]) (hts _ (bk_srs_in _ h1)) ?_
    have e := hev q.2.2.2 h2
    rcases h3 with h3 | ⟨h3, h4, h5⟩
    · unfold bk_tm at e
      rw [h3] at e
      exact e
    · rw [h4, h5]
      rw [h3] at e ⊢
      exact bk_eqr (hf _ bk_g8.2.2.2.2) e
  · intro x hx hn
    have h := hts x hx
    cases x <;> first | exact va_Nw.of rfl h | exact absurd hn (by simp [bk_isN])
  · intro i h5 h8
    rcases (show i = 5 ∨ i = 6 ∨ i = 7 by omega) with rfl | rfl | rfl
    · exact va_AO.of (hts _ q273)
    · exact va_AO.of (hts _ q275)
    · exact va_AO.of (hts _ q289)
  · intro i hi
    obtain ⟨cell, h1, -⟩ := (hS.1 i hi).1
    exact (Array.getElem?_eq_some_iff.mp h1).1
  · intro i hi
    obtain ⟨cell, h1, -⟩ := (hS.1 i hi).2.2.2
    exact (Array.getElem?_eq_some_iff.mp h1).1
