/-! SOUNDNESS: bk_Kn at the start -/
set_option maxRecDepth 100000
set_option maxHeartbeats 4000000
section BKN
variable {s : State} {args : Array Value}
theorem bk_D (hts : ∀ x ∈ lw_tbl, x.before args s = true) : ∃ D : va_G, va_K D bk_cl [] s := by
  have hw : ∀ x ∈ lw_all, x.before args s = true := fun x h => hts x (lw_all_tbl h)
  have h : ∀ t : Nat, ∃ (cC : ClassId) (iS : Nat → Nat), ∀ q : vw_C, bk_cl[t]? = some q → u_Kn s q.1 q.2.1 q.2.2 cC iS := by
    intro t
    have key : ∀ q : vw_C, bk_cl[t]? = some q → ∃ (cC : ClassId) (iS : Nat → Nat), u_Kn s q.1 q.2.1 q.2.2 cC iS := by
      intro q hq
      have hm := List.mem_of_getElem? hq
      simp only [bk_cl, List.mem_cons, List.not_mem_nil, or_false] at hm
      rcases hm with rfl | rfl | rfl | rfl | rfl | rfl | rfl | rfl | rfl | rfl | rfl | rfl | rfl | rfl | rfl
      · exact u_known hw in_X0 (hw _ q164)
      · exact u_known hw in_X1 (hw _ q172)
      · exact u_known hw in_X2 (hw _ q248)
      · exact u_known hw in_X3 (hw _ q276)
      · exact u_known hw in_X4 (hw _ q1383)
      · exact u_known hw in_X5 (hw _ q388)
      · exact u_known hw in_X0 (hw _ q164)
      · exact u_known hw in_X7 (hw _ q663)
      · exact u_known hw in_X8 (hw _ q680)
      · exact u_known hw in_X9 (hw _ q697)
      · exact u_known hw in_X0 (hw _ q164)
      · exact u_known hw in_X11 (hw _ q717)
      · exact u_known hw in_X12 (hw _ q742)
      · exact u_known hw in_X13 (hw _ q752)
      · exact u_known hw in_X14 (hw _ q762)
    cases hq : bk_cl[t]? with
    | none => exact ⟨0, fun _ => 0, fun q h => nomatch h⟩
    | some q =>
      obtain ⟨cC, iS, h⟩ := key q hq
      exact ⟨cC, iS, fun q' h' => by cases h'; exact h⟩
  exact ⟨(fun t => Classical.choose (h t), fun t => Classical.choose (Classical.choose_spec (h t))), fun t q hq => Classical.choose_spec (Classical.choose_spec (h t)) q hq, fun k q hk => nomatch hk⟩
theorem bk_arr1 {ty : FieldType} (h : (Cond.arrayClass ty).before args s = true) (hno : ∀ c, ty ≠ .object c) : ∃ cA, ArrOfT s cA ty ∧ va_RA s cA ty := by
  obtain ⟨c, k, comp, h1, h2, h3⟩ := Cond.arrayClass_spec h
  refine ⟨c, fun n z => ⟨fun k h => (by cases h), k, h2, comp, h3⟩, ?_⟩
  cases ty <;> first | exact h1 | exact absurd rfl (hno _)
theorem bk_arr2 {C : String} (h : (Cond.arrayOver (.object C)).before args s = true) : ∃ cA, ArrOfT s cA (.object C) ∧ va_RA s cA (.object C) := by
  obtain ⟨comp, c, k, h1, h2, h3, h4, h5⟩ := Cond.arrayOver_spec h
  exact ⟨c, fun n z => ⟨fun k h => (by cases h), k, h3, comp, h4⟩, k, comp, h3, h4, h1, h5⟩
theorem bk_dA (hts : ∀ x ∈ lw_tbl, x.before args s = true) : ∃ dA : Nat → ClassId, ∀ i, i < 8 → ArrOfT s (dA i) (bk_aty i) ∧ va_RA s (dA i) (bk_aty i) := by
  have hw : ∀ x ∈ lw_all, x.before args s = true := fun x h => hts x (lw_all_tbl h)
  have h : ∀ i, ∃ cA, i < 8 → ArrOfT s cA (bk_aty i) ∧ va_RA s cA (bk_aty i) := by
    intro i
    rcases i with _ | _ | _ | _ | _ | _ | _ | i
    · obtain ⟨c, h⟩ := bk_arr1 (hw _ q246) (fun _ => by simp); exact ⟨c, fun _ => h⟩
    · obtain ⟨c, h⟩ := bk_arr1 (hw _ q286) (fun _ => by simp); exact ⟨c, fun _ => h⟩
    · obtain ⟨c, h⟩ := bk_arr1 (hw _ q287) (fun _ => by simp); exact ⟨c, fun _ => h⟩
    · obtain ⟨c, h⟩ := bk_arr1 (hw _ q1310) (fun _ => by simp); exact ⟨c, fun _ => h⟩
    · obtain ⟨c, h⟩ := bk_arr1 (hw _ q288) (fun _ => by simp); exact ⟨c, fun _ => h⟩
    · obtain ⟨c, h⟩ := bk_arr2 (hts _ q273); exact ⟨c, fun _ => h⟩
    · obtain ⟨c, h⟩ := bk_arr2 (hts _ q275); exact ⟨c, fun _ => h⟩
    · obtain ⟨c, h⟩ := bk_arr2 (hts _ q289); exact ⟨c, fun _ => h⟩
  exact ⟨fun i => Classical.choose (h i), fun i hi => Classical.choose_spec (h i) hi⟩
end BKN
