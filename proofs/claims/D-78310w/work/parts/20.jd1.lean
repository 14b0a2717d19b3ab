/-! CONTRACTS of small JDK methods: Math, Objects.checkIndex, constructors of the empty superclasses. -/
section JD1
variable {X : gCx}
theorem c_max (a b : Int) (hp : gHp) (ha : -2147483648 ≤ a ∧ a ≤ 2147483647) (hb : -2147483648 ≤ b ∧ b ≤ 2147483647) : MV X yJ8_max fJ8_max 1 [vI a, vI b] hp (fun v hp' => v = vI (max a b) ∧ hp = hp') := by
  refine MC.of (by decide +kernel) rfl (fun h => by cases h) 0 rfl rfl ?_
  refine gs_ild0 (pc := 0) dJ8_max_0 ?_
  refine gs_ild1 (pc := 1) dJ8_max_1 ?_
  refine gs_ic_lt (pc := 2) (tgt := 9) dJ8_max_2 (by decide) (by omega) (fun hc => ?_) (fun hc => ?_)
  · refine gs_ild1 (pc := 9) dJ8_max_9 ?_
    refine gs_iret (pc := 10) dJ8_max_10 rfl ?_
    exact ⟨_, rfl, by congr 1; omega, rfl⟩
  · refine gs_ild0 (pc := 5) dJ8_max_5 ?_
    refine gs_goto (pc := 6) (tgt := 10) dJ8_max_6 (by decide) ?_
    refine gs_iret (pc := 10) dJ8_max_10 rfl ?_
    exact ⟨_, rfl, by congr 1; omega, rfl⟩
theorem c_min (a b : Int) (hp : gHp) (ha : -2147483648 ≤ a ∧ a ≤ 2147483647) (hb : -2147483648 ≤ b ∧ b ≤ 2147483647) : MV X yJ8_min fJ8_min 1 [vI a, vI b] hp (fun v hp' => v = vI (min a b) ∧ hp = hp') := by
  refine MC.of (by decide +kernel) rfl (fun h => by cases h) 0 rfl rfl ?_
  refine gs_ild0 (pc := 0) dJ8_min_0 ?_
  refine gs_ild1 (pc := 1) dJ8_min_1 ?_
  refine gs_ic_gt (pc := 2) (tgt := 9) dJ8_min_2 (by decide) (by omega) (fun hc => ?_) (fun hc => ?_)
  · refine gs_ild1 (pc := 9) dJ8_min_9 ?_
    refine gs_iret (pc := 10) dJ8_min_10 rfl ?_
    exact ⟨_, rfl, by congr 1; omega, rfl⟩
  · refine gs_ild0 (pc := 5) dJ8_min_5 ?_
    refine gs_goto (pc := 6) (tgt := 10) dJ8_min_6 (by decide) ?_
    refine gs_iret (pc := 10) dJ8_min_10 rfl ?_
    exact ⟨_, rfl, by congr 1; omega, rfl⟩
end JD1
