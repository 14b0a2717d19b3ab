/-! THE COMPONENT: numbers are drawn. -/
section CN
variable {X : gCx} {hp : gHp} {c s pa ia tb len : Nat} {w ch : Option Nat} {at_ fa dr : Int}
theorem c_draws (e1 : gl X hp c = some (rcC c s pa ia tb len w ch at_ fa dr)) : MV X yX0_draws fX0_draws 1 [vR (some c)] hp (fun v hp' => v = vI (outD (nxD dr)) ∧ hp' = hset hp c (rcC c s pa ia tb len w ch at_ fa (nxD dr))) := by
  refine MC.of pfX0_draws rfl (fun h => by cases h) 0 rfl rfl ?_
  have e2 := gl_set_self (c := rcC c s pa ia tb len w ch at_ fa (nxD dr)) e1 (by omega)
  refine gs_ald0 (pc := 0) dX0_draws_0 ?_
  refine gs_ald0 (pc := 1) dX0_draws_1 ?_
  refine gs_getf (pc := 2) 9 dX0_draws_2 e1 clX0 in_X0 (by decide) q220 (Or.inl rfl) rfl ?_
  refine gs_ldcw (pc := 5) (z := 1103515245) dX0_draws_5 q2183 ?_
  refine gs_imul (pc := 8) dX0_draws_8 ?_
  refine gs_sipush (pc := 9) dX0_draws_9 rfl ?_
  refine gs_iadd (pc := 12) dX0_draws_12 ?_
  refine gs_putf (pc := 13) 9 (rcC c s pa ia tb len w ch at_ fa (nxD dr)).2 dX0_draws_13 e1 (by omega) clX0 in_X0 tyX0 tyX0_ok nmX0 (by decide) q220 (Or.inl rfl) rfl (fok_int _) (Nat.le_of_ble_eq_true rfl) rfl ?_
  refine gs_ald0 (pc := 16) dX0_draws_16 ?_
  refine gs_getf (pc := 17) 9 dX0_draws_17 e2 clX0 in_X0 (by decide) q220 (Or.inl rfl) rfl ?_
  refine gs_bipush (pc := 20) dX0_draws_20 rfl ?_
  refine gs_iushr (pc := 22) dX0_draws_22 (i_d16 _) ?_
  refine gs_sipush (pc := 23) dX0_draws_23 rfl ?_
  refine gs_iand (pc := 26) dX0_draws_26 (i_d15 (by omega)) ?_
  refine gs_iret (pc := 27) dX0_draws_27 rfl ?_
  exact ⟨_, rfl, by rw [outD_eq], rfl⟩
end CN
