/-! THE COMPONENT: mixing a rule. -/
section CM
variable {X : gCx} {hp : gHp} {a k : Nat} {t : List Int} {h v : Int64}
theorem c_mixedRule {o : Option Rl} {q : Option Nat} (ho : (o = none ∧ q = none) ∨ ∃ R r, o = some R ∧ q = some r ∧ isRl X hp r R ∧ rlOk R) : MV X yX0_mixedRule fX0_mixedRule 6 [vL h, vR q] hp (fun r hp' => r = vL (mxR h o) ∧ hp = hp') := by
  refine MC.of pfX0_mixedRule rfl (fun h => by cases h) 2 rfl rfl ?_
  rcases ho with ⟨rfl, rfl⟩ | ⟨R, r, rfl, rfl, ⟨tx, kx, cl, ts, ks⟩, ok⟩
  · refine gs_ald2 (pc := 0) dX0_mixedRule_0 ?_
    refine gs_ifnonnull (pc := 1) (tgt := 10) dX0_mixedRule_1 (by decide) (fun _ h => by cases h) (fun _ => ?_)
    refine gs_lld0 (pc := 4) dX0_mixedRule_4 ?_
    refine gs_lconst (pc := 5) dX0_mixedRule_5 ?_
    refine gs_S2 (pc := 6) dX0_mixedRule_6 kX0_449 (by decide) (Nat.le_of_ble_eq_true rfl) (c_mixed) (fun v hp1 hq => ?_)
    obtain ⟨rfl, rfl⟩ := hq
    refine gs_lret (pc := 9) dX0_mixedRule_9 rfl ?_
    exact ⟨_, rfl, rfl, rfl⟩
  have g01 := ok.1
  have hxl := ok.2.2.2.2.2.2.1.2.1
  have hyl := fun h => (ok.2.2.2.2.2.2.2 h).2.1
  unfold mxR
  dsimp only
  refine gs_ald2 (pc := 0) dX0_mixedRule_0 ?_
  refine gs_ifnonnull (pc := 1) (tgt := 10) dX0_mixedRule_1 (by decide) (fun _ _ => ?_) (fun h => by cases h)
  refine gs_lld0 (pc := 10) dX0_mixedRule_10 ?_
  refine gs_ald2 (pc := 11) dX0_mixedRule_11 ?_
  refine gs_getfN (pc := 12) 0 dX0_mixedRule_12 cl clX7 in_X7 (by decide) q1747 (Or.inl rfl) rfl ?_
  refine gs_i2l (pc := 15) dX0_mixedRule_15 ?_
  refine gs_S2 (pc := 16) dX0_mixedRule_16 kX0_449 (by decide) (Nat.le_of_ble_eq_true rfl) (c_mixed) (fun v hp1 hq => ?_)
  obtain ⟨rfl, rfl⟩ := hq
  refine gs_ald2 (pc := 19) dX0_mixedRule_19 ?_
  refine gs_getfN (pc := 20) 1 dX0_mixedRule_20 cl clX7 in_X7 (by decide) q1751 (Or.inl rfl) rfl ?_
  refine gs_i2l (pc := 23) dX0_mixedRule_23 ?_
  refine gs_S2 (pc := 24) dX0_mixedRule_24 kX0_449 (by decide) (Nat.le_of_ble_eq_true rfl) (c_mixed) (fun v hp1 hq => ?_)
  obtain ⟨rfl, rfl⟩ := hq
  refine gs_ald2 (pc := 27) dX0_mixedRule_27 ?_
  refine gs_getfN (pc := 28) 2 dX0_mixedRule_28 cl clX7 in_X7 (by decide) q1754 (Or.inl rfl) rfl ?_
  refine gs_i2l (pc := 31) dX0_mixedRule_31 ?_
  refine gs_S2 (pc := 32) dX0_mixedRule_32 kX0_449 (by decide) (Nat.le_of_ble_eq_true rfl) (c_mixed) (fun v hp1 hq => ?_)
  obtain ⟨rfl, rfl⟩ := hq
  refine gs_lst3 (pc := 35) dX0_mixedRule_35 rfl ?_
  refine gs_ald2 (pc := 36) dX0_mixedRule_36 ?_
  refine gs_getfN (pc := 37) 0 dX0_mixedRule_37 cl clX7 in_X7 (by decide) q1747 (Or.inl rfl) rfl ?_
  refine gs_iconst (pc := 40) dX0_mixedRule_40 ?_
  refine gs_ic_eq (pc := 41) (tgt := 53) dX0_mixedRule_41 (by decide) (by omega) (fun h1 => ?_) (fun h1 => ?_)
  · obtain ⟨k', rfl, ks'⟩ := ks h1
    have hyl' := hyl h1
    rw [if_pos h1]
    refine gs_lld3 (pc := 53) dX0_mixedRule_53 ?_
    refine gs_ald2 (pc := 54) dX0_mixedRule_54 ?_
    refine gs_getfN (pc := 55) 3 dX0_mixedRule_55 cl clX7 in_X7 (by decide) q1757 (Or.inl rfl) rfl ?_
    refine gs_i2l (pc := 58) dX0_mixedRule_58 ?_
    refine gs_S2 (pc := 59) dX0_mixedRule_59 kX0_449 (by decide) (Nat.le_of_ble_eq_true rfl) (c_mixed) (fun v hp1 hq => ?_)
    obtain ⟨rfl, rfl⟩ := hq
    refine gs_ald2 (pc := 62) dX0_mixedRule_62 ?_
    refine gs_getfN (pc := 63) 4 dX0_mixedRule_63 cl clX7 in_X7 (by decide) q1760 (Or.inl rfl) rfl ?_
    refine gs_i2l (pc := 66) dX0_mixedRule_66 ?_
    refine gs_S2 (pc := 67) dX0_mixedRule_67 kX0_449 (by decide) (Nat.le_of_ble_eq_true rfl) (c_mixed) (fun v hp1 hq => ?_)
    obtain ⟨rfl, rfl⟩ := hq
    refine gs_ald2 (pc := 70) dX0_mixedRule_70 ?_
    refine gs_getfN (pc := 71) 5 dX0_mixedRule_71 cl clX7 in_X7 (by decide) q1763 (Or.inl rfl) rfl ?_
    refine gs_S2 (pc := 74) dX0_mixedRule_74 kX0_464 (by decide) (Nat.le_of_ble_eq_true rfl) (c_mixedText ts (by omega)) (fun v hp1 hq => ?_)
    obtain ⟨rfl, rfl⟩ := hq
    refine gs_lst3 (pc := 77) dX0_mixedRule_77 rfl ?_
    refine gs_lld3 (pc := 78) dX0_mixedRule_78 ?_
    refine gs_ldc2 (pc := 79) (x := (32 : Int64)) dX0_mixedRule_79 q2219 ?_
    refine gs_S2 (pc := 82) dX0_mixedRule_82 kX0_449 (by decide) (Nat.le_of_ble_eq_true rfl) (c_mixed) (fun v hp1 hq => ?_)
    obtain ⟨rfl, rfl⟩ := hq
    refine gs_ald2 (pc := 85) dX0_mixedRule_85 ?_
    refine gs_getfN (pc := 86) 6 dX0_mixedRule_86 cl clX7 in_X7 (by decide) q1766 (Or.inl rfl) rfl ?_
    refine gs_S2 (pc := 89) dX0_mixedRule_89 kX0_464 (by decide) (Nat.le_of_ble_eq_true rfl) (c_mixedText ks' (by omega)) (fun v hp1 hq => ?_)
    obtain ⟨rfl, rfl⟩ := hq
    refine gs_lret (pc := 92) dX0_mixedRule_92 rfl ?_
    exact ⟨_, rfl, rfl, rfl⟩
  · rw [if_neg h1]
    refine gs_lld3 (pc := 44) dX0_mixedRule_44 ?_
    refine gs_ald2 (pc := 45) dX0_mixedRule_45 ?_
    refine gs_getfN (pc := 46) 5 dX0_mixedRule_46 cl clX7 in_X7 (by decide) q1763 (Or.inl rfl) rfl ?_
    refine gs_S2 (pc := 49) dX0_mixedRule_49 kX0_464 (by decide) (Nat.le_of_ble_eq_true rfl) (c_mixedText ts (by omega)) (fun v hp1 hq => ?_)
    obtain ⟨rfl, rfl⟩ := hq
    refine gs_lret (pc := 52) dX0_mixedRule_52 rfl ?_
    exact ⟨_, rfl, rfl, rfl⟩
end CM
