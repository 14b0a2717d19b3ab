/-! THE COMPONENT: mixing. -/
section CL
variable {X : gCx} {hp : gHp} {a k : Nat} {t : List Int} {h v : Int64}
theorem c_mixed : MV X yX0_mixed fX0_mixed 1 [vL h, vL v] hp (fun r hp' => r = vL (31 * h + v) ∧ hp = hp') := by
  refine MC.of pfX0_mixed rfl (fun h => by cases h) 0 rfl rfl ?_
  refine gs_ldc2 (pc := 0) (x := (31 : Int64)) dX0_mixed_0 q2211 ?_
  refine gs_lld0 (pc := 3) dX0_mixed_3 ?_
  refine gs_lmul (pc := 4) dX0_mixed_4 ?_
  refine gs_lld2 (pc := 5) dX0_mixed_5 ?_
  refine gs_ladd (pc := 6) dX0_mixed_6 ?_
  refine gs_lret (pc := 7) dX0_mixed_7 rfl ?_
  exact ⟨_, rfl, rfl, rfl⟩
theorem c_mixedText (hs : isS X hp a t) (h72 : t.length ≤ 72) : MV X yX0_mixedText fX0_mixedText 5 [vL h, vR (some a)] hp (fun r hp' => r = vL (mxT h t) ∧ hp = hp') := by
  refine MC.of pfX0_mixedText rfl (fun h => by cases h) 3 rfl rfl ?_
  obtain ⟨lj, bj, hj, zj, es⟩ := hs.cell
  have loop : ∀ (r k : Nat), k + r = t.length → G X fX0_mixedText 5 5 [some (vL h), none, some (vR (some a)), some (vL (mxT h (t.take k))), none, some (vI (k : Int))] [] hp (fun r hp' => ∃ v, r = some v ∧ v = vL (mxT h t) ∧ hp = hp') := by
    intro r
    induction r with
    | zero =>
      intro k hk
      refine gs_ild5 (pc := 5) dX0_mixedText_5 ?_
      refine gs_ald2 (pc := 7) dX0_mixedText_7 ?_
      refine gs_V0 (pc := 8) dX0_mixedText_8 kX0_160 es clJ5 (by decide) (Nat.le_of_ble_eq_true rfl) (c_slen hs) (fun v hp1 hq => ?_)
      obtain ⟨rfl, rfl⟩ := hq
      refine gs_ic_ge (pc := 11) (tgt := 32) dX0_mixedText_11 (by decide) (by omega) (fun _ => ?_) (fun hn => absurd (by omega) hn)
      refine gs_lld3 (pc := 32) dX0_mixedText_32 ?_
      refine gs_lret (pc := 33) dX0_mixedText_33 rfl ?_
      rw [List.take_of_length_le (by omega)]
      exact ⟨_, rfl, rfl, rfl⟩
    | succ r ih =>
      intro k hk
      have hi := ih (k + 1) (by omega)
      rw [mxT_s (by omega)] at hi
      refine gs_ild5 (pc := 5) dX0_mixedText_5 ?_
      refine gs_ald2 (pc := 7) dX0_mixedText_7 ?_
      refine gs_V0 (pc := 8) dX0_mixedText_8 kX0_160 es clJ5 (by decide) (Nat.le_of_ble_eq_true rfl) (c_slen hs) (fun v hp1 hq => ?_)
      obtain ⟨rfl, rfl⟩ := hq
      refine gs_ic_ge (pc := 11) (tgt := 32) dX0_mixedText_11 (by decide) (by omega) (fun hn => absurd hn (by omega)) (fun _ => ?_)
      refine gs_lld3 (pc := 14) dX0_mixedText_14 ?_
      refine gs_ald2 (pc := 15) dX0_mixedText_15 ?_
      refine gs_ild5 (pc := 16) dX0_mixedText_16 ?_
      refine gs_V1 (pc := 18) dX0_mixedText_18 kX0_164 es clJ5 (by decide) (Nat.le_of_ble_eq_true rfl) (c_char hs (show k < t.length by omega)) (fun v hp1 hq => ?_)
      obtain ⟨rfl, rfl⟩ := hq
      refine gs_i2l (pc := 21) dX0_mixedText_21 ?_
      refine gs_S2 (pc := 22) dX0_mixedText_22 kX0_449 (by decide) (Nat.le_of_ble_eq_true rfl) (c_mixed) (fun v hp1 hq => ?_)
      obtain ⟨rfl, rfl⟩ := hq
      refine gs_lst3 (pc := 25) dX0_mixedText_25 rfl ?_
      refine gs_inc5 (pc := 26) dX0_mixedText_26 rfl ?_
      refine gs_goto (pc := 29) (tgt := 5) dX0_mixedText_29 (by decide) ?_
      exact hi
  refine gs_lld0 (pc := 0) dX0_mixedText_0 ?_
  refine gs_lst3 (pc := 1) dX0_mixedText_1 rfl ?_
  refine gs_iconst (pc := 2) dX0_mixedText_2 ?_
  refine gs_ist5 (pc := 3) dX0_mixedText_3 rfl ?_
  exact loop t.length 0 (by omega)
end CL
