/-! THE MODEL: lines are inserted, replaced, removed. -/
section P2
variable {X : gCx} {hp : gHp} {a : Nat} {M M' : MS} {A : AS} {S S' : SS} {t s : List Int} {n k m lo i j : Nat} {p p' : Int → Int} {l : Int × List Int}
abbrev chP (hp : gHp) (a : Nat) (q : Int × AS) : AV → gHp → Prop := fun v hp' => v = vI q.1 ∧ ∃ M', hp' = mH hp a M' ∧ RM M' q.2
theorem typL_ok (h : typL t = some l) : l.2 = bare t ∧ l.2.length ≤ 32 ∧ (l.1 = if trN t (lead t) t.length = lead t then 0 else (lead t : Int)) ∧ l.1 ≤ 40 := by
  unfold typL at h
  have hb := bare_len (t := t)
  have htr := trN_rng (t := t) (lo := lead t) t.length lead_le
  by_cases h1 : bare t = []
  · rw [if_pos h1] at h
    cases h
    rw [h1] at hb
    simp only [List.length_nil] at hb
    exact ⟨h1.symm, by simp, by rw [if_pos (by omega)], by omega⟩
  · rw [if_neg h1] at h
    have h0 : (bare t).length ≠ 0 := fun h => h1 (List.length_eq_zero_iff.mp h)
    by_cases h2 : 40 < lead t ∨ 32 < (bare t).length
    · rw [if_pos h2] at h; cases h
    · rw [if_neg h2] at h
      cases h
      exact ⟨rfl, by dsimp only; omega, by rw [if_neg (by omega)], by dsimp only; omega⟩
theorem m_writes (hA : mok X hp a) (hi : i < 20) (ht : txM M t) (h28 : M.1 28 = lead t) (h29 : M.1 29 = trN t (lead t) t.length) (hty : typL t = some l) : M0 X yX2_writes fX2_writes 1 [vR (some a), vI (i : Int)] (mH hp a M) (fun hp' => ∃ q, hp' = mH hp a (mW M 0 q) ∧ q (1 + (i : Int)) = l.1 ∧ q (21 + (i : Int)) = l.2.length ∧ (∀ k : Nat, k < l.2.length → q (61 + 32 * (i : Int) + k) = l.2.getD k 0) ∧ ∀ x : Int, ¬ (x = 1 + (i : Int) ∨ x = 21 + (i : Int) ∨ 61 + 32 * (i : Int) ≤ x ∧ x < 61 + 32 * (i : Int) + 32) → q x = M.2.1 0 x) := by
  obtain ⟨t1, t2, t3, t4⟩ := typL_ok hty
  have hb := bare_len (t := t)
  have htr := trN_rng (t := t) (lo := lead t) t.length lead_le
  have h72 := ht.2.1
  rw [t1] at t2
  refine MC.of pfX2_writes rfl (fun h => by cases h) 1 rfl rfl ?_
  rw [t1]
  have loop : ∀ (r k : Nat) (q : Int → Int), k + r = (bare t).length → q (1 + (i : Int)) = l.1 → q (21 + (i : Int)) = (bare t).length → (∀ j : Nat, j < k → q (61 + 32 * (i : Int) + j) = (bare t).getD j 0) → (∀ x : Int, ¬ (x = 1 + (i : Int) ∨ x = 21 + (i : Int) ∨ 61 + 32 * (i : Int) ≤ x ∧ x < 61 + 32 * (i : Int) + 32) → q x = M.2.1 0 x) → G X fX2_writes 1 47 [some (vR (some a)), some (vI (i : Int)), some (vI (k : Int))] [] (mH hp a (mW M 0 q)) (fun r hp' => r = none ∧ ∃ q, hp' = mH hp a (mW M 0 q) ∧ q (1 + (i : Int)) = l.1 ∧ q (21 + (i : Int)) = (bare t).length ∧ (∀ k : Nat, k < (bare t).length → q (61 + 32 * (i : Int) + k) = (bare t).getD k 0) ∧ ∀ x : Int, ¬ (x = 1 + (i : Int) ∨ x = 21 + (i : Int) ∨ 61 + 32 * (i : Int) ≤ x ∧ x < 61 + 32 * (i : Int) + 32) → q x = M.2.1 0 x) := by
    intro r
    induction r with
    | zero =>
      intro k q hk q1 q2 q3 q4
      have e28 : (mW M 0 q).1 28 = lead t := h28
      have e29 : (mW M 0 q).1 29 = trN t (lead t) t.length := h29
      refine gs_ild2 (pc := 47) dX2_writes_47 ?_
      refine gs_ald0 (pc := 48) dX2_writes_48 ?_
      refine gs_getf (pc := 49) 29 dX2_writes_49 (mcell hA) clX2 in_X2 (by decide) q2255 (Or.inl rfl) rfl ?_
      refine gs_ald0 (pc := 52) dX2_writes_52 ?_
      refine gs_getf (pc := 53) 28 dX2_writes_53 (mcell hA) clX2 in_X2 (by decide) q2254 (Or.inl rfl) rfl ?_
      refine gs_isub (pc := 56) dX2_writes_56 ?_
      refine gs_ic_ge (pc := 57) (tgt := 91) dX2_writes_57 (by decide) (by omega) (fun _ => ?_) (fun hn => absurd (by omega) hn)
      refine gs_vret (pc := 91) dX2_writes_91 rfl ?_
      exact ⟨rfl, q, rfl, q1, q2, fun j hj => q3 j (by omega), q4⟩
    | succ r ih =>
      intro k q hk q1 q2 q3 q4
      have e28 : (mW M 0 q).1 28 = lead t := h28
      have e29 : (mW M 0 q).1 29 = trN t (lead t) t.length := h29
      have htx : (mW M 0 q).2.1 2 ((lead t : Int) + k) = (bare t).getD k 0 := by
        rw [bare_at (show k < (bare t).length by omega)]
        exact ht.2.2.2 (lead t + k) (by omega)
      refine gs_ild2 (pc := 47) dX2_writes_47 ?_
      refine gs_ald0 (pc := 48) dX2_writes_48 ?_
      refine gs_getf (pc := 49) 29 dX2_writes_49 (mcell hA) clX2 in_X2 (by decide) q2255 (Or.inl rfl) rfl ?_
      refine gs_ald0 (pc := 52) dX2_writes_52 ?_
      refine gs_getf (pc := 53) 28 dX2_writes_53 (mcell hA) clX2 in_X2 (by decide) q2254 (Or.inl rfl) rfl ?_
      refine gs_isub (pc := 56) dX2_writes_56 ?_
      refine gs_ic_ge (pc := 57) (tgt := 91) dX2_writes_57 (by decide) (by omega) (fun hn => absurd hn (by omega)) (fun _ => ?_)
      refine gs_ald0 (pc := 60) dX2_writes_60 ?_
      refine gs_getf (pc := 61) 0 dX2_writes_61 (mcell hA) clX2 in_X2 (by decide) q2226 (Or.inl rfl) rfl ?_
      refine gs_bipush (pc := 64) dX2_writes_64 rfl ?_
      refine gs_bipush (pc := 66) dX2_writes_66 rfl ?_
      refine gs_ild1 (pc := 68) dX2_writes_68 ?_
      refine gs_imul (pc := 69) dX2_writes_69 ?_
      refine gs_iadd (pc := 70) dX2_writes_70 ?_
      refine gs_ild2 (pc := 71) dX2_writes_71 ?_
      refine gs_iadd (pc := 72) dX2_writes_72 ?_
      refine gs_ald0 (pc := 73) dX2_writes_73 ?_
      refine gs_getf (pc := 74) 3 dX2_writes_74 (mcell hA) clX2 in_X2 (by decide) q2229 (Or.inl rfl) rfl ?_
      refine gs_ald0 (pc := 77) dX2_writes_77 ?_
      refine gs_getf (pc := 78) 28 dX2_writes_78 (mcell hA) clX2 in_X2 (by decide) q2254 (Or.inl rfl) rfl ?_
      show G X fX2_writes 1 81 _ (vI (M.1 28) :: _) _ _
      rw [h28]
      refine gs_ild2 (pc := 81) dX2_writes_81 ?_
      refine gs_iadd (pc := 82) dX2_writes_82 ?_
      refine gs_iald (pc := 83) dX2_writes_83 (ma_text hA) (by omega) (by omega) ?_
      rw [htx]
      refine ms_page (pc := 84) hA dX2_writes_84 (by omega) ?_
      rw [mA_mW]
      refine gs_inc2 (pc := 85) dX2_writes_85 rfl ?_
      refine gs_goto (pc := 88) (tgt := 47) dX2_writes_88 (by decide) ?_
      refine ih (k + 1) _ (by omega) ?_ ?_ (fun j hj => ?_) (fun x hx => ?_)
      · rw [fup_ne (by omega)]; exact q1
      · rw [fup_ne (by omega)]; exact q2
      · by_cases hjk : j = k
        · subst hjk; exact fup_eq
        · rw [fup_ne (by omega)]; exact q3 j (by omega)
      · rw [fup_ne (by omega)]; exact q4 x hx
  have k45 : ∀ z : Int, z = l.1 → G X fX2_writes 1 44 [some (vR (some a)), some (vI (i : Int)), none] [vI z, vI (1 + (i : Int)), vR (some (a + 1))] (mH hp a (mA M 0 (21 + (i : Int)) (M.1 29 - M.1 28))) (fun r hp' => r = none ∧ ∃ q, hp' = mH hp a (mW M 0 q) ∧ q (1 + (i : Int)) = l.1 ∧ q (21 + (i : Int)) = (bare t).length ∧ (∀ k : Nat, k < (bare t).length → q (61 + 32 * (i : Int) + k) = (bare t).getD k 0) ∧ ∀ x : Int, ¬ (x = 1 + (i : Int) ∨ x = 21 + (i : Int) ∨ 61 + 32 * (i : Int) ≤ x ∧ x < 61 + 32 * (i : Int) + 32) → q x = M.2.1 0 x) := by
    rintro z rfl
    refine ms_page (pc := 44) hA dX2_writes_44 (by omega) ?_
    rw [show mA M 0 (21 + (i : Int)) (M.1 29 - M.1 28) = mW M 0 (fup (M.2.1 0) (21 + (i : Int)) (M.1 29 - M.1 28)) from rfl, mA_mW]
    refine gs_iconst (pc := 45) dX2_writes_45 ?_
    refine gs_ist2 (pc := 46) dX2_writes_46 rfl ?_
    refine loop (bare t).length 0 _ (by omega) fup_eq ?_ (fun j hj => absurd hj (by omega)) (fun x hx => ?_)
    · rw [fup_ne (by omega), fup_eq]; omega
    · rw [fup_ne (by omega), fup_ne (by omega)]
  refine gs_ald0 (pc := 0) dX2_writes_0 ?_
  refine gs_getf (pc := 1) 0 dX2_writes_1 (mcell hA) clX2 in_X2 (by decide) q2226 (Or.inl rfl) rfl ?_
  refine gs_bipush (pc := 4) dX2_writes_4 rfl ?_
  refine gs_ild1 (pc := 6) dX2_writes_6 ?_
  refine gs_iadd (pc := 7) dX2_writes_7 ?_
  refine gs_ald0 (pc := 8) dX2_writes_8 ?_
  refine gs_getf (pc := 9) 29 dX2_writes_9 (mcell hA) clX2 in_X2 (by decide) q2255 (Or.inl rfl) rfl ?_
  refine gs_ald0 (pc := 12) dX2_writes_12 ?_
  refine gs_getf (pc := 13) 28 dX2_writes_13 (mcell hA) clX2 in_X2 (by decide) q2254 (Or.inl rfl) rfl ?_
  refine gs_isub (pc := 16) dX2_writes_16 ?_
  refine ms_page (pc := 17) hA dX2_writes_17 (by omega) ?_
  refine gs_ald0 (pc := 18) dX2_writes_18 ?_
  refine gs_getf (pc := 19) 0 dX2_writes_19 (mcell hA) clX2 in_X2 (by decide) q2226 (Or.inl rfl) rfl ?_
  refine gs_iconst (pc := 22) dX2_writes_22 ?_
  refine gs_ild1 (pc := 23) dX2_writes_23 ?_
  refine gs_iadd (pc := 24) dX2_writes_24 ?_
  refine gs_ald0 (pc := 25) dX2_writes_25 ?_
  refine gs_getf (pc := 26) 29 dX2_writes_26 (mcell hA) clX2 in_X2 (by decide) q2255 (Or.inl rfl) rfl ?_
  refine gs_ald0 (pc := 29) dX2_writes_29 ?_
  refine gs_getf (pc := 30) 28 dX2_writes_30 (mcell hA) clX2 in_X2 (by decide) q2254 (Or.inl rfl) rfl ?_
  show G X fX2_writes 1 33 _ (vI (M.1 28) :: vI (M.1 29) :: _) _ _
  refine gs_ic_ne (pc := 33) (tgt := 40) dX2_writes_33 (by decide) (by omega) (fun h1 => ?_) (fun h1 => ?_)
  · refine gs_ald0 (pc := 40) dX2_writes_40 ?_
    refine gs_getf (pc := 41) 28 dX2_writes_41 (mcell hA) clX2 in_X2 (by decide) q2254 (Or.inl rfl) rfl ?_
    exact k45 _ (by rw [t3, if_neg (by omega)]; exact h28)
  · refine gs_iconst (pc := 36) dX2_writes_36 ?_
    refine gs_goto (pc := 37) (tgt := 44) dX2_writes_37 (by decide) ?_
    exact k45 0 (by rw [t3, if_pos (by omega)])
theorem lnl (hS : ssOk S) : (lnA S j).2.1.length ≤ 32 := by
  by_cases h : j < S.1.length
  · exact (lnOk_at hS h).2.2.1
  · unfold lnA; rw [List.getD_eq_getElem?_getD, List.getElem?_eq_none (by omega)]; exact Nat.zero_le _
theorem m_parts (hA : mok X hp a) (hP : PG M S) (hi : i ≤ nL S) (hn : nL S < 20) : M0 X yX2_parts fX2_parts 2 [vR (some a), vI (i : Int)] (mH hp a M) (fun hp' => ∃ q, hp' = mH hp a (mW M 0 q) ∧ q 0 = nL S + 1 ∧ (∀ j : Nat, j < i → pgL q 0 j (lnA S j)) ∧ (∀ j : Nat, i < j → j ≤ nL S → pgL q 0 j (lnA S (j - 1))) ∧ q (41 + (i : Int)) = 0 ∧ ∀ x : Int, 701 ≤ x → q x = M.2.1 0 x) := by
  refine MC.of pfX2_parts rfl (fun h => by cases h) 1 rfl rfl ?_
  have hc := hP.cnt
  have loop : ∀ (r k : Nat) (q : Int → Int), i + r = k → k ≤ nL S → q 0 = nL S → (∀ j : Nat, j < k → pgL q 0 j (lnA S j)) → (∀ j : Nat, k < j → j ≤ nL S → pgL q 0 j (lnA S (j - 1))) → (∀ x : Int, 701 ≤ x → q x = M.2.1 0 x) → G X fX2_parts 2 7 [some (vR (some a)), some (vI (i : Int)), some (vI (k : Int))] [] (mH hp a (mW M 0 q)) (fun r hp' => r = none ∧ ∃ q, hp' = mH hp a (mW M 0 q) ∧ q 0 = nL S + 1 ∧ (∀ j : Nat, j < i → pgL q 0 j (lnA S j)) ∧ (∀ j : Nat, i < j → j ≤ nL S → pgL q 0 j (lnA S (j - 1))) ∧ q (41 + (i : Int)) = 0 ∧ ∀ x : Int, 701 ≤ x → q x = M.2.1 0 x) := by
    intro r
    induction r with
    | zero =>
      intro k q hk hkn q0 q1 q2 q3
      obtain rfl : i = k := by omega
      refine gs_ild2 (pc := 7) dX2_parts_7 ?_
      refine gs_ild1 (pc := 8) dX2_parts_8 ?_
      refine gs_ic_le (pc := 9) (tgt := 26) dX2_parts_9 (by decide) (by omega) (fun _ => ?_) (fun hn => absurd (by omega) hn)
      refine gs_ald0 (pc := 26) dX2_parts_26 ?_
      refine gs_getf (pc := 27) 0 dX2_parts_27 (mcell hA) clX2 in_X2 (by decide) q2226 (Or.inl rfl) rfl ?_
      refine gs_iconst (pc := 30) dX2_parts_30 ?_
      refine gs_dup2 (pc := 31) dX2_parts_31 rfl rfl ?_
      refine gs_iald (pc := 32) dX2_parts_32 (ma_page hA) (by omega) (by omega) ?_
      refine gs_iconst (pc := 33) dX2_parts_33 ?_
      refine gs_iadd (pc := 34) dX2_parts_34 ?_
      refine ms_page (pc := 35) hA dX2_parts_35 (by omega) ?_
      refine gs_ald0 (pc := 36) dX2_parts_36 ?_
      refine gs_getf (pc := 37) 0 dX2_parts_37 (mcell hA) clX2 in_X2 (by decide) q2226 (Or.inl rfl) rfl ?_
      refine gs_bipush (pc := 40) dX2_parts_40 rfl ?_
      refine gs_ild1 (pc := 42) dX2_parts_42 ?_
      refine gs_iadd (pc := 43) dX2_parts_43 ?_
      refine gs_iconst (pc := 44) dX2_parts_44 ?_
      refine ms_page (pc := 45) hA dX2_parts_45 (by omega) ?_
      refine gs_vret (pc := 46) dX2_parts_46 rfl ?_
      rw [mA_mW, mA_mW]
      refine ⟨rfl, _, rfl, ?_, fun j hj => (q1 j hj).fr (lnl hP.2) (fun x hx => ?_), fun j h1 h2 => (q2 j h1 h2).fr (lnl hP.2) (fun x hx => ?_), fup_eq, fun x hx => ?_⟩
      · rw [fup_ne (by omega), fup_eq]
        show q 0 + 1 = _
        omega
      · rw [fup_ne (by omega), fup_ne (by omega)]
      · rw [fup_ne (by omega), fup_ne (by omega)]
      · rw [fup_ne (by omega), fup_ne (by omega)]; exact q3 x hx
    | succ r ih =>
      intro k q hk hkn q0 q1 q2 q3
      refine gs_ild2 (pc := 7) dX2_parts_7 ?_
      refine gs_ild1 (pc := 8) dX2_parts_8 ?_
      refine gs_ic_le (pc := 9) (tgt := 26) dX2_parts_9 (by decide) (by omega) (fun hn => absurd hn (by omega)) (fun _ => ?_)
      refine gs_ald0 (pc := 12) dX2_parts_12 ?_
      refine gs_ild2 (pc := 13) dX2_parts_13 ?_
      refine gs_iconst (pc := 14) dX2_parts_14 ?_
      refine gs_isub (pc := 15) dX2_parts_15 ?_
      rw [show (k : Int) - 1 = ((k - 1 : Nat) : Int) by omega]
      refine gs_ild2 (pc := 16) dX2_parts_16 ?_
      refine gs_V2v (pc := 17) dX2_parts_17 kX2_200 (mcell hA) clX2 (by decide) (Nat.le_of_ble_eq_true rfl) (m_copiesLine (f := k - 1) (t := k) hA (by omega) (by omega) (by omega)) (fun hp1 hq => ?_)
      obtain ⟨rfl⟩ := hq
      refine gs_inc2 (pc := 20) dX2_parts_20 rfl ?_
      refine gs_goto (pc := 23) (tgt := 7) dX2_parts_23 (by decide) ?_
      rw [mW_mW, mW_at, show (k : Int) + -1 = ((k - 1 : Nat) : Int) by omega]
      refine ih (k - 1) _ (by omega) (by omega) ?_ (fun j hj => ?_) (fun j h1 h2 => ?_) (fun x hx => ?_)
      · rw [cpL_out (by omega)]; exact q0
      · exact cpL_ne (by omega) (by omega) (by omega) (lnl hP.2) (q1 j (by omega))
      · by_cases hjk : j = k
        · subst hjk; exact cpL_to (by omega) (lnl hP.2) (q1 (j - 1) (by omega))
        · exact cpL_ne (by omega) (by omega) (by omega) (lnl hP.2) (q2 j (by omega) h2)
      · rw [cpL_out (by omega)]; exact q3 x hx
  refine gs_ald0 (pc := 0) dX2_parts_0 ?_
  refine gs_getf (pc := 1) 0 dX2_parts_1 (mcell hA) clX2 in_X2 (by decide) q2226 (Or.inl rfl) rfl ?_
  refine gs_iconst (pc := 4) dX2_parts_4 ?_
  refine gs_iald (pc := 5) dX2_parts_5 (ma_page hA) (by omega) (by omega) ?_
  rw [hc.1]
  refine gs_ist2 (pc := 6) dX2_parts_6 rfl ?_
  have := loop (nL S - i) (nL S) (M.2.1 0) (by omega) (by omega) hc.1 (fun j hj => hP.1.2.1 j hj) (fun j h1 h2 => by omega) (fun x _ => rfl)
  rw [mW_self] at this
  exact this
theorem m_drops (hA : mok X hp a) (hS : ssOk S) (hc : M.2.1 0 0 = nL S) (hln : ∀ j : Nat, j < nL S → pgL (M.2.1 0) 0 j (lnA S j)) (hi : i < nL S) : M0 X yX2_drops fX2_drops 2 [vR (some a), vI (i : Int)] (mH hp a M) (fun hp' => ∃ q, hp' = mH hp a (mW M 0 q) ∧ q 0 = nL S - 1 ∧ (∀ j : Nat, j < i → pgL q 0 j (lnA S j)) ∧ (∀ j : Nat, i ≤ j → j + 1 < nL S → pgL q 0 j (lnA S (j + 1))) ∧ ∀ x : Int, 701 ≤ x → q x = M.2.1 0 x) := by
  refine MC.of pfX2_drops rfl (fun h => by cases h) 1 rfl rfl ?_
  have h20 : nL S ≤ 20 := hS.1
  have loop : ∀ (r k : Nat) (q : Int → Int), k + 1 + r = nL S → i ≤ k → q 0 = nL S → (∀ j : Nat, j < i → pgL q 0 j (lnA S j)) → (∀ j : Nat, i ≤ j → j < k → pgL q 0 j (lnA S (j + 1))) → (∀ j : Nat, k < j → j < nL S → pgL q 0 j (lnA S j)) → (∀ x : Int, 701 ≤ x → q x = M.2.1 0 x) → G X fX2_drops 2 2 [some (vR (some a)), some (vI (i : Int)), some (vI (k : Int))] [] (mH hp a (mW M 0 q)) (fun r hp' => r = none ∧ ∃ q, hp' = mH hp a (mW M 0 q) ∧ q 0 = nL S - 1 ∧ (∀ j : Nat, j < i → pgL q 0 j (lnA S j)) ∧ (∀ j : Nat, i ≤ j → j + 1 < nL S → pgL q 0 j (lnA S (j + 1))) ∧ ∀ x : Int, 701 ≤ x → q x = M.2.1 0 x) := by
    intro r
    induction r with
    | zero =>
      intro k q hk hik q0 q1 q2 q3 q4
      have e0 : (mW M 0 q).2.1 0 0 = nL S := q0
      refine gs_ild2 (pc := 2) dX2_drops_2 ?_
      refine gs_iconst (pc := 3) dX2_drops_3 ?_
      refine gs_iadd (pc := 4) dX2_drops_4 ?_
      refine gs_ald0 (pc := 5) dX2_drops_5 ?_
      refine gs_getf (pc := 6) 0 dX2_drops_6 (mcell hA) clX2 in_X2 (by decide) q2226 (Or.inl rfl) rfl ?_
      refine gs_iconst (pc := 9) dX2_drops_9 ?_
      refine gs_iald (pc := 10) dX2_drops_10 (ma_page hA) (by omega) (by omega) ?_
      refine gs_ic_ge (pc := 11) (tgt := 28) dX2_drops_11 (by decide) (by omega) (fun _ => ?_) (fun hn => absurd (by omega) hn)
      refine gs_ald0 (pc := 28) dX2_drops_28 ?_
      refine gs_getf (pc := 29) 0 dX2_drops_29 (mcell hA) clX2 in_X2 (by decide) q2226 (Or.inl rfl) rfl ?_
      refine gs_iconst (pc := 32) dX2_drops_32 ?_
      refine gs_dup2 (pc := 33) dX2_drops_33 rfl rfl ?_
      refine gs_iald (pc := 34) dX2_drops_34 (ma_page hA) (by omega) (by omega) ?_
      refine gs_iconst (pc := 35) dX2_drops_35 ?_
      refine gs_isub (pc := 36) dX2_drops_36 ?_
      refine ms_page (pc := 37) hA dX2_drops_37 (by omega) ?_
      refine gs_vret (pc := 38) dX2_drops_38 rfl ?_
      rw [mA_mW]
      refine ⟨rfl, _, rfl, ?_, fun j hj => (q1 j hj).fr (lnl hS) (fun x hx => ?_), fun j h1 h2 => (q2 j h1 (by omega)).fr (lnl hS) (fun x hx => ?_), fun x hx => ?_⟩
      · rw [fup_eq]
        show q 0 - 1 = _
        omega
      · rw [fup_ne (by omega)]
      · rw [fup_ne (by omega)]
      · rw [fup_ne (by omega)]; exact q4 x hx
    | succ r ih =>
      intro k q hk hik q0 q1 q2 q3 q4
      have e0 : (mW M 0 q).2.1 0 0 = nL S := q0
      refine gs_ild2 (pc := 2) dX2_drops_2 ?_
      refine gs_iconst (pc := 3) dX2_drops_3 ?_
      refine gs_iadd (pc := 4) dX2_drops_4 ?_
      refine gs_ald0 (pc := 5) dX2_drops_5 ?_
      refine gs_getf (pc := 6) 0 dX2_drops_6 (mcell hA) clX2 in_X2 (by decide) q2226 (Or.inl rfl) rfl ?_
      refine gs_iconst (pc := 9) dX2_drops_9 ?_
      refine gs_iald (pc := 10) dX2_drops_10 (ma_page hA) (by omega) (by omega) ?_
      refine gs_ic_ge (pc := 11) (tgt := 28) dX2_drops_11 (by decide) (by omega) (fun hn => absurd hn (by omega)) (fun _ => ?_)
      refine gs_ald0 (pc := 14) dX2_drops_14 ?_
      refine gs_ild2 (pc := 15) dX2_drops_15 ?_
      refine gs_iconst (pc := 16) dX2_drops_16 ?_
      refine gs_iadd (pc := 17) dX2_drops_17 ?_
      refine gs_ild2 (pc := 18) dX2_drops_18 ?_
      refine gs_V2v (pc := 19) dX2_drops_19 kX2_200 (mcell hA) clX2 (by decide) (Nat.le_of_ble_eq_true rfl) (m_copiesLine (f := k + 1) (t := k) hA (by omega) (by omega) (by omega)) (fun hp1 hq => ?_)
      obtain ⟨rfl⟩ := hq
      refine gs_inc2 (pc := 22) dX2_drops_22 rfl ?_
      refine gs_goto (pc := 25) (tgt := 2) dX2_drops_25 (by decide) ?_
      rw [mW_mW, mW_at]
      refine ih (k + 1) _ (by omega) (by omega) ?_ (fun j hj => ?_) (fun j h1 h2 => ?_) (fun j h1 h2 => ?_) (fun x hx => ?_)
      · rw [cpL_out (by omega)]; exact q0
      · exact cpL_ne (by omega) (by omega) (by omega) (lnl hS) (q1 j hj)
      · by_cases hjk : j = k
        · subst hjk; exact cpL_to (by omega) (lnl hS) (q3 (j + 1) (by omega) (by omega))
        · exact cpL_ne (by omega) (by omega) (by omega) (lnl hS) (q2 j h1 (by omega))
      · exact cpL_ne (by omega) (by omega) (by omega) (lnl hS) (q3 j (by omega) h2)
      · rw [cpL_out (by omega)]; exact q4 x hx
  refine gs_ild1 (pc := 0) dX2_drops_0 ?_
  refine gs_ist2 (pc := 1) dX2_drops_1 rfl ?_
  have := loop (nL S - (i + 1)) i (M.2.1 0) (by omega) (by omega) hc (fun j hj => hln j (by omega)) (fun j h1 h2 => by omega) (fun j h1 h2 => hln j h2) (fun x _ => rfl)
  rw [mW_self] at this
  exact this
theorem lnA_ins {l : Ln} {R : (Nat → Option Rl) × Int × Int × Int} (hi : i ≤ S.1.length) : lnA (S.1.take i ++ l :: S.1.drop i, R) j = if j < i then lnA S j else if j = i then l else lnA S (j - 1) := by
  unfold lnA
  have hl : (S.1.take i).length = i := by rw [List.length_take]; omega
  rw [List.getD_eq_getElem?_getD, List.getD_eq_getElem?_getD, List.getD_eq_getElem?_getD]
  dsimp only
  by_cases h1 : j < i
  · rw [if_pos h1, List.getElem?_append_left (by omega), List.getElem?_take_of_lt h1]
  · rw [if_neg h1, List.getElem?_append_right (by omega), hl]
    by_cases h2 : j = i
    · rw [if_pos h2, h2, Nat.sub_self]; rfl
    · rw [if_neg h2, show j - i = (j - i - 1) + 1 by omega, List.getElem?_cons_succ, List.getElem?_drop, show i + (j - i - 1) = j - 1 by omega]
theorem lnA_era {R : (Nat → Option Rl) × Int × Int × Int} {L : List Ln} : lnA (L.eraseIdx i, R) j = if j < i then L.getD j (0, [], false) else L.getD (j + 1) (0, [], false) := by
  unfold lnA
  rw [List.getD_eq_getElem?_getD, List.getD_eq_getElem?_getD, List.getD_eq_getElem?_getD]
  dsimp only
  rw [List.getElem?_eraseIdx]
  by_cases h : j < i
  · rw [if_pos h, if_pos h]
  · rw [if_neg h, if_neg h]
theorem lnA_set {R : (Nat → Option Rl) × Int × Int × Int} {l : Ln} (hi : i < S.1.length) : lnA (S.1.set i l, R) j = if j = i then l else lnA S j := by
  unfold lnA
  rw [List.getD_eq_getElem?_getD, List.getD_eq_getElem?_getD]
  dsimp only
  by_cases h : j = i
  · subst h; rw [if_pos rfl, List.getElem?_set_self hi]; rfl
  · rw [if_neg h, List.getElem?_set_ne (Ne.symm h)]
theorem RM_pgn {p1 : Int → Int} {r1 : Int} (h : RM (mP (mW M 0 p1) 1 r1) (chg A A.1)) (hO : asOk A) : PG (mP (mW M 0 p1) 1 r1) A.1 := ⟨h.1, hO.1⟩
theorem m_insertLine {i : Int} (hA : mok X hp a) (hR : RM M A) (hO : asOk A) (hi : i32 i) : MV X yX2_insertLine fX2_insertLine 4 [vR (some a), vI i] (mH hp a M) (chP hp a (sp_insert A i)) := by
  refine MC.of pfX2_insertLine rfl (fun h => by cases h) 0 rfl rfl ?_
  have hP := hR.PG hO
  have hc := hP.cnt
  have ht := hR.tx hO
  unfold sp_insert
  refine gs_ild1 (pc := 0) dX2_insertLine_0 ?_
  refine gs_iconst (pc := 1) dX2_insertLine_1 ?_
  refine gs_ald0 (pc := 2) dX2_insertLine_2 ?_
  refine gs_getf (pc := 3) 0 dX2_insertLine_3 (mcell hA) clX2 in_X2 (by decide) q2226 (Or.inl rfl) rfl ?_
  refine gs_iconst (pc := 6) dX2_insertLine_6 ?_
  refine gs_iald (pc := 7) dX2_insertLine_7 (ma_page hA) (by omega) (by omega) ?_
  refine gs_S3 (pc := 8) dX2_insertLine_8 kX2_79 (by decide) (Nat.le_of_ble_eq_true rfl) (m_in hi (by decide) (by omega)) (fun v hp1 hq => ?_)
  obtain ⟨rfl, rfl⟩ := hq
  refine gs_bne (pc := 11) (tgt := 16) dX2_insertLine_11 (by decide) (fun h1 => ?_) (fun h1 => ?_)
  · have h1 : 0 ≤ i ∧ i ≤ M.2.1 0 0 := by simpa [inB] using h1
    rw [if_pos (by omega)]
    obtain ⟨n, rfl⟩ : ∃ n : Nat, i = (n : Int) := ⟨i.toNat, by omega⟩
    have hn : n ≤ nL A.1 := by omega
    rw [Int.toNat_natCast]
    refine gs_ald0 (pc := 16) dX2_insertLine_16 ?_
    refine gs_getf (pc := 17) 0 dX2_insertLine_17 (mcell hA) clX2 in_X2 (by decide) q2226 (Or.inl rfl) rfl ?_
    refine gs_iconst (pc := 20) dX2_insertLine_20 ?_
    refine gs_iald (pc := 21) dX2_insertLine_21 (ma_page hA) (by omega) (by omega) ?_
    refine gs_bipush (pc := 22) dX2_insertLine_22 rfl ?_
    refine gs_ic_eq (pc := 24) (tgt := 34) dX2_insertLine_24 (by decide) (by omega) (fun h2 => ?_) (fun h2 => ?_)
    · refine gs_bipush (pc := 34) dX2_insertLine_34 rfl ?_
      refine gs_iret (pc := 36) dX2_insertLine_36 rfl ?_
      refine ⟨_, rfl, ?_, M, rfl, ?_⟩
      · cases typL A.2.2.2.2 with
        | none => rfl
        | some l => dsimp only; rw [if_pos (by omega)]
      · cases typL A.2.2.2.2 with
        | none => exact hR
        | some l => dsimp only; rw [if_pos (by omega)]; exact hR
    · have h20 : nL A.1 < 20 := by omega
      have h20' : nL A.1 ≠ 20 := by omega
      refine gs_ald0 (pc := 27) dX2_insertLine_27 ?_
      refine gs_V0 (pc := 28) dX2_insertLine_28 kX2_203 (mcell hA) clX2 (by decide) (Nat.le_of_ble_eq_true rfl) (m_isLineText hA ht) (fun v hp1 hq => ?_)
      obtain ⟨rfl, rfl⟩ := hq
      refine gs_bne (pc := 31) (tgt := 37) dX2_insertLine_31 (by decide) (fun h3 => ?_) (fun h3 => ?_)
      · obtain ⟨l, hl⟩ := Option.isSome_iff_exists.mp h3
        rw [hl]
        dsimp only
        rw [if_neg h20']
        have hR2 : RM (mP (mP M 28 (lead A.2.2.2.2)) 29 (trN A.2.2.2.2 (lead A.2.2.2.2) A.2.2.2.2.length)) A := hR.kp ⟨rfl, rfl, fun _ _ => rfl⟩
        have e28 : (mP (mP M 28 (lead A.2.2.2.2)) 29 (trN A.2.2.2.2 (lead A.2.2.2.2) A.2.2.2.2.length)).1 28 = lead A.2.2.2.2 := rfl
        have e29 : (mP (mP M 28 (lead A.2.2.2.2)) 29 (trN A.2.2.2.2 (lead A.2.2.2.2) A.2.2.2.2.length)).1 29 = trN A.2.2.2.2 (lead A.2.2.2.2) A.2.2.2.2.length := rfl
        generalize mP (mP M 28 (lead A.2.2.2.2)) 29 (trN A.2.2.2.2 (lead A.2.2.2.2) A.2.2.2.2.length) = M2 at *
        refine gs_ald0 (pc := 37) dX2_insertLine_37 ?_
        refine gs_V0v (pc := 38) dX2_insertLine_38 kX2_207 (mcell hA) clX2 (by decide) (Nat.le_of_ble_eq_true rfl) (m_begins hA hR2 hO) (fun hp1 hq => ?_)
        obtain ⟨p1, r1, rfl, z1, z2⟩ := hq
        have hP2 := RM_pgn z2 hO
        refine gs_ald0 (pc := 41) dX2_insertLine_41 ?_
        refine gs_ild1 (pc := 42) dX2_insertLine_42 ?_
        refine gs_V1v (pc := 43) dX2_insertLine_43 kX2_210 (mcell hA) clX2 (by decide) (Nat.le_of_ble_eq_true rfl) (m_parts hA hP2 hn h20) (fun hp1 hq => ?_)
        obtain ⟨q, rfl, q0, q1, q2, q3, q4⟩ := hq
        have ht2 : txM (mW (mP (mW M2 0 p1) 1 r1) 0 q) A.2.2.2.2 := hR2.tx hO
        refine gs_ald0 (pc := 46) dX2_insertLine_46 ?_
        refine gs_ild1 (pc := 47) dX2_insertLine_47 ?_
        refine gs_V1v (pc := 48) dX2_insertLine_48 kX2_213 (mcell hA) clX2 (by decide) (Nat.le_of_ble_eq_true rfl) (m_writes hA (by omega) ht2 e28 e29 hl) (fun hp1 hq => ?_)
        obtain ⟨q', rfl, w1, w2, w3, w4⟩ := hq
        have w4 : ∀ x : Int, ¬ (x = 1 + (n : Int) ∨ x = 21 + (n : Int) ∨ 61 + 32 * (n : Int) ≤ x ∧ x < 61 + 32 * (n : Int) + 32) → q' x = q x := w4
        have q0' : q' 0 = nL A.1 + 1 := by rw [w4 _ (by omega)]; exact q0
        refine gs_ald0 (pc := 51) dX2_insertLine_51 ?_
        refine gs_getf (pc := 52) 0 dX2_insertLine_52 (mcell hA) clX2 in_X2 (by decide) q2226 (Or.inl rfl) rfl ?_
        refine gs_iconst (pc := 55) dX2_insertLine_55 ?_
        refine gs_iald (pc := 56) dX2_insertLine_56 (ma_page hA) (by omega) (by omega) ?_
        refine gs_iret (pc := 57) dX2_insertLine_57 rfl ?_
        refine ⟨_, rfl, congrArg vI q0', _, rfl, ?_⟩
        refine RM.now (A := chg A A.1) z2 (chg_ok hO hO.1) rfl rfl (fun j hj => by rcases hj with rfl | rfl | rfl | rfl <;> rfl) (fun x hx => ?_) ?_
        · show q' x = p1 x
          rw [w4 _ (by omega), q4 x (by omega)]; rfl
        · show pgS q' 0 _
          have hlen : ((A.1.1.take n ++ (l.1, l.2, false) :: A.1.1.drop n).length : Nat) = nL A.1 + 1 := by
            rw [List.length_append, List.length_cons, List.length_take, List.length_drop]
            have : nL A.1 = A.1.1.length := rfl
            omega
          refine pgS.lines hO.1 z2.1 rfl (fun x h1 h2 => ?_) ?_ (fun j hj => ?_)
          · show q' x = p1 x
            rw [w4 _ (by omega), q4 x h1]; rfl
          · rw [q0']; dsimp only; rw [hlen]; rfl
          · dsimp only at hj
            rw [hlen] at hj
            rw [lnA_ins hn]
            by_cases hj1 : j < n
            · rw [if_pos hj1]
              exact (q1 j hj1).fr (lnl hO.1) (fun x hx => w4 x (by omega))
            · rw [if_neg hj1]
              by_cases hj2 : j = n
              · rw [if_pos hj2, hj2]
                refine ⟨by rw [← w1]; exact congrArg q' (by omega), by dsimp only; rw [← w2]; exact congrArg q' (by omega), ?_, fun k hk => ?_⟩
                · rw [w4 _ (by omega), show (0 : Int) + 41 + n = 41 + n by omega, q3]; rfl
                · dsimp only at hk ⊢
                  rw [← w3 k hk]; exact congrArg q' (by omega)
              · rw [if_neg hj2]
                exact (q2 j (by omega) (by omega)).fr (lnl hO.1) (fun x hx => w4 x (by omega))
      · have hl : typL A.2.2.2.2 = none := by
          cases h : typL A.2.2.2.2 with
          | none => rfl
          | some l => rw [h] at h3; cases h3
        rw [hl]
        dsimp only
        refine gs_bipush (pc := 34) dX2_insertLine_34 rfl ?_
        refine gs_iret (pc := 36) dX2_insertLine_36 rfl ?_
        exact ⟨_, rfl, rfl, _, rfl, hR.kp ⟨rfl, rfl, fun _ _ => rfl⟩⟩
  · have h1 : ¬ (0 ≤ i ∧ i ≤ M.2.1 0 0) := by simpa [inB] using h1
    rw [if_neg (by omega)]
    refine gs_iconst (pc := 14) dX2_insertLine_14 ?_
    refine gs_iret (pc := 15) dX2_insertLine_15 rfl ?_
    exact ⟨_, rfl, rfl, M, rfl, hR⟩
theorem m_replaceLine {i : Int} (hA : mok X hp a) (hR : RM M A) (hO : asOk A) (hi : i32 i) : MV X yX2_replaceLine fX2_replaceLine 4 [vR (some a), vI i] (mH hp a M) (chP hp a (sp_replace A i)) := by
  refine MC.of pfX2_replaceLine rfl (fun h => by cases h) 1 rfl rfl ?_
  have hP := hR.PG hO
  have hc := hP.cnt
  have ht := hR.tx hO
  unfold sp_replace
  refine gs_ald0 (pc := 0) dX2_replaceLine_0 ?_
  refine gs_ild1 (pc := 1) dX2_replaceLine_1 ?_
  refine gs_V1 (pc := 2) dX2_replaceLine_2 kX2_216 (mcell hA) clX2 (by decide) (Nat.le_of_ble_eq_true rfl) (m_isLine hA hi (hR.cnt hO).2) (fun v hp1 hq => ?_)
  obtain ⟨rfl, rfl⟩ := hq
  refine gs_bne (pc := 5) (tgt := 10) dX2_replaceLine_5 (by decide) (fun h1 => ?_) (fun h1 => ?_)
  · rw [isL_inB hR] at h1
    rw [if_pos h1]
    obtain ⟨n, rfl, hn⟩ := isL_nat h1
    rw [Int.toNat_natCast]
    refine gs_ald0 (pc := 10) dX2_replaceLine_10 ?_
    refine gs_V0 (pc := 11) dX2_replaceLine_11 kX2_203 (mcell hA) clX2 (by decide) (Nat.le_of_ble_eq_true rfl) (m_isLineText hA ht) (fun v hp1 hq => ?_)
    obtain ⟨rfl, rfl⟩ := hq
    refine gs_bne (pc := 14) (tgt := 20) dX2_replaceLine_14 (by decide) (fun h3 => ?_) (fun h3 => ?_)
    · obtain ⟨l, hl⟩ := Option.isSome_iff_exists.mp h3
      rw [hl]
      dsimp only
      have hR2 : RM (mP (mP M 28 (lead A.2.2.2.2)) 29 (trN A.2.2.2.2 (lead A.2.2.2.2) A.2.2.2.2.length)) A := hR.kp ⟨rfl, rfl, fun _ _ => rfl⟩
      have e28 : (mP (mP M 28 (lead A.2.2.2.2)) 29 (trN A.2.2.2.2 (lead A.2.2.2.2) A.2.2.2.2.length)).1 28 = lead A.2.2.2.2 := rfl
      have e29 : (mP (mP M 28 (lead A.2.2.2.2)) 29 (trN A.2.2.2.2 (lead A.2.2.2.2) A.2.2.2.2.length)).1 29 = trN A.2.2.2.2 (lead A.2.2.2.2) A.2.2.2.2.length := rfl
      generalize mP (mP M 28 (lead A.2.2.2.2)) 29 (trN A.2.2.2.2 (lead A.2.2.2.2) A.2.2.2.2.length) = M2 at *
      refine gs_ald0 (pc := 20) dX2_replaceLine_20 ?_
      refine gs_V0v (pc := 21) dX2_replaceLine_21 kX2_207 (mcell hA) clX2 (by decide) (Nat.le_of_ble_eq_true rfl) (m_begins hA hR2 hO) (fun hp1 hq => ?_)
      obtain ⟨p1, r1, rfl, z1, z2⟩ := hq
      refine gs_ald0 (pc := 24) dX2_replaceLine_24 ?_
      refine gs_getf (pc := 25) 0 dX2_replaceLine_25 (mcell hA) clX2 in_X2 (by decide) q2226 (Or.inl rfl) rfl ?_
      refine gs_iconst (pc := 28) dX2_replaceLine_28 ?_
      refine gs_ild1 (pc := 29) dX2_replaceLine_29 ?_
      refine gs_iadd (pc := 30) dX2_replaceLine_30 ?_
      refine gs_iald (pc := 31) dX2_replaceLine_31 (ma_page hA) (by omega) (by omega) ?_
      have hP2 := RM_pgn z2 hO
      have hln := hP2.1.2.1 n hn
      have hpn := hP2.pin hn
      have ht2 : txM (mP (mW M2 0 p1) 1 r1) A.2.2.2.2 := hR2.tx hO
      rw [hpn.2]
      refine gs_ist2 (pc := 32) dX2_replaceLine_32 rfl ?_
      refine gs_ald0 (pc := 33) dX2_replaceLine_33 ?_
      refine gs_ild1 (pc := 34) dX2_replaceLine_34 ?_
      refine gs_V1v (pc := 35) dX2_replaceLine_35 kX2_213 (mcell hA) clX2 (by decide) (Nat.le_of_ble_eq_true rfl) (m_writes hA (by omega) ht2 e28 e29 hl) (fun hp1 hq => ?_)
      obtain ⟨q', rfl, w1, w2, w3, w4⟩ := hq
      refine gs_ild2 (pc := 38) dX2_replaceLine_38 ?_
      refine gs_iret (pc := 39) dX2_replaceLine_39 rfl ?_
      have w4 : ∀ x : Int, ¬ (x = 1 + (n : Int) ∨ x = 21 + (n : Int) ∨ 61 + 32 * (n : Int) ≤ x ∧ x < 61 + 32 * (n : Int) + 32) → q' x = p1 x := w4
      refine ⟨_, rfl, rfl, _, rfl, ?_⟩
      refine RM.now (A := chg A A.1) z2 (chg_ok hO hO.1) rfl rfl (fun j hj => by rcases hj with rfl | rfl | rfl | rfl <;> rfl) (fun x hx => w4 x (by omega)) ?_
      show pgS q' 0 _
      refine pgS.lines hO.1 z2.1 rfl (fun x h1 h2 => w4 x (by omega)) ?_ (fun j hj => ?_)
      · rw [w4 _ (by omega)]
        show p1 0 = ((A.1.1.set n _).length : Nat)
        rw [List.length_set]; exact z2.1.1
      · have hj : j < (A.1.1.set n (l.1, l.2, (lnA A.1 n).2.2)).length := hj
        rw [List.length_set] at hj
        unfold upL
        rw [lnA_set hn]
        have hlj := hP2.1.2.1 j hj
        by_cases hjn : j = n
        · rw [if_pos hjn, hjn]
          refine ⟨by rw [← w1]; exact congrArg q' (by omega), by dsimp only; rw [← w2]; exact congrArg q' (by omega), ?_, fun k hk => ?_⟩
          · rw [w4 _ (by omega)]; exact hln.2.2.1
          · dsimp only at hk ⊢
            rw [← w3 k hk]; exact congrArg q' (by omega)
        · rw [if_neg hjn]
          exact hlj.fr (lnl hO.1) (fun x hx => w4 x (by have : nL A.1 = A.1.1.length := rfl; omega))
    · have hl : typL A.2.2.2.2 = none := by
        cases h : typL A.2.2.2.2 with
        | none => rfl
        | some l => rw [h] at h3; cases h3
      rw [hl]
      dsimp only
      refine gs_bipush (pc := 17) dX2_replaceLine_17 rfl ?_
      refine gs_iret (pc := 19) dX2_replaceLine_19 rfl ?_
      exact ⟨_, rfl, rfl, _, rfl, hR.kp ⟨rfl, rfl, fun _ _ => rfl⟩⟩
  · rw [isL_inB hR] at h1
    rw [if_neg (by rw [h1]; decide)]
    refine gs_iconst (pc := 8) dX2_replaceLine_8 ?_
    refine gs_iret (pc := 9) dX2_replaceLine_9 rfl ?_
    exact ⟨_, rfl, rfl, M, rfl, hR⟩
theorem m_removeLine {i : Int} (hA : mok X hp a) (hR : RM M A) (hO : asOk A) (hi : i32 i) : MV X yX2_removeLine fX2_removeLine 4 [vR (some a), vI i] (mH hp a M) (chP hp a (sp_remove A i)) := by
  refine MC.of pfX2_removeLine rfl (fun h => by cases h) 0 rfl rfl ?_
  have hP := hR.PG hO
  have hc := hP.cnt
  unfold sp_remove
  refine gs_ald0 (pc := 0) dX2_removeLine_0 ?_
  refine gs_ild1 (pc := 1) dX2_removeLine_1 ?_
  refine gs_V1 (pc := 2) dX2_removeLine_2 kX2_216 (mcell hA) clX2 (by decide) (Nat.le_of_ble_eq_true rfl) (m_isLine hA hi (hR.cnt hO).2) (fun v hp1 hq => ?_)
  obtain ⟨rfl, rfl⟩ := hq
  refine gs_bne (pc := 5) (tgt := 10) dX2_removeLine_5 (by decide) (fun h1 => ?_) (fun h1 => ?_)
  · rw [isL_inB hR] at h1
    rw [if_pos h1]
    obtain ⟨n, rfl, hn⟩ := isL_nat h1
    rw [Int.toNat_natCast]
    refine gs_ald0 (pc := 10) dX2_removeLine_10 ?_
    refine gs_V0v (pc := 11) dX2_removeLine_11 kX2_207 (mcell hA) clX2 (by decide) (Nat.le_of_ble_eq_true rfl) (m_begins hA hR hO) (fun hp1 hq => ?_)
    obtain ⟨p1, r1, rfl, z1, z2⟩ := hq
    refine gs_ald0 (pc := 14) dX2_removeLine_14 ?_
    refine gs_ild1 (pc := 15) dX2_removeLine_15 ?_
    refine gs_V1v (pc := 16) dX2_removeLine_16 kX2_219 (mcell hA) clX2 (by decide) (Nat.le_of_ble_eq_true rfl) (m_drops hA hO.1 z2.1.1 z2.1.2.1 hn) (fun hp1 hq => ?_)
    obtain ⟨q, rfl, q0, q1, q2, q3⟩ := hq
    refine gs_ald0 (pc := 19) dX2_removeLine_19 ?_
    refine gs_getf (pc := 20) 0 dX2_removeLine_20 (mcell hA) clX2 in_X2 (by decide) q2226 (Or.inl rfl) rfl ?_
    refine gs_iconst (pc := 23) dX2_removeLine_23 ?_
    refine gs_iald (pc := 24) dX2_removeLine_24 (ma_page hA) (by omega) (by omega) ?_
    refine gs_iret (pc := 25) dX2_removeLine_25 rfl ?_
    refine ⟨_, rfl, congrArg vI q0, _, rfl, ?_⟩
    have hlen : (A.1.1.eraseIdx n).length = nL A.1 - 1 := by
      rw [List.length_eraseIdx]
      have : nL A.1 = A.1.1.length := rfl
      rw [if_pos (by omega)]; rfl
    refine RM.now (A := chg A A.1) z2 (chg_ok hO hO.1) rfl rfl (fun j hj => by rcases hj with rfl | rfl | rfl | rfl <;> rfl) (fun x hx => q3 x (by omega)) ?_
    refine pgS.lines hO.1 z2.1 rfl (fun x h1 h2 => q3 x h1) ?_ (fun j hj => ?_)
    · show q 0 = ((A.1.1.eraseIdx n).length : Nat)
      rw [hlen, q0]; omega
    · have hj : j < (A.1.1.eraseIdx n).length := hj
      rw [hlen] at hj
      rw [lnA_era]
      by_cases hjn : j < n
      · rw [if_pos hjn]; exact q1 j hjn
      · rw [if_neg hjn]; exact q2 j (by omega) (by omega)
  · rw [isL_inB hR] at h1
    rw [if_neg (by rw [h1]; decide)]
    refine gs_iconst (pc := 8) dX2_removeLine_8 ?_
    refine gs_iret (pc := 9) dX2_removeLine_9 rfl ?_
    exact ⟨_, rfl, rfl, M, rfl, hR⟩
theorem m_pin {i : Int} (hA : mok X hp a) (hR : RM M A) (hO : asOk A) (hi : i32 i) : MV X yX2_pin fX2_pin 4 [vR (some a), vI i] (mH hp a M) (chP hp a (sp_pin A i)) := by
  refine MC.of pfX2_pin rfl (fun h => by cases h) 0 rfl rfl ?_
  have hP := hR.PG hO
  have hc := hP.cnt
  unfold sp_pin
  refine gs_ald0 (pc := 0) dX2_pin_0 ?_
  refine gs_ild1 (pc := 1) dX2_pin_1 ?_
  refine gs_V1 (pc := 2) dX2_pin_2 kX2_216 (mcell hA) clX2 (by decide) (Nat.le_of_ble_eq_true rfl) (m_isLine hA hi (hR.cnt hO).2) (fun v hp1 hq => ?_)
  obtain ⟨rfl, rfl⟩ := hq
  refine gs_bne (pc := 5) (tgt := 10) dX2_pin_5 (by decide) (fun h1 => ?_) (fun h1 => ?_)
  · rw [isL_inB hR] at h1
    rw [if_pos h1]
    obtain ⟨n, rfl, hn⟩ := isL_nat h1
    rw [Int.toNat_natCast]
    refine gs_ald0 (pc := 10) dX2_pin_10 ?_
    refine gs_V0v (pc := 11) dX2_pin_11 kX2_207 (mcell hA) clX2 (by decide) (Nat.le_of_ble_eq_true rfl) (m_begins hA hR hO) (fun hp1 hq => ?_)
    obtain ⟨p1, r1, rfl, z1, z2⟩ := hq
    refine gs_ald0 (pc := 14) dX2_pin_14 ?_
    refine gs_getf (pc := 15) 0 dX2_pin_15 (mcell hA) clX2 in_X2 (by decide) q2226 (Or.inl rfl) rfl ?_
    refine gs_bipush (pc := 18) dX2_pin_18 rfl ?_
    refine gs_ild1 (pc := 20) dX2_pin_20 ?_
    refine gs_iadd (pc := 21) dX2_pin_21 ?_
    refine gs_iconst (pc := 22) dX2_pin_22 ?_
    refine gs_ald0 (pc := 23) dX2_pin_23 ?_
    refine gs_getf (pc := 24) 0 dX2_pin_24 (mcell hA) clX2 in_X2 (by decide) q2226 (Or.inl rfl) rfl ?_
    refine gs_bipush (pc := 27) dX2_pin_27 rfl ?_
    refine gs_ild1 (pc := 29) dX2_pin_29 ?_
    refine gs_iadd (pc := 30) dX2_pin_30 ?_
    refine gs_iald (pc := 31) dX2_pin_31 (ma_page hA) (by omega) (by omega) ?_
    have hP2 := RM_pgn z2 hO
    have hpn := hP2.pin hn
    rw [hpn.1]
    have eb : (1 : Int) - b2i (pinB A.1 n) = b2i (!pinB A.1 n) := by cases pinB A.1 n <;> rfl
    refine gs_isub (pc := 32) dX2_pin_32 ?_
    rw [eb]
    refine ms_page (pc := 33) hA dX2_pin_33 (by omega) ?_
    refine gs_ald0 (pc := 34) dX2_pin_34 ?_
    refine gs_getf (pc := 35) 0 dX2_pin_35 (mcell hA) clX2 in_X2 (by decide) q2226 (Or.inl rfl) rfl ?_
    refine gs_bipush (pc := 38) dX2_pin_38 rfl ?_
    refine gs_ild1 (pc := 40) dX2_pin_40 ?_
    refine gs_iadd (pc := 41) dX2_pin_41 ?_
    refine gs_iald (pc := 42) dX2_pin_42 (ma_page hA) (by omega) (by omega) ?_
    refine gs_iret (pc := 43) dX2_pin_43 rfl ?_
    have e41 : (mA (mP (mW M 0 p1) 1 r1) 0 (41 + (n : Int)) (b2i (!pinB A.1 n))).2.1 0 (41 + (n : Int)) = b2i (!pinB A.1 n) := fup_eq
    refine ⟨_, rfl, congrArg vI e41, _, rfl, ?_⟩
    refine RM.now (A := chg A A.1) z2 (chg_ok hO hO.1) rfl rfl (fun j hj => by rcases hj with rfl | rfl | rfl | rfl <;> rfl) (fun x hx => fup_ne (by omega)) ?_
    show pgS (fup p1 (41 + (n : Int)) (b2i (!pinB A.1 n))) 0 _
    refine pgS.lines hO.1 z2.1 rfl (fun x h1 h2 => fup_ne (by omega)) ?_ (fun j hj => ?_)
    · rw [fup_ne (by omega)]
      show p1 0 = ((A.1.1.set n _).length : Nat)
      rw [List.length_set]; exact z2.1.1
    · unfold upL at hj ⊢
      dsimp only at hj
      rw [List.length_set] at hj
      rw [lnA_set hn]
      have hlj := hP2.1.2.1 j hj
      have h32 := lnl (S := A.1) (j := j) hO.1
      have : nL A.1 = A.1.1.length := rfl
      by_cases hjn : j = n
      · subst hjn
        rw [if_pos rfl]
        obtain ⟨g1, g2, g3, g4⟩ := hlj
        refine ⟨by rw [fup_ne (by omega)]; exact g1, by rw [fup_ne (by omega)]; exact g2, ?_, fun k hk => ?_⟩
        · rw [show (0 : Int) + 41 + j = 41 + j by omega]; exact fup_eq
        · dsimp only at hk ⊢
          rw [fup_ne (by omega)]; exact g4 k hk
      · rw [if_neg hjn]
        exact hlj.fr (lnl hO.1) (fun x hx => fup_ne (by omega))
  · rw [isL_inB hR] at h1
    rw [if_neg (by rw [h1]; decide)]
    refine gs_iconst (pc := 8) dX2_pin_8 ?_
    refine gs_iret (pc := 9) dX2_pin_9 rfl ?_
    exact ⟨_, rfl, rfl, M, rfl, hR⟩
end P2
