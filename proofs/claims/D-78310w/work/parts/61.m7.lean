/-! THE MODEL: the parts of a line. -/
section M7
variable {X : gCx} {hp : gHp} {a : Nat} {M : MS} {s : List Int} {i k : Nat}
theorem getD_in {d : Int} (h : k < s.length) : s.getD k d = s[k] := by
  rw [List.getD_eq_getElem?_getD, List.getElem?_eq_getElem h]; rfl
theorem getD_out {d : Int} (h : s.length ≤ k) : s.getD k d = d := by
  rw [List.getD_eq_getElem?_getD, List.getElem?_eq_none h]; rfl
theorem getD_rng (h : ∀ c ∈ s, 32 ≤ c ∧ c ≤ 126) : (k < s.length ∧ 32 ≤ s.getD k (-9) ∧ s.getD k (-9) ≤ 126) ∨ (s.length ≤ k ∧ s.getD k (-9) = -9) := by
  by_cases hk : k < s.length
  · left
    rw [getD_in hk]
    exact ⟨hk, (h _ (List.getElem_mem hk)).1, (h _ (List.getElem_mem hk)).2⟩
  · right
    exact ⟨by omega, getD_out (by omega)⟩
theorem drop_getD {d : Int} (k j : Nat) : (s.drop k).getD j d = s.getD (k + j) d := by
  rw [List.getD_eq_getElem?_getD, List.getD_eq_getElem?_getD, List.getElem?_drop]
theorem getD_34 : s.getD k 0 = 34 ↔ s.getD k (-9) = 34 := by
  by_cases h : k < s.length
  · rw [getD_in h, getD_in h]
  · rw [getD_out (by omega), getD_out (by omega)]; decide
theorem trip_iff : trip (s.drop k) = true ↔ s.getD k (-9) = 34 ∧ s.getD (k + 1) (-9) = 34 ∧ s.getD (k + 2) (-9) = 34 := by
  unfold trip
  rw [decide_eq_true_iff, drop_getD, drop_getD, drop_getD, getD_34, getD_34, getD_34]; exact Iff.rfl
theorem trip_lt (h : trip (s.drop k) = true) : k + 3 ≤ s.length := by
  have h2 := (trip_iff.mp h).2.2
  by_cases hk : k + 2 < s.length
  · omega
  · rw [getD_out (by omega)] at h2; cases h2
theorem litS_drop (hk : k < s.length) : litS (s.drop k) = if trip (s.drop k) then some 3 else (litS (s.drop (k + 1))).map (· + 1) := by
  rw [List.drop_eq_getElem_cons hk]; rfl
theorem litS_short : ∀ s : List Int, s.length ≤ 2 → litS s = none := by
  intro s
  induction s with
  | nil => intro _; rfl
  | cons c t ih =>
    intro h
    have ht : trip (c :: t) = false := by
      cases hh : trip (c :: t) with
      | false => rfl
      | true =>
        have := trip_lt (s := c :: t) (k := 0) hh
        omega
    have h2 := ih (by simp at h; omega)
    show (if trip (c :: t) then some 3 else (litS t).map (· + 1)) = none
    rw [ht, h2]
    rfl
def litV (s : List Int) (k : Nat) : Int := match litS (s.drop k) with
  | none => -9
  | some n => ((k + n : Nat) : Int)
theorem litV_hit (h : trip (s.drop k) = true) : litV s k = ((k + 3 : Nat) : Int) := by
  unfold litV
  rw [litS_drop (by have := trip_lt h; omega), if_pos h]
theorem litV_next (hk : k < s.length) (h : trip (s.drop k) = false) : litV s k = litV s (k + 1) := by
  unfold litV
  rw [litS_drop hk, if_neg (by rw [h]; decide)]
  cases litS (s.drop (k + 1)) with
  | none => rfl
  | some n => show ((k + (n + 1) : Nat) : Int) = ((k + 1 + n : Nat) : Int); omega
theorem litV_end (h : s.length ≤ k + 2) : litV s k = -9 := by
  unfold litV
  rw [litS_short _ (by rw [List.length_drop]; omega)]
theorem litS_le : ∀ (s : List Int) (n : Nat), litS s = some n → 3 ≤ n ∧ n ≤ s.length := by
  intro s
  induction s with
  | nil => intro n h; cases h
  | cons c t ih =>
    intro n h
    have h : (if trip (c :: t) then some 3 else (litS t).map (· + 1)) = some n := h
    by_cases ht : trip (c :: t) = true
    · rw [if_pos ht] at h
      cases h
      have := trip_lt (s := c :: t) (k := 0) ht
      omega
    · rw [if_neg ht] at h
      cases hl : litS t with
      | none => rw [hl] at h; cases h
      | some m =>
        rw [hl] at h
        cases h
        have := ih m hl
        simp only [List.length_cons]
        omega
theorem strS_c {c : Int} {t : List Int} : strS (c :: t) = if c = 34 then 1 else if c = 92 then (match t with
    | [] => 1
    | _ :: u => 2 + strS u) else 1 + strS t := by
  cases t <;> rfl
theorem strS_le : ∀ (n : Nat) (s : List Int), s.length ≤ n → strS s ≤ s.length := by
  intro n
  induction n with
  | zero => intro s h; cases s with
    | nil => exact Nat.le_refl _
    | cons c t => simp at h
  | succ n ih =>
    intro s h
    cases s with
    | nil => exact Nat.le_refl _
    | cons c t =>
      have ht := ih t (by simp at h; omega)
      rw [strS_c, List.length_cons]
      by_cases h1 : c = 34
      · rw [if_pos h1]; omega
      · rw [if_neg h1]
        by_cases h2 : c = 92
        · rw [if_pos h2]
          cases t with
          | nil => exact Nat.le_refl _
          | cons d u =>
            have hu := ih u (by simp at h; omega)
            show 2 + strS u ≤ u.length + 1 + 1
            omega
        · rw [if_neg h2]; omega
def strV (s : List Int) (k : Nat) : Nat := min (k + strS (s.drop k)) s.length
theorem strV_end (h : s.length ≤ k) : strV s k = s.length := by unfold strV; omega
theorem strV_q (hk : k < s.length) (h : s.getD k (-9) = 34) : strV s k = k + 1 := by
  unfold strV
  rw [List.drop_eq_getElem_cons hk, strS_c, if_pos (by rw [← getD_in hk (d := -9)]; exact h)]
  omega
theorem strV_b (hk : k < s.length) (h : s.getD k (-9) = 92) : strV s k = strV s (k + 2) := by
  unfold strV
  rw [getD_in hk] at h
  rw [List.drop_eq_getElem_cons hk, strS_c, if_neg (by rw [h]; decide), if_pos h]
  by_cases h1 : k + 1 < s.length
  · rw [List.drop_eq_getElem_cons h1]
    show min (k + (2 + strS (s.drop (k + 1 + 1)))) s.length = _
    rw [show k + 1 + 1 = k + 2 by omega]
    omega
  · rw [List.drop_eq_nil_of_le (show s.length ≤ k + 1 by omega)]
    show min (k + 1) s.length = _
    omega
theorem strV_n (hk : k < s.length) (h : s.getD k (-9) ≠ 34) (h2 : s.getD k (-9) ≠ 92) : strV s k = strV s (k + 1) := by
  unfold strV
  rw [getD_in hk] at h h2
  rw [List.drop_eq_getElem_cons hk, strS_c, if_neg h, if_neg h2]
  omega
theorem strV_eq (hk : k ≤ s.length) : strV s k = k + strS (s.drop k) := by
  have := strS_le (s.drop k).length (s.drop k) (Nat.le_refl _)
  rw [List.length_drop] at this
  unfold strV
  omega
theorem wordB_9 : wordB (-9) = false := by decide
theorem wrdS_next (h : wordB (s.getD k (-9)) = true) : wrdS (s.drop k) = 1 + wrdS (s.drop (k + 1)) := by
  by_cases hk : k < s.length
  · rw [getD_in hk] at h
    unfold wrdS
    rw [List.drop_eq_getElem_cons hk, List.takeWhile_cons_of_pos h, List.length_cons]
    omega
  · rw [getD_out (by omega), wordB_9] at h; cases h
theorem wrdS_end (h : wordB (s.getD k (-9)) = false) : wrdS (s.drop k) = 0 := by
  unfold wrdS
  by_cases hk : k < s.length
  · rw [getD_in hk] at h
    rw [List.drop_eq_getElem_cons hk, List.takeWhile_cons_of_neg (by rw [h]; decide)]
    rfl
  · rw [List.drop_eq_nil_of_le (by omega)]; rfl
theorem wrdS_le (s : List Int) : wrdS s ≤ s.length := by
  unfold wrdS
  exact (List.takeWhile_sublist _).length_le
/-- line i of the present state has the content s -/
def lnM (M : MS) (i : Nat) (s : List Int) : Prop := i < 20 ∧ s.length ≤ 32 ∧ (∀ c ∈ s, 32 ≤ c ∧ c ≤ 126) ∧ M.2.1 0 (21 + (i : Int)) = s.length ∧ ∀ k : Nat, k < s.length → M.2.1 0 (61 + 32 * (i : Int) + k) = s.getD k 0
theorem m_cAt (hA : mok X hp a) (hl : lnM M i s) (hk : k ≤ 1000) : MV X yX2_contentAt fX2_contentAt 1 [vR (some a), vI (i : Int), vI (k : Int)] (mH hp a M) (fun r hp' => r = vI (s.getD k (-9)) ∧ mH hp a M = hp') := by
  obtain ⟨h1, h2, h3, h4, h5⟩ := hl
  refine MV.mono ?_ (m_contentAt hA (by omega) (by omega) (by omega))
  rintro v hp' ⟨rfl, rfl⟩
  refine ⟨?_, rfl⟩
  rw [h4]
  congr 1
  by_cases hh : k < s.length
  · rw [if_pos (by omega), h5 k hh, getD_in hh, getD_in hh]
  · rw [if_neg (by omega), getD_out (by omega)]
theorem m_isTriple (hA : mok X hp a) (hl : lnM M i s) (hk : k ≤ 100) : MV X yX2_isTriple fX2_isTriple 2 [vR (some a), vI (i : Int), vI (k : Int)] (mH hp a M) (fun r hp' => r = vI (b2i (trip (s.drop k))) ∧ mH hp a M = hp') := by
  refine MC.of pfX2_isTriple rfl (fun h => by cases h) 0 rfl rfl ?_
  have r0 := getD_rng (k := k) hl.2.2.1
  have r1 := getD_rng (k := k + 1) hl.2.2.1
  have r2 := getD_rng (k := k + 2) hl.2.2.1
  have kN : ¬ (s.getD k (-9) = 34 ∧ s.getD (k + 1) (-9) = 34 ∧ s.getD (k + 2) (-9) = 34) → G X fX2_isTriple 2 41 [some (vR (some a)), some (vI (i : Int)), some (vI (k : Int))] [] (mH hp a M) (fun r hp' => ∃ v, r = some v ∧ v = vI (b2i (trip (s.drop k))) ∧ mH hp a M = hp') := by
    intro h
    have : trip (s.drop k) = false := by
      cases hh : trip (s.drop k) with
      | false => rfl
      | true => exact absurd (trip_iff.mp hh) h
    refine gs_iconst (pc := 41) dX2_isTriple_41 ?_
    refine gs_zret (pc := 42) .boolean dX2_isTriple_42 rfl rfl ?_
    exact ⟨_, rfl, by rw [this]; rfl, rfl⟩
  refine gs_ald0 (pc := 0) dX2_isTriple_0 ?_
  refine gs_ild1 (pc := 1) dX2_isTriple_1 ?_
  refine gs_ild2 (pc := 2) dX2_isTriple_2 ?_
  refine gs_V2 (pc := 3) dX2_isTriple_3 kX2_83 (mcell hA) clX2 (by decide) (Nat.le_of_ble_eq_true rfl) (m_cAt hA hl (by omega)) (fun v hp1 hq => ?_)
  obtain ⟨rfl, rfl⟩ := hq
  refine gs_bipush (pc := 6) dX2_isTriple_6 rfl ?_
  refine gs_ic_ne (pc := 8) (tgt := 41) dX2_isTriple_8 (by decide) (by omega) (fun h1 => ?_) (fun h1 => ?_)
  · exact kN (fun h => h1 h.1)
  refine gs_ald0 (pc := 11) dX2_isTriple_11 ?_
  refine gs_ild1 (pc := 12) dX2_isTriple_12 ?_
  refine gs_ild2 (pc := 13) dX2_isTriple_13 ?_
  refine gs_iconst (pc := 14) dX2_isTriple_14 ?_
  refine gs_iadd (pc := 15) dX2_isTriple_15 ?_
  refine gs_V2 (pc := 16) dX2_isTriple_16 kX2_83 (mcell hA) clX2 (by decide) (Nat.le_of_ble_eq_true rfl) (m_cAt (k := k + 1) hA hl (by omega)) (fun v hp1 hq => ?_)
  obtain ⟨rfl, rfl⟩ := hq
  refine gs_bipush (pc := 19) dX2_isTriple_19 rfl ?_
  refine gs_ic_ne (pc := 21) (tgt := 41) dX2_isTriple_21 (by decide) (by omega) (fun h2 => ?_) (fun h2 => ?_)
  · exact kN (fun h => h2 h.2.1)
  refine gs_ald0 (pc := 24) dX2_isTriple_24 ?_
  refine gs_ild1 (pc := 25) dX2_isTriple_25 ?_
  refine gs_ild2 (pc := 26) dX2_isTriple_26 ?_
  refine gs_iconst (pc := 27) dX2_isTriple_27 ?_
  refine gs_iadd (pc := 28) dX2_isTriple_28 ?_
  refine gs_V2 (pc := 29) dX2_isTriple_29 kX2_83 (mcell hA) clX2 (by decide) (Nat.le_of_ble_eq_true rfl) (m_cAt (k := k + 2) hA hl (by omega)) (fun v hp1 hq => ?_)
  obtain ⟨rfl, rfl⟩ := hq
  refine gs_bipush (pc := 32) dX2_isTriple_32 rfl ?_
  refine gs_ic_ne (pc := 34) (tgt := 41) dX2_isTriple_34 (by decide) (by omega) (fun h3 => ?_) (fun h3 => ?_)
  · exact kN (fun h => h3 h.2.2)
  refine gs_iconst (pc := 37) dX2_isTriple_37 ?_
  refine gs_goto (pc := 38) (tgt := 42) dX2_isTriple_38 (by decide) ?_
  refine gs_zret (pc := 42) .boolean dX2_isTriple_42 rfl rfl ?_
  exact ⟨_, rfl, by rw [trip_iff.mpr ⟨by omega, by omega, by omega⟩]; rfl, rfl⟩
theorem m_endOfLiteral (hA : mok X hp a) (hl : lnM M i s) (hk : k ≤ 40) : MV X yX2_endOfLiteral fX2_endOfLiteral 3 [vR (some a), vI (i : Int), vI (k : Int)] (mH hp a M) (fun r hp' => r = vI (litV s k) ∧ mH hp a M = hp') := by
  have hl' := hl
  obtain ⟨g1, g2, g3, g4, g5⟩ := hl'
  refine MC.of pfX2_endOfLiteral rfl (fun h => by cases h) 1 rfl rfl ?_
  have loop : ∀ (r j : Nat), j + r = 40 → litV s k = litV s j → G X fX2_endOfLiteral 3 2 [some (vR (some a)), some (vI (i : Int)), some (vI (k : Int)), some (vI (j : Int))] [] (mH hp a M) (fun r hp' => ∃ v, r = some v ∧ v = vI (litV s k) ∧ mH hp a M = hp') := by
    intro r
    induction r with
    | zero =>
      intro j hj he
      refine gs_ild3 (pc := 2) dX2_endOfLiteral_2 ?_
      refine gs_iconst (pc := 3) dX2_endOfLiteral_3 ?_
      refine gs_iadd (pc := 4) dX2_endOfLiteral_4 ?_
      refine gs_ald0 (pc := 5) dX2_endOfLiteral_5 ?_
      refine gs_getf (pc := 6) 0 dX2_endOfLiteral_6 (mcell hA) clX2 in_X2 (by decide) q2226 (Or.inl rfl) rfl ?_
      refine gs_bipush (pc := 9) dX2_endOfLiteral_9 rfl ?_
      refine gs_ild1 (pc := 11) dX2_endOfLiteral_11 ?_
      refine gs_iadd (pc := 12) dX2_endOfLiteral_12 ?_
      refine gs_iald (pc := 13) dX2_endOfLiteral_13 (ma_page hA) (by omega) (by omega) ?_
      refine gs_ic_ge (pc := 14) (tgt := 36) dX2_endOfLiteral_14 (by decide) (by omega) (fun _ => ?_) (fun hn => absurd (by omega) hn)
      refine gs_bipush (pc := 36) dX2_endOfLiteral_36 rfl ?_
      refine gs_iret (pc := 38) dX2_endOfLiteral_38 rfl ?_
      exact ⟨_, rfl, by rw [he, litV_end (by omega)], rfl⟩
    | succ r ih =>
      intro j hj he
      refine gs_ild3 (pc := 2) dX2_endOfLiteral_2 ?_
      refine gs_iconst (pc := 3) dX2_endOfLiteral_3 ?_
      refine gs_iadd (pc := 4) dX2_endOfLiteral_4 ?_
      refine gs_ald0 (pc := 5) dX2_endOfLiteral_5 ?_
      refine gs_getf (pc := 6) 0 dX2_endOfLiteral_6 (mcell hA) clX2 in_X2 (by decide) q2226 (Or.inl rfl) rfl ?_
      refine gs_bipush (pc := 9) dX2_endOfLiteral_9 rfl ?_
      refine gs_ild1 (pc := 11) dX2_endOfLiteral_11 ?_
      refine gs_iadd (pc := 12) dX2_endOfLiteral_12 ?_
      refine gs_iald (pc := 13) dX2_endOfLiteral_13 (ma_page hA) (by omega) (by omega) ?_
      refine gs_ic_ge (pc := 14) (tgt := 36) dX2_endOfLiteral_14 (by decide) (by omega) (fun hc => ?_) (fun hc => ?_)
      · refine gs_bipush (pc := 36) dX2_endOfLiteral_36 rfl ?_
        refine gs_iret (pc := 38) dX2_endOfLiteral_38 rfl ?_
        exact ⟨_, rfl, by rw [he, litV_end (by omega)], rfl⟩
      · refine gs_ald0 (pc := 17) dX2_endOfLiteral_17 ?_
        refine gs_ild1 (pc := 18) dX2_endOfLiteral_18 ?_
        refine gs_ild3 (pc := 19) dX2_endOfLiteral_19 ?_
        refine gs_V2 (pc := 20) dX2_endOfLiteral_20 kX2_87 (mcell hA) clX2 (by decide) (Nat.le_of_ble_eq_true rfl) (m_isTriple hA hl (by omega)) (fun v hp1 hq => ?_)
        obtain ⟨rfl, rfl⟩ := hq
        refine gs_beq (pc := 23) (tgt := 30) dX2_endOfLiteral_23 (by decide) (fun ht => ?_) (fun ht => ?_)
        · refine gs_inc3 (pc := 30) dX2_endOfLiteral_30 rfl ?_
          refine gs_goto (pc := 33) (tgt := 2) dX2_endOfLiteral_33 (by decide) ?_
          exact ih (j + 1) (by omega) (by rw [he, litV_next (by omega) ht])
        · refine gs_ild3 (pc := 26) dX2_endOfLiteral_26 ?_
          refine gs_iconst (pc := 27) dX2_endOfLiteral_27 ?_
          refine gs_iadd (pc := 28) dX2_endOfLiteral_28 ?_
          refine gs_iret (pc := 29) dX2_endOfLiteral_29 rfl ?_
          exact ⟨_, rfl, by rw [he, litV_hit ht]; rfl, rfl⟩
  refine gs_ild2 (pc := 0) dX2_endOfLiteral_0 ?_
  refine gs_ist3 (pc := 1) dX2_endOfLiteral_1 rfl ?_
  exact loop (40 - k) k (by omega) rfl
theorem m_endOfString (hA : mok X hp a) (hl : lnM M i s) (hk : k ≤ 40) : MV X yX2_endOfString fX2_endOfString 2 [vR (some a), vI (i : Int), vI (k : Int)] (mH hp a M) (fun r hp' => r = vI (strV s (k + 1) : Nat) ∧ mH hp a M = hp') := by
  have hl' := hl
  obtain ⟨g1, g2, g3, g4, g5⟩ := hl'
  refine MC.of pfX2_endOfString rfl (fun h => by cases h) 1 rfl rfl ?_
  have fin : ∀ j : Nat, j ≤ 60 → (s.length ≤ j ∨ s.getD j (-9) = 34) → strV s (k + 1) = strV s j → G X fX2_endOfString 2 50 [some (vR (some a)), some (vI (i : Int)), some (vI (k : Int)), some (vI (j : Int))] [] (mH hp a M) (fun r hp' => ∃ v, r = some v ∧ v = vI (strV s (k + 1) : Nat) ∧ mH hp a M = hp') := by
    intro j hj hc he
    refine gs_ild3 (pc := 50) dX2_endOfString_50 ?_
    refine gs_iconst (pc := 51) dX2_endOfString_51 ?_
    refine gs_iadd (pc := 52) dX2_endOfString_52 ?_
    refine gs_ald0 (pc := 53) dX2_endOfString_53 ?_
    refine gs_getf (pc := 54) 0 dX2_endOfString_54 (mcell hA) clX2 in_X2 (by decide) q2226 (Or.inl rfl) rfl ?_
    refine gs_bipush (pc := 57) dX2_endOfString_57 rfl ?_
    refine gs_ild1 (pc := 59) dX2_endOfString_59 ?_
    refine gs_iadd (pc := 60) dX2_endOfString_60 ?_
    refine gs_iald (pc := 61) dX2_endOfString_61 (ma_page hA) (by omega) (by omega) ?_
    refine gs_S2 (pc := 62) dX2_endOfString_62 kX2_91 (by decide) (Nat.le_of_ble_eq_true rfl) (m_least (by omega) (by omega)) (fun v hp1 hq => ?_)
    obtain ⟨rfl, rfl⟩ := hq
    refine gs_iret (pc := 65) dX2_endOfString_65 rfl ?_
    refine ⟨_, rfl, ?_, rfl⟩
    rw [he, g4]
    congr 1
    by_cases h1 : s.length ≤ j
    · rw [strV_end h1]; omega
    · rw [strV_q (by omega) (by omega)]; omega
  have loop : ∀ (r j : Nat), j + r = 60 → strV s (k + 1) = strV s j → G X fX2_endOfString 2 4 [some (vR (some a)), some (vI (i : Int)), some (vI (k : Int)), some (vI (j : Int))] [] (mH hp a M) (fun r hp' => ∃ v, r = some v ∧ v = vI (strV s (k + 1) : Nat) ∧ mH hp a M = hp') := by
    intro r
    induction r using Nat.strongRecOn with
    | ind r ih =>
      intro j hj he
      have r0 := getD_rng (k := j) g3
      refine gs_ild3 (pc := 4) dX2_endOfString_4 ?_
      refine gs_ald0 (pc := 5) dX2_endOfString_5 ?_
      refine gs_getf (pc := 6) 0 dX2_endOfString_6 (mcell hA) clX2 in_X2 (by decide) q2226 (Or.inl rfl) rfl ?_
      refine gs_bipush (pc := 9) dX2_endOfString_9 rfl ?_
      refine gs_ild1 (pc := 11) dX2_endOfString_11 ?_
      refine gs_iadd (pc := 12) dX2_endOfString_12 ?_
      refine gs_iald (pc := 13) dX2_endOfString_13 (ma_page hA) (by omega) (by omega) ?_
      refine gs_ic_ge (pc := 14) (tgt := 50) dX2_endOfString_14 (by decide) (by omega) (fun hc => ?_) (fun hc => ?_)
      · exact fin j (by omega) (by omega) he
      · refine gs_ald0 (pc := 17) dX2_endOfString_17 ?_
        refine gs_ild1 (pc := 18) dX2_endOfString_18 ?_
        refine gs_ild3 (pc := 19) dX2_endOfString_19 ?_
        refine gs_V2 (pc := 20) dX2_endOfString_20 kX2_83 (mcell hA) clX2 (by decide) (Nat.le_of_ble_eq_true rfl) (m_cAt hA hl (by omega)) (fun v hp1 hq => ?_)
        obtain ⟨rfl, rfl⟩ := hq
        refine gs_bipush (pc := 23) dX2_endOfString_23 rfl ?_
        refine gs_ic_eq (pc := 25) (tgt := 50) dX2_endOfString_25 (by decide) (by omega) (fun h1 => ?_) (fun h1 => ?_)
        · exact fin j (by omega) (by omega) he
        · refine gs_ild3 (pc := 28) dX2_endOfString_28 ?_
          refine gs_ald0 (pc := 29) dX2_endOfString_29 ?_
          refine gs_ild1 (pc := 30) dX2_endOfString_30 ?_
          refine gs_ild3 (pc := 31) dX2_endOfString_31 ?_
          refine gs_V2 (pc := 32) dX2_endOfString_32 kX2_83 (mcell hA) clX2 (by decide) (Nat.le_of_ble_eq_true rfl) (m_cAt hA hl (by omega)) (fun v hp1 hq => ?_)
          obtain ⟨rfl, rfl⟩ := hq
          refine gs_bipush (pc := 35) dX2_endOfString_35 rfl ?_
          refine gs_ic_ne (pc := 37) (tgt := 44) dX2_endOfString_37 (by decide) (by omega) (fun h2 => ?_) (fun h2 => ?_)
          · refine gs_iconst (pc := 44) dX2_endOfString_44 ?_
            refine gs_iadd (pc := 45) dX2_endOfString_45 ?_
            refine gs_ist3 (pc := 46) dX2_endOfString_46 rfl ?_
            refine gs_goto (pc := 47) (tgt := 4) dX2_endOfString_47 (by decide) ?_
            exact ih (r - 1) (by omega) (j + 1) (by omega) (by rw [he, strV_n (by omega) h1 h2])
          · refine gs_iconst (pc := 40) dX2_endOfString_40 ?_
            refine gs_goto (pc := 41) (tgt := 45) dX2_endOfString_41 (by decide) ?_
            refine gs_iadd (pc := 45) dX2_endOfString_45 ?_
            refine gs_ist3 (pc := 46) dX2_endOfString_46 rfl ?_
            refine gs_goto (pc := 47) (tgt := 4) dX2_endOfString_47 (by decide) ?_
            exact ih (r - 2) (by omega) (j + 2) (by omega) (by rw [he, strV_b (by omega) (by omega)])
  refine gs_ild2 (pc := 0) dX2_endOfString_0 ?_
  refine gs_iconst (pc := 1) dX2_endOfString_1 ?_
  refine gs_iadd (pc := 2) dX2_endOfString_2 ?_
  refine gs_ist3 (pc := 3) dX2_endOfString_3 rfl ?_
  exact loop (60 - (k + 1)) (k + 1) (by omega) rfl
theorem m_endOfWord (hA : mok X hp a) (hl : lnM M i s) (hk : k ≤ 40) : MV X yX2_endOfWord fX2_endOfWord 3 [vR (some a), vI (i : Int), vI (k : Int)] (mH hp a M) (fun r hp' => r = vI ((k + wrdS (s.drop k) : Nat) : Int) ∧ mH hp a M = hp') := by
  have hl' := hl
  obtain ⟨g1, g2, g3, g4, g5⟩ := hl'
  refine MC.of pfX2_endOfWord rfl (fun h => by cases h) 1 rfl rfl ?_
  have loop : ∀ (r j : Nat), j + r = 60 → k + wrdS (s.drop k) = j + wrdS (s.drop j) → G X fX2_endOfWord 3 2 [some (vR (some a)), some (vI (i : Int)), some (vI (k : Int)), some (vI (j : Int))] [] (mH hp a M) (fun r hp' => ∃ v, r = some v ∧ v = vI ((k + wrdS (s.drop k) : Nat) : Int) ∧ mH hp a M = hp') := by
    intro r
    induction r with
    | zero =>
      intro j hj he
      have r0 := getD_rng (k := j) g3
      have h0 : wordB (s.getD j (-9)) = false := by rw [getD_out (by omega)]; decide
      refine gs_ald0 (pc := 2) dX2_endOfWord_2 ?_
      refine gs_ild1 (pc := 3) dX2_endOfWord_3 ?_
      refine gs_ild3 (pc := 4) dX2_endOfWord_4 ?_
      refine gs_V2 (pc := 5) dX2_endOfWord_5 kX2_83 (mcell hA) clX2 (by decide) (Nat.le_of_ble_eq_true rfl) (m_cAt hA hl (by omega)) (fun v hp1 hq => ?_)
      obtain ⟨rfl, rfl⟩ := hq
      refine gs_S1 (pc := 8) dX2_endOfWord_8 kX2_94 (by decide) (Nat.le_of_ble_eq_true rfl) (m_isWord (by omega)) (fun v hp1 hq => ?_)
      obtain ⟨rfl, rfl⟩ := hq
      refine gs_beq (pc := 11) (tgt := 20) dX2_endOfWord_11 (by decide) (fun _ => ?_) (fun hn => absurd ((h0 : _ = false).symm.trans hn) (by decide))
      refine gs_ild3 (pc := 20) dX2_endOfWord_20 ?_
      refine gs_iret (pc := 21) dX2_endOfWord_21 rfl ?_
      exact ⟨_, rfl, by rw [he, wrdS_end h0]; rfl, rfl⟩
    | succ r ih =>
      intro j hj he
      have r0 := getD_rng (k := j) g3
      refine gs_ald0 (pc := 2) dX2_endOfWord_2 ?_
      refine gs_ild1 (pc := 3) dX2_endOfWord_3 ?_
      refine gs_ild3 (pc := 4) dX2_endOfWord_4 ?_
      refine gs_V2 (pc := 5) dX2_endOfWord_5 kX2_83 (mcell hA) clX2 (by decide) (Nat.le_of_ble_eq_true rfl) (m_cAt hA hl (by omega)) (fun v hp1 hq => ?_)
      obtain ⟨rfl, rfl⟩ := hq
      refine gs_S1 (pc := 8) dX2_endOfWord_8 kX2_94 (by decide) (Nat.le_of_ble_eq_true rfl) (m_isWord (by omega)) (fun v hp1 hq => ?_)
      obtain ⟨rfl, rfl⟩ := hq
      refine gs_beq (pc := 11) (tgt := 20) dX2_endOfWord_11 (by decide) (fun h0 => ?_) (fun h0 => ?_)
      · refine gs_ild3 (pc := 20) dX2_endOfWord_20 ?_
        refine gs_iret (pc := 21) dX2_endOfWord_21 rfl ?_
        exact ⟨_, rfl, by rw [he, wrdS_end h0]; rfl, rfl⟩
      · refine gs_inc3 (pc := 14) dX2_endOfWord_14 rfl ?_
        refine gs_goto (pc := 17) (tgt := 2) dX2_endOfWord_17 (by decide) ?_
        exact ih (j + 1) (by omega) (by have := wrdS_next h0; omega)
  refine gs_ild2 (pc := 0) dX2_endOfWord_0 ?_
  refine gs_ist3 (pc := 1) dX2_endOfWord_1 rfl ?_
  exact loop (60 - k) k (by omega) rfl
def ad1 (M : MS) (i p l q : Int) : MS := mP (mA (mA (mA (mA M 3 (M.1 12) i) 4 (M.1 12) p) 5 (M.1 12) l) 6 (M.1 12) q) 12 (M.1 12 + 1)
theorem m_adds {i p e l q : Int} (hA : mok X hp a) (hm : 0 ≤ M.1 12 ∧ M.1 12 < 641) (he : e - p = l) : M0 X yX2_adds fX2_adds 1 [vR (some a), vI i, vI p, vI e, vI q] (mH hp a M) (fun hp' => hp' = mH hp a (ad1 M i p l q)) := by
  subst he
  refine MC.of pfX2_adds rfl (fun h => by cases h) 0 rfl rfl ?_
  refine gs_ald0 (pc := 0) dX2_adds_0 ?_
  refine gs_getf (pc := 1) 5 dX2_adds_1 (mcell hA) clX2 in_X2 (by decide) q2231 (Or.inl rfl) rfl ?_
  refine gs_ald0 (pc := 4) dX2_adds_4 ?_
  refine gs_getf (pc := 5) 12 dX2_adds_5 (mcell hA) clX2 in_X2 (by decide) q2238 (Or.inl rfl) rfl ?_
  refine gs_ild1 (pc := 8) dX2_adds_8 ?_
  refine ms_tokenLine (pc := 9) hA dX2_adds_9 hm ?_
  refine gs_ald0 (pc := 10) dX2_adds_10 ?_
  refine gs_getf (pc := 11) 6 dX2_adds_11 (mcell hA) clX2 in_X2 (by decide) q2232 (Or.inl rfl) rfl ?_
  refine gs_ald0 (pc := 14) dX2_adds_14 ?_
  refine gs_getf (pc := 15) 12 dX2_adds_15 (mcell hA) clX2 in_X2 (by decide) q2238 (Or.inl rfl) rfl ?_
  refine gs_ild2 (pc := 18) dX2_adds_18 ?_
  refine ms_tokenSpot (pc := 19) hA dX2_adds_19 hm ?_
  refine gs_ald0 (pc := 20) dX2_adds_20 ?_
  refine gs_getf (pc := 21) 7 dX2_adds_21 (mcell hA) clX2 in_X2 (by decide) q2233 (Or.inl rfl) rfl ?_
  refine gs_ald0 (pc := 24) dX2_adds_24 ?_
  refine gs_getf (pc := 25) 12 dX2_adds_25 (mcell hA) clX2 in_X2 (by decide) q2238 (Or.inl rfl) rfl ?_
  refine gs_ild3 (pc := 28) dX2_adds_28 ?_
  refine gs_ild2 (pc := 29) dX2_adds_29 ?_
  refine gs_isub (pc := 30) dX2_adds_30 ?_
  refine ms_tokenLong (pc := 31) hA dX2_adds_31 hm ?_
  refine gs_ald0 (pc := 32) dX2_adds_32 ?_
  refine gs_getf (pc := 33) 8 dX2_adds_33 (mcell hA) clX2 in_X2 (by decide) q2234 (Or.inl rfl) rfl ?_
  refine gs_ald0 (pc := 36) dX2_adds_36 ?_
  refine gs_getf (pc := 37) 12 dX2_adds_37 (mcell hA) clX2 in_X2 (by decide) q2238 (Or.inl rfl) rfl ?_
  refine gs_ild4 (pc := 40) dX2_adds_40 ?_
  refine ms_tokenSort (pc := 42) hA dX2_adds_42 hm ?_
  refine gs_ald0 (pc := 43) dX2_adds_43 ?_
  refine gs_dup (pc := 44) dX2_adds_44 rfl ?_
  refine gs_getf (pc := 45) 12 dX2_adds_45 (mcell hA) clX2 in_X2 (by decide) q2238 (Or.inl rfl) rfl ?_
  refine gs_iconst (pc := 48) dX2_adds_48 ?_
  refine gs_iadd (pc := 49) dX2_adds_49 ?_
  refine mp_many (pc := 50) rfl hA dX2_adds_50 ?_
  refine gs_vret (pc := 53) dX2_adds_53 rfl ?_
  exact ⟨rfl, rfl⟩
end M7
