/-! THE MODEL: history. -/
section R1
variable {X : gCx} {hp : gHp} {a : Nat} {M M' : MS} {A : AS} {S S' : SS} {n k m lo i j r w : Nat} {p p' : Int → Int}
theorem cpN_at {f t z : Int} : cpN p (980 * f) (980 * t) 980 z = if 980 * t ≤ z ∧ z < 980 * t + 980 then p (z - 980 * t + 980 * f) else p z := by
  unfold cpN
  by_cases h : 980 * t ≤ z ∧ z < 980 * t + 980
  · rw [if_pos (by omega), if_pos h]
  · rw [if_neg (by omega), if_neg h]
theorem m_undo (hA : mok X hp a) (hR : RM M A) (hO : asOk A) : MV X yX2_undo fX2_undo 3 [vR (some a)] (mH hp a M) (chP hp a (sp_undo A)) := by
  have hR' := hR
  obtain ⟨r1, r2, r3, r4, r5, r6, r7, r8, r9, r10⟩ := hR
  have h8 := hO.2.1.1
  refine MC.of pfX2_undo rfl (fun h => by cases h) 0 rfl rfl ?_
  unfold sp_undo
  cases hl : A.2.1.getLast? with
  | none =>
    have : A.2.1 = [] := List.getLast?_eq_none_iff.mp hl
    have h0 : A.2.1.length = 0 := by rw [this]; rfl
    refine gs_ald0 (pc := 0) dX2_undo_0 ?_
    refine gs_getf (pc := 1) 1 dX2_undo_1 (mcell hA) clX2 in_X2 (by decide) q2227 (Or.inl rfl) rfl ?_
    refine gs_if_ne (pc := 4) (tgt := 10) dX2_undo_4 (by decide) (by omega) (fun hn => absurd (by omega) hn) (fun _ => ?_)
    refine gs_bipush (pc := 7) dX2_undo_7 rfl ?_
    refine gs_iret (pc := 9) dX2_undo_9 rfl ?_
    exact ⟨_, rfl, rfl, M, rfl, hR'⟩
  | some S =>
    have hne : A.2.1 ≠ [] := fun h => by rw [h] at hl; cases hl
    have hpos : 0 < A.2.1.length := List.length_pos_iff.mpr hne
    obtain ⟨n, hn⟩ : ∃ n, A.2.1.length = n + 1 := ⟨A.2.1.length - 1, by omega⟩
    have hS : A.2.1.getD n ssD = S := by
      rw [List.getLast?_eq_getElem?, hn, Nat.add_sub_cancel] at hl
      rw [List.getD_eq_getElem?_getD, hl]; rfl
    have hSo : ssOk S := hO.2.1.2 S (List.mem_of_getLast? hl)
    have e1 : M.1 1 - 1 = (n : Int) := by omega
    dsimp only
    refine gs_ald0 (pc := 0) dX2_undo_0 ?_
    refine gs_getf (pc := 1) 1 dX2_undo_1 (mcell hA) clX2 in_X2 (by decide) q2227 (Or.inl rfl) rfl ?_
    refine gs_if_ne (pc := 4) (tgt := 10) dX2_undo_4 (by decide) (by omega) (fun _ => ?_) (fun hn => absurd hn (by omega))
    refine gs_ald0 (pc := 10) dX2_undo_10 ?_
    refine gs_dup (pc := 11) dX2_undo_11 rfl ?_
    refine gs_getf (pc := 12) 1 dX2_undo_12 (mcell hA) clX2 in_X2 (by decide) q2227 (Or.inl rfl) rfl ?_
    refine gs_iconst (pc := 15) dX2_undo_15 ?_
    refine gs_isub (pc := 16) dX2_undo_16 ?_
    refine mp_remembered (pc := 17) rfl hA dX2_undo_17 ?_
    refine gs_ald0 (pc := 20) dX2_undo_20 ?_
    refine gs_iconst (pc := 21) dX2_undo_21 ?_
    refine gs_ald0 (pc := 22) dX2_undo_22 ?_
    refine gs_getf (pc := 23) 1 dX2_undo_23 (mcell hA) clX2 in_X2 (by decide) q2227 (Or.inl rfl) rfl ?_
    show G X fX2_undo 3 26 _ (vI (M.1 1 - 1) :: _) _ _
    rw [e1]
    refine gs_iadd (pc := 26) dX2_undo_26 ?_
    refine gs_iconst (pc := 27) dX2_undo_27 ?_
    refine gs_V2v (pc := 28) dX2_undo_28 kX2_75 (mcell hA) clX2 (by decide) (Nat.le_of_ble_eq_true rfl) (m_copies (f := 1 + (n : Int)) (t := 0) hA (by omega) (by omega) (by omega)) (fun hp1 hq => ?_)
    obtain ⟨rfl⟩ := hq
    refine gs_ald0 (pc := 31) dX2_undo_31 ?_
    refine gs_getf (pc := 32) 1 dX2_undo_32 (mcell hA) clX2 in_X2 (by decide) q2227 (Or.inl rfl) rfl ?_
    refine gs_iret (pc := 35) dX2_undo_35 rfl ?_
    refine ⟨_, rfl, ?_, _, rfl, ?_⟩
    · congr 1
      show (n : Int) = _
      omega
    · have hp0 : ∀ z : Int, cpN (M.2.1 0) (980 * (1 + (n : Int))) (980 * 0) 980 z = if 980 * 0 ≤ z ∧ z < 980 * 0 + 980 then M.2.1 0 (z - 980 * 0 + 980 * (1 + (n : Int))) else M.2.1 0 z := fun z => cpN_at
      refine ⟨?_, ?_, fun i hi => ?_, r4, fun Q hQ => ?_, fun Q hQ => ?_, r7, r8, r9, r10⟩
      · show pgS (cpN (M.2.1 0) (980 * (1 + (n : Int))) (980 * 0) 980) 0 S
        have := r3 n (by omega)
        rw [hS] at this
        refine this.mv hSo (fun z h1 h2 => ?_)
        rw [hp0, if_pos (by omega)]
        exact congrArg _ (by omega)
      · show (n : Int) = ((A.2.1.dropLast.length : Nat) : Int)
        rw [List.length_dropLast]; omega
      · have hi : i < A.2.1.dropLast.length := hi
        rw [List.length_dropLast] at hi
        show pgS (cpN (M.2.1 0) (980 * (1 + (n : Int))) (980 * 0) 980) (980 * (1 + i)) (A.2.1.dropLast.getD i ssD)
        rw [show A.2.1.dropLast.getD i ssD = A.2.1.getD i ssD by rw [List.getD_eq_getElem?_getD, List.getD_eq_getElem?_getD, List.getElem?_dropLast, if_pos (by omega)]]
        refine (r3 i (by omega)).mv (hO.2.1.2 _ ?_) (fun z h1 h2 => by rw [hp0, if_neg (by omega)])
        rw [List.getD_eq_getElem?_getD, List.getElem?_eq_getElem (by omega)]
        exact List.getElem_mem _
      · exact (r5 Q hQ).mv (hO.2.2.1 Q hQ) (fun z h1 h2 => (hp0 _).trans (if_neg (by omega)))
      · exact (r6 Q hQ).mv (hO.2.2.2.1 Q hQ) (fun z h1 h2 => (hp0 _).trans (if_neg (by omega)))
theorem m_keep {k : Int} (hA : mok X hp a) (hR : RM M A) (hO : asOk A) (hk : i32 k) : MV X yX2_keep fX2_keep 3 [vR (some a), vI k] (mH hp a M) (chP hp a (sp_keep A k)) := by
  have hR' := hR
  obtain ⟨r1, r2, r3, ⟨r4, r4'⟩, r5, r6, r7, r8, r9, r10⟩ := hR
  have h8 := hO.2.1.1
  refine MC.of pfX2_keep rfl (fun h => by cases h) 1 rfl rfl ?_
  refine gs_ild1 (pc := 0) dX2_keep_0 ?_
  refine gs_iconst (pc := 1) dX2_keep_1 ?_
  refine gs_iconst (pc := 2) dX2_keep_2 ?_
  refine gs_S3 (pc := 3) dX2_keep_3 kX2_79 (by decide) (Nat.le_of_ble_eq_true rfl) (m_in hk (by decide) (by decide)) (fun v hp1 hq => ?_)
  obtain ⟨rfl, rfl⟩ := hq
  refine gs_bne (pc := 6) (tgt := 11) dX2_keep_6 (by decide) (fun h1 => ?_) (fun h1 => ?_)
  rotate_left
  · have h1 : ¬ (0 ≤ k ∧ k ≤ 1) := by simpa [inB] using h1
    unfold sp_keep
    rw [if_neg (by omega), if_neg (by omega)]
    refine gs_iconst (pc := 9) dX2_keep_9 ?_
    refine gs_iret (pc := 10) dX2_keep_10 rfl ?_
    exact ⟨_, rfl, rfl, M, rfl, hR'⟩
  have h1 : 0 ≤ k ∧ k ≤ 1 := by simpa [inB] using h1
  have hkept : M.2.1 1 k = b2i (img A k).isSome := by
    unfold img
    by_cases h0 : k = 0
    · rw [if_pos h0, h0]; exact r4
    · rw [if_neg h0, if_pos (by omega), show k = 1 by omega]; exact r4'
  have hp0 : ∀ z : Int, cpN (M.2.1 0) (980 * 0) (980 * (9 + k)) 980 z = if 980 * (9 + k) ≤ z ∧ z < 980 * (9 + k) + 980 then M.2.1 0 (z - 980 * (9 + k) + 980 * 0) else M.2.1 0 z := fun z => cpN_at
  have hmem : ∀ i : Nat, i < A.2.1.length → ssOk (A.2.1.getD i ssD) := by
    intro i hi
    refine hO.2.1.2 _ ?_
    rw [List.getD_eq_getElem?_getD, List.getElem?_eq_getElem hi]
    exact List.getElem_mem _
  have k25 : ∀ B : Bool, B = (img A k).isSome → G X fX2_keep 3 25 [some (vR (some a)), some (vI k), none] [vI (b2i B)] (mH hp a M) (fun v hp' => ∃ w, v = some w ∧ chP hp a (sp_keep A k) w hp') := by
    intro B hB
    refine gs_ist2 (pc := 25) dX2_keep_25 rfl ?_
    refine gs_ald0 (pc := 26) dX2_keep_26 ?_
    refine gs_iconst (pc := 27) dX2_keep_27 ?_
    refine gs_bipush (pc := 28) dX2_keep_28 rfl ?_
    refine gs_ild1 (pc := 30) dX2_keep_30 ?_
    refine gs_iadd (pc := 31) dX2_keep_31 ?_
    refine gs_V2v (pc := 32) dX2_keep_32 kX2_75 (mcell hA) clX2 (by decide) (Nat.le_of_ble_eq_true rfl) (m_copies (f := 0) (t := 9 + k) hA (by omega) (by omega) (by omega)) (fun hp1 hq => ?_)
    obtain ⟨rfl⟩ := hq
    refine gs_ald0 (pc := 35) dX2_keep_35 ?_
    refine gs_getf (pc := 36) 2 dX2_keep_36 (mcell hA) clX2 in_X2 (by decide) q2228 (Or.inl rfl) rfl ?_
    refine gs_ild1 (pc := 39) dX2_keep_39 ?_
    refine gs_iconst (pc := 40) dX2_keep_40 ?_
    refine ms_isKept (pc := 41) hA dX2_keep_41 (by omega) (Or.inr rfl) ?_
    refine gs_ild2 (pc := 42) dX2_keep_42 ?_
    refine gs_iret (pc := 43) dX2_keep_43 rfl ?_
    unfold img at hB
    unfold sp_keep
    by_cases h0 : k = 0
    · subst h0
      rw [if_pos rfl] at hB ⊢
      refine ⟨_, rfl, by rw [hB], _, rfl, ?_⟩
      refine ⟨r1.mv hO.1 (fun z h1 h2 => (hp0 _).trans (if_neg (by omega))), r2, fun i hi => (r3 i hi).mv (hmem i hi) (fun z h1 h2 => ?_), ⟨(show fup (M.2.1 1) 0 1 0 = 1 from fup_eq), ?_⟩, fun Q hQ => ?_, fun Q hQ => (r6 Q hQ).mv (hO.2.2.2.1 Q hQ) (fun z h1 h2 => (hp0 _).trans (if_neg (by omega))), r7, r8, r9, r10⟩
      · have hi : i < A.2.1.length := hi
        exact (hp0 _).trans (if_neg (by omega))
      · show fup (M.2.1 1) 0 1 1 = _
        rw [fup_ne (by decide)]; exact r4'
      · cases hQ
        refine r1.mv hO.1 (fun z h1 h2 => ?_)
        show cpN _ _ _ _ _ = _
        rw [hp0, if_pos (by omega)]
        exact congrArg _ (by omega)
    · obtain rfl : k = 1 := by omega
      rw [if_neg h0, if_pos rfl] at hB ⊢
      refine ⟨_, rfl, by rw [hB], _, rfl, ?_⟩
      refine ⟨r1.mv hO.1 (fun z h1 h2 => (hp0 _).trans (if_neg (by omega))), r2, fun i hi => (r3 i hi).mv (hmem i hi) (fun z h1 h2 => ?_), ⟨?_, (show fup (M.2.1 1) 1 1 1 = 1 from fup_eq)⟩, fun Q hQ => (r5 Q hQ).mv (hO.2.2.1 Q hQ) (fun z h1 h2 => (hp0 _).trans (if_neg (by omega))), fun Q hQ => ?_, r7, r8, r9, r10⟩
      · have hi : i < A.2.1.length := hi
        exact (hp0 _).trans (if_neg (by omega))
      · show fup (M.2.1 1) 1 1 0 = _
        rw [fup_ne (by decide)]; exact r4
      · cases hQ
        refine r1.mv hO.1 (fun z h1 h2 => ?_)
        show cpN _ _ _ _ _ = _
        rw [hp0, if_pos (by omega)]
        exact congrArg _ (by omega)
  refine gs_ald0 (pc := 11) dX2_keep_11 ?_
  refine gs_getf (pc := 12) 2 dX2_keep_12 (mcell hA) clX2 in_X2 (by decide) q2228 (Or.inl rfl) rfl ?_
  refine gs_ild1 (pc := 15) dX2_keep_15 ?_
  refine gs_zald (pc := 16) dX2_keep_16 (ma_isKept hA) (by omega) (by omega) ?_
  rw [hkept]
  refine gs_beq (pc := 17) (tgt := 24) dX2_keep_17 (by decide) (fun h2 => ?_) (fun h2 => ?_)
  · refine gs_iconst (pc := 24) dX2_keep_24 ?_
    exact k25 false h2.symm
  · refine gs_iconst (pc := 20) dX2_keep_20 ?_
    refine gs_goto (pc := 21) (tgt := 25) dX2_keep_21 (by decide) ?_
    exact k25 true h2.symm
theorem m_back {k : Int} (hA : mok X hp a) (hR : RM M A) (hO : asOk A) (hk : i32 k) : MV X yX2_back fX2_back 3 [vR (some a), vI k] (mH hp a M) (chP hp a (sp_back A k)) := by
  have hR' := hR
  obtain ⟨r1, r2, r3, ⟨r4, r4'⟩, r5, r6, r7, r8, r9, r10⟩ := hR
  refine MC.of pfX2_back rfl (fun h => by cases h) 0 rfl rfl ?_
  unfold sp_back
  refine gs_ild1 (pc := 0) dX2_back_0 ?_
  refine gs_iconst (pc := 1) dX2_back_1 ?_
  refine gs_iconst (pc := 2) dX2_back_2 ?_
  refine gs_S3 (pc := 3) dX2_back_3 kX2_79 (by decide) (Nat.le_of_ble_eq_true rfl) (m_in hk (by decide) (by decide)) (fun v hp1 hq => ?_)
  obtain ⟨rfl, rfl⟩ := hq
  refine gs_beq (pc := 6) (tgt := 18) dX2_back_6 (by decide) (fun h1 => ?_) (fun h1 => ?_)
  · have h1 : ¬ (0 ≤ k ∧ k ≤ 1) := by simpa [inB] using h1
    have : img A k = none := by unfold img; rw [if_neg (by omega), if_neg (by omega)]
    rw [this]
    refine gs_iconst (pc := 18) dX2_back_18 ?_
    refine gs_iret (pc := 19) dX2_back_19 rfl ?_
    exact ⟨_, rfl, rfl, M, rfl, hR'⟩
  have h1 : 0 ≤ k ∧ k ≤ 1 := by simpa [inB] using h1
  have hkept : M.2.1 1 k = b2i (img A k).isSome := by
    unfold img
    by_cases h0 : k = 0
    · rw [if_pos h0, h0]; exact r4
    · rw [if_neg h0, if_pos (by omega), show k = 1 by omega]; exact r4'
  have hpg : ∀ S, img A k = some S → pgS (M.2.1 0) (980 * (9 + k)) S ∧ ssOk S := by
    intro S hS
    unfold img at hS
    by_cases h0 : k = 0
    · rw [if_pos h0] at hS; rw [h0]; exact ⟨r5 S hS, hO.2.2.1 S hS⟩
    · rw [if_neg h0, if_pos (by omega)] at hS; rw [show k = 1 by omega]; exact ⟨r6 S hS, hO.2.2.2.1 S hS⟩
  have hp0 : ∀ z : Int, cpN (M.2.1 0) (980 * (9 + k)) (980 * 0) 980 z = if 980 * 0 ≤ z ∧ z < 980 * 0 + 980 then M.2.1 0 (z - 980 * 0 + 980 * (9 + k)) else M.2.1 0 z := fun z => cpN_at
  refine gs_ald0 (pc := 9) dX2_back_9 ?_
  refine gs_getf (pc := 10) 2 dX2_back_10 (mcell hA) clX2 in_X2 (by decide) q2228 (Or.inl rfl) rfl ?_
  refine gs_ild1 (pc := 13) dX2_back_13 ?_
  refine gs_zald (pc := 14) dX2_back_14 (ma_isKept hA) (by omega) (by omega) ?_
  rw [hkept]
  cases hi : img A k with
  | none =>
    refine gs_bne (pc := 15) (tgt := 20) dX2_back_15 (by decide) (fun hn => absurd ((rfl : _ = false).symm.trans hn) (by decide)) (fun _ => ?_)
    refine gs_iconst (pc := 18) dX2_back_18 ?_
    refine gs_iret (pc := 19) dX2_back_19 rfl ?_
    exact ⟨_, rfl, rfl, M, rfl, hR'⟩
  | some S =>
    obtain ⟨g1, g2⟩ := hpg S hi
    refine gs_bne (pc := 15) (tgt := 20) dX2_back_15 (by decide) (fun _ => ?_) (fun hn => absurd ((rfl : _ = true).symm.trans hn) (by decide))
    refine gs_ald0 (pc := 20) dX2_back_20 ?_
    refine gs_bipush (pc := 21) dX2_back_21 rfl ?_
    refine gs_ild1 (pc := 23) dX2_back_23 ?_
    refine gs_iadd (pc := 24) dX2_back_24 ?_
    refine gs_iconst (pc := 25) dX2_back_25 ?_
    refine gs_V2v (pc := 26) dX2_back_26 kX2_75 (mcell hA) clX2 (by decide) (Nat.le_of_ble_eq_true rfl) (m_copies (f := 9 + k) (t := 0) hA (by omega) (by omega) (by omega)) (fun hp1 hq => ?_)
    obtain ⟨rfl⟩ := hq
    refine gs_ald0 (pc := 29) dX2_back_29 ?_
    refine gs_iconst (pc := 30) dX2_back_30 ?_
    refine mp_remembered (pc := 31) rfl hA dX2_back_31 ?_
    refine gs_ald0 (pc := 34) dX2_back_34 ?_
    refine gs_getf (pc := 35) 0 dX2_back_35 (mcell hA) clX2 in_X2 (by decide) q2226 (Or.inl rfl) rfl ?_
    refine gs_iconst (pc := 38) dX2_back_38 ?_
    refine gs_iald (pc := 39) dX2_back_39 (ma_page hA) (by omega) (by omega) ?_
    refine gs_iret (pc := 40) dX2_back_40 rfl ?_
    have hs : pgS (cpN (M.2.1 0) (980 * (9 + k)) (980 * 0) 980) 0 S := by
      refine g1.mv g2 (fun z h1 h2 => ?_)
      rw [hp0, if_pos (by omega)]
      exact congrArg _ (by omega)
    refine ⟨_, rfl, congrArg vI hs.1, _, rfl, ?_⟩
    exact ⟨hs, rfl, fun i hi => absurd hi (Nat.not_lt_zero _), ⟨r4, r4'⟩, fun Q hQ => (r5 Q hQ).mv (hO.2.2.1 Q hQ) (fun z h1 h2 => (hp0 _).trans (if_neg (by omega))), fun Q hQ => (r6 Q hQ).mv (hO.2.2.2.1 Q hQ) (fun z h1 h2 => (hp0 _).trans (if_neg (by omega))), r7, r8, r9, r10⟩
end R1
