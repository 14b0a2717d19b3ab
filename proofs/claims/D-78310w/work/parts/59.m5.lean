/-! THE MODEL: the small calls. -/
section M5
variable {X : gCx} {hp : gHp} {a : Nat} {M M' : MS} {A : AS}
/-- only the present state is changed -/
theorem RM.now {S' : SS} (h : RM M A) (hO : asOk A) (h1 : M'.1 1 = M.1 1) (h4 : M'.1 4 = M.1 4) (ha : ∀ j, j = 1 ∨ j = 2 ∨ j = 18 ∨ j = 19 → M'.2.1 j = M.2.1 j) (hp : ∀ i : Int, 980 ≤ i → M'.2.1 0 i = M.2.1 0 i) (hs : pgS (M'.2.1 0) 0 S') : RM M' (S', A.2) := by
  obtain ⟨r1, r2, r3, r4, r5, r6, r7, r8, r9, r10⟩ := h
  obtain ⟨o1, ⟨o2, o2b⟩, o3, o4, -⟩ := hO
  refine ⟨hs, h1.trans r2, fun i hi => ?_, by rw [ha 1 (by omega)]; exact r4, fun S hS => ?_, fun S hS => ?_, h4.trans r7, by rw [ha 2 (by omega)]; exact r8, by rw [ha 18 (by omega)]; exact r9, by rw [ha 19 (by omega)]; exact r10⟩
  · refine (r3 i hi).mv (o2b _ ?_) (fun j h1 h2 => hp _ (by omega))
    have hi : i < A.2.1.length := hi
    show A.2.1.getD i ssD ∈ A.2.1
    rw [List.getD_eq_getElem?_getD, List.getElem?_eq_getElem hi]
    exact List.getElem_mem hi
  · exact (r5 S hS).mv (o3 S hS) (fun j h1 h2 => hp _ (by omega))
  · exact (r6 S hS).mv (o4 S hS) (fun j h1 h2 => hp _ (by omega))
theorem chg_ok {S' : SS} (hO : asOk A) (hS : ssOk S') : asOk (chg A S') := by
  obtain ⟨o1, ⟨o2, o2b⟩, o3, o4, o5⟩ := hO
  refine ⟨hS, ⟨?_, fun S h => ?_⟩, o3, o4, o5⟩
  · show ((if A.2.1.length = 8 then A.2.1.drop 1 else A.2.1) ++ [A.1]).length ≤ 8
    rw [List.length_append, List.length_singleton]
    by_cases h : A.2.1.length = 8
    · rw [if_pos h, List.length_drop]; omega
    · rw [if_neg h]; omega
  · have h : S ∈ (if A.2.1.length = 8 then A.2.1.drop 1 else A.2.1) ++ [A.1] := h
    rcases List.mem_append.mp h with h | h
    · by_cases h8 : A.2.1.length = 8
      · rw [if_pos h8] at h; exact o2b _ (List.mem_of_mem_drop h)
      · rw [if_neg h8] at h; exact o2b _ h
    · rw [List.mem_singleton.mp h]; exact o1
theorem RM.cnt (h : RM M A) (hO : asOk A) : M.2.1 0 0 = A.1.1.length ∧ 0 ≤ M.2.1 0 0 ∧ M.2.1 0 0 ≤ 20 := by
  have h1 := h.1.1
  have h2 := hO.1.1
  omega
theorem m_lines (hA : mok X hp a) (hR : RM M A) : MV X yX2_lines fX2_lines 1 [vR (some a)] (mH hp a M) (fun r hp' => r = vI (sp_lines A) ∧ mH hp a M = hp') := by
  refine MC.of pfX2_lines rfl (fun h => by cases h) 0 rfl rfl ?_
  refine gs_ald0 (pc := 0) dX2_lines_0 ?_
  refine gs_getf (pc := 1) 0 dX2_lines_1 (mcell hA) clX2 in_X2 (by decide) q2226 (Or.inl rfl) rfl ?_
  refine gs_iconst (pc := 4) dX2_lines_4 ?_
  refine gs_iald (pc := 5) dX2_lines_5 (ma_page hA) (by omega) (by omega) ?_
  refine gs_iret (pc := 6) dX2_lines_6 rfl ?_
  exact ⟨_, rfl, by rw [hR.1.1]; rfl, rfl⟩
theorem m_clear (hA : mok X hp a) (hR : RM M A) : MV X yX2_clear fX2_clear 1 [vR (some a)] (mH hp a M) (fun r hp' => r = vI (sp_clear A).1 ∧ ∃ M', hp' = mH hp a M' ∧ RM M' (sp_clear A).2) := by
  obtain ⟨r1, r2, r3, r4, r5, r6, r7, r8, r9, r10⟩ := hR
  refine MC.of pfX2_clear rfl (fun h => by cases h) 1 rfl rfl ?_
  refine gs_ald0 (pc := 0) dX2_clear_0 ?_
  refine gs_getf (pc := 1) 4 dX2_clear_1 (mcell hA) clX2 in_X2 (by decide) q2230 (Or.inl rfl) rfl ?_
  refine gs_ist1 (pc := 4) dX2_clear_4 rfl ?_
  refine gs_ald0 (pc := 5) dX2_clear_5 ?_
  refine gs_iconst (pc := 6) dX2_clear_6 ?_
  refine mp_typed (pc := 7) rfl hA dX2_clear_7 ?_
  refine gs_ild1 (pc := 10) dX2_clear_10 ?_
  refine gs_iret (pc := 11) dX2_clear_11 rfl ?_
  exact ⟨_, rfl, by rw [r7]; rfl, _, rfl, r1, r2, r3, r4, r5, r6, rfl, fun k hk => absurd hk (by simp [sp_clear]), r9, r10⟩
theorem m_type {c : Int} (hA : mok X hp a) (hR : RM M A) (hO : asOk A) (hc : i32 c) : MV X yX2_type fX2_type 2 [vR (some a), vI c] (mH hp a M) (fun r hp' => r = vI (sp_type A c).1 ∧ ∃ M', hp' = mH hp a M' ∧ RM M' (sp_type A c).2) := by
  have hR' := hR
  obtain ⟨r1, r2, r3, r4, r5, r6, r7, r8, r9, r10⟩ := hR
  have hl := hO.2.2.2.2.1
  refine MC.of pfX2_type rfl (fun h => by cases h) 0 rfl rfl ?_
  unfold sp_type
  refine gs_ild1 (pc := 0) dX2_type_0 ?_
  refine gs_bipush (pc := 1) dX2_type_1 rfl ?_
  refine gs_bipush (pc := 3) dX2_type_3 rfl ?_
  refine gs_S3 (pc := 5) dX2_type_5 kX2_79 (by decide) (Nat.le_of_ble_eq_true rfl) (m_in hc (by decide) (by decide)) (fun v hp1 hq => ?_)
  obtain ⟨rfl, rfl⟩ := hq
  refine gs_bne (pc := 8) (tgt := 13) dX2_type_8 (by decide) (fun h1 => ?_) (fun h1 => ?_)
  · have h1 : 32 ≤ c ∧ c ≤ 126 := by simpa [inB] using h1
    rw [if_pos h1]
    refine gs_ald0 (pc := 13) dX2_type_13 ?_
    refine gs_getf (pc := 14) 4 dX2_type_14 (mcell hA) clX2 in_X2 (by decide) q2230 (Or.inl rfl) rfl ?_
    refine gs_bipush (pc := 17) dX2_type_17 rfl ?_
    refine gs_ic_ne (pc := 19) (tgt := 25) dX2_type_19 (by decide) (by omega) (fun h2 => ?_) (fun h2 => ?_)
    · rw [if_neg (by omega)]
      refine gs_ald0 (pc := 25) dX2_type_25 ?_
      refine gs_getf (pc := 26) 3 dX2_type_26 (mcell hA) clX2 in_X2 (by decide) q2229 (Or.inl rfl) rfl ?_
      refine gs_ald0 (pc := 29) dX2_type_29 ?_
      refine gs_getf (pc := 30) 4 dX2_type_30 (mcell hA) clX2 in_X2 (by decide) q2230 (Or.inl rfl) rfl ?_
      refine gs_ild1 (pc := 33) dX2_type_33 ?_
      refine ms_text (pc := 34) hA dX2_type_34 (by omega) ?_
      refine gs_ald0 (pc := 35) dX2_type_35 ?_
      refine gs_dup (pc := 36) dX2_type_36 rfl ?_
      refine gs_getf (pc := 37) 4 dX2_type_37 (mcell hA) clX2 in_X2 (by decide) q2230 (Or.inl rfl) rfl ?_
      refine gs_iconst (pc := 40) dX2_type_40 ?_
      refine gs_iadd (pc := 41) dX2_type_41 ?_
      refine mp_typed (pc := 42) rfl hA dX2_type_42 ?_
      refine gs_ald0 (pc := 45) dX2_type_45 ?_
      refine gs_getf (pc := 46) 4 dX2_type_46 (mcell hA) clX2 in_X2 (by decide) q2230 (Or.inl rfl) rfl ?_
      refine gs_iret (pc := 49) dX2_type_49 rfl ?_
      refine ⟨_, rfl, by show vI (M.1 4 + 1) = _; rw [r7], _, rfl, r1, r2, r3, r4, r5, r6, ?_, fun k hk => ?_, r9, r10⟩
      · show M.1 4 + 1 = (((A.2.2.2.2 ++ [c]).length : Nat) : Int)
        rw [List.length_append, List.length_singleton, r7]; rfl
      · show fup (M.2.1 2) (M.1 4) c (k : Int) = (A.2.2.2.2 ++ [c]).getD k 0
        have hk : k < (A.2.2.2.2 ++ [c]).length := hk
        rw [List.length_append, List.length_singleton] at hk
        rw [List.getD_eq_getElem?_getD]
        by_cases hkl : k < A.2.2.2.2.length
        · rw [fup_ne (by omega), List.getElem?_append_left hkl, ← List.getD_eq_getElem?_getD]
          exact r8 k hkl
        · obtain rfl : k = A.2.2.2.2.length := by omega
          rw [← r7, fup_eq, List.getElem?_append_right (Nat.le_refl _), Nat.sub_self]
          rfl
    · rw [if_pos (by omega)]
      refine gs_bipush (pc := 22) dX2_type_22 rfl ?_
      refine gs_iret (pc := 24) dX2_type_24 rfl ?_
      exact ⟨_, rfl, rfl, M, rfl, hR'⟩
  · have h1 : ¬ (32 ≤ c ∧ c ≤ 126) := by simpa [inB] using h1
    rw [if_neg h1]
    refine gs_iconst (pc := 11) dX2_type_11 ?_
    refine gs_iret (pc := 12) dX2_type_12 rfl ?_
    exact ⟨_, rfl, rfl, M, rfl, hR'⟩
theorem isL_inB {i : Int} (h : RM M A) : inB i 0 (M.2.1 0 0 - 1) = isL A i := by
  have h1 := h.1.1
  unfold inB isL
  rw [h1]
  congr 1
  apply propext
  constructor <;> intro h <;> omega
theorem isL_ok {i : Int} (h : isL A i = true) : 0 ≤ i ∧ i < A.1.1.length := by simpa [isL] using h
theorem RM.ln {i : Int} (h : RM M A) (hi : 0 ≤ i ∧ i < A.1.1.length) : M.2.1 0 (1 + i) = (lnA A.1 i.toNat).1 ∧ M.2.1 0 (21 + i) = (lnA A.1 i.toNat).2.1.length ∧ M.2.1 0 (41 + i) = b2i (lnA A.1 i.toNat).2.2 ∧ ∀ k : Int, 0 ≤ k → k < (lnA A.1 i.toNat).2.1.length → M.2.1 0 (61 + 32 * i + k) = (lnA A.1 i.toNat).2.1.getD k.toNat 0 := by
  obtain ⟨n, rfl⟩ : ∃ n : Nat, i = (n : Int) := ⟨i.toNat, by omega⟩
  obtain ⟨g1, g2, g3, g4⟩ := h.1.2.1 n (by omega)
  rw [Int.toNat_natCast]
  refine ⟨?_, ?_, ?_, fun k h1 h2 => ?_⟩
  · rw [← g1, show (0 : Int) + 1 + n = 1 + n by omega]
  · rw [← g2, show (0 : Int) + 21 + n = 21 + n by omega]
  · rw [← g3, show (0 : Int) + 41 + n = 41 + n by omega]
  · rw [← g4 k.toNat (by omega), show (0 : Int) + 61 + 32 * n + (k.toNat : Int) = 61 + 32 * n + k by omega]
theorem asOk.ln {i : Int} (hO : asOk A) (hi : 0 ≤ i ∧ i < A.1.1.length) : lnOk (lnA A.1 i.toNat) := by
  refine hO.1.2.1 _ ?_
  unfold lnA
  rw [List.getD_eq_getElem?_getD, List.getElem?_eq_getElem (by omega)]
  exact List.getElem_mem _
theorem m_indentation {i : Int} (hA : mok X hp a) (hR : RM M A) (hO : asOk A) (hi : i32 i) : MV X yX2_indentation fX2_indentation 3 [vR (some a), vI i] (mH hp a M) (fun r hp' => r = vI (sp_indentation A i) ∧ mH hp a M = hp') := by
  have hcn := hR.cnt hO
  refine MC.of pfX2_indentation rfl (fun h => by cases h) 0 rfl rfl ?_
  unfold sp_indentation
  refine gs_ald0 (pc := 0) dX2_indentation_0 ?_
  refine gs_ild1 (pc := 1) dX2_indentation_1 ?_
  refine gs_V1 (pc := 2) dX2_indentation_2 kX2_216 (mcell hA) clX2 (by decide) (Nat.le_of_ble_eq_true rfl) (m_isLine hA hi hcn.2) (fun v hp1 hq => ?_)
  obtain ⟨rfl, rfl⟩ := hq
  refine gs_beq (pc := 5) (tgt := 19) dX2_indentation_5 (by decide) (fun h1 => ?_) (fun h1 => ?_)
  · rw [isL_inB hR] at h1
    rw [h1]
    refine gs_iconst (pc := 19) dX2_indentation_19 ?_
    refine gs_iret (pc := 20) dX2_indentation_20 rfl ?_
    exact ⟨_, rfl, rfl, rfl⟩
  · rw [isL_inB hR] at h1
    have hl := isL_ok h1
    rw [h1]
    refine gs_ald0 (pc := 8) dX2_indentation_8 ?_
    refine gs_getf (pc := 9) 0 dX2_indentation_9 (mcell hA) clX2 in_X2 (by decide) q2226 (Or.inl rfl) rfl ?_
    refine gs_iconst (pc := 12) dX2_indentation_12 ?_
    refine gs_ild1 (pc := 13) dX2_indentation_13 ?_
    refine gs_iadd (pc := 14) dX2_indentation_14 ?_
    refine gs_iald (pc := 15) dX2_indentation_15 (ma_page hA) (by omega) (by omega) ?_
    refine gs_goto (pc := 16) (tgt := 20) dX2_indentation_16 (by decide) ?_
    refine gs_iret (pc := 20) dX2_indentation_20 rfl ?_
    exact ⟨_, rfl, by rw [(hR.ln hl).1]; rfl, rfl⟩
theorem m_length {i : Int} (hA : mok X hp a) (hR : RM M A) (hO : asOk A) (hi : i32 i) : MV X yX2_length fX2_length 3 [vR (some a), vI i] (mH hp a M) (fun r hp' => r = vI (sp_length A i) ∧ mH hp a M = hp') := by
  have hcn := hR.cnt hO
  refine MC.of pfX2_length rfl (fun h => by cases h) 0 rfl rfl ?_
  unfold sp_length
  refine gs_ald0 (pc := 0) dX2_length_0 ?_
  refine gs_ild1 (pc := 1) dX2_length_1 ?_
  refine gs_V1 (pc := 2) dX2_length_2 kX2_216 (mcell hA) clX2 (by decide) (Nat.le_of_ble_eq_true rfl) (m_isLine hA hi hcn.2) (fun v hp1 hq => ?_)
  obtain ⟨rfl, rfl⟩ := hq
  refine gs_beq (pc := 5) (tgt := 20) dX2_length_5 (by decide) (fun h1 => ?_) (fun h1 => ?_)
  · rw [isL_inB hR] at h1
    rw [h1]
    refine gs_iconst (pc := 20) dX2_length_20 ?_
    refine gs_iret (pc := 21) dX2_length_21 rfl ?_
    exact ⟨_, rfl, rfl, rfl⟩
  · rw [isL_inB hR] at h1
    have hl := isL_ok h1
    rw [h1]
    refine gs_ald0 (pc := 8) dX2_length_8 ?_
    refine gs_getf (pc := 9) 0 dX2_length_9 (mcell hA) clX2 in_X2 (by decide) q2226 (Or.inl rfl) rfl ?_
    refine gs_bipush (pc := 12) dX2_length_12 rfl ?_
    refine gs_ild1 (pc := 14) dX2_length_14 ?_
    refine gs_iadd (pc := 15) dX2_length_15 ?_
    refine gs_iald (pc := 16) dX2_length_16 (ma_page hA) (by omega) (by omega) ?_
    refine gs_goto (pc := 17) (tgt := 21) dX2_length_17 (by decide) ?_
    refine gs_iret (pc := 21) dX2_length_21 rfl ?_
    exact ⟨_, rfl, by rw [(hR.ln hl).2.1]; rfl, rfl⟩
theorem m_isPinned {i : Int} (hA : mok X hp a) (hR : RM M A) (hO : asOk A) (hi : i32 i) : MV X yX2_isPinned fX2_isPinned 3 [vR (some a), vI i] (mH hp a M) (fun r hp' => r = vI (sp_isPinned A i) ∧ mH hp a M = hp') := by
  have hcn := hR.cnt hO
  refine MC.of pfX2_isPinned rfl (fun h => by cases h) 0 rfl rfl ?_
  unfold sp_isPinned
  refine gs_ald0 (pc := 0) dX2_isPinned_0 ?_
  refine gs_ild1 (pc := 1) dX2_isPinned_1 ?_
  refine gs_V1 (pc := 2) dX2_isPinned_2 kX2_216 (mcell hA) clX2 (by decide) (Nat.le_of_ble_eq_true rfl) (m_isLine hA hi hcn.2) (fun v hp1 hq => ?_)
  obtain ⟨rfl, rfl⟩ := hq
  refine gs_beq (pc := 5) (tgt := 20) dX2_isPinned_5 (by decide) (fun h1 => ?_) (fun h1 => ?_)
  · rw [isL_inB hR] at h1
    rw [h1]
    refine gs_iconst (pc := 20) dX2_isPinned_20 ?_
    refine gs_iret (pc := 21) dX2_isPinned_21 rfl ?_
    exact ⟨_, rfl, rfl, rfl⟩
  · rw [isL_inB hR] at h1
    have hl := isL_ok h1
    rw [h1]
    refine gs_ald0 (pc := 8) dX2_isPinned_8 ?_
    refine gs_getf (pc := 9) 0 dX2_isPinned_9 (mcell hA) clX2 in_X2 (by decide) q2226 (Or.inl rfl) rfl ?_
    refine gs_bipush (pc := 12) dX2_isPinned_12 rfl ?_
    refine gs_ild1 (pc := 14) dX2_isPinned_14 ?_
    refine gs_iadd (pc := 15) dX2_isPinned_15 ?_
    refine gs_iald (pc := 16) dX2_isPinned_16 (ma_page hA) (by omega) (by omega) ?_
    refine gs_goto (pc := 17) (tgt := 21) dX2_isPinned_17 (by decide) ?_
    refine gs_iret (pc := 21) dX2_isPinned_21 rfl ?_
    exact ⟨_, rfl, by rw [(hR.ln hl).2.2.1]; rfl, rfl⟩
end M5
