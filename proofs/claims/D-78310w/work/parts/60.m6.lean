/-! THE MODEL: settings, pins, history. -/
section M6
variable {X : gCx} {hp : gHp} {a : Nat} {M M' : MS} {A : AS}
theorem lnOk_at {S : SS} (hS : ssOk S) {i : Nat} (hi : i < S.1.length) : lnOk (lnA S i) := by
  refine hS.2.1 _ ?_
  unfold lnA
  rw [List.getD_eq_getElem?_getD, List.getElem?_eq_getElem hi]
  exact List.getElem_mem hi
theorem pgL.mv {p p' : Int → Int} {i : Nat} {l : Ln} (hi : i < 20) (hl : lnOk l) (h : ∀ j : Int, 0 ≤ j → j < 701 → p' j = p j) (hs : pgL p 0 i l) : pgL p' 0 i l := by
  obtain ⟨g1, g2, g3, g4⟩ := hs
  have hcl := hl.2.2.1
  exact ⟨by rw [h _ (by omega) (by omega)]; exact g1, by rw [h _ (by omega) (by omega)]; exact g2, by rw [h _ (by omega) (by omega)]; exact g3, fun k hk => by rw [h _ (by omega) (by omega)]; exact g4 k hk⟩
theorem pgR.mv {p p' : Int → Int} {o : Int} {R : Option Rl} (hR : ∀ Q, R = some Q → rlOk Q) (h : ∀ j : Int, 0 ≤ j → j < 23 → p' (o + j) = p (o + j)) (hs : pgR p o R) : pgR p' o R := by
  have hh : p' o = p o := by have := h 0 (by omega) (by omega); rwa [show o + 0 = o by omega] at this
  cases R with
  | none => show p' o = 0; rw [hh]; exact hs
  | some R =>
    obtain ⟨g1, g2, g3, g4, g5, g6, g7⟩ := hs
    have hro := hR R rfl
    refine ⟨by rw [hh]; exact g1, by rw [h _ (by omega) (by omega)]; exact g2, by rw [h _ (by omega) (by omega)]; exact g3, by rw [h _ (by omega) (by omega)]; exact g4, by rw [h _ (by omega) (by omega)]; exact g5, g6.mv hro.2.2.2.2.2.2.1.2.1 (fun i q1 q2 => ?_), fun hq => (g7 hq).mv (hro.2.2.2.2.2.2.2 hq).2.1 (fun i q1 q2 => ?_)⟩
    · rw [show o + 5 + i = o + (5 + i) by omega]; exact h _ (by omega) (by omega)
    · rw [show o + 14 + i = o + (14 + i) by omega]; exact h _ (by omega) (by omega)
/-- the lines stay -/
theorem pgLs.mv {p p' : Int → Int} {S : SS} (hS : ssOk S) (h : ∀ j : Int, 0 ≤ j → j < 701 → p' j = p j) (hs : pgS p 0 S) : p' 0 = S.1.length ∧ ∀ i : Nat, i < S.1.length → pgL p' 0 i (lnA S i) := by
  have hl := hS.1
  exact ⟨by rw [h 0 (by omega) (by omega)]; exact hs.1, fun i hi => (hs.2.1 i hi).mv (by omega) (lnOk_at hS hi) h⟩
/-- the rules stay -/
theorem pgRs.mv {p p' : Int → Int} {S : SS} (hS : ssOk S) (h : ∀ j : Int, 701 ≤ j → j < 977 → p' j = p j) (hs : pgS p 0 S) : ∀ r : Nat, r < 12 → pgR p' (0 + 701 + 23 * r) (S.2.1 r) :=
  fun r hr => (hs.2.2.1 r hr).mv (fun Q hQ => hS.2.2.1 r Q hQ) (fun j h1 h2 => h _ (by omega) (by omega))
theorem m_byteAt {i k : Int} (hA : mok X hp a) (hR : RM M A) (hO : asOk A) (hi : i32 i) (hk : i32 k) : MV X yX2_byteAt fX2_byteAt 3 [vR (some a), vI i, vI k] (mH hp a M) (fun r hp' => r = vI (sp_byteAt A i k) ∧ mH hp a M = hp') := by
  have hcn := hR.cnt hO
  refine MC.of pfX2_byteAt rfl (fun h => by cases h) 0 rfl rfl ?_
  unfold sp_byteAt
  refine gs_ald0 (pc := 0) dX2_byteAt_0 ?_
  refine gs_ild1 (pc := 1) dX2_byteAt_1 ?_
  refine gs_V1 (pc := 2) dX2_byteAt_2 kX2_216 (mcell hA) clX2 (by decide) (Nat.le_of_ble_eq_true rfl) (m_isLine hA hi hcn.2) (fun v hp1 hq => ?_)
  obtain ⟨rfl, rfl⟩ := hq
  refine gs_beq (pc := 5) (tgt := 21) dX2_byteAt_5 (by decide) (fun h1 => ?_) (fun h1 => ?_)
  · rw [isL_inB hR] at h1
    rw [if_neg (by rw [h1]; simp)]
    refine gs_iconst (pc := 21) dX2_byteAt_21 ?_
    refine gs_iret (pc := 22) dX2_byteAt_22 rfl ?_
    exact ⟨_, rfl, rfl, rfl⟩
  · rw [isL_inB hR] at h1
    have hl := isL_ok h1
    have hln := hR.ln hl
    have hok := hO.ln hl
    refine gs_ild2 (pc := 8) dX2_byteAt_8 ?_
    refine gs_if_lt (pc := 9) (tgt := 21) dX2_byteAt_9 (by decide) (by omega) (fun h2 => ?_) (fun h2 => ?_)
    · rw [if_neg (by omega)]
      refine gs_iconst (pc := 21) dX2_byteAt_21 ?_
      refine gs_iret (pc := 22) dX2_byteAt_22 rfl ?_
      exact ⟨_, rfl, rfl, rfl⟩
    · rw [if_pos ⟨h1, by omega⟩]
      have hcl := hok.2.2.1
      refine gs_ald0 (pc := 12) dX2_byteAt_12 ?_
      refine gs_ild1 (pc := 13) dX2_byteAt_13 ?_
      refine gs_ild2 (pc := 14) dX2_byteAt_14 ?_
      refine gs_V2 (pc := 15) dX2_byteAt_15 kX2_83 (mcell hA) clX2 (by decide) (Nat.le_of_ble_eq_true rfl) (m_contentAt hA (by omega) (by omega) (by rw [hln.2.1]; omega)) (fun v hp1 hq => ?_)
      obtain ⟨rfl, rfl⟩ := hq
      refine gs_goto (pc := 18) (tgt := 22) dX2_byteAt_18 (by decide) ?_
      refine gs_iret (pc := 22) dX2_byteAt_22 rfl ?_
      refine ⟨_, rfl, ?_, rfl⟩
      rw [hln.2.1]
      congr 1
      by_cases h3 : k < ((lnA A.1 i.toNat).2.1.length : Int)
      · rw [if_pos h3, hln.2.2.2 k (by omega) h3]
        rw [List.getD_eq_getElem?_getD, List.getD_eq_getElem?_getD, List.getElem?_eq_getElem (by omega)]
        rfl
      · rw [if_neg h3, List.getD_eq_getElem?_getD, List.getElem?_eq_none (by omega)]
        rfl
theorem m_sets {w v : Int} (hA : mok X hp a) (hR : RM M A) (hO : asOk A) (hw : 977 ≤ w ∧ w ≤ 979) : MV X yX2_sets fX2_sets 3 [vR (some a), vI w, vI v] (mH hp a M) (fun r hp' => r = vI (M.2.1 0 w) ∧ ∃ p1 r1, hp' = mH hp a (mA (mP (mW M 0 p1) 1 r1) 0 w v) ∧ (∀ i : Int, 0 ≤ i → i < 980 → p1 i = M.2.1 0 i) ∧ RM (mP (mW M 0 p1) 1 r1) (chg A A.1)) := by
  refine MC.of pfX2_sets rfl (fun h => by cases h) 1 rfl rfl ?_
  refine gs_ald0 (pc := 0) dX2_sets_0 ?_
  refine gs_V0v (pc := 1) dX2_sets_1 kX2_207 (mcell hA) clX2 (by decide) (Nat.le_of_ble_eq_true rfl) (m_begins hA hR hO) (fun hp1 hq => ?_)
  obtain ⟨p1, r1, rfl, z1, z2⟩ := hq
  refine gs_ald0 (pc := 4) dX2_sets_4 ?_
  refine gs_getf (pc := 5) 0 dX2_sets_5 (mcell hA) clX2 in_X2 (by decide) q2226 (Or.inl rfl) rfl ?_
  refine gs_ild1 (pc := 8) dX2_sets_8 ?_
  refine gs_iald (pc := 9) dX2_sets_9 (ma_page hA) (by omega) (by omega) ?_
  refine gs_ist3 (pc := 10) dX2_sets_10 rfl ?_
  refine gs_ald0 (pc := 11) dX2_sets_11 ?_
  refine gs_getf (pc := 12) 0 dX2_sets_12 (mcell hA) clX2 in_X2 (by decide) q2226 (Or.inl rfl) rfl ?_
  refine gs_ild1 (pc := 15) dX2_sets_15 ?_
  refine gs_ild2 (pc := 16) dX2_sets_16 ?_
  refine ms_page (pc := 17) hA dX2_sets_17 (by omega) ?_
  refine gs_ild3 (pc := 18) dX2_sets_18 ?_
  refine gs_iret (pc := 19) dX2_sets_19 rfl ?_
  exact ⟨_, rfl, by rw [← z1 w (by omega) (by omega)]; rfl, p1, r1, rfl, z1, z2⟩
theorem RM.setx {w v : Int} {p1 : Int → Int} {r1 : Int} {S' : SS} (hO : asOk A) (hw : 977 ≤ w ∧ w ≤ 979) (hR : RM (mP (mW M 0 p1) 1 r1) (chg A A.1)) (h1 : S'.1 = A.1.1) (h2 : S'.2.1 = A.1.2.1) (h3 : S'.2.2.1 = if w = 977 then v else A.1.2.2.1) (h4 : S'.2.2.2.1 = if w = 978 then v else A.1.2.2.2.1) (h5 : S'.2.2.2.2 = if w = 979 then v else A.1.2.2.2.2) : RM (mA (mP (mW M 0 p1) 1 r1) 0 w v) (chg A S') := by
  have hO2 : asOk (chg A A.1) := chg_ok hO hO.1
  have hs := hR.1
  have e : (mA (mP (mW M 0 p1) 1 r1) 0 w v).2.1 0 = fup p1 w v := rfl
  have e0 : (mP (mW M 0 p1) 1 r1).2.1 0 = p1 := rfl
  rw [e0] at hs
  refine RM.now (A := chg A A.1) (S' := S') hR hO2 rfl rfl (fun j hj => by rcases hj with rfl | rfl | rfl | rfl <;> rfl) (fun i hi => by rw [e, e0, fup_ne (by omega)]) ?_
  rw [e]
  have q1 := pgLs.mv (p' := fup p1 w v) hO.1 (fun j h1 h2 => fup_ne (by omega)) hs
  have q2 := pgRs.mv (p' := fup p1 w v) hO.1 (fun j h1 h2 => fup_ne (by omega)) hs
  obtain ⟨-, -, -, s1, s2, s3⟩ := hs
  refine ⟨by rw [h1]; exact q1.1, fun i hi => ?_, by rw [h2]; exact q2, ?_, ?_, ?_⟩
  · have : lnA S' i = lnA A.1 i := by unfold lnA; rw [h1]
    rw [this]
    exact q1.2 i (by rw [← h1]; exact hi)
  · rw [h3]
    by_cases hw1 : w = 977
    · rw [if_pos hw1, hw1]; exact fup_eq
    · rw [if_neg hw1, fup_ne (by omega)]; exact s1
  · rw [h4]
    by_cases hw1 : w = 978
    · rw [if_pos hw1, hw1]; exact fup_eq
    · rw [if_neg hw1, fup_ne (by omega)]; exact s2
  · rw [h5]
    by_cases hw1 : w = 979
    · rw [if_pos hw1, hw1]; exact fup_eq
    · rw [if_neg hw1, fup_ne (by omega)]; exact s3
theorem m_setStep {v : Int} (hA : mok X hp a) (hR : RM M A) (hO : asOk A) (hv : i32 v) : MV X yX2_setStep fX2_setStep 4 [vR (some a), vI v] (mH hp a M) (fun r hp' => r = vI (sp_setStep A v).1 ∧ ∃ M', hp' = mH hp a M' ∧ RM M' (sp_setStep A v).2) := by
  refine MC.of pfX2_setStep rfl (fun h => by cases h) 0 rfl rfl ?_
  unfold sp_setStep
  refine gs_ild1 (pc := 0) dX2_setStep_0 ?_
  refine gs_iconst (pc := 1) dX2_setStep_1 ?_
  refine gs_bipush (pc := 2) dX2_setStep_2 rfl ?_
  refine gs_S3 (pc := 4) dX2_setStep_4 kX2_79 (by decide) (Nat.le_of_ble_eq_true rfl) (m_in hv (by decide) (by decide)) (fun v hp1 hq => ?_)
  obtain ⟨rfl, rfl⟩ := hq
  refine gs_beq (pc := 7) (tgt := 21) dX2_setStep_7 (by decide) (fun h1 => ?_) (fun h1 => ?_)
  · have h1 : ¬ (1 ≤ v ∧ v ≤ 8) := by simpa [inB] using h1
    rw [if_neg h1]
    refine gs_iconst (pc := 21) dX2_setStep_21 ?_
    refine gs_iret (pc := 22) dX2_setStep_22 rfl ?_
    exact ⟨_, rfl, rfl, M, rfl, hR⟩
  · have h1 : 1 ≤ v ∧ v ≤ 8 := by simpa [inB] using h1
    rw [if_pos h1]
    refine gs_ald0 (pc := 10) dX2_setStep_10 ?_
    refine gs_sipush (pc := 11) dX2_setStep_11 rfl ?_
    refine gs_ild1 (pc := 14) dX2_setStep_14 ?_
    refine gs_V2 (pc := 15) dX2_setStep_15 kX2_234 (mcell hA) clX2 (by decide) (Nat.le_of_ble_eq_true rfl) (m_sets hA hR hO (by decide)) (fun v hp1 hq => ?_)
    obtain ⟨rfl, p1, r1, rfl, z1, z2⟩ := hq
    refine gs_goto (pc := 18) (tgt := 22) dX2_setStep_18 (by decide) ?_
    refine gs_iret (pc := 22) dX2_setStep_22 rfl ?_
    exact ⟨_, rfl, by rw [← hR.1.2.2.2.1]; rfl, _, rfl, RM.setx hO (by decide) z2 rfl rfl rfl rfl rfl⟩
theorem m_setBase {v : Int} (hA : mok X hp a) (hR : RM M A) (hO : asOk A) (hv : i32 v) : MV X yX2_setBase fX2_setBase 4 [vR (some a), vI v] (mH hp a M) (fun r hp' => r = vI (sp_setBase A v).1 ∧ ∃ M', hp' = mH hp a M' ∧ RM M' (sp_setBase A v).2) := by
  refine MC.of pfX2_setBase rfl (fun h => by cases h) 0 rfl rfl ?_
  unfold sp_setBase
  refine gs_ild1 (pc := 0) dX2_setBase_0 ?_
  refine gs_iconst (pc := 1) dX2_setBase_1 ?_
  refine gs_bipush (pc := 2) dX2_setBase_2 rfl ?_
  refine gs_S3 (pc := 4) dX2_setBase_4 kX2_79 (by decide) (Nat.le_of_ble_eq_true rfl) (m_in hv (by decide) (by decide)) (fun v hp1 hq => ?_)
  obtain ⟨rfl, rfl⟩ := hq
  refine gs_beq (pc := 7) (tgt := 21) dX2_setBase_7 (by decide) (fun h1 => ?_) (fun h1 => ?_)
  · have h1 : ¬ (0 ≤ v ∧ v ≤ 20) := by simpa [inB] using h1
    rw [if_neg h1]
    refine gs_iconst (pc := 21) dX2_setBase_21 ?_
    refine gs_iret (pc := 22) dX2_setBase_22 rfl ?_
    exact ⟨_, rfl, rfl, M, rfl, hR⟩
  · have h1 : 0 ≤ v ∧ v ≤ 20 := by simpa [inB] using h1
    rw [if_pos h1]
    refine gs_ald0 (pc := 10) dX2_setBase_10 ?_
    refine gs_sipush (pc := 11) dX2_setBase_11 rfl ?_
    refine gs_ild1 (pc := 14) dX2_setBase_14 ?_
    refine gs_V2 (pc := 15) dX2_setBase_15 kX2_234 (mcell hA) clX2 (by decide) (Nat.le_of_ble_eq_true rfl) (m_sets hA hR hO (by decide)) (fun v hp1 hq => ?_)
    obtain ⟨rfl, p1, r1, rfl, z1, z2⟩ := hq
    refine gs_goto (pc := 18) (tgt := 22) dX2_setBase_18 (by decide) ?_
    refine gs_iret (pc := 22) dX2_setBase_22 rfl ?_
    exact ⟨_, rfl, by rw [← hR.1.2.2.2.2.1]; rfl, _, rfl, RM.setx hO (by decide) z2 rfl rfl rfl rfl rfl⟩
theorem m_setComment {c : Int} (hA : mok X hp a) (hR : RM M A) (hO : asOk A) (hc : i32 c) : MV X yX2_setComment fX2_setComment 4 [vR (some a), vI c] (mH hp a M) (fun r hp' => r = vI (sp_setComment A c).1 ∧ ∃ M', hp' = mH hp a M' ∧ RM M' (sp_setComment A c).2) := by
  refine MC.of pfX2_setComment rfl (fun h => by cases h) 0 rfl rfl ?_
  have kY : cmOk c = true → G X fX2_setComment 4 28 [some (vR (some a)), some (vI c)] [] (mH hp a M) (fun r hp' => ∃ v, r = some v ∧ v = vI (sp_setComment A c).1 ∧ ∃ M', hp' = mH hp a M' ∧ RM M' (sp_setComment A c).2) := by
    intro h1
    unfold sp_setComment
    rw [if_pos h1]
    refine gs_ald0 (pc := 28) dX2_setComment_28 ?_
    refine gs_sipush (pc := 29) dX2_setComment_29 rfl ?_
    refine gs_ild1 (pc := 32) dX2_setComment_32 ?_
    refine gs_V2 (pc := 33) dX2_setComment_33 kX2_234 (mcell hA) clX2 (by decide) (Nat.le_of_ble_eq_true rfl) (m_sets hA hR hO (by decide)) (fun v hp1 hq => ?_)
    obtain ⟨rfl, p1, r1, rfl, z1, z2⟩ := hq
    refine gs_goto (pc := 36) (tgt := 40) dX2_setComment_36 (by decide) ?_
    refine gs_iret (pc := 40) dX2_setComment_40 rfl ?_
    exact ⟨_, rfl, by rw [← hR.1.2.2.2.2.2]; rfl, _, rfl, RM.setx hO (by decide) z2 rfl rfl rfl rfl rfl⟩
  have kN : cmOk c = false → G X fX2_setComment 4 39 [some (vR (some a)), some (vI c)] [] (mH hp a M) (fun r hp' => ∃ v, r = some v ∧ v = vI (sp_setComment A c).1 ∧ ∃ M', hp' = mH hp a M' ∧ RM M' (sp_setComment A c).2) := by
    intro h1
    unfold sp_setComment
    rw [if_neg (by rw [h1]; simp)]
    refine gs_iconst (pc := 39) dX2_setComment_39 ?_
    refine gs_iret (pc := 40) dX2_setComment_40 rfl ?_
    exact ⟨_, rfl, rfl, M, rfl, hR⟩
  refine gs_ild1 (pc := 0) dX2_setComment_0 ?_
  refine gs_if_eq (pc := 1) (tgt := 28) dX2_setComment_1 (by decide) (by omega) (fun h0 => ?_) (fun h0 => ?_)
  · exact kY (by simp [cmOk, h0])
  · refine gs_ild1 (pc := 4) dX2_setComment_4 ?_
    refine gs_bipush (pc := 5) dX2_setComment_5 rfl ?_
    refine gs_bipush (pc := 7) dX2_setComment_7 rfl ?_
    refine gs_S3 (pc := 9) dX2_setComment_9 kX2_79 (by decide) (Nat.le_of_ble_eq_true rfl) (m_in hc (by decide) (by decide)) (fun v hp1 hq => ?_)
    obtain ⟨rfl, rfl⟩ := hq
    refine gs_beq (pc := 12) (tgt := 39) dX2_setComment_12 (by decide) (fun h1 => ?_) (fun h1 => ?_)
    · exact kN (by simp [cmOk, h0, h1])
    · refine gs_ild1 (pc := 15) dX2_setComment_15 ?_
      refine gs_bipush (pc := 16) dX2_setComment_16 rfl ?_
      refine gs_ic_eq (pc := 18) (tgt := 39) dX2_setComment_18 (by decide) (by omega) (fun h2 => ?_) (fun h2 => ?_)
      · exact kN (by simp [cmOk, h0, h2])
      · refine gs_ild1 (pc := 21) dX2_setComment_21 ?_
        refine gs_S1 (pc := 22) dX2_setComment_22 kX2_94 (by decide) (Nat.le_of_ble_eq_true rfl) (m_isWord hc) (fun v hp1 hq => ?_)
        obtain ⟨rfl, rfl⟩ := hq
        refine gs_bne (pc := 25) (tgt := 39) dX2_setComment_25 (by decide) (fun h3 => ?_) (fun h3 => ?_)
        · exact kN (by simp [cmOk, h0, h3])
        · exact kY (by simp [cmOk, h0, h1, h2, h3])
end M6
