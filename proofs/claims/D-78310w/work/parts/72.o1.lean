/-! THE MODEL: calls that tell. -/
section O1
variable {X : gCx} {hp : gHp} {a : Nat} {M M' : MS} {A : AS} {S : SS} {t n k m lo : Nat} {stp bse : Int}
/-- what is held between calls is the same -/
def kp (M M' : MS) : Prop := M'.1 1 = M.1 1 ∧ M'.1 4 = M.1 4 ∧ ∀ j, j < 3 ∨ 17 < j → M'.2.1 j = M.2.1 j
theorem kp.refl : kp M M := ⟨rfl, rfl, fun _ _ => rfl⟩
theorem kp.trans {M'' : MS} (h : kp M M') (h' : kp M' M'') : kp M M'' := ⟨h'.1.trans h.1, h'.2.1.trans h.2.1, fun j hj => (h'.2.2 j hj).trans (h.2.2 j hj)⟩
theorem usF.kp (h : usF M M') : kp M M' := ⟨h.1 1 (by decide), h.1 4 (by decide), fun j hj => h.2.1 j (by omega)⟩
theorem loF.kp (h : loF M M') : kp M M' := h.us.kp
theorem stF.kp (h : stF M M') : kp M M' := ⟨h.1 1 (by decide), h.1 4 (by decide), fun j hj => h.2.1 j (by omega)⟩
theorem decF.kp (h : decF M M') : kp M M' := h.st.kp
theorem tkz_kp : kp M (tkz S.2.2.2.2 0 false S.1 (mP M 12 0)) := by
  have hz := (tkz_spec (cm := S.2.2.2.2) S.1 0 false (mP M 12 0)).1
  exact ⟨(hz.1 1 (by decide)).trans rfl, (hz.1 4 (by decide)).trans rfl, fun j hj => hz.2.1 j (by omega)⟩
theorem kp.PG (h : kp M M') (hP : PG M S) : PG M' S := hP.mv (h.2.2 0 (by omega))
theorem RM.kp (h : RM M A) (hk : kp M M') : RM M' A := by
  obtain ⟨r1, r2, r3, r4, r5, r6, r7, r8, r9, r10⟩ := h
  obtain ⟨k1, k4, ka⟩ := hk
  unfold RM
  rw [ka 0 (by omega), ka 1 (by omega), ka 2 (by omega), ka 18 (by omega), ka 19 (by omega), k1, k4]
  exact ⟨r1, r2, r3, r4, r5, r6, r7, r8, r9, r10⟩
theorem PG.sb (h : PG M S) : M.2.1 0 977 = S.2.2.1 ∧ M.2.1 0 978 = S.2.2.2.1 ∧ (1 ≤ S.2.2.1 ∧ S.2.2.1 ≤ 8) ∧ 0 ≤ S.2.2.2.1 ∧ S.2.2.2.1 ≤ 20 := ⟨h.1.2.2.2.1, h.1.2.2.2.2.1, h.2.2.2.2.1, h.2.2.2.2.2.1⟩
theorem RM.PG (h : RM M A) (hO : asOk A) : PG M A.1 := ⟨h.1, hO.1⟩
/-- the end of a call that only tells -/
abbrev roP (hp : gHp) (a : Nat) (A : AS) (z : Int) : AV → gHp → Prop := fun v hp' => v = vI z ∧ ∃ M', hp' = mH hp a M' ∧ RM M' A
theorem isL_nat {i : Int} (h : isL A i = true) : ∃ n : Nat, i = (n : Int) ∧ n < nL A.1 := by
  have := isL_ok h
  exact ⟨i.toNat, by omega, by show i.toNat < A.1.1.length; omega⟩
theorem m_isDecided (hA : mok X hp a) (hP : PG M S) (hi : n < nL S) : MV X yX2_isDecided fX2_isDecided 8 [vR (some a), vI (n : Int)] (mH hp a M) (fun v hp' => v = vI (b2i (freL S n)) ∧ ∃ M', hp' = mH hp a M' ∧ kp M M' ∧ (freL S n = true → M'.1 24 = (dcS S S.2.2.1 S.2.2.2.1 n).1 ∧ M'.1 25 = (dcS S S.2.2.1 S.2.2.2.1 n).2.1 ∧ M'.1 26 = (dcS S S.2.2.1 S.2.2.2.1 n).2.2)) := by
  refine MC.of pfX2_isDecided rfl (fun h => by cases h) 1 rfl rfl ?_
  obtain ⟨s1, s2, s3, s4⟩ := hP.sb
  refine gs_ald0 (pc := 0) dX2_isDecided_0 ?_
  refine gs_ald0 (pc := 1) dX2_isDecided_1 ?_
  refine gs_getf (pc := 2) 0 dX2_isDecided_2 (mcell hA) clX2 in_X2 (by decide) q2226 (Or.inl rfl) rfl ?_
  refine gs_sipush (pc := 5) dX2_isDecided_5 rfl ?_
  refine gs_iald (pc := 8) dX2_isDecided_8 (ma_page hA) (by omega) (by omega) ?_
  refine gs_ald0 (pc := 9) dX2_isDecided_9 ?_
  refine gs_getf (pc := 10) 0 dX2_isDecided_10 (mcell hA) clX2 in_X2 (by decide) q2226 (Or.inl rfl) rfl ?_
  refine gs_sipush (pc := 13) dX2_isDecided_13 rfl ?_
  refine gs_iald (pc := 16) dX2_isDecided_16 (ma_page hA) (by omega) (by omega) ?_
  rw [s1, s2]
  refine gs_V2v (pc := 17) dX2_isDecided_17 kX2_222 (mcell hA) clX2 (by decide) (Nat.le_of_ble_eq_true rfl) (m_uses hA hP s3 s4) (fun hp1 hq => ?_)
  obtain ⟨M1, rfl, f1, hU⟩ := hq
  refine gs_ald0 (pc := 20) dX2_isDecided_20 ?_
  refine gs_ild1 (pc := 21) dX2_isDecided_21 ?_
  refine gs_V1 (pc := 22) dX2_isDecided_22 kX2_185 (mcell hA) clX2 (by decide) (Nat.le_of_ble_eq_true rfl) (m_isFree hA hU.1 hU.2.1.1 hi) (fun v hp1 hq => ?_)
  obtain ⟨rfl, rfl⟩ := hq
  refine gs_ist2 (pc := 25) dX2_isDecided_25 rfl ?_
  refine gs_ild2 (pc := 26) dX2_isDecided_26 ?_
  refine gs_beq (pc := 27) (tgt := 35) dX2_isDecided_27 (by decide) (fun hf => ?_) (fun hf => ?_)
  · refine gs_ild2 (pc := 35) dX2_isDecided_35 ?_
    refine gs_zret (pc := 36) .boolean dX2_isDecided_36 rfl (zb _) ?_
    exact ⟨_, rfl, rfl, M1, rfl, f1.kp, fun h => by rw [hf] at h; cases h⟩
  · refine gs_ald0 (pc := 30) dX2_isDecided_30 ?_
    refine gs_ild1 (pc := 31) dX2_isDecided_31 ?_
    refine gs_V1v (pc := 32) dX2_isDecided_32 kX2_188 (mcell hA) clX2 (by decide) (Nat.le_of_ble_eq_true rfl) (m_decides hA hU hi) (fun hp1 hq => ?_)
    obtain ⟨M2, rfl, d1, d2, d3, d4⟩ := hq
    refine gs_ild2 (pc := 35) dX2_isDecided_35 ?_
    refine gs_zret (pc := 36) .boolean dX2_isDecided_36 rfl (zb _) ?_
    exact ⟨_, rfl, rfl, M2, rfl, f1.kp.trans d1.kp, fun _ => ⟨d2, d3, d4⟩⟩
theorem m_wanted {i : Int} (hA : mok X hp a) (hR : RM M A) (hO : asOk A) (hi : i32 i) : MV X yX2_wanted fX2_wanted 9 [vR (some a), vI i] (mH hp a M) (roP hp a A (sp_dec A (fun d => d.1) i)) := by
  refine MC.of pfX2_wanted rfl (fun h => by cases h) 0 rfl rfl ?_
  unfold sp_dec
  refine gs_ald0 (pc := 0) dX2_wanted_0 ?_
  refine gs_ild1 (pc := 1) dX2_wanted_1 ?_
  refine gs_V1 (pc := 2) dX2_wanted_2 kX2_216 (mcell hA) clX2 (by decide) (Nat.le_of_ble_eq_true rfl) (m_isLine hA hi (hR.cnt hO).2) (fun v hp1 hq => ?_)
  obtain ⟨rfl, rfl⟩ := hq
  refine gs_bne (pc := 5) (tgt := 10) dX2_wanted_5 (by decide) (fun h1 => ?_) (fun h1 => ?_)
  · rw [isL_inB hR] at h1
    rw [if_pos h1]
    obtain ⟨n, rfl, hn⟩ := isL_nat h1
    rw [Int.toNat_natCast]
    refine gs_ald0 (pc := 10) dX2_wanted_10 ?_
    refine gs_ild1 (pc := 11) dX2_wanted_11 ?_
    refine gs_V1 (pc := 12) dX2_wanted_12 kX2_259 (mcell hA) clX2 (by decide) (Nat.le_of_ble_eq_true rfl) (m_isDecided hA (hR.PG hO) hn) (fun v hp1 hq => ?_)
    obtain ⟨rfl, M1, rfl, k1, k2⟩ := hq
    refine gs_beq (pc := 15) (tgt := 25) dX2_wanted_15 (by decide) (fun h2 => ?_) (fun h2 => ?_)
    · rw [if_neg (by rw [h2]; decide)]
      refine gs_bipush (pc := 25) dX2_wanted_25 rfl ?_
      refine gs_iret (pc := 27) dX2_wanted_27 rfl ?_
      exact ⟨_, rfl, rfl, M1, rfl, hR.kp k1⟩
    · rw [if_pos h2]
      refine gs_ald0 (pc := 18) dX2_wanted_18 ?_
      refine gs_getf (pc := 19) 24 dX2_wanted_19 (mcell hA) clX2 in_X2 (by decide) q2250 (Or.inl rfl) rfl ?_
      refine gs_goto (pc := 22) (tgt := 27) dX2_wanted_22 (by decide) ?_
      refine gs_iret (pc := 27) dX2_wanted_27 rfl ?_
      exact ⟨_, rfl, congrArg vI (k2 h2).1, M1, rfl, hR.kp k1⟩
  · rw [isL_inB hR] at h1
    rw [if_neg (by rw [h1]; decide)]
    refine gs_iconst (pc := 8) dX2_wanted_8 ?_
    refine gs_iret (pc := 9) dX2_wanted_9 rfl ?_
    exact ⟨_, rfl, rfl, M, rfl, hR⟩
theorem m_reason {i : Int} (hA : mok X hp a) (hR : RM M A) (hO : asOk A) (hi : i32 i) : MV X yX2_reason fX2_reason 9 [vR (some a), vI i] (mH hp a M) (roP hp a A (sp_dec A (fun d => d.2.1) i)) := by
  refine MC.of pfX2_reason rfl (fun h => by cases h) 0 rfl rfl ?_
  unfold sp_dec
  refine gs_ald0 (pc := 0) dX2_reason_0 ?_
  refine gs_ild1 (pc := 1) dX2_reason_1 ?_
  refine gs_V1 (pc := 2) dX2_reason_2 kX2_216 (mcell hA) clX2 (by decide) (Nat.le_of_ble_eq_true rfl) (m_isLine hA hi (hR.cnt hO).2) (fun v hp1 hq => ?_)
  obtain ⟨rfl, rfl⟩ := hq
  refine gs_bne (pc := 5) (tgt := 10) dX2_reason_5 (by decide) (fun h1 => ?_) (fun h1 => ?_)
  · rw [isL_inB hR] at h1
    rw [if_pos h1]
    obtain ⟨n, rfl, hn⟩ := isL_nat h1
    rw [Int.toNat_natCast]
    refine gs_ald0 (pc := 10) dX2_reason_10 ?_
    refine gs_ild1 (pc := 11) dX2_reason_11 ?_
    refine gs_V1 (pc := 12) dX2_reason_12 kX2_259 (mcell hA) clX2 (by decide) (Nat.le_of_ble_eq_true rfl) (m_isDecided hA (hR.PG hO) hn) (fun v hp1 hq => ?_)
    obtain ⟨rfl, M1, rfl, k1, k2⟩ := hq
    refine gs_beq (pc := 15) (tgt := 25) dX2_reason_15 (by decide) (fun h2 => ?_) (fun h2 => ?_)
    · rw [if_neg (by rw [h2]; decide)]
      refine gs_bipush (pc := 25) dX2_reason_25 rfl ?_
      refine gs_iret (pc := 27) dX2_reason_27 rfl ?_
      exact ⟨_, rfl, rfl, M1, rfl, hR.kp k1⟩
    · rw [if_pos h2]
      refine gs_ald0 (pc := 18) dX2_reason_18 ?_
      refine gs_getf (pc := 19) 25 dX2_reason_19 (mcell hA) clX2 in_X2 (by decide) q2251 (Or.inl rfl) rfl ?_
      refine gs_goto (pc := 22) (tgt := 27) dX2_reason_22 (by decide) ?_
      refine gs_iret (pc := 27) dX2_reason_27 rfl ?_
      exact ⟨_, rfl, congrArg vI (k2 h2).2.1, M1, rfl, hR.kp k1⟩
  · rw [isL_inB hR] at h1
    rw [if_neg (by rw [h1]; decide)]
    refine gs_iconst (pc := 8) dX2_reason_8 ?_
    refine gs_iret (pc := 9) dX2_reason_9 rfl ?_
    exact ⟨_, rfl, rfl, M, rfl, hR⟩
theorem m_decidingRule {i : Int} (hA : mok X hp a) (hR : RM M A) (hO : asOk A) (hi : i32 i) : MV X yX2_decidingRule fX2_decidingRule 9 [vR (some a), vI i] (mH hp a M) (roP hp a A (sp_dec A (fun d => d.2.2) i)) := by
  refine MC.of pfX2_decidingRule rfl (fun h => by cases h) 0 rfl rfl ?_
  unfold sp_dec
  refine gs_ald0 (pc := 0) dX2_decidingRule_0 ?_
  refine gs_ild1 (pc := 1) dX2_decidingRule_1 ?_
  refine gs_V1 (pc := 2) dX2_decidingRule_2 kX2_216 (mcell hA) clX2 (by decide) (Nat.le_of_ble_eq_true rfl) (m_isLine hA hi (hR.cnt hO).2) (fun v hp1 hq => ?_)
  obtain ⟨rfl, rfl⟩ := hq
  refine gs_bne (pc := 5) (tgt := 10) dX2_decidingRule_5 (by decide) (fun h1 => ?_) (fun h1 => ?_)
  · rw [isL_inB hR] at h1
    rw [if_pos h1]
    obtain ⟨n, rfl, hn⟩ := isL_nat h1
    rw [Int.toNat_natCast]
    refine gs_ald0 (pc := 10) dX2_decidingRule_10 ?_
    refine gs_ild1 (pc := 11) dX2_decidingRule_11 ?_
    refine gs_V1 (pc := 12) dX2_decidingRule_12 kX2_259 (mcell hA) clX2 (by decide) (Nat.le_of_ble_eq_true rfl) (m_isDecided hA (hR.PG hO) hn) (fun v hp1 hq => ?_)
    obtain ⟨rfl, M1, rfl, k1, k2⟩ := hq
    refine gs_beq (pc := 15) (tgt := 25) dX2_decidingRule_15 (by decide) (fun h2 => ?_) (fun h2 => ?_)
    · rw [if_neg (by rw [h2]; decide)]
      refine gs_bipush (pc := 25) dX2_decidingRule_25 rfl ?_
      refine gs_iret (pc := 27) dX2_decidingRule_27 rfl ?_
      exact ⟨_, rfl, rfl, M1, rfl, hR.kp k1⟩
    · rw [if_pos h2]
      refine gs_ald0 (pc := 18) dX2_decidingRule_18 ?_
      refine gs_getf (pc := 19) 26 dX2_decidingRule_19 (mcell hA) clX2 in_X2 (by decide) q2252 (Or.inl rfl) rfl ?_
      refine gs_goto (pc := 22) (tgt := 27) dX2_decidingRule_22 (by decide) ?_
      refine gs_iret (pc := 27) dX2_decidingRule_27 rfl ?_
      exact ⟨_, rfl, congrArg vI (k2 h2).2.2, M1, rfl, hR.kp k1⟩
  · rw [isL_inB hR] at h1
    rw [if_neg (by rw [h1]; decide)]
    refine gs_iconst (pc := 8) dX2_decidingRule_8 ?_
    refine gs_iret (pc := 9) dX2_decidingRule_9 rfl ?_
    exact ⟨_, rfl, rfl, M, rfl, hR⟩
theorem m_wouldChange (hA : mok X hp a) (hR : RM M A) (hO : asOk A) : MV X yX2_wouldChange fX2_wouldChange 8 [vR (some a)] (mH hp a M) (roP hp a A (sp_wouldChange A)) := by
  have hP := hR.PG hO
  obtain ⟨s1, s2, s3, s4⟩ := hP.sb
  refine MC.of pfX2_wouldChange rfl (fun h => by cases h) 0 rfl rfl ?_
  refine gs_ald0 (pc := 0) dX2_wouldChange_0 ?_
  refine gs_ald0 (pc := 1) dX2_wouldChange_1 ?_
  refine gs_getf (pc := 2) 0 dX2_wouldChange_2 (mcell hA) clX2 in_X2 (by decide) q2226 (Or.inl rfl) rfl ?_
  refine gs_sipush (pc := 5) dX2_wouldChange_5 rfl ?_
  refine gs_iald (pc := 8) dX2_wouldChange_8 (ma_page hA) (by omega) (by omega) ?_
  refine gs_ald0 (pc := 9) dX2_wouldChange_9 ?_
  refine gs_getf (pc := 10) 0 dX2_wouldChange_10 (mcell hA) clX2 in_X2 (by decide) q2226 (Or.inl rfl) rfl ?_
  refine gs_sipush (pc := 13) dX2_wouldChange_13 rfl ?_
  refine gs_iald (pc := 16) dX2_wouldChange_16 (ma_page hA) (by omega) (by omega) ?_
  rw [s1, s2]
  refine gs_V2v (pc := 17) dX2_wouldChange_17 kX2_222 (mcell hA) clX2 (by decide) (Nat.le_of_ble_eq_true rfl) (m_uses hA hP s3 s4) (fun hp1 hq => ?_)
  obtain ⟨M1, rfl, f1, hU⟩ := hq
  refine gs_ald0 (pc := 20) dX2_wouldChange_20 ?_
  refine gs_iconst (pc := 21) dX2_wouldChange_21 ?_
  refine gs_ald0 (pc := 22) dX2_wouldChange_22 ?_
  refine gs_getf (pc := 23) 0 dX2_wouldChange_23 (mcell hA) clX2 in_X2 (by decide) q2226 (Or.inl rfl) rfl ?_
  refine gs_iconst (pc := 26) dX2_wouldChange_26 ?_
  refine gs_iald (pc := 27) dX2_wouldChange_27 (ma_page hA) (by omega) (by omega) ?_
  have hc := hU.1.cnt
  rw [hc.1]
  refine gs_V2 (pc := 28) dX2_wouldChange_28 kX2_228 (mcell hA) clX2 (by decide) (Nat.le_of_ble_eq_true rfl) (m_settles (lo := 0) (h := nL A.1) hA hU (by omega) (by omega)) (fun v hp1 hq => ?_)
  obtain ⟨rfl, M2, rfl, f2, -⟩ := hq
  refine gs_iret (pc := 31) dX2_wouldChange_31 rfl ?_
  refine ⟨_, rfl, ?_, M2, rfl, hR.kp (f1.kp.trans f2.kp)⟩
  unfold sp_wouldChange
  rw [Nat.sub_zero, (setN_ext (f := (rei A.1 A.1.2.2.1 A.1.2.2.2.1 0 (nL A.1)).2) (n := nL A.1) (fun i hi => (rei_out (lo := 0) (nL A.1) i (by omega)).2) 20 (by omega)).1]
theorem m_changesBy (hA : mok X hp a) (hP : PG M S) (h1 : 1 ≤ stp ∧ stp ≤ 8) (h2 : 0 ≤ bse ∧ bse ≤ 20) : MV X yX2_changesBy fX2_changesBy 8 [vR (some a), vI stp, vI bse] (mH hp a M) (fun v hp' => v = vI (chB S stp bse) ∧ ∃ M', hp' = mH hp a M' ∧ kp M M' ∧ (∀ k, 33 ≤ k → M'.1 k = M.1 k)) := by
  refine MC.of pfX2_changesBy rfl (fun h => by cases h) 0 rfl rfl ?_
  refine gs_ald0 (pc := 0) dX2_changesBy_0 ?_
  refine gs_ild1 (pc := 1) dX2_changesBy_1 ?_
  refine gs_ild2 (pc := 2) dX2_changesBy_2 ?_
  refine gs_V2v (pc := 3) dX2_changesBy_3 kX2_222 (mcell hA) clX2 (by decide) (Nat.le_of_ble_eq_true rfl) (m_uses hA hP h1 h2) (fun hp1 hq => ?_)
  obtain ⟨M1, rfl, f1, hU⟩ := hq
  refine gs_ald0 (pc := 6) dX2_changesBy_6 ?_
  refine gs_iconst (pc := 7) dX2_changesBy_7 ?_
  refine gs_ald0 (pc := 8) dX2_changesBy_8 ?_
  refine gs_getf (pc := 9) 0 dX2_changesBy_9 (mcell hA) clX2 in_X2 (by decide) q2226 (Or.inl rfl) rfl ?_
  refine gs_iconst (pc := 12) dX2_changesBy_12 ?_
  refine gs_iald (pc := 13) dX2_changesBy_13 (ma_page hA) (by omega) (by omega) ?_
  have hc := hU.1.cnt
  rw [hc.1]
  refine gs_V2 (pc := 14) dX2_changesBy_14 kX2_228 (mcell hA) clX2 (by decide) (Nat.le_of_ble_eq_true rfl) (m_settles (lo := 0) (h := nL S) hA hU (by omega) (by omega)) (fun v hp1 hq => ?_)
  obtain ⟨rfl, M2, rfl, f2, -⟩ := hq
  refine gs_S1 (pc := 17) dX2_changesBy_17 kX2_231 (by decide) (Nat.le_of_ble_eq_true rfl) (m_bits) (fun v hp1 hq => ?_)
  obtain ⟨rfl, rfl⟩ := hq
  refine gs_iret (pc := 20) dX2_changesBy_20 rfl ?_
  refine ⟨_, rfl, ?_, M2, rfl, f1.kp.trans f2.kp, fun k hk => (f2.1 k (by omega)).trans (f1.1 k (by omega))⟩
  unfold chB
  rw [Nat.sub_zero, (setN_ext (f := (rei S stp bse 0 (nL S)).2) (n := nL S) (fun i hi => (rei_out (lo := 0) (nL S) i (by omega)).2) 20 (by omega)).2]
theorem m_changesWith {s b : Int} (hA : mok X hp a) (hR : RM M A) (hO : asOk A) (hs : i32 s) (hb : i32 b) : MV X yX2_changesWith fX2_changesWith 9 [vR (some a), vI s, vI b] (mH hp a M) (roP hp a A (sp_changesWith A s b)) := by
  refine MC.of pfX2_changesWith rfl (fun h => by cases h) 0 rfl rfl ?_
  unfold sp_changesWith
  refine gs_ild1 (pc := 0) dX2_changesWith_0 ?_
  refine gs_iconst (pc := 1) dX2_changesWith_1 ?_
  refine gs_bipush (pc := 2) dX2_changesWith_2 rfl ?_
  refine gs_S3 (pc := 4) dX2_changesWith_4 kX2_79 (by decide) (Nat.le_of_ble_eq_true rfl) (m_in hs (by decide) (by decide)) (fun v hp1 hq => ?_)
  obtain ⟨rfl, rfl⟩ := hq
  refine gs_beq (pc := 7) (tgt := 29) dX2_changesWith_7 (by decide) (fun h1 => ?_) (fun h1 => ?_)
  · have h1 : ¬ (1 ≤ s ∧ s ≤ 8) := by simpa [inB] using h1
    rw [if_neg (fun h => h1 ⟨h.1, h.2.1⟩)]
    refine gs_iconst (pc := 29) dX2_changesWith_29 ?_
    refine gs_iret (pc := 30) dX2_changesWith_30 rfl ?_
    exact ⟨_, rfl, rfl, M, rfl, hR⟩
  · have h1 : 1 ≤ s ∧ s ≤ 8 := by simpa [inB] using h1
    refine gs_ild2 (pc := 10) dX2_changesWith_10 ?_
    refine gs_iconst (pc := 11) dX2_changesWith_11 ?_
    refine gs_bipush (pc := 12) dX2_changesWith_12 rfl ?_
    refine gs_S3 (pc := 14) dX2_changesWith_14 kX2_79 (by decide) (Nat.le_of_ble_eq_true rfl) (m_in hb (by decide) (by decide)) (fun v hp1 hq => ?_)
    obtain ⟨rfl, rfl⟩ := hq
    refine gs_beq (pc := 17) (tgt := 29) dX2_changesWith_17 (by decide) (fun h2 => ?_) (fun h2 => ?_)
    · have h2 : ¬ (0 ≤ b ∧ b ≤ 20) := by simpa [inB] using h2
      rw [if_neg (fun h => h2 h.2.2)]
      refine gs_iconst (pc := 29) dX2_changesWith_29 ?_
      refine gs_iret (pc := 30) dX2_changesWith_30 rfl ?_
      exact ⟨_, rfl, rfl, M, rfl, hR⟩
    · have h2 : 0 ≤ b ∧ b ≤ 20 := by simpa [inB] using h2
      rw [if_pos ⟨h1.1, h1.2, h2⟩]
      refine gs_ald0 (pc := 20) dX2_changesWith_20 ?_
      refine gs_ild1 (pc := 21) dX2_changesWith_21 ?_
      refine gs_ild2 (pc := 22) dX2_changesWith_22 ?_
      refine gs_V2 (pc := 23) dX2_changesWith_23 kX2_262 (mcell hA) clX2 (by decide) (Nat.le_of_ble_eq_true rfl) (m_changesBy hA (hR.PG hO) h1 h2) (fun v hp1 hq => ?_)
      obtain ⟨rfl, M1, rfl, k1, -⟩ := hq
      refine gs_goto (pc := 26) (tgt := 30) dX2_changesWith_26 (by decide) ?_
      refine gs_iret (pc := 30) dX2_changesWith_30 rfl ?_
      exact ⟨_, rfl, rfl, M1, rfl, hR.kp k1⟩
theorem chB_rng (hS : ssOk S) : 0 ≤ chB S stp bse ∧ chB S stp bse ≤ 20 := by
  unfold chB
  have h1 := cntN_le (f := (rei S stp bse 0 (nL S)).2) (nL S)
  have h2 : nL S ≤ 20 := hS.1
  omega
def bsM (M : MS) (S : SS) (n : Nat) : Prop := n = 0 ∧ M.1 33 = 21 ∨ 0 < n ∧ M.1 33 = chB S (bst S n).1 (bst S n).2 ∧ M.1 34 = (bst S n).1 ∧ M.1 35 = (bst S n).2
theorem bst_s : bst S (n + 1) = if chB S (1 + (n / 21 : Nat)) (n % 21 : Nat) < chB S (bst S n).1 (bst S n).2 then ((1 + (n / 21 : Nat) : Int), ((n % 21 : Nat) : Int)) else bst S n := rfl
theorem m_searches (hA : mok X hp a) (hP : PG M S) : M0 X yX2_searches fX2_searches 9 [vR (some a)] (mH hp a M) (fun hp' => ∃ M', hp' = mH hp a M' ∧ kp M M' ∧ bsM M' S 168) := by
  refine MC.of pfX2_searches rfl (fun h => by cases h) 3 rfl rfl ?_
  have outer : ∀ (p s : Nat) (M1 : MS) (L2 L3 : Option AV), nolg L2 = true → s + p = 9 → 1 ≤ s → kp M M1 → bsM M1 S (21 * (s - 1)) → G X fX2_searches 9 8 [some (vR (some a)), some (vI (s : Int)), L2, L3] [] (mH hp a M1) (fun r hp' => r = none ∧ ∃ M', hp' = mH hp a M' ∧ kp M M' ∧ bsM M' S 168) := by
    intro p
    induction p with
    | zero =>
      intro s M1 L2 L3 hg hs h1 hk hb
      obtain rfl : s = 9 := by omega
      refine gs_ild1 (pc := 8) dX2_searches_8 ?_
      refine gs_bipush (pc := 9) dX2_searches_9 rfl ?_
      refine gs_ic_gt (pc := 11) (tgt := 64) dX2_searches_11 (by decide) (by omega) (fun _ => ?_) (fun hn => absurd (by decide) hn)
      refine gs_vret (pc := 64) dX2_searches_64 rfl ?_
      exact ⟨rfl, M1, rfl, hk, hb⟩
    | succ p ih =>
      intro s M1 L2 L3 hg hs h1 hk hb
      have inner : ∀ (q b : Nat) (M1 : MS) (L3 : Option AV), b + q = 21 → kp M M1 → bsM M1 S (21 * (s - 1) + b) → G X fX2_searches 9 16 [some (vR (some a)), some (vI (s : Int)), some (vI (b : Int)), L3] [] (mH hp a M1) (fun r hp' => r = none ∧ ∃ M', hp' = mH hp a M' ∧ kp M M' ∧ bsM M' S 168) := by
        intro q
        induction q with
        | zero =>
          intro b M1 L3 hbq hk hb
          obtain rfl : b = 21 := by omega
          refine gs_ild2 (pc := 16) dX2_searches_16 ?_
          refine gs_bipush (pc := 17) dX2_searches_17 rfl ?_
          refine gs_ic_gt (pc := 19) (tgt := 58) dX2_searches_19 (by decide) (by omega) (fun _ => ?_) (fun hn => absurd (by decide) hn)
          refine gs_inc1 (pc := 58) dX2_searches_58 rfl ?_
          refine gs_goto (pc := 61) (tgt := 8) dX2_searches_61 (by decide) ?_
          exact ih (s + 1) M1 _ _ rfl (by omega) (by omega) hk (by rw [show 21 * (s + 1 - 1) = 21 * (s - 1) + 21 by omega]; exact hb)
        | succ q ihq =>
          intro b M1 L3 hbq hk hb
          have hP1 := hk.PG hP
          refine gs_ild2 (pc := 16) dX2_searches_16 ?_
          refine gs_bipush (pc := 17) dX2_searches_17 rfl ?_
          refine gs_ic_gt (pc := 19) (tgt := 58) dX2_searches_19 (by decide) (by omega) (fun hn => absurd hn (by omega)) (fun _ => ?_)
          refine gs_ald0 (pc := 22) dX2_searches_22 ?_
          refine gs_ild1 (pc := 23) dX2_searches_23 ?_
          refine gs_ild2 (pc := 24) dX2_searches_24 ?_
          refine gs_V2 (pc := 25) dX2_searches_25 kX2_262 (mcell hA) clX2 (by decide) (Nat.le_of_ble_eq_true rfl) (m_changesBy hA hP1 (by omega) (by omega)) (fun v hp1 hq => ?_)
          obtain ⟨rfl, M2, rfl, k2, k3⟩ := hq
          have hb2 : bsM M2 S (21 * (s - 1) + b) := by
            unfold bsM
            rw [k3 33 (by omega), k3 34 (by omega), k3 35 (by omega)]
            exact hb
          have hkk := hk.trans k2
          have hcr := chB_rng (stp := (s : Int)) (bse := (b : Int)) hP.2
          have es : 1 + ((21 * (s - 1) + b) / 21 : Nat) = s ∧ (21 * (s - 1) + b) % 21 = b := by omega
          have hbs := bst_s (S := S) (n := 21 * (s - 1) + b)
          rw [es.2, show (1 : Int) + (((21 * (s - 1) + b) / 21 : Nat) : Int) = (s : Int) by omega] at hbs
          have kend : ∀ M3 : MS, kp M M3 → bsM M3 S (21 * (s - 1) + b + 1) → G X fX2_searches 9 52 [some (vR (some a)), some (vI (s : Int)), some (vI (b : Int)), some (vI (chB S (s : Int) (b : Int)))] [] (mH hp a M3) (fun r hp' => r = none ∧ ∃ M', hp' = mH hp a M' ∧ kp M M' ∧ bsM M' S 168) := by
            intro M3 h1 h2
            refine gs_inc2 (pc := 52) dX2_searches_52 rfl ?_
            refine gs_goto (pc := 55) (tgt := 16) dX2_searches_55 (by decide) ?_
            exact ihq (b + 1) M3 _ (by omega) h1 h2
          have h33 : 0 ≤ M2.1 33 ∧ M2.1 33 ≤ 21 := by
            rcases hb2 with h | h
            · omega
            · rw [h.2.1]; have := chB_rng (stp := (bst S (21 * (s - 1) + b)).1) (bse := (bst S (21 * (s - 1) + b)).2) hP.2; omega
          refine gs_ist3 (pc := 28) dX2_searches_28 rfl ?_
          refine gs_ild3 (pc := 29) dX2_searches_29 ?_
          refine gs_ald0 (pc := 30) dX2_searches_30 ?_
          refine gs_getf (pc := 31) 33 dX2_searches_31 (mcell hA) clX2 in_X2 (by decide) q2259 (Or.inl rfl) rfl ?_
          refine gs_ic_ge (pc := 34) (tgt := 52) dX2_searches_34 (by decide) (by omega) (fun hge => ?_) (fun hge => ?_)
          · refine kend M2 hkk ?_
            rcases hb2 with h | ⟨h0, h⟩
            · omega
            · rw [if_neg (by rw [← h.1]; omega)] at hbs
              unfold bsM
              rw [hbs]
              exact Or.inr ⟨by omega, h⟩
          · refine gs_ald0 (pc := 37) dX2_searches_37 ?_
            refine gs_ild3 (pc := 38) dX2_searches_38 ?_
            refine mp_fewest (pc := 39) rfl hA dX2_searches_39 ?_
            refine gs_ald0 (pc := 42) dX2_searches_42 ?_
            refine gs_ild1 (pc := 43) dX2_searches_43 ?_
            refine mp_fewestStep (pc := 44) rfl hA dX2_searches_44 ?_
            refine gs_ald0 (pc := 47) dX2_searches_47 ?_
            refine gs_ild2 (pc := 48) dX2_searches_48 ?_
            refine mp_fewestBase (pc := 49) rfl hA dX2_searches_49 ?_
            refine kend _ (hkk.trans ⟨rfl, rfl, fun _ _ => rfl⟩) ?_
            have hbs2 : bst S (21 * (s - 1) + b + 1) = ((s : Int), (b : Int)) := by
              rcases hb2 with ⟨h0, h⟩ | ⟨h0, h⟩
              · have hs1 : s = 1 ∧ b = 0 := by omega
                rw [hs1.1, hs1.2]
                show bst S 1 = _
                rw [bst_s, if_neg (by show ¬ chB S 1 0 < chB S 1 0; omega)]
                rfl
              · rw [if_pos (by rw [← h.1]; omega)] at hbs
                exact hbs
            unfold bsM
            rw [hbs2]
            exact Or.inr ⟨by omega, rfl, rfl, rfl⟩
      refine gs_ild1 (pc := 8) dX2_searches_8 ?_
      refine gs_bipush (pc := 9) dX2_searches_9 rfl ?_
      refine gs_ic_gt (pc := 11) (tgt := 64) dX2_searches_11 (by decide) (by omega) (fun hn => absurd hn (by omega)) (fun _ => ?_)
      refine gs_iconst (pc := 14) dX2_searches_14 ?_
      refine gs_ist2 (pc := 15) dX2_searches_15 rfl ?_
      exact inner 21 0 M1 _ (by omega) hk (by rw [Nat.add_zero]; exact hb)
  refine gs_ald0 (pc := 0) dX2_searches_0 ?_
  refine gs_bipush (pc := 1) dX2_searches_1 rfl ?_
  refine mp_fewest (pc := 3) rfl hA dX2_searches_3 ?_
  refine gs_iconst (pc := 6) dX2_searches_6 ?_
  refine gs_ist1 (pc := 7) dX2_searches_7 rfl ?_
  exact outer 8 1 _ _ _ rfl (by omega) (by omega) ⟨rfl, rfl, fun _ _ => rfl⟩ (Or.inl ⟨rfl, rfl⟩)
theorem m_fewestChanges (hA : mok X hp a) (hR : RM M A) (hO : asOk A) : MV X yX2_fewestChanges fX2_fewestChanges 10 [vR (some a)] (mH hp a M) (roP hp a A (sp_fewest A)) := by
  refine MC.of pfX2_fewestChanges rfl (fun h => by cases h) 0 rfl rfl ?_
  refine gs_ald0 (pc := 0) dX2_fewestChanges_0 ?_
  refine gs_V0v (pc := 1) dX2_fewestChanges_1 kX2_274 (mcell hA) clX2 (by decide) (Nat.le_of_ble_eq_true rfl) (m_searches hA (hR.PG hO)) (fun hp1 hq => ?_)
  obtain ⟨M1, rfl, k1, k2⟩ := hq
  refine gs_ald0 (pc := 4) dX2_fewestChanges_4 ?_
  refine gs_getf (pc := 5) 33 dX2_fewestChanges_5 (mcell hA) clX2 in_X2 (by decide) q2259 (Or.inl rfl) rfl ?_
  refine gs_iret (pc := 8) dX2_fewestChanges_8 rfl ?_
  rcases k2 with ⟨h, -⟩ | ⟨-, h⟩
  · exact absurd h (by decide)
  · exact ⟨_, rfl, congrArg vI h.1, M1, rfl, hR.kp k1⟩
theorem m_bestStep (hA : mok X hp a) (hR : RM M A) (hO : asOk A) : MV X yX2_bestStep fX2_bestStep 10 [vR (some a)] (mH hp a M) (roP hp a A (sp_bestStep A)) := by
  refine MC.of pfX2_bestStep rfl (fun h => by cases h) 0 rfl rfl ?_
  refine gs_ald0 (pc := 0) dX2_bestStep_0 ?_
  refine gs_V0v (pc := 1) dX2_bestStep_1 kX2_274 (mcell hA) clX2 (by decide) (Nat.le_of_ble_eq_true rfl) (m_searches hA (hR.PG hO)) (fun hp1 hq => ?_)
  obtain ⟨M1, rfl, k1, k2⟩ := hq
  refine gs_ald0 (pc := 4) dX2_bestStep_4 ?_
  refine gs_getf (pc := 5) 34 dX2_bestStep_5 (mcell hA) clX2 in_X2 (by decide) q2260 (Or.inl rfl) rfl ?_
  refine gs_iret (pc := 8) dX2_bestStep_8 rfl ?_
  rcases k2 with ⟨h, -⟩ | ⟨-, h⟩
  · exact absurd h (by decide)
  · exact ⟨_, rfl, congrArg vI h.2.1, M1, rfl, hR.kp k1⟩
theorem m_bestBase (hA : mok X hp a) (hR : RM M A) (hO : asOk A) : MV X yX2_bestBase fX2_bestBase 10 [vR (some a)] (mH hp a M) (roP hp a A (sp_bestBase A)) := by
  refine MC.of pfX2_bestBase rfl (fun h => by cases h) 0 rfl rfl ?_
  refine gs_ald0 (pc := 0) dX2_bestBase_0 ?_
  refine gs_V0v (pc := 1) dX2_bestBase_1 kX2_274 (mcell hA) clX2 (by decide) (Nat.le_of_ble_eq_true rfl) (m_searches hA (hR.PG hO)) (fun hp1 hq => ?_)
  obtain ⟨M1, rfl, k1, k2⟩ := hq
  refine gs_ald0 (pc := 4) dX2_bestBase_4 ?_
  refine gs_getf (pc := 5) 35 dX2_bestBase_5 (mcell hA) clX2 in_X2 (by decide) q2261 (Or.inl rfl) rfl ?_
  refine gs_iret (pc := 8) dX2_bestBase_8 rfl ?_
  rcases k2 with ⟨h, -⟩ | ⟨-, h⟩
  · exact absurd h (by decide)
  · exact ⟨_, rfl, congrArg vI h.2.2, M1, rfl, hR.kp k1⟩
theorem m_isProtected {i : Int} (hA : mok X hp a) (hR : RM M A) (hO : asOk A) (hi : i32 i) : MV X yX2_isProtected fX2_isProtected 6 [vR (some a), vI i] (mH hp a M) (roP hp a A (sp_isProtected A i)) := by
  refine MC.of pfX2_isProtected rfl (fun h => by cases h) 0 rfl rfl ?_
  unfold sp_isProtected
  refine gs_ald0 (pc := 0) dX2_isProtected_0 ?_
  refine gs_ild1 (pc := 1) dX2_isProtected_1 ?_
  refine gs_V1 (pc := 2) dX2_isProtected_2 kX2_216 (mcell hA) clX2 (by decide) (Nat.le_of_ble_eq_true rfl) (m_isLine hA hi (hR.cnt hO).2) (fun v hp1 hq => ?_)
  obtain ⟨rfl, rfl⟩ := hq
  refine gs_bne (pc := 5) (tgt := 10) dX2_isProtected_5 (by decide) (fun h1 => ?_) (fun h1 => ?_)
  · rw [isL_inB hR] at h1
    rw [if_pos h1]
    obtain ⟨n, rfl, hn⟩ := isL_nat h1
    have hc := (hR.PG hO).cnt
    rw [Int.toNat_natCast]
    have hT := (TK.of (M := M) (S := A.1)).2.1 n hn
    refine gs_ald0 (pc := 10) dX2_isProtected_10 ?_
    refine gs_V0v (pc := 11) dX2_isProtected_11 kX2_138 (mcell hA) clX2 (by decide) (Nat.le_of_ble_eq_true rfl) (m_tokenizes hA (hR.PG hO)) (fun hp1 hq => ?_)
    obtain ⟨rfl⟩ := hq
    refine gs_ald0 (pc := 14) dX2_isProtected_14 ?_
    refine gs_getf (pc := 15) 14 dX2_isProtected_15 (mcell hA) clX2 in_X2 (by decide) q2240 (Or.inl rfl) rfl ?_
    refine gs_ild1 (pc := 18) dX2_isProtected_18 ?_
    refine gs_zald (pc := 19) dX2_isProtected_19 (ma_isHeld hA) (by omega) (by omega) ?_
    rw [hT]
    refine gs_beq (pc := 20) (tgt := 27) dX2_isProtected_20 (by decide) (fun h2 => ?_) (fun h2 => ?_)
    · refine gs_iconst (pc := 27) dX2_isProtected_27 ?_
      refine gs_iret (pc := 28) dX2_isProtected_28 rfl ?_
      exact ⟨_, rfl, by rw [h2]; rfl, _, rfl, hR.kp tkz_kp⟩
    · refine gs_iconst (pc := 23) dX2_isProtected_23 ?_
      refine gs_goto (pc := 24) (tgt := 28) dX2_isProtected_24 (by decide) ?_
      refine gs_iret (pc := 28) dX2_isProtected_28 rfl ?_
      exact ⟨_, rfl, by rw [h2]; rfl, _, rfl, hR.kp tkz_kp⟩
  · rw [isL_inB hR] at h1
    rw [if_neg (by rw [h1]; decide)]
    refine gs_iconst (pc := 8) dX2_isProtected_8 ?_
    refine gs_iret (pc := 9) dX2_isProtected_9 rfl ?_
    exact ⟨_, rfl, rfl, M, rfl, hR⟩
theorem m_tokens {i : Int} (hA : mok X hp a) (hR : RM M A) (hO : asOk A) (hi : i32 i) : MV X yX2_tokens fX2_tokens 6 [vR (some a), vI i] (mH hp a M) (roP hp a A (sp_tokens A i)) := by
  refine MC.of pfX2_tokens rfl (fun h => by cases h) 0 rfl rfl ?_
  unfold sp_tokens
  refine gs_ald0 (pc := 0) dX2_tokens_0 ?_
  refine gs_ild1 (pc := 1) dX2_tokens_1 ?_
  refine gs_V1 (pc := 2) dX2_tokens_2 kX2_216 (mcell hA) clX2 (by decide) (Nat.le_of_ble_eq_true rfl) (m_isLine hA hi (hR.cnt hO).2) (fun v hp1 hq => ?_)
  obtain ⟨rfl, rfl⟩ := hq
  refine gs_bne (pc := 5) (tgt := 10) dX2_tokens_5 (by decide) (fun h1 => ?_) (fun h1 => ?_)
  · rw [isL_inB hR] at h1
    rw [if_pos h1]
    obtain ⟨n, rfl, hn⟩ := isL_nat h1
    have hc := (hR.PG hO).cnt
    rw [Int.toNat_natCast]
    have hT := (TK.of (M := M) (S := A.1)).1 n (by omega)
    have hT2 : (tkz A.1.2.2.2.2 0 false A.1.1 (mP M 12 0)).2.1 10 ((n : Int) + 1) = _ := (TK.of (M := M) (S := A.1)).1 (n + 1) (by omega)
    have hmo := fstO_mono (S := A.1) (i := n)
    refine gs_ald0 (pc := 10) dX2_tokens_10 ?_
    refine gs_V0v (pc := 11) dX2_tokens_11 kX2_138 (mcell hA) clX2 (by decide) (Nat.le_of_ble_eq_true rfl) (m_tokenizes hA (hR.PG hO)) (fun hp1 hq => ?_)
    obtain ⟨rfl⟩ := hq
    refine gs_ald0 (pc := 14) dX2_tokens_14 ?_
    refine gs_getf (pc := 15) 13 dX2_tokens_15 (mcell hA) clX2 in_X2 (by decide) q2239 (Or.inl rfl) rfl ?_
    refine gs_ild1 (pc := 18) dX2_tokens_18 ?_
    refine gs_iconst (pc := 19) dX2_tokens_19 ?_
    refine gs_iadd (pc := 20) dX2_tokens_20 ?_
    refine gs_iald (pc := 21) dX2_tokens_21 (ma_firstOf hA) (by omega) (by omega) ?_
    refine gs_ald0 (pc := 22) dX2_tokens_22 ?_
    refine gs_getf (pc := 23) 13 dX2_tokens_23 (mcell hA) clX2 in_X2 (by decide) q2239 (Or.inl rfl) rfl ?_
    refine gs_ild1 (pc := 26) dX2_tokens_26 ?_
    refine gs_iald (pc := 27) dX2_tokens_27 (ma_firstOf hA) (by omega) (by omega) ?_
    refine gs_isub (pc := 28) dX2_tokens_28 ?_
    refine gs_iret (pc := 29) dX2_tokens_29 rfl ?_
    refine ⟨_, rfl, ?_, _, rfl, hR.kp tkz_kp⟩
    rw [hT, hT2]
    congr 1
    unfold tkN
    omega
  · rw [isL_inB hR] at h1
    rw [if_neg (by rw [h1]; decide)]
    refine gs_iconst (pc := 8) dX2_tokens_8 ?_
    refine gs_iret (pc := 9) dX2_tokens_9 rfl ?_
    exact ⟨_, rfl, rfl, M, rfl, hR⟩
/-- a token by its line and its index -/
def tkI (A : AS) (i k : Int) : Int := if isT A i k then ((fstO A.1 i.toNat + k.toNat : Nat) : Int) else -9
theorem m_tokenOf {i k : Int} (hA : mok X hp a) (hR : RM M A) (hO : asOk A) (hi : i32 i) (hk : i32 k) : MV X yX2_tokenOf fX2_tokenOf 7 [vR (some a), vI i, vI k] (mH hp a M) (fun v hp' => v = vI (tkI A i k) ∧ ∃ M', hp' = mH hp a M' ∧ RM M' A ∧ (isT A i k = true → LO M' A.1)) := by
  refine MC.of pfX2_tokenOf rfl (fun h => by cases h) 0 rfl rfl ?_
  unfold tkI
  refine gs_ald0 (pc := 0) dX2_tokenOf_0 ?_
  refine gs_ild1 (pc := 1) dX2_tokenOf_1 ?_
  refine gs_V1 (pc := 2) dX2_tokenOf_2 kX2_216 (mcell hA) clX2 (by decide) (Nat.le_of_ble_eq_true rfl) (m_isLine hA hi (hR.cnt hO).2) (fun v hp1 hq => ?_)
  obtain ⟨rfl, rfl⟩ := hq
  refine gs_bne (pc := 5) (tgt := 11) dX2_tokenOf_5 (by decide) (fun h1 => ?_) (fun h1 => ?_)
  · rw [isL_inB hR] at h1
    have ei : isT A i k = decide (0 ≤ k ∧ k < (tkN A.1 i.toNat : Nat)) := by unfold isT; rw [h1]; rfl
    rw [ei]
    obtain ⟨n, rfl, hn⟩ := isL_nat h1
    have hc := (hR.PG hO).cnt
    have htl := toks_le hO.1
    rw [Int.toNat_natCast]
    refine gs_ald0 (pc := 11) dX2_tokenOf_11 ?_
    refine gs_V0v (pc := 12) dX2_tokenOf_12 kX2_151 (mcell hA) clX2 (by decide) (Nat.le_of_ble_eq_true rfl) (m_looks hA (hR.PG hO)) (fun hp1 hq => ?_)
    obtain ⟨M1, rfl, f1, hL⟩ := hq
    have hT := hL.1.1 n (by omega)
    have hT2 : M1.2.1 10 ((n : Int) + 1) = _ := hL.1.1 (n + 1) (by omega)
    have hmo := fstO_mono (S := A.1) (i := n)
    have hfl := fstO_le (S := A.1) (i := n + 1) (j := nL A.1) (by omega)
    rw [fstO_n] at hfl
    have htk : tkN A.1 n = fstO A.1 (n + 1) - fstO A.1 n := rfl
    refine gs_ild2 (pc := 15) dX2_tokenOf_15 ?_
    refine gs_iconst (pc := 16) dX2_tokenOf_16 ?_
    refine gs_ald0 (pc := 17) dX2_tokenOf_17 ?_
    refine gs_getf (pc := 18) 13 dX2_tokenOf_18 (mcell hA) clX2 in_X2 (by decide) q2239 (Or.inl rfl) rfl ?_
    refine gs_ild1 (pc := 21) dX2_tokenOf_21 ?_
    refine gs_iconst (pc := 22) dX2_tokenOf_22 ?_
    refine gs_iadd (pc := 23) dX2_tokenOf_23 ?_
    refine gs_iald (pc := 24) dX2_tokenOf_24 (ma_firstOf hA) (by omega) (by omega) ?_
    rw [hT2]
    refine gs_ald0 (pc := 25) dX2_tokenOf_25 ?_
    refine gs_getf (pc := 26) 13 dX2_tokenOf_26 (mcell hA) clX2 in_X2 (by decide) q2239 (Or.inl rfl) rfl ?_
    refine gs_ild1 (pc := 29) dX2_tokenOf_29 ?_
    refine gs_iald (pc := 30) dX2_tokenOf_30 (ma_firstOf hA) (by omega) (by omega) ?_
    rw [hT]
    refine gs_isub (pc := 31) dX2_tokenOf_31 ?_
    refine gs_iconst (pc := 32) dX2_tokenOf_32 ?_
    refine gs_isub (pc := 33) dX2_tokenOf_33 ?_
    refine gs_S3 (pc := 34) dX2_tokenOf_34 kX2_79 (by decide) (Nat.le_of_ble_eq_true rfl) (m_in hk (by decide) (by omega)) (fun v hp1 hq => ?_)
    obtain ⟨rfl, rfl⟩ := hq
    refine gs_beq (pc := 37) (tgt := 51) dX2_tokenOf_37 (by decide) (fun h2 => ?_) (fun h2 => ?_)
    · have h2 : ¬ (0 ≤ k ∧ k ≤ (fstO A.1 (n + 1) : Int) - fstO A.1 n - 1) := by simpa [inB] using h2
      rw [decide_eq_false (by omega)]
      refine gs_bipush (pc := 51) dX2_tokenOf_51 rfl ?_
      refine gs_iret (pc := 53) dX2_tokenOf_53 rfl ?_
      exact ⟨_, rfl, rfl, M1, rfl, hR.kp f1.kp, fun _ => hL⟩
    · have h2 : 0 ≤ k ∧ k ≤ (fstO A.1 (n + 1) : Int) - fstO A.1 n - 1 := by simpa [inB] using h2
      rw [decide_eq_true (by omega)]
      refine gs_ald0 (pc := 40) dX2_tokenOf_40 ?_
      refine gs_getf (pc := 41) 13 dX2_tokenOf_41 (mcell hA) clX2 in_X2 (by decide) q2239 (Or.inl rfl) rfl ?_
      refine gs_ild1 (pc := 44) dX2_tokenOf_44 ?_
      refine gs_iald (pc := 45) dX2_tokenOf_45 (ma_firstOf hA) (by omega) (by omega) ?_
      rw [hT]
      refine gs_ild2 (pc := 46) dX2_tokenOf_46 ?_
      refine gs_iadd (pc := 47) dX2_tokenOf_47 ?_
      refine gs_goto (pc := 48) (tgt := 53) dX2_tokenOf_48 (by decide) ?_
      refine gs_iret (pc := 53) dX2_tokenOf_53 rfl ?_
      refine ⟨_, rfl, ?_, M1, rfl, hR.kp f1.kp, fun _ => hL⟩
      congr 1
      rw [if_pos rfl]
      omega
  · rw [isL_inB hR] at h1
    have ei : isT A i k = false := by unfold isT; rw [h1]; rfl
    rw [ei]
    refine gs_bipush (pc := 8) dX2_tokenOf_8 rfl ?_
    refine gs_iret (pc := 10) dX2_tokenOf_10 rfl ?_
    exact ⟨_, rfl, rfl, M, rfl, hR, fun h => by cases h⟩
theorem isT_lt {i k : Int} (h : isT A i k = true) : tkI A i k = ((fstO A.1 i.toNat + k.toNat : Nat) : Int) ∧ fstO A.1 i.toNat + k.toNat < (toks A.1).length ∧ i = (i.toNat : Int) ∧ i.toNat < nL A.1 ∧ (tA (toks A.1) (fstO A.1 i.toNat + k.toNat)).1 = i.toNat := by
  have e : tkI A i k = ((fstO A.1 i.toNat + k.toNat : Nat) : Int) := by unfold tkI; rw [if_pos h]
  unfold isT at h
  rw [Bool.and_eq_true] at h
  obtain ⟨n, rfl, hn⟩ := isL_nat h.1
  have h2 := of_decide_eq_true h.2
  rw [Int.toNat_natCast] at h2 e ⊢
  have hmo := fstO_mono (S := A.1) (i := n)
  have hfl := fstO_le (S := A.1) (i := n + 1) (j := nL A.1) (by omega)
  rw [fstO_n] at hfl
  have htk : tkN A.1 n = fstO A.1 (n + 1) - fstO A.1 n := rfl
  exact ⟨e, by omega, rfl, hn, tok_lineI (by omega) (by omega) (by omega)⟩
theorem m_tokenAt {i k : Int} (hA : mok X hp a) (hR : RM M A) (hO : asOk A) (hi : i32 i) (hk : i32 k) : MV X yX2_tokenAt fX2_tokenAt 8 [vR (some a), vI i, vI k] (mH hp a M) (roP hp a A (sp_tok A (fun t => t.2.1) i k)) := by
  refine MC.of pfX2_tokenAt rfl (fun h => by cases h) 1 rfl rfl ?_
  unfold sp_tok
  have htl := toks_le hO.1
  refine gs_ald0 (pc := 0) dX2_tokenAt_0 ?_
  refine gs_ild1 (pc := 1) dX2_tokenAt_1 ?_
  refine gs_ild2 (pc := 2) dX2_tokenAt_2 ?_
  refine gs_V2 (pc := 3) dX2_tokenAt_3 kX2_277 (mcell hA) clX2 (by decide) (Nat.le_of_ble_eq_true rfl) (m_tokenOf hA hR hO hi hk) (fun v hp1 hq => ?_)
  obtain ⟨rfl, M1, rfl, r1, r2⟩ := hq
  cases hT : isT A i k with
  | false =>
    rw [if_neg (by decide), show tkI A i k = -9 by unfold tkI; rw [hT]; rfl]
    refine gs_ist3 (pc := 6) dX2_tokenAt_6 rfl ?_
    refine gs_ild3 (pc := 7) dX2_tokenAt_7 ?_
    refine gs_bipush (pc := 8) dX2_tokenAt_8 rfl ?_
    refine gs_ic_ne (pc := 10) (tgt := 17) dX2_tokenAt_10 (by decide) (by omega) (fun hn => absurd (by decide) hn) (fun _ => ?_)
    refine gs_iconst (pc := 13) dX2_tokenAt_13 ?_
    refine gs_goto (pc := 14) (tgt := 23) dX2_tokenAt_14 (by decide) ?_
    refine gs_iret (pc := 23) dX2_tokenAt_23 rfl ?_
    exact ⟨_, rfl, rfl, M1, rfl, r1⟩
  | true =>
    obtain ⟨e1, e2, -⟩ := isT_lt hT
    rw [if_pos rfl, e1]
    have hw := (r2 hT).1.2.2.2 _ e2
    refine gs_ist3 (pc := 6) dX2_tokenAt_6 rfl ?_
    refine gs_ild3 (pc := 7) dX2_tokenAt_7 ?_
    refine gs_bipush (pc := 8) dX2_tokenAt_8 rfl ?_
    refine gs_ic_ne (pc := 10) (tgt := 17) dX2_tokenAt_10 (by decide) (by omega) (fun _ => ?_) (fun hn => absurd hn (by omega))
    refine gs_ald0 (pc := 17) dX2_tokenAt_17 ?_
    refine gs_getf (pc := 18) 6 dX2_tokenAt_18 (mcell hA) clX2 in_X2 (by decide) q2232 (Or.inl rfl) rfl ?_
    refine gs_ild3 (pc := 21) dX2_tokenAt_21 ?_
    refine gs_iald (pc := 22) dX2_tokenAt_22 (ma_tokenSpot hA) (by omega) (by omega) ?_
    rw [hw.2.1]
    refine gs_iret (pc := 23) dX2_tokenAt_23 rfl ?_
    exact ⟨_, rfl, rfl, M1, rfl, r1⟩
theorem m_tokenLength {i k : Int} (hA : mok X hp a) (hR : RM M A) (hO : asOk A) (hi : i32 i) (hk : i32 k) : MV X yX2_tokenLength fX2_tokenLength 8 [vR (some a), vI i, vI k] (mH hp a M) (roP hp a A (sp_tok A (fun t => t.2.2.1) i k)) := by
  refine MC.of pfX2_tokenLength rfl (fun h => by cases h) 1 rfl rfl ?_
  unfold sp_tok
  have htl := toks_le hO.1
  refine gs_ald0 (pc := 0) dX2_tokenLength_0 ?_
  refine gs_ild1 (pc := 1) dX2_tokenLength_1 ?_
  refine gs_ild2 (pc := 2) dX2_tokenLength_2 ?_
  refine gs_V2 (pc := 3) dX2_tokenLength_3 kX2_277 (mcell hA) clX2 (by decide) (Nat.le_of_ble_eq_true rfl) (m_tokenOf hA hR hO hi hk) (fun v hp1 hq => ?_)
  obtain ⟨rfl, M1, rfl, r1, r2⟩ := hq
  cases hT : isT A i k with
  | false =>
    rw [if_neg (by decide), show tkI A i k = -9 by unfold tkI; rw [hT]; rfl]
    refine gs_ist3 (pc := 6) dX2_tokenLength_6 rfl ?_
    refine gs_ild3 (pc := 7) dX2_tokenLength_7 ?_
    refine gs_bipush (pc := 8) dX2_tokenLength_8 rfl ?_
    refine gs_ic_ne (pc := 10) (tgt := 17) dX2_tokenLength_10 (by decide) (by omega) (fun hn => absurd (by decide) hn) (fun _ => ?_)
    refine gs_iconst (pc := 13) dX2_tokenLength_13 ?_
    refine gs_goto (pc := 14) (tgt := 23) dX2_tokenLength_14 (by decide) ?_
    refine gs_iret (pc := 23) dX2_tokenLength_23 rfl ?_
    exact ⟨_, rfl, rfl, M1, rfl, r1⟩
  | true =>
    obtain ⟨e1, e2, -⟩ := isT_lt hT
    rw [if_pos rfl, e1]
    have hw := (r2 hT).1.2.2.2 _ e2
    refine gs_ist3 (pc := 6) dX2_tokenLength_6 rfl ?_
    refine gs_ild3 (pc := 7) dX2_tokenLength_7 ?_
    refine gs_bipush (pc := 8) dX2_tokenLength_8 rfl ?_
    refine gs_ic_ne (pc := 10) (tgt := 17) dX2_tokenLength_10 (by decide) (by omega) (fun _ => ?_) (fun hn => absurd hn (by omega))
    refine gs_ald0 (pc := 17) dX2_tokenLength_17 ?_
    refine gs_getf (pc := 18) 7 dX2_tokenLength_18 (mcell hA) clX2 in_X2 (by decide) q2233 (Or.inl rfl) rfl ?_
    refine gs_ild3 (pc := 21) dX2_tokenLength_21 ?_
    refine gs_iald (pc := 22) dX2_tokenLength_22 (ma_tokenLong hA) (by omega) (by omega) ?_
    rw [hw.2.2.1]
    refine gs_iret (pc := 23) dX2_tokenLength_23 rfl ?_
    exact ⟨_, rfl, rfl, M1, rfl, r1⟩
theorem m_tokenKind {i k : Int} (hA : mok X hp a) (hR : RM M A) (hO : asOk A) (hi : i32 i) (hk : i32 k) : MV X yX2_tokenKind fX2_tokenKind 8 [vR (some a), vI i, vI k] (mH hp a M) (roP hp a A (sp_tok A (fun t => t.2.2.2.1) i k)) := by
  refine MC.of pfX2_tokenKind rfl (fun h => by cases h) 1 rfl rfl ?_
  unfold sp_tok
  have htl := toks_le hO.1
  refine gs_ald0 (pc := 0) dX2_tokenKind_0 ?_
  refine gs_ild1 (pc := 1) dX2_tokenKind_1 ?_
  refine gs_ild2 (pc := 2) dX2_tokenKind_2 ?_
  refine gs_V2 (pc := 3) dX2_tokenKind_3 kX2_277 (mcell hA) clX2 (by decide) (Nat.le_of_ble_eq_true rfl) (m_tokenOf hA hR hO hi hk) (fun v hp1 hq => ?_)
  obtain ⟨rfl, M1, rfl, r1, r2⟩ := hq
  cases hT : isT A i k with
  | false =>
    rw [if_neg (by decide), show tkI A i k = -9 by unfold tkI; rw [hT]; rfl]
    refine gs_ist3 (pc := 6) dX2_tokenKind_6 rfl ?_
    refine gs_ild3 (pc := 7) dX2_tokenKind_7 ?_
    refine gs_bipush (pc := 8) dX2_tokenKind_8 rfl ?_
    refine gs_ic_ne (pc := 10) (tgt := 17) dX2_tokenKind_10 (by decide) (by omega) (fun hn => absurd (by decide) hn) (fun _ => ?_)
    refine gs_iconst (pc := 13) dX2_tokenKind_13 ?_
    refine gs_goto (pc := 14) (tgt := 23) dX2_tokenKind_14 (by decide) ?_
    refine gs_iret (pc := 23) dX2_tokenKind_23 rfl ?_
    exact ⟨_, rfl, rfl, M1, rfl, r1⟩
  | true =>
    obtain ⟨e1, e2, -⟩ := isT_lt hT
    rw [if_pos rfl, e1]
    have hw := (r2 hT).1.2.2.2 _ e2
    refine gs_ist3 (pc := 6) dX2_tokenKind_6 rfl ?_
    refine gs_ild3 (pc := 7) dX2_tokenKind_7 ?_
    refine gs_bipush (pc := 8) dX2_tokenKind_8 rfl ?_
    refine gs_ic_ne (pc := 10) (tgt := 17) dX2_tokenKind_10 (by decide) (by omega) (fun _ => ?_) (fun hn => absurd hn (by omega))
    refine gs_ald0 (pc := 17) dX2_tokenKind_17 ?_
    refine gs_getf (pc := 18) 8 dX2_tokenKind_18 (mcell hA) clX2 in_X2 (by decide) q2234 (Or.inl rfl) rfl ?_
    refine gs_ild3 (pc := 21) dX2_tokenKind_21 ?_
    refine gs_iald (pc := 22) dX2_tokenKind_22 (ma_tokenSort hA) (by omega) (by omega) ?_
    rw [hw.2.2.2]
    refine gs_iret (pc := 23) dX2_tokenKind_23 rfl ?_
    exact ⟨_, rfl, rfl, M1, rfl, r1⟩
theorem wk_part : ∀ n t, ((wkN S (toks S) n).2.1 t = -9 ∨ 0 ≤ (wkN S (toks S) n).2.1 t ∧ (wkN S (toks S) n).2.1 t < n) ∧ ((wkN S (toks S) n).2.2.1 t = -9 ∨ 0 ≤ (wkN S (toks S) n).2.2.1 t ∧ (wkN S (toks S) n).2.2.1 t < n) := by
  intro n
  induction n with
  | zero => intro t; exact ⟨Or.inl rfl, Or.inl rfl⟩
  | succ n ih =>
    intro t
    have hW := wkN_ok (S := S) n
    obtain ⟨h1, h2⟩ := ih t
    show ((wkS1 S (toks S) (wkN S (toks S) n) n).2.1 t = -9 ∨ 0 ≤ (wkS1 S (toks S) (wkN S (toks S) n) n).2.1 t ∧ (wkS1 S (toks S) (wkN S (toks S) n) n).2.1 t < ((n + 1 : Nat) : Int)) ∧ ((wkS1 S (toks S) (wkN S (toks S) n) n).2.2.1 t = -9 ∨ 0 ≤ (wkS1 S (toks S) (wkN S (toks S) n) n).2.2.1 t ∧ (wkS1 S (toks S) (wkN S (toks S) n) n).2.2.1 t < ((n + 1 : Nat) : Int))
    unfold wkS1
    cases hc : cloB S (toks S) (wkN S (toks S) n).1 (tA (toks S) n).2.2.2.2 (wkN S (toks S) n).1.length with
    | none => dsimp only; omega
    | some b =>
      have hb := (hW.2.1 b (cloB_lt hc)).1
      dsimp only
      unfold nup
      refine ⟨?_, ?_⟩
      · by_cases ht : t = n
        · rw [if_pos ht]; omega
        · rw [if_neg ht]; omega
      · by_cases ht : t = opK (wkN S (toks S) n).1 b
        · rw [if_pos ht]; omega
        · rw [if_neg ht]; omega
theorem m_placeOf {z : Int} (hA : mok X hp a) (hP : PG M S) (hL : LO M S) (hz : z = -9 ∨ 0 ≤ z ∧ z < (toks S).length) : MV X yX2_placeOf fX2_placeOf 1 [vR (some a), vI z] (mH hp a M) (fun v hp' => v = vI (plc S z) ∧ mH hp a M = hp') := by
  have htl := toks_le hP.2
  refine MC.of pfX2_placeOf rfl (fun h => by cases h) 0 rfl rfl ?_
  unfold plc
  rcases hz with rfl | ⟨h0, h1⟩
  · refine gs_ild1 (pc := 0) dX2_placeOf_0 ?_
    refine gs_bipush (pc := 1) dX2_placeOf_1 rfl ?_
    refine gs_ic_ne (pc := 3) (tgt := 11) dX2_placeOf_3 (by decide) (by omega) (fun hn => absurd (by decide) hn) (fun _ => ?_)
    refine gs_bipush (pc := 6) dX2_placeOf_6 rfl ?_
    refine gs_goto (pc := 8) (tgt := 34) dX2_placeOf_8 (by decide) ?_
    refine gs_iret (pc := 34) dX2_placeOf_34 rfl ?_
    exact ⟨_, rfl, rfl, rfl⟩
  · obtain ⟨t, rfl⟩ : ∃ t : Nat, z = (t : Int) := ⟨z.toNat, by omega⟩
    have ht : t < (toks S).length := by omega
    have hw := (hL.1.2.2.2 t ht).1
    have hok := (tok_at hP.2 ht).1
    have hc := hP.cnt
    have h10 := hL.1.1 _ (Nat.le_of_lt hok)
    rw [if_neg (by omega), Int.toNat_natCast]
    refine gs_ild1 (pc := 0) dX2_placeOf_0 ?_
    refine gs_bipush (pc := 1) dX2_placeOf_1 rfl ?_
    refine gs_ic_ne (pc := 3) (tgt := 11) dX2_placeOf_3 (by decide) (by omega) (fun _ => ?_) (fun hn => absurd hn (by omega))
    refine gs_bipush (pc := 11) dX2_placeOf_11 rfl ?_
    refine gs_ald0 (pc := 13) dX2_placeOf_13 ?_
    refine gs_getf (pc := 14) 5 dX2_placeOf_14 (mcell hA) clX2 in_X2 (by decide) q2231 (Or.inl rfl) rfl ?_
    refine gs_ild1 (pc := 17) dX2_placeOf_17 ?_
    refine gs_iald (pc := 18) dX2_placeOf_18 (ma_tokenLine hA) (by omega) (by omega) ?_
    refine gs_imul (pc := 19) dX2_placeOf_19 ?_
    refine gs_ild1 (pc := 20) dX2_placeOf_20 ?_
    refine gs_iadd (pc := 21) dX2_placeOf_21 ?_
    refine gs_ald0 (pc := 22) dX2_placeOf_22 ?_
    refine gs_getf (pc := 23) 13 dX2_placeOf_23 (mcell hA) clX2 in_X2 (by decide) q2239 (Or.inl rfl) rfl ?_
    refine gs_ald0 (pc := 26) dX2_placeOf_26 ?_
    refine gs_getf (pc := 27) 5 dX2_placeOf_27 (mcell hA) clX2 in_X2 (by decide) q2231 (Or.inl rfl) rfl ?_
    refine gs_ild1 (pc := 30) dX2_placeOf_30 ?_
    refine gs_iald (pc := 31) dX2_placeOf_31 (ma_tokenLine hA) (by omega) (by omega) ?_
    refine gs_iald (pc := 32) dX2_placeOf_32 (ma_firstOf hA) (by omega) (by omega) ?_
    refine gs_isub (pc := 33) dX2_placeOf_33 ?_
    refine gs_iret (pc := 34) dX2_placeOf_34 rfl ?_
    refine ⟨_, rfl, ?_, rfl⟩
    rw [hw, h10]
theorem m_openedBy {i k : Int} (hA : mok X hp a) (hR : RM M A) (hO : asOk A) (hi : i32 i) (hk : i32 k) : MV X yX2_openedBy fX2_openedBy 8 [vR (some a), vI i, vI k] (mH hp a M) (roP hp a A (sp_part A (fun W => W.2.1) i k)) := by
  refine MC.of pfX2_openedBy rfl (fun h => by cases h) 1 rfl rfl ?_
  unfold sp_part
  have htl := toks_le hO.1
  refine gs_ald0 (pc := 0) dX2_openedBy_0 ?_
  refine gs_ild1 (pc := 1) dX2_openedBy_1 ?_
  refine gs_ild2 (pc := 2) dX2_openedBy_2 ?_
  refine gs_V2 (pc := 3) dX2_openedBy_3 kX2_277 (mcell hA) clX2 (by decide) (Nat.le_of_ble_eq_true rfl) (m_tokenOf hA hR hO hi hk) (fun v hp1 hq => ?_)
  obtain ⟨rfl, M1, rfl, r1, r2⟩ := hq
  cases hT : isT A i k with
  | false =>
    rw [if_neg (by decide), show tkI A i k = -9 by unfold tkI; rw [hT]; rfl]
    refine gs_ist3 (pc := 6) dX2_openedBy_6 rfl ?_
    refine gs_ild3 (pc := 7) dX2_openedBy_7 ?_
    refine gs_bipush (pc := 8) dX2_openedBy_8 rfl ?_
    refine gs_ic_ne (pc := 10) (tgt := 17) dX2_openedBy_10 (by decide) (by omega) (fun hn => absurd (by decide) hn) (fun _ => ?_)
    refine gs_iconst (pc := 13) dX2_openedBy_13 ?_
    refine gs_goto (pc := 14) (tgt := 27) dX2_openedBy_14 (by decide) ?_
    refine gs_iret (pc := 27) dX2_openedBy_27 rfl ?_
    exact ⟨_, rfl, rfl, M1, rfl, r1⟩
  | true =>
    obtain ⟨e1, e2, -⟩ := isT_lt hT
    rw [if_pos rfl, e1]
    have hL := r2 hT
    have hw := (hL.2.1.2.2.2.2 _ e2).2.1
    have hwp := (wk_part (S := A.1) (toks A.1).length (fstO A.1 i.toNat + k.toNat)).1
    have ewk : wkA A.1 (nL A.1) = wkN A.1 (toks A.1) (toks A.1).length := by unfold wkA; rw [fstO_n]
    rw [ewk]
    refine gs_ist3 (pc := 6) dX2_openedBy_6 rfl ?_
    refine gs_ild3 (pc := 7) dX2_openedBy_7 ?_
    refine gs_bipush (pc := 8) dX2_openedBy_8 rfl ?_
    refine gs_ic_ne (pc := 10) (tgt := 17) dX2_openedBy_10 (by decide) (by omega) (fun _ => ?_) (fun hn => absurd hn (by omega))
    refine gs_ald0 (pc := 17) dX2_openedBy_17 ?_
    refine gs_ald0 (pc := 18) dX2_openedBy_18 ?_
    refine gs_getf (pc := 19) 10 dX2_openedBy_19 (mcell hA) clX2 in_X2 (by decide) q2236 (Or.inl rfl) rfl ?_
    refine gs_ild3 (pc := 22) dX2_openedBy_22 ?_
    refine gs_iald (pc := 23) dX2_openedBy_23 (ma_closes hA) (by omega) (by omega) ?_
    rw [hw]
    refine gs_V1 (pc := 24) dX2_openedBy_24 kX2_280 (mcell hA) clX2 (by decide) (Nat.le_of_ble_eq_true rfl) (m_placeOf hA (r1.PG hO) hL hwp) (fun v hp1 hq => ?_)
    obtain ⟨rfl, rfl⟩ := hq
    refine gs_iret (pc := 27) dX2_openedBy_27 rfl ?_
    exact ⟨_, rfl, rfl, M1, rfl, r1⟩
theorem m_closedBy {i k : Int} (hA : mok X hp a) (hR : RM M A) (hO : asOk A) (hi : i32 i) (hk : i32 k) : MV X yX2_closedBy fX2_closedBy 8 [vR (some a), vI i, vI k] (mH hp a M) (roP hp a A (sp_part A (fun W => W.2.2.1) i k)) := by
  refine MC.of pfX2_closedBy rfl (fun h => by cases h) 1 rfl rfl ?_
  unfold sp_part
  have htl := toks_le hO.1
  refine gs_ald0 (pc := 0) dX2_closedBy_0 ?_
  refine gs_ild1 (pc := 1) dX2_closedBy_1 ?_
  refine gs_ild2 (pc := 2) dX2_closedBy_2 ?_
  refine gs_V2 (pc := 3) dX2_closedBy_3 kX2_277 (mcell hA) clX2 (by decide) (Nat.le_of_ble_eq_true rfl) (m_tokenOf hA hR hO hi hk) (fun v hp1 hq => ?_)
  obtain ⟨rfl, M1, rfl, r1, r2⟩ := hq
  cases hT : isT A i k with
  | false =>
    rw [if_neg (by decide), show tkI A i k = -9 by unfold tkI; rw [hT]; rfl]
    refine gs_ist3 (pc := 6) dX2_closedBy_6 rfl ?_
    refine gs_ild3 (pc := 7) dX2_closedBy_7 ?_
    refine gs_bipush (pc := 8) dX2_closedBy_8 rfl ?_
    refine gs_ic_ne (pc := 10) (tgt := 17) dX2_closedBy_10 (by decide) (by omega) (fun hn => absurd (by decide) hn) (fun _ => ?_)
    refine gs_iconst (pc := 13) dX2_closedBy_13 ?_
    refine gs_goto (pc := 14) (tgt := 27) dX2_closedBy_14 (by decide) ?_
    refine gs_iret (pc := 27) dX2_closedBy_27 rfl ?_
    exact ⟨_, rfl, rfl, M1, rfl, r1⟩
  | true =>
    obtain ⟨e1, e2, -⟩ := isT_lt hT
    rw [if_pos rfl, e1]
    have hL := r2 hT
    have hw := (hL.2.1.2.2.2.2 _ e2).2.2
    have hwp := (wk_part (S := A.1) (toks A.1).length (fstO A.1 i.toNat + k.toNat)).2
    have ewk : wkA A.1 (nL A.1) = wkN A.1 (toks A.1) (toks A.1).length := by unfold wkA; rw [fstO_n]
    rw [ewk]
    refine gs_ist3 (pc := 6) dX2_closedBy_6 rfl ?_
    refine gs_ild3 (pc := 7) dX2_closedBy_7 ?_
    refine gs_bipush (pc := 8) dX2_closedBy_8 rfl ?_
    refine gs_ic_ne (pc := 10) (tgt := 17) dX2_closedBy_10 (by decide) (by omega) (fun _ => ?_) (fun hn => absurd hn (by omega))
    refine gs_ald0 (pc := 17) dX2_closedBy_17 ?_
    refine gs_ald0 (pc := 18) dX2_closedBy_18 ?_
    refine gs_getf (pc := 19) 11 dX2_closedBy_19 (mcell hA) clX2 in_X2 (by decide) q2237 (Or.inl rfl) rfl ?_
    refine gs_ild3 (pc := 22) dX2_closedBy_22 ?_
    refine gs_iald (pc := 23) dX2_closedBy_23 (ma_closer hA) (by omega) (by omega) ?_
    rw [hw]
    refine gs_V1 (pc := 24) dX2_closedBy_24 kX2_280 (mcell hA) clX2 (by decide) (Nat.le_of_ble_eq_true rfl) (m_placeOf hA (r1.PG hO) hL hwp) (fun v hp1 hq => ?_)
    obtain ⟨rfl, rfl⟩ := hq
    refine gs_iret (pc := 27) dX2_closedBy_27 rfl ?_
    exact ⟨_, rfl, rfl, M1, rfl, r1⟩
theorem m_depth {i : Int} (hA : mok X hp a) (hR : RM M A) (hO : asOk A) (hi : i32 i) : MV X yX2_depth fX2_depth 7 [vR (some a), vI i] (mH hp a M) (roP hp a A (sp_depth A i)) := by
  refine MC.of pfX2_depth rfl (fun h => by cases h) 0 rfl rfl ?_
  unfold sp_depth
  have hP := hR.PG hO
  have hc := hP.cnt
  refine gs_ild1 (pc := 0) dX2_depth_0 ?_
  refine gs_iconst (pc := 1) dX2_depth_1 ?_
  refine gs_ald0 (pc := 2) dX2_depth_2 ?_
  refine gs_getf (pc := 3) 0 dX2_depth_3 (mcell hA) clX2 in_X2 (by decide) q2226 (Or.inl rfl) rfl ?_
  refine gs_iconst (pc := 6) dX2_depth_6 ?_
  refine gs_iald (pc := 7) dX2_depth_7 (ma_page hA) (by omega) (by omega) ?_
  refine gs_S3 (pc := 8) dX2_depth_8 kX2_79 (by decide) (Nat.le_of_ble_eq_true rfl) (m_in hi (by decide) (by omega)) (fun v hp1 hq => ?_)
  obtain ⟨rfl, rfl⟩ := hq
  refine gs_bne (pc := 11) (tgt := 16) dX2_depth_11 (by decide) (fun h1 => ?_) (fun h1 => ?_)
  · have h1 : 0 ≤ i ∧ i ≤ M.2.1 0 0 := by simpa [inB] using h1
    rw [if_pos (by omega)]
    obtain ⟨n, rfl⟩ : ∃ n : Nat, i = (n : Int) := ⟨i.toNat, by omega⟩
    rw [Int.toNat_natCast]
    refine gs_ald0 (pc := 16) dX2_depth_16 ?_
    refine gs_V0v (pc := 17) dX2_depth_17 kX2_151 (mcell hA) clX2 (by decide) (Nat.le_of_ble_eq_true rfl) (m_looks hA hP) (fun hp1 hq => ?_)
    obtain ⟨M1, rfl, f1, hL⟩ := hq
    refine gs_ald0 (pc := 20) dX2_depth_20 ?_
    refine gs_getf (pc := 21) 15 dX2_depth_21 (mcell hA) clX2 in_X2 (by decide) q2241 (Or.inl rfl) rfl ?_
    refine gs_ild1 (pc := 24) dX2_depth_24 ?_
    refine gs_iald (pc := 25) dX2_depth_25 (ma_depths hA) (by omega) (by omega) ?_
    rw [(hL.2.2 n (by omega)).1]
    refine gs_iret (pc := 26) dX2_depth_26 rfl ?_
    exact ⟨_, rfl, rfl, M1, rfl, hR.kp f1.kp⟩
  · have h1 : ¬ (0 ≤ i ∧ i ≤ M.2.1 0 0) := by simpa [inB] using h1
    rw [if_neg (by omega)]
    refine gs_iconst (pc := 14) dX2_depth_14 ?_
    refine gs_iret (pc := 15) dX2_depth_15 rfl ?_
    exact ⟨_, rfl, rfl, M, rfl, hR⟩
def bkI (A : AS) (i k : Int) : Int := if isBk A i k then (opK (wkA A.1 i.toNat).1 k.toNat : Nat) else -9
theorem m_blockOf {i k : Int} (hA : mok X hp a) (hR : RM M A) (hO : asOk A) (hi : i32 i) (hk : i32 k) : MV X yX2_blockOf fX2_blockOf 8 [vR (some a), vI i, vI k] (mH hp a M) (fun v hp' => v = vI (bkI A i k) ∧ ∃ M', hp' = mH hp a M' ∧ RM M' A ∧ (isBk A i k = true → US M' A.1 (indS A.1) A.1.2.2.1 A.1.2.2.2.1 ∧ opM M' A.1 (opK (wkA A.1 i.toNat).1 k.toNat))) := by
  refine MC.of pfX2_blockOf rfl (fun h => by cases h) 0 rfl rfl ?_
  unfold bkI
  have hP := hR.PG hO
  have hc := hP.cnt
  obtain ⟨s1, s2, s3, s4⟩ := hP.sb
  refine gs_ild1 (pc := 0) dX2_blockOf_0 ?_
  refine gs_iconst (pc := 1) dX2_blockOf_1 ?_
  refine gs_ald0 (pc := 2) dX2_blockOf_2 ?_
  refine gs_getf (pc := 3) 0 dX2_blockOf_3 (mcell hA) clX2 in_X2 (by decide) q2226 (Or.inl rfl) rfl ?_
  refine gs_iconst (pc := 6) dX2_blockOf_6 ?_
  refine gs_iald (pc := 7) dX2_blockOf_7 (ma_page hA) (by omega) (by omega) ?_
  refine gs_S3 (pc := 8) dX2_blockOf_8 kX2_79 (by decide) (Nat.le_of_ble_eq_true rfl) (m_in hi (by decide) (by omega)) (fun v hp1 hq => ?_)
  obtain ⟨rfl, rfl⟩ := hq
  refine gs_bne (pc := 11) (tgt := 17) dX2_blockOf_11 (by decide) (fun h1 => ?_) (fun h1 => ?_)
  · have h1 : 0 ≤ i ∧ i ≤ M.2.1 0 0 := by simpa [inB] using h1
    obtain ⟨n, rfl⟩ : ∃ n : Nat, i = (n : Int) := ⟨i.toNat, by omega⟩
    rw [Int.toNat_natCast]
    have eb : isBk A n k = decide (0 ≤ k ∧ k < ((wkA A.1 n).1.length : Nat)) := by
      unfold isBk
      rw [Int.toNat_natCast]
      congr 1
      apply propext
      constructor <;> intro h <;> omega
    rw [eb]
    refine gs_ald0 (pc := 17) dX2_blockOf_17 ?_
    refine gs_ald0 (pc := 18) dX2_blockOf_18 ?_
    refine gs_getf (pc := 19) 0 dX2_blockOf_19 (mcell hA) clX2 in_X2 (by decide) q2226 (Or.inl rfl) rfl ?_
    refine gs_sipush (pc := 22) dX2_blockOf_22 rfl ?_
    refine gs_iald (pc := 25) dX2_blockOf_25 (ma_page hA) (by omega) (by omega) ?_
    refine gs_ald0 (pc := 26) dX2_blockOf_26 ?_
    refine gs_getf (pc := 27) 0 dX2_blockOf_27 (mcell hA) clX2 in_X2 (by decide) q2226 (Or.inl rfl) rfl ?_
    refine gs_sipush (pc := 30) dX2_blockOf_30 rfl ?_
    refine gs_iald (pc := 33) dX2_blockOf_33 (ma_page hA) (by omega) (by omega) ?_
    rw [s1, s2]
    refine gs_V2v (pc := 34) dX2_blockOf_34 kX2_222 (mcell hA) clX2 (by decide) (Nat.le_of_ble_eq_true rfl) (m_uses hA hP s3 s4) (fun hp1 hq => ?_)
    obtain ⟨M1, rfl, f1, hU⟩ := hq
    have hw12 := wkA_12 (S := A.1) n
    obtain ⟨n12, n13⟩ := hU.2.1.2.2 n (by omega)
    have hfl := fstO_le (S := A.1) (i := n) (j := nL A.1) (by omega)
    rw [fstO_n] at hfl
    refine gs_ild2 (pc := 37) dX2_blockOf_37 ?_
    refine gs_iconst (pc := 38) dX2_blockOf_38 ?_
    refine gs_ald0 (pc := 39) dX2_blockOf_39 ?_
    refine gs_getf (pc := 40) 15 dX2_blockOf_40 (mcell hA) clX2 in_X2 (by decide) q2241 (Or.inl rfl) rfl ?_
    refine gs_ild1 (pc := 43) dX2_blockOf_43 ?_
    refine gs_iald (pc := 44) dX2_blockOf_44 (ma_depths hA) (by omega) (by omega) ?_
    rw [n12]
    refine gs_iconst (pc := 45) dX2_blockOf_45 ?_
    refine gs_isub (pc := 46) dX2_blockOf_46 ?_
    refine gs_S3 (pc := 47) dX2_blockOf_47 kX2_79 (by decide) (Nat.le_of_ble_eq_true rfl) (m_in hk (by decide) (by omega)) (fun v hp1 hq => ?_)
    obtain ⟨rfl, rfl⟩ := hq
    refine gs_beq (pc := 50) (tgt := 67) dX2_blockOf_50 (by decide) (fun h2 => ?_) (fun h2 => ?_)
    · have h2 : ¬ (0 ≤ k ∧ k ≤ ((wkA A.1 n).1.length : Int) - 1) := by simpa [inB] using h2
      rw [decide_eq_false (by omega)]
      refine gs_bipush (pc := 67) dX2_blockOf_67 rfl ?_
      refine gs_iret (pc := 69) dX2_blockOf_69 rfl ?_
      exact ⟨_, rfl, rfl, M1, rfl, hR.kp f1.kp, fun h => by cases h⟩
    · have h2 : 0 ≤ k ∧ k ≤ ((wkA A.1 n).1.length : Int) - 1 := by simpa [inB] using h2
      obtain ⟨j, rfl⟩ : ∃ j : Nat, k = (j : Int) := ⟨k.toNat, by omega⟩
      rw [decide_eq_true (by omega), Int.toNat_natCast]
      refine gs_ald0 (pc := 53) dX2_blockOf_53 ?_
      refine gs_getf (pc := 54) 16 dX2_blockOf_54 (mcell hA) clX2 in_X2 (by decide) q2242 (Or.inl rfl) rfl ?_
      refine gs_bipush (pc := 57) dX2_blockOf_57 rfl ?_
      refine gs_ild1 (pc := 59) dX2_blockOf_59 ?_
      refine gs_imul (pc := 60) dX2_blockOf_60 ?_
      refine gs_ild2 (pc := 61) dX2_blockOf_61 ?_
      refine gs_iadd (pc := 62) dX2_blockOf_62 ?_
      refine gs_iald (pc := 63) dX2_blockOf_63 (ma_stacks hA) (by omega) (by omega) ?_
      rw [n13 j (by omega)]
      refine gs_goto (pc := 64) (tgt := 69) dX2_blockOf_64 (by decide) ?_
      refine gs_iret (pc := 69) dX2_blockOf_69 rfl ?_
      exact ⟨_, rfl, rfl, M1, rfl, hR.kp f1.kp, fun _ => ⟨hU, hU.op hfl (by show j < (wkA A.1 n).1.length; omega)⟩⟩
  · have h1 : ¬ (0 ≤ i ∧ i ≤ M.2.1 0 0) := by simpa [inB] using h1
    have eb : isBk A i k = false := decide_eq_false (by omega)
    rw [eb]
    refine gs_bipush (pc := 14) dX2_blockOf_14 rfl ?_
    refine gs_iret (pc := 16) dX2_blockOf_16 rfl ?_
    exact ⟨_, rfl, rfl, M, rfl, hR, fun h => by cases h⟩
theorem m_blockRule {i k : Int} (hA : mok X hp a) (hR : RM M A) (hO : asOk A) (hi : i32 i) (hk : i32 k) : MV X yX2_blockRule fX2_blockRule 9 [vR (some a), vI i, vI k] (mH hp a M) (roP hp a A (sp_blockRule A i k)) := by
  refine MC.of pfX2_blockRule rfl (fun h => by cases h) 1 rfl rfl ?_
  unfold sp_blockRule
  have htl := toks_le hO.1
  refine gs_ald0 (pc := 0) dX2_blockRule_0 ?_
  refine gs_ild1 (pc := 1) dX2_blockRule_1 ?_
  refine gs_ild2 (pc := 2) dX2_blockRule_2 ?_
  refine gs_V2 (pc := 3) dX2_blockRule_3 kX2_283 (mcell hA) clX2 (by decide) (Nat.le_of_ble_eq_true rfl) (m_blockOf hA hR hO hi hk) (fun v hp1 hq => ?_)
  obtain ⟨rfl, M1, rfl, r1, r2⟩ := hq
  cases hT : isBk A i k with
  | false =>
    rw [if_neg (by decide), show bkI A i k = -9 by unfold bkI; rw [hT]; rfl]
    refine gs_ist3 (pc := 6) dX2_blockRule_6 rfl ?_
    refine gs_ild3 (pc := 7) dX2_blockRule_7 ?_
    refine gs_bipush (pc := 8) dX2_blockRule_8 rfl ?_
    refine gs_ic_ne (pc := 10) (tgt := 17) dX2_blockRule_10 (by decide) (by omega) (fun hn => absurd (by decide) hn) (fun _ => ?_)
    refine gs_iconst (pc := 13) dX2_blockRule_13 ?_
    refine gs_goto (pc := 14) (tgt := 23) dX2_blockRule_14 (by decide) ?_
    refine gs_iret (pc := 23) dX2_blockRule_23 rfl ?_
    exact ⟨_, rfl, rfl, M1, rfl, r1⟩
  | true =>
    rw [if_pos rfl, show bkI A i k = (opK (wkA A.1 i.toNat).1 k.toNat : Nat) by unfold bkI; rw [hT]; rfl]
    obtain ⟨hU, o1, o2, o3⟩ := r2 hT
    refine gs_ist3 (pc := 6) dX2_blockRule_6 rfl ?_
    refine gs_ild3 (pc := 7) dX2_blockRule_7 ?_
    refine gs_bipush (pc := 8) dX2_blockRule_8 rfl ?_
    refine gs_ic_ne (pc := 10) (tgt := 17) dX2_blockRule_10 (by decide) (by omega) (fun _ => ?_) (fun hn => absurd hn (by omega))
    refine gs_ald0 (pc := 17) dX2_blockRule_17 ?_
    refine gs_getf (pc := 18) 9 dX2_blockRule_18 (mcell hA) clX2 in_X2 (by decide) q2235 (Or.inl rfl) rfl ?_
    refine gs_ild3 (pc := 21) dX2_blockRule_21 ?_
    refine gs_iald (pc := 22) dX2_blockRule_22 (ma_opens hA) (by omega) (by omega) ?_
    rw [o2]
    refine gs_iret (pc := 23) dX2_blockRule_23 rfl ?_
    exact ⟨_, rfl, rfl, M1, rfl, r1⟩
theorem m_blockOpening {i k : Int} (hA : mok X hp a) (hR : RM M A) (hO : asOk A) (hi : i32 i) (hk : i32 k) : MV X yX2_blockOpening fX2_blockOpening 9 [vR (some a), vI i, vI k] (mH hp a M) (roP hp a A (sp_blockOpening A i k)) := by
  refine MC.of pfX2_blockOpening rfl (fun h => by cases h) 1 rfl rfl ?_
  unfold sp_blockOpening
  have htl := toks_le hO.1
  refine gs_ald0 (pc := 0) dX2_blockOpening_0 ?_
  refine gs_ild1 (pc := 1) dX2_blockOpening_1 ?_
  refine gs_ild2 (pc := 2) dX2_blockOpening_2 ?_
  refine gs_V2 (pc := 3) dX2_blockOpening_3 kX2_283 (mcell hA) clX2 (by decide) (Nat.le_of_ble_eq_true rfl) (m_blockOf hA hR hO hi hk) (fun v hp1 hq => ?_)
  obtain ⟨rfl, M1, rfl, r1, r2⟩ := hq
  cases hT : isBk A i k with
  | false =>
    rw [if_neg (by decide), show bkI A i k = -9 by unfold bkI; rw [hT]; rfl]
    refine gs_ist3 (pc := 6) dX2_blockOpening_6 rfl ?_
    refine gs_ild3 (pc := 7) dX2_blockOpening_7 ?_
    refine gs_bipush (pc := 8) dX2_blockOpening_8 rfl ?_
    refine gs_ic_ne (pc := 10) (tgt := 17) dX2_blockOpening_10 (by decide) (by omega) (fun hn => absurd (by decide) hn) (fun _ => ?_)
    refine gs_iconst (pc := 13) dX2_blockOpening_13 ?_
    refine gs_goto (pc := 14) (tgt := 32) dX2_blockOpening_14 (by decide) ?_
    refine gs_iret (pc := 32) dX2_blockOpening_32 rfl ?_
    exact ⟨_, rfl, rfl, M1, rfl, r1⟩
  | true =>
    rw [if_pos rfl, show bkI A i k = (opK (wkA A.1 i.toNat).1 k.toNat : Nat) by unfold bkI; rw [hT]; rfl]
    obtain ⟨hU, o1, o2, o3⟩ := r2 hT
    have hw := (hU.2.1.1.2.2.2 _ o1).1
    refine gs_ist3 (pc := 6) dX2_blockOpening_6 rfl ?_
    refine gs_ild3 (pc := 7) dX2_blockOpening_7 ?_
    refine gs_bipush (pc := 8) dX2_blockOpening_8 rfl ?_
    refine gs_ic_ne (pc := 10) (tgt := 17) dX2_blockOpening_10 (by decide) (by omega) (fun _ => ?_) (fun hn => absurd hn (by omega))
    refine gs_bipush (pc := 17) dX2_blockOpening_17 rfl ?_
    refine gs_ald0 (pc := 19) dX2_blockOpening_19 ?_
    refine gs_getf (pc := 20) 5 dX2_blockOpening_20 (mcell hA) clX2 in_X2 (by decide) q2231 (Or.inl rfl) rfl ?_
    refine gs_ild3 (pc := 23) dX2_blockOpening_23 ?_
    refine gs_iald (pc := 24) dX2_blockOpening_24 (ma_tokenLine hA) (by omega) (by omega) ?_
    rw [hw]
    refine gs_imul (pc := 25) dX2_blockOpening_25 ?_
    refine gs_ald0 (pc := 26) dX2_blockOpening_26 ?_
    refine gs_ild3 (pc := 27) dX2_blockOpening_27 ?_
    refine gs_V1 (pc := 28) dX2_blockOpening_28 kX2_163 (mcell hA) clX2 (by decide) (Nat.le_of_ble_eq_true rfl) (m_columnOf hA hU o1) (fun v hp1 hq => ?_)
    obtain ⟨rfl, rfl⟩ := hq
    refine gs_iadd (pc := 31) dX2_blockOpening_31 ?_
    refine gs_iret (pc := 32) dX2_blockOpening_32 rfl ?_
    exact ⟨_, rfl, by dsimp only; congr 1; omega, M1, rfl, r1⟩
theorem m_contentColumn {i k : Int} (hA : mok X hp a) (hR : RM M A) (hO : asOk A) (hi : i32 i) (hk : i32 k) : MV X yX2_contentColumn fX2_contentColumn 9 [vR (some a), vI i, vI k] (mH hp a M) (roP hp a A (sp_contentColumn A i k)) := by
  refine MC.of pfX2_contentColumn rfl (fun h => by cases h) 1 rfl rfl ?_
  unfold sp_contentColumn
  have htl := toks_le hO.1
  refine gs_ald0 (pc := 0) dX2_contentColumn_0 ?_
  refine gs_ild1 (pc := 1) dX2_contentColumn_1 ?_
  refine gs_ild2 (pc := 2) dX2_contentColumn_2 ?_
  refine gs_V2 (pc := 3) dX2_contentColumn_3 kX2_283 (mcell hA) clX2 (by decide) (Nat.le_of_ble_eq_true rfl) (m_blockOf hA hR hO hi hk) (fun v hp1 hq => ?_)
  obtain ⟨rfl, M1, rfl, r1, r2⟩ := hq
  cases hT : isBk A i k with
  | false =>
    rw [if_neg (by decide), show bkI A i k = -9 by unfold bkI; rw [hT]; rfl]
    refine gs_ist3 (pc := 6) dX2_contentColumn_6 rfl ?_
    refine gs_ild3 (pc := 7) dX2_contentColumn_7 ?_
    refine gs_bipush (pc := 8) dX2_contentColumn_8 rfl ?_
    refine gs_ic_ne (pc := 10) (tgt := 17) dX2_contentColumn_10 (by decide) (by omega) (fun hn => absurd (by decide) hn) (fun _ => ?_)
    refine gs_iconst (pc := 13) dX2_contentColumn_13 ?_
    refine gs_goto (pc := 14) (tgt := 22) dX2_contentColumn_14 (by decide) ?_
    refine gs_iret (pc := 22) dX2_contentColumn_22 rfl ?_
    exact ⟨_, rfl, rfl, M1, rfl, r1⟩
  | true =>
    rw [if_pos rfl, show bkI A i k = (opK (wkA A.1 i.toNat).1 k.toNat : Nat) by unfold bkI; rw [hT]; rfl]
    obtain ⟨hU, ho⟩ := r2 hT
    have o1 := ho.1
    refine gs_ist3 (pc := 6) dX2_contentColumn_6 rfl ?_
    refine gs_ild3 (pc := 7) dX2_contentColumn_7 ?_
    refine gs_bipush (pc := 8) dX2_contentColumn_8 rfl ?_
    refine gs_ic_ne (pc := 10) (tgt := 17) dX2_contentColumn_10 (by decide) (by omega) (fun _ => ?_) (fun hn => absurd hn (by omega))
    refine gs_ald0 (pc := 17) dX2_contentColumn_17 ?_
    refine gs_ild3 (pc := 18) dX2_contentColumn_18 ?_
    refine gs_V1 (pc := 19) dX2_contentColumn_19 kX2_179 (mcell hA) clX2 (by decide) (Nat.le_of_ble_eq_true rfl) (m_columnIn hA hU ho) (fun v hp1 hq => ?_)
    obtain ⟨rfl, rfl⟩ := hq
    refine gs_iret (pc := 22) dX2_contentColumn_22 rfl ?_
    exact ⟨_, rfl, rfl, M1, rfl, r1⟩
theorem m_strays (hA : mok X hp a) (hR : RM M A) (hO : asOk A) : MV X yX2_strays fX2_strays 7 [vR (some a)] (mH hp a M) (roP hp a A (sp_strays A)) := by
  refine MC.of pfX2_strays rfl (fun h => by cases h) 0 rfl rfl ?_
  have ewk : wkA A.1 (nL A.1) = wkN A.1 (toks A.1) (toks A.1).length := by unfold wkA; rw [fstO_n]
  refine gs_ald0 (pc := 0) dX2_strays_0 ?_
  refine gs_V0v (pc := 1) dX2_strays_1 kX2_151 (mcell hA) clX2 (by decide) (Nat.le_of_ble_eq_true rfl) (m_looks hA (hR.PG hO)) (fun hp1 hq => ?_)
  obtain ⟨M1, rfl, f1, hL⟩ := hq
  refine gs_ald0 (pc := 4) dX2_strays_4 ?_
  refine gs_getf (pc := 5) 19 dX2_strays_5 (mcell hA) clX2 in_X2 (by decide) q2245 (Or.inl rfl) rfl ?_
  refine gs_iret (pc := 8) dX2_strays_8 rfl ?_
  refine ⟨_, rfl, ?_, M1, rfl, hR.kp f1.kp⟩
  unfold sp_strays
  rw [ewk]
  exact congrArg vI hL.2.1.2.2.1
theorem m_lost (hA : mok X hp a) (hR : RM M A) (hO : asOk A) : MV X yX2_lost fX2_lost 7 [vR (some a)] (mH hp a M) (roP hp a A (sp_lost A)) := by
  refine MC.of pfX2_lost rfl (fun h => by cases h) 0 rfl rfl ?_
  have ewk : wkA A.1 (nL A.1) = wkN A.1 (toks A.1) (toks A.1).length := by unfold wkA; rw [fstO_n]
  refine gs_ald0 (pc := 0) dX2_lost_0 ?_
  refine gs_V0v (pc := 1) dX2_lost_1 kX2_151 (mcell hA) clX2 (by decide) (Nat.le_of_ble_eq_true rfl) (m_looks hA (hR.PG hO)) (fun hp1 hq => ?_)
  obtain ⟨M1, rfl, f1, hL⟩ := hq
  refine gs_ald0 (pc := 4) dX2_lost_4 ?_
  refine gs_getf (pc := 5) 20 dX2_lost_5 (mcell hA) clX2 in_X2 (by decide) q2246 (Or.inl rfl) rfl ?_
  refine gs_iret (pc := 8) dX2_lost_8 rfl ?_
  refine ⟨_, rfl, ?_, M1, rfl, hR.kp f1.kp⟩
  unfold sp_lost
  rw [ewk]
  exact congrArg vI hL.2.1.2.2.2.1
end O1
