/-! THE MODEL: the digest. -/
section R3
variable {X : gCx} {hp : gHp} {a : Nat} {M M' : MS} {A : AS} {S S' : SS} {x : List Int} {n k m lo i j r w : Nat} {p p' : Int → Int} {ind : Nat → Int} {stp bse : Int}
theorem mL_mL {x y : Int64} : mL (mL M x) y = mL M y := rfl
theorem mL_self : mL M M.2.2 = M := rfl
theorem m_mixes {v : Int} (hA : mok X hp a) : M0 X yX2_mixes fX2_mixes 1 [vR (some a), vI v] (mH hp a M) (fun hp' => hp' = mH hp a (mL M (mx M.2.2 v))) := by
  refine MC.of pfX2_mixes rfl (fun h => by cases h) 0 rfl rfl ?_
  refine gs_ald0 (pc := 0) dX2_mixes_0 ?_
  refine gs_ldc2 (pc := 1) (x := (31 : Int64)) dX2_mixes_1 q2775 ?_
  refine gs_ald0 (pc := 4) dX2_mixes_4 ?_
  refine gs_getf (pc := 5) 40 dX2_mixes_5 (mcell hA) clX2 in_X2 (by decide) q2266 (Or.inl rfl) rfl ?_
  refine gs_lmul (pc := 8) dX2_mixes_8 ?_
  refine gs_ild1 (pc := 9) dX2_mixes_9 ?_
  refine gs_i2l (pc := 10) dX2_mixes_10 ?_
  refine gs_ladd (pc := 11) dX2_mixes_11 ?_
  refine mp_hash (pc := 12) rfl hA dX2_mixes_12 ?_
  refine gs_vret (pc := 15) dX2_mixes_15 rfl ?_
  exact ⟨rfl, rfl⟩
theorem mxT_s {h : Int64} (hk : k < x.length) : mxT h (x.take (k + 1)) = mx (mxT h (x.take k)) (x.getD k 0) := by
  unfold mxT
  rw [take_s x k hk, List.foldl_append, getD_in hk]
  rfl
theorem m_mixesText {o : Int} (hA : mok X hp a) (hx : pgT (M.2.1 0) o x) (ho : 0 ≤ o ∧ o + 40 ≤ 10780) (hl : x.length ≤ 32) : M0 X yX2_mixesText fX2_mixesText 2 [vR (some a), vI o] (mH hp a M) (fun hp' => hp' = mH hp a (mL M (mxT M.2.2 x))) := by
  refine MC.of pfX2_mixesText rfl (fun h => by cases h) 1 rfl rfl ?_
  have loop : ∀ (r k : Nat), k + r = x.length → G X fX2_mixesText 2 2 [some (vR (some a)), some (vI o), some (vI (k : Int))] [] (mH hp a (mL M (mxT M.2.2 (x.take k)))) (fun r hp' => r = none ∧ hp' = mH hp a (mL M (mxT M.2.2 x))) := by
    intro r
    induction r with
    | zero =>
      intro k hk
      have e0 : (mL M (mxT M.2.2 (x.take k))).2.1 0 o = x.length := hx.1
      refine gs_ild2 (pc := 2) dX2_mixesText_2 ?_
      refine gs_ald0 (pc := 3) dX2_mixesText_3 ?_
      refine gs_getf (pc := 4) 0 dX2_mixesText_4 (mcell hA) clX2 in_X2 (by decide) q2226 (Or.inl rfl) rfl ?_
      refine gs_ild1 (pc := 7) dX2_mixesText_7 ?_
      refine gs_iald (pc := 8) dX2_mixesText_8 (ma_page hA) (by omega) (by omega) ?_
      refine gs_ic_ge (pc := 9) (tgt := 32) dX2_mixesText_9 (by decide) (by omega) (fun _ => ?_) (fun hn => absurd (by omega) hn)
      refine gs_vret (pc := 32) dX2_mixesText_32 rfl ?_
      rw [List.take_of_length_le (by omega)]
      exact ⟨rfl, rfl⟩
    | succ r ih =>
      intro k hk
      have e0 : (mL M (mxT M.2.2 (x.take k))).2.1 0 o = x.length := hx.1
      have e1 : (mL M (mxT M.2.2 (x.take k))).2.1 0 (o + 1 + k) = x.getD k 0 := hx.2 k (by omega)
      have hi := ih (k + 1) (by omega)
      rw [mxT_s (by omega)] at hi
      refine gs_ild2 (pc := 2) dX2_mixesText_2 ?_
      refine gs_ald0 (pc := 3) dX2_mixesText_3 ?_
      refine gs_getf (pc := 4) 0 dX2_mixesText_4 (mcell hA) clX2 in_X2 (by decide) q2226 (Or.inl rfl) rfl ?_
      refine gs_ild1 (pc := 7) dX2_mixesText_7 ?_
      refine gs_iald (pc := 8) dX2_mixesText_8 (ma_page hA) (by omega) (by omega) ?_
      refine gs_ic_ge (pc := 9) (tgt := 32) dX2_mixesText_9 (by decide) (by omega) (fun hn => absurd hn (by omega)) (fun _ => ?_)
      refine gs_ald0 (pc := 12) dX2_mixesText_12 ?_
      refine gs_ald0 (pc := 13) dX2_mixesText_13 ?_
      refine gs_getf (pc := 14) 0 dX2_mixesText_14 (mcell hA) clX2 in_X2 (by decide) q2226 (Or.inl rfl) rfl ?_
      refine gs_ild1 (pc := 17) dX2_mixesText_17 ?_
      refine gs_iconst (pc := 18) dX2_mixesText_18 ?_
      refine gs_iadd (pc := 19) dX2_mixesText_19 ?_
      refine gs_ild2 (pc := 20) dX2_mixesText_20 ?_
      refine gs_iadd (pc := 21) dX2_mixesText_21 ?_
      refine gs_iald (pc := 22) dX2_mixesText_22 (ma_page hA) (by omega) (by omega) ?_
      rw [e1]
      refine gs_V1v (pc := 23) dX2_mixesText_23 kX2_315 (mcell hA) clX2 (by decide) (Nat.le_of_ble_eq_true rfl) (m_mixes hA) (fun hp1 hq => ?_)
      obtain ⟨rfl⟩ := hq
      refine gs_inc2 (pc := 26) dX2_mixesText_26 rfl ?_
      refine gs_goto (pc := 29) (tgt := 2) dX2_mixesText_29 (by decide) ?_
      exact hi
  refine gs_iconst (pc := 0) dX2_mixesText_0 ?_
  refine gs_ist2 (pc := 1) dX2_mixesText_1 rfl ?_
  exact loop x.length 0 (by omega)
theorem m_mixesRule (hA : mok X hp a) (hP : PG M S) (hr : r < 12) : M0 X yX2_mixesRule fX2_mixesRule 3 [vR (some a), vI (r : Int)] (mH hp a M) (fun hp' => hp' = mH hp a (mL M (mxR M.2.2 (S.2.1 r)))) := by
  refine MC.of pfX2_mixesRule rfl (fun h => by cases h) 2 rfl rfl ?_
  cases hR : S.2.1 r with
  | none =>
    have h0 := hP.rlN hr hR
    refine gs_sipush (pc := 0) dX2_mixesRule_0 rfl ?_
    refine gs_bipush (pc := 3) dX2_mixesRule_3 rfl ?_
    refine gs_ild1 (pc := 5) dX2_mixesRule_5 ?_
    refine gs_imul (pc := 6) dX2_mixesRule_6 ?_
    refine gs_iadd (pc := 7) dX2_mixesRule_7 ?_
    refine gs_ist2 (pc := 8) dX2_mixesRule_8 rfl ?_
    refine gs_ald0 (pc := 9) dX2_mixesRule_9 ?_
    refine gs_getf (pc := 10) 0 dX2_mixesRule_10 (mcell hA) clX2 in_X2 (by decide) q2226 (Or.inl rfl) rfl ?_
    refine gs_ild2 (pc := 13) dX2_mixesRule_13 ?_
    refine gs_iconst (pc := 14) dX2_mixesRule_14 ?_
    refine gs_iadd (pc := 15) dX2_mixesRule_15 ?_
    refine gs_iald (pc := 16) dX2_mixesRule_16 (ma_page hA) (by omega) (by omega) ?_
    rw [h0]
    refine gs_ist3 (pc := 17) dX2_mixesRule_17 rfl ?_
    refine gs_ald0 (pc := 18) dX2_mixesRule_18 ?_
    refine gs_ild3 (pc := 19) dX2_mixesRule_19 ?_
    refine gs_V1v (pc := 20) dX2_mixesRule_20 kX2_315 (mcell hA) clX2 (by decide) (Nat.le_of_ble_eq_true rfl) (m_mixes hA) (fun hp1 hq => ?_)
    obtain ⟨rfl⟩ := hq
    refine gs_ild3 (pc := 23) dX2_mixesRule_23 ?_
    refine gs_if_ne (pc := 24) (tgt := 28) dX2_mixesRule_24 (by decide) (by omega) (fun hn => absurd (by decide) hn) (fun _ => ?_)
    refine gs_vret (pc := 27) dX2_mixesRule_27 rfl ?_
    exact ⟨rfl, rfl⟩
  | some R =>
    obtain ⟨g0, g1, g2, g3, g4, g5, g6, g7⟩ := hP.rlS hr hR
    have g01 := g0.1
    have hxl := g0.2.2.2.2.2.2.1.2.1
    have hyl := fun h => (g0.2.2.2.2.2.2.2 h).2.1
    unfold mxR
    dsimp only
    refine gs_sipush (pc := 0) dX2_mixesRule_0 rfl ?_
    refine gs_bipush (pc := 3) dX2_mixesRule_3 rfl ?_
    refine gs_ild1 (pc := 5) dX2_mixesRule_5 ?_
    refine gs_imul (pc := 6) dX2_mixesRule_6 ?_
    refine gs_iadd (pc := 7) dX2_mixesRule_7 ?_
    refine gs_ist2 (pc := 8) dX2_mixesRule_8 rfl ?_
    refine gs_ald0 (pc := 9) dX2_mixesRule_9 ?_
    refine gs_getf (pc := 10) 0 dX2_mixesRule_10 (mcell hA) clX2 in_X2 (by decide) q2226 (Or.inl rfl) rfl ?_
    refine gs_ild2 (pc := 13) dX2_mixesRule_13 ?_
    refine gs_iconst (pc := 14) dX2_mixesRule_14 ?_
    refine gs_iadd (pc := 15) dX2_mixesRule_15 ?_
    refine gs_iald (pc := 16) dX2_mixesRule_16 (ma_page hA) (by omega) (by omega) ?_
    rw [g1]
    refine gs_ist3 (pc := 17) dX2_mixesRule_17 rfl ?_
    refine gs_ald0 (pc := 18) dX2_mixesRule_18 ?_
    refine gs_ild3 (pc := 19) dX2_mixesRule_19 ?_
    refine gs_V1v (pc := 20) dX2_mixesRule_20 kX2_315 (mcell hA) clX2 (by decide) (Nat.le_of_ble_eq_true rfl) (m_mixes hA) (fun hp1 hq => ?_)
    obtain ⟨rfl⟩ := hq
    refine gs_ild3 (pc := 23) dX2_mixesRule_23 ?_
    refine gs_if_ne (pc := 24) (tgt := 28) dX2_mixesRule_24 (by decide) (by omega) (fun _ => ?_) (fun hn => absurd hn (by omega))
    refine gs_ald0 (pc := 28) dX2_mixesRule_28 ?_
    refine gs_ald0 (pc := 29) dX2_mixesRule_29 ?_
    refine gs_getf (pc := 30) 0 dX2_mixesRule_30 (mcell hA) clX2 in_X2 (by decide) q2226 (Or.inl rfl) rfl ?_
    refine gs_ild2 (pc := 33) dX2_mixesRule_33 ?_
    refine gs_iconst (pc := 34) dX2_mixesRule_34 ?_
    refine gs_iadd (pc := 35) dX2_mixesRule_35 ?_
    refine gs_iald (pc := 36) dX2_mixesRule_36 (ma_page hA) (by omega) (by omega) ?_
    rw [show ∀ h : Int64, (mL M h).2.1 0 (701 + 23 * (r : Int) + 1) = R.2.1 from fun _ => g2]
    refine gs_V1v (pc := 37) dX2_mixesRule_37 kX2_315 (mcell hA) clX2 (by decide) (Nat.le_of_ble_eq_true rfl) (m_mixes hA) (fun hp1 hq => ?_)
    obtain ⟨rfl⟩ := hq
    refine gs_ald0 (pc := 40) dX2_mixesRule_40 ?_
    refine gs_ald0 (pc := 41) dX2_mixesRule_41 ?_
    refine gs_getf (pc := 42) 0 dX2_mixesRule_42 (mcell hA) clX2 in_X2 (by decide) q2226 (Or.inl rfl) rfl ?_
    refine gs_ild2 (pc := 45) dX2_mixesRule_45 ?_
    refine gs_iconst (pc := 46) dX2_mixesRule_46 ?_
    refine gs_iadd (pc := 47) dX2_mixesRule_47 ?_
    refine gs_iald (pc := 48) dX2_mixesRule_48 (ma_page hA) (by omega) (by omega) ?_
    rw [show ∀ h : Int64, (mL (mL M h) (mx (mL M h).2.2 R.2.1)).2.1 0 (701 + 23 * (r : Int) + 2) = R.2.2.1 from fun _ => g3]
    refine gs_V1v (pc := 49) dX2_mixesRule_49 kX2_315 (mcell hA) clX2 (by decide) (Nat.le_of_ble_eq_true rfl) (m_mixes hA) (fun hp1 hq => ?_)
    obtain ⟨rfl⟩ := hq
    show G X fX2_mixesRule 3 52 _ [] (mH hp a (mL M (mx (mx (mx M.2.2 R.1) R.2.1) R.2.2.1))) _
    refine gs_ild3 (pc := 52) dX2_mixesRule_52 ?_
    refine gs_iconst (pc := 53) dX2_mixesRule_53 ?_
    refine gs_ic_ne (pc := 54) (tgt := 81) dX2_mixesRule_54 (by decide) (by omega) (fun h1 => ?_) (fun h1 => ?_)
    · rw [if_neg h1]
      generalize mx (mx (mx M.2.2 R.1) R.2.1) R.2.2.1 = h
      refine gs_ald0 (pc := 81) dX2_mixesRule_81 ?_
      refine gs_ild2 (pc := 82) dX2_mixesRule_82 ?_
      refine gs_iconst (pc := 83) dX2_mixesRule_83 ?_
      refine gs_iadd (pc := 84) dX2_mixesRule_84 ?_
      refine gs_V1v (pc := 85) dX2_mixesRule_85 kX2_318 (mcell hA) clX2 (by decide) (Nat.le_of_ble_eq_true rfl) (m_mixesText hA (show pgT ((mL M h).2.1 0) (701 + 23 * (r : Int) + 5) R.2.2.2.2.2.1 from g6) (by omega) (by omega)) (fun hp1 hq => ?_)
      obtain ⟨rfl⟩ := hq
      refine gs_ild3 (pc := 88) dX2_mixesRule_88 ?_
      refine gs_iconst (pc := 89) dX2_mixesRule_89 ?_
      refine gs_ic_ne (pc := 90) (tgt := 107) dX2_mixesRule_90 (by decide) (by omega) (fun _ => ?_) (fun hn => absurd hn h1)
      refine gs_vret (pc := 107) dX2_mixesRule_107 rfl ?_
      exact ⟨rfl, rfl⟩
    · have h1 : R.1 = 1 := by omega
      rw [if_pos h1]
      have g7 := g7 h1
      have hyl := hyl h1
      generalize mx (mx (mx M.2.2 R.1) R.2.1) R.2.2.1 = h
      refine gs_ald0 (pc := 57) dX2_mixesRule_57 ?_
      refine gs_ald0 (pc := 58) dX2_mixesRule_58 ?_
      refine gs_getf (pc := 59) 0 dX2_mixesRule_59 (mcell hA) clX2 in_X2 (by decide) q2226 (Or.inl rfl) rfl ?_
      refine gs_ild2 (pc := 62) dX2_mixesRule_62 ?_
      refine gs_iconst (pc := 63) dX2_mixesRule_63 ?_
      refine gs_iadd (pc := 64) dX2_mixesRule_64 ?_
      refine gs_iald (pc := 65) dX2_mixesRule_65 (ma_page hA) (by omega) (by omega) ?_
      rw [show (mL M h).2.1 0 (701 + 23 * (r : Int) + 3) = R.2.2.2.1 from g4]
      refine gs_V1v (pc := 66) dX2_mixesRule_66 kX2_315 (mcell hA) clX2 (by decide) (Nat.le_of_ble_eq_true rfl) (m_mixes hA) (fun hp1 hq => ?_)
      obtain ⟨rfl⟩ := hq
      refine gs_ald0 (pc := 69) dX2_mixesRule_69 ?_
      refine gs_ald0 (pc := 70) dX2_mixesRule_70 ?_
      refine gs_getf (pc := 71) 0 dX2_mixesRule_71 (mcell hA) clX2 in_X2 (by decide) q2226 (Or.inl rfl) rfl ?_
      refine gs_ild2 (pc := 74) dX2_mixesRule_74 ?_
      refine gs_iconst (pc := 75) dX2_mixesRule_75 ?_
      refine gs_iadd (pc := 76) dX2_mixesRule_76 ?_
      refine gs_iald (pc := 77) dX2_mixesRule_77 (ma_page hA) (by omega) (by omega) ?_
      rw [show (mL (mL M h) (mx (mL M h).2.2 R.2.2.2.1)).2.1 0 (701 + 23 * (r : Int) + 4) = R.2.2.2.2.1 from g5]
      refine gs_V1v (pc := 78) dX2_mixesRule_78 kX2_315 (mcell hA) clX2 (by decide) (Nat.le_of_ble_eq_true rfl) (m_mixes hA) (fun hp1 hq => ?_)
      obtain ⟨rfl⟩ := hq
      show G X fX2_mixesRule 3 81 _ [] (mH hp a (mL M (mx (mx h R.2.2.2.1) R.2.2.2.2.1))) _
      generalize mx (mx h R.2.2.2.1) R.2.2.2.2.1 = h'
      refine gs_ald0 (pc := 81) dX2_mixesRule_81 ?_
      refine gs_ild2 (pc := 82) dX2_mixesRule_82 ?_
      refine gs_iconst (pc := 83) dX2_mixesRule_83 ?_
      refine gs_iadd (pc := 84) dX2_mixesRule_84 ?_
      refine gs_V1v (pc := 85) dX2_mixesRule_85 kX2_318 (mcell hA) clX2 (by decide) (Nat.le_of_ble_eq_true rfl) (m_mixesText hA (show pgT ((mL M h').2.1 0) (701 + 23 * (r : Int) + 5) R.2.2.2.2.2.1 from g6) (by omega) (by omega)) (fun hp1 hq => ?_)
      obtain ⟨rfl⟩ := hq
      refine gs_ild3 (pc := 88) dX2_mixesRule_88 ?_
      refine gs_iconst (pc := 89) dX2_mixesRule_89 ?_
      refine gs_ic_ne (pc := 90) (tgt := 107) dX2_mixesRule_90 (by decide) (by omega) (fun hn => absurd h1 hn) (fun _ => ?_)
      show G X fX2_mixesRule 3 93 _ [] (mH hp a (mL M (mxT h' R.2.2.2.2.2.1))) _
      generalize mxT h' R.2.2.2.2.2.1 = h2
      refine gs_ald0 (pc := 93) dX2_mixesRule_93 ?_
      refine gs_bipush (pc := 94) dX2_mixesRule_94 rfl ?_
      refine gs_V1v (pc := 96) dX2_mixesRule_96 kX2_315 (mcell hA) clX2 (by decide) (Nat.le_of_ble_eq_true rfl) (m_mixes hA) (fun hp1 hq => ?_)
      obtain ⟨rfl⟩ := hq
      show G X fX2_mixesRule 3 99 _ [] (mH hp a (mL M (mx h2 32))) _
      generalize mx h2 32 = h3
      refine gs_ald0 (pc := 99) dX2_mixesRule_99 ?_
      refine gs_ild2 (pc := 100) dX2_mixesRule_100 ?_
      refine gs_bipush (pc := 101) dX2_mixesRule_101 rfl ?_
      refine gs_iadd (pc := 103) dX2_mixesRule_103 ?_
      refine gs_V1v (pc := 104) dX2_mixesRule_104 kX2_318 (mcell hA) clX2 (by decide) (Nat.le_of_ble_eq_true rfl) (m_mixesText hA (show pgT ((mL M h3).2.1 0) (701 + 23 * (r : Int) + 14) R.2.2.2.2.2.2 from g7) (by omega) (by omega)) (fun hp1 hq => ?_)
      obtain ⟨rfl⟩ := hq
      refine gs_vret (pc := 107) dX2_mixesRule_107 rfl ?_
      exact ⟨rfl, rfl⟩
theorem US.mL {h : Int64} (hU : US M S ind stp bse) : US (mL M h) S ind stp bse := by
  obtain ⟨hP, hL, u⟩ := hU
  exact ⟨hP, (hiF.mL (x := h)).LO hL, u⟩
theorem m_digest (hA : mok X hp a) (hR : RM M A) (hO : asOk A) : MV X yX2_digest fX2_digest 8 [vR (some a)] (mH hp a M) (fun v hp' => v = vL (sp_digest A) ∧ ∃ M', hp' = mH hp a M' ∧ RM M' A) := by
  refine MC.of pfX2_digest rfl (fun h => by cases h) 2 rfl rfl ?_
  have hP := hR.PG hO
  have hc := hP.cnt
  obtain ⟨s1, s2, s3, s4⟩ := hP.sb
  refine gs_ald0 (pc := 0) dX2_digest_0 ?_
  refine gs_ldc2 (pc := 1) (x := (18310 : Int64)) dX2_digest_1 q2770 ?_
  refine mp_hash (pc := 4) rfl hA dX2_digest_4 ?_
  refine gs_ald0 (pc := 7) dX2_digest_7 ?_
  refine gs_ald0 (pc := 8) dX2_digest_8 ?_
  refine gs_getf (pc := 9) 0 dX2_digest_9 (mcell hA) clX2 in_X2 (by decide) q2226 (Or.inl rfl) rfl ?_
  refine gs_iconst (pc := 12) dX2_digest_12 ?_
  refine gs_iald (pc := 13) dX2_digest_13 (ma_page hA) (by omega) (by omega) ?_
  rw [show (mL M 18310).2.1 0 0 = nL A.1 from hc.1]
  refine gs_V1v (pc := 14) dX2_digest_14 kX2_315 (mcell hA) clX2 (by decide) (Nat.le_of_ble_eq_true rfl) (m_mixes hA) (fun hp1 hq => ?_)
  obtain ⟨rfl⟩ := hq
  refine gs_ald0 (pc := 17) dX2_digest_17 ?_
  refine gs_ald0 (pc := 18) dX2_digest_18 ?_
  refine gs_getf (pc := 19) 0 dX2_digest_19 (mcell hA) clX2 in_X2 (by decide) q2226 (Or.inl rfl) rfl ?_
  refine gs_sipush (pc := 22) dX2_digest_22 rfl ?_
  refine gs_iald (pc := 25) dX2_digest_25 (ma_page hA) (by omega) (by omega) ?_
  refine gs_ald0 (pc := 26) dX2_digest_26 ?_
  refine gs_getf (pc := 27) 0 dX2_digest_27 (mcell hA) clX2 in_X2 (by decide) q2226 (Or.inl rfl) rfl ?_
  refine gs_sipush (pc := 30) dX2_digest_30 rfl ?_
  refine gs_iald (pc := 33) dX2_digest_33 (ma_page hA) (by omega) (by omega) ?_
  show G X fX2_digest 8 34 _ [vI (M.2.1 0 978), vI (M.2.1 0 977), vR (some a)] (mH hp a (mL M (mx 18310 (nL A.1)))) _
  rw [s1, s2]
  have hP1 : PG (mL M (mx 18310 (nL A.1))) A.1 := hP
  refine gs_V2v (pc := 34) dX2_digest_34 kX2_222 (mcell hA) clX2 (by decide) (Nat.le_of_ble_eq_true rfl) (m_uses hA hP1 s3 s4) (fun hp1 hq => ?_)
  obtain ⟨M1, rfl, f1, hU⟩ := hq
  refine gs_iconst (pc := 37) dX2_digest_37 ?_
  refine gs_ist1 (pc := 38) dX2_digest_38 rfl ?_
  have hh1 : M1.2.2 = mx 18310 (nL A.1) := f1.2.2
  have hk1 : kp M M1 := f1.kp
  clear f1 hP1
  have k211 : ∀ (M2 : MS) (L1 L2 : Option AV), kp M M2 → M2.2.2 = mxRs A.1 (mx (mx (mx (mxL A (mx 18310 (nL A.1)) (nL A.1)) A.1.2.2.1) A.1.2.2.2.1) A.1.2.2.2.2) 12 → G X fX2_digest 8 211 [some (vR (some a)), L1, L2] [] (mH hp a M2) (fun r hp' => ∃ v, r = some v ∧ v = vL (sp_digest A) ∧ ∃ M', hp' = mH hp a M' ∧ RM M' A) := by
    intro M2 L1 L2 hk hh
    have hR2 := hR.kp hk
    obtain ⟨q1, q2, q3, ⟨q4, q4'⟩, q5, q6, q7, -⟩ := hR2
    have kz : ∀ (M3 : MS) (z : Int), kp M M3 → z = b2i A.2.2.1.isSome + b2i A.2.2.2.1.isSome → M3.2.2 = mx (mxRs A.1 (mx (mx (mx (mxL A (mx 18310 (nL A.1)) (nL A.1)) A.1.2.2.1) A.1.2.2.2.1) A.1.2.2.2.2) 12) A.2.1.length → G X fX2_digest 8 249 [some (vR (some a)), L1, L2] [vI z, vR (some a)] (mH hp a M3) (fun r hp' => ∃ v, r = some v ∧ v = vL (sp_digest A) ∧ ∃ M', hp' = mH hp a M' ∧ RM M' A) := by
      intro M3 z hk3 hz hh3
      have e4 : M3.1 4 = A.2.2.2.2.length := (hR.kp hk3).2.2.2.2.2.2.1
      refine gs_V1v (pc := 249) dX2_digest_249 kX2_315 (mcell hA) clX2 (by decide) (Nat.le_of_ble_eq_true rfl) (m_mixes hA) (fun hp1 hq => ?_)
      obtain ⟨rfl⟩ := hq
      refine gs_ald0 (pc := 252) dX2_digest_252 ?_
      refine gs_ald0 (pc := 253) dX2_digest_253 ?_
      refine gs_getf (pc := 254) 4 dX2_digest_254 (mcell hA) clX2 in_X2 (by decide) q2230 (Or.inl rfl) rfl ?_
      show G X fX2_digest 8 257 _ (vI (M3.1 4) :: _) _ _
      rw [e4]
      refine gs_V1v (pc := 257) dX2_digest_257 kX2_315 (mcell hA) clX2 (by decide) (Nat.le_of_ble_eq_true rfl) (m_mixes hA) (fun hp1 hq => ?_)
      obtain ⟨rfl⟩ := hq
      refine gs_ald0 (pc := 260) dX2_digest_260 ?_
      refine gs_getf (pc := 261) 40 dX2_digest_261 (mcell hA) clX2 in_X2 (by decide) q2266 (Or.inl rfl) rfl ?_
      refine gs_lret (pc := 264) dX2_digest_264 rfl ?_
      refine ⟨_, rfl, ?_, _, rfl, hR.kp (hk3.trans ⟨rfl, rfl, fun _ _ => rfl⟩)⟩
      show vL (mx (mx M3.2.2 z) _) = _
      rw [hh3, hz]
      rfl
    refine gs_ald0 (pc := 211) dX2_digest_211 ?_
    refine gs_ald0 (pc := 212) dX2_digest_212 ?_
    refine gs_getf (pc := 213) 1 dX2_digest_213 (mcell hA) clX2 in_X2 (by decide) q2227 (Or.inl rfl) rfl ?_
    show G X fX2_digest 8 216 _ (vI (M2.1 1) :: _) _ _
    rw [q2]
    refine gs_V1v (pc := 216) dX2_digest_216 kX2_315 (mcell hA) clX2 (by decide) (Nat.le_of_ble_eq_true rfl) (m_mixes hA) (fun hp1 hq => ?_)
    obtain ⟨rfl⟩ := hq
    have hkM : kp M (mL M2 (mx M2.2.2 A.2.1.length)) := hk.trans ⟨rfl, rfl, fun _ _ => rfl⟩
    have hhM : (mL M2 (mx M2.2.2 A.2.1.length)).2.2 = mx (mxRs A.1 (mx (mx (mx (mxL A (mx 18310 (nL A.1)) (nL A.1)) A.1.2.2.1) A.1.2.2.2.1) A.1.2.2.2.2) 12) A.2.1.length := by rw [← hh]; rfl
    have q4 : (mL M2 (mx M2.2.2 A.2.1.length)).2.1 1 0 = b2i A.2.2.1.isSome := q4
    have q4' : (mL M2 (mx M2.2.2 A.2.1.length)).2.1 1 1 = b2i A.2.2.2.1.isSome := q4'
    generalize mL M2 (mx M2.2.2 A.2.1.length) = M3 at *
    have kx : ∀ z : Int, z = b2i A.2.2.1.isSome → G X fX2_digest 8 234 [some (vR (some a)), L1, L2] [vI z, vR (some a)] (mH hp a M3) (fun r hp' => ∃ v, r = some v ∧ v = vL (sp_digest A) ∧ ∃ M', hp' = mH hp a M' ∧ RM M' A) := by
      intro z hz
      refine gs_ald0 (pc := 234) dX2_digest_234 ?_
      refine gs_getf (pc := 235) 2 dX2_digest_235 (mcell hA) clX2 in_X2 (by decide) q2228 (Or.inl rfl) rfl ?_
      refine gs_iconst (pc := 238) dX2_digest_238 ?_
      refine gs_zald (pc := 239) dX2_digest_239 (ma_isKept hA) (by omega) (by omega) ?_
      rw [q4']
      refine gs_beq (pc := 240) (tgt := 247) dX2_digest_240 (by decide) (fun h2 => ?_) (fun h2 => ?_)
      · refine gs_iconst (pc := 247) dX2_digest_247 ?_
        refine gs_iadd (pc := 248) dX2_digest_248 ?_
        exact kz M3 _ hkM (by rw [hz, h2]; rfl) hhM
      · refine gs_iconst (pc := 243) dX2_digest_243 ?_
        refine gs_goto (pc := 244) (tgt := 248) dX2_digest_244 (by decide) ?_
        refine gs_iadd (pc := 248) dX2_digest_248 ?_
        exact kz M3 _ hkM (by rw [hz, h2]; rfl) hhM
    refine gs_ald0 (pc := 219) dX2_digest_219 ?_
    refine gs_ald0 (pc := 220) dX2_digest_220 ?_
    refine gs_getf (pc := 221) 2 dX2_digest_221 (mcell hA) clX2 in_X2 (by decide) q2228 (Or.inl rfl) rfl ?_
    refine gs_iconst (pc := 224) dX2_digest_224 ?_
    refine gs_zald (pc := 225) dX2_digest_225 (ma_isKept hA) (by omega) (by omega) ?_
    rw [q4]
    refine gs_beq (pc := 226) (tgt := 233) dX2_digest_226 (by decide) (fun h1 => ?_) (fun h1 => ?_)
    · refine gs_iconst (pc := 233) dX2_digest_233 ?_
      exact kx 0 (by rw [h1]; rfl)
    · refine gs_iconst (pc := 229) dX2_digest_229 ?_
      refine gs_goto (pc := 230) (tgt := 234) dX2_digest_230 (by decide) ?_
      exact kx 1 (by rw [h1]; rfl)
  have rules : ∀ (q c : Nat) (M2 : MS) (L2 : Option AV), c + q = 12 → kp M M2 → M2.2.2 = mxRs A.1 (mx (mx (mx (mxL A (mx 18310 (nL A.1)) (nL A.1)) A.1.2.2.1) A.1.2.2.2.1) A.1.2.2.2.2) c → G X fX2_digest 8 194 [some (vR (some a)), some (vI (c : Int)), L2] [] (mH hp a M2) (fun r hp' => ∃ v, r = some v ∧ v = vL (sp_digest A) ∧ ∃ M', hp' = mH hp a M' ∧ RM M' A) := by
    intro q
    induction q with
    | zero =>
      intro c M2 L2 hcq hk hh
      obtain rfl : c = 12 := by omega
      refine gs_ild1 (pc := 194) dX2_digest_194 ?_
      refine gs_bipush (pc := 195) dX2_digest_195 rfl ?_
      refine gs_ic_ge (pc := 197) (tgt := 211) dX2_digest_197 (by decide) (by omega) (fun _ => ?_) (fun hn => absurd (by decide) hn)
      exact k211 M2 _ _ hk hh
    | succ q ih =>
      intro c M2 L2 hcq hk hh
      refine gs_ild1 (pc := 194) dX2_digest_194 ?_
      refine gs_bipush (pc := 195) dX2_digest_195 rfl ?_
      refine gs_ic_ge (pc := 197) (tgt := 211) dX2_digest_197 (by decide) (by omega) (fun hn => absurd hn (by omega)) (fun _ => ?_)
      refine gs_ald0 (pc := 200) dX2_digest_200 ?_
      refine gs_ild1 (pc := 201) dX2_digest_201 ?_
      refine gs_V1v (pc := 202) dX2_digest_202 kX2_323 (mcell hA) clX2 (by decide) (Nat.le_of_ble_eq_true rfl) (m_mixesRule hA (hk.PG hP) (show c < 12 by omega)) (fun hp1 hq => ?_)
      obtain ⟨rfl⟩ := hq
      refine gs_inc1 (pc := 205) dX2_digest_205 rfl ?_
      refine gs_goto (pc := 208) (tgt := 194) dX2_digest_208 (by decide) ?_
      refine ih (c + 1) _ _ (by omega) (hk.trans ⟨rfl, rfl, fun _ _ => rfl⟩) ?_
      show mxR M2.2.2 _ = _
      rw [hh]
      rfl
  have k156 : ∀ (M2 : MS) (L1 L2 : Option AV), kp M M2 → M2.2.2 = mxL A (mx 18310 (nL A.1)) (nL A.1) → G X fX2_digest 8 156 [some (vR (some a)), L1, L2] [] (mH hp a M2) (fun r hp' => ∃ v, r = some v ∧ v = vL (sp_digest A) ∧ ∃ M', hp' = mH hp a M' ∧ RM M' A) := by
    intro M2 L1 L2 hk hh
    have hP2 := hk.PG hP
    obtain ⟨t1, t2, -⟩ := hP2.sb
    have t3 := hP2.cmt.1
    refine gs_ald0 (pc := 156) dX2_digest_156 ?_
    refine gs_ald0 (pc := 157) dX2_digest_157 ?_
    refine gs_getf (pc := 158) 0 dX2_digest_158 (mcell hA) clX2 in_X2 (by decide) q2226 (Or.inl rfl) rfl ?_
    refine gs_sipush (pc := 161) dX2_digest_161 rfl ?_
    refine gs_iald (pc := 164) dX2_digest_164 (ma_page hA) (by omega) (by omega) ?_
    rw [t1]
    refine gs_V1v (pc := 165) dX2_digest_165 kX2_315 (mcell hA) clX2 (by decide) (Nat.le_of_ble_eq_true rfl) (m_mixes hA) (fun hp1 hq => ?_)
    obtain ⟨rfl⟩ := hq
    refine gs_ald0 (pc := 168) dX2_digest_168 ?_
    refine gs_ald0 (pc := 169) dX2_digest_169 ?_
    refine gs_getf (pc := 170) 0 dX2_digest_170 (mcell hA) clX2 in_X2 (by decide) q2226 (Or.inl rfl) rfl ?_
    refine gs_sipush (pc := 173) dX2_digest_173 rfl ?_
    refine gs_iald (pc := 176) dX2_digest_176 (ma_page hA) (by omega) (by omega) ?_
    rw [show ∀ h : Int64, (mL M2 h).2.1 0 978 = A.1.2.2.2.1 from fun _ => t2]
    refine gs_V1v (pc := 177) dX2_digest_177 kX2_315 (mcell hA) clX2 (by decide) (Nat.le_of_ble_eq_true rfl) (m_mixes hA) (fun hp1 hq => ?_)
    obtain ⟨rfl⟩ := hq
    refine gs_ald0 (pc := 180) dX2_digest_180 ?_
    refine gs_ald0 (pc := 181) dX2_digest_181 ?_
    refine gs_getf (pc := 182) 0 dX2_digest_182 (mcell hA) clX2 in_X2 (by decide) q2226 (Or.inl rfl) rfl ?_
    refine gs_sipush (pc := 185) dX2_digest_185 rfl ?_
    refine gs_iald (pc := 188) dX2_digest_188 (ma_page hA) (by omega) (by omega) ?_
    rw [show ∀ h h' : Int64, (mL (mL M2 h) h').2.1 0 979 = A.1.2.2.2.2 from fun _ _ => t3]
    refine gs_V1v (pc := 189) dX2_digest_189 kX2_315 (mcell hA) clX2 (by decide) (Nat.le_of_ble_eq_true rfl) (m_mixes hA) (fun hp1 hq => ?_)
    obtain ⟨rfl⟩ := hq
    refine gs_iconst (pc := 192) dX2_digest_192 ?_
    refine gs_ist1 (pc := 193) dX2_digest_193 rfl ?_
    refine rules 12 0 _ _ (by omega) (hk.trans ⟨rfl, rfl, fun _ _ => rfl⟩) ?_
    show mx (mx (mx M2.2.2 _) _) _ = _
    rw [hh]
    rfl
  have lines : ∀ (q c : Nat) (M2 : MS) (L2 : Option AV), c + q = nL A.1 → kp M M2 → US M2 A.1 (indS A.1) A.1.2.2.1 A.1.2.2.2.1 → M2.2.2 = mxL A (mx 18310 (nL A.1)) c → G X fX2_digest 8 39 [some (vR (some a)), some (vI (c : Int)), L2] [] (mH hp a M2) (fun r hp' => ∃ v, r = some v ∧ v = vL (sp_digest A) ∧ ∃ M', hp' = mH hp a M' ∧ RM M' A) := by
    intro q
    induction q with
    | zero =>
      intro c M2 L2 hcq hk hU hh
      have hc2 := hU.1.cnt
      refine gs_ild1 (pc := 39) dX2_digest_39 ?_
      refine gs_ald0 (pc := 40) dX2_digest_40 ?_
      refine gs_getf (pc := 41) 0 dX2_digest_41 (mcell hA) clX2 in_X2 (by decide) q2226 (Or.inl rfl) rfl ?_
      refine gs_iconst (pc := 44) dX2_digest_44 ?_
      refine gs_iald (pc := 45) dX2_digest_45 (ma_page hA) (by omega) (by omega) ?_
      refine gs_ic_ge (pc := 46) (tgt := 156) dX2_digest_46 (by decide) (by omega) (fun _ => ?_) (fun hn => absurd (by omega) hn)
      obtain rfl : c = nL A.1 := by omega
      exact k156 M2 _ _ hk hh
    | succ q ih =>
      intro c M2 L2 hcq hk hU hh
      have hc2 := hU.1.cnt
      have hcn : c < nL A.1 := by omega
      have hpn := hU.1.pin hcn
      have hln := hU.1.ln hcn
      have hl1 := hln.2.2.2.1
      have hl2 := hln.2.1
      have hdec : sp_dec A (fun d => d.1) (c : Int) = if freL A.1 c then (dcS A.1 A.1.2.2.1 A.1.2.2.2.1 c).1 else -9 := by
        unfold sp_dec
        rw [if_pos (show isL A (c : Int) = true from decide_eq_true ⟨by omega, by show (c : Int) < ((nL A.1 : Nat) : Int); omega⟩), Int.toNat_natCast]
      have k147 : ∀ (M3 : MS) (z : Int) (L2 : Option AV), kp M M3 → US M3 A.1 (indS A.1) A.1.2.2.1 A.1.2.2.2.1 → z = (if freL A.1 c then (dcS A.1 A.1.2.2.1 A.1.2.2.2.1 c).1 else -9) → M3.2.2 = mx (mxT (mx (mx (mxL A (mx 18310 (nL A.1)) c) (lnA A.1 c).1) (lnA A.1 c).2.1.length) (lnA A.1 c).2.1) (b2i (lnA A.1 c).2.2) → G X fX2_digest 8 147 [some (vR (some a)), some (vI (c : Int)), L2] [vI z, vR (some a)] (mH hp a M3) (fun r hp' => ∃ v, r = some v ∧ v = vL (sp_digest A) ∧ ∃ M', hp' = mH hp a M' ∧ RM M' A) := by
        intro M3 z L2 hk3 hU3 hz hh3
        refine gs_V1v (pc := 147) dX2_digest_147 kX2_315 (mcell hA) clX2 (by decide) (Nat.le_of_ble_eq_true rfl) (m_mixes hA) (fun hp1 hq => ?_)
        obtain ⟨rfl⟩ := hq
        refine gs_inc1 (pc := 150) dX2_digest_150 rfl ?_
        refine gs_goto (pc := 153) (tgt := 39) dX2_digest_153 (by decide) ?_
        refine ih (c + 1) _ _ (by omega) (hk3.trans ⟨rfl, rfl, fun _ _ => rfl⟩) hU3.mL ?_
        show mx M3.2.2 z = _
        rw [hh3, hz, ← hdec]
        rfl
      have k105 : ∀ (M3 : MS) (L2 : Option AV), kp M M3 → US M3 A.1 (indS A.1) A.1.2.2.1 A.1.2.2.2.1 → M3.2.2 = mxT (mx (mx (mxL A (mx 18310 (nL A.1)) c) (lnA A.1 c).1) (lnA A.1 c).2.1.length) (lnA A.1 c).2.1 → G X fX2_digest 8 105 [some (vR (some a)), some (vI (c : Int)), L2] [] (mH hp a M3) (fun r hp' => ∃ v, r = some v ∧ v = vL (sp_digest A) ∧ ∃ M', hp' = mH hp a M' ∧ RM M' A) := by
        intro M3 L2 hk3 hU3 hh3
        have hpn3 := (hU3.1.pin hcn).1
        refine gs_ald0 (pc := 105) dX2_digest_105 ?_
        refine gs_ald0 (pc := 106) dX2_digest_106 ?_
        refine gs_getf (pc := 107) 0 dX2_digest_107 (mcell hA) clX2 in_X2 (by decide) q2226 (Or.inl rfl) rfl ?_
        refine gs_bipush (pc := 110) dX2_digest_110 rfl ?_
        refine gs_ild1 (pc := 112) dX2_digest_112 ?_
        refine gs_iadd (pc := 113) dX2_digest_113 ?_
        refine gs_iald (pc := 114) dX2_digest_114 (ma_page hA) (by omega) (by omega) ?_
        rw [hpn3]
        refine gs_V1v (pc := 115) dX2_digest_115 kX2_315 (mcell hA) clX2 (by decide) (Nat.le_of_ble_eq_true rfl) (m_mixes hA) (fun hp1 hq => ?_)
        obtain ⟨rfl⟩ := hq
        have hU4 := hU3.mL (h := mx M3.2.2 (b2i (pinB A.1 c)))
        have hk4 : kp M (mL M3 (mx M3.2.2 (b2i (pinB A.1 c)))) := hk3.trans ⟨rfl, rfl, fun _ _ => rfl⟩
        have hh4 : (mL M3 (mx M3.2.2 (b2i (pinB A.1 c)))).2.2 = mx (mxT (mx (mx (mxL A (mx 18310 (nL A.1)) c) (lnA A.1 c).1) (lnA A.1 c).2.1.length) (lnA A.1 c).2.1) (b2i (lnA A.1 c).2.2) := by rw [← hh3]; rfl
        generalize mL M3 (mx M3.2.2 (b2i (pinB A.1 c))) = M4 at *
        refine gs_ald0 (pc := 118) dX2_digest_118 ?_
        refine gs_ild1 (pc := 119) dX2_digest_119 ?_
        refine gs_V1 (pc := 120) dX2_digest_120 kX2_185 (mcell hA) clX2 (by decide) (Nat.le_of_ble_eq_true rfl) (m_isFree hA hU4.1 hU4.2.1.1 hcn) (fun v hp1 hq => ?_)
        obtain ⟨rfl, rfl⟩ := hq
        refine gs_ist2 (pc := 123) dX2_digest_123 rfl ?_
        refine gs_ild2 (pc := 124) dX2_digest_124 ?_
        refine gs_beq (pc := 125) (tgt := 133) dX2_digest_125 (by decide) (fun hf => ?_) (fun hf => ?_)
        · refine gs_ald0 (pc := 133) dX2_digest_133 ?_
          refine gs_ild2 (pc := 134) dX2_digest_134 ?_
          refine gs_beq (pc := 135) (tgt := 145) dX2_digest_135 (by decide) (fun _ => ?_) (fun hn => absurd ((hf : _ = false).symm.trans hn) (by decide))
          refine gs_bipush (pc := 145) dX2_digest_145 rfl ?_
          exact k147 M4 _ _ hk4 hU4 (by rw [hf]; rfl) hh4
        · refine gs_ald0 (pc := 128) dX2_digest_128 ?_
          refine gs_ild1 (pc := 129) dX2_digest_129 ?_
          refine gs_V1v (pc := 130) dX2_digest_130 kX2_188 (mcell hA) clX2 (by decide) (Nat.le_of_ble_eq_true rfl) (m_decides hA hU4 hcn) (fun hp1 hq => ?_)
          obtain ⟨M5, rfl, d1, d2, -, -⟩ := hq
          refine gs_ald0 (pc := 133) dX2_digest_133 ?_
          refine gs_ild2 (pc := 134) dX2_digest_134 ?_
          refine gs_beq (pc := 135) (tgt := 145) dX2_digest_135 (by decide) (fun hn => absurd ((hf : _ = true).symm.trans hn) (by decide)) (fun _ => ?_)
          refine gs_ald0 (pc := 138) dX2_digest_138 ?_
          refine gs_getf (pc := 139) 24 dX2_digest_139 (mcell hA) clX2 in_X2 (by decide) q2250 (Or.inl rfl) rfl ?_
          show G X fX2_digest 8 142 _ (vI (M5.1 24) :: _) _ _
          rw [d2]
          refine gs_goto (pc := 142) (tgt := 147) dX2_digest_142 (by decide) ?_
          exact k147 M5 _ _ (hk4.trans d1.kp) (d1.US hU4) (by rw [hf]; rfl) (by rw [d1.2]; exact hh4)
      have bytes : ∀ (r k : Nat) (M3 : MS), k + r = (lnA A.1 c).2.1.length → kp M M3 → US M3 A.1 (indS A.1) A.1.2.2.1 A.1.2.2.2.1 → M3.2.2 = mxT (mx (mx (mxL A (mx 18310 (nL A.1)) c) (lnA A.1 c).1) (lnA A.1 c).2.1.length) ((lnA A.1 c).2.1.take k) → G X fX2_digest 8 76 [some (vR (some a)), some (vI (c : Int)), some (vI (k : Int))] [] (mH hp a M3) (fun r hp' => ∃ v, r = some v ∧ v = vL (sp_digest A) ∧ ∃ M', hp' = mH hp a M' ∧ RM M' A) := by
        intro r
        induction r with
        | zero =>
          intro k M3 hkr hk3 hU3 hh3
          have hl3 := (hU3.1.ln hcn).2.2.2.1
          rw [List.take_of_length_le (by omega)] at hh3
          refine gs_ild2 (pc := 76) dX2_digest_76 ?_
          refine gs_ald0 (pc := 77) dX2_digest_77 ?_
          refine gs_getf (pc := 78) 0 dX2_digest_78 (mcell hA) clX2 in_X2 (by decide) q2226 (Or.inl rfl) rfl ?_
          refine gs_bipush (pc := 81) dX2_digest_81 rfl ?_
          refine gs_ild1 (pc := 83) dX2_digest_83 ?_
          refine gs_iadd (pc := 84) dX2_digest_84 ?_
          refine gs_iald (pc := 85) dX2_digest_85 (ma_page hA) (by omega) (by omega) ?_
          refine gs_ic_ge (pc := 86) (tgt := 105) dX2_digest_86 (by decide) (by omega) (fun _ => ?_) (fun hn => absurd (by omega) hn)
          exact k105 M3 _ hk3 hU3 hh3
        | succ r ihr =>
          intro k M3 hkr hk3 hU3 hh3
          have hln3 := hU3.1.ln hcn
          have hl3 := hln3.2.2.2.1
          have eg : (lnA A.1 c).2.1.getD k (-9) = (lnA A.1 c).2.1.getD k 0 := by rw [getD_in (by omega), getD_in (by omega)]
          refine gs_ild2 (pc := 76) dX2_digest_76 ?_
          refine gs_ald0 (pc := 77) dX2_digest_77 ?_
          refine gs_getf (pc := 78) 0 dX2_digest_78 (mcell hA) clX2 in_X2 (by decide) q2226 (Or.inl rfl) rfl ?_
          refine gs_bipush (pc := 81) dX2_digest_81 rfl ?_
          refine gs_ild1 (pc := 83) dX2_digest_83 ?_
          refine gs_iadd (pc := 84) dX2_digest_84 ?_
          refine gs_iald (pc := 85) dX2_digest_85 (ma_page hA) (by omega) (by omega) ?_
          refine gs_ic_ge (pc := 86) (tgt := 105) dX2_digest_86 (by decide) (by omega) (fun hn => absurd hn (by omega)) (fun _ => ?_)
          refine gs_ald0 (pc := 89) dX2_digest_89 ?_
          refine gs_ald0 (pc := 90) dX2_digest_90 ?_
          refine gs_ild1 (pc := 91) dX2_digest_91 ?_
          refine gs_ild2 (pc := 92) dX2_digest_92 ?_
          refine gs_V2 (pc := 93) dX2_digest_93 kX2_83 (mcell hA) clX2 (by decide) (Nat.le_of_ble_eq_true rfl) (m_cAt hA hln3 (by omega)) (fun v hp1 hq => ?_)
          obtain ⟨rfl, rfl⟩ := hq
          rw [eg]
          refine gs_V1v (pc := 96) dX2_digest_96 kX2_315 (mcell hA) clX2 (by decide) (Nat.le_of_ble_eq_true rfl) (m_mixes hA) (fun hp1 hq => ?_)
          obtain ⟨rfl⟩ := hq
          refine gs_inc2 (pc := 99) dX2_digest_99 rfl ?_
          refine gs_goto (pc := 102) (tgt := 76) dX2_digest_102 (by decide) ?_
          refine ihr (k + 1) _ (by omega) (hk3.trans ⟨rfl, rfl, fun _ _ => rfl⟩) hU3.mL ?_
          rw [mxT_s (by omega), ← hh3]
          rfl
      refine gs_ild1 (pc := 39) dX2_digest_39 ?_
      refine gs_ald0 (pc := 40) dX2_digest_40 ?_
      refine gs_getf (pc := 41) 0 dX2_digest_41 (mcell hA) clX2 in_X2 (by decide) q2226 (Or.inl rfl) rfl ?_
      refine gs_iconst (pc := 44) dX2_digest_44 ?_
      refine gs_iald (pc := 45) dX2_digest_45 (ma_page hA) (by omega) (by omega) ?_
      refine gs_ic_ge (pc := 46) (tgt := 156) dX2_digest_46 (by decide) (by omega) (fun hn => absurd hn (by omega)) (fun _ => ?_)
      refine gs_ald0 (pc := 49) dX2_digest_49 ?_
      refine gs_ald0 (pc := 50) dX2_digest_50 ?_
      refine gs_getf (pc := 51) 0 dX2_digest_51 (mcell hA) clX2 in_X2 (by decide) q2226 (Or.inl rfl) rfl ?_
      refine gs_iconst (pc := 54) dX2_digest_54 ?_
      refine gs_ild1 (pc := 55) dX2_digest_55 ?_
      refine gs_iadd (pc := 56) dX2_digest_56 ?_
      refine gs_iald (pc := 57) dX2_digest_57 (ma_page hA) (by omega) (by omega) ?_
      rw [hpn.2]
      refine gs_V1v (pc := 58) dX2_digest_58 kX2_315 (mcell hA) clX2 (by decide) (Nat.le_of_ble_eq_true rfl) (m_mixes hA) (fun hp1 hq => ?_)
      obtain ⟨rfl⟩ := hq
      refine gs_ald0 (pc := 61) dX2_digest_61 ?_
      refine gs_ald0 (pc := 62) dX2_digest_62 ?_
      refine gs_getf (pc := 63) 0 dX2_digest_63 (mcell hA) clX2 in_X2 (by decide) q2226 (Or.inl rfl) rfl ?_
      refine gs_bipush (pc := 66) dX2_digest_66 rfl ?_
      refine gs_ild1 (pc := 68) dX2_digest_68 ?_
      refine gs_iadd (pc := 69) dX2_digest_69 ?_
      refine gs_iald (pc := 70) dX2_digest_70 (ma_page hA) (by omega) (by omega) ?_
      rw [show ∀ h : Int64, (mL M2 h).2.1 0 (21 + (c : Int)) = (lnA A.1 c).2.1.length from fun _ => hl1]
      refine gs_V1v (pc := 71) dX2_digest_71 kX2_315 (mcell hA) clX2 (by decide) (Nat.le_of_ble_eq_true rfl) (m_mixes hA) (fun hp1 hq => ?_)
      obtain ⟨rfl⟩ := hq
      refine gs_iconst (pc := 74) dX2_digest_74 ?_
      refine gs_ist2 (pc := 75) dX2_digest_75 rfl ?_
      refine bytes (lnA A.1 c).2.1.length 0 _ (by omega) (hk.trans ⟨rfl, rfl, fun _ _ => rfl⟩) hU.mL.mL ?_
      show mx (mx M2.2.2 _) _ = _
      rw [hh]
      rfl
  exact lines (nL A.1) 0 M1 _ (by omega) hk1 hU hh1
end R3
