/-! THE MODEL: tokenizes. -/
section N1
variable {X : gCx} {hp : gHp} {a : Nat} {M M' : MS} {A : AS} {S : SS} {s : List Int} {i p f : Nat} {cm : Int}
/-- the state S is the present one on the page -/
def PG (M : MS) (S : SS) : Prop := pgS (M.2.1 0) 0 S ∧ ssOk S
theorem PG.mv (h : PG M S) (e : M'.2.1 0 = M.2.1 0) : PG M' S := by
  unfold PG
  rw [e]
  exact h
theorem PG.ln (h : PG M S) (hi : i < S.1.length) : lnM M i (lnA S i).2.1 := by
  obtain ⟨hs, hS⟩ := h
  obtain ⟨g1, g2, g3, g4⟩ := hs.2.1 i hi
  have hl := lnOk_at hS hi
  refine ⟨by have := hS.1; omega, hl.2.2.1, hl.2.2.2.1, ?_, fun k hk => ?_⟩
  · rw [← g2, show (0 : Int) + 21 + i = 21 + i by omega]
  · rw [← g4 k hk, show (0 : Int) + 61 + 32 * (i : Int) + k = 61 + 32 * i + k by omega]
theorem PG.cnt (h : PG M S) : M.2.1 0 0 = nL S ∧ nL S ≤ 20 := ⟨h.1.1, h.2.1⟩
theorem PG.cmt (h : PG M S) : M.2.1 0 979 = S.2.2.2.2 ∧ cmOk S.2.2.2.2 = true := ⟨h.1.2.2.2.2.2, h.2.2.2.2.2.2⟩
theorem lt_f : lt cm false s = tk cm 33 0 s := rfl
theorem lt_nn (h : litS s = none) : lt cm true s = ([], true) := by unfold lt; rw [if_pos rfl, h]
theorem lt_sm {n : Nat} (h : litS s = some n) : lt cm true s = tk cm 33 n (s.drop n) := by unfold lt; rw [if_pos rfl, h]
theorem drop_cons' {ls : List Ln} {l : Ln} (h : S.1.drop i = l :: ls) : i < S.1.length ∧ lnA S i = l ∧ S.1.drop (i + 1) = ls := by
  have hi : i < S.1.length := by
    by_cases hi : i < S.1.length
    · exact hi
    · rw [List.drop_eq_nil_of_le (by omega)] at h; cases h
  have hd := List.drop_eq_getElem_cons hi
  rw [h] at hd
  refine ⟨hi, ?_, (List.cons.inj hd).2.symm⟩
  unfold lnA
  rw [List.getD_eq_getElem?_getD, List.getElem?_eq_getElem hi]
  exact (List.cons.inj hd).1.symm
theorem m_tokenizes (hA : mok X hp a) (hP : PG M S) : M0 X yX2_tokenizes fX2_tokenizes 5 [vR (some a)] (mH hp a M) (fun hp' => hp' = mH hp a (tkz S.2.2.2.2 0 false S.1 (mP M 12 0))) := by
  refine MC.of pfX2_tokenizes rfl (fun h => by cases h) 3 rfl rfl ?_
  have hcn := hP.cnt
  have loop : ∀ (ls : List Ln) (i : Nat) (op : Bool) (M : MS) (L3 : Option AV), PG M S → S.1.drop i = ls → i + ls.length = nL S → 0 ≤ M.1 12 → M.1 12 + 32 * ls.length ≤ 640 → G X fX2_tokenizes 5 9 [some (vR (some a)), some (vI (b2i op)), some (vI (i : Int)), L3] [] (mH hp a M) (fun r hp' => r = none ∧ hp' = mH hp a (tkz S.2.2.2.2 i op ls M)) := by
    intro ls
    induction ls with
    | nil =>
      intro i op M L3 hP hd hi hm0 hm
      have hc := hP.cnt
      simp only [List.length_nil] at hi
      refine gs_ild2 (pc := 9) dX2_tokenizes_9 ?_
      refine gs_ald0 (pc := 10) dX2_tokenizes_10 ?_
      refine gs_getf (pc := 11) 0 dX2_tokenizes_11 (mcell hA) clX2 in_X2 (by decide) q2226 (Or.inl rfl) rfl ?_
      refine gs_iconst (pc := 14) dX2_tokenizes_14 ?_
      refine gs_iald (pc := 15) dX2_tokenizes_15 (ma_page hA) (by omega) (by omega) ?_
      refine gs_ic_ge (pc := 16) (tgt := 100) dX2_tokenizes_16 (by decide) (by omega) (fun _ => ?_) (fun hn => absurd (by omega) hn)
      refine gs_ald0 (pc := 100) dX2_tokenizes_100 ?_
      refine gs_getf (pc := 101) 13 dX2_tokenizes_101 (mcell hA) clX2 in_X2 (by decide) q2239 (Or.inl rfl) rfl ?_
      refine gs_ald0 (pc := 104) dX2_tokenizes_104 ?_
      refine gs_getf (pc := 105) 0 dX2_tokenizes_105 (mcell hA) clX2 in_X2 (by decide) q2226 (Or.inl rfl) rfl ?_
      refine gs_iconst (pc := 108) dX2_tokenizes_108 ?_
      refine gs_iald (pc := 109) dX2_tokenizes_109 (ma_page hA) (by omega) (by omega) ?_
      refine gs_ald0 (pc := 110) dX2_tokenizes_110 ?_
      refine gs_getf (pc := 111) 12 dX2_tokenizes_111 (mcell hA) clX2 in_X2 (by decide) q2238 (Or.inl rfl) rfl ?_
      refine ms_firstOf (pc := 114) hA dX2_tokenizes_114 (by omega) ?_
      refine gs_vret (pc := 115) dX2_tokenizes_115 rfl ?_
      refine ⟨rfl, ?_⟩
      rw [show M.2.1 0 0 = (i : Int) by omega]
      rfl
    | cons l ls ih =>
      intro i op M L3 hP hd hi hm0 hm
      have hc := hP.cnt
      simp only [List.length_cons] at hi hm
      obtain ⟨hil, hla, hd1⟩ := drop_cons' hd
      have hl := hP.ln hil
      rw [hla] at hl
      have hl2 := hl.2.1
      have hlen := hl.2.2.2.1
      have hcm := hP.cmt
      have e : tkz S.2.2.2.2 i op (l :: ls) M = tkz S.2.2.2.2 (i + 1) (lt S.2.2.2.2 op l.2.1).2 ls (adN (mA (mA M 10 i (M.1 12)) 11 i (b2i (op && !l.2.1.isEmpty))) i (lt S.2.2.2.2 op l.2.1).1) := rfl
      rw [e]
      have hlo := lt_ok (cm := S.2.2.2.2) (op := op) (s := l.2.1)
      have k94 : ∀ L3 : Option AV, G X fX2_tokenizes 5 94 [some (vR (some a)), some (vI (b2i (lt S.2.2.2.2 op l.2.1).2)), some (vI (i : Int)), L3] [] (mH hp a (adN (mA (mA M 10 i (M.1 12)) 11 i (b2i (op && !l.2.1.isEmpty))) i (lt S.2.2.2.2 op l.2.1).1)) (fun r hp' => r = none ∧ hp' = mH hp a (tkz S.2.2.2.2 (i + 1) (lt S.2.2.2.2 op l.2.1).2 ls (adN (mA (mA M 10 i (M.1 12)) 11 i (b2i (op && !l.2.1.isEmpty))) i (lt S.2.2.2.2 op l.2.1).1))) := by
        intro L3
        have hN := adN_spec (lt S.2.2.2.2 op l.2.1).1 (mA (mA M 10 i (M.1 12)) 11 i (b2i (op && !l.2.1.isEmpty))) i
        have e12 : (mA (mA M 10 i (M.1 12)) 11 i (b2i (op && !l.2.1.isEmpty))).1 12 = M.1 12 := rfl
        rw [e12] at hN
        refine gs_inc2 (pc := 94) dX2_tokenizes_94 rfl ?_
        refine gs_goto (pc := 97) (tgt := 9) dX2_tokenizes_97 (by decide) ?_
        exact ih (i + 1) _ _ L3 (hP.mv (hN.1.2.1 0 (by decide))) hd1 (by omega) (by rw [hN.2.2.2.1]; omega) (by rw [hN.2.2.2.1]; omega)
      have hP3 : PG (mA (mA M 10 i (M.1 12)) 11 i (b2i (op && !l.2.1.isEmpty))) S := hP
      have hl3 : lnM (mA (mA M 10 i (M.1 12)) 11 i (b2i (op && !l.2.1.isEmpty))) i l.2.1 := hl
      have k52 : G X fX2_tokenizes 5 52 [some (vR (some a)), some (vI (b2i op)), some (vI (i : Int)), L3] [] (mH hp a (mA (mA M 10 i (M.1 12)) 11 i (b2i (op && !l.2.1.isEmpty)))) (fun r hp' => r = none ∧ hp' = mH hp a (tkz S.2.2.2.2 (i + 1) (lt S.2.2.2.2 op l.2.1).2 ls (adN (mA (mA M 10 i (M.1 12)) 11 i (b2i (op && !l.2.1.isEmpty))) i (lt S.2.2.2.2 op l.2.1).1))) := by
        have hm3 : 0 ≤ (mA (mA M 10 i (M.1 12)) 11 i (b2i (op && !l.2.1.isEmpty))).1 12 ∧ (mA (mA M 10 i (M.1 12)) 11 i (b2i (op && !l.2.1.isEmpty))).1 12 + 32 ≤ 640 := by show 0 ≤ M.1 12 ∧ M.1 12 + 32 ≤ 640; omega
        generalize mA (mA M 10 i (M.1 12)) 11 i (b2i (op && !l.2.1.isEmpty)) = M3 at *
        cases op with
        | false =>
          refine gs_ild1 (pc := 52) dX2_tokenizes_52 ?_
          refine gs_beq (pc := 53) (tgt := 87) dX2_tokenizes_53 (by decide) (fun _ => ?_) (fun hn => absurd ((rfl : _ = false).symm.trans hn) (by decide))
          refine gs_ald0 (pc := 87) dX2_tokenizes_87 ?_
          refine gs_ild2 (pc := 88) dX2_tokenizes_88 ?_
          refine gs_iconst (pc := 89) dX2_tokenizes_89 ?_
          refine gs_V2 (pc := 90) dX2_tokenizes_90 kX2_117 (mcell hA) clX2 (by decide) (Nat.le_of_ble_eq_true rfl) (m_divides (p := 0) hA hl3 hP3.cmt.1 hP3.cmt.2 (by omega) (by omega)) (fun v hp1 hq => ?_)
          obtain ⟨rfl, rfl⟩ := hq
          refine gs_ist1 (pc := 93) dX2_tokenizes_93 rfl ?_
          exact k94 L3
        | true =>
          refine gs_ild1 (pc := 52) dX2_tokenizes_52 ?_
          refine gs_beq (pc := 53) (tgt := 87) dX2_tokenizes_53 (by decide) (fun hn => absurd ((rfl : _ = true).symm.trans hn) (by decide)) (fun _ => ?_)
          refine gs_ald0 (pc := 56) dX2_tokenizes_56 ?_
          refine gs_ild2 (pc := 57) dX2_tokenizes_57 ?_
          refine gs_iconst (pc := 58) dX2_tokenizes_58 ?_
          refine gs_V2 (pc := 59) dX2_tokenizes_59 kX2_101 (mcell hA) clX2 (by decide) (Nat.le_of_ble_eq_true rfl) (m_endOfLiteral (k := 0) hA hl3 (by omega)) (fun v hp1 hq => ?_)
          obtain ⟨rfl, rfl⟩ := hq
          cases h4 : litS l.2.1 with
          | none =>
            have hv : litV l.2.1 0 = -9 := by unfold litV; rw [List.drop_zero, h4]
            rw [hv]
            rw [lt_nn h4] at k94 ⊢
            refine gs_ist3 (pc := 62) dX2_tokenizes_62 rfl ?_
            refine gs_ild3 (pc := 63) dX2_tokenizes_63 ?_
            refine gs_bipush (pc := 64) dX2_tokenizes_64 rfl ?_
            refine gs_ic_eq (pc := 66) (tgt := 78) dX2_tokenizes_66 (by decide) (by omega) (fun _ => ?_) (fun hn => absurd (by decide) hn)
            refine gs_iconst (pc := 78) dX2_tokenizes_78 ?_
            refine gs_goto (pc := 79) (tgt := 83) dX2_tokenizes_79 (by decide) ?_
            refine gs_ist1 (pc := 83) dX2_tokenizes_83 rfl ?_
            refine gs_goto (pc := 84) (tgt := 94) dX2_tokenizes_84 (by decide) ?_
            exact k94 _
          | some n =>
            have hv : litV l.2.1 0 = (n : Int) := by unfold litV; rw [List.drop_zero, h4]; show ((0 + n : Nat) : Int) = n; omega
            have hn := litS_le _ _ h4
            rw [hv]
            rw [lt_sm h4] at k94 ⊢
            refine gs_ist3 (pc := 62) dX2_tokenizes_62 rfl ?_
            refine gs_ild3 (pc := 63) dX2_tokenizes_63 ?_
            refine gs_bipush (pc := 64) dX2_tokenizes_64 rfl ?_
            refine gs_ic_eq (pc := 66) (tgt := 78) dX2_tokenizes_66 (by decide) (by omega) (fun hn => absurd hn (by omega)) (fun _ => ?_)
            refine gs_ald0 (pc := 69) dX2_tokenizes_69 ?_
            refine gs_ild2 (pc := 70) dX2_tokenizes_70 ?_
            refine gs_ild3 (pc := 71) dX2_tokenizes_71 ?_
            refine gs_V2 (pc := 72) dX2_tokenizes_72 kX2_117 (mcell hA) clX2 (by decide) (Nat.le_of_ble_eq_true rfl) (m_divides (p := n) hA hl3 hP3.cmt.1 hP3.cmt.2 (by omega) (by omega)) (fun v hp1 hq => ?_)
            obtain ⟨rfl, rfl⟩ := hq
            refine gs_beq (pc := 75) (tgt := 82) dX2_tokenizes_75 (by decide) (fun hb => ?_) (fun hb => ?_)
            · rw [hb] at k94 ⊢
              refine gs_iconst (pc := 82) dX2_tokenizes_82 ?_
              refine gs_ist1 (pc := 83) dX2_tokenizes_83 rfl ?_
              refine gs_goto (pc := 84) (tgt := 94) dX2_tokenizes_84 (by decide) ?_
              exact k94 _
            · rw [hb] at k94 ⊢
              refine gs_iconst (pc := 78) dX2_tokenizes_78 ?_
              refine gs_goto (pc := 79) (tgt := 83) dX2_tokenizes_79 (by decide) ?_
              refine gs_ist1 (pc := 83) dX2_tokenizes_83 rfl ?_
              refine gs_goto (pc := 84) (tgt := 94) dX2_tokenizes_84 (by decide) ?_
              exact k94 _
      have k51 : ∀ z : Int, z = b2i (op && !l.2.1.isEmpty) → G X fX2_tokenizes 5 51 [some (vR (some a)), some (vI (b2i op)), some (vI (i : Int)), L3] [vI z, vI (i : Int), vR (some (a + 12))] (mH hp a (mA M 10 i (M.1 12))) (fun r hp' => r = none ∧ hp' = mH hp a (tkz S.2.2.2.2 (i + 1) (lt S.2.2.2.2 op l.2.1).2 ls (adN (mA (mA M 10 i (M.1 12)) 11 i (b2i (op && !l.2.1.isEmpty))) i (lt S.2.2.2.2 op l.2.1).1))) := by
        rintro z rfl
        refine ms_isHeld (pc := 51) hA dX2_tokenizes_51 (by omega) (by cases (op && !l.2.1.isEmpty) <;> simp [b2i]) ?_
        exact k52
      refine gs_ild2 (pc := 9) dX2_tokenizes_9 ?_
      refine gs_ald0 (pc := 10) dX2_tokenizes_10 ?_
      refine gs_getf (pc := 11) 0 dX2_tokenizes_11 (mcell hA) clX2 in_X2 (by decide) q2226 (Or.inl rfl) rfl ?_
      refine gs_iconst (pc := 14) dX2_tokenizes_14 ?_
      refine gs_iald (pc := 15) dX2_tokenizes_15 (ma_page hA) (by omega) (by omega) ?_
      refine gs_ic_ge (pc := 16) (tgt := 100) dX2_tokenizes_16 (by decide) (by omega) (fun hn => absurd hn (by omega)) (fun _ => ?_)
      refine gs_ald0 (pc := 19) dX2_tokenizes_19 ?_
      refine gs_getf (pc := 20) 13 dX2_tokenizes_20 (mcell hA) clX2 in_X2 (by decide) q2239 (Or.inl rfl) rfl ?_
      refine gs_ild2 (pc := 23) dX2_tokenizes_23 ?_
      refine gs_ald0 (pc := 24) dX2_tokenizes_24 ?_
      refine gs_getf (pc := 25) 12 dX2_tokenizes_25 (mcell hA) clX2 in_X2 (by decide) q2238 (Or.inl rfl) rfl ?_
      refine ms_firstOf (pc := 28) hA dX2_tokenizes_28 (by omega) ?_
      refine gs_ald0 (pc := 29) dX2_tokenizes_29 ?_
      refine gs_getf (pc := 30) 14 dX2_tokenizes_30 (mcell hA) clX2 in_X2 (by decide) q2240 (Or.inl rfl) rfl ?_
      refine gs_ild2 (pc := 33) dX2_tokenizes_33 ?_
      refine gs_ild1 (pc := 34) dX2_tokenizes_34 ?_
      refine gs_beq (pc := 35) (tgt := 50) dX2_tokenizes_35 (by decide) (fun hop => ?_) (fun hop => ?_)
      · refine gs_iconst (pc := 50) dX2_tokenizes_50 ?_
        exact k51 0 (by rw [hop]; rfl)
      · refine gs_ald0 (pc := 38) dX2_tokenizes_38 ?_
        refine gs_ild2 (pc := 39) dX2_tokenizes_39 ?_
        refine gs_V1 (pc := 40) dX2_tokenizes_40 kX2_114 (mcell hA) clX2 (by decide) (Nat.le_of_ble_eq_true rfl) (m_isBlank hA (by omega) (by show i32 (M.2.1 0 (21 + (i : Int))); omega)) (fun v hp1 hq => ?_)
        obtain ⟨rfl, rfl⟩ := hq
        refine gs_bne (pc := 43) (tgt := 50) dX2_tokenizes_43 (by decide) (fun hbl => ?_) (fun hbl => ?_)
        · refine gs_iconst (pc := 50) dX2_tokenizes_50 ?_
          refine k51 0 ?_
          have hbl : M.2.1 0 (21 + (i : Int)) = 0 := of_decide_eq_true hbl
          have : l.2.1 = [] := List.length_eq_zero_iff.mp (by omega)
          rw [hop, this]; rfl
        · refine gs_iconst (pc := 46) dX2_tokenizes_46 ?_
          refine gs_goto (pc := 47) (tgt := 51) dX2_tokenizes_47 (by decide) ?_
          refine k51 1 ?_
          have hbl : ¬ M.2.1 0 (21 + (i : Int)) = 0 := of_decide_eq_false hbl
          have : l.2.1.isEmpty = false := by
            cases h : l.2.1 with
            | nil => rw [h] at hlen; exact absurd hlen hbl
            | cons c t => rfl
          rw [hop, this]; rfl
  refine gs_ald0 (pc := 0) dX2_tokenizes_0 ?_
  refine gs_iconst (pc := 1) dX2_tokenizes_1 ?_
  refine mp_many (pc := 2) rfl hA dX2_tokenizes_2 ?_
  refine gs_iconst (pc := 5) dX2_tokenizes_5 ?_
  refine gs_ist1 (pc := 6) dX2_tokenizes_6 rfl ?_
  refine gs_iconst (pc := 7) dX2_tokenizes_7 ?_
  refine gs_ist2 (pc := 8) dX2_tokenizes_8 rfl ?_
  exact loop S.1 0 false (mP M 12 0) none hP rfl (by show 0 + _ = _; rw [Nat.zero_add]; rfl) (by show (0 : Int) ≤ 0; omega) (by show (0 : Int) + 32 * (nL S) ≤ 640; omega)
end N1
