/-! THE MODEL: notes, looks. -/
section N4
variable {X : gCx} {hp : gHp} {a : Nat} {M M' : MS} {A : AS} {S : SS} {s : List Int} {i p f t r n k : Nat} {W : Wk}
/-- the stacks before the first m lines (and at the end) -/
def NT (M : MS) (S : SS) (m : Nat) : Prop := ∀ i : Nat, i < m → M.2.1 12 i = (wkA S i).1.length ∧ ∀ k : Nat, k < (wkA S i).1.length → M.2.1 13 (12 * (i : Int) + k) = opK (wkA S i).1 k
theorem m_notes (hA : mok X hp a) (hi : i ≤ 20) (hn : NT M S i) (h18 : M.1 18 = (wkA S i).1.length) (h12 : (wkA S i).1.length ≤ 12) (h14 : ∀ b : Nat, b < (wkA S i).1.length → M.2.1 14 b = opK (wkA S i).1 b) (hall : ∀ j, (wkA S j).1.length ≤ 12) : M0 X yX2_notes fX2_notes 1 [vR (some a), vI (i : Int)] (mH hp a M) (fun hp' => ∃ M', hp' = mH hp a M' ∧ lkF M M' ∧ M'.1 = M.1 ∧ M'.2.1 7 = M.2.1 7 ∧ M'.2.1 8 = M.2.1 8 ∧ M'.2.1 9 = M.2.1 9 ∧ M'.2.1 14 = M.2.1 14 ∧ NT M' S (i + 1)) := by
  refine MC.of pfX2_notes rfl (fun h => by cases h) 1 rfl rfl ?_
  have loop : ∀ (m k : Nat) (M1 : MS), k + m = (wkA S i).1.length → lkF M M1 → M1.1 = M.1 → M1.2.1 7 = M.2.1 7 → M1.2.1 8 = M.2.1 8 → M1.2.1 9 = M.2.1 9 → M1.2.1 14 = M.2.1 14 → NT M1 S i → M1.2.1 12 i = (wkA S i).1.length → (∀ j : Nat, j < k → M1.2.1 13 (12 * (i : Int) + j) = opK (wkA S i).1 j) → G X fX2_notes 1 12 [some (vR (some a)), some (vI (i : Int)), some (vI (k : Int))] [] (mH hp a M1) (fun r hp' => r = none ∧ ∃ M', hp' = mH hp a M' ∧ lkF M M' ∧ M'.1 = M.1 ∧ M'.2.1 7 = M.2.1 7 ∧ M'.2.1 8 = M.2.1 8 ∧ M'.2.1 9 = M.2.1 9 ∧ M'.2.1 14 = M.2.1 14 ∧ NT M' S (i + 1)) := by
    intro m
    induction m with
    | zero =>
      intro k M1 hk h1 h2 h3 h4 h5 h6 h7 h8 h9
      have e18 : M1.1 18 = (wkA S i).1.length := by rw [h2]; exact h18
      refine gs_ild2 (pc := 12) dX2_notes_12 ?_
      refine gs_ald0 (pc := 13) dX2_notes_13 ?_
      refine gs_getf (pc := 14) 18 dX2_notes_14 (mcell hA) clX2 in_X2 (by decide) q2244 (Or.inl rfl) rfl ?_
      refine gs_ic_ge (pc := 17) (tgt := 43) dX2_notes_17 (by decide) (by omega) (fun _ => ?_) (fun hn => absurd (by omega) hn)
      refine gs_vret (pc := 43) dX2_notes_43 rfl ?_
      refine ⟨rfl, M1, rfl, h1, h2, h3, h4, h5, h6, fun j hj => ?_⟩
      by_cases hji : j = i
      · subst hji; exact ⟨h8, fun b hb => h9 b (by omega)⟩
      · exact h7 j (by omega)
    | succ m ih =>
      intro k M1 hk h1 h2 h3 h4 h5 h6 h7 h8 h9
      have e18 : M1.1 18 = (wkA S i).1.length := by rw [h2]; exact h18
      have e14 : M1.2.1 14 k = opK (wkA S i).1 k := by rw [h6]; exact h14 k (by omega)
      refine gs_ild2 (pc := 12) dX2_notes_12 ?_
      refine gs_ald0 (pc := 13) dX2_notes_13 ?_
      refine gs_getf (pc := 14) 18 dX2_notes_14 (mcell hA) clX2 in_X2 (by decide) q2244 (Or.inl rfl) rfl ?_
      refine gs_ic_ge (pc := 17) (tgt := 43) dX2_notes_17 (by decide) (by omega) (fun hn => absurd hn (by omega)) (fun _ => ?_)
      refine gs_ald0 (pc := 20) dX2_notes_20 ?_
      refine gs_getf (pc := 21) 16 dX2_notes_21 (mcell hA) clX2 in_X2 (by decide) q2242 (Or.inl rfl) rfl ?_
      refine gs_bipush (pc := 24) dX2_notes_24 rfl ?_
      refine gs_ild1 (pc := 26) dX2_notes_26 ?_
      refine gs_imul (pc := 27) dX2_notes_27 ?_
      refine gs_ild2 (pc := 28) dX2_notes_28 ?_
      refine gs_iadd (pc := 29) dX2_notes_29 ?_
      refine gs_ald0 (pc := 30) dX2_notes_30 ?_
      refine gs_getf (pc := 31) 17 dX2_notes_31 (mcell hA) clX2 in_X2 (by decide) q2243 (Or.inl rfl) rfl ?_
      refine gs_ild2 (pc := 34) dX2_notes_34 ?_
      refine gs_iald (pc := 35) dX2_notes_35 (ma_stack hA) (by omega) (by omega) ?_
      rw [e14]
      refine ms_stacks (pc := 36) hA dX2_notes_36 (by omega) ?_
      refine gs_inc2 (pc := 37) dX2_notes_37 rfl ?_
      refine gs_goto (pc := 40) (tgt := 12) dX2_notes_40 (by decide) ?_
      refine ih (k + 1) _ (by omega) (h1.trans (lkF.mA (by omega))) h2 h3 h4 h5 h6 (fun j hj => ⟨(h7 j hj).1, fun b hb => ?_⟩) h8 (fun j hj => ?_)
      · have := hall j
        show fup (M1.2.1 13) _ _ _ = _
        rw [fup_ne (by omega)]
        exact (h7 j hj).2 b hb
      · show fup (M1.2.1 13) _ _ _ = _
        by_cases hjk : j = k
        · subst hjk; exact fup_eq
        · rw [fup_ne (by omega)]; exact h9 j (by omega)
  refine gs_ald0 (pc := 0) dX2_notes_0 ?_
  refine gs_getf (pc := 1) 15 dX2_notes_1 (mcell hA) clX2 in_X2 (by decide) q2241 (Or.inl rfl) rfl ?_
  refine gs_ild1 (pc := 4) dX2_notes_4 ?_
  refine gs_ald0 (pc := 5) dX2_notes_5 ?_
  refine gs_getf (pc := 6) 18 dX2_notes_6 (mcell hA) clX2 in_X2 (by decide) q2244 (Or.inl rfl) rfl ?_
  refine ms_depths (pc := 9) hA dX2_notes_9 (by omega) ?_
  refine gs_iconst (pc := 10) dX2_notes_10 ?_
  refine gs_ist2 (pc := 11) dX2_notes_11 rfl ?_
  refine loop (wkA S i).1.length 0 _ (by omega) (lkF.mA (by omega)) rfl rfl rfl rfl rfl (fun j hj => ⟨?_, (hn j hj).2⟩) ?_ (fun j hj => absurd hj (by omega))
  · show fup (M.2.1 12) _ _ _ = _
    rw [fup_ne (by omega)]; exact (hn j hj).1
  · show fup (M.2.1 12) _ _ _ = _
    rw [fup_eq, h18]
/-- what looks leaves alone -/
def loF (M M' : MS) : Prop := (∀ k, k ≠ 12 ∧ k ≠ 18 ∧ k ≠ 19 ∧ k ≠ 20 → M'.1 k = M.1 k) ∧ (∀ j, j < 3 ∨ 14 < j → M'.2.1 j = M.2.1 j) ∧ M'.2.2 = M.2.2
theorem loF.refl : loF M M := ⟨fun _ _ => rfl, fun _ _ => rfl, rfl⟩
theorem loF.trans {M'' : MS} (h : loF M M') (h' : loF M' M'') : loF M M'' := ⟨fun k hk => (h'.1 k hk).trans (h.1 k hk), fun j hj => (h'.2.1 j hj).trans (h.2.1 j hj), h'.2.2.trans h.2.2⟩
theorem tkF.lo (h : tkF M M') : loF M M' := ⟨fun k hk => h.1 k hk.1, fun j hj => h.2.1 j (by omega), h.2.2⟩
theorem lkF.lo (h : lkF M M') : loF M M' := ⟨fun k hk => h.1 k hk.2, fun j hj => h.2.1 j (by omega), h.2.2⟩
/-- the Model has looked at S -/
def LO (M : MS) (S : SS) : Prop := TK M S ∧ LKW M S (wkN S (toks S) (toks S).length) (toks S).length ∧ NT M S (nL S + 1)
theorem wkA_12 (j : Nat) : (wkA S j).1.length ≤ 12 := (wkN_ok (S := S) (fstO S j)).1
theorem m_looks (hA : mok X hp a) (hP : PG M S) : M0 X yX2_looks fX2_looks 6 [vR (some a)] (mH hp a M) (fun hp' => ∃ M', hp' = mH hp a M' ∧ loF M M' ∧ LO M' S) := by
  refine MC.of pfX2_looks rfl (fun h => by cases h) 3 rfl rfl ?_
  have htle := toks_le hP.2
  have hout : ∀ (m i : Nat) (M1 : MS) (L2 L3 : Option AV), i + m = nL S → loF M M1 → PG M1 S → TK M1 S → LKW M1 S (wkA S i) (fstO S i) → NT M1 S i → G X fX2_looks 6 21 [some (vR (some a)), some (vI (i : Int)), L2, L3] [] (mH hp a M1) (fun r hp' => r = none ∧ ∃ M', hp' = mH hp a M' ∧ loF M M' ∧ LO M' S) := by
    intro m
    induction m with
    | zero =>
      intro i M1 L2 L3 hi hF hP hT hL hN
      have hc := hP.cnt
      obtain rfl : i = nL S := by omega
      refine gs_ild1 (pc := 21) dX2_looks_21 ?_
      refine gs_ald0 (pc := 22) dX2_looks_22 ?_
      refine gs_getf (pc := 23) 0 dX2_looks_23 (mcell hA) clX2 in_X2 (by decide) q2226 (Or.inl rfl) rfl ?_
      refine gs_iconst (pc := 26) dX2_looks_26 ?_
      refine gs_iald (pc := 27) dX2_looks_27 (ma_page hA) (by omega) (by omega) ?_
      refine gs_ic_ge (pc := 28) (tgt := 145) dX2_looks_28 (by decide) (by omega) (fun _ => ?_) (fun hn => absurd (by omega) hn)
      refine gs_ald0 (pc := 145) dX2_looks_145 ?_
      refine gs_ald0 (pc := 146) dX2_looks_146 ?_
      refine gs_getf (pc := 147) 0 dX2_looks_147 (mcell hA) clX2 in_X2 (by decide) q2226 (Or.inl rfl) rfl ?_
      refine gs_iconst (pc := 150) dX2_looks_150 ?_
      refine gs_iald (pc := 151) dX2_looks_151 (ma_page hA) (by omega) (by omega) ?_
      rw [hc.1]
      refine gs_V1v (pc := 152) dX2_looks_152 kX2_141 (mcell hA) clX2 (by decide) (Nat.le_of_ble_eq_true rfl) (m_notes hA (by omega) hN hL.1 (wkA_12 _) hL.2.1 wkA_12) (fun hp1 hq => ?_)
      obtain ⟨M2, rfl, n1, n2, n3, n4, n5, n6, n7⟩ := hq
      refine gs_vret (pc := 155) dX2_looks_155 rfl ?_
      refine ⟨rfl, M2, rfl, hF.trans n1.lo, n1.TK hT, ?_, n7⟩
      have hL := hL
      unfold wkA at hL
      rw [fstO_n] at hL
      obtain ⟨l1, l2, l3, l4, l5⟩ := hL
      exact ⟨by rw [n2]; exact l1, by rw [n6]; exact l2, by rw [n2]; exact l3, by rw [n2]; exact l4, by rw [n3, n4, n5]; exact l5⟩
    | succ m ih =>
      intro i M1 L2 L3 hi hF hP hT hL hN
      have hc := hP.cnt
      refine gs_ild1 (pc := 21) dX2_looks_21 ?_
      refine gs_ald0 (pc := 22) dX2_looks_22 ?_
      refine gs_getf (pc := 23) 0 dX2_looks_23 (mcell hA) clX2 in_X2 (by decide) q2226 (Or.inl rfl) rfl ?_
      refine gs_iconst (pc := 26) dX2_looks_26 ?_
      refine gs_iald (pc := 27) dX2_looks_27 (ma_page hA) (by omega) (by omega) ?_
      refine gs_ic_ge (pc := 28) (tgt := 145) dX2_looks_28 (by decide) (by omega) (fun hn => absurd hn (by omega)) (fun _ => ?_)
      refine gs_ald0 (pc := 31) dX2_looks_31 ?_
      refine gs_ild1 (pc := 32) dX2_looks_32 ?_
      refine gs_V1v (pc := 33) dX2_looks_33 kX2_141 (mcell hA) clX2 (by decide) (Nat.le_of_ble_eq_true rfl) (m_notes hA (by omega) hN hL.1 (wkA_12 _) hL.2.1 wkA_12) (fun hp1 hq => ?_)
      obtain ⟨M2, rfl, n1, n2, n3, n4, n5, n6, n7⟩ := hq
      have hP2 := n1.PG hP
      have hT2 := n1.TK hT
      have hL2 : LKW M2 S (wkN S (toks S) (fstO S i)) (fstO S i) := by
        obtain ⟨l1, l2, l3, l4, l5⟩ := hL
        exact ⟨by rw [n2]; exact l1, by rw [n6]; exact l2, by rw [n2]; exact l3, by rw [n2]; exact l4, by rw [n3, n4, n5]; exact l5⟩
      have hF2 := hF.trans n1.lo
      clear n1 n2 n3 n4 n5 n6 hL hT hP hN hF
      have hfl := fstO_le (S := S) (i := i + 1) (j := nL S) (by omega)
      rw [fstO_n] at hfl
      have hin : ∀ (q t : Nat) (M1 : MS) (L3 : Option AV), t + q = fstO S (i + 1) → fstO S i ≤ t → loF M M1 → PG M1 S → TK M1 S → LKW M1 S (wkN S (toks S) t) t → NT M1 S (i + 1) → G X fX2_looks 6 43 [some (vR (some a)), some (vI (i : Int)), some (vI (t : Int)), L3] [] (mH hp a M1) (fun r hp' => r = none ∧ ∃ M', hp' = mH hp a M' ∧ loF M M' ∧ LO M' S) := by
        intro q
        induction q with
        | zero =>
          intro t M1 L3 ht hit hF hP hT hL hN
          have h10 := hT.1 (i + 1) (by omega)
          have h10 : M1.2.1 10 ((i : Int) + 1) = fstO S (i + 1) := h10
          refine gs_ild2 (pc := 43) dX2_looks_43 ?_
          refine gs_ald0 (pc := 44) dX2_looks_44 ?_
          refine gs_getf (pc := 45) 13 dX2_looks_45 (mcell hA) clX2 in_X2 (by decide) q2239 (Or.inl rfl) rfl ?_
          refine gs_ild1 (pc := 48) dX2_looks_48 ?_
          refine gs_iconst (pc := 49) dX2_looks_49 ?_
          refine gs_iadd (pc := 50) dX2_looks_50 ?_
          refine gs_iald (pc := 51) dX2_looks_51 (ma_firstOf hA) (by omega) (by omega) ?_
          refine gs_ic_ge (pc := 52) (tgt := 139) dX2_looks_52 (by decide) (by omega) (fun _ => ?_) (fun hn => absurd (by omega) hn)
          refine gs_inc1 (pc := 139) dX2_looks_139 rfl ?_
          refine gs_goto (pc := 142) (tgt := 21) dX2_looks_142 (by decide) ?_
          obtain rfl : t = fstO S (i + 1) := by omega
          exact ih (i + 1) M1 _ _ (by omega) hF hP hT hL hN
        | succ q ihq =>
          intro t M1 L3 ht hit hF hP hT hL hN
          have h10 : M1.2.1 10 ((i : Int) + 1) = fstO S (i + 1) := hT.1 (i + 1) (by omega)
          have hW := wkN_ok (S := S) t
          have hdf := hW.2.2.1 t (Nat.le_refl _)
          refine gs_ild2 (pc := 43) dX2_looks_43 ?_
          refine gs_ald0 (pc := 44) dX2_looks_44 ?_
          refine gs_getf (pc := 45) 13 dX2_looks_45 (mcell hA) clX2 in_X2 (by decide) q2239 (Or.inl rfl) rfl ?_
          refine gs_ild1 (pc := 48) dX2_looks_48 ?_
          refine gs_iconst (pc := 49) dX2_looks_49 ?_
          refine gs_iadd (pc := 50) dX2_looks_50 ?_
          refine gs_iald (pc := 51) dX2_looks_51 (ma_firstOf hA) (by omega) (by omega) ?_
          refine gs_ic_ge (pc := 52) (tgt := 139) dX2_looks_52 (by decide) (by omega) (fun hn => absurd hn (by omega)) (fun _ => ?_)
          refine gs_ald0 (pc := 55) dX2_looks_55 ?_
          refine gs_getf (pc := 56) 9 dX2_looks_56 (mcell hA) clX2 in_X2 (by decide) q2235 (Or.inl rfl) rfl ?_
          refine gs_ild2 (pc := 59) dX2_looks_59 ?_
          refine gs_bipush (pc := 60) dX2_looks_60 rfl ?_
          refine ms_opens (pc := 62) hA dX2_looks_62 (by omega) ?_
          refine gs_ald0 (pc := 63) dX2_looks_63 ?_
          refine gs_getf (pc := 64) 10 dX2_looks_64 (mcell hA) clX2 in_X2 (by decide) q2236 (Or.inl rfl) rfl ?_
          refine gs_ild2 (pc := 67) dX2_looks_67 ?_
          refine gs_bipush (pc := 68) dX2_looks_68 rfl ?_
          refine ms_closes (pc := 70) hA dX2_looks_70 (by omega) ?_
          refine gs_ald0 (pc := 71) dX2_looks_71 ?_
          refine gs_getf (pc := 72) 11 dX2_looks_72 (mcell hA) clX2 in_X2 (by decide) q2237 (Or.inl rfl) rfl ?_
          refine gs_ild2 (pc := 75) dX2_looks_75 ?_
          refine gs_bipush (pc := 76) dX2_looks_76 rfl ?_
          refine ms_closer (pc := 78) hA dX2_looks_78 (by omega) ?_
          have hF3 : lkF M1 (mA (mA (mA M1 7 t (-9)) 8 t (-9)) 9 t (-9)) := ((lkF.mA (by omega)).trans (lkF.mA (by omega))).trans (lkF.mA (by omega))
          have hL3 : LKW (mA (mA (mA M1 7 t (-9)) 8 t (-9)) 9 t (-9)) S (wkN S (toks S) t) (t + 1) := by
            obtain ⟨l1, l2, l3, l4, l5⟩ := hL
            refine ⟨l1, l2, l3, l4, fun j hj => ?_⟩
            show fup (M1.2.1 7) t (-9) j = _ ∧ fup (M1.2.1 8) t (-9) j = _ ∧ fup (M1.2.1 9) t (-9) j = _
            by_cases hjt : j = t
            · subst hjt
              rw [fup_eq, fup_eq, fup_eq, hdf.1, hdf.2.1, hdf.2.2]
              exact ⟨rfl, rfl, rfl⟩
            · rw [fup_ne (by omega), fup_ne (by omega), fup_ne (by omega)]
              exact l5 j (by omega)
          have hN3 : NT (mA (mA (mA M1 7 t (-9)) 8 t (-9)) 9 t (-9)) S (i + 1) := hN
          generalize mA (mA (mA M1 7 t (-9)) 8 t (-9)) 9 t (-9) = M3 at *
          have hP3 := hF3.PG hP
          have hT3 := hF3.TK hT
          have hF' := hF.trans hF3.lo
          clear hF hF3 hP hT hL hN
          refine gs_ald0 (pc := 79) dX2_looks_79 ?_
          refine gs_ild2 (pc := 80) dX2_looks_80 ?_
          refine gs_V1v (pc := 81) dX2_looks_81 kX2_145 (mcell hA) clX2 (by decide) (Nat.le_of_ble_eq_true rfl) (m_shuts hA hP3 (hT3.at (by omega)) hL3 hW) (fun hp1 hq => ?_)
          obtain ⟨M4, rfl, s1, s2, s3, s4, s5⟩ := hq
          have hP4 := s1.PG hP3
          have hT4 := s1.TK hT3
          have hV := wkS1_ok hW
          have hVin := wkS1_in hW
          have hN4 : NT M4 S (i + 1) := by unfold NT; rw [s3, s4]; exact hN3
          have ew : wkN S (toks S) (t + 1) = wkO S (toks S) (wkS1 S (toks S) (wkN S (toks S) t) t) t := rfl
          have hopt : M4.2.1 7 t = -9 := by rw [s2]; have := (hL3.2.2.2.2 t (by omega)).1; rw [this, hdf.2.2]; rfl
          generalize wkS1 S (toks S) (wkN S (toks S) t) t = V at *
          obtain ⟨v1, v2, v3, v4, v5⟩ := s5
          have hV12 := hV.1
          have kN : ∀ L3, opnB S (toks S) t V.1.length = false → G X fX2_looks 6 133 [some (vR (some a)), some (vI (i : Int)), some (vI (t : Int)), L3] [] (mH hp a M4) (fun r hp' => r = none ∧ ∃ M', hp' = mH hp a M' ∧ loF M M' ∧ LO M' S) := by
            intro L3 ho
            have e1 : (wkO S (toks S) V t).1 = V.1 := if_neg (by rw [ho]; decide)
            refine gs_inc2 (pc := 133) dX2_looks_133 rfl ?_
            refine gs_goto (pc := 136) (tgt := 43) dX2_looks_136 (by decide) ?_
            refine ihq (t + 1) M4 _ (by omega) (by omega) (hF'.trans s1.lo) hP4 hT4 ?_ hN4
            rw [ew]
            refine ⟨by rw [e1]; exact v1, by rw [e1]; exact v2, v3, v4, fun j hj => ⟨?_, (v5 j hj).2⟩⟩
            show M4.2.1 7 j = if (if j = t then opnB S (toks S) t V.1.length else V.2.2.2.1 j) then _ else _
            by_cases hjt : j = t
            · subst hjt; rw [if_pos rfl, ho, hopt]; rfl
            · rw [if_neg hjt]; exact (v5 j hj).1
          have hrf := rfor_ok (S := S) (so := 1) (x := (tA (toks S) t).2.2.2.2) 12
          have epr : prT S (toks S) t = rfor S 1 (tA (toks S) t).2.2.2.2 12 := rfl
          refine gs_ald0 (pc := 84) dX2_looks_84 ?_
          refine gs_ild2 (pc := 85) dX2_looks_85 ?_
          refine gs_iconst (pc := 86) dX2_looks_86 ?_
          refine gs_V2 (pc := 87) dX2_looks_87 kX2_148 (mcell hA) clX2 (by decide) (Nat.le_of_ble_eq_true rfl) (m_ruleFor (so := 1) hA hP4 (hT4.at (by omega)) (by decide)) (fun v hp1 hq => ?_)
          obtain ⟨rfl, rfl⟩ := hq
          have hrng : -9 ≤ rfor S 1 (tA (toks S) t).2.2.2.2 12 ∧ rfor S 1 (tA (toks S) t).2.2.2.2 12 < 12 := by
            rcases hrf with h | ⟨r, R, h, h', -⟩
            · omega
            · omega
          clear hrf
          generalize rfor S 1 (tA (toks S) t).2.2.2.2 12 = rr at *
          refine gs_ist3 (pc := 90) dX2_looks_90 rfl ?_
          refine gs_ild3 (pc := 91) dX2_looks_91 ?_
          refine gs_bipush (pc := 92) dX2_looks_92 rfl ?_
          refine gs_ic_eq (pc := 94) (tgt := 133) dX2_looks_94 (by decide) (by omega) (fun h1 => ?_) (fun h1 => ?_)
          · exact kN _ (decide_eq_false (fun h => h.1 (by omega)))
          · refine gs_ald0 (pc := 97) dX2_looks_97 ?_
            refine gs_getf (pc := 98) 18 dX2_looks_98 (mcell hA) clX2 in_X2 (by decide) q2244 (Or.inl rfl) rfl ?_
            refine gs_bipush (pc := 101) dX2_looks_101 rfl ?_
            refine gs_ic_ge (pc := 103) (tgt := 133) dX2_looks_103 (by decide) (by omega) (fun h2 => ?_) (fun h2 => ?_)
            · exact kN _ (decide_eq_false (fun h => by have := h.2; omega))
            · have ho : opnB S (toks S) t V.1.length = true := decide_eq_true ⟨by omega, by omega⟩
              have e1 : (wkO S (toks S) V t).1 = V.1 ++ [t] := if_pos ho
              refine gs_ald0 (pc := 106) dX2_looks_106 ?_
              refine gs_getf (pc := 107) 9 dX2_looks_107 (mcell hA) clX2 in_X2 (by decide) q2235 (Or.inl rfl) rfl ?_
              refine gs_ild2 (pc := 110) dX2_looks_110 ?_
              refine gs_ild3 (pc := 111) dX2_looks_111 ?_
              refine ms_opens (pc := 112) hA dX2_looks_112 (by omega) ?_
              refine gs_ald0 (pc := 113) dX2_looks_113 ?_
              refine gs_getf (pc := 114) 17 dX2_looks_114 (mcell hA) clX2 in_X2 (by decide) q2243 (Or.inl rfl) rfl ?_
              refine gs_ald0 (pc := 117) dX2_looks_117 ?_
              refine gs_getf (pc := 118) 18 dX2_looks_118 (mcell hA) clX2 in_X2 (by decide) q2244 (Or.inl rfl) rfl ?_
              refine gs_ild2 (pc := 121) dX2_looks_121 ?_
              refine ms_stack (pc := 122) hA dX2_looks_122 (show 0 ≤ M4.1 18 ∧ M4.1 18 < 12 by omega) ?_
              refine gs_ald0 (pc := 123) dX2_looks_123 ?_
              refine gs_dup (pc := 124) dX2_looks_124 rfl ?_
              refine gs_getf (pc := 125) 18 dX2_looks_125 (mcell hA) clX2 in_X2 (by decide) q2244 (Or.inl rfl) rfl ?_
              refine gs_iconst (pc := 128) dX2_looks_128 ?_
              refine gs_iadd (pc := 129) dX2_looks_129 ?_
              refine mp_stacked (pc := 130) rfl hA dX2_looks_130 ?_
              refine gs_inc2 (pc := 133) dX2_looks_133 rfl ?_
              refine gs_goto (pc := 136) (tgt := 43) dX2_looks_136 (by decide) ?_
              have hF5 : lkF M4 (mP (mA (mA M4 7 t rr) 14 (M4.1 18) t) 18 (M4.1 18 + 1)) := ((lkF.mA (by omega)).trans (lkF.mA (by omega))).trans (lkF.mP (by omega))
              refine ihq (t + 1) _ _ (by omega) (by omega) ((hF'.trans s1.lo).trans hF5.lo) (hF5.PG hP4) (hF5.TK hT4) ?_ hN4
              rw [ew]
              refine ⟨?_, fun b hb => ?_, v3, v4, fun j hj => ⟨?_, (v5 j hj).2⟩⟩
              · rw [e1, List.length_append, List.length_singleton]
                show M4.1 18 + 1 = _
                omega
              · rw [e1] at hb ⊢
                rw [List.length_append, List.length_singleton] at hb
                show fup (M4.2.1 14) (M4.1 18) t b = _
                by_cases hbl : b < V.1.length
                · rw [fup_ne (by omega), opK_app hbl]; exact v2 b hbl
                · obtain rfl : b = V.1.length := by omega
                  rw [← v1, fup_eq, opK_last]
              · show fup (M4.2.1 7) t rr j = if (if j = t then opnB S (toks S) t V.1.length else V.2.2.2.1 j) then _ else _
                by_cases hjt : j = t
                · subst hjt; rw [if_pos rfl, ho, fup_eq, if_pos rfl, epr]
                · rw [if_neg hjt, fup_ne (by omega)]; exact (v5 j hj).1
      refine gs_ald0 (pc := 36) dX2_looks_36 ?_
      refine gs_getf (pc := 37) 13 dX2_looks_37 (mcell hA) clX2 in_X2 (by decide) q2239 (Or.inl rfl) rfl ?_
      refine gs_ild1 (pc := 40) dX2_looks_40 ?_
      refine gs_iald (pc := 41) dX2_looks_41 (ma_firstOf hA) (by omega) (by omega) ?_
      refine gs_ist2 (pc := 42) dX2_looks_42 rfl ?_
      rw [hT2.1 i (by omega)]
      exact hin (fstO S (i + 1) - fstO S i) (fstO S i) M2 _ (by have := fstO_mono (S := S) (i := i); omega) (Nat.le_refl _) hF2 hP2 hT2 hL2 n7
  refine gs_ald0 (pc := 0) dX2_looks_0 ?_
  refine gs_V0v (pc := 1) dX2_looks_1 kX2_138 (mcell hA) clX2 (by decide) (Nat.le_of_ble_eq_true rfl) (m_tokenizes hA hP) (fun hp1 hq => ?_)
  obtain ⟨rfl⟩ := hq
  have hz := tkz_spec (cm := S.2.2.2.2) S.1 0 false (mP M 12 0)
  have hT := TK.of (M := M) (S := S)
  generalize tkz S.2.2.2.2 0 false S.1 (mP M 12 0) = M1 at *
  have hF1 : loF M M1 := ⟨fun k hk => (hz.1.1 k hk.1).trans (if_neg hk.1), fun j hj => hz.1.2.1 j (by omega), hz.1.2.2⟩
  refine gs_ald0 (pc := 4) dX2_looks_4 ?_
  refine gs_iconst (pc := 5) dX2_looks_5 ?_
  refine mp_stacked (pc := 6) rfl hA dX2_looks_6 ?_
  refine gs_ald0 (pc := 9) dX2_looks_9 ?_
  refine gs_iconst (pc := 10) dX2_looks_10 ?_
  refine mp_stray (pc := 11) rfl hA dX2_looks_11 ?_
  refine gs_ald0 (pc := 14) dX2_looks_14 ?_
  refine gs_iconst (pc := 15) dX2_looks_15 ?_
  refine mp_gone (pc := 16) rfl hA dX2_looks_16 ?_
  refine gs_iconst (pc := 19) dX2_looks_19 ?_
  refine gs_ist1 (pc := 20) dX2_looks_20 rfl ?_
  have hk : lkF M1 (mP (mP (mP M1 18 0) 19 0) 20 0) := ((lkF.mP (by omega)).trans (lkF.mP (by omega))).trans (lkF.mP (by omega))
  refine hout (nL S) 0 _ _ _ (by omega) (hF1.trans hk.lo) (hk.PG (hP.mv (hF1.2.1 0 (by omega)))) (hk.TK hT) ?_ (fun j hj => absurd hj (by omega))
  unfold wkA
  rw [fstO_0]
  exact ⟨rfl, fun b hb => absurd hb (Nat.not_lt_zero _), rfl, rfl, fun t ht => absurd ht (Nat.not_lt_zero _)⟩
end N4
