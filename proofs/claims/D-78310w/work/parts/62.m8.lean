/-! THE MODEL: a line is divided. -/
section M8
variable {X : gCx} {hp : gHp} {a : Nat} {M : MS} {s : List Int} {i p f : Nat} {cm : Int}
theorem cm_ne (h : cmOk cm = true) : cm ≠ 34 ∧ cm ≠ 32 ∧ wordB cm = false ∧ 0 ≤ cm ∧ cm ≤ 126 := by
  unfold cmOk at h
  by_cases h0 : cm = 0
  · subst h0; decide
  · simp [h0, inB] at h
    exact ⟨by omega, by omega, by simpa using h.2, by omega, by omega⟩
theorem tk_nil : tk cm f p [] = ([], false) := by cases f <;> rfl
theorem tk_c {c : Int} {t : List Int} : tk cm (f + 1) p (c :: t) = if c = 32 then tk cm f (p + 1) t
    else if c = cm then ([], false)
    else if trip (c :: t) then (match litS (t.drop 2) with
      | some n => ((p, 3 + n, 2) :: (tk cm f (p + 3 + n) (t.drop (2 + n))).1, (tk cm f (p + 3 + n) (t.drop (2 + n))).2)
      | none => ([(p, (c :: t).length, 2)], true))
    else if c = 34 then ((p, 1 + strS t, 2) :: (tk cm f (p + 1 + strS t) (t.drop (strS t))).1, (tk cm f (p + 1 + strS t) (t.drop (strS t))).2)
    else if wordB c then ((p, 1 + wrdS t, 0) :: (tk cm f (p + 1 + wrdS t) (t.drop (wrdS t))).1, (tk cm f (p + 1 + wrdS t) (t.drop (wrdS t))).2)
    else ((p, 1, 1) :: (tk cm f (p + 1) t).1, (tk cm f (p + 1) t).2) := rfl
theorem drop_drop' {j k n : Nat} (h : j + k = n) : (s.drop j).drop k = s.drop n := by
  subst h
  rw [List.drop_drop]
theorem tk_sp (hk : p < s.length) (h : s.getD p (-9) = 32) : tk cm (f + 1) p (s.drop p) = tk cm f (p + 1) (s.drop (p + 1)) := by
  rw [getD_in hk] at h
  rw [List.drop_eq_getElem_cons hk, tk_c, if_pos h]
theorem tk_cm (hk : p < s.length) (h1 : s.getD p (-9) ≠ 32) (h : s.getD p (-9) = cm) : tk cm (f + 1) p (s.drop p) = ([], false) := by
  rw [getD_in hk] at h h1
  rw [List.drop_eq_getElem_cons hk, tk_c, if_neg h1, if_pos h]
theorem tk_lit {n : Nat} (hk : p < s.length) (h1 : s.getD p (-9) ≠ 32) (h2 : s.getD p (-9) ≠ cm) (h3 : trip (s.drop p) = true) (h4 : litS (s.drop (p + 3)) = some n) : tk cm (f + 1) p (s.drop p) = ((p, 3 + n, 2) :: (tk cm f (p + 3 + n) (s.drop (p + 3 + n))).1, (tk cm f (p + 3 + n) (s.drop (p + 3 + n))).2) := by
  rw [getD_in hk] at h1 h2
  rw [List.drop_eq_getElem_cons hk] at h3 ⊢
  rw [tk_c, if_neg h1, if_neg h2, if_pos h3, drop_drop' (show p + 1 + 2 = p + 3 by omega), h4]
  dsimp only
  rw [drop_drop' (show p + 1 + (2 + n) = p + 3 + n by omega)]
theorem tk_litN (hk : p < s.length) (h1 : s.getD p (-9) ≠ 32) (h2 : s.getD p (-9) ≠ cm) (h3 : trip (s.drop p) = true) (h4 : litS (s.drop (p + 3)) = none) : tk cm (f + 1) p (s.drop p) = ([(p, s.length - p, 2)], true) := by
  rw [getD_in hk] at h1 h2
  have hl : (s.drop p).length = s.length - p := List.length_drop
  rw [List.drop_eq_getElem_cons hk] at h3 hl ⊢
  rw [tk_c, if_neg h1, if_neg h2, if_pos h3, drop_drop' (show p + 1 + 2 = p + 3 by omega), h4, hl]
theorem tk_str (hk : p < s.length) (h2 : s.getD p (-9) ≠ cm) (h3 : trip (s.drop p) = false) (h4 : s.getD p (-9) = 34) : tk cm (f + 1) p (s.drop p) = ((p, 1 + strS (s.drop (p + 1)), 2) :: (tk cm f (p + 1 + strS (s.drop (p + 1))) (s.drop (p + 1 + strS (s.drop (p + 1))))).1, (tk cm f (p + 1 + strS (s.drop (p + 1))) (s.drop (p + 1 + strS (s.drop (p + 1))))).2) := by
  rw [getD_in hk] at h2 h4
  rw [List.drop_eq_getElem_cons hk] at h3 ⊢
  rw [tk_c, if_neg (by rw [h4]; decide), if_neg h2, if_neg (by rw [h3]; decide), if_pos h4, drop_drop' rfl]
theorem tk_wrd (hk : p < s.length) (h2 : s.getD p (-9) ≠ cm) (h3 : trip (s.drop p) = false) (h4 : s.getD p (-9) ≠ 34) (h5 : wordB (s.getD p (-9)) = true) : tk cm (f + 1) p (s.drop p) = ((p, 1 + wrdS (s.drop (p + 1)), 0) :: (tk cm f (p + 1 + wrdS (s.drop (p + 1))) (s.drop (p + 1 + wrdS (s.drop (p + 1))))).1, (tk cm f (p + 1 + wrdS (s.drop (p + 1))) (s.drop (p + 1 + wrdS (s.drop (p + 1))))).2) := by
  rw [getD_in hk] at h2 h4 h5
  have h1 : s[p] ≠ 32 := by intro h; rw [h] at h5; revert h5; decide
  rw [List.drop_eq_getElem_cons hk] at h3 ⊢
  rw [tk_c, if_neg h1, if_neg h2, if_neg (by rw [h3]; decide), if_neg h4, if_pos h5, drop_drop' rfl]
theorem tk_sgn (hk : p < s.length) (h1 : s.getD p (-9) ≠ 32) (h2 : s.getD p (-9) ≠ cm) (h3 : trip (s.drop p) = false) (h4 : s.getD p (-9) ≠ 34) (h5 : wordB (s.getD p (-9)) = false) : tk cm (f + 1) p (s.drop p) = ((p, 1, 1) :: (tk cm f (p + 1) (s.drop (p + 1))).1, (tk cm f (p + 1) (s.drop (p + 1))).2) := by
  rw [getD_in hk] at h1 h2 h4 h5
  rw [List.drop_eq_getElem_cons hk] at h3 ⊢
  rw [tk_c, if_neg h1, if_neg h2, if_neg (by rw [h3]; decide), if_neg h4, if_neg (by rw [h5]; decide)]
def adN (M : MS) (i : Int) : List Tk → MS
  | [] => M
  | t :: ts => adN (ad1 M i (t.1 : Int) (t.2.1 : Int) (t.2.2 : Int)) i ts
theorem m_divides (hA : mok X hp a) (hl : lnM M i s) (hcm : M.2.1 0 979 = cm) (hc : cmOk cm = true) (hp0 : p ≤ s.length) (hm : 0 ≤ M.1 12 ∧ M.1 12 + (s.length - p : Nat) ≤ 640) : MV X yX2_divides fX2_divides 4 [vR (some a), vI (i : Int), vI (p : Int)] (mH hp a M) (fun r hp' => r = vI (b2i (tk cm 33 p (s.drop p)).2) ∧ hp' = mH hp a (adN M i (tk cm 33 p (s.drop p)).1)) := by
  obtain ⟨c1, c2, c3, c4, c5⟩ := cm_ne hc
  refine MC.of pfX2_divides rfl (fun h => by cases h) 3 rfl rfl ?_
  have loop : ∀ (f p : Nat) (M : MS) (L4 L5 : Option AV), nolg L4 = true → s.length < p + f → p ≤ s.length → lnM M i s → M.2.1 0 979 = cm → 0 ≤ M.1 12 → M.1 12 + (s.length - p : Nat) ≤ 640 → ∀ z : Int, G X fX2_divides 4 2 [some (vR (some a)), some (vI (i : Int)), some (vI z), some (vI (p : Int)), L4, L5] [] (mH hp a M) (fun r hp' => ∃ v, r = some v ∧ v = vI (b2i (tk cm f p (s.drop p)).2) ∧ hp' = mH hp a (adN M i (tk cm f p (s.drop p)).1)) := by
    intro f
    induction f with
    | zero => intro p M L4 L5 hg h1 h2; omega
    | succ f ih =>
      intro p M L4 L5 hg hf hp0 hl hcm hm0 hm z
      have hl' := hl
      obtain ⟨g1, g2, g3, g4, g5⟩ := hl'
      have r0 := getD_rng (k := p) g3
      refine gs_ild3 (pc := 2) dX2_divides_2 ?_
      refine gs_ald0 (pc := 3) dX2_divides_3 ?_
      refine gs_getf (pc := 4) 0 dX2_divides_4 (mcell hA) clX2 in_X2 (by decide) q2226 (Or.inl rfl) rfl ?_
      refine gs_bipush (pc := 7) dX2_divides_7 rfl ?_
      refine gs_ild1 (pc := 9) dX2_divides_9 ?_
      refine gs_iadd (pc := 10) dX2_divides_10 ?_
      refine gs_iald (pc := 11) dX2_divides_11 (ma_page hA) (by omega) (by omega) ?_
      refine gs_ic_ge (pc := 12) (tgt := 201) dX2_divides_12 (by decide) (by omega) (fun hk => ?_) (fun hk => ?_)
      · rw [List.drop_eq_nil_of_le (show s.length ≤ p by omega), tk_nil]
        refine gs_iconst (pc := 201) dX2_divides_201 ?_
        refine gs_zret (pc := 202) .boolean dX2_divides_202 rfl rfl ?_
        exact ⟨_, rfl, rfl, rfl⟩
      have hk : p < s.length := by omega
      refine gs_ald0 (pc := 15) dX2_divides_15 ?_
      refine gs_ild1 (pc := 16) dX2_divides_16 ?_
      refine gs_ild3 (pc := 17) dX2_divides_17 ?_
      refine gs_V2 (pc := 18) dX2_divides_18 kX2_83 (mcell hA) clX2 (by decide) (Nat.le_of_ble_eq_true rfl) (m_cAt hA hl (by omega)) (fun v hp1 hq => ?_)
      obtain ⟨rfl, rfl⟩ := hq
      refine gs_ist4 (pc := 21) dX2_divides_21 rfl ?_
      refine gs_ild4 (pc := 23) dX2_divides_23 ?_
      refine gs_bipush (pc := 25) dX2_divides_25 rfl ?_
      refine gs_ic_ne (pc := 27) (tgt := 36) dX2_divides_27 (by decide) (by omega) (fun h1 => ?_) (fun h1 => ?_)
      · refine gs_ald0 (pc := 36) dX2_divides_36 ?_
        refine gs_ild1 (pc := 37) dX2_divides_37 ?_
        refine gs_ild3 (pc := 38) dX2_divides_38 ?_
        refine gs_V2 (pc := 39) dX2_divides_39 kX2_87 (mcell hA) clX2 (by decide) (Nat.le_of_ble_eq_true rfl) (m_isTriple hA hl (by omega)) (fun v hp1 hq => ?_)
        obtain ⟨rfl, rfl⟩ := hq
        refine gs_beq (pc := 42) (tgt := 98) dX2_divides_42 (by decide) (fun h3 => ?_) (fun h3 => ?_)
        · refine gs_ild4 (pc := 98) dX2_divides_98 ?_
          refine gs_bipush (pc := 100) dX2_divides_100 rfl ?_
          refine gs_ic_ne (pc := 102) (tgt := 128) dX2_divides_102 (by decide) (by omega) (fun h4 => ?_) (fun h4 => ?_)
          · refine gs_ild4 (pc := 128) dX2_divides_128 ?_
            refine gs_ald0 (pc := 130) dX2_divides_130 ?_
            refine gs_getf (pc := 131) 0 dX2_divides_131 (mcell hA) clX2 in_X2 (by decide) q2226 (Or.inl rfl) rfl ?_
            refine gs_sipush (pc := 134) dX2_divides_134 rfl ?_
            refine gs_iald (pc := 137) dX2_divides_137 (ma_page hA) (by omega) (by omega) ?_
            refine gs_ic_ne (pc := 138) (tgt := 154) dX2_divides_138 (by decide) (by omega) (fun h2 => ?_) (fun h2 => ?_)
            · have h2 : s.getD p (-9) ≠ cm := by omega
              refine gs_ild4 (pc := 154) dX2_divides_154 ?_
              refine gs_S1 (pc := 156) dX2_divides_156 kX2_94 (by decide) (Nat.le_of_ble_eq_true rfl) (m_isWord (by omega)) (fun v hp1 hq => ?_)
              obtain ⟨rfl, rfl⟩ := hq
              refine gs_beq (pc := 159) (tgt := 185) dX2_divides_159 (by decide) (fun h5 => ?_) (fun h5 => ?_)
              · rw [tk_sgn hk h1 h2 h3 h4 h5]
                refine gs_ald0 (pc := 185) dX2_divides_185 ?_
                refine gs_ild1 (pc := 186) dX2_divides_186 ?_
                refine gs_ild3 (pc := 187) dX2_divides_187 ?_
                refine gs_ild3 (pc := 188) dX2_divides_188 ?_
                refine gs_iconst (pc := 189) dX2_divides_189 ?_
                refine gs_iadd (pc := 190) dX2_divides_190 ?_
                refine gs_iconst (pc := 191) dX2_divides_191 ?_
                refine gs_V4v (pc := 192) dX2_divides_192 kX2_104 (mcell hA) clX2 (by decide) (Nat.le_of_ble_eq_true rfl) (m_adds (l := 1) hA (by omega) (by omega)) (fun hp1 hq => ?_)
                obtain ⟨rfl⟩ := hq
                refine gs_inc3 (pc := 195) dX2_divides_195 rfl ?_
                refine gs_goto (pc := 198) (tgt := 2) dX2_divides_198 (by decide) ?_
                exact ih (p + 1) (ad1 M i p 1 1) _ _ rfl (by omega) (by omega) hl hcm (by show 0 ≤ M.1 12 + 1; omega) (by show M.1 12 + 1 + _ ≤ _; omega) z
              · rw [tk_wrd hk h2 h3 h4 h5]
                have hw := wrdS_next h5
                have hwl := wrdS_le (s.drop (p + 1))
                rw [List.length_drop] at hwl
                have hw2 : p + wrdS (s.drop p) = p + 1 + wrdS (s.drop (p + 1)) := by omega
                refine gs_ald0 (pc := 162) dX2_divides_162 ?_
                refine gs_ild1 (pc := 163) dX2_divides_163 ?_
                refine gs_ild3 (pc := 164) dX2_divides_164 ?_
                refine gs_V2 (pc := 165) dX2_divides_165 kX2_111 (mcell hA) clX2 (by decide) (Nat.le_of_ble_eq_true rfl) (m_endOfWord hA hl (by omega)) (fun v hp1 hq => ?_)
                obtain ⟨rfl, rfl⟩ := hq
                rw [hw2]
                refine gs_ist5 (pc := 168) dX2_divides_168 rfl ?_
                refine gs_ald0 (pc := 170) dX2_divides_170 ?_
                refine gs_ild1 (pc := 171) dX2_divides_171 ?_
                refine gs_ild3 (pc := 172) dX2_divides_172 ?_
                refine gs_ild5 (pc := 173) dX2_divides_173 ?_
                refine gs_iconst (pc := 175) dX2_divides_175 ?_
                refine gs_V4v (pc := 176) dX2_divides_176 kX2_104 (mcell hA) clX2 (by decide) (Nat.le_of_ble_eq_true rfl) (m_adds (l := ((1 + wrdS (s.drop (p + 1)) : Nat) : Int)) hA (by omega) (by omega)) (fun hp1 hq => ?_)
                obtain ⟨rfl⟩ := hq
                refine gs_ild5 (pc := 179) dX2_divides_179 ?_
                refine gs_ist3 (pc := 181) dX2_divides_181 rfl ?_
                refine gs_goto (pc := 182) (tgt := 198) dX2_divides_182 (by decide) ?_
                refine gs_goto (pc := 198) (tgt := 2) dX2_divides_198 (by decide) ?_
                exact ih _ (ad1 M i p _ 0) _ _ rfl (by omega) (by omega) hl hcm (by show 0 ≤ M.1 12 + 1; omega) (by show M.1 12 + 1 + _ ≤ _; omega) z
            · rw [tk_cm hk h1 (by omega)]
              refine gs_ald0 (pc := 141) dX2_divides_141 ?_
              refine gs_getf (pc := 142) 0 dX2_divides_142 (mcell hA) clX2 in_X2 (by decide) q2226 (Or.inl rfl) rfl ?_
              refine gs_bipush (pc := 145) dX2_divides_145 rfl ?_
              refine gs_ild1 (pc := 147) dX2_divides_147 ?_
              refine gs_iadd (pc := 148) dX2_divides_148 ?_
              refine gs_iald (pc := 149) dX2_divides_149 (ma_page hA) (by omega) (by omega) ?_
              refine gs_ist3 (pc := 150) dX2_divides_150 rfl ?_
              refine gs_goto (pc := 151) (tgt := 198) dX2_divides_151 (by decide) ?_
              refine gs_goto (pc := 198) (tgt := 2) dX2_divides_198 (by decide) ?_
              have := ih s.length M (some (vI (s.getD p (-9)))) L5 rfl (by omega) (by omega) hl hcm hm0 (by omega) z
              rw [List.drop_eq_nil_of_le (Nat.le_refl _), tk_nil] at this
              rw [g4]
              exact this
          · have h4 : s.getD p (-9) = 34 := by omega
            rw [tk_str hk (by omega) h3 h4]
            have hs := strV_eq (s := s) (k := p + 1) (by omega)
            have hsl := strS_le (s.drop (p + 1)).length (s.drop (p + 1)) (Nat.le_refl _)
            rw [List.length_drop] at hsl
            refine gs_ald0 (pc := 105) dX2_divides_105 ?_
            refine gs_ild1 (pc := 106) dX2_divides_106 ?_
            refine gs_ild3 (pc := 107) dX2_divides_107 ?_
            refine gs_V2 (pc := 108) dX2_divides_108 kX2_108 (mcell hA) clX2 (by decide) (Nat.le_of_ble_eq_true rfl) (m_endOfString hA hl (by omega)) (fun v hp1 hq => ?_)
            obtain ⟨rfl, rfl⟩ := hq
            rw [hs]
            refine gs_ist5 (pc := 111) dX2_divides_111 rfl ?_
            refine gs_ald0 (pc := 113) dX2_divides_113 ?_
            refine gs_ild1 (pc := 114) dX2_divides_114 ?_
            refine gs_ild3 (pc := 115) dX2_divides_115 ?_
            refine gs_ild5 (pc := 116) dX2_divides_116 ?_
            refine gs_iconst (pc := 118) dX2_divides_118 ?_
            refine gs_V4v (pc := 119) dX2_divides_119 kX2_104 (mcell hA) clX2 (by decide) (Nat.le_of_ble_eq_true rfl) (m_adds (l := ((1 + strS (s.drop (p + 1)) : Nat) : Int)) hA (by omega) (by omega)) (fun hp1 hq => ?_)
            obtain ⟨rfl⟩ := hq
            refine gs_ild5 (pc := 122) dX2_divides_122 ?_
            refine gs_ist3 (pc := 124) dX2_divides_124 rfl ?_
            refine gs_goto (pc := 125) (tgt := 198) dX2_divides_125 (by decide) ?_
            refine gs_goto (pc := 198) (tgt := 2) dX2_divides_198 (by decide) ?_
            exact ih _ (ad1 M i p _ 2) _ _ rfl (by omega) (by omega) hl hcm (by show 0 ≤ M.1 12 + 1; omega) (by show M.1 12 + 1 + _ ≤ _; omega) z
        · have h34 := (trip_iff.mp h3).1
          have h3l := trip_lt h3
          have hcc : s.getD p (-9) ≠ cm := by omega
          cases h4 : litS (s.drop (p + 3)) with
          | none =>
            have hv : litV s (p + 3) = -9 := by unfold litV; rw [h4]
            rw [tk_litN hk h1 hcc h3 h4]
            refine gs_ald0 (pc := 45) dX2_divides_45 ?_
            refine gs_ild1 (pc := 46) dX2_divides_46 ?_
            refine gs_ild3 (pc := 47) dX2_divides_47 ?_
            refine gs_iconst (pc := 48) dX2_divides_48 ?_
            refine gs_iadd (pc := 49) dX2_divides_49 ?_
            refine gs_V2 (pc := 50) dX2_divides_50 kX2_101 (mcell hA) clX2 (by decide) (Nat.le_of_ble_eq_true rfl) (m_endOfLiteral (k := p + 3) hA hl (by omega)) (fun v hp1 hq => ?_)
            obtain ⟨rfl, rfl⟩ := hq
            rw [hv]
            refine gs_ist5 (pc := 53) dX2_divides_53 rfl ?_
            refine gs_ald0 (pc := 55) dX2_divides_55 ?_
            refine gs_ild1 (pc := 56) dX2_divides_56 ?_
            refine gs_ild3 (pc := 57) dX2_divides_57 ?_
            refine gs_ild5 (pc := 58) dX2_divides_58 ?_
            refine gs_bipush (pc := 60) dX2_divides_60 rfl ?_
            refine gs_ic_ne (pc := 62) (tgt := 77) dX2_divides_62 (by decide) (by omega) (fun hn => absurd (by decide) hn) (fun _ => ?_)
            refine gs_ald0 (pc := 65) dX2_divides_65 ?_
            refine gs_getf (pc := 66) 0 dX2_divides_66 (mcell hA) clX2 in_X2 (by decide) q2226 (Or.inl rfl) rfl ?_
            refine gs_bipush (pc := 69) dX2_divides_69 rfl ?_
            refine gs_ild1 (pc := 71) dX2_divides_71 ?_
            refine gs_iadd (pc := 72) dX2_divides_72 ?_
            refine gs_iald (pc := 73) dX2_divides_73 (ma_page hA) (by omega) (by omega) ?_
            refine gs_goto (pc := 74) (tgt := 79) dX2_divides_74 (by decide) ?_
            refine gs_iconst (pc := 79) dX2_divides_79 ?_
            refine gs_V4v (pc := 80) dX2_divides_80 kX2_104 (mcell hA) clX2 (by decide) (Nat.le_of_ble_eq_true rfl) (m_adds (l := ((s.length - p : Nat) : Int)) hA (by omega) (by omega)) (fun hp1 hq => ?_)
            obtain ⟨rfl⟩ := hq
            refine gs_ild5 (pc := 83) dX2_divides_83 ?_
            refine gs_bipush (pc := 85) dX2_divides_85 rfl ?_
            refine gs_ic_ne (pc := 87) (tgt := 92) dX2_divides_87 (by decide) (by omega) (fun hn => absurd (by decide) hn) (fun _ => ?_)
            refine gs_iconst (pc := 90) dX2_divides_90 ?_
            refine gs_zret (pc := 91) .boolean dX2_divides_91 rfl rfl ?_
            exact ⟨_, rfl, rfl, rfl⟩
          | some n =>
            have hv : litV s (p + 3) = ((p + 3 + n : Nat) : Int) := by unfold litV; rw [h4]
            have hn := litS_le _ _ h4
            rw [List.length_drop] at hn
            rw [tk_lit hk h1 hcc h3 h4]
            refine gs_ald0 (pc := 45) dX2_divides_45 ?_
            refine gs_ild1 (pc := 46) dX2_divides_46 ?_
            refine gs_ild3 (pc := 47) dX2_divides_47 ?_
            refine gs_iconst (pc := 48) dX2_divides_48 ?_
            refine gs_iadd (pc := 49) dX2_divides_49 ?_
            refine gs_V2 (pc := 50) dX2_divides_50 kX2_101 (mcell hA) clX2 (by decide) (Nat.le_of_ble_eq_true rfl) (m_endOfLiteral (k := p + 3) hA hl (by omega)) (fun v hp1 hq => ?_)
            obtain ⟨rfl, rfl⟩ := hq
            rw [hv]
            refine gs_ist5 (pc := 53) dX2_divides_53 rfl ?_
            refine gs_ald0 (pc := 55) dX2_divides_55 ?_
            refine gs_ild1 (pc := 56) dX2_divides_56 ?_
            refine gs_ild3 (pc := 57) dX2_divides_57 ?_
            refine gs_ild5 (pc := 58) dX2_divides_58 ?_
            refine gs_bipush (pc := 60) dX2_divides_60 rfl ?_
            refine gs_ic_ne (pc := 62) (tgt := 77) dX2_divides_62 (by decide) (by omega) (fun _ => ?_) (fun hn => absurd hn (by omega))
            refine gs_ild5 (pc := 77) dX2_divides_77 ?_
            refine gs_iconst (pc := 79) dX2_divides_79 ?_
            refine gs_V4v (pc := 80) dX2_divides_80 kX2_104 (mcell hA) clX2 (by decide) (Nat.le_of_ble_eq_true rfl) (m_adds (l := ((3 + n : Nat) : Int)) hA (by omega) (by omega)) (fun hp1 hq => ?_)
            obtain ⟨rfl⟩ := hq
            refine gs_ild5 (pc := 83) dX2_divides_83 ?_
            refine gs_bipush (pc := 85) dX2_divides_85 rfl ?_
            refine gs_ic_ne (pc := 87) (tgt := 92) dX2_divides_87 (by decide) (by omega) (fun _ => ?_) (fun hn => absurd hn (by omega))
            refine gs_ild5 (pc := 92) dX2_divides_92 ?_
            refine gs_ist3 (pc := 94) dX2_divides_94 rfl ?_
            refine gs_goto (pc := 95) (tgt := 198) dX2_divides_95 (by decide) ?_
            refine gs_goto (pc := 198) (tgt := 2) dX2_divides_198 (by decide) ?_
            exact ih _ (ad1 M i p _ 2) _ _ rfl (by omega) (by omega) hl hcm (by show 0 ≤ M.1 12 + 1; omega) (by show M.1 12 + 1 + _ ≤ _; omega) z
      · rw [tk_sp hk (by omega)]
        refine gs_inc3 (pc := 30) dX2_divides_30 rfl ?_
        refine gs_goto (pc := 33) (tgt := 198) dX2_divides_33 (by decide) ?_
        refine gs_goto (pc := 198) (tgt := 2) dX2_divides_198 (by decide) ?_
        exact ih (p + 1) M _ _ rfl (by omega) (by omega) hl hcm hm0 (by omega) z
  refine gs_ild2 (pc := 0) dX2_divides_0 ?_
  refine gs_ist3 (pc := 1) dX2_divides_1 rfl ?_
  exact loop 33 p M none none rfl (by have := hl.2.1; omega) hp0 hl hcm hm.1 hm.2 _
end M8
