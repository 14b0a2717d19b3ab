/-! THE COMPONENT: small calls. -/
section C4
variable {X : gCx} {hp hp1 hp2 : gHp} {S0 : Nat → Prop} {S : SS} {A : AS} {c s cap ra : Nat} {xs : List Nat} {f : Int → Option Nat} {lb : Nat} {fs : List AV}
theorem c_isWordByte {z : Int} (hc : i32 z) : MV X yX0_isWordByte fX0_isWordByte 2 [vI z] hp (fun r hp' => r = vI (b2i (wordB z)) ∧ hp = hp') := by
  refine MC.of pfX0_isWordByte rfl (fun h => by cases h) 0 rfl rfl ?_
  refine gs_ild0 (pc := 0) dX0_isWordByte_0 ?_
  refine gs_bipush (pc := 1) dX0_isWordByte_1 rfl ?_
  refine gs_bipush (pc := 3) dX0_isWordByte_3 rfl ?_
  refine gs_S3 (pc := 5) dX0_isWordByte_5 kX0_1 (by decide) (Nat.le_of_ble_eq_true rfl) (c_isIn hc (by decide) (by decide)) (fun v hp1 hq => ?_)
  obtain ⟨rfl, rfl⟩ := hq
  refine gs_bne (pc := 8) (tgt := 39) dX0_isWordByte_8 (by decide) (fun h1 => ?_) (fun h1 => ?_)
  · refine gs_iconst (pc := 39) dX0_isWordByte_39 ?_
    refine gs_goto (pc := 40) (tgt := 44) dX0_isWordByte_40 (by decide) ?_
    refine gs_zret (pc := 44) .boolean dX0_isWordByte_44 rfl rfl ?_
    exact ⟨_, rfl, by simp [wordB, h1, b2i], rfl⟩
  refine gs_ild0 (pc := 11) dX0_isWordByte_11 ?_
  refine gs_bipush (pc := 12) dX0_isWordByte_12 rfl ?_
  refine gs_bipush (pc := 14) dX0_isWordByte_14 rfl ?_
  refine gs_S3 (pc := 16) dX0_isWordByte_16 kX0_1 (by decide) (Nat.le_of_ble_eq_true rfl) (c_isIn hc (by decide) (by decide)) (fun v hp1 hq => ?_)
  obtain ⟨rfl, rfl⟩ := hq
  refine gs_bne (pc := 19) (tgt := 39) dX0_isWordByte_19 (by decide) (fun h2 => ?_) (fun h2 => ?_)
  · refine gs_iconst (pc := 39) dX0_isWordByte_39 ?_
    refine gs_goto (pc := 40) (tgt := 44) dX0_isWordByte_40 (by decide) ?_
    refine gs_zret (pc := 44) .boolean dX0_isWordByte_44 rfl rfl ?_
    exact ⟨_, rfl, by simp [wordB, h1, h2, b2i], rfl⟩
  refine gs_ild0 (pc := 22) dX0_isWordByte_22 ?_
  refine gs_bipush (pc := 23) dX0_isWordByte_23 rfl ?_
  refine gs_bipush (pc := 25) dX0_isWordByte_25 rfl ?_
  refine gs_S3 (pc := 27) dX0_isWordByte_27 kX0_1 (by decide) (Nat.le_of_ble_eq_true rfl) (c_isIn hc (by decide) (by decide)) (fun v hp1 hq => ?_)
  obtain ⟨rfl, rfl⟩ := hq
  refine gs_bne (pc := 30) (tgt := 39) dX0_isWordByte_30 (by decide) (fun h3 => ?_) (fun h3 => ?_)
  · refine gs_iconst (pc := 39) dX0_isWordByte_39 ?_
    refine gs_goto (pc := 40) (tgt := 44) dX0_isWordByte_40 (by decide) ?_
    refine gs_zret (pc := 44) .boolean dX0_isWordByte_44 rfl rfl ?_
    exact ⟨_, rfl, by simp [wordB, h1, h2, h3, b2i], rfl⟩
  refine gs_ild0 (pc := 33) dX0_isWordByte_33 ?_
  refine gs_bipush (pc := 34) dX0_isWordByte_34 rfl ?_
  refine gs_ic_ne (pc := 36) (tgt := 43) dX0_isWordByte_36 (by decide) (by omega) (fun h4 => ?_) (fun h4 => ?_)
  · refine gs_iconst (pc := 43) dX0_isWordByte_43 ?_
    refine gs_zret (pc := 44) .boolean dX0_isWordByte_44 rfl rfl ?_
    exact ⟨_, rfl, by simp [wordB, h1, h2, h3, h4, b2i], rfl⟩
  · refine gs_iconst (pc := 39) dX0_isWordByte_39 ?_
    refine gs_goto (pc := 40) (tgt := 44) dX0_isWordByte_40 (by decide) ?_
    refine gs_zret (pc := 44) .boolean dX0_isWordByte_44 rfl rfl ?_
    exact ⟨_, rfl, by simp [wordB, h1, h2, h3, h4, b2i], rfl⟩
theorem c_lines (hc : gl X hp c = some (lb, .inr (0, vR (some s) :: fs))) (hs : stA X hp s S xs cap ra f) : MV X yX0_lines fX0_lines 2 [vR (some c)] hp (fun r hp' => r = vI (S.1.length : Nat) ∧ hp = hp') := by
  obtain ⟨e1, e2, e3, e4, -⟩ := hs
  have e2' := e2
  obtain ⟨mc, e, lbe, ff, ea, -⟩ := e2'
  refine MC.of pfX0_lines rfl (fun h => by cases h) 0 rfl rfl ?_
  refine gs_ald0 (pc := 0) dX0_lines_0 ?_
  refine gs_getf (pc := 1) 0 dX0_lines_1 hc clX0 in_X0 (by decide) q211 (Or.inl rfl) rfl ?_
  refine gs_getfN (pc := 4) 0 dX0_lines_4 e1 clX1 in_X1 (by decide) q185 (Or.inl rfl) rfl ?_
  refine gs_V0 (pc := 7) dX0_lines_7 kX0_44 ea clJ2 (by decide) (Nat.le_of_ble_eq_true rfl) (c_alSize e2) (fun v hp1 hq => ?_)
  obtain ⟨rfl, rfl⟩ := hq
  refine gs_iret (pc := 10) dX0_lines_10 rfl ?_
  exact ⟨_, rfl, by rw [e4], rfl⟩
theorem c_isLine {i : Int} (hc : gl X hp c = some (lb, .inr (0, vR (some s) :: fs))) (hs : stA X hp s S xs cap ra f) (hi : i32 i) : MV X yX0_isLine fX0_isLine 2 [vR (some c), vI i] hp (fun r hp' => r = vI (b2i (inB i 0 ((S.1.length : Int) - 1))) ∧ hp = hp') := by
  obtain ⟨e1, e2, e3, e4, -⟩ := hs
  have e2' := e2
  obtain ⟨mc, e, lbe, ff, ea, -, -, ec, -⟩ := e2'
  refine MC.of pfX0_isLine rfl (fun h => by cases h) 0 rfl rfl ?_
  refine gs_ild1 (pc := 0) dX0_isLine_0 ?_
  refine gs_iconst (pc := 1) dX0_isLine_1 ?_
  refine gs_ald0 (pc := 2) dX0_isLine_2 ?_
  refine gs_getf (pc := 3) 0 dX0_isLine_3 hc clX0 in_X0 (by decide) q211 (Or.inl rfl) rfl ?_
  refine gs_getfN (pc := 6) 0 dX0_isLine_6 e1 clX1 in_X1 (by decide) q185 (Or.inl rfl) rfl ?_
  refine gs_V0 (pc := 9) dX0_isLine_9 kX0_44 ea clJ2 (by decide) (Nat.le_of_ble_eq_true rfl) (c_alSize e2) (fun v hp1 hq => ?_)
  obtain ⟨rfl, rfl⟩ := hq
  rw [e4]
  refine gs_iconst (pc := 12) dX0_isLine_12 ?_
  refine gs_isub (pc := 13) dX0_isLine_13 ?_
  refine gs_S3 (pc := 14) dX0_isLine_14 kX0_1 (by decide) (Nat.le_of_ble_eq_true rfl) (c_isIn hi (by decide) (by omega)) (fun v hp1 hq => ?_)
  obtain ⟨rfl, rfl⟩ := hq
  refine gs_zret (pc := 17) .boolean dX0_isLine_17 rfl (zb _) ?_
  exact ⟨_, rfl, rfl, rfl⟩
theorem inB_isL {i : Int} : inB i 0 ((A.1.1.length : Int) - 1) = isL A i := by
  unfold inB isL
  congr 1
  apply propext
  constructor <;> intro h <;> omega
theorem c_line {n : Nat} (hc : gl X hp c = some (lb, .inr (0, vR (some s) :: fs))) (hs : stA X hp s S xs cap ra f) (hn : n < S.1.length) : MV X yX0_line fX0_line 4 [vR (some c), vI (n : Int)] hp (fun r hp' => r = vR (some (xs.getD n 0)) ∧ hp = hp') := by
  obtain ⟨e1, e2, e3, e4, e5, e6, -⟩ := hs
  have e2' := e2
  obtain ⟨mc, e, lbe, ff, ea, -⟩ := e2'
  obtain ⟨cc, cl, -⟩ := e6 n (by omega)
  refine MC.of pfX0_line rfl (fun h => by cases h) 0 rfl rfl ?_
  refine gs_ald0 (pc := 0) dX0_line_0 ?_
  refine gs_getf (pc := 1) 0 dX0_line_1 hc clX0 in_X0 (by decide) q211 (Or.inl rfl) rfl ?_
  refine gs_getfN (pc := 4) 0 dX0_line_4 e1 clX1 in_X1 (by decide) q185 (Or.inl rfl) rfl ?_
  refine gs_ild1 (pc := 7) dX0_line_7 ?_
  refine gs_V1 (pc := 8) dX0_line_8 kX0_107 ea clJ2 (by decide) (Nat.le_of_ble_eq_true rfl) (c_alGet e2 (by omega)) (fun v hp1 hq => ?_)
  obtain ⟨rfl, rfl⟩ := hq
  refine gs_cast (pc := 11) dX0_line_11 q266 cl clX3 (Or.inl rfl) ?_
  refine gs_aret (pc := 14) dX0_line_14 rfl (Or.inl ⟨_, rfl⟩) ?_
  exact ⟨_, rfl, rfl, rfl⟩
theorem c_isRange {g t : Int} (hc : gl X hp c = some (lb, .inr (0, vR (some s) :: fs))) (hs : stA X hp s A.1 xs cap ra f) (hg : i32 g) (ht : i32 t) : MV X yX0_isRange fX0_isRange 2 [vR (some c), vI g, vI t] hp (fun r hp' => r = vI (b2i (rngB A g t)) ∧ hp = hp') := by
  obtain ⟨e1, e2, e3, e4, -⟩ := hs
  have e2' := e2
  obtain ⟨mc, e, lbe, ff, ea, -, -, ec, -⟩ := e2'
  refine MC.of pfX0_isRange rfl (fun h => by cases h) 0 rfl rfl ?_
  unfold rngB
  have hn : nL A.1 = A.1.1.length := rfl
  refine gs_ild1 (pc := 0) dX0_isRange_0 ?_
  refine gs_if_lt (pc := 1) (tgt := 27) dX0_isRange_1 (by decide) (by omega) (fun h1 => ?_) (fun h1 => ?_)
  · refine gs_iconst (pc := 27) dX0_isRange_27 ?_
    refine gs_zret (pc := 28) .boolean dX0_isRange_28 rfl rfl ?_
    exact ⟨_, rfl, by rw [decide_eq_false (by omega)]; rfl, rfl⟩
  · refine gs_ild1 (pc := 4) dX0_isRange_4 ?_
    refine gs_ild2 (pc := 5) dX0_isRange_5 ?_
    refine gs_ic_gt (pc := 6) (tgt := 27) dX0_isRange_6 (by decide) (by omega) (fun h2 => ?_) (fun h2 => ?_)
    · refine gs_iconst (pc := 27) dX0_isRange_27 ?_
      refine gs_zret (pc := 28) .boolean dX0_isRange_28 rfl rfl ?_
      exact ⟨_, rfl, by rw [decide_eq_false (by omega)]; rfl, rfl⟩
    · refine gs_ild2 (pc := 9) dX0_isRange_9 ?_
      refine gs_ald0 (pc := 10) dX0_isRange_10 ?_
      refine gs_getf (pc := 11) 0 dX0_isRange_11 hc clX0 in_X0 (by decide) q211 (Or.inl rfl) rfl ?_
      refine gs_getfN (pc := 14) 0 dX0_isRange_14 e1 clX1 in_X1 (by decide) q185 (Or.inl rfl) rfl ?_
      refine gs_V0 (pc := 17) dX0_isRange_17 kX0_44 ea clJ2 (by decide) (Nat.le_of_ble_eq_true rfl) (c_alSize e2) (fun v hp1 hq => ?_)
      obtain ⟨rfl, rfl⟩ := hq
      refine gs_ic_gt (pc := 20) (tgt := 27) dX0_isRange_20 (by decide) (by omega) (fun h3 => ?_) (fun h3 => ?_)
      · refine gs_iconst (pc := 27) dX0_isRange_27 ?_
        refine gs_zret (pc := 28) .boolean dX0_isRange_28 rfl rfl ?_
        exact ⟨_, rfl, by rw [decide_eq_false (by omega)]; rfl, rfl⟩
      · refine gs_iconst (pc := 23) dX0_isRange_23 ?_
        refine gs_goto (pc := 24) (tgt := 28) dX0_isRange_24 (by decide) ?_
        refine gs_zret (pc := 28) .boolean dX0_isRange_28 rfl rfl ?_
        exact ⟨_, rfl, by rw [decide_eq_true (by omega)]; rfl, rfl⟩
theorem c_indentation {i : Int} (hR : RC X hp c A) (hi : i32 i) : MV X yX0_indentation fX0_indentation 5 [vR (some c), vI i] hp (fun r hp' => r = vI (sp_indentation A i) ∧ hp = hp') := by
  obtain ⟨s, pa, ia, tb, w, ch, at_, fa, dr, ps, fI, fT, e1, ⟨xs, cap, ra, f, e2⟩, -⟩ := hR
  refine MC.of pfX0_indentation rfl (fun h => by cases h) 0 rfl rfl ?_
  unfold sp_indentation
  refine gs_ald0 (pc := 0) dX0_indentation_0 ?_
  refine gs_ild1 (pc := 1) dX0_indentation_1 ?_
  refine gs_V1 (pc := 2) dX0_indentation_2 kX0_145 e1 clX0 (by decide) (Nat.le_of_ble_eq_true rfl) (c_isLine e1 e2 hi) (fun v hp1 hq => ?_)
  obtain ⟨rfl, rfl⟩ := hq
  refine gs_beq (pc := 5) (tgt := 19) dX0_indentation_5 (by decide) (fun h1 => ?_) (fun h1 => ?_)
  · rw [inB_isL] at h1
    rw [if_neg (by rw [h1]; decide)]
    refine gs_iconst (pc := 19) dX0_indentation_19 ?_
    refine gs_iret (pc := 20) dX0_indentation_20 rfl ?_
    exact ⟨_, rfl, rfl, rfl⟩
  · rw [inB_isL] at h1
    rw [if_pos h1]
    obtain ⟨n, rfl, hn⟩ := isL_nat h1
    rw [Int.toNat_natCast]
    obtain ⟨cc, cl, -⟩ := e2.2.2.2.2.2.1 n (by rw [e2.2.2.2.1]; exact hn)
    refine gs_ald0 (pc := 8) dX0_indentation_8 ?_
    refine gs_ild1 (pc := 9) dX0_indentation_9 ?_
    refine gs_V1 (pc := 10) dX0_indentation_10 kX0_149 e1 clX0 (by decide) (Nat.le_of_ble_eq_true rfl) (c_line e1 e2 hn) (fun v hp1 hq => ?_)
    obtain ⟨rfl, rfl⟩ := hq
    refine gs_getfN (pc := 13) 0 dX0_indentation_13 cl clX3 in_X3 (by decide) q275 (Or.inl rfl) rfl ?_
    refine gs_goto (pc := 16) (tgt := 20) dX0_indentation_16 (by decide) ?_
    refine gs_iret (pc := 20) dX0_indentation_20 rfl ?_
    exact ⟨_, rfl, rfl, rfl⟩
theorem c_length {i : Int} (hR : RC X hp c A) (hi : i32 i) : MV X yX0_length fX0_length 5 [vR (some c), vI i] hp (fun r hp' => r = vI (sp_length A i) ∧ hp = hp') := by
  obtain ⟨s, pa, ia, tb, w, ch, at_, fa, dr, ps, fI, fT, e1, ⟨xs, cap, ra, f, e2⟩, -⟩ := hR
  refine MC.of pfX0_length rfl (fun h => by cases h) 0 rfl rfl ?_
  unfold sp_length
  refine gs_ald0 (pc := 0) dX0_length_0 ?_
  refine gs_ild1 (pc := 1) dX0_length_1 ?_
  refine gs_V1 (pc := 2) dX0_length_2 kX0_145 e1 clX0 (by decide) (Nat.le_of_ble_eq_true rfl) (c_isLine e1 e2 hi) (fun v hp1 hq => ?_)
  obtain ⟨rfl, rfl⟩ := hq
  refine gs_beq (pc := 5) (tgt := 22) dX0_length_5 (by decide) (fun h1 => ?_) (fun h1 => ?_)
  · rw [inB_isL] at h1
    rw [if_neg (by rw [h1]; decide)]
    refine gs_iconst (pc := 22) dX0_length_22 ?_
    refine gs_iret (pc := 23) dX0_length_23 rfl ?_
    exact ⟨_, rfl, rfl, rfl⟩
  · rw [inB_isL] at h1
    rw [if_pos h1]
    obtain ⟨n, rfl, hn⟩ := isL_nat h1
    rw [Int.toNat_natCast]
    obtain ⟨cc, cl, cs, -⟩ := e2.2.2.2.2.2.1 n (by rw [e2.2.2.2.1]; exact hn)
    have cs' := cs
    obtain ⟨-, -, lbs, b, hh, z, -, es, -⟩ := cs'
    refine gs_ald0 (pc := 8) dX0_length_8 ?_
    refine gs_ild1 (pc := 9) dX0_length_9 ?_
    refine gs_V1 (pc := 10) dX0_length_10 kX0_149 e1 clX0 (by decide) (Nat.le_of_ble_eq_true rfl) (c_line e1 e2 hn) (fun v hp1 hq => ?_)
    obtain ⟨rfl, rfl⟩ := hq
    refine gs_getfN (pc := 13) 1 dX0_length_13 cl clX3 in_X3 (by decide) q278 (Or.inl rfl) rfl ?_
    refine gs_V0 (pc := 16) dX0_length_16 kX0_160 es clJ5 (by decide) (Nat.le_of_ble_eq_true rfl) (c_slen cs) (fun v hp1 hq => ?_)
    obtain ⟨rfl, rfl⟩ := hq
    refine gs_goto (pc := 19) (tgt := 23) dX0_length_19 (by decide) ?_
    refine gs_iret (pc := 23) dX0_length_23 rfl ?_
    exact ⟨_, rfl, rfl, rfl⟩
theorem c_byteAt {i k : Int} (hR : RC X hp c A) (hi : i32 i) (hk : i32 k) : MV X yX0_byteAt fX0_byteAt 5 [vR (some c), vI i, vI k] hp (fun r hp' => r = vI (sp_byteAt A i k) ∧ hp = hp') := by
  obtain ⟨s, pa, ia, tb, w, ch, at_, fa, dr, ps, fI, fT, e1, ⟨xs, cap, ra, f, e2⟩, -⟩ := hR
  refine MC.of pfX0_byteAt rfl (fun h => by cases h) 0 rfl rfl ?_
  unfold sp_byteAt
  refine gs_ald0 (pc := 0) dX0_byteAt_0 ?_
  refine gs_ild1 (pc := 1) dX0_byteAt_1 ?_
  refine gs_V1 (pc := 2) dX0_byteAt_2 kX0_145 e1 clX0 (by decide) (Nat.le_of_ble_eq_true rfl) (c_isLine e1 e2 hi) (fun v hp1 hq => ?_)
  obtain ⟨rfl, rfl⟩ := hq
  refine gs_beq (pc := 5) (tgt := 12) dX0_byteAt_5 (by decide) (fun h1 => ?_) (fun h1 => ?_)
  · rw [inB_isL] at h1
    rw [if_neg (by rw [h1]; simp)]
    refine gs_iconst (pc := 12) dX0_byteAt_12 ?_
    refine gs_iret (pc := 13) dX0_byteAt_13 rfl ?_
    exact ⟨_, rfl, rfl, rfl⟩
  · rw [inB_isL] at h1
    refine gs_ild2 (pc := 8) dX0_byteAt_8 ?_
    refine gs_if_ge (pc := 9) (tgt := 14) dX0_byteAt_9 (by decide) (by omega) (fun h2 => ?_) (fun h2 => ?_)
    · rw [if_pos ⟨h1, by omega⟩]
      obtain ⟨n, rfl, hn⟩ := isL_nat h1
      obtain ⟨j, rfl⟩ : ∃ j : Nat, k = (j : Int) := ⟨k.toNat, by omega⟩
      rw [Int.toNat_natCast, Int.toNat_natCast]
      obtain ⟨cc, cl, cs, -⟩ := e2.2.2.2.2.2.1 n (by rw [e2.2.2.2.1]; exact hn)
      have cs' := cs
      obtain ⟨-, hl1000, lbs, b, hh, z, -, es, -⟩ := cs'
      refine gs_ild2 (pc := 14) dX0_byteAt_14 ?_
      refine gs_ald0 (pc := 15) dX0_byteAt_15 ?_
      refine gs_ild1 (pc := 16) dX0_byteAt_16 ?_
      refine gs_V1 (pc := 17) dX0_byteAt_17 kX0_149 e1 clX0 (by decide) (Nat.le_of_ble_eq_true rfl) (c_line e1 e2 hn) (fun v hp1 hq => ?_)
      obtain ⟨rfl, rfl⟩ := hq
      refine gs_getfN (pc := 20) 1 dX0_byteAt_20 cl clX3 in_X3 (by decide) q278 (Or.inl rfl) rfl ?_
      refine gs_V0 (pc := 23) dX0_byteAt_23 kX0_160 es clJ5 (by decide) (Nat.le_of_ble_eq_true rfl) (c_slen cs) (fun v hp1 hq => ?_)
      obtain ⟨rfl, rfl⟩ := hq
      refine gs_ic_ge (pc := 26) (tgt := 44) dX0_byteAt_26 (by decide) (by omega) (fun h3 => ?_) (fun h3 => ?_)
      · refine gs_bipush (pc := 44) dX0_byteAt_44 rfl ?_
        refine gs_iret (pc := 46) dX0_byteAt_46 rfl ?_
        exact ⟨_, rfl, by rw [getD_out (by omega)], rfl⟩
      · refine gs_ald0 (pc := 29) dX0_byteAt_29 ?_
        refine gs_ild1 (pc := 30) dX0_byteAt_30 ?_
        refine gs_V1 (pc := 31) dX0_byteAt_31 kX0_149 e1 clX0 (by decide) (Nat.le_of_ble_eq_true rfl) (c_line e1 e2 hn) (fun v hp1 hq => ?_)
        obtain ⟨rfl, rfl⟩ := hq
        refine gs_getfN (pc := 34) 1 dX0_byteAt_34 cl clX3 in_X3 (by decide) q278 (Or.inl rfl) rfl ?_
        refine gs_ild2 (pc := 37) dX0_byteAt_37 ?_
        refine gs_V1 (pc := 38) dX0_byteAt_38 kX0_164 es clJ5 (by decide) (Nat.le_of_ble_eq_true rfl) (c_char cs (by omega)) (fun v hp1 hq => ?_)
        obtain ⟨rfl, rfl⟩ := hq
        refine gs_goto (pc := 41) (tgt := 46) dX0_byteAt_41 (by decide) ?_
        refine gs_iret (pc := 46) dX0_byteAt_46 rfl ?_
        exact ⟨_, rfl, by rw [getD_in (by omega), getD_in (by omega)], rfl⟩
    · rw [if_neg (fun h => by omega)]
      refine gs_iconst (pc := 12) dX0_byteAt_12 ?_
      refine gs_iret (pc := 13) dX0_byteAt_13 rfl ?_
      exact ⟨_, rfl, rfl, rfl⟩
theorem c_isPinned {i : Int} (hR : RC X hp c A) (hi : i32 i) : MV X yX0_isPinned fX0_isPinned 5 [vR (some c), vI i] hp (fun r hp' => r = vI (sp_isPinned A i) ∧ hp = hp') := by
  obtain ⟨s, pa, ia, tb, w, ch, at_, fa, dr, ps, fI, fT, e1, ⟨xs, cap, ra, f, e2⟩, -⟩ := hR
  refine MC.of pfX0_isPinned rfl (fun h => by cases h) 0 rfl rfl ?_
  unfold sp_isPinned
  refine gs_ald0 (pc := 0) dX0_isPinned_0 ?_
  refine gs_ild1 (pc := 1) dX0_isPinned_1 ?_
  refine gs_V1 (pc := 2) dX0_isPinned_2 kX0_145 e1 clX0 (by decide) (Nat.le_of_ble_eq_true rfl) (c_isLine e1 e2 hi) (fun v hp1 hq => ?_)
  obtain ⟨rfl, rfl⟩ := hq
  refine gs_bne (pc := 5) (tgt := 10) dX0_isPinned_5 (by decide) (fun h1 => ?_) (fun h1 => ?_)
  · rw [inB_isL] at h1
    rw [if_pos h1]
    obtain ⟨n, rfl, hn⟩ := isL_nat h1
    rw [Int.toNat_natCast]
    obtain ⟨cc, cl, -⟩ := e2.2.2.2.2.2.1 n (by rw [e2.2.2.2.1]; exact hn)
    refine gs_ald0 (pc := 10) dX0_isPinned_10 ?_
    refine gs_ild1 (pc := 11) dX0_isPinned_11 ?_
    refine gs_V1 (pc := 12) dX0_isPinned_12 kX0_149 e1 clX0 (by decide) (Nat.le_of_ble_eq_true rfl) (c_line e1 e2 hn) (fun v hp1 hq => ?_)
    obtain ⟨rfl, rfl⟩ := hq
    refine gs_getfN (pc := 15) 2 dX0_isPinned_15 cl clX3 in_X3 (by decide) q281 (Or.inl rfl) rfl ?_
    cases hp0 : (lnA A.1 n).2.2 with
    | false =>
      refine gs_beq (pc := 18) (tgt := 25) dX0_isPinned_18 (by decide) (fun _ => ?_) (fun hn => absurd ((rfl : _ = false).symm.trans hn) (by decide))
      refine gs_iconst (pc := 25) dX0_isPinned_25 ?_
      refine gs_iret (pc := 26) dX0_isPinned_26 rfl ?_
      exact ⟨_, rfl, by rw [show pinB A.1 n = false from hp0]; rfl, rfl⟩
    | true =>
      refine gs_beq (pc := 18) (tgt := 25) dX0_isPinned_18 (by decide) (fun hn => absurd ((rfl : _ = true).symm.trans hn) (by decide)) (fun _ => ?_)
      refine gs_iconst (pc := 21) dX0_isPinned_21 ?_
      refine gs_goto (pc := 22) (tgt := 26) dX0_isPinned_22 (by decide) ?_
      refine gs_iret (pc := 26) dX0_isPinned_26 rfl ?_
      exact ⟨_, rfl, by rw [show pinB A.1 n = true from hp0]; rfl, rfl⟩
  · rw [inB_isL] at h1
    rw [if_neg (by rw [h1]; decide)]
    refine gs_iconst (pc := 8) dX0_isPinned_8 ?_
    refine gs_iret (pc := 9) dX0_isPinned_9 rfl ?_
    exact ⟨_, rfl, rfl, rfl⟩
end C4
