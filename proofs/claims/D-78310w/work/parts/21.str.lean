/-! CONTRACTS: String (codes 0..127). -/
theorem i_shr0 (x : Int) : Int32.ofInt x >>> (Int32.ofInt 0 &&& 31) = Int32.ofInt x := sb_shr0 _
theorem i_shl0 (x : Int) : Int32.ofInt x <<< (Int32.ofInt 0 &&& 31) = Int32.ofInt x := sb_shl0 _
theorem i_and255' : ∀ n : Nat, n < 128 → Int32.ofInt (n : Int) &&& Int32.ofInt 255 = Int32.ofInt (n : Int) := by decide
theorem i_c2' : ∀ n : Nat, n < 128 → ((Int32.ofInt (n : Int)).toUInt32 % 65536).toInt32 = Int32.ofInt (n : Int) := by decide
theorem i_nc' : ∀ n : Nat, n < 128 → narrow .char (.int (Int32.ofInt (n : Int))) = .int (Int32.ofInt (n : Int)) := by decide
theorem i_b' : ∀ n : Nat, n < 128 → (Int32.ofInt (n : Int)).toInt8.toInt32 = Int32.ofInt (n : Int) := by decide
theorem i_fb' : ∀ n : Nat, n < 128 → fits .byte (.int (Int32.ofInt (n : Int))) = true := by decide
theorem i_nb' : ∀ n : Nat, n < 128 → narrow .byte (.int (Int32.ofInt (n : Int))) = .int (Int32.ofInt (n : Int)) := by decide
theorem i_127 {P : Int → Prop} (h : ∀ n : Nat, n < 128 → P (n : Int)) {c : Int} (hc : 0 ≤ c ∧ c ≤ 127) : P c := by
  obtain ⟨n, rfl⟩ : ∃ n : Nat, c = (n : Int) := ⟨c.toNat, by omega⟩
  exact h n (by omega)
theorem i_and255 {c : Int} (h : 0 ≤ c ∧ c ≤ 127) : Int32.ofInt c &&& Int32.ofInt 255 = Int32.ofInt c := i_127 (P := fun c => Int32.ofInt c &&& Int32.ofInt 255 = Int32.ofInt c) i_and255' h
theorem i_c2 {c : Int} (h : 0 ≤ c ∧ c ≤ 127) : ((Int32.ofInt c).toUInt32 % 65536).toInt32 = Int32.ofInt c := i_127 (P := fun c => ((Int32.ofInt c).toUInt32 % 65536).toInt32 = Int32.ofInt c) i_c2' h
theorem i_nc {c : Int} (h : 0 ≤ c ∧ c ≤ 127) : narrow .char (.int (Int32.ofInt c)) = .int (Int32.ofInt c) := i_127 (P := fun c => narrow .char (.int (Int32.ofInt c)) = .int (Int32.ofInt c)) i_nc' h
theorem i_b {c : Int} (h : 0 ≤ c ∧ c ≤ 127) : (Int32.ofInt c).toInt8.toInt32 = Int32.ofInt c := i_127 (P := fun c => (Int32.ofInt c).toInt8.toInt32 = Int32.ofInt c) i_b' h
theorem i_fb {c : Int} (h : 0 ≤ c ∧ c ≤ 127) : fits .byte (.int (Int32.ofInt c)) = true := i_127 (P := fun c => fits .byte (.int (Int32.ofInt c)) = true) i_fb' h
theorem i_nb {c : Int} (h : 0 ≤ c ∧ c ≤ 127) : narrow .byte (.int (Int32.ofInt c)) = .int (Int32.ofInt c) := i_127 (P := fun c => narrow .byte (.int (Int32.ofInt c)) = .int (Int32.ofInt c)) i_nb' h
section STR
variable {X : gCx} {hp : gHp}
theorem c_coder {a lb : Nat} {b : Option Nat} {h z : Int} (ha : gl X hp a = some (lb, .inr (11, [vR b, vI 0, vI h, vI z]))) : MV X yJ5_coder fJ5_coder 1 [vR (some a)] hp (fun v hp' => v = vI 0 ∧ hp = hp') := by
  refine MC.of pfJ5_coder rfl (fun h => by cases h) 0 rfl rfl ?_
  refine gs_gets (pc := 0) 0 (by decide) dJ5_coder_0 q455 (Or.inl rfl) ?_
  refine gs_if_eq (pc := 3) (tgt := 13) dJ5_coder_3 (by decide) (by omega) (fun hn => absurd hn (by decide)) (fun _ => ?_)
  refine gs_ald0 (pc := 6) dJ5_coder_6 ?_
  refine gs_getf (pc := 7) 1 dJ5_coder_7 ha clJ5 in_J5 (by decide) q470 (Or.inl rfl) rfl ?_
  refine gs_goto (pc := 10) (tgt := 14) dJ5_coder_10 (by decide) ?_
  refine gs_zret (pc := 14) .byte dJ5_coder_14 rfl rfl ?_
  exact ⟨_, rfl, rfl, rfl⟩
theorem c_sIsLatin1 {a lb : Nat} {b : Option Nat} {h z : Int} (ha : gl X hp a = some (lb, .inr (11, [vR b, vI 0, vI h, vI z]))) : MV X yJ5_isLatin1 fJ5_isLatin1 1 [vR (some a)] hp (fun v hp' => v = vI 1 ∧ hp = hp') := by
  refine MC.of pfJ5_isLatin1 rfl (fun h => by cases h) 0 rfl rfl ?_
  refine gs_gets (pc := 0) 0 (by decide) dJ5_isLatin1_0 q455 (Or.inl rfl) ?_
  refine gs_if_eq (pc := 3) (tgt := 17) dJ5_isLatin1_3 (by decide) (by omega) (fun hn => absurd hn (by decide)) (fun _ => ?_)
  refine gs_ald0 (pc := 6) dJ5_isLatin1_6 ?_
  refine gs_getf (pc := 7) 1 dJ5_isLatin1_7 ha clJ5 in_J5 (by decide) q470 (Or.inl rfl) rfl ?_
  refine gs_if_ne (pc := 10) (tgt := 17) dJ5_isLatin1_10 (by decide) (by omega) (fun hn => absurd rfl hn) (fun _ => ?_)
  refine gs_iconst (pc := 13) dJ5_isLatin1_13 ?_
  refine gs_goto (pc := 14) (tgt := 18) dJ5_isLatin1_14 (by decide) ?_
  refine gs_zret (pc := 18) .boolean dJ5_isLatin1_18 rfl rfl ?_
  exact ⟨_, rfl, rfl, rfl⟩
theorem c_slen {a : Nat} {s : List Int} (hs : isS X hp a s) : MV X yJ5_length fJ5_length 2 [vR (some a)] hp (fun v hp' => v = vI s.length ∧ hp = hp') := by
  obtain ⟨h1, h2, lb, b, x, z, e1, e2, lb', f, e3, e4, e5⟩ := hs
  refine MC.of pfJ5_length rfl (fun h => by cases h) 0 rfl rfl ?_
  refine gs_ald0 (pc := 0) dJ5_length_0 ?_
  refine gs_getf (pc := 1) 0 dJ5_length_1 e2 clJ5 in_J5 (by decide) q469 (Or.inl rfl) rfl ?_
  refine gs_alen (pc := 4) dJ5_length_4 e4 ?_
  refine gs_ald0 (pc := 5) dJ5_length_5 ?_
  refine gs_V0 (pc := 6) dJ5_length_6 kJ5_335 e2 clJ5 (by decide) (Nat.le_of_ble_eq_true rfl) (c_coder e2) (fun v hp1 hq => ?_)
  obtain ⟨rfl, rfl⟩ := hq
  refine gs_ishr (pc := 9) dJ5_length_9 (i_shr0 _) ?_
  refine gs_iret (pc := 10) dJ5_length_10 rfl ?_
  exact ⟨_, rfl, rfl, rfl⟩
theorem c_sempty {a : Nat} {s : List Int} (hs : isS X hp a s) : MV X yJ5_isEmpty fJ5_isEmpty 1 [vR (some a)] hp (fun v hp' => v = vI (if s.length = 0 then 1 else 0) ∧ hp = hp') := by
  obtain ⟨h1, h2, lb, b, x, z, e1, e2, lb', f, e3, e4, e5⟩ := hs
  refine MC.of pfJ5_isEmpty rfl (fun h => by cases h) 0 rfl rfl ?_
  refine gs_ald0 (pc := 0) dJ5_isEmpty_0 ?_
  refine gs_getf (pc := 1) 0 dJ5_isEmpty_1 e2 clJ5 in_J5 (by decide) q469 (Or.inl rfl) rfl ?_
  refine gs_alen (pc := 4) dJ5_isEmpty_4 e4 ?_
  refine gs_if_ne (pc := 5) (tgt := 12) dJ5_isEmpty_5 (by decide) (by omega) (fun hc => ?_) (fun hc => ?_)
  · refine gs_iconst (pc := 12) dJ5_isEmpty_12 ?_
    refine gs_zret (pc := 13) .boolean dJ5_isEmpty_13 rfl rfl ?_
    exact ⟨_, rfl, by rw [if_neg (by omega)], rfl⟩
  · refine gs_iconst (pc := 8) dJ5_isEmpty_8 ?_
    refine gs_goto (pc := 9) (tgt := 13) dJ5_isEmpty_9 (by decide) ?_
    refine gs_zret (pc := 13) .boolean dJ5_isEmpty_13 rfl rfl ?_
    exact ⟨_, rfl, by rw [if_pos (by omega)], rfl⟩
theorem c_pcheck {i n : Int} {r : Option Nat} (hi : 0 ≤ i ∧ i < n) (hn : n ≤ 2147483647) : MV X yJ11_checkIndex fJ11_checkIndex 1 [vI i, vI n, vR r] hp (fun v hp' => v = vI i ∧ hp = hp') := by
  refine MC.of pfJ11_checkIndex rfl (fun h => by cases h) 0 rfl rfl ?_
  refine gs_ild0 (pc := 0) dJ11_checkIndex_0 ?_
  refine gs_if_lt (pc := 1) (tgt := 9) dJ11_checkIndex_1 (by decide) (by omega) (fun hn => absurd hn (by omega)) (fun _ => ?_)
  refine gs_ild0 (pc := 4) dJ11_checkIndex_4 ?_
  refine gs_ild1 (pc := 5) dJ11_checkIndex_5 ?_
  refine gs_ic_lt (pc := 6) (tgt := 16) dJ11_checkIndex_6 (by decide) (by omega) (fun _ => ?_) (fun hn => absurd (by omega) hn)
  refine gs_ild0 (pc := 16) dJ11_checkIndex_16 ?_
  refine gs_iret (pc := 17) dJ11_checkIndex_17 rfl ?_
  exact ⟨_, rfl, rfl, rfl⟩
theorem c_ocheck {i n : Int} (hi : 0 ≤ i ∧ i < n) (hn : n ≤ 2147483647) : MV X yJ12_checkIndex fJ12_checkIndex 2 [vI i, vI n] hp (fun v hp' => v = vI i ∧ hp = hp') := by
  refine MC.of pfJ12_checkIndex rfl (fun h => by cases h) 0 rfl rfl ?_
  refine gs_ild0 (pc := 0) dJ12_checkIndex_0 ?_
  refine gs_ild1 (pc := 1) dJ12_checkIndex_1 ?_
  refine gs_null (pc := 2) dJ12_checkIndex_2 ?_
  refine gs_S3 (pc := 3) dJ12_checkIndex_3 kJ12_105 (by decide) (Nat.le_of_ble_eq_true rfl) (c_pcheck hi hn) (fun v hp1 hq => ?_)
  obtain ⟨rfl, rfl⟩ := hq
  refine gs_iret (pc := 6) dJ12_checkIndex_6 rfl ?_
  exact ⟨_, rfl, rfl, rfl⟩
end STR
section STR2
variable {X : gCx} {hp : gHp}
theorem c_scheck {i n : Int} (hi : 0 ≤ i ∧ i < n) (hn : n ≤ 2147483647) : M0 X yJ5_checkIndex fJ5_checkIndex 2 [vI i, vI n] hp (fun hp' => hp = hp') := by
  refine MC.of pfJ5_checkIndex rfl (fun h => by cases h) 0 rfl rfl ?_
  refine gs_ild0 (pc := 0) dJ5_checkIndex_0 ?_
  refine gs_ild1 (pc := 1) dJ5_checkIndex_1 ?_
  refine gs_gets (pc := 2) 5 (by decide) dJ5_checkIndex_2 q393 (Or.inl rfl) ?_
  refine gs_S3 (pc := 5) dJ5_checkIndex_5 kJ5_1059 (by decide) (Nat.le_of_ble_eq_true rfl) (c_pcheck hi hn) (fun v hp1 hq => ?_)
  obtain ⟨rfl, rfl⟩ := hq
  refine gs_pop (pc := 8) dJ5_checkIndex_8 rfl ?_
  refine gs_vret (pc := 9) dJ5_checkIndex_9 rfl ?_
  exact ⟨rfl, rfl⟩
theorem c_lchar {b : Nat} {s : List Int} {i : Nat} (hs : sok s) (hl : s.length ≤ 1000) (hb : isB X hp b s) (hi : i < s.length) : MV X yJ10_charAt fJ10_charAt 3 [vR (some b), vI (i : Int)] hp (fun v hp' => v = vI (s.getD i 0) ∧ hp = hp') := by
  obtain ⟨lb', f, e3, e4, e5⟩ := hb
  refine MC.of pfJ10_charAt rfl (fun h => by cases h) 0 rfl rfl ?_
  refine gs_ild1 (pc := 0) dJ10_charAt_0 ?_
  refine gs_ald0 (pc := 1) dJ10_charAt_1 ?_
  refine gs_alen (pc := 2) dJ10_charAt_2 e4 ?_
  refine gs_S2v (pc := 3) dJ10_charAt_3 kJ10_9 (by decide) (Nat.le_of_ble_eq_true rfl) (c_scheck ⟨by omega, by omega⟩ (by omega)) (fun hp1 hq => ?_)
  obtain ⟨rfl⟩ := hq
  refine gs_ald0 (pc := 6) dJ10_charAt_6 ?_
  refine gs_ild1 (pc := 7) dJ10_charAt_7 ?_
  refine gs_bald (pc := 8) dJ10_charAt_8 e4 (by omega) (by omega) ?_
  rw [e5 i hi]
  refine gs_sipush (pc := 9) dJ10_charAt_9 rfl ?_
  refine gs_iand (pc := 12) dJ10_charAt_12 (i_and255 (hs.at i)) ?_
  refine gs_i2c (pc := 13) dJ10_charAt_13 (i_c2 (hs.at i)) ?_
  refine gs_zret (pc := 14) .char dJ10_charAt_14 rfl (i_nc (hs.at i)) ?_
  exact ⟨_, rfl, rfl, rfl⟩
theorem c_char {a : Nat} {s : List Int} {i : Nat} (hs : isS X hp a s) (hi : i < s.length) : MV X yJ5_charAt fJ5_charAt 4 [vR (some a), vI (i : Int)] hp (fun v hp' => v = vI (s.getD i 0) ∧ hp = hp') := by
  obtain ⟨h1, h2, lb, b, x, z, e1, e2, e3⟩ := hs
  refine MC.of pfJ5_charAt rfl (fun h => by cases h) 0 rfl rfl ?_
  refine gs_ald0 (pc := 0) dJ5_charAt_0 ?_
  refine gs_V0 (pc := 1) dJ5_charAt_1 kJ5_492 e2 clJ5 (by decide) (Nat.le_of_ble_eq_true rfl) (c_sIsLatin1 e2) (fun v hp1 hq => ?_)
  obtain ⟨rfl, rfl⟩ := hq
  refine gs_if_eq (pc := 4) (tgt := 16) dJ5_charAt_4 (by decide) (by omega) (fun hn => absurd hn (by decide)) (fun _ => ?_)
  refine gs_ald0 (pc := 7) dJ5_charAt_7 ?_
  refine gs_getf (pc := 8) 0 dJ5_charAt_8 e2 clJ5 in_J5 (by decide) q469 (Or.inl rfl) rfl ?_
  refine gs_ild1 (pc := 11) dJ5_charAt_11 ?_
  refine gs_S2 (pc := 12) dJ5_charAt_12 kJ5_495 (by decide) (Nat.le_of_ble_eq_true rfl) (c_lchar h1 h2 e3 hi) (fun v hp1 hq => ?_)
  obtain ⟨rfl, rfl⟩ := hq
  refine gs_zret (pc := 15) .char dJ5_charAt_15 rfl (i_nc (h1.at i)) ?_
  exact ⟨_, rfl, rfl, rfl⟩
/-! equality of texts -/
theorem getD_ext {s t : List Int} (hl : s.length = t.length) (h : ∀ i, i < s.length → s.getD i 0 = t.getD i 0) : s = t := by
  apply List.ext_getElem hl
  intro i h1 h2
  have := h i h1
  rw [List.getD_eq_getElem?_getD, List.getD_eq_getElem?_getD, List.getElem?_eq_getElem h1, List.getElem?_eq_getElem h2] at this
  exact this
theorem c_leq {a b : Nat} {s t : List Int} (hs : sok s) (ht : sok t) (hsl : s.length ≤ 1000) (htl : t.length ≤ 1000) (ha : isB X hp a s) (hb : isB X hp b t) : MV X yJ10_equals fJ10_equals 1 [vR (some a), vR (some b)] hp (fun v hp' => v = vI (if s = t then 1 else 0) ∧ hp = hp') := by
  obtain ⟨lb, f, e1, e2, e3⟩ := ha
  obtain ⟨lb', g, e4, e5, e6⟩ := hb
  refine MC.of pfJ10_equals rfl (fun h => by cases h) 1 rfl rfl ?_
  refine gs_ald0 (pc := 0) dJ10_equals_0 ?_
  refine gs_alen (pc := 1) dJ10_equals_1 e2 ?_
  refine gs_ald1 (pc := 2) dJ10_equals_2 ?_
  refine gs_alen (pc := 3) dJ10_equals_3 e5 ?_
  refine gs_ic_ne (pc := 4) (tgt := 34) dJ10_equals_4 (by decide) (by omega) (fun hc => ?_) (fun hc => ?_)
  · refine gs_iconst (pc := 34) dJ10_equals_34 ?_
    refine gs_zret (pc := 35) .boolean dJ10_equals_35 rfl rfl ?_
    exact ⟨_, rfl, by rw [if_neg (fun e => hc (by rw [e]))], rfl⟩
  · have hl : s.length = t.length := by omega
    refine gs_iconst (pc := 7) dJ10_equals_7 ?_
    refine gs_ist2 (pc := 8) dJ10_equals_8 rfl ?_
    have loop : ∀ (n i : Nat), i + n = s.length → (∀ j, j < i → s.getD j 0 = t.getD j 0) → G X fJ10_equals 1 9 [some (vR (some a)), some (vR (some b)), some (vI (i : Int))] [] hp (fun r hp' => ∃ v, r = some v ∧ v = vI (if s = t then 1 else 0) ∧ hp = hp') := by
      intro n
      induction n with
      | zero =>
        intro i hi hj
        refine gs_ild2 (pc := 9) dJ10_equals_9 ?_
        refine gs_ald0 (pc := 10) dJ10_equals_10 ?_
        refine gs_alen (pc := 11) dJ10_equals_11 e2 ?_
        refine gs_ic_ge (pc := 12) (tgt := 32) dJ10_equals_12 (by decide) (by omega) (fun _ => ?_) (fun hn => absurd (by omega) hn)
        refine gs_iconst (pc := 32) dJ10_equals_32 ?_
        refine gs_zret (pc := 33) .boolean dJ10_equals_33 rfl rfl ?_
        exact ⟨_, rfl, by rw [if_pos (getD_ext hl (fun j h => hj j (by omega)))], rfl⟩
      | succ n ih =>
        intro i hi hj
        refine gs_ild2 (pc := 9) dJ10_equals_9 ?_
        refine gs_ald0 (pc := 10) dJ10_equals_10 ?_
        refine gs_alen (pc := 11) dJ10_equals_11 e2 ?_
        refine gs_ic_ge (pc := 12) (tgt := 32) dJ10_equals_12 (by decide) (by omega) (fun hn => absurd hn (by omega)) (fun _ => ?_)
        refine gs_ald0 (pc := 15) dJ10_equals_15 ?_
        refine gs_ild2 (pc := 16) dJ10_equals_16 ?_
        refine gs_bald (pc := 17) dJ10_equals_17 e2 (by omega) (by omega) ?_
        refine gs_ald1 (pc := 18) dJ10_equals_18 ?_
        refine gs_ild2 (pc := 19) dJ10_equals_19 ?_
        refine gs_bald (pc := 20) dJ10_equals_20 e5 (by omega) (by omega) ?_
        rw [e3 i (by omega), e6 i (by omega)]
        have r1 := hs.at i
        have r2 := ht.at i
        refine gs_ic_eq (pc := 21) (tgt := 26) dJ10_equals_21 (by decide) (by omega) (fun hc => ?_) (fun hc => ?_)
        · refine gs_inc2 (pc := 26) dJ10_equals_26 rfl ?_
          refine gs_goto (pc := 29) (tgt := 9) dJ10_equals_29 (by decide) ?_
          exact ih (i + 1) (by omega) (fun j h => by
            by_cases q : j < i
            · exact hj j q
            · rw [show j = i by omega]; exact hc)
        · refine gs_iconst (pc := 24) dJ10_equals_24 ?_
          refine gs_zret (pc := 25) .boolean dJ10_equals_25 rfl rfl ?_
          exact ⟨_, rfl, by rw [if_neg (fun e => hc (by rw [e]))], rfl⟩
    exact loop s.length 0 (by omega) (fun j h => absurd h (by omega))
theorem c_seq {a b : Nat} {s t : List Int} (ha : isS X hp a s) (hb : isS X hp b t) : MV X yJ5_equals fJ5_equals 2 [vR (some a), vR (some b)] hp (fun v hp' => v = vI (if s = t then 1 else 0) ∧ hp = hp') := by
  have ha' := ha
  have hb' := hb
  obtain ⟨h1, h2, lb, a', x, z, e1, e2, e3⟩ := ha
  obtain ⟨h1', h2', lb', b', x', z', e1', e2', e3'⟩ := hb
  refine MC.of pfJ5_equals rfl (fun h => by cases h) 1 rfl rfl ?_
  refine gs_ald0 (pc := 0) dJ5_equals_0 ?_
  refine gs_ald1 (pc := 1) dJ5_equals_1 ?_
  refine gs_acmp_ne (pc := 2) (tgt := 7) dJ5_equals_2 (by decide) (fun hc => ?_) (fun hc => ?_)
  · refine gs_ald1 (pc := 7) dJ5_equals_7 ?_
    refine gs_instE (pc := 8) dJ5_equals_8 q693 e2' clJ5 ?_
    refine gs_if_eq (pc := 11) (tgt := 54) dJ5_equals_11 (by decide) (by omega) (fun hn => absurd hn (by decide)) (fun _ => ?_)
    refine gs_ald1 (pc := 14) dJ5_equals_14 ?_
    refine gs_cast (pc := 15) dJ5_equals_15 q693 e2' clJ5 (Or.inl rfl) ?_
    refine gs_ast2 (pc := 18) dJ5_equals_18 rfl ?_
    refine gs_gets (pc := 19) 0 (by decide) dJ5_equals_19 q455 (Or.inl rfl) ?_
    refine gs_if_eq (pc := 22) (tgt := 36) dJ5_equals_22 (by decide) (by omega) (fun hn => absurd hn (by decide)) (fun _ => ?_)
    refine gs_ald0 (pc := 25) dJ5_equals_25 ?_
    refine gs_getf (pc := 26) 1 dJ5_equals_26 e2 clJ5 in_J5 (by decide) q470 (Or.inl rfl) rfl ?_
    refine gs_ald2 (pc := 29) dJ5_equals_29 ?_
    refine gs_getf (pc := 30) 1 dJ5_equals_30 e2' clJ5 in_J5 (by decide) q470 (Or.inl rfl) rfl ?_
    refine gs_ic_ne (pc := 33) (tgt := 54) dJ5_equals_33 (by decide) (by omega) (fun hn => absurd rfl hn) (fun _ => ?_)
    refine gs_ald0 (pc := 36) dJ5_equals_36 ?_
    refine gs_getf (pc := 37) 0 dJ5_equals_37 e2 clJ5 in_J5 (by decide) q469 (Or.inl rfl) rfl ?_
    refine gs_ald2 (pc := 40) dJ5_equals_40 ?_
    refine gs_getf (pc := 41) 0 dJ5_equals_41 e2' clJ5 in_J5 (by decide) q469 (Or.inl rfl) rfl ?_
    refine gs_S2 (pc := 44) dJ5_equals_44 kJ5_541 (by decide) (Nat.le_of_ble_eq_true rfl) (c_leq h1 h1' h2 h2' e3 e3') (fun v hp1 hq => ?_)
    obtain ⟨rfl, rfl⟩ := hq
    refine gs_if_eq (pc := 47) (tgt := 54) dJ5_equals_47 (by decide) (by split <;> omega) (fun hq => ?_) (fun hq => ?_)
    · refine gs_iconst (pc := 54) dJ5_equals_54 ?_
      refine gs_zret (pc := 55) .boolean dJ5_equals_55 rfl rfl ?_
      exact ⟨_, rfl, by split <;> simp_all, rfl⟩
    · refine gs_iconst (pc := 50) dJ5_equals_50 ?_
      refine gs_goto (pc := 51) (tgt := 55) dJ5_equals_51 (by decide) ?_
      refine gs_zret (pc := 55) .boolean dJ5_equals_55 rfl rfl ?_
      exact ⟨_, rfl, by split <;> simp_all, rfl⟩
  · refine gs_iconst (pc := 5) dJ5_equals_5 ?_
    refine gs_zret (pc := 6) .boolean dJ5_equals_6 rfl rfl ?_
    refine ⟨_, rfl, ?_, rfl⟩
    have hab : a = b := Option.some.inj hc
    subst hab
    have hst : s = t := by
      rw [e2] at e2'
      obtain ⟨lb2, f, -, q2, q3⟩ := e3
      obtain ⟨lb3, g, -, q5, q6⟩ := e3'
      simp only [Option.some.injEq, Prod.mk.injEq, Sum.inr.injEq, List.cons.injEq, Sum.inl.injEq] at e2'
      obtain ⟨-, -, rfl, -⟩ := e2'
      rw [q2] at q5
      simp only [Option.some.injEq, Prod.mk.injEq, Sum.inr.injEq, List.cons.injEq, Sum.inl.injEq] at q5
      obtain ⟨-, -, q7, rfl⟩ := q5
      exact getD_ext q7 (fun i hi => by rw [← q3 i hi, ← q6 i (by omega)])
    rw [if_pos hst]
theorem c_seqN {a : Nat} {s : List Int} (ha : isS X hp a s) : MV X yJ5_equals fJ5_equals 2 [vR (some a), vR none] hp (fun v hp' => v = vI 0 ∧ hp = hp') := by
  refine MC.of pfJ5_equals rfl (fun h => by cases h) 1 rfl rfl ?_
  refine gs_ald0 (pc := 0) dJ5_equals_0 ?_
  refine gs_ald1 (pc := 1) dJ5_equals_1 ?_
  refine gs_acmp_ne (pc := 2) (tgt := 7) dJ5_equals_2 (by decide) (fun _ => ?_) (fun hn => absurd hn (fun h => by cases h))
  refine gs_ald1 (pc := 7) dJ5_equals_7 ?_
  refine gs_instN (pc := 8) dJ5_equals_8 ?_
  refine gs_if_eq (pc := 11) (tgt := 54) dJ5_equals_11 (by decide) (by omega) (fun _ => ?_) (fun hn => absurd rfl hn)
  refine gs_iconst (pc := 54) dJ5_equals_54 ?_
  refine gs_zret (pc := 55) .boolean dJ5_equals_55 rfl rfl ?_
  exact ⟨_, rfl, rfl, rfl⟩
end STR2
