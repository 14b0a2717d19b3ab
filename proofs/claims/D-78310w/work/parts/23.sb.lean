/-! CONTRACTS: StringBuilder. -/
section SB
variable {X : gCx} {hp : gHp}
def sbC (b : Nat) (n : Int) : gCe := .inr (10, [vR (some b), vI 0, vI 0, vI n])
/-- the builder a holds the text s, in an array of cap bytes -/
def isSB (X : gCx) (hp : gHp) (a : Nat) (s : List Int) (cap : Nat) : Prop := sok s ∧ s.length ≤ cap ∧ cap ≤ 1000 ∧ (cap ≤ 16 ∨ cap ≤ 2 * s.length) ∧ ∃ b f, gl X hp a = some (a + 2, sbC b s.length) ∧ gl X hp b = some (a + 2, .inl (2, cap, .inl f)) ∧ (∀ i : Nat, i < s.length → f (i : Int) = s.getD i 0) ∧ ∀ i : Nat, i < cap → 0 ≤ f (i : Int) ∧ f (i : Int) ≤ 127
theorem c_asbInit {a : Nat} (ha : gl X hp a = some (a + 2, .inr (10, dfJ4))) : M0 X yJ3_init fJ3_init 1 [vR (some a), vI 16] hp (fun hp' => Fr X (fun l => l = a + 2) hp hp' ∧ hp'.1 = hp.1 + 1 ∧ hp'.2.1 = hp.2.1 + 16 ∧ isSB X hp' a [] 16) := by
  refine MC.of pfJ3_init rfl (fun _ => rfl) 0 rfl rfl ?_
  refine gs_ald0 (pc := 0) dJ3_init_0 ?_
  refine gs_objInit (pc := 1) dJ3_init_1 q301 q146 q147 (by decide) (Nat.le_of_ble_eq_true rfl) ?_
  refine gs_gets (pc := 4) 0 (by decide) dJ3_init_4 q302 (Or.inl rfl) ?_
  refine gs_if_eq (pc := 7) (tgt := 25) dJ3_init_7 (by decide) (by omega) (fun hn => absurd hn (by decide)) (fun _ => ?_)
  refine gs_ald0 (pc := 10) dJ3_init_10 ?_
  refine gs_ild1 (pc := 11) dJ3_init_11 ?_
  refine gs_newa (pc := 12) 2 (16) (a + 2) (by decide) rfl dJ3_init_12 q242 (by first | rfl | omega) (by omega) ?_
  have h1 : gl X (hnew X hp 16 (a + 2, Sum.inl (2, 16, Sum.inl fun _ => 0))) (nx X hp) = some (a + 2, .inl (2, 16, .inl fun _ => 0)) := gl_new_self
  have h0 := gl_new_of (n := 16) (c := (a + 2, Sum.inl (2, 16, Sum.inl fun _ => 0))) ha
  have hF : Fr X (fun l => l = a + 2) hp (hnew X hp 16 (a + 2, Sum.inl (2, 16, Sum.inl fun _ => 0))) := Fr.new Fr.refl
  generalize hh : hnew X hp 16 (a + 2, Sum.inl (2, 16, Sum.inl fun _ => 0)) = hp1 at h0 h1 hF ⊢
  have hc1 : hp1.1 = hp.1 + 1 := by rw [← hh]; rfl
  have hc2 : hp1.2.1 = hp.2.1 + 16 := by rw [← hh]; rfl
  have hne : nx X hp ≠ a := by have := gl_lt ha; omega
  generalize nx X hp = b at h1 hne ⊢
  refine gs_putf (pc := 14) 0 (sbC b 0) dJ3_init_14 h0 (by omega) clJ4 in_J4 tyJ4 tyJ4_ok nmJ4 (by decide) q311 (Or.inl rfl) rfl (fok_arr _ _) (Nat.le_of_ble_eq_true rfl) rfl ?_
  have h2 := gl_set_self (c := (a + 2, sbC b 0)) h0 (by omega)
  refine gs_ald0 (pc := 17) dJ3_init_17 ?_
  refine gs_iconst (pc := 18) dJ3_init_18 ?_
  refine gs_putf (pc := 19) 1 (sbC b 0) dJ3_init_19 h2 (by omega) clJ4 in_J4 tyJ4 tyJ4_ok nmJ4 (by decide) q312 (Or.inl rfl) rfl fok_b0 (Nat.le_of_ble_eq_true rfl) rfl ?_
  refine gs_goto (pc := 22) (tgt := 38) dJ3_init_22 (by decide) ?_
  refine gs_vret (pc := 38) dJ3_init_38 rfl ?_
  have h3 := gl_set_self (c := (a + 2, sbC b 0)) h2 (by omega)
  have hF2 : Fr X (fun l => l = a + 2) hp (hset hp1 a (a + 2, sbC b 0)) := hF.set h0 (by omega) rfl ⟨rfl, rfl⟩
  have hF3 : Fr X (fun l => l = a + 2) hp (hset (hset hp1 a (a + 2, sbC b 0)) a (a + 2, sbC b 0)) := hF2.set h2 (by omega) rfl ⟨rfl, rfl⟩
  refine ⟨rfl, hF3, hc1, hc2, fun c h => (by cases h), by decide, by decide, Or.inl (by decide), b, (fun _ => 0), h3, ?_, fun i hi => absurd hi (by simp), fun i hi => ⟨Int.le_refl _, by show (0 : Int) ≤ 127; decide⟩⟩
  rw [gl_set_ne hne, gl_set_ne hne]; exact h1
theorem c_sbInit {a : Nat} (ha : gl X hp a = some (a + 2, .inr (10, dfJ4))) : M0 X yJ4_init fJ4_init 2 [vR (some a)] hp (fun hp' => Fr X (fun l => l = a + 2) hp hp' ∧ hp'.1 = hp.1 + 1 ∧ hp'.2.1 = hp.2.1 + 16 ∧ isSB X hp' a [] 16) := by
  refine MC.of pfJ4_init rfl (fun _ => rfl) 0 rfl rfl ?_
  refine gs_ald0 (pc := 0) dJ4_init_0 ?_
  refine gs_bipush (pc := 1) dJ4_init_1 rfl ?_
  refine gs_I1v (pc := 3) dJ4_init_3 kJ4_1 (by decide) (Nat.le_of_ble_eq_true rfl) (c_asbInit ha) (fun hp1 hq => ?_)
  refine gs_vret (pc := 6) dJ4_init_6 rfl ?_
  exact ⟨rfl, hq⟩
theorem c_newLen {o m p : Int} (ho : 0 ≤ o ∧ o ≤ 1000000) (hm : -1000000 ≤ m ∧ m ≤ 1000000) (hpp : 0 ≤ p ∧ p ≤ 1000000) (h0 : 0 < o + max m p) : MV X yJ7_newLength fJ7_newLength 2 [vI o, vI m, vI p] hp (fun v hp' => v = vI (o + max m p) ∧ hp = hp') := by
  refine MC.of pfJ7_newLength rfl (fun h => by cases h) 1 rfl rfl ?_
  refine gs_ild0 (pc := 0) dJ7_newLength_0 ?_
  refine gs_ild1 (pc := 1) dJ7_newLength_1 ?_
  refine gs_ild2 (pc := 2) dJ7_newLength_2 ?_
  refine gs_S2 (pc := 3) dJ7_newLength_3 kJ7_194 (by decide) (Nat.le_of_ble_eq_true rfl) (c_max _ _ _ ⟨by omega, by omega⟩ ⟨by omega, by omega⟩) (fun v hp1 hq => ?_)
  obtain ⟨rfl, rfl⟩ := hq
  refine gs_iadd (pc := 6) dJ7_newLength_6 ?_
  refine gs_ist3 (pc := 7) dJ7_newLength_7 rfl ?_
  refine gs_iconst (pc := 8) dJ7_newLength_8 ?_
  refine gs_ild3 (pc := 9) dJ7_newLength_9 ?_
  refine gs_ic_ge (pc := 10) (tgt := 21) dJ7_newLength_10 (by decide) (by omega) (fun hn => absurd hn (by omega)) (fun _ => ?_)
  refine gs_ild3 (pc := 13) dJ7_newLength_13 ?_
  refine gs_ldc (pc := 14) (z := 2147483639) dJ7_newLength_14 q345 ?_
  refine gs_ic_gt (pc := 16) (tgt := 21) dJ7_newLength_16 (by decide) (by omega) (fun hn => absurd hn (by omega)) (fun _ => ?_)
  refine gs_ild3 (pc := 19) dJ7_newLength_19 ?_
  refine gs_iret (pc := 20) dJ7_newLength_20 rfl ?_
  exact ⟨_, rfl, rfl, rfl⟩
theorem c_sbLatin {a b : Nat} {n : Int} (ha : gl X hp a = some (a + 2, sbC b n)) : MV X yJ3_isLatin1 fJ3_isLatin1 1 [vR (some a)] hp (fun v hp' => v = vI 1 ∧ hp = hp') := by
  refine MC.of pfJ3_isLatin1 rfl (fun h => by cases h) 0 rfl rfl ?_
  refine gs_gets (pc := 0) 0 (by decide) dJ3_isLatin1_0 q302 (Or.inl rfl) ?_
  refine gs_if_eq (pc := 3) (tgt := 17) dJ3_isLatin1_3 (by decide) (by omega) (fun hn => absurd hn (by decide)) (fun _ => ?_)
  refine gs_ald0 (pc := 6) dJ3_isLatin1_6 ?_
  refine gs_getf (pc := 7) 1 dJ3_isLatin1_7 ha clJ4 in_J4 (by decide) q312 (Or.inl rfl) rfl ?_
  refine gs_if_ne (pc := 10) (tgt := 17) dJ3_isLatin1_10 (by decide) (by omega) (fun hn => absurd rfl hn) (fun _ => ?_)
  refine gs_iconst (pc := 13) dJ3_isLatin1_13 ?_
  refine gs_goto (pc := 14) (tgt := 18) dJ3_isLatin1_14 (by decide) ?_
  refine gs_zret (pc := 18) .boolean dJ3_isLatin1_18 rfl rfl ?_
  exact ⟨_, rfl, rfl, rfl⟩
theorem c_canEnc {c : Int} (hc : 0 ≤ c ∧ c ≤ 127) : MV X yJ10_canEncode fJ10_canEncode 1 [vI c] hp (fun v hp' => v = vI 1 ∧ hp = hp') := by
  refine MC.of pfJ10_canEncode rfl (fun h => by cases h) 0 rfl rfl ?_
  refine gs_ild0 (pc := 0) dJ10_canEncode_0 ?_
  refine gs_sipush (pc := 1) dJ10_canEncode_1 rfl ?_
  refine gs_ic_gt (pc := 4) (tgt := 11) dJ10_canEncode_4 (by decide) (by omega) (fun hn => absurd hn (by omega)) (fun _ => ?_)
  refine gs_iconst (pc := 7) dJ10_canEncode_7 ?_
  refine gs_goto (pc := 8) (tgt := 12) dJ10_canEncode_8 (by decide) ?_
  refine gs_zret (pc := 12) .boolean dJ10_canEncode_12 rfl rfl ?_
  exact ⟨_, rfl, rfl, rfl⟩
theorem c_newCap {a b cap n m : Nat} {f : Int → Int} (ha : gl X hp a = some (a + 2, sbC b n)) (hb : gl X hp b = some (a + 2, .inl (2, cap, .inl f))) (hc : cap ≤ 1000) (hm : cap < m ∧ m ≤ 1000) : MV X yJ3_newCapacity fJ3_newCapacity 3 [vR (some a), vI (m : Int)] hp (fun v hp' => v = vI ((max m (2 * cap + 2) : Nat) : Int) ∧ hp = hp') := by
  refine MC.of pfJ3_newCapacity rfl (fun h => by cases h) 4 rfl rfl ?_
  refine gs_ald0 (pc := 0) dJ3_newCapacity_0 ?_
  refine gs_getf (pc := 1) 0 dJ3_newCapacity_1 ha clJ4 in_J4 (by decide) q311 (Or.inl rfl) rfl ?_
  refine gs_alen (pc := 4) dJ3_newCapacity_4 hb ?_
  refine gs_ist2 (pc := 5) dJ3_newCapacity_5 rfl ?_
  refine gs_ild1 (pc := 6) dJ3_newCapacity_6 ?_
  refine gs_ald0 (pc := 7) dJ3_newCapacity_7 ?_
  refine gs_getf (pc := 8) 1 dJ3_newCapacity_8 ha clJ4 in_J4 (by decide) q312 (Or.inl rfl) rfl ?_
  refine gs_ishl (pc := 11) dJ3_newCapacity_11 (i_shl0 _) ?_
  refine gs_ist3 (pc := 12) dJ3_newCapacity_12 rfl ?_
  refine gs_ild3 (pc := 13) dJ3_newCapacity_13 ?_
  refine gs_ild2 (pc := 14) dJ3_newCapacity_14 ?_
  refine gs_isub (pc := 15) dJ3_newCapacity_15 ?_
  refine gs_ist4 (pc := 16) dJ3_newCapacity_16 rfl ?_
  refine gs_ild2 (pc := 18) dJ3_newCapacity_18 ?_
  refine gs_ild4 (pc := 19) dJ3_newCapacity_19 ?_
  refine gs_ild2 (pc := 21) dJ3_newCapacity_21 ?_
  refine gs_iconst (pc := 22) dJ3_newCapacity_22 ?_
  refine gs_ald0 (pc := 23) dJ3_newCapacity_23 ?_
  refine gs_getf (pc := 24) 1 dJ3_newCapacity_24 ha clJ4 in_J4 (by decide) q312 (Or.inl rfl) rfl ?_
  refine gs_ishl (pc := 27) dJ3_newCapacity_27 (i_shl0 _) ?_
  refine gs_iadd (pc := 28) dJ3_newCapacity_28 ?_
  refine gs_S3 (pc := 29) dJ3_newCapacity_29 kJ3_114 (by decide) (Nat.le_of_ble_eq_true rfl) (c_newLen ⟨by omega, by omega⟩ ⟨by omega, by omega⟩ ⟨by omega, by omega⟩ (by omega)) (fun v hp1 hq => ?_)
  obtain ⟨rfl, rfl⟩ := hq
  rw [show (cap : Int) + max ((m : Int) - (cap : Int)) ((cap : Int) + 2) = ((max m (2 * cap + 2) : Nat) : Int) by omega]
  refine gs_ist5 (pc := 32) dJ3_newCapacity_32 rfl ?_
  refine gs_ild5 (pc := 34) dJ3_newCapacity_34 ?_
  refine gs_ldc (pc := 36) (z := 2147483647) dJ3_newCapacity_36 q349 ?_
  refine gs_ic_ne (pc := 38) (tgt := 51) dJ3_newCapacity_38 (by decide) (by omega) (fun _ => ?_) (fun hn => absurd hn (by omega))
  refine gs_ild5 (pc := 51) dJ3_newCapacity_51 ?_
  refine gs_ald0 (pc := 53) dJ3_newCapacity_53 ?_
  refine gs_getf (pc := 54) 1 dJ3_newCapacity_54 ha clJ4 in_J4 (by decide) q312 (Or.inl rfl) rfl ?_
  refine gs_ishr (pc := 57) dJ3_newCapacity_57 (i_shr0 _) ?_
  refine gs_iret (pc := 58) dJ3_newCapacity_58 rfl ?_
  exact ⟨_, rfl, rfl, rfl⟩
/-- a longer copy of an array of bytes -/
theorem c_copyB (l : Nat) (hl : l ≠ 0) {b lb cap n : Nat} {f : Int → Int} (hb : gl X hp b = some (lb, .inl (2, cap, .inl f))) (hc : cap < n ∧ n ≤ 10000) (hf : ∀ i : Nat, i < cap → 0 ≤ f (i : Int) ∧ f (i : Int) ≤ 127) : MV X yJ9_copyOf fJ9_copyOf 2 [vR (some b), vI (n : Int)] hp (fun v hp' => v = vR (some (nx X hp)) ∧ Fr X (fun _ => False) hp hp' ∧ hp'.1 = hp.1 + 1 ∧ hp'.2.1 = hp.2.1 + n ∧ ∃ g, gl X hp' (nx X hp) = some (l, .inl (2, n, .inl g)) ∧ (∀ i : Nat, i < cap → g (i : Int) = f (i : Int)) ∧ ∀ i : Nat, i < n → 0 ≤ g (i : Int) ∧ g (i : Int) ≤ 127) := by
  refine MC.of pfJ9_copyOf rfl (fun h => by cases h) 1 rfl rfl ?_
  refine gs_ild1 (pc := 0) dJ9_copyOf_0 ?_
  refine gs_ald0 (pc := 1) dJ9_copyOf_1 ?_
  refine gs_alen (pc := 2) dJ9_copyOf_2 hb ?_
  refine gs_ic_ne (pc := 3) (tgt := 14) dJ9_copyOf_3 (by decide) (by omega) (fun _ => ?_) (fun hn => absurd hn (by omega))
  refine gs_ild1 (pc := 14) dJ9_copyOf_14 ?_
  refine gs_newa (pc := 15) 2 (n) l (by decide) rfl dJ9_copyOf_15 q242 (by first | rfl | omega) (by omega) ?_
  have h1 : gl X (hnew X hp n (l, Sum.inl (2, n, Sum.inl fun _ => 0))) (nx X hp) = some (l, .inl (2, n, .inl fun _ => 0)) := gl_new_self
  have h0 := gl_new_of (n := n) (c := (l, Sum.inl (2, n, Sum.inl fun _ => 0))) hb
  have hF : Fr X (fun _ => False) hp (hnew X hp n (l, Sum.inl (2, n, Sum.inl fun _ => 0))) := Fr.new Fr.refl
  generalize hh : hnew X hp n (l, Sum.inl (2, n, Sum.inl fun _ => 0)) = hp1 at h0 h1 hF ⊢
  have hc1 : hp1.1 = hp.1 + 1 := by rw [← hh]; rfl
  have hc2 : hp1.2.1 = hp.2.1 + n := by rw [← hh]; rfl
  refine gs_ast2 (pc := 17) dJ9_copyOf_17 rfl ?_
  refine gs_ald0 (pc := 18) dJ9_copyOf_18 ?_
  refine gs_iconst (pc := 19) dJ9_copyOf_19 ?_
  refine gs_ald2 (pc := 20) dJ9_copyOf_20 ?_
  refine gs_iconst (pc := 21) dJ9_copyOf_21 ?_
  refine gs_ald0 (pc := 22) dJ9_copyOf_22 ?_
  refine gs_alen (pc := 23) dJ9_copyOf_23 h0 ?_
  refine gs_ild1 (pc := 24) dJ9_copyOf_24 ?_
  refine gs_S2 (pc := 25) dJ9_copyOf_25 kJ9_304 (by decide) (Nat.le_of_ble_eq_true rfl) (c_min _ _ _ ⟨by omega, by omega⟩ ⟨by omega, by omega⟩) (fun v hp2 hq => ?_)
  obtain ⟨rfl, rfl⟩ := hq
  refine gs_copyI (pc := 28) 2 (by decide) dJ9_copyOf_28 q363 q365 q364 q110 h0 h1 hl (by omega) (by omega) (by omega) (fun x h1 h2 => by obtain ⟨y, rfl⟩ : ∃ y : Nat, x = (y : Int) := ⟨x.toNat, by omega⟩; exact i_fb (hf y (by omega))) (by decide) (Nat.le_of_ble_eq_true rfl) ?_
  refine gs_ald2 (pc := 31) dJ9_copyOf_31 ?_
  refine gs_aret (pc := 32) dJ9_copyOf_32 rfl (Or.inr ⟨_, rfl⟩) ?_
  refine ⟨_, rfl, rfl, hF.setN (Nat.le_refl _), hc1, hc2, _, gl_set_self h1 hl, fun j hj => ?_, fun j hj => ?_⟩
  · show cpy f _ _ _ _ _ = _
    unfold cpy
    rw [if_pos (by omega), show (0 : Int) + ((j : Int) - 0) = (j : Int) by omega]
  · show 0 ≤ cpy f _ _ _ _ _ ∧ cpy f _ _ _ _ _ ≤ 127
    unfold cpy
    split
    · rw [show (0 : Int) + ((j : Int) - 0) = (j : Int) by omega]; exact hf j (by omega)
    · exact ⟨Int.le_refl _, by show (0 : Int) ≤ 127; decide⟩
/-- room made for m bytes in the builder -/
def sbRoom (X : gCx) (hp hp' : gHp) (a : Nat) (s : List Int) (cap m cap' : Nat) : Prop := Fr X (fun l => l = a + 2) hp hp' ∧ cap ≤ cap' ∧ m ≤ cap' ∧ (cap' = cap ∨ cap < m ∧ cap' = max m (2 * cap + 2)) ∧ hp'.1 ≤ hp.1 + (cap' - cap) ∧ hp'.2.1 ≤ hp.2.1 + 2 * (cap' - cap) ∧ ∃ b f, gl X hp' a = some (a + 2, sbC b s.length) ∧ gl X hp' b = some (a + 2, .inl (2, cap', .inl f)) ∧ (∀ i : Nat, i < s.length → f (i : Int) = s.getD i 0) ∧ ∀ i : Nat, i < cap' → 0 ≤ f (i : Int) ∧ f (i : Int) ≤ 127
theorem c_ensure {a cap m : Nat} {s : List Int} (hs : isSB X hp a s cap) (hm : s.length ≤ m ∧ m ≤ 400) : M0 X yJ3_ensureCapacityInternal fJ3_ensureCapacityInternal 4 [vR (some a), vI (m : Int)] hp (fun hp' => ∃ cap', sbRoom X hp hp' a s cap m cap') := by
  obtain ⟨h1, h2, h3, h4, b, f, e1, e2, e3, e4⟩ := hs
  refine MC.of pfJ3_ensureCapacityInternal rfl (fun h => by cases h) 1 rfl rfl ?_
  refine gs_ald0 (pc := 0) dJ3_ensureCapacityInternal_0 ?_
  refine gs_getf (pc := 1) 0 dJ3_ensureCapacityInternal_1 e1 clJ4 in_J4 (by decide) q311 (Or.inl rfl) rfl ?_
  refine gs_alen (pc := 4) dJ3_ensureCapacityInternal_4 e2 ?_
  refine gs_ald0 (pc := 5) dJ3_ensureCapacityInternal_5 ?_
  refine gs_getf (pc := 6) 1 dJ3_ensureCapacityInternal_6 e1 clJ4 in_J4 (by decide) q312 (Or.inl rfl) rfl ?_
  refine gs_ishr (pc := 9) dJ3_ensureCapacityInternal_9 (i_shr0 _) ?_
  refine gs_ist2 (pc := 10) dJ3_ensureCapacityInternal_10 rfl ?_
  refine gs_ild1 (pc := 11) dJ3_ensureCapacityInternal_11 ?_
  refine gs_ild2 (pc := 12) dJ3_ensureCapacityInternal_12 ?_
  refine gs_isub (pc := 13) dJ3_ensureCapacityInternal_13 ?_
  refine gs_if_le (pc := 14) (tgt := 38) dJ3_ensureCapacityInternal_14 (by decide) (by omega) (fun hc => ?_) (fun hc => ?_)
  · refine gs_vret (pc := 38) dJ3_ensureCapacityInternal_38 rfl ?_
    exact ⟨rfl, cap, Fr.refl, Nat.le_refl _, by omega, Or.inl rfl, by omega, by omega, b, f, e1, e2, e3, e4⟩
  · refine gs_ald0 (pc := 17) dJ3_ensureCapacityInternal_17 ?_
    refine gs_ald0 (pc := 18) dJ3_ensureCapacityInternal_18 ?_
    refine gs_getf (pc := 19) 0 dJ3_ensureCapacityInternal_19 e1 clJ4 in_J4 (by decide) q311 (Or.inl rfl) rfl ?_
    refine gs_ald0 (pc := 22) dJ3_ensureCapacityInternal_22 ?_
    refine gs_ild1 (pc := 23) dJ3_ensureCapacityInternal_23 ?_
    refine gs_P1 (pc := 24) dJ3_ensureCapacityInternal_24 kJ3_104_J4 e1 clJ4 (by decide) (Nat.le_of_ble_eq_true rfl) (c_newCap e1 e2 h3 ⟨by omega, by omega⟩) (fun v hp1 hq => ?_)
    obtain ⟨rfl, rfl⟩ := hq
    refine gs_ald0 (pc := 27) dJ3_ensureCapacityInternal_27 ?_
    refine gs_getf (pc := 28) 1 dJ3_ensureCapacityInternal_28 e1 clJ4 in_J4 (by decide) q312 (Or.inl rfl) rfl ?_
    refine gs_ishl (pc := 31) dJ3_ensureCapacityInternal_31 (i_shl0 _) ?_
    refine gs_S2 (pc := 32) dJ3_ensureCapacityInternal_32 kJ3_108 (by decide) (Nat.le_of_ble_eq_true rfl) (c_copyB (a + 2) (by omega) e2 ⟨by omega, by omega⟩ e4) (fun v hp1 hq => ?_)
    obtain ⟨rfl, q1, q2, q3, g, q4, q5, q6⟩ := hq
    have e1' := q1.at e1 (fun h => h)
    have hne : nx X hp ≠ a := by have := gl_lt e1; omega
    generalize nx X hp = b' at q4 hne ⊢
    refine gs_putf (pc := 35) 0 (sbC b' s.length) dJ3_ensureCapacityInternal_35 e1' (by omega) clJ4 in_J4 tyJ4 tyJ4_ok nmJ4 (by decide) q311 (Or.inl rfl) rfl (fok_arr _ _) (Nat.le_of_ble_eq_true rfl) rfl ?_
    refine gs_vret (pc := 38) dJ3_ensureCapacityInternal_38 rfl ?_
    have e5 := gl_set_self (c := (a + 2, sbC b' s.length)) e1' (by omega)
    have hF : Fr X (fun l => l = a + 2) hp (hset hp1 a (a + 2, sbC b' s.length)) := (Fr.of0 q1).set e1' (by omega) rfl ⟨rfl, rfl⟩
    refine ⟨rfl, _, hF, by omega, by omega, Or.inr ⟨by omega, rfl⟩, ?_, ?_, b', g, e5, ?_, fun i hi => ?_, q6⟩
    · show hp1.1 ≤ _; omega
    · show hp1.2.1 ≤ _; omega
    · rw [gl_set_ne hne]; exact q4
    · rw [q5 i (by omega)]; exact e3 i hi
end SB
