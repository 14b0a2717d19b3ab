/-! CONTRACTS: Integer, Setting as keys. -/
theorem i_ushr16 {k : Int} (h : 0 ≤ k ∧ k < 65536) : ((Int32.ofInt k).toUInt32 >>> ((Int32.ofInt 16).toUInt32 &&& Int32.toUInt32 31)).toInt32 = Int32.ofInt 0 := by
  obtain ⟨m, rfl⟩ : ∃ m : Nat, k = (m : Int) := ⟨k.toNat, by omega⟩
  have e := pk_ushrN (n := m) (by omega) (Int32.ofInt 16) 16 (by decide)
  have e1 : Int32.ofInt (m : Int) = nI m := rfl
  rw [e1, e, show m / 2 ^ 16 = 0 by omega]
  rfl
theorem i_xor0 (x : Int) : Int32.ofInt x ^^^ Int32.ofInt 0 = Int32.ofInt x := by
  show Int32.ofInt x ^^^ (0 : Int32) = Int32.ofInt x
  simp
section KEY
variable {X : gCx} {hp : gHp}
/-- a box of a whole number -/
def isI (X : gCx) (hp : gHp) (a : Nat) (v : Int) : Prop := ∃ lb, lb ≤ 1 ∧ gl X hp a = some (lb, .inr (14, [vI v]))
theorem isI.fr {S : Nat → Prop} {hp1 : gHp} {a : Nat} {v : Int} (h : Fr X S hp hp1) (hS : ∀ l, S l → 2 ≤ l) (hs : isI X hp a v) : isI X hp1 a v := by
  obtain ⟨lb, e1, e2⟩ := hs
  exact ⟨lb, e1, h.at e2 (fun q => by have := hS _ q; omega)⟩
theorem c_numInit {a : Nat} : M0 X yJ17_init fJ17_init 1 [vR (some a)] hp (fun hp' => hp = hp') := by
  refine MC.of pfJ17_init rfl (fun _ => rfl) 0 rfl rfl ?_
  refine gs_ald0 (pc := 0) dJ17_init_0 ?_
  refine gs_objInit (pc := 1) dJ17_init_1 q866 q146 q147 (by decide) (Nat.le_of_ble_eq_true rfl) ?_
  refine gs_vret (pc := 4) dJ17_init_4 rfl ?_
  exact ⟨rfl, rfl⟩
theorem c_intInit {a : Nat} {v : Int} (ha : gl X hp a = some (1, .inr (14, dfJ18))) : M0 X yJ18_init fJ18_init 2 [vR (some a), vI v] hp (fun hp' => hp' = hset hp a (1, .inr (14, [vI v]))) := by
  refine MC.of pfJ18_init rfl (fun _ => rfl) 0 rfl rfl ?_
  refine gs_ald0 (pc := 0) dJ18_init_0 ?_
  refine gs_I0v (pc := 1) dJ18_init_1 kJ18_202 (by decide) (Nat.le_of_ble_eq_true rfl) (c_numInit) (fun hp1 hq => ?_)
  obtain ⟨rfl⟩ := hq
  refine gs_ald0 (pc := 4) dJ18_init_4 ?_
  refine gs_ild1 (pc := 5) dJ18_init_5 ?_
  refine gs_putF (pc := 6) 0 (.inr (14, [vI v])) dJ18_init_6 ha (by decide) clJ18 in_J18 tyJ18 tyJ18_ok nmJ18 (by decide) q867 (Or.inl rfl) rfl rfl rfl (fok_int _) (Nat.le_of_ble_eq_true rfl) rfl ?_
  refine gs_vret (pc := 9) dJ18_init_9 rfl ?_
  exact ⟨rfl, rfl⟩
/-- a small number's box is a constant -/
theorem c_valSmall (hX : KX X) {v : Int} (hv : -128 ≤ v ∧ v ≤ 127) : MV X yJ18_valueOf fJ18_valueOf 3 [vI v] hp (fun r hp' => (∃ a, r = vR (some a) ∧ isI X hp a v) ∧ hp = hp') := by
  refine MC.of pfJ18_valueOf rfl (fun h => by cases h) 0 rfl rfl ?_
  have hk := hX.2.2.1 hp (v + 128).toNat (by omega)
  rw [show ((v + 128).toNat : Int) - 128 = v by omega] at hk
  refine gs_ild0 (pc := 0) dJ18_valueOf_0 ?_
  refine gs_bipush (pc := 1) dJ18_valueOf_1 rfl ?_
  refine gs_ic_lt (pc := 3) (tgt := 23) dJ18_valueOf_3 (by decide) (by omega) (fun hn => absurd hn (by omega)) (fun _ => ?_)
  refine gs_ild0 (pc := 6) dJ18_valueOf_6 ?_
  refine gs_gets (pc := 7) 2 (by decide) dJ18_valueOf_7 q854 (Or.inl rfl) ?_
  refine gs_ic_gt (pc := 10) (tgt := 23) dJ18_valueOf_10 (by decide) (by omega) (fun hn => absurd hn (by omega)) (fun _ => ?_)
  refine gs_gets (pc := 13) 3 (by decide) dJ18_valueOf_13 q856 (Or.inl rfl) ?_
  refine gs_ild0 (pc := 16) dJ18_valueOf_16 ?_
  refine gs_sipush (pc := 17) dJ18_valueOf_17 rfl ?_
  refine gs_iadd (pc := 20) dJ18_valueOf_20 ?_
  refine gs_aald (pc := 21) 7 (by decide) dJ18_valueOf_21 (hX.2.1 hp) (by omega) (by omega) ?_
  refine gs_aret (pc := 22) dJ18_valueOf_22 rfl (Or.inl ⟨_, rfl⟩) ?_
  exact ⟨_, rfl, ⟨_, rfl, 0, by decide, hk⟩, rfl⟩
theorem c_valueOf (hX : KX X) {v : Int} (hv : -2147483648 ≤ v ∧ v ≤ 2147483647) : MV X yJ18_valueOf fJ18_valueOf 3 [vI v] hp (fun r hp' => ∃ a, r = vR (some a) ∧ isI X hp' a v ∧ Fr X (fun _ => False) hp hp' ∧ hp'.1 ≤ hp.1 + 1 ∧ hp'.2.1 ≤ hp.2.1 + 1) := by
  by_cases hs : -128 ≤ v ∧ v ≤ 127
  · refine MV.mono ?_ (c_valSmall hX hs)
    rintro r hp' ⟨⟨a, rfl, h⟩, rfl⟩
    exact ⟨a, rfl, h, Fr.refl, by omega, by omega⟩
  · refine MC.of pfJ18_valueOf rfl (fun h => by cases h) 0 rfl rfl ?_
    have k1 : G X fJ18_valueOf 3 23 [some (vI v)] [] hp (fun r hp' => ∃ v_1, r = some v_1 ∧ ∃ a, v_1 = vR (some a) ∧ isI X hp' a v ∧ Fr X (fun _ => False) hp hp' ∧ hp'.1 ≤ hp.1 + 1 ∧ hp'.2.1 ≤ hp.2.1 + 1) := by
      refine gs_new (pc := 23) 1 dfJ18 dJ18_valueOf_23 clJ18 in_J18 tyJ18 tyJ18_ok q858 q859 q122 dfoJ18 ?_
      refine gs_dup (pc := 26) dJ18_valueOf_26 rfl ?_
      refine gs_ild0 (pc := 27) dJ18_valueOf_27 ?_
      refine gs_I1v (pc := 28) dJ18_valueOf_28 kJ18_199 (by decide) (Nat.le_of_ble_eq_true rfl) (c_intInit gl_new_self) (fun hp1 hq => ?_)
      obtain ⟨rfl⟩ := hq
      refine gs_aret (pc := 31) dJ18_valueOf_31 rfl (Or.inl ⟨_, rfl⟩) ?_
      have h1 : gl X (hnew X hp 1 (1, Sum.inr (14, dfJ18))) (nx X hp) = some (1, Sum.inr (14, dfJ18)) := gl_new_self
      exact ⟨_, rfl, _, rfl, ⟨1, by decide, gl_set_self h1 (by decide)⟩, (Fr.new Fr.refl).setN (Nat.le_refl _), Nat.le_refl _, Nat.le_refl _⟩
    refine gs_ild0 (pc := 0) dJ18_valueOf_0 ?_
    refine gs_bipush (pc := 1) dJ18_valueOf_1 rfl ?_
    refine gs_ic_lt (pc := 3) (tgt := 23) dJ18_valueOf_3 (by decide) (by omega) (fun h1 => ?_) (fun h1 => ?_)
    · exact k1
    · refine gs_ild0 (pc := 6) dJ18_valueOf_6 ?_
      refine gs_gets (pc := 7) 2 (by decide) dJ18_valueOf_7 q854 (Or.inl rfl) ?_
      refine gs_ic_gt (pc := 10) (tgt := 23) dJ18_valueOf_10 (by decide) (by omega) (fun h2 => ?_) (fun h2 => ?_)
      · exact k1
      · exact absurd ⟨by omega, by have : ¬ (127 : Int) < v := h2; omega⟩ hs
theorem c_intValue {a : Nat} {v : Int} (ha : isI X hp a v) : MV X yJ18_intValue fJ18_intValue 1 [vR (some a)] hp (fun r hp' => r = vI v ∧ hp = hp') := by
  obtain ⟨lb, e1, e2⟩ := ha
  refine MC.of pfJ18_intValue rfl (fun h => by cases h) 0 rfl rfl ?_
  refine gs_ald0 (pc := 0) dJ18_intValue_0 ?_
  refine gs_getf (pc := 1) 0 dJ18_intValue_1 e2 clJ18 in_J18 (by decide) q867 (Or.inl rfl) rfl ?_
  refine gs_iret (pc := 4) dJ18_intValue_4 rfl ?_
  exact ⟨_, rfl, rfl, rfl⟩
theorem c_intHash2 {v : Int} : MV X yJ18_hashCode_2 fJ18_hashCode_2 1 [vI v] hp (fun r hp' => r = vI v ∧ hp = hp') := by
  refine MC.of pfJ18_hashCode_2 rfl (fun h => by cases h) 0 rfl rfl ?_
  refine gs_ild0 (pc := 0) dJ18_hashCode_2_0 ?_
  refine gs_iret (pc := 1) dJ18_hashCode_2_1 rfl ?_
  exact ⟨_, rfl, rfl, rfl⟩
theorem c_intHash {a : Nat} {v : Int} (ha : isI X hp a v) : MV X yJ18_hashCode fJ18_hashCode 2 [vR (some a)] hp (fun r hp' => r = vI v ∧ hp = hp') := by
  obtain ⟨lb, e1, e2⟩ := ha
  refine MC.of pfJ18_hashCode rfl (fun h => by cases h) 0 rfl rfl ?_
  refine gs_ald0 (pc := 0) dJ18_hashCode_0 ?_
  refine gs_getf (pc := 1) 0 dJ18_hashCode_1 e2 clJ18 in_J18 (by decide) q867 (Or.inl rfl) rfl ?_
  refine gs_S1 (pc := 4) dJ18_hashCode_4 kJ18_208 (by decide) (Nat.le_of_ble_eq_true rfl) (c_intHash2) (fun v hp1 hq => ?_)
  obtain ⟨rfl, rfl⟩ := hq
  refine gs_iret (pc := 7) dJ18_hashCode_7 rfl ?_
  exact ⟨_, rfl, rfl, rfl⟩
theorem c_intEq {a b : Nat} {v w : Int} (ha : isI X hp a v) (hb : isI X hp b w) (hv : 0 ≤ v ∧ v < 65536) (hw : 0 ≤ w ∧ w < 65536) : MV X yJ18_equals fJ18_equals 2 [vR (some a), vR (some b)] hp (fun r hp' => r = vI (if v = w then 1 else 0) ∧ hp = hp') := by
  have hb' := hb
  obtain ⟨lb, e1, e2⟩ := ha
  obtain ⟨lb', e1', e2'⟩ := hb
  refine MC.of pfJ18_equals rfl (fun h => by cases h) 0 rfl rfl ?_
  refine gs_ald1 (pc := 0) dJ18_equals_0 ?_
  refine gs_instE (pc := 1) dJ18_equals_1 q858 e2' clJ18 ?_
  refine gs_if_eq (pc := 4) (tgt := 27) dJ18_equals_4 (by decide) (by omega) (fun hn => absurd hn (by decide)) (fun _ => ?_)
  refine gs_ald0 (pc := 7) dJ18_equals_7 ?_
  refine gs_getf (pc := 8) 0 dJ18_equals_8 e2 clJ18 in_J18 (by decide) q867 (Or.inl rfl) rfl ?_
  refine gs_ald1 (pc := 11) dJ18_equals_11 ?_
  refine gs_cast (pc := 12) dJ18_equals_12 q858 e2' clJ18 (Or.inl rfl) ?_
  refine gs_V0 (pc := 15) dJ18_equals_15 kJ18_211 e2' clJ18 (by decide) (Nat.le_of_ble_eq_true rfl) (c_intValue hb') (fun r hp1 hq => ?_)
  obtain ⟨rfl, rfl⟩ := hq
  refine gs_ic_ne (pc := 18) (tgt := 25) dJ18_equals_18 (by decide) (by omega) (fun hc => ?_) (fun hc => ?_)
  · refine gs_iconst (pc := 25) dJ18_equals_25 ?_
    refine gs_zret (pc := 26) .boolean dJ18_equals_26 rfl rfl ?_
    exact ⟨_, rfl, by rw [if_neg hc], rfl⟩
  · refine gs_iconst (pc := 21) dJ18_equals_21 ?_
    refine gs_goto (pc := 22) (tgt := 26) dJ18_equals_22 (by decide) ?_
    refine gs_zret (pc := 26) .boolean dJ18_equals_26 rfl rfl ?_
    exact ⟨_, rfl, by rw [if_pos hc], rfl⟩
/-! settings -/
def isSt (X : gCx) (hp : gHp) (a : Nat) (s b : Int) : Prop := ∃ lb, lb ≤ 1 ∧ gl X hp a = some (lb, .inr (8, [vI s, vI b]))
theorem isSt.fr {S : Nat → Prop} {hp1 : gHp} {a : Nat} {s b : Int} (h : Fr X S hp hp1) (hS : ∀ l, S l → 2 ≤ l) (hs : isSt X hp a s b) : isSt X hp1 a s b := by
  obtain ⟨lb, e1, e2⟩ := hs
  exact ⟨lb, e1, h.at e2 (fun q => by have := hS _ q; omega)⟩
theorem c_setInit {a : Nat} {s b : Int} (ha : gl X hp a = some (1, .inr (8, dfX8))) : M0 X yX8_init fX8_init 1 [vR (some a), vI s, vI b] hp (fun hp' => ∃ c, hp' = hset (hset hp a c) a (1, .inr (8, [vI s, vI b]))) := by
  refine MC.of pfX8_init rfl (fun _ => rfl) 0 rfl rfl ?_
  refine gs_ald0 (pc := 0) dX8_init_0 ?_
  refine gs_objInit (pc := 1) dX8_init_1 q1837 q146 q147 (by decide) (Nat.le_of_ble_eq_true rfl) ?_
  refine gs_ald0 (pc := 4) dX8_init_4 ?_
  refine gs_ild1 (pc := 5) dX8_init_5 ?_
  refine gs_putF (pc := 6) 0 (.inr (8, [vI s, vI 0])) dX8_init_6 ha (by decide) clX8 in_X8 tyX8 tyX8_ok nmX8 (by decide) q1838 (Or.inl rfl) rfl rfl rfl (fok_int _) (Nat.le_of_ble_eq_true rfl) rfl ?_
  have h1 := gl_set_self (c := (1, Sum.inr (8, [vI s, vI 0]))) ha (by decide)
  refine gs_ald0 (pc := 9) dX8_init_9 ?_
  refine gs_ild2 (pc := 10) dX8_init_10 ?_
  refine gs_putF (pc := 11) 1 (.inr (8, [vI s, vI b])) dX8_init_11 h1 (by decide) clX8 in_X8 tyX8 tyX8_ok nmX8 (by decide) q1840 (Or.inl rfl) rfl rfl rfl (fok_int _) (Nat.le_of_ble_eq_true rfl) rfl ?_
  refine gs_vret (pc := 14) dX8_init_14 rfl ?_
  exact ⟨rfl, _, rfl⟩
theorem c_setHash {a : Nat} {s b : Int} (ha : isSt X hp a s b) : MV X yX8_hashCode fX8_hashCode 1 [vR (some a)] hp (fun r hp' => r = vI (21 * s + b) ∧ hp = hp') := by
  obtain ⟨lb, e1, e2⟩ := ha
  refine MC.of pfX8_hashCode rfl (fun h => by cases h) 0 rfl rfl ?_
  refine gs_bipush (pc := 0) dX8_hashCode_0 rfl ?_
  refine gs_ald0 (pc := 2) dX8_hashCode_2 ?_
  refine gs_getf (pc := 3) 0 dX8_hashCode_3 e2 clX8 in_X8 (by decide) q1838 (Or.inl rfl) rfl ?_
  refine gs_imul (pc := 6) dX8_hashCode_6 ?_
  refine gs_ald0 (pc := 7) dX8_hashCode_7 ?_
  refine gs_getf (pc := 8) 1 dX8_hashCode_8 e2 clX8 in_X8 (by decide) q1840 (Or.inl rfl) rfl ?_
  refine gs_iadd (pc := 11) dX8_hashCode_11 ?_
  refine gs_iret (pc := 12) dX8_hashCode_12 rfl ?_
  exact ⟨_, rfl, rfl, rfl⟩
theorem c_setEq {a b : Nat} {s t s' t' : Int} (ha : isSt X hp a s t) (hb : isSt X hp b s' t') (h1 : 1 ≤ s ∧ s ≤ 8) (h2 : 0 ≤ t ∧ t ≤ 20) (h3 : 1 ≤ s' ∧ s' ≤ 8) (h4 : 0 ≤ t' ∧ t' ≤ 20) : MV X yX8_equals fX8_equals 1 [vR (some a), vR (some b)] hp (fun r hp' => r = vI (if 21 * s + t = 21 * s' + t' then 1 else 0) ∧ hp = hp') := by
  obtain ⟨lb, e1, e2⟩ := ha
  obtain ⟨lb', e1', e2'⟩ := hb
  refine MC.of pfX8_equals rfl (fun h => by cases h) 1 rfl rfl ?_
  have k1 : (21 * s + t ≠ 21 * s' + t') → G X fX8_equals 1 38 [some (vR (some a)), some (vR (some b)), some (vR (some b))] [] hp (fun r hp' => ∃ v, r = some v ∧ v = vI (if 21 * s + t = 21 * s' + t' then 1 else 0) ∧ hp = hp') := by
    intro hne
    refine gs_iconst (pc := 38) dX8_equals_38 ?_
    refine gs_zret (pc := 39) .boolean dX8_equals_39 rfl rfl ?_
    exact ⟨_, rfl, by rw [if_neg hne], rfl⟩
  refine gs_ald1 (pc := 0) dX8_equals_0 ?_
  refine gs_instE (pc := 1) dX8_equals_1 q968 e2' clX8 ?_
  refine gs_if_eq (pc := 4) (tgt := 38) dX8_equals_4 (by decide) (by omega) (fun hn => absurd hn (by decide)) (fun _ => ?_)
  refine gs_ald1 (pc := 7) dX8_equals_7 ?_
  refine gs_cast (pc := 8) dX8_equals_8 q968 e2' clX8 (Or.inl rfl) ?_
  refine gs_ast2 (pc := 11) dX8_equals_11 rfl ?_
  refine gs_ald2 (pc := 12) dX8_equals_12 ?_
  refine gs_getf (pc := 13) 0 dX8_equals_13 e2' clX8 in_X8 (by decide) q1838 (Or.inl rfl) rfl ?_
  refine gs_ald0 (pc := 16) dX8_equals_16 ?_
  refine gs_getf (pc := 17) 0 dX8_equals_17 e2 clX8 in_X8 (by decide) q1838 (Or.inl rfl) rfl ?_
  refine gs_ic_ne (pc := 20) (tgt := 38) dX8_equals_20 (by decide) (by omega) (fun hc => ?_) (fun hc => ?_)
  · exact k1 (by omega)
  · refine gs_ald2 (pc := 23) dX8_equals_23 ?_
    refine gs_getf (pc := 24) 1 dX8_equals_24 e2' clX8 in_X8 (by decide) q1840 (Or.inl rfl) rfl ?_
    refine gs_ald0 (pc := 27) dX8_equals_27 ?_
    refine gs_getf (pc := 28) 1 dX8_equals_28 e2 clX8 in_X8 (by decide) q1840 (Or.inl rfl) rfl ?_
    refine gs_ic_ne (pc := 31) (tgt := 38) dX8_equals_31 (by decide) (by omega) (fun hd => ?_) (fun hd => ?_)
    · exact k1 (by omega)
    · refine gs_iconst (pc := 34) dX8_equals_34 ?_
      refine gs_goto (pc := 35) (tgt := 39) dX8_equals_35 (by decide) ?_
      refine gs_zret (pc := 39) .boolean dX8_equals_39 rfl rfl ?_
      exact ⟨_, rfl, by rw [if_pos (by omega)], rfl⟩
/-- a key by its code: a box, or a setting -/
def isKey (X : gCx) (hp : gHp) (kd : Bool) (a : Nat) (k : Int) : Prop := match kd with
  | false => isI X hp a k ∧ 0 ≤ k ∧ k < 65536
  | true => ∃ s b, isSt X hp a s b ∧ k = 21 * s + b ∧ (1 ≤ s ∧ s ≤ 8) ∧ 0 ≤ b ∧ b ≤ 20
theorem isKey.fr {S : Nat → Prop} {hp1 : gHp} {kd : Bool} {a : Nat} {k : Int} (h : Fr X S hp hp1) (hS : ∀ l, S l → 2 ≤ l) (hk : isKey X hp kd a k) : isKey X hp1 kd a k := by
  cases kd with
  | false => exact ⟨hk.1.fr h hS, hk.2⟩
  | true =>
    obtain ⟨s, b, h1, h2⟩ := hk
    exact ⟨s, b, h1.fr h hS, h2⟩
theorem isKey.rng {kd : Bool} {a : Nat} {k : Int} (hk : isKey X hp kd a k) : 0 ≤ k ∧ k < 65536 := by
  cases kd with
  | false => exact hk.2
  | true =>
    obtain ⟨s, b, h1, h2, h3⟩ := hk
    omega
theorem c_hash {kd : Bool} {a : Nat} {k : Int} (hk : isKey X hp kd a k) : MV X yJ14_hash fJ14_hash 3 [vR (some a)] hp (fun r hp' => r = vI k ∧ hp = hp') := by
  have hr := hk.rng
  refine MC.of pfJ14_hash rfl (fun h => by cases h) 1 rfl rfl ?_
  have k1 : G X fJ14_hash 3 12 [some (vR (some a)), none] [vI k] hp (fun r hp' => ∃ v, r = some v ∧ v = vI k ∧ hp = hp') := by
    refine gs_dup (pc := 12) dJ14_hash_12 rfl ?_
    refine gs_ist1 (pc := 13) dJ14_hash_13 rfl ?_
    refine gs_ild1 (pc := 14) dJ14_hash_14 ?_
    refine gs_bipush (pc := 15) dJ14_hash_15 rfl ?_
    refine gs_iushr (pc := 17) dJ14_hash_17 (i_ushr16 hr) ?_
    refine gs_ixor (pc := 18) dJ14_hash_18 (i_xor0 _) ?_
    refine gs_iret (pc := 19) dJ14_hash_19 rfl ?_
    exact ⟨_, rfl, rfl, rfl⟩
  cases kd with
  | false =>
    have hk0 := hk.1
    obtain ⟨lb, e1, e2⟩ := hk0
    refine gs_ald0 (pc := 0) dJ14_hash_0 ?_
    refine gs_ifnonnull (pc := 1) (tgt := 8) dJ14_hash_1 (by decide) (fun _ _ => ?_) (fun h => by cases h)
    refine gs_ald0 (pc := 8) dJ14_hash_8 ?_
    refine gs_U0 (pc := 9) dJ14_hash_9 kJ14_1_J18 e2 clJ18 (by decide) (Nat.le_of_ble_eq_true rfl) (c_intHash hk.1) (fun r hp1 hq => ?_)
    obtain ⟨rfl, rfl⟩ := hq
    exact k1
  | true =>
    obtain ⟨s, b, h1, rfl, h3⟩ := hk
    have h1' := h1
    obtain ⟨lb, e1, e2⟩ := h1
    refine gs_ald0 (pc := 0) dJ14_hash_0 ?_
    refine gs_ifnonnull (pc := 1) (tgt := 8) dJ14_hash_1 (by decide) (fun _ _ => ?_) (fun h => by cases h)
    refine gs_ald0 (pc := 8) dJ14_hash_8 ?_
    refine gs_U0 (pc := 9) dJ14_hash_9 kJ14_1_X8 e2 clX8 (by decide) (Nat.le_of_ble_eq_true rfl) (c_setHash h1') (fun r hp1 hq => ?_)
    obtain ⟨rfl, rfl⟩ := hq
    exact k1
end KEY
