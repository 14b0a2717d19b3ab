/-! CONTRACTS: ArrayList. -/
/-- the constants of the start -/
def skS (k : Nat) : List Int := match k with
  | 0 => []
  | 1 => []
  | 2 => [32]
  | 3 => [97, 40]
  | 4 => [41]
  | 5 => [123]
  | 6 => [125]
  | 7 => [91, 120, 44]
  | 8 => [93]
  | 9 => [98, 101, 103, 105, 110]
  | 10 => [101, 110, 100]
  | 11 => [99, 97, 115, 101]
  | 12 => [34, 115, 34]
  | 13 => [35, 99]
  | 14 => [121, 43]
  | 15 => [34, 34, 34]
  | 16 => [122]
  | 17 => [102, 40, 98, 44]
  | _ => [59]
def KX (X : gCx) : Prop := (∀ hp, gl X hp (cxK X 0) = some (0, .inl (3, 0, .inr (fun _ => none)))) ∧ (∀ hp, gl X hp (cxK X 2) = some (0, .inl (7, 256, .inr (fun i => some (cxK X (100 + i.toNat)))))) ∧ (∀ hp j, j < 256 → gl X hp (cxK X (100 + j)) = some (0, .inr (14, [vI ((j : Int) - 128)]))) ∧ (∀ hp k, k < 19 → isS X hp (cxK X (10 + k)) (skS k)) ∧ True ∧ 0 < cxz X
theorem i_shr1 {n : Int} (h : 0 ≤ n ∧ n ≤ 2147483647) : Int32.ofInt n >>> (Int32.ofInt 1 &&& 31) = Int32.ofInt (n / 2) := by
  obtain ⟨m, rfl⟩ : ∃ m : Nat, n = (m : Int) := ⟨n.toNat, by omega⟩
  have := pk_shrN (n := m) (by omega) (Int32.ofInt 1 &&& 31) 1 (by decide)
  have e1 : Int32.ofInt (m : Int) = nI m := rfl
  have e2 : Int32.ofInt ((m : Int) / 2) = nI (m / 2) := rfl
  rw [e1, e2]
  exact this
section AL
variable {X : gCx} {hp : gHp}
def alC (mc : Int) (e : Nat) (n : Int) : gCe := .inr (9, [vI mc, vR (some e), vI n])
/-- the list a holds the objects xs; its array has cap places -/
def isAL (X : gCx) (hp : gHp) (a : Nat) (xs : List Nat) (cap : Nat) : Prop := ∃ mc e lbe f, gl X hp a = some (a + 2, alC mc e xs.length) ∧ gl X hp e = some (lbe, .inl (3, cap, .inr f)) ∧ (cap = 0 ∧ e = cxK X 0 ∨ 0 < cap ∧ lbe = a + 2) ∧ xs.length ≤ cap ∧ cap ≤ 100000 ∧ (∀ i : Nat, i < xs.length → f (i : Int) = some (xs.getD i 0)) ∧ ∀ x ∈ xs, okO X hp x
theorem isAL.fr {S : Nat → Prop} {hp1 : gHp} {a cap : Nat} {xs : List Nat} (hX : KX X) (h : Fr X S hp hp1) (hS : ¬ S (a + 2)) (hs : isAL X hp a xs cap) : isAL X hp1 a xs cap := by
  obtain ⟨mc, e, lbe, f, e1, e2, e3, e4, e5, e6, e7⟩ := hs
  refine ⟨mc, e, lbe, f, h.at e1 hS, ?_, e3, e4, e5, e6, fun x hx => (e7 x hx).fr h⟩
  rcases e3 with ⟨q1, q2⟩ | ⟨q1, q2⟩
  · have := hX.1 hp
    rw [← q2, e2] at this
    have h2 := hX.1 hp1
    rw [← q2] at h2
    rw [this] at e2
    rw [h2]
    cases this
    rfl
  · subst q2
    exact h.at e2 hS
theorem c_acInit {a : Nat} : M0 X yJ0_init fJ0_init 1 [vR (some a)] hp (fun hp' => hp = hp') := by
  refine MC.of pfJ0_init rfl (fun _ => rfl) 0 rfl rfl ?_
  refine gs_ald0 (pc := 0) dJ0_init_0 ?_
  refine gs_objInit (pc := 1) dJ0_init_1 q165 q146 q147 (by decide) (Nat.le_of_ble_eq_true rfl) ?_
  refine gs_vret (pc := 4) dJ0_init_4 rfl ?_
  exact ⟨rfl, rfl⟩
theorem c_ablInit {a : Nat} (ha : gl X hp a = some (a + 2, .inr (9, dfJ2))) : M0 X yJ1_init fJ1_init 2 [vR (some a)] hp (fun hp' => hp' = hset hp a (a + 2, .inr (9, [vI 0, vR none, vI 0]))) := by
  refine MC.of pfJ1_init rfl (fun _ => rfl) 0 rfl rfl ?_
  refine gs_ald0 (pc := 0) dJ1_init_0 ?_
  refine gs_I0v (pc := 1) dJ1_init_1 kJ1_1 (by decide) (Nat.le_of_ble_eq_true rfl) (c_acInit) (fun hp1 hq => ?_)
  obtain ⟨rfl⟩ := hq
  refine gs_ald0 (pc := 4) dJ1_init_4 ?_
  refine gs_iconst (pc := 5) dJ1_init_5 ?_
  refine gs_putf (pc := 6) 0 (.inr (9, [vI 0, vR none, vI 0])) dJ1_init_6 ha (by omega) clJ2 in_J2 tyJ2 tyJ2_ok nmJ2 (by decide) q170 (Or.inl rfl) rfl (fok_int _) (Nat.le_of_ble_eq_true rfl) rfl ?_
  refine gs_vret (pc := 9) dJ1_init_9 rfl ?_
  exact ⟨rfl, rfl⟩
theorem c_alInit {a : Nat} (hX : KX X) (ha : gl X hp a = some (a + 2, .inr (9, dfJ2))) : M0 X yJ2_init fJ2_init 3 [vR (some a)] hp (fun hp' => Fr X (fun l => l = a + 2) hp hp' ∧ hp'.1 = hp.1 ∧ hp'.2.1 = hp.2.1 ∧ isAL X hp' a [] 0) := by
  refine MC.of pfJ2_init rfl (fun _ => rfl) 0 rfl rfl ?_
  refine gs_ald0 (pc := 0) dJ2_init_0 ?_
  refine gs_I0v (pc := 1) dJ2_init_1 kJ2_1 (by decide) (Nat.le_of_ble_eq_true rfl) (c_ablInit ha) (fun hp1 hq => ?_)
  obtain ⟨rfl⟩ := hq
  have h1 := gl_set_self (c := (a + 2, Sum.inr (9, [vI 0, vR none, vI 0]))) ha (by omega)
  have hF : Fr X (fun l => l = a + 2) hp (hset hp a (a + 2, Sum.inr (9, [vI 0, vR none, vI 0]))) := Fr.refl.set ha (by omega) rfl ⟨rfl, rfl⟩
  refine gs_ald0 (pc := 4) dJ2_init_4 ?_
  refine gs_gets (pc := 5) 1 (by decide) dJ2_init_5 q166 (Or.inl rfl) ?_
  refine gs_putf (pc := 8) 1 (alC 0 (cxK X 0) 0) dJ2_init_8 h1 (by omega) clJ2 in_J2 tyJ2 tyJ2_ok nmJ2 (by decide) q168 (Or.inl rfl) rfl (fok_arr _ _) (Nat.le_of_ble_eq_true rfl) rfl ?_
  refine gs_vret (pc := 11) dJ2_init_11 rfl ?_
  have h2 := gl_set_self (c := (a + 2, alC 0 (cxK X 0) 0)) h1 (by omega)
  refine ⟨rfl, ?_, rfl, rfl, 0, cxK X 0, 0, _, h2, hX.1 _, Or.inl ⟨rfl, rfl⟩, Nat.le_refl _, by decide, fun i hi => absurd hi (by simp), fun x hx => by cases hx⟩
  exact hF.set h1 (by omega) rfl ⟨rfl, rfl⟩
theorem c_alSize {a cap : Nat} {xs : List Nat} (hs : isAL X hp a xs cap) : MV X yJ2_size fJ2_size 1 [vR (some a)] hp (fun v hp' => v = vI xs.length ∧ hp = hp') := by
  obtain ⟨mc, e, lbe, f, e1, e2, e3, e4, e5, e6, e7⟩ := hs
  refine MC.of pfJ2_size rfl (fun h => by cases h) 0 rfl rfl ?_
  refine gs_ald0 (pc := 0) dJ2_size_0 ?_
  refine gs_getf (pc := 1) 2 dJ2_size_1 e1 clJ2 in_J2 (by decide) q169 (Or.inl rfl) rfl ?_
  refine gs_iret (pc := 4) dJ2_size_4 rfl ?_
  exact ⟨_, rfl, rfl, rfl⟩
theorem c_alEmpty {a cap : Nat} {xs : List Nat} (hs : isAL X hp a xs cap) : MV X yJ2_isEmpty fJ2_isEmpty 1 [vR (some a)] hp (fun v hp' => v = vI (if xs.length = 0 then 1 else 0) ∧ hp = hp') := by
  obtain ⟨mc, e, lbe, f, e1, e2, e3, e4, e5, e6, e7⟩ := hs
  refine MC.of pfJ2_isEmpty rfl (fun h => by cases h) 0 rfl rfl ?_
  refine gs_ald0 (pc := 0) dJ2_isEmpty_0 ?_
  refine gs_getf (pc := 1) 2 dJ2_isEmpty_1 e1 clJ2 in_J2 (by decide) q169 (Or.inl rfl) rfl ?_
  refine gs_if_ne (pc := 4) (tgt := 11) dJ2_isEmpty_4 (by decide) (by omega) (fun hc => ?_) (fun hc => ?_)
  · refine gs_iconst (pc := 11) dJ2_isEmpty_11 ?_
    refine gs_zret (pc := 12) .boolean dJ2_isEmpty_12 rfl rfl ?_
    exact ⟨_, rfl, by rw [if_neg (by omega)], rfl⟩
  · refine gs_iconst (pc := 7) dJ2_isEmpty_7 ?_
    refine gs_goto (pc := 8) (tgt := 12) dJ2_isEmpty_8 (by decide) ?_
    refine gs_zret (pc := 12) .boolean dJ2_isEmpty_12 rfl rfl ?_
    exact ⟨_, rfl, by rw [if_pos (by omega)], rfl⟩
theorem c_alED {a cap : Nat} {xs : List Nat} {i : Nat} (hs : isAL X hp a xs cap) (hi : i < xs.length) : MV X yJ2_elementData fJ2_elementData 1 [vR (some a), vI (i : Int)] hp (fun v hp' => v = vR (some (xs.getD i 0)) ∧ hp = hp') := by
  obtain ⟨mc, e, lbe, f, e1, e2, e3, e4, e5, e6, e7⟩ := hs
  refine MC.of pfJ2_elementData rfl (fun h => by cases h) 0 rfl rfl ?_
  refine gs_ald0 (pc := 0) dJ2_elementData_0 ?_
  refine gs_getf (pc := 1) 1 dJ2_elementData_1 e1 clJ2 in_J2 (by decide) q168 (Or.inl rfl) rfl ?_
  refine gs_ild1 (pc := 4) dJ2_elementData_4 ?_
  refine gs_aald (pc := 5) 3 (by decide) dJ2_elementData_5 e2 (by omega) (by omega) ?_
  rw [e6 i hi]
  refine gs_aret (pc := 6) dJ2_elementData_6 rfl (Or.inl ⟨_, rfl⟩) ?_
  exact ⟨_, rfl, rfl, rfl⟩
theorem c_alGet {a cap : Nat} {xs : List Nat} {i : Nat} (hs : isAL X hp a xs cap) (hi : i < xs.length) : MV X yJ2_get fJ2_get 3 [vR (some a), vI (i : Int)] hp (fun v hp' => v = vR (some (xs.getD i 0)) ∧ hp = hp') := by
  have hs' := hs
  obtain ⟨mc, e, lbe, f, e1, e2, e3, e4, e5, e6, e7⟩ := hs
  refine MC.of pfJ2_get rfl (fun h => by cases h) 0 rfl rfl ?_
  refine gs_ild1 (pc := 0) dJ2_get_0 ?_
  refine gs_ald0 (pc := 1) dJ2_get_1 ?_
  refine gs_getf (pc := 2) 2 dJ2_get_2 e1 clJ2 in_J2 (by decide) q169 (Or.inl rfl) rfl ?_
  refine gs_S2 (pc := 5) dJ2_get_5 kJ2_118 (by decide) (Nat.le_of_ble_eq_true rfl) (c_ocheck ⟨by omega, by omega⟩ (by omega)) (fun v hp1 hq => ?_)
  obtain ⟨rfl, rfl⟩ := hq
  refine gs_pop (pc := 8) dJ2_get_8 rfl ?_
  refine gs_ald0 (pc := 9) dJ2_get_9 ?_
  refine gs_ild1 (pc := 10) dJ2_get_10 ?_
  refine gs_V1 (pc := 11) dJ2_get_11 kJ2_123 e1 clJ2 (by decide) (Nat.le_of_ble_eq_true rfl) (c_alED hs' hi) (fun v hp1 hq => ?_)
  obtain ⟨rfl, rfl⟩ := hq
  refine gs_aret (pc := 14) dJ2_get_14 rfl (Or.inl ⟨_, rfl⟩) ?_
  exact ⟨_, rfl, rfl, rfl⟩
def gcap (c : Nat) : Nat := if c = 0 then 10 else c + max 1 (c / 2)
theorem c_copyO3 (l : Nat) (hl : l ≠ 0) {b lb cap n : Nat} {f : Int → Option Nat} (hb : gl X hp b = some (lb, .inl (3, cap, .inr f))) (hc : cap < n ∧ n ≤ 500000) (hf : ∀ i : Nat, i < cap → ∀ y, f (i : Int) = some y → okO X hp y) : MV X yJ9_copyOf_3 fJ9_copyOf_3 2 [vR (some b), vI (n : Int), vR (some (cxK X 3))] hp (fun v hp' => v = vR (some (nx X hp)) ∧ Fr X (fun _ => False) hp hp' ∧ hp'.1 = hp.1 + 1 ∧ hp'.2.1 = hp.2.1 + n ∧ ∃ g, gl X hp' (nx X hp) = some (l, .inl (3, n, .inr g)) ∧ ∀ i : Nat, i < cap → g (i : Int) = f (i : Int)) := by
  refine MC.of pfJ9_copyOf_3 rfl (fun h => by cases h) 1 rfl rfl ?_
  refine gs_ald2 (pc := 0) dJ9_copyOf_3_0 ?_
  refine gs_ldcM (pc := 1) dJ9_copyOf_3_1 q573 ?_
  refine gs_acmp_ne (pc := 3) (tgt := 13) dJ9_copyOf_3_3 (by decide) (fun hn => absurd rfl hn) (fun _ => ?_)
  refine gs_ild1 (pc := 6) dJ9_copyOf_3_6 ?_
  refine gs_anew (pc := 7) 3 (n) l (by decide) rfl dJ9_copyOf_3_7 q575 q574 (by first | rfl | omega) (by omega) ?_
  have h1 : gl X (hnew X hp n (l, Sum.inl (3, n, Sum.inr fun _ => none))) (nx X hp) = some (l, .inl (3, n, .inr fun _ => none)) := gl_new_self
  have h0 := gl_new_of (n := n) (c := (l, Sum.inl (3, n, Sum.inr fun _ => none))) hb
  have hF : Fr X (fun _ => False) hp (hnew X hp n (l, Sum.inl (3, n, Sum.inr fun _ => none))) := Fr.new Fr.refl
  generalize hh : hnew X hp n (l, Sum.inl (3, n, Sum.inr fun _ => none)) = hp1 at h0 h1 hF ⊢
  have hc1 : hp1.1 = hp.1 + 1 := by rw [← hh]; rfl
  have hc2 : hp1.2.1 = hp.2.1 + n := by rw [← hh]; rfl
  refine gs_goto (pc := 10) (tgt := 24) dJ9_copyOf_3_10 (by decide) ?_
  refine gs_ast3 (pc := 24) dJ9_copyOf_3_24 rfl ?_
  refine gs_ald0 (pc := 25) dJ9_copyOf_3_25 ?_
  refine gs_iconst (pc := 26) dJ9_copyOf_3_26 ?_
  refine gs_ald3 (pc := 27) dJ9_copyOf_3_27 ?_
  refine gs_iconst (pc := 28) dJ9_copyOf_3_28 ?_
  refine gs_ald0 (pc := 29) dJ9_copyOf_3_29 ?_
  refine gs_alen (pc := 30) dJ9_copyOf_3_30 h0 ?_
  refine gs_ild1 (pc := 31) dJ9_copyOf_3_31 ?_
  refine gs_S2 (pc := 32) dJ9_copyOf_3_32 kJ9_304 (by decide) (Nat.le_of_ble_eq_true rfl) (c_min _ _ _ ⟨by omega, by omega⟩ ⟨by omega, by omega⟩) (fun v hp2 hq => ?_)
  obtain ⟨rfl, rfl⟩ := hq
  refine gs_copyR (pc := 35) 3 (by decide) rfl dJ9_copyOf_3_35 q363 q365 q364 q110 h0 h1 hl (by omega) (by omega) (by omega) (fun x h1' h2' y hy => by obtain ⟨z, rfl⟩ : ∃ z : Nat, x = (z : Int) := ⟨x.toNat, by omega⟩; exact ((hf z (by omega) y hy).fr hF).any) (by decide) (Nat.le_of_ble_eq_true rfl) ?_
  refine gs_ald3 (pc := 38) dJ9_copyOf_3_38 ?_
  refine gs_aret (pc := 39) dJ9_copyOf_3_39 rfl (Or.inr ⟨_, rfl⟩) ?_
  refine ⟨_, rfl, rfl, hF.setN (Nat.le_refl _), hc1, hc2, _, gl_set_self h1 hl, fun j hj => ?_⟩
  show cpy f _ _ _ _ _ = _
  unfold cpy
  rw [if_pos (by omega), show (0 : Int) + ((j : Int) - 0) = (j : Int) by omega]
theorem c_copyO2 (l : Nat) (hl : l ≠ 0) {b lb cap n : Nat} {f : Int → Option Nat} (hb : gl X hp b = some (lb, .inl (3, cap, .inr f))) (hc : cap < n ∧ n ≤ 500000) (hf : ∀ i : Nat, i < cap → ∀ y, f (i : Int) = some y → okO X hp y) : MV X yJ9_copyOf_2 fJ9_copyOf_2 3 [vR (some b), vI (n : Int)] hp (fun v hp' => v = vR (some (nx X hp)) ∧ Fr X (fun _ => False) hp hp' ∧ hp'.1 = hp.1 + 1 ∧ hp'.2.1 = hp.2.1 + n ∧ ∃ g, gl X hp' (nx X hp) = some (l, .inl (3, n, .inr g)) ∧ ∀ i : Nat, i < cap → g (i : Int) = f (i : Int)) := by
  refine MC.of pfJ9_copyOf_2 rfl (fun h => by cases h) 0 rfl rfl ?_
  refine gs_ald0 (pc := 0) dJ9_copyOf_2_0 ?_
  refine gs_ild1 (pc := 1) dJ9_copyOf_2_1 ?_
  refine gs_ald0 (pc := 2) dJ9_copyOf_2_2 ?_
  refine gs_getClass (pc := 3) dJ9_copyOf_2_3 q541 q2828 q2827 q542 q569 hb (by decide) (Nat.le_of_ble_eq_true rfl) ?_
  refine gs_S3 (pc := 6) dJ9_copyOf_2_6 kJ9_300 (by decide) (Nat.le_of_ble_eq_true rfl) (c_copyO3 l hl hb hc hf) (fun v hp1 hq => ?_)
  obtain ⟨rfl, hq⟩ := hq
  refine gs_aret (pc := 9) dJ9_copyOf_2_9 rfl (Or.inr ⟨_, rfl⟩) ?_
  exact ⟨_, rfl, rfl, hq⟩
/-- the list's array has grown: it was full -/
theorem c_alGrow2 {a : Nat} {xs : List Nat} {n : Nat} (hX : KX X) (hs : isAL X hp a xs xs.length) (hn : n = xs.length + 1) (hl : xs.length ≤ 50000) : MV X yJ2_grow_2 fJ2_grow_2 4 [vR (some a), vI (n : Int)] hp (fun v hp' => Fr X (fun l => l = a + 2) hp hp' ∧ hp'.1 = hp.1 + 1 ∧ hp'.2.1 = hp.2.1 + gcap xs.length ∧ ∃ mc e f, v = vR (some e) ∧ gl X hp' a = some (a + 2, alC mc e xs.length) ∧ gl X hp' e = some (a + 2, .inl (3, gcap xs.length, .inr f)) ∧ ∀ i : Nat, i < xs.length → f (i : Int) = some (xs.getD i 0)) := by
  obtain ⟨mc, e, lbe, f, e1, e2, e3, e4, e5, e6, e7⟩ := hs
  subst hn
  refine MC.of pfJ2_grow_2 rfl (fun h => by cases h) 2 rfl rfl ?_
  rcases e3 with ⟨q1, q2⟩ | ⟨q1, q2⟩
  · subst q2
    have hg : gcap xs.length = 10 := by rw [q1]; rfl
    refine gs_ald0 (pc := 0) dJ2_grow_2_0 ?_
    refine gs_getf (pc := 1) 1 dJ2_grow_2_1 e1 clJ2 in_J2 (by decide) q168 (Or.inl rfl) rfl ?_
    refine gs_alen (pc := 4) dJ2_grow_2_4 e2 ?_
    refine gs_ist2 (pc := 5) dJ2_grow_2_5 rfl ?_
    refine gs_ild2 (pc := 6) dJ2_grow_2_6 ?_
    refine gs_if_gt (pc := 7) (tgt := 20) dJ2_grow_2_7 (by decide) (by omega) (fun hn => absurd hn (by omega)) (fun _ => ?_)
    refine gs_ald0 (pc := 10) dJ2_grow_2_10 ?_
    refine gs_getf (pc := 11) 1 dJ2_grow_2_11 e1 clJ2 in_J2 (by decide) q168 (Or.inl rfl) rfl ?_
    refine gs_gets (pc := 14) 1 (by decide) dJ2_grow_2_14 q166 (Or.inl rfl) ?_
    refine gs_acmp_eq (pc := 17) (tgt := 45) dJ2_grow_2_17 (by decide) (fun _ => ?_) (fun hn => absurd rfl hn)
    refine gs_ald0 (pc := 45) dJ2_grow_2_45 ?_
    refine gs_bipush (pc := 46) dJ2_grow_2_46 rfl ?_
    refine gs_ild1 (pc := 48) dJ2_grow_2_48 ?_
    refine gs_S2 (pc := 49) dJ2_grow_2_49 kJ2_79 (by decide) (Nat.le_of_ble_eq_true rfl) (c_max _ _ _ ⟨by omega, by omega⟩ ⟨by omega, by omega⟩) (fun v hp1 hq => ?_)
    obtain ⟨rfl, rfl⟩ := hq
    refine gs_anew (pc := 52) 3 (10) (a + 2) (by decide) rfl dJ2_grow_2_52 q577 q574 (by first | rfl | omega) (by omega) ?_
    have h1 : gl X (hnew X hp 10 (a + 2, Sum.inl (3, 10, Sum.inr fun _ => none))) (nx X hp) = some (a + 2, .inl (3, 10, .inr fun _ => none)) := gl_new_self
    have h0 := gl_new_of (n := 10) (c := (a + 2, Sum.inl (3, 10, Sum.inr fun _ => none))) e1
    have hF : Fr X (fun l => l = a + 2) hp (hnew X hp 10 (a + 2, Sum.inl (3, 10, Sum.inr fun _ => none))) := Fr.new Fr.refl
    have hne : nx X hp ≠ a := by have := gl_lt e1; omega
    generalize hh : hnew X hp 10 (a + 2, Sum.inl (3, 10, Sum.inr fun _ => none)) = hp1 at h0 h1 hF ⊢
    have hc1 : hp1.1 = hp.1 + 1 := by rw [← hh]; rfl
    have hc2 : hp1.2.1 = hp.2.1 + 10 := by rw [← hh]; rfl
    generalize nx X hp = e' at h1 hne ⊢
    refine gs_dup_x1 (pc := 55) dJ2_grow_2_55 rfl rfl ?_
    refine gs_putf (pc := 56) 1 (alC mc e' xs.length) dJ2_grow_2_56 h0 (by omega) clJ2 in_J2 tyJ2 tyJ2_ok nmJ2 (by decide) q168 (Or.inl rfl) rfl (fok_arr _ _) (Nat.le_of_ble_eq_true rfl) rfl ?_
    refine gs_aret (pc := 59) dJ2_grow_2_59 rfl (Or.inr ⟨_, rfl⟩) ?_
    have h2 := gl_set_self (c := (a + 2, alC mc e' xs.length)) h0 (by omega)
    have hF2 : Fr X (fun l => l = a + 2) hp (hset hp1 a (a + 2, alC mc e' xs.length)) := hF.set h0 (by omega) rfl ⟨rfl, rfl⟩
    rw [hg]
    refine ⟨_, rfl, hF2, hc1, hc2, mc, e', (fun _ => none), rfl, h2, ?_, fun i hi => absurd hi (by omega)⟩
    rw [gl_set_ne hne]; exact h1
  · subst q2
    have hg : gcap xs.length = xs.length + max 1 (xs.length / 2) := by unfold gcap; rw [if_neg (by omega)]
    refine gs_ald0 (pc := 0) dJ2_grow_2_0 ?_
    refine gs_getf (pc := 1) 1 dJ2_grow_2_1 e1 clJ2 in_J2 (by decide) q168 (Or.inl rfl) rfl ?_
    refine gs_alen (pc := 4) dJ2_grow_2_4 e2 ?_
    refine gs_ist2 (pc := 5) dJ2_grow_2_5 rfl ?_
    refine gs_ild2 (pc := 6) dJ2_grow_2_6 ?_
    refine gs_if_gt (pc := 7) (tgt := 20) dJ2_grow_2_7 (by decide) (by omega) (fun _ => ?_) (fun hn => absurd (by omega) hn)
    refine gs_ild2 (pc := 20) dJ2_grow_2_20 ?_
    refine gs_ild1 (pc := 21) dJ2_grow_2_21 ?_
    refine gs_ild2 (pc := 22) dJ2_grow_2_22 ?_
    refine gs_isub (pc := 23) dJ2_grow_2_23 ?_
    refine gs_ild2 (pc := 24) dJ2_grow_2_24 ?_
    refine gs_iconst (pc := 25) dJ2_grow_2_25 ?_
    refine gs_ishr (pc := 26) dJ2_grow_2_26 (i_shr1 ⟨by omega, by omega⟩) ?_
    refine gs_S3 (pc := 27) dJ2_grow_2_27 kJ2_73 (by decide) (Nat.le_of_ble_eq_true rfl) (c_newLen ⟨by omega, by omega⟩ ⟨by omega, by omega⟩ ⟨by omega, by omega⟩ (by omega)) (fun v hp1 hq => ?_)
    obtain ⟨rfl, rfl⟩ := hq
    rw [show (xs.length : Int) + max (((xs.length + 1 : Nat) : Int) - (xs.length : Int)) ((xs.length : Int) / 2) = ((gcap xs.length : Nat) : Int) by rw [hg]; omega]
    refine gs_ist3 (pc := 30) dJ2_grow_2_30 rfl ?_
    refine gs_ald0 (pc := 31) dJ2_grow_2_31 ?_
    refine gs_ald0 (pc := 32) dJ2_grow_2_32 ?_
    refine gs_getf (pc := 33) 1 dJ2_grow_2_33 e1 clJ2 in_J2 (by decide) q168 (Or.inl rfl) rfl ?_
    refine gs_ild3 (pc := 36) dJ2_grow_2_36 ?_
    refine gs_S2 (pc := 37) dJ2_grow_2_37 kJ2_66 (by decide) (Nat.le_of_ble_eq_true rfl) (c_copyO2 (a + 2) (by omega) e2 ⟨by omega, by omega⟩ (fun i hi y hy => by rw [e6 i hi] at hy; cases hy; exact e7 _ (by rw [List.getD_eq_getElem?_getD, List.getElem?_eq_getElem hi]; exact List.getElem_mem hi))) (fun v hp1 hq => ?_)
    obtain ⟨rfl, w1, w2, w3, g, w4, w5⟩ := hq
    have h0 := w1.at e1 (fun h => h)
    have hne : nx X hp ≠ a := by have := gl_lt e1; omega
    generalize nx X hp = e' at w4 hne ⊢
    refine gs_dup_x1 (pc := 40) dJ2_grow_2_40 rfl rfl ?_
    refine gs_putf (pc := 41) 1 (alC mc e' xs.length) dJ2_grow_2_41 h0 (by omega) clJ2 in_J2 tyJ2 tyJ2_ok nmJ2 (by decide) q168 (Or.inl rfl) rfl (fok_arr _ _) (Nat.le_of_ble_eq_true rfl) rfl ?_
    refine gs_aret (pc := 44) dJ2_grow_2_44 rfl (Or.inr ⟨_, rfl⟩) ?_
    have h2 := gl_set_self (c := (a + 2, alC mc e' xs.length)) h0 (by omega)
    have hF2 : Fr X (fun l => l = a + 2) hp (hset hp1 a (a + 2, alC mc e' xs.length)) := (Fr.of0 w1).set h0 (by omega) rfl ⟨rfl, rfl⟩
    refine ⟨_, rfl, hF2, w2, w3, mc, e', g, rfl, h2, ?_, fun i hi => ?_⟩
    · rw [gl_set_ne hne]; exact w4
    · rw [w5 i hi]; exact e6 i hi
theorem c_alGrow {a : Nat} {xs : List Nat} (hX : KX X) (hs : isAL X hp a xs xs.length) (hl : xs.length ≤ 50000) : MV X yJ2_grow fJ2_grow 5 [vR (some a)] hp (fun v hp' => Fr X (fun l => l = a + 2) hp hp' ∧ hp'.1 = hp.1 + 1 ∧ hp'.2.1 = hp.2.1 + gcap xs.length ∧ ∃ mc e f, v = vR (some e) ∧ gl X hp' a = some (a + 2, alC mc e xs.length) ∧ gl X hp' e = some (a + 2, .inl (3, gcap xs.length, .inr f)) ∧ ∀ i : Nat, i < xs.length → f (i : Int) = some (xs.getD i 0)) := by
  have hs' := hs
  obtain ⟨mc, e, lbe, f, e1, e2, e3, e4, e5, e6, e7⟩ := hs
  refine MC.of pfJ2_grow rfl (fun h => by cases h) 0 rfl rfl ?_
  refine gs_ald0 (pc := 0) dJ2_grow_0 ?_
  refine gs_ald0 (pc := 1) dJ2_grow_1 ?_
  refine gs_getf (pc := 2) 2 dJ2_grow_2 e1 clJ2 in_J2 (by decide) q169 (Or.inl rfl) rfl ?_
  refine gs_iconst (pc := 5) dJ2_grow_5 ?_
  refine gs_iadd (pc := 6) dJ2_grow_6 ?_
  rw [show (xs.length : Int) + 1 = ((xs.length + 1 : Nat) : Int) by omega]
  refine gs_V1 (pc := 7) dJ2_grow_7 kJ2_69 e1 clJ2 (by decide) (Nat.le_of_ble_eq_true rfl) (c_alGrow2 hX hs' rfl hl) (fun v hp1 hq => ?_)
  obtain ⟨w1, w2, w3, mc', e', f', rfl, w4, w5, w6⟩ := hq
  refine gs_aret (pc := 10) dJ2_grow_10 rfl (Or.inr ⟨_, rfl⟩) ?_
  exact ⟨_, rfl, w1, w2, w3, mc', e', f', rfl, w4, w5, w6⟩
end AL
