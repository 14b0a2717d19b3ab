/-! CONTRACTS: HashMap, part 9: put, the makers, HashSet, size. -/
section HM9
variable {X : gCx} {hp : gHp}
theorem c_amInit {a : Nat} : M0 X yJ13_init fJ13_init 1 [vR (some a)] hp (fun hp' => hp = hp') := by
  refine MC.of pfJ13_init rfl (fun _ => rfl) 0 rfl rfl ?_
  refine gs_ald0 (pc := 0) dJ13_init_0 ?_
  refine gs_objInit (pc := 1) dJ13_init_1 q795 q146 q147 (by decide) (Nat.le_of_ble_eq_true rfl) ?_
  refine gs_vret (pc := 4) dJ13_init_4 rfl ?_
  exact ⟨rfl, rfl⟩
theorem c_asInit {a : Nat} : M0 X yJ15_init fJ15_init 2 [vR (some a)] hp (fun hp' => hp = hp') := by
  refine MC.of pfJ15_init rfl (fun _ => rfl) 0 rfl rfl ?_
  refine gs_ald0 (pc := 0) dJ15_init_0 ?_
  refine gs_I0v (pc := 1) dJ15_init_1 kJ15_1 (by decide) (Nat.le_of_ble_eq_true rfl) (c_acInit) (fun hp1 hq => ?_)
  obtain ⟨rfl⟩ := hq
  refine gs_vret (pc := 4) dJ15_init_4 rfl ?_
  exact ⟨rfl, rfl⟩
theorem c_put {kd : Bool} {m q w n : Nat} {ks : Option Nat} {ext : List AV} {xt : Nat → List AV} {es : List Nd} {k : Int} (hm : isHM X hp 12 15 kd m ks ext xt n es) (hx : lx14 (es.map (fun nd => nd.1)) ext xt) (hq : isKey X hp kd q k) (hn : n ≤ 8192) (h7 : 64 ≤ n → ∀ nd ∈ es, nd.2.1 < 7 * (n : Int)) : MV X yJ14_put fJ14_put 6 [vR (some m), vR (some q), vR (some w)] hp (fun v hp' => v = vR ((fk es k).map (fun nd => nd.2.2.2)) ∧ Fr X (fun l => l = m + 2) hp hp' ∧ ∃ ext' xt' n' a, hmG hp hp' es.length n n' ∧ isHM X hp' 12 15 kd m ks ext' xt' n' (putE es k q w a) ∧ lx14 ((putE es k q w a).map (fun nd => nd.1)) ext' xt') := by
  have hm' := hm
  obtain ⟨h1, h2, h3, vs, tb, eset, mc, th, lf, e1, e2⟩ := hm
  refine MC.of pfJ14_put rfl (fun h => by cases h) 0 rfl rfl ?_
  refine gs_ald0 (pc := 0) dJ14_put_0 ?_
  refine gs_ald1 (pc := 1) dJ14_put_1 ?_
  refine gs_S1 (pc := 2) dJ14_put_2 kJ14_149 (by decide) (Nat.le_of_ble_eq_true rfl) (c_hash hq) (fun v hp1 hq => ?_)
  obtain ⟨rfl, rfl⟩ := hq
  refine gs_ald1 (pc := 5) dJ14_put_5 ?_
  refine gs_ald2 (pc := 6) dJ14_put_6 ?_
  refine gs_iconst (pc := 7) dJ14_put_7 ?_
  refine gs_iconst (pc := 8) dJ14_put_8 ?_
  refine gs_V5 (pc := 9) dJ14_put_9 kJ14_152 e1 clJ14 (by decide) (Nat.le_of_ble_eq_true rfl) (c_putVal hm' hx hq hn h7) (fun v hp1 hq => ?_)
  obtain ⟨rfl, hq2⟩ := hq
  refine gs_aret (pc := 12) dJ14_put_12 rfl (Or.inl ⟨_, rfl⟩) ?_
  exact ⟨_, rfl, rfl, hq2⟩
theorem c_hmInit {a : Nat} (ha : gl X hp a = some (a + 2, .inr (12, dfJ14))) : M0 X yJ14_init fJ14_init 2 [vR (some a)] hp (fun hp' => hp' = hset hp a (a + 2, hmC 12 none none none none 0 0 0 1061158912 [])) := by
  refine MC.of pfJ14_init rfl (fun _ => rfl) 0 rfl rfl ?_
  refine gs_ald0 (pc := 0) dJ14_init_0 ?_
  refine gs_I0v (pc := 1) dJ14_init_1 kJ14_43 (by decide) (Nat.le_of_ble_eq_true rfl) (c_amInit) (fun hp1 hq => ?_)
  obtain ⟨rfl⟩ := hq
  refine gs_ald0 (pc := 4) dJ14_init_4 ?_
  refine gs_ldcf (pc := 5) (x := (1061158912 : UInt32)) dJ14_init_5 q796 ?_
  refine gs_putF (pc := 7) 7 (hmC 12 none none none none 0 0 0 1061158912 []) dJ14_init_7 ha (by omega) clJ14 in_J14 tyJ14 tyJ14_ok nmJ14 (by decide) q807 (Or.inl rfl) rfl rfl rfl (fok_float _) (Nat.le_of_ble_eq_true rfl) rfl ?_
  refine gs_vret (pc := 10) dJ14_init_10 rfl ?_
  exact ⟨rfl, rfl⟩
theorem hmNew {kd : Bool} {a : Nat} {xt : Nat → List AV} (h : gl X hp a = some (a + 2, hmC 12 none none none none 0 0 0 1061158912 [])) : isHM X hp 12 15 kd a none [] xt 0 [] := ⟨List.Pairwise.nil, List.Pairwise.nil, fun _ h => (by cases h), _, _, _, _, _, _, h, Or.inl ⟨rfl, rfl, rfl, rfl⟩⟩
theorem c_hmSize {kd : Bool} {m n : Nat} {ks : Option Nat} {ext : List AV} {xt : Nat → List AV} {es : List Nd} (hm : isHM X hp 12 15 kd m ks ext xt n es) : MV X yJ14_size fJ14_size 1 [vR (some m)] hp (fun v hp' => v = vI es.length ∧ hp = hp') := by
  obtain ⟨h1, h2, h3, vs, tb, eset, mc, th, lf, e1, e2⟩ := hm
  refine MC.of pfJ14_size rfl (fun h => by cases h) 0 rfl rfl ?_
  refine gs_ald0 (pc := 0) dJ14_size_0 ?_
  refine gs_getf (pc := 1) 4 dJ14_size_1 e1 clJ14 in_J14 (by decide) q800 (Or.inl rfl) rfl ?_
  refine gs_iret (pc := 4) dJ14_size_4 rfl ?_
  exact ⟨_, rfl, rfl, rfl⟩
theorem c_putL {kd : Bool} {m q w n : Nat} {ks : Option Nat} {ext : List AV} {xt : Nat → List AV} {es : List Nd} {k : Int} (hm : isHM X hp 16 17 kd m ks ext xt n es) (hx : lx25 (es.map (fun nd => nd.1)) ext xt) (hq : isKey X hp kd q k) (hn : n ≤ 8192) (h7 : 64 ≤ n → ∀ nd ∈ es, nd.2.1 < 7 * (n : Int)) : MV X yJ14_put fJ14_put 6 [vR (some m), vR (some q), vR (some w)] hp (fun v hp' => v = vR ((fk es k).map (fun nd => nd.2.2.2)) ∧ Fr X (fun l => l = m + 2) hp hp' ∧ ∃ ext' xt' n' a, hmG hp hp' es.length n n' ∧ isHM X hp' 16 17 kd m ks ext' xt' n' (putE es k q w a) ∧ lx25 ((putE es k q w a).map (fun nd => nd.1)) ext' xt') := by
  have hm' := hm
  obtain ⟨h1, h2, h3, vs, tb, eset, mc, th, lf, e1, e2⟩ := hm
  refine MC.of pfJ14_put rfl (fun h => by cases h) 0 rfl rfl ?_
  refine gs_ald0 (pc := 0) dJ14_put_0 ?_
  refine gs_ald1 (pc := 1) dJ14_put_1 ?_
  refine gs_S1 (pc := 2) dJ14_put_2 kJ14_149 (by decide) (Nat.le_of_ble_eq_true rfl) (c_hash hq) (fun v hp1 hq => ?_)
  obtain ⟨rfl, rfl⟩ := hq
  refine gs_ald1 (pc := 5) dJ14_put_5 ?_
  refine gs_ald2 (pc := 6) dJ14_put_6 ?_
  refine gs_iconst (pc := 7) dJ14_put_7 ?_
  refine gs_iconst (pc := 8) dJ14_put_8 ?_
  refine gs_U5 (pc := 9) dJ14_put_9 kJ14_152_J25 e1 clJ25 (by decide) (Nat.le_of_ble_eq_true rfl) (c_putValL hm' hx hq hn h7) (fun v hp1 hq => ?_)
  obtain ⟨rfl, hq2⟩ := hq
  refine gs_aret (pc := 12) dJ14_put_12 rfl (Or.inl ⟨_, rfl⟩) ?_
  exact ⟨_, rfl, rfl, hq2⟩
theorem c_hmInitL {a : Nat} (ha : gl X hp a = some (a + 2, .inr (16, dfJ25))) : M0 X yJ14_init fJ14_init 2 [vR (some a)] hp (fun hp' => hp' = hset hp a (a + 2, hmC 16 none none none none 0 0 0 1061158912 [vR none, vR none, vI 0, vI 0])) := by
  refine MC.of pfJ14_init rfl (fun _ => rfl) 0 rfl rfl ?_
  refine gs_ald0 (pc := 0) dJ14_init_0 ?_
  refine gs_I0v (pc := 1) dJ14_init_1 kJ14_43 (by decide) (Nat.le_of_ble_eq_true rfl) (c_amInit) (fun hp1 hq => ?_)
  obtain ⟨rfl⟩ := hq
  refine gs_ald0 (pc := 4) dJ14_init_4 ?_
  refine gs_ldcf (pc := 5) (x := (1061158912 : UInt32)) dJ14_init_5 q796 ?_
  refine gs_putF (pc := 7) 7 (hmC 16 none none none none 0 0 0 1061158912 [vR none, vR none, vI 0, vI 0]) dJ14_init_7 ha (by omega) clJ25 in_J25 tyJ25 tyJ25_ok nmJ25 (by decide) q807 (Or.inl rfl) rfl rfl rfl (fok_float _) (Nat.le_of_ble_eq_true rfl) rfl ?_
  refine gs_vret (pc := 10) dJ14_init_10 rfl ?_
  exact ⟨rfl, rfl⟩
theorem hmNewL {kd : Bool} {a : Nat} {xt : Nat → List AV} (h : gl X hp a = some (a + 2, hmC 16 none none none none 0 0 0 1061158912 [vR none, vR none, vI 0, vI 0])) : isHM X hp 16 17 kd a none [vR none, vR none, vI 0, vI 0] xt 0 [] := ⟨List.Pairwise.nil, List.Pairwise.nil, fun _ h => (by cases h), _, _, _, _, _, _, h, Or.inl ⟨rfl, rfl, rfl, rfl⟩⟩
theorem c_hmSizeL {kd : Bool} {m n : Nat} {ks : Option Nat} {ext : List AV} {xt : Nat → List AV} {es : List Nd} (hm : isHM X hp 16 17 kd m ks ext xt n es) : MV X yJ14_size fJ14_size 1 [vR (some m)] hp (fun v hp' => v = vI es.length ∧ hp = hp') := by
  obtain ⟨h1, h2, h3, vs, tb, eset, mc, th, lf, e1, e2⟩ := hm
  refine MC.of pfJ14_size rfl (fun h => by cases h) 0 rfl rfl ?_
  refine gs_ald0 (pc := 0) dJ14_size_0 ?_
  refine gs_getf (pc := 1) 4 dJ14_size_1 e1 clJ25 in_J25 (by decide) q800 (Or.inl rfl) rfl ?_
  refine gs_iret (pc := 4) dJ14_size_4 rfl ?_
  exact ⟨_, rfl, rfl, rfl⟩
theorem c_lhInit {a : Nat} (ha : gl X hp a = some (a + 2, .inr (16, dfJ25))) : M0 X yJ25_init fJ25_init 3 [vR (some a)] hp (fun hp' => hp'.1 = hp.1 ∧ hp'.2.1 = hp.2.1 ∧ Fr X (fun l => l = a + 2) hp hp' ∧ isHM X hp' 16 17 false a none [vR none, vR none, vI 0, vI 0] (fun _ => []) 0 []) := by
  refine MC.of pfJ25_init rfl (fun _ => rfl) 0 rfl rfl ?_
  refine gs_ald0 (pc := 0) dJ25_init_0 ?_
  refine gs_I0v (pc := 1) dJ25_init_1 kJ25_87 (by decide) (Nat.le_of_ble_eq_true rfl) (c_hmInitL ha) (fun hp1 hq => ?_)
  obtain ⟨rfl⟩ := hq
  have h1 := gl_set_self (c := (a + 2, hmC 16 none none none none 0 0 0 1061158912 [vR none, vR none, vI 0, vI 0])) ha (by omega)
  refine gs_ald0 (pc := 4) dJ25_init_4 ?_
  refine gs_iconst (pc := 5) dJ25_init_5 ?_
  refine gs_putf (pc := 6) 11 (hmC 16 none none none none 0 0 0 1061158912 [vR none, vR none, vI 0, vI 0]) dJ25_init_6 h1 (by omega) clJ25 in_J25 tyJ25 tyJ25_ok nmJ25 (by decide) q1953 (Or.inl rfl) rfl (fok_int _) (Nat.le_of_ble_eq_true rfl) rfl ?_
  have h2 := gl_set_self (c := (a + 2, hmC 16 none none none none 0 0 0 1061158912 [vR none, vR none, vI 0, vI 0])) h1 (by omega)
  refine gs_ald0 (pc := 9) dJ25_init_9 ?_
  refine gs_iconst (pc := 10) dJ25_init_10 ?_
  refine gs_putF (pc := 11) 10 (hmC 16 none none none none 0 0 0 1061158912 [vR none, vR none, vI 0, vI 0]) dJ25_init_11 h2 (by omega) clJ25 in_J25 tyJ25 tyJ25_ok nmJ25 (by decide) q1952 (Or.inl rfl) rfl rfl rfl fok_0 (Nat.le_of_ble_eq_true rfl) rfl ?_
  refine gs_vret (pc := 14) dJ25_init_14 rfl ?_
  have h3 := gl_set_self (c := (a + 2, hmC 16 none none none none 0 0 0 1061158912 [vR none, vR none, vI 0, vI 0])) h2 (by omega)
  have f1 : Fr X (fun l => l = a + 2) hp _ := Fr.refl.set (c := hmC 16 none none none none 0 0 0 1061158912 [vR none, vR none, vI 0, vI 0]) ha (by omega) rfl ⟨rfl, rfl⟩
  have f2 : Fr X (fun l => l = a + 2) hp _ := f1.set (c := hmC 16 none none none none 0 0 0 1061158912 [vR none, vR none, vI 0, vI 0]) h1 (by omega) rfl ⟨rfl, rfl⟩
  exact ⟨rfl, rfl, rfl, f2.set (c := hmC 16 none none none none 0 0 0 1061158912 [vR none, vR none, vI 0, vI 0]) h2 (by omega) rfl ⟨rfl, rfl⟩, hmNewL h3⟩
/-- a set of numbers -/
def isHS (X : gCx) (hp : gHp) (s n : Nat) (es : List Nd) : Prop := ∃ m, gl X hp s = some (1, .inr (13, [vR (some m)])) ∧ s < m ∧ isHM X hp 12 15 false m none [] (fun _ => []) n es
theorem c_hsInit {s : Nat} (ha : gl X hp s = some (1, .inr (13, dfJ16))) (hl : s + 1 = nx X hp) : M0 X yJ16_init fJ16_init 3 [vR (some s)] hp (fun hp' => hp'.1 = hp.1 + 1 ∧ hp'.2.1 = hp.2.1 + 8 ∧ (∀ b c, b ≠ s → gl X hp b = some c → gl X hp' b = some c) ∧ gl X hp' s = some (1, .inr (13, [vR (some (s + 1))])) ∧ isHM X hp' 12 15 false (s + 1) none [] (fun _ => []) 0 []) := by
  refine MC.of pfJ16_init rfl (fun _ => rfl) 0 rfl rfl ?_
  have h1 : gl X (hnew X hp 8 (s + 1 + 2, .inr (12, dfJ14))) (nx X hp) = some (s + 1 + 2, .inr (12, dfJ14)) := gl_new_self
  have hn : ∀ b c, gl X hp b = some c → gl X (hnew X hp 8 (s + 1 + 2, .inr (12, dfJ14))) b = some c := fun b c h => gl_new_of h
  have hc1 : (hnew X hp 8 (s + 1 + 2, .inr (12, dfJ14))).1 = hp.1 + 1 := rfl
  have hc2 : (hnew X hp 8 (s + 1 + 2, .inr (12, dfJ14))).2.1 = hp.2.1 + 8 := rfl
  refine gs_ald0 (pc := 0) dJ16_init_0 ?_
  refine gs_I0v (pc := 1) dJ16_init_1 kJ16_1 (by decide) (Nat.le_of_ble_eq_true rfl) (c_asInit) (fun hp1 hq => ?_)
  obtain ⟨rfl⟩ := hq
  refine gs_ald0 (pc := 4) dJ16_init_4 ?_
  refine gs_new (pc := 5) (s + 1 + 2) dfJ14 dJ16_init_5 clJ14 in_J14 tyJ14 tyJ14_ok q838 q788 q118 dfoJ14 ?_
  rw [← hl] at h1 ⊢
  generalize hnew X hp 8 (s + 1 + 2, .inr (12, dfJ14)) = hp2 at *
  refine gs_dup (pc := 8) dJ16_init_8 rfl ?_
  refine gs_I0v (pc := 9) dJ16_init_9 kJ16_9 (by decide) (Nat.le_of_ble_eq_true rfl) (c_hmInit h1) (fun hp3 hq => ?_)
  obtain ⟨rfl⟩ := hq
  have h3 := gl_set_self (c := (s + 1 + 2, hmC 12 none none none none 0 0 0 1061158912 [])) h1 (by omega)
  have h4 : gl X (hset hp2 (s + 1) (s + 1 + 2, hmC 12 none none none none 0 0 0 1061158912 [])) s = some (1, .inr (13, dfJ16)) := by rw [gl_set_ne (by omega)]; exact hn _ _ ha
  refine gs_putf (pc := 12) 0 (.inr (13, [vR (some (s + 1))])) dJ16_init_12 h4 (by decide) clJ16 in_J16 tyJ16 tyJ16_ok nmJ16 (by decide) q840 (Or.inl rfl) rfl (fok_obj _ _) (Nat.le_of_ble_eq_true rfl) rfl ?_
  refine gs_vret (pc := 15) dJ16_init_15 rfl ?_
  refine ⟨rfl, hc1, hc2, fun b c hb h => ?_, gl_set_self h4 (by decide), hmNew ?_⟩
  · have := gl_lt h
    rw [gl_set_ne hb, gl_set_ne (by omega)]; exact hn b c h
  · rw [gl_set_ne (by omega)]; exact h3
theorem c_hsAdd {s q n : Nat} {es : List Nd} {k : Int} (hs : isHS X hp s n es) (hq : isKey X hp false q k) (hn : n ≤ 32) : MV X yJ16_add fJ16_add 7 [vR (some s), vR (some q)] hp (fun v hp' => (v = vI 0 ∨ v = vI 1) ∧ Fr X (fun l => s + 2 < l) hp hp' ∧ ∃ n' w a, hmG hp hp' es.length n n' ∧ isHS X hp' s n' (putE es k q w a)) := by
  obtain ⟨m, h1, h2, h3⟩ := hs
  have h3' := h3
  obtain ⟨-, -, -, vs, tb, eset, mc, th, lf, e1, -⟩ := h3
  refine MC.of pfJ16_add rfl (fun h => by cases h) 0 rfl rfl ?_
  refine gs_ald0 (pc := 0) dJ16_add_0 ?_
  refine gs_getf (pc := 1) 0 dJ16_add_1 h1 clJ16 in_J16 (by decide) q840 (Or.inl rfl) rfl ?_
  refine gs_ald1 (pc := 4) dJ16_add_4 ?_
  refine gs_gets (pc := 5) 4 (by decide) dJ16_add_5 q1424 (Or.inl rfl) ?_
  refine gs_V2 (pc := 8) dJ16_add_8 kJ16_68 e1 clJ14 (by decide) (Nat.le_of_ble_eq_true rfl) (c_put h3' ⟨rfl, fun _ => rfl⟩ hq (by omega) (fun h => by omega)) (fun v hp1 hq => ?_)
  obtain ⟨rfl, z1, ext', xt', n', a, z2, z3, z4, z5⟩ := hq
  obtain rfl : ext' = [] := z4
  obtain rfl : xt' = fun _ => [] := funext z5
  have hfin : ∀ v, v = vI 0 ∨ v = vI 1 → (v = vI 0 ∨ v = vI 1) ∧ Fr X (fun l => s + 2 < l) hp hp1 ∧ ∃ n' w a, hmG hp hp1 es.length n n' ∧ isHS X hp1 s n' (putE es k q w a) := fun v hv => ⟨hv, z1.mono (fun l hl => by omega), n', _, a, z2, m, z1.at h1 (by omega), h2, z3⟩
  cases fk es k with
  | none =>
    refine gs_ifnonnull (pc := 11) (tgt := 18) dJ16_add_11 (by decide) (fun _ h => by cases h) (fun _ => ?_)
    refine gs_iconst (pc := 14) dJ16_add_14 ?_
    refine gs_goto (pc := 15) (tgt := 19) dJ16_add_15 (by decide) ?_
    refine gs_zret (pc := 19) .boolean dJ16_add_19 rfl rfl ?_
    exact ⟨_, rfl, hfin _ (Or.inr rfl)⟩
  | some nd =>
    refine gs_ifnonnull (pc := 11) (tgt := 18) dJ16_add_11 (by decide) (fun _ _ => ?_) (fun h => by cases h)
    refine gs_iconst (pc := 18) dJ16_add_18 ?_
    refine gs_zret (pc := 19) .boolean dJ16_add_19 rfl rfl ?_
    exact ⟨_, rfl, hfin _ (Or.inl rfl)⟩
theorem c_hsHas {s q n : Nat} {es : List Nd} {k : Int} (hs : isHS X hp s n es) (hq : isKey X hp false q k) : MV X yJ16_contains fJ16_contains 6 [vR (some s), vR (some q)] hp (fun v hp' => v = vI (if (fk es k).isSome then 1 else 0) ∧ hp = hp') := by
  obtain ⟨m, h1, h2, h3⟩ := hs
  have h3' := h3
  obtain ⟨-, -, -, vs, tb, eset, mc, th, lf, e1, -⟩ := h3
  refine MC.of pfJ16_contains rfl (fun h => by cases h) 0 rfl rfl ?_
  refine gs_ald0 (pc := 0) dJ16_contains_0 ?_
  refine gs_getf (pc := 1) 0 dJ16_contains_1 h1 clJ16 in_J16 (by decide) q840 (Or.inl rfl) rfl ?_
  refine gs_ald1 (pc := 4) dJ16_contains_4 ?_
  refine gs_V1 (pc := 5) dJ16_contains_5 kJ16_60 e1 clJ14 (by decide) (Nat.le_of_ble_eq_true rfl) (c_hmHas h3' hq) (fun v hp1 hq => ?_)
  obtain ⟨rfl, rfl⟩ := hq
  refine gs_zret (pc := 8) .boolean dJ16_contains_8 rfl ?_ ⟨_, rfl, rfl, rfl⟩
  cases (fk es k).isSome <;> rfl
end HM9
