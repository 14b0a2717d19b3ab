/-! CONTRACTS: LinkedHashMap's keys. -/
section LKS
variable {X : gCx} {hp : gHp}
theorem pfJ21_getKey : plainFor yJ21_getKey = true := by first | exact plainFor_of_name (by decide) | decide +kernel
theorem gs_ic_same {fi : gFi} {d pc : Nat} {L : List (Option AV)} {st : List AV} {Q : Option AV → gHp → Prop} {x off : Int} {tgt : Nat} (hd : decode fi.2.1 pc = .ok (.if_icmp .eq off, 3)) (ht : (pc : Int) + off = (tgt : Int)) (kt : G X fi d tgt L st hp Q) : G X fi d pc L (vI x :: vI x :: st) hp Q :=
  G.step (fun p e R s m args below meth c H locs cells slots ls QQ hS hR hk kk => lv_icmp_eq hS.1 hS.2.1 hd ht (fun _ => kk ls hk) (fun q => absurd rfl q)) kt
theorem c_lksInit {a m : Nat} (ha : gl X hp a = some (1, .inr (18, dfJ26))) : M0 X yJ26_init fJ26_init 3 [vR (some a), vR (some m), vI 0] hp (fun hp' => hp'.1 = hp.1 ∧ hp'.2.1 = hp.2.1 ∧ gl X hp' a = some (1, .inr (18, [vI 0, vR (some m)])) ∧ ∀ b, b ≠ a → gl X hp' b = gl X hp b) := by
  refine MC.of pfJ26_init rfl (fun _ => rfl) 0 rfl rfl ?_
  refine gs_ald0 (pc := 0) dJ26_init_0 ?_
  refine gs_ald1 (pc := 1) dJ26_init_1 ?_
  refine gs_putF (pc := 2) 1 (.inr (18, [vI 0, vR (some m)])) dJ26_init_2 ha (by decide) clJ26 in_J26 tyJ26 tyJ26_ok nmJ26 (by decide) q2004 (Or.inl rfl) rfl rfl rfl (fok_obj _ _) (Nat.le_of_ble_eq_true rfl) rfl ?_
  have h1 := gl_set_self (c := (1, Sum.inr (18, [vI 0, vR (some m)]))) ha (by decide)
  refine gs_ald0 (pc := 5) dJ26_init_5 ?_
  refine gs_I0v (pc := 6) dJ26_init_6 kJ26_7 (by decide) (Nat.le_of_ble_eq_true rfl) (c_asInit) (fun hp1 hq => ?_)
  obtain ⟨rfl⟩ := hq
  refine gs_ald0 (pc := 9) dJ26_init_9 ?_
  refine gs_ild2 (pc := 10) dJ26_init_10 ?_
  refine gs_putF (pc := 11) 0 (.inr (18, [vI 0, vR (some m)])) dJ26_init_11 h1 (by decide) clJ26 in_J26 tyJ26 tyJ26_ok nmJ26 (by decide) q2003 (Or.inl rfl) rfl rfl rfl fok_0 (Nat.le_of_ble_eq_true rfl) rfl ?_
  refine gs_vret (pc := 14) dJ26_init_14 rfl ?_
  exact ⟨rfl, rfl, rfl, gl_set_self h1 (by decide), fun b hb => by rw [gl_set_ne hb, gl_set_ne hb]⟩
/-- the map's keys, asked for the first time -/
theorem c_sks {kd : Bool} {m n : Nat} {ext : List AV} {xt : Nat → List AV} {es : List Nd} (hm : isHM X hp 16 17 kd m none ext xt n es) : MV X yJ25_sequencedKeySet fJ25_sequencedKeySet 4 [vR (some m)] hp (fun v hp' => v = vR (some (nx X hp)) ∧ Fr X (fun l => l = m + 2) hp hp' ∧ hp'.1 = hp.1 + 1 ∧ hp'.2.1 = hp.2.1 + 2 ∧ gl X hp' (nx X hp) = some (1, .inr (18, [vI 0, vR (some m)])) ∧ isHM X hp' 16 17 kd m (some (nx X hp)) ext xt n es) := by
  have hcell := fun x => hm.cell (nd := x)
  obtain ⟨h1, h2, h3, vs, tb, eset, mc, th, lf, e1, e2⟩ := hm
  refine MC.of pfJ25_sequencedKeySet rfl (fun h => by cases h) 2 rfl rfl ?_
  refine gs_ald0 (pc := 0) dJ25_sequencedKeySet_0 ?_
  refine gs_getf (pc := 1) 0 dJ25_sequencedKeySet_1 e1 clJ25 in_J25 (by decide) q810 (Or.inr q811) rfl ?_
  refine gs_ast1 (pc := 4) dJ25_sequencedKeySet_4 rfl ?_
  refine gs_ald1 (pc := 5) dJ25_sequencedKeySet_5 ?_
  refine gs_ifnonnull (pc := 6) (tgt := 26) dJ25_sequencedKeySet_6 (by decide) (fun _ h => by cases h) (fun _ => ?_)
  refine gs_new (pc := 9) 1 dfJ26 dJ25_sequencedKeySet_9 clJ26 in_J26 tyJ26 tyJ26_ok q1997 q1998 q134 dfoJ26 ?_
  refine gs_dup (pc := 12) dJ25_sequencedKeySet_12 rfl ?_
  refine gs_ald0 (pc := 13) dJ25_sequencedKeySet_13 ?_
  refine gs_iconst (pc := 14) dJ25_sequencedKeySet_14 ?_
  refine gs_I2v (pc := 15) dJ25_sequencedKeySet_15 kJ25_123 (by decide) (Nat.le_of_ble_eq_true rfl) (c_lksInit gl_new_self) (fun hp1 hq => ?_)
  obtain ⟨z1, z2, z3, z4⟩ := hq
  have hlt : ∀ a c, gl X hp a = some c → a ≠ nx X hp ∧ gl X hp1 a = some c := fun a c h => ⟨by have := gl_lt h; omega, by rw [z4 a (by have := gl_lt h; omega), gl_new_of h]⟩
  have hF : Fr X (fun l => l = m + 2) hp hp1 := Fr_upd (Fr.new Fr.refl) (Nat.le_refl _) z1 z2 z4
  have c1 : hp1.1 = hp.1 + 1 := by rw [z1]; rfl
  have c2 : hp1.2.1 = hp.2.1 + 2 := by rw [z2]; rfl
  generalize nx X hp = a at z3 hlt ⊢
  have e1' := (hlt _ _ e1).2
  refine gs_ast2 (pc := 18) dJ25_sequencedKeySet_18 rfl ?_
  refine gs_ald0 (pc := 19) dJ25_sequencedKeySet_19 ?_
  refine gs_ald2 (pc := 20) dJ25_sequencedKeySet_20 ?_
  refine gs_putf (pc := 21) 0 (hmC 16 (some a) vs tb eset es.length mc th lf ext) dJ25_sequencedKeySet_21 e1' (by omega) clJ25 in_J25 tyJ25 tyJ25_ok nmJ25 (by decide) q810 (Or.inr q811) rfl (fok_obj _ _) (Nat.le_of_ble_eq_true rfl) rfl ?_
  refine gs_ald2 (pc := 24) dJ25_sequencedKeySet_24 ?_
  refine gs_aret (pc := 25) dJ25_sequencedKeySet_25 rfl (Or.inl ⟨_, rfl⟩) ?_
  have w1 := gl_set_self (c := (m + 2, hmC 16 (some a) vs tb eset es.length mc th lf ext)) e1' (by omega)
  have w2 : ∀ b, b ≠ m → gl X (hset hp1 m (m + 2, hmC 16 (some a) vs tb eset es.length mc th lf ext)) b = gl X hp1 b := fun b h => gl_set_ne h
  have hF2 : Fr X (fun l => l = m + 2) hp (hset hp1 m (m + 2, hmC 16 (some a) vs tb eset es.length mc th lf ext)) := hF.set e1' (by omega) rfl ⟨rfl, rfl⟩
  have ham : a ≠ m := by intro h; subst h; exact (hlt _ _ e1).1 rfl
  refine ⟨_, rfl, rfl, hF2, c1, c2, by rw [w2 a ham]; exact z3, h1, h2, fun x hx => (h3 x hx).fr hF2 (fun l hl => by omega), vs, tb, eset, mc, th, lf, w1, ?_⟩
  rcases e2 with e2 | ⟨j, ta, t, q1, q2, q3, q4, q4b, q4c, q5, q6⟩
  · exact Or.inl e2
  · refine Or.inr ⟨j, ta, t, q1, q2, q3, q4, q4b, q4c, ?_, fun i hi => (q6 i hi).mono (fun x hx => ?_)⟩
    · rw [w2 ta (by intro h; subst h; rw [e1] at q5; cases q5)]; exact (hlt _ _ q5).2
    · obtain ⟨nxt, hg⟩ := hcell x (mem_rs hx).1
      rw [w2 _ (by intro h; rw [h, e1] at hg; cases hg), hg]; exact (hlt _ _ hg).2
theorem c_keySet {kd : Bool} {m n : Nat} {ext : List AV} {xt : Nat → List AV} {es : List Nd} (hm : isHM X hp 16 17 kd m none ext xt n es) : MV X yJ25_keySet fJ25_keySet 5 [vR (some m)] hp (fun v hp' => v = vR (some (nx X hp)) ∧ Fr X (fun l => l = m + 2) hp hp' ∧ hp'.1 = hp.1 + 1 ∧ hp'.2.1 = hp.2.1 + 2 ∧ gl X hp' (nx X hp) = some (1, .inr (18, [vI 0, vR (some m)])) ∧ isHM X hp' 16 17 kd m (some (nx X hp)) ext xt n es) := by
  have hm' := hm
  obtain ⟨h1, h2, h3, vs, tb, eset, mc, th, lf, e1, e2⟩ := hm
  refine MC.of pfJ25_keySet rfl (fun h => by cases h) 0 rfl rfl ?_
  refine gs_ald0 (pc := 0) dJ25_keySet_0 ?_
  refine gs_V0 (pc := 1) dJ25_keySet_1 kJ25_113 e1 clJ25 (by decide) (Nat.le_of_ble_eq_true rfl) (c_sks hm') (fun v hp1 hq => ?_)
  obtain ⟨rfl, hz⟩ := hq
  refine gs_aret (pc := 4) dJ25_keySet_4 rfl (Or.inl ⟨_, rfl⟩) ?_
  exact ⟨_, rfl, rfl, hz⟩
/-- the iterator over the keys: what it has yet to give -/
def hmMC (X : gCx) (hp : gHp) (m : Nat) (mc : Int) (hd : Option Nat) : Prop := ∃ ks vs tb es sz th lf tl, gl X hp m = some (m + 2, hmC 16 ks vs tb es sz mc th lf [vR hd, vR tl, vI 0, vI 0])
def isIt (X : gCx) (hp : gHp) (i m : Nat) (nxt : Option Nat) : Prop := ∃ cur mc hd, gl X hp i = some (i + 2, .inr (19, [vR nxt, vR cur, vI mc, vI 0, vR (some m)])) ∧ hmMC X hp m mc hd
theorem c_hiInit {a m : Nat} {mc : Int} {hd : Option Nat} (ha : gl X hp a = some (a + 2, .inr (19, dfJ31))) (hm : hmMC X hp m mc hd) : M0 X yJ30_init fJ30_init 1 [vR (some a), vR (some m), vI 0] hp (fun hp' => hp'.1 = hp.1 ∧ hp'.2.1 = hp.2.1 ∧ (∀ b, b ≠ a → gl X hp' b = gl X hp b) ∧ isIt X hp' a m hd) := by
  obtain ⟨ks, vs, tb, es, sz, th, lf, tl, e1⟩ := hm
  have hma : m ≠ a := by intro h; subst h; rw [e1] at ha; cases ha
  refine MC.of pfJ30_init rfl (fun _ => rfl) 0 rfl rfl ?_
  refine gs_ald0 (pc := 0) dJ30_init_0 ?_
  refine gs_ald1 (pc := 1) dJ30_init_1 ?_
  refine gs_putF (pc := 2) 4 (.inr (19, [vR none, vR none, vI 0, vI 0, vR (some m)])) dJ30_init_2 ha (by omega) clJ31 in_J31 tyJ31 tyJ31_ok nmJ31 (by decide) q2089 (Or.inl rfl) rfl rfl rfl (fok_obj _ _) (Nat.le_of_ble_eq_true rfl) rfl ?_
  have h1 := gl_set_self (c := (a + 2, Sum.inr (19, [vR none, vR none, vI 0, vI 0, vR (some m)]))) ha (by omega)
  refine gs_ald0 (pc := 5) dJ30_init_5 ?_
  refine gs_objInit (pc := 6) dJ30_init_6 q2084 q146 q147 (by decide) (Nat.le_of_ble_eq_true rfl) ?_
  refine gs_ald0 (pc := 9) dJ30_init_9 ?_
  refine gs_ild2 (pc := 10) dJ30_init_10 ?_
  refine gs_putf (pc := 11) 3 (.inr (19, [vR none, vR none, vI 0, vI 0, vR (some m)])) dJ30_init_11 h1 (by omega) clJ31 in_J31 tyJ31 tyJ31_ok nmJ31 (by decide) q2088 (Or.inl rfl) rfl fok_0 (Nat.le_of_ble_eq_true rfl) rfl ?_
  have h2 := gl_set_self (c := (a + 2, Sum.inr (19, [vR none, vR none, vI 0, vI 0, vR (some m)]))) h1 (by omega)
  have e2 : gl X (hset (hset hp a (a + 2, Sum.inr (19, [vR none, vR none, vI 0, vI 0, vR (some m)]))) a (a + 2, Sum.inr (19, [vR none, vR none, vI 0, vI 0, vR (some m)]))) m = some (m + 2, hmC 16 ks vs tb es sz mc th lf [vR hd, vR tl, vI 0, vI 0]) := by rw [gl_set_ne hma, gl_set_ne hma]; exact e1
  refine gs_ald0 (pc := 14) dJ30_init_14 ?_
  refine gs_ild2 (pc := 15) dJ30_init_15 ?_
  refine gs_if_eq (pc := 16) (tgt := 26) dJ30_init_16 (by decide) (by omega) (fun _ => ?_) (fun hn => absurd rfl hn)
  refine gs_ald1 (pc := 26) dJ30_init_26 ?_
  refine gs_getf (pc := 27) 8 dJ30_init_27 e2 clJ25 in_J25 (by decide) q1949 (Or.inl rfl) rfl ?_
  refine gs_putf (pc := 30) 0 (.inr (19, [vR hd, vR none, vI 0, vI 0, vR (some m)])) dJ30_init_30 h2 (by omega) clJ31 in_J31 tyJ31 tyJ31_ok nmJ31 (by decide) q2085 (Or.inl rfl) rfl (fok_obj _ _) (Nat.le_of_ble_eq_true rfl) rfl ?_
  have h3 := gl_set_self (c := (a + 2, Sum.inr (19, [vR hd, vR none, vI 0, vI 0, vR (some m)]))) h2 (by omega)
  have e3 : gl X (hset (hset (hset hp a (a + 2, Sum.inr (19, [vR none, vR none, vI 0, vI 0, vR (some m)]))) a (a + 2, Sum.inr (19, [vR none, vR none, vI 0, vI 0, vR (some m)]))) a (a + 2, Sum.inr (19, [vR hd, vR none, vI 0, vI 0, vR (some m)]))) m = some (m + 2, hmC 16 ks vs tb es sz mc th lf [vR hd, vR tl, vI 0, vI 0]) := by rw [gl_set_ne hma]; exact e2
  refine gs_ald0 (pc := 33) dJ30_init_33 ?_
  refine gs_ald1 (pc := 34) dJ30_init_34 ?_
  refine gs_getf (pc := 35) 5 dJ30_init_35 e3 clJ25 in_J25 (by decide) q802 (Or.inr q803) rfl ?_
  refine gs_putf (pc := 38) 2 (.inr (19, [vR hd, vR none, vI mc, vI 0, vR (some m)])) dJ30_init_38 h3 (by omega) clJ31 in_J31 tyJ31 tyJ31_ok nmJ31 (by decide) q2087 (Or.inl rfl) rfl (fok_int _) (Nat.le_of_ble_eq_true rfl) rfl ?_
  have h4 := gl_set_self (c := (a + 2, Sum.inr (19, [vR hd, vR none, vI mc, vI 0, vR (some m)]))) h3 (by omega)
  refine gs_ald0 (pc := 41) dJ30_init_41 ?_
  refine gs_null (pc := 42) dJ30_init_42 ?_
  refine gs_putf (pc := 43) 1 (.inr (19, [vR hd, vR none, vI mc, vI 0, vR (some m)])) dJ30_init_43 h4 (by omega) clJ31 in_J31 tyJ31 tyJ31_ok nmJ31 (by decide) q2086 (Or.inl rfl) rfl (fok_obj _ _) (Nat.le_of_ble_eq_true rfl) rfl ?_
  refine gs_vret (pc := 46) dJ30_init_46 rfl ?_
  have h5 := gl_set_self (c := (a + 2, Sum.inr (19, [vR hd, vR none, vI mc, vI 0, vR (some m)]))) h4 (by omega)
  refine ⟨rfl, rfl, rfl, fun b hb => by rw [gl_set_ne hb, gl_set_ne hb, gl_set_ne hb, gl_set_ne hb, gl_set_ne hb], none, mc, hd, h5, ks, vs, tb, es, sz, th, lf, tl, ?_⟩
  rw [gl_set_ne hma, gl_set_ne hma]; exact e3
theorem c_kiInit {a m : Nat} {mc : Int} {hd : Option Nat} (ha : gl X hp a = some (a + 2, .inr (19, dfJ31))) (hm : hmMC X hp m mc hd) : M0 X yJ31_init fJ31_init 2 [vR (some a), vR (some m), vI 0] hp (fun hp' => hp'.1 = hp.1 ∧ hp'.2.1 = hp.2.1 ∧ (∀ b, b ≠ a → gl X hp' b = gl X hp b) ∧ isIt X hp' a m hd) := by
  refine MC.of pfJ31_init rfl (fun _ => rfl) 0 rfl rfl ?_
  refine gs_ald0 (pc := 0) dJ31_init_0 ?_
  refine gs_ald1 (pc := 1) dJ31_init_1 ?_
  refine gs_ild2 (pc := 2) dJ31_init_2 ?_
  refine gs_I2v (pc := 3) dJ31_init_3 kJ31_1 (by decide) (Nat.le_of_ble_eq_true rfl) (c_hiInit ha hm) (fun hp1 hz => ?_)
  refine gs_vret (pc := 6) dJ31_init_6 rfl ?_
  exact ⟨rfl, hz⟩
theorem c_lksIt {a m : Nat} {mc : Int} {hd : Option Nat} (ha : gl X hp a = some (1, .inr (18, [vI 0, vR (some m)]))) (hm : hmMC X hp m mc hd) : MV X yJ26_iterator fJ26_iterator 3 [vR (some a)] hp (fun v hp' => v = vR (some (nx X hp)) ∧ Fr X (fun _ => False) hp hp' ∧ hp'.1 = hp.1 + 1 ∧ hp'.2.1 = hp.2.1 + 5 ∧ isIt X hp' (nx X hp) m hd) := by
  refine MC.of pfJ26_iterator rfl (fun h => by cases h) 0 rfl rfl ?_
  have ha' : gl X (hnew X hp 5 (nx X hp + 2, .inr (19, dfJ31))) a = _ := gl_new_of ha
  have hm' : hmMC X (hnew X hp 5 (nx X hp + 2, .inr (19, dfJ31))) m mc hd := by
    obtain ⟨ks, vs, tb, es, sz, th, lf, tl, e1⟩ := hm
    exact ⟨ks, vs, tb, es, sz, th, lf, tl, gl_new_of e1⟩
  refine gs_new (pc := 0) (nx X hp + 2) dfJ31 dJ26_iterator_0 clJ31 in_J31 tyJ31 tyJ31_ok q2076 q2077 q139 dfoJ31 ?_
  refine gs_dup (pc := 3) dJ26_iterator_3 rfl ?_
  refine gs_ald0 (pc := 4) dJ26_iterator_4 ?_
  refine gs_getf (pc := 5) 1 dJ26_iterator_5 ha' clJ26 in_J26 (by decide) q2004 (Or.inl rfl) rfl ?_
  refine gs_ald0 (pc := 8) dJ26_iterator_8 ?_
  refine gs_getf (pc := 9) 0 dJ26_iterator_9 ha' clJ26 in_J26 (by decide) q2003 (Or.inl rfl) rfl ?_
  refine gs_I2v (pc := 12) dJ26_iterator_12 kJ26_28 (by decide) (Nat.le_of_ble_eq_true rfl) (c_kiInit gl_new_self hm') (fun hp1 hq => ?_)
  obtain ⟨z1, z2, z3, z4⟩ := hq
  refine gs_aret (pc := 15) dJ26_iterator_15 rfl (Or.inl ⟨_, rfl⟩) ?_
  exact ⟨_, rfl, rfl, Fr_upd (Fr.new Fr.refl) (Nat.le_refl _) z1 z2 z3, by rw [z1]; rfl, by rw [z2]; rfl, z4⟩
theorem c_hasNext {i m : Nat} {nxt : Option Nat} (h : isIt X hp i m nxt) : MV X yJ30_hasNext fJ30_hasNext 1 [vR (some i)] hp (fun v hp' => v = vI (if nxt = none then 0 else 1) ∧ hp = hp') := by
  obtain ⟨cur, mc, hd, e1, e2⟩ := h
  refine MC.of pfJ30_hasNext rfl (fun h => by cases h) 0 rfl rfl ?_
  cases nxt with
  | none =>
    refine gs_ald0 (pc := 0) dJ30_hasNext_0 ?_
    refine gs_getf (pc := 1) 0 dJ30_hasNext_1 e1 clJ31 in_J31 (by decide) q2085 (Or.inl rfl) rfl ?_
    refine gs_ifnull (pc := 4) (tgt := 11) dJ30_hasNext_4 (by decide) (fun _ => ?_) (fun _ h => by cases h)
    refine gs_iconst (pc := 11) dJ30_hasNext_11 ?_
    refine gs_zret (pc := 12) .boolean dJ30_hasNext_12 rfl rfl ?_
    exact ⟨_, rfl, rfl, rfl⟩
  | some x =>
    refine gs_ald0 (pc := 0) dJ30_hasNext_0 ?_
    refine gs_getf (pc := 1) 0 dJ30_hasNext_1 e1 clJ31 in_J31 (by decide) q2085 (Or.inl rfl) rfl ?_
    refine gs_ifnull (pc := 4) (tgt := 11) dJ30_hasNext_4 (by decide) (fun h => by cases h) (fun _ _ => ?_)
    refine gs_iconst (pc := 7) dJ30_hasNext_7 ?_
    refine gs_goto (pc := 8) (tgt := 12) dJ30_hasNext_8 (by decide) ?_
    refine gs_zret (pc := 12) .boolean dJ30_hasNext_12 rfl rfl ?_
    exact ⟨_, rfl, rfl, rfl⟩
theorem c_nextNode {i m p q w lb : Nat} {k : Int} {nx' b aft : Option Nat} (h : isIt X hp i m (some p)) (hc : gl X hp p = some (lb, ndC 17 k q w nx' [vR b, vR aft])) (hl : lb = m + 2) : MV X yJ30_nextNode fJ30_nextNode 1 [vR (some i)] hp (fun v hp' => v = vR (some p) ∧ hp'.1 = hp.1 ∧ hp'.2.1 = hp.2.1 ∧ Fr X (fun l => l = i + 2) hp hp' ∧ (∀ b, b ≠ i → gl X hp' b = gl X hp b) ∧ isIt X hp' i m aft) := by
  obtain ⟨cur, mc, hd, e1, ks, vs, tb, es, sz, th, lf, tl, e2⟩ := h
  have him : m ≠ i := by intro h; subst h; rw [e1] at e2; cases e2
  have hip : p ≠ i := by intro h; subst h; rw [e1] at hc; cases hc
  refine MC.of pfJ30_nextNode rfl (fun h => by cases h) 1 rfl rfl ?_
  refine gs_ald0 (pc := 0) dJ30_nextNode_0 ?_
  refine gs_getf (pc := 1) 0 dJ30_nextNode_1 e1 clJ31 in_J31 (by decide) q2085 (Or.inl rfl) rfl ?_
  refine gs_ast1 (pc := 4) dJ30_nextNode_4 rfl ?_
  refine gs_ald0 (pc := 5) dJ30_nextNode_5 ?_
  refine gs_getf (pc := 6) 4 dJ30_nextNode_6 e1 clJ31 in_J31 (by decide) q2089 (Or.inl rfl) rfl ?_
  refine gs_getf (pc := 9) 5 dJ30_nextNode_9 e2 clJ25 in_J25 (by decide) q802 (Or.inr q803) rfl ?_
  refine gs_ald0 (pc := 12) dJ30_nextNode_12 ?_
  refine gs_getf (pc := 13) 2 dJ30_nextNode_13 e1 clJ31 in_J31 (by decide) q2087 (Or.inl rfl) rfl ?_
  refine gs_ic_same (pc := 16) (tgt := 27) dJ30_nextNode_16 (by decide) ?_
  refine gs_ald1 (pc := 27) dJ30_nextNode_27 ?_
  refine gs_ifnonnull (pc := 28) (tgt := 39) dJ30_nextNode_28 (by decide) (fun _ _ => ?_) (fun h => by cases h)
  refine gs_ald0 (pc := 39) dJ30_nextNode_39 ?_
  refine gs_ald1 (pc := 40) dJ30_nextNode_40 ?_
  refine gs_putf (pc := 41) 1 (.inr (19, [vR (some p), vR (some p), vI mc, vI 0, vR (some m)])) dJ30_nextNode_41 e1 (by omega) clJ31 in_J31 tyJ31 tyJ31_ok nmJ31 (by decide) q2086 (Or.inl rfl) rfl (fok_obj _ _) (Nat.le_of_ble_eq_true rfl) rfl ?_
  have h1 := gl_set_self (c := (i + 2, Sum.inr (19, [vR (some p), vR (some p), vI mc, vI 0, vR (some m)]))) e1 (by omega)
  have h2 : gl X (hset hp i (i + 2, Sum.inr (19, [vR (some p), vR (some p), vI mc, vI 0, vR (some m)]))) p = some (lb, ndC 17 k q w nx' [vR b, vR aft]) := by rw [gl_set_ne hip]; exact hc
  have hF : Fr X (fun l => l = i + 2) hp (hset hp i (i + 2, Sum.inr (19, [vR (some p), vR (some p), vI mc, vI 0, vR (some m)]))) := Fr.refl.set e1 (by omega) rfl ⟨rfl, rfl⟩
  refine gs_ald0 (pc := 44) dJ30_nextNode_44 ?_
  refine gs_ald0 (pc := 45) dJ30_nextNode_45 ?_
  refine gs_getf (pc := 46) 3 dJ30_nextNode_46 h1 clJ31 in_J31 (by decide) q2088 (Or.inl rfl) rfl ?_
  refine gs_if_eq (pc := 49) (tgt := 59) dJ30_nextNode_49 (by decide) (by omega) (fun _ => ?_) (fun hn => absurd rfl hn)
  refine gs_ald1 (pc := 59) dJ30_nextNode_59 ?_
  refine gs_getf (pc := 60) 5 dJ30_nextNode_60 h2 clJ22 in_J22 (by decide) q1263 (Or.inl rfl) rfl ?_
  refine gs_putf (pc := 63) 0 (.inr (19, [vR aft, vR (some p), vI mc, vI 0, vR (some m)])) dJ30_nextNode_63 h1 (by omega) clJ31 in_J31 tyJ31 tyJ31_ok nmJ31 (by decide) q2085 (Or.inl rfl) rfl (fok_obj _ _) (Nat.le_of_ble_eq_true rfl) rfl ?_
  refine gs_ald1 (pc := 66) dJ30_nextNode_66 ?_
  refine gs_aret (pc := 67) dJ30_nextNode_67 rfl (Or.inl ⟨_, rfl⟩) ?_
  have h3 := gl_set_self (c := (i + 2, Sum.inr (19, [vR aft, vR (some p), vI mc, vI 0, vR (some m)]))) h1 (by omega)
  refine ⟨_, rfl, rfl, rfl, rfl, hF.set h1 (by omega) rfl ⟨rfl, rfl⟩, fun b hb => by rw [gl_set_ne hb, gl_set_ne hb], _, mc, hd, h3, ks, vs, tb, es, sz, th, lf, tl, ?_⟩
  rw [gl_set_ne him, gl_set_ne him]; exact e2
theorem c_getKey {p q w lb : Nat} {k : Int} {nx' : Option Nat} {r : List AV} (hc : gl X hp p = some (lb, ndC 17 k q w nx' r)) : MV X yJ21_getKey fJ21_getKey 1 [vR (some p)] hp (fun v hp' => v = vR (some q) ∧ hp = hp') := by
  refine MC.of pfJ21_getKey rfl (fun h => by cases h) 0 rfl rfl ?_
  refine gs_ald0 (pc := 0) dJ21_getKey_0 ?_
  refine gs_getf (pc := 1) 1 dJ21_getKey_1 hc clJ22 in_J22 (by decide) q1270 (Or.inl rfl) rfl ?_
  refine gs_aret (pc := 4) dJ21_getKey_4 rfl (Or.inl ⟨_, rfl⟩) ?_
  exact ⟨_, rfl, rfl, rfl⟩
theorem c_next {i m p q w lb : Nat} {k : Int} {nx' b aft : Option Nat} (h : isIt X hp i m (some p)) (hc : gl X hp p = some (lb, ndC 17 k q w nx' [vR b, vR aft])) (hl : lb = m + 2) : MV X yJ31_next fJ31_next 2 [vR (some i)] hp (fun v hp' => v = vR (some q) ∧ hp'.1 = hp.1 ∧ hp'.2.1 = hp.2.1 ∧ Fr X (fun l => l = i + 2) hp hp' ∧ (∀ b, b ≠ i → gl X hp' b = gl X hp b) ∧ isIt X hp' i m aft) := by
  have h' := h
  obtain ⟨cur, mc, hd, e1, ks, vs, tb, es, sz, th, lf, tl, e2⟩ := h
  have hip : p ≠ i := by intro h; subst h; rw [e1] at hc; cases hc
  refine MC.of pfJ31_next rfl (fun h => by cases h) 0 rfl rfl ?_
  refine gs_ald0 (pc := 0) dJ31_next_0 ?_
  refine gs_U0 (pc := 1) dJ31_next_1 kJ31_7_J31 e1 clJ31 (by decide) (Nat.le_of_ble_eq_true rfl) (c_nextNode h' hc hl) (fun v hp1 hq => ?_)
  obtain ⟨rfl, z1, z2, z3, z4, z5⟩ := hq
  have hc' := hc
  rw [← z4 p hip] at hc'
  refine gs_U0 (pc := 4) dJ31_next_4 kJ31_13_J22 hc' clJ22 (by decide) (Nat.le_of_ble_eq_true rfl) (c_getKey hc') (fun v hp2 hq => ?_)
  obtain ⟨rfl, rfl⟩ := hq
  refine gs_aret (pc := 7) dJ31_next_7 rfl (Or.inl ⟨_, rfl⟩) ?_
  exact ⟨_, rfl, rfl, z1, z2, z3, z4, z5⟩
end LKS
