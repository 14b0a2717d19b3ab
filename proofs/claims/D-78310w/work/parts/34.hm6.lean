/-! CONTRACTS: HashMap, part 6: nodes, treeifyBin, the hooks. -/
section HM6
variable {X : gCx} {hp : gHp}
theorem Fr_upd {S : Nat → Prop} {hp0 hp1 : gHp} {a : Nat} (h : Fr X S hp0 hp) (ha : nx X hp0 ≤ a) (h1 : hp1.1 = hp.1) (h2 : hp1.2.1 = hp.2.1) (h3 : ∀ b, b ≠ a → gl X hp1 b = gl X hp b) : Fr X S hp0 hp1 := by
  refine ⟨by rw [h1]; exact h.1, by rw [h2]; exact h.2.1, fun b e hb => ?_⟩
  have hne : b ≠ a := by have := gl_lt hb; omega
  rw [h3 b hne]
  exact h.2.2 b e hb
theorem c_nodeInit {a lb q w : Nat} {k : Int} {nxt : Option Nat} (hl : lb ≠ 0) (ha : gl X hp a = some (lb, .inr (15, dfJ21))) : M0 X yJ21_init fJ21_init 1 [vR (some a), vI k, vR (some q), vR (some w), vR nxt] hp (fun hp' => hp'.1 = hp.1 ∧ hp'.2.1 = hp.2.1 ∧ gl X hp' a = some (lb, ndC 15 k q w nxt []) ∧ ∀ b, b ≠ a → gl X hp' b = gl X hp b) := by
  refine MC.of pfJ21_init rfl (fun _ => rfl) 0 rfl rfl ?_
  refine gs_ald0 (pc := 0) dJ21_init_0 ?_
  refine gs_objInit (pc := 1) dJ21_init_1 q1259 q146 q147 (by decide) (Nat.le_of_ble_eq_true rfl) ?_
  refine gs_ald0 (pc := 4) dJ21_init_4 ?_
  refine gs_ild1 (pc := 5) dJ21_init_5 ?_
  refine gs_putF (pc := 6) 0 (.inr (15, [vI k, vR none, vR none, vR none] ++ [])) dJ21_init_6 ha hl clJ21 in_J21 tyJ21 tyJ21_ok nmJ21 (by decide) q1264 (Or.inl rfl) rfl rfl rfl (fok_int _) (Nat.le_of_ble_eq_true rfl) rfl ?_
  have h1 := gl_set_self (c := (lb, Sum.inr (15, [vI k, vR none, vR none, vR none] ++ []))) ha hl
  refine gs_ald0 (pc := 9) dJ21_init_9 ?_
  refine gs_ald2 (pc := 10) dJ21_init_10 ?_
  refine gs_putF (pc := 11) 1 (.inr (15, [vI k, vR (some q), vR none, vR none] ++ [])) dJ21_init_11 h1 hl clJ21 in_J21 tyJ21 tyJ21_ok nmJ21 (by decide) q1270 (Or.inl rfl) rfl rfl rfl (fok_obj _ _) (Nat.le_of_ble_eq_true rfl) rfl ?_
  have h2 := gl_set_self (c := (lb, Sum.inr (15, [vI k, vR (some q), vR none, vR none] ++ []))) h1 hl
  refine gs_ald0 (pc := 14) dJ21_init_14 ?_
  refine gs_ald3 (pc := 15) dJ21_init_15 ?_
  refine gs_putf (pc := 16) 2 (.inr (15, [vI k, vR (some q), vR (some w), vR none] ++ [])) dJ21_init_16 h2 hl clJ21 in_J21 tyJ21 tyJ21_ok nmJ21 (by decide) q1277 (Or.inl rfl) rfl (fok_obj _ _) (Nat.le_of_ble_eq_true rfl) rfl ?_
  have h3 := gl_set_self (c := (lb, Sum.inr (15, [vI k, vR (some q), vR (some w), vR none] ++ []))) h2 hl
  refine gs_ald0 (pc := 19) dJ21_init_19 ?_
  refine gs_ald4 (pc := 20) dJ21_init_20 ?_
  refine gs_putf (pc := 22) 3 (.inr (15, [vI k, vR (some q), vR (some w), vR nxt] ++ [])) dJ21_init_22 h3 hl clJ21 in_J21 tyJ21 tyJ21_ok nmJ21 (by decide) q1282 (Or.inl rfl) rfl (fok_obj _ _) (Nat.le_of_ble_eq_true rfl) rfl ?_
  refine gs_vret (pc := 25) dJ21_init_25 rfl ?_
  have h4 := gl_set_self (c := (lb, Sum.inr (15, [vI k, vR (some q), vR (some w), vR nxt] ++ []))) h3 hl
  exact ⟨rfl, rfl, rfl, h4, fun b hb => by rw [gl_set_ne hb, gl_set_ne hb, gl_set_ne hb, gl_set_ne hb]⟩
theorem c_nodeInitL {a lb q w : Nat} {k : Int} {nxt : Option Nat} (hl : lb ≠ 0) (ha : gl X hp a = some (lb, .inr (17, dfJ22))) : M0 X yJ21_init fJ21_init 1 [vR (some a), vI k, vR (some q), vR (some w), vR nxt] hp (fun hp' => hp'.1 = hp.1 ∧ hp'.2.1 = hp.2.1 ∧ gl X hp' a = some (lb, ndC 17 k q w nxt [vR none, vR none]) ∧ ∀ b, b ≠ a → gl X hp' b = gl X hp b) := by
  refine MC.of pfJ21_init rfl (fun _ => rfl) 0 rfl rfl ?_
  refine gs_ald0 (pc := 0) dJ21_init_0 ?_
  refine gs_objInit (pc := 1) dJ21_init_1 q1259 q146 q147 (by decide) (Nat.le_of_ble_eq_true rfl) ?_
  refine gs_ald0 (pc := 4) dJ21_init_4 ?_
  refine gs_ild1 (pc := 5) dJ21_init_5 ?_
  refine gs_putF (pc := 6) 0 (.inr (17, [vI k, vR none, vR none, vR none] ++ [vR none, vR none])) dJ21_init_6 ha hl clJ22 in_J22 tyJ22 tyJ22_ok nmJ22 (by decide) q1264 (Or.inl rfl) rfl rfl rfl (fok_int _) (Nat.le_of_ble_eq_true rfl) rfl ?_
  have h1 := gl_set_self (c := (lb, Sum.inr (17, [vI k, vR none, vR none, vR none] ++ [vR none, vR none]))) ha hl
  refine gs_ald0 (pc := 9) dJ21_init_9 ?_
  refine gs_ald2 (pc := 10) dJ21_init_10 ?_
  refine gs_putF (pc := 11) 1 (.inr (17, [vI k, vR (some q), vR none, vR none] ++ [vR none, vR none])) dJ21_init_11 h1 hl clJ22 in_J22 tyJ22 tyJ22_ok nmJ22 (by decide) q1270 (Or.inl rfl) rfl rfl rfl (fok_obj _ _) (Nat.le_of_ble_eq_true rfl) rfl ?_
  have h2 := gl_set_self (c := (lb, Sum.inr (17, [vI k, vR (some q), vR none, vR none] ++ [vR none, vR none]))) h1 hl
  refine gs_ald0 (pc := 14) dJ21_init_14 ?_
  refine gs_ald3 (pc := 15) dJ21_init_15 ?_
  refine gs_putf (pc := 16) 2 (.inr (17, [vI k, vR (some q), vR (some w), vR none] ++ [vR none, vR none])) dJ21_init_16 h2 hl clJ22 in_J22 tyJ22 tyJ22_ok nmJ22 (by decide) q1277 (Or.inl rfl) rfl (fok_obj _ _) (Nat.le_of_ble_eq_true rfl) rfl ?_
  have h3 := gl_set_self (c := (lb, Sum.inr (17, [vI k, vR (some q), vR (some w), vR none] ++ [vR none, vR none]))) h2 hl
  refine gs_ald0 (pc := 19) dJ21_init_19 ?_
  refine gs_ald4 (pc := 20) dJ21_init_20 ?_
  refine gs_putf (pc := 22) 3 (.inr (17, [vI k, vR (some q), vR (some w), vR nxt] ++ [vR none, vR none])) dJ21_init_22 h3 hl clJ22 in_J22 tyJ22 tyJ22_ok nmJ22 (by decide) q1282 (Or.inl rfl) rfl (fok_obj _ _) (Nat.le_of_ble_eq_true rfl) rfl ?_
  refine gs_vret (pc := 25) dJ21_init_25 rfl ?_
  have h4 := gl_set_self (c := (lb, Sum.inr (17, [vI k, vR (some q), vR (some w), vR nxt] ++ [vR none, vR none]))) h3 hl
  exact ⟨rfl, rfl, rfl, h4, fun b hb => by rw [gl_set_ne hb, gl_set_ne hb, gl_set_ne hb, gl_set_ne hb]⟩
theorem c_newNode {m q w : Nat} {k : Int} : MV X yJ14_newNode fJ14_newNode 3 [vR (some m), vI k, vR (some q), vR (some w), vR none] hp (fun v hp' => v = vR (some (nx X hp)) ∧ Fr X (fun l => l = m + 2) hp hp' ∧ hp'.1 = hp.1 + 1 ∧ hp'.2.1 = hp.2.1 + 4 ∧ gl X hp' (nx X hp) = some (m + 2, ndC 15 k q w none []) ∧ ∀ b, b ≠ nx X hp → gl X hp' b = gl X hp b) := by
  refine MC.of pfJ14_newNode rfl (fun h => by cases h) 0 rfl rfl ?_
  refine gs_new (pc := 0) (m + 2) dfJ21 dJ14_newNode_0 clJ21 in_J21 tyJ21 tyJ21_ok q1234 q1308 q127 dfoJ21 ?_
  refine gs_dup (pc := 3) dJ14_newNode_3 rfl ?_
  refine gs_ild1 (pc := 4) dJ14_newNode_4 ?_
  refine gs_ald2 (pc := 5) dJ14_newNode_5 ?_
  refine gs_ald3 (pc := 6) dJ14_newNode_6 ?_
  refine gs_ald4 (pc := 7) dJ14_newNode_7 ?_
  refine gs_I4v (pc := 9) dJ14_newNode_9 kJ14_375 (by decide) (Nat.le_of_ble_eq_true rfl) (c_nodeInit (by omega) gl_new_self) (fun hp1 hq => ?_)
  obtain ⟨z1, z2, z3, z4⟩ := hq
  refine gs_aret (pc := 12) dJ14_newNode_12 rfl (Or.inl ⟨_, rfl⟩) ?_
  exact ⟨_, rfl, rfl, Fr_upd (Fr.new Fr.refl) (Nat.le_refl _) z1 z2 z4, by rw [z1]; rfl, by rw [z2]; rfl, z3, fun b hb => by rw [z4 b hb, gl_new_ne hb]⟩
theorem c_entInit {a lb q w : Nat} {k : Int} {nxt : Option Nat} (hl : lb ≠ 0) (ha : gl X hp a = some (lb, .inr (17, dfJ22))) : M0 X yJ22_init fJ22_init 2 [vR (some a), vI k, vR (some q), vR (some w), vR nxt] hp (fun hp' => hp'.1 = hp.1 ∧ hp'.2.1 = hp.2.1 ∧ gl X hp' a = some (lb, ndC 17 k q w nxt [vR none, vR none]) ∧ ∀ b, b ≠ a → gl X hp' b = gl X hp b) := by
  refine MC.of pfJ22_init rfl (fun _ => rfl) 0 rfl rfl ?_
  refine gs_ald0 (pc := 0) dJ22_init_0 ?_
  refine gs_ild1 (pc := 1) dJ22_init_1 ?_
  refine gs_ald2 (pc := 2) dJ22_init_2 ?_
  refine gs_ald3 (pc := 3) dJ22_init_3 ?_
  refine gs_ald4 (pc := 4) dJ22_init_4 ?_
  refine gs_I4v (pc := 6) dJ22_init_6 kJ22_1 (by decide) (Nat.le_of_ble_eq_true rfl) (c_nodeInitL hl ha) (fun hp1 hz => ?_)
  refine gs_vret (pc := 9) dJ22_init_9 rfl ?_
  exact ⟨rfl, hz⟩
/-- the map's own cell and the links between the nodes, for a list of addresses -/
def lx14 (as : List Nat) (ext : List AV) (xt : Nat → List AV) : Prop := ext = [] ∧ ∀ a, xt a = []
def lx25 (as : List Nat) (ext : List AV) (xt : Nat → List AV) : Prop := ext = [vR as.head?, vR as.getLast?, vI 0, vI 0] ∧ ∀ (i a : Nat), as[i]? = some a → ∃ b, xt a = [vR b, vR as[i + 1]?]
theorem c_linkE {m p : Nat} {hd tl : Option Nat} {k : Int} {ks vs tb es : Option Nat} {sz mc th : Int} {lf : UInt32} {q w : Nat} {nxt : Option Nat} (e1 : gl X hp m = some (m + 2, hmC 16 ks vs tb es sz mc th lf [vR hd, vR tl, vI 0, vI 0])) (e2 : gl X hp p = some (m + 2, ndC 17 k q w nxt [vR none, vR none])) (e3 : ∀ t, tl = some t → t ≠ p ∧ t ≠ m ∧ ∃ k' q' w' n' b', gl X hp t = some (m + 2, ndC 17 k' q' w' n' [vR b', vR none])) : M0 X yJ25_linkNodeAtEnd fJ25_linkNodeAtEnd 1 [vR (some m), vR (some p)] hp (fun hp' => hp'.1 = hp.1 ∧ hp'.2.1 = hp.2.1 ∧ gl X hp' m = some (m + 2, hmC 16 ks vs tb es sz mc th lf [vR (if tl = none then some p else hd), vR (some p), vI 0, vI 0]) ∧ gl X hp' p = some (m + 2, ndC 17 k q w nxt [vR tl, vR none]) ∧ (∀ t, tl = some t → ∀ k' q' w' n' b', gl X hp t = some (m + 2, ndC 17 k' q' w' n' [vR b', vR none]) → gl X hp' t = some (m + 2, ndC 17 k' q' w' n' [vR b', vR (some p)])) ∧ ∀ b, b ≠ m → b ≠ p → some b ≠ tl → gl X hp' b = gl X hp b) := by
  have hmp : p ≠ m := by intro h; subst h; rw [e1] at e2; cases e2
  refine MC.of pfJ25_linkNodeAtEnd rfl (fun h => by cases h) 1 rfl rfl ?_
  refine gs_ald0 (pc := 0) dJ25_linkNodeAtEnd_0 ?_
  refine gs_getf (pc := 1) 11 dJ25_linkNodeAtEnd_1 e1 clJ25 in_J25 (by decide) q1953 (Or.inl rfl) rfl ?_
  refine gs_iconst (pc := 4) dJ25_linkNodeAtEnd_4 ?_
  refine gs_ic_ne (pc := 5) (tgt := 43) dJ25_linkNodeAtEnd_5 (by decide) (by omega) (fun _ => ?_) (fun hn => absurd hn (by decide))
  refine gs_ald0 (pc := 43) dJ25_linkNodeAtEnd_43 ?_
  refine gs_getf (pc := 44) 9 dJ25_linkNodeAtEnd_44 e1 clJ25 in_J25 (by decide) q1951 (Or.inl rfl) rfl ?_
  refine gs_ast2 (pc := 47) dJ25_linkNodeAtEnd_47 rfl ?_
  refine gs_ald0 (pc := 48) dJ25_linkNodeAtEnd_48 ?_
  refine gs_ald1 (pc := 49) dJ25_linkNodeAtEnd_49 ?_
  refine gs_putf (pc := 50) 9 (hmC 16 ks vs tb es sz mc th lf [vR hd, vR (some p), vI 0, vI 0]) dJ25_linkNodeAtEnd_50 e1 (by omega) clJ25 in_J25 tyJ25 tyJ25_ok nmJ25 (by decide) q1951 (Or.inl rfl) rfl (fok_obj _ _) (Nat.le_of_ble_eq_true rfl) rfl ?_
  have w1 := gl_set_self (c := (m + 2, hmC 16 ks vs tb es sz mc th lf [vR hd, vR (some p), vI 0, vI 0])) e1 (by omega)
  have w2 : ∀ b, b ≠ m → gl X (hset hp m (m + 2, hmC 16 ks vs tb es sz mc th lf [vR hd, vR (some p), vI 0, vI 0])) b = gl X hp b := fun b h => gl_set_ne h
  generalize hh : hset hp m (m + 2, hmC 16 ks vs tb es sz mc th lf [vR hd, vR (some p), vI 0, vI 0]) = hp1 at w1 w2 ⊢
  have hc1 : hp1.1 = hp.1 := by rw [← hh]; rfl
  have hc2 : hp1.2.1 = hp.2.1 := by rw [← hh]; rfl
  cases tl with
  | none =>
    refine gs_ald2 (pc := 53) dJ25_linkNodeAtEnd_53 ?_
    refine gs_ifnonnull (pc := 54) (tgt := 65) dJ25_linkNodeAtEnd_54 (by decide) (fun _ h => by cases h) (fun _ => ?_)
    refine gs_ald0 (pc := 57) dJ25_linkNodeAtEnd_57 ?_
    refine gs_ald1 (pc := 58) dJ25_linkNodeAtEnd_58 ?_
    refine gs_putf (pc := 59) 8 (hmC 16 ks vs tb es sz mc th lf [vR (some p), vR (some p), vI 0, vI 0]) dJ25_linkNodeAtEnd_59 w1 (by omega) clJ25 in_J25 tyJ25 tyJ25_ok nmJ25 (by decide) q1948 (Or.inl rfl) rfl (fok_obj _ _) (Nat.le_of_ble_eq_true rfl) rfl ?_
    refine gs_goto (pc := 62) (tgt := 75) dJ25_linkNodeAtEnd_62 (by decide) ?_
    refine gs_vret (pc := 75) dJ25_linkNodeAtEnd_75 rfl ?_
    exact ⟨rfl, hc1, hc2, gl_set_self w1 (by omega), by rw [gl_set_ne hmp, w2 p hmp]; exact e2, fun t h => (by cases h), fun b h1 h2 h3 => by rw [gl_set_ne h1, w2 b h1]⟩
  | some t =>
    obtain ⟨htp, htm, k', q', w', n', b', e4⟩ := e3 t rfl
    have e2' := e2
    rw [← w2 p hmp] at e2'
    have e4' := e4
    rw [← w2 t htm] at e4'
    refine gs_ald2 (pc := 53) dJ25_linkNodeAtEnd_53 ?_
    refine gs_ifnonnull (pc := 54) (tgt := 65) dJ25_linkNodeAtEnd_54 (by decide) (fun _ _ => ?_) (fun h => by cases h)
    refine gs_ald1 (pc := 65) dJ25_linkNodeAtEnd_65 ?_
    refine gs_ald2 (pc := 66) dJ25_linkNodeAtEnd_66 ?_
    refine gs_putf (pc := 67) 4 (ndC 17 k q w nxt [vR (some t), vR none]) dJ25_linkNodeAtEnd_67 e2' (by omega) clJ22 in_J22 tyJ22 tyJ22_ok nmJ22 (by decide) q1260 (Or.inl rfl) rfl (fok_obj _ _) (Nat.le_of_ble_eq_true rfl) rfl ?_
    have w3 : gl X (hset hp1 p (m + 2, ndC 17 k q w nxt [vR (some t), vR none])) t = some (m + 2, ndC 17 k' q' w' n' [vR b', vR none]) := by rw [gl_set_ne htp]; exact e4'
    refine gs_ald2 (pc := 70) dJ25_linkNodeAtEnd_70 ?_
    refine gs_ald1 (pc := 71) dJ25_linkNodeAtEnd_71 ?_
    refine gs_putf (pc := 72) 5 (ndC 17 k' q' w' n' [vR b', vR (some p)]) dJ25_linkNodeAtEnd_72 w3 (by omega) clJ22 in_J22 tyJ22 tyJ22_ok nmJ22 (by decide) q1262 (Or.inl rfl) rfl (fok_obj _ _) (Nat.le_of_ble_eq_true rfl) rfl ?_
    refine gs_vret (pc := 75) dJ25_linkNodeAtEnd_75 rfl ?_
    refine ⟨rfl, hc1, hc2, ?_, ?_, fun t' h k2 q2 w2' n2 b2 hg => ?_, fun b h1 h2 h3 => ?_⟩
    · rw [gl_set_ne (Ne.symm htm), gl_set_ne (Ne.symm hmp), if_neg (by simp)]; exact w1
    · rw [gl_set_ne (Ne.symm htp), gl_set_self e2' (by omega)]
    · cases h
      rw [e4] at hg
      simp only [ndC, Option.some.injEq, Prod.mk.injEq, Sum.inr.injEq, true_and, List.append_cancel_left_eq, List.cons_append, List.nil_append, List.cons.injEq, Sum.inl.injEq, and_true] at hg
      obtain ⟨rfl, rfl, rfl, rfl, rfl⟩ := hg
      rw [gl_set_self w3 (by omega)]
    · rw [gl_set_ne (fun h => h3 (by rw [h])), gl_set_ne h2, w2 b h1]
theorem seg.mono2 {hp1 : gHp} {lb nc : Nat} {xt xt' : Nat → List AV} : ∀ {L : List Nd} {h stop : Option Nat}, (∀ nd ∈ L, ∀ nxt, gl X hp nd.1 = some (lb, ndC nc nd.2.1 nd.2.2.1 nd.2.2.2 nxt (xt nd.1)) → gl X hp1 nd.1 = some (lb, ndC nc nd.2.1 nd.2.2.1 nd.2.2.2 nxt (xt' nd.1))) → seg X hp lb nc xt h L stop → seg X hp1 lb nc xt' h L stop := by
  intro L
  induction L with
  | nil => intro h stop _ hs; exact hs
  | cons nd L ih =>
    intro h stop hk hs
    obtain ⟨e1, nxt, e2, e3⟩ := hs
    exact ⟨e1, nxt, hk nd List.mem_cons_self nxt e2, ih (fun x hx => hk x (List.mem_cons_of_mem _ hx)) e3⟩
theorem hmR.cell {cm nc m n : Nat} {ks tb : Option Nat} {ext : List AV} {xt : Nat → List AV} {es : List Nd} {sz : Int} (h : hmR X hp cm nc m ks ext xt n es sz tb) {nd : Nd} (hm : nd ∈ es) : ∃ nxt, gl X hp nd.1 = some (m + 2, ndC nc nd.2.1 nd.2.2.1 nd.2.2.2 nxt (xt nd.1)) := by
  obtain ⟨h1, h2, vs, eset, mc, th, lf, e1, e2⟩ := h
  rcases e2 with ⟨-, -, -, rfl⟩ | ⟨j, ta, t, q1, q2, q3, q4, -, q5, q6⟩
  · cases hm
  · have hn := pow14 q1 ⟨q2, q3⟩
    exact (q6 _ (Nat.mod_lt nd.2.1.toNat (by omega))).cell (List.mem_filter.mpr ⟨hm, by simp⟩)
theorem c_nn {m q w n : Nat} {k sz : Int} {ks tb : Option Nat} {ext : List AV} {xt : Nat → List AV} {es : List Nd} (hm : hmR X hp 12 15 m ks ext xt n es sz tb) (hx : lx14 (es.map (fun nd => nd.1)) ext xt) : MV X yJ14_newNode fJ14_newNode 3 [vR (some m), vI k, vR (some q), vR (some w), vR none] hp (fun v hp' => v = vR (some (nx X hp)) ∧ Fr X (fun l => l = m + 2) hp hp' ∧ hp'.1 = hp.1 + 1 ∧ hp'.2.1 ≤ hp.2.1 + 6 ∧ ∃ ext' xt', hmR X hp' 12 15 m ks ext' xt' n es sz tb ∧ lx14 (es.map (fun nd => nd.1) ++ [nx X hp]) ext' xt' ∧ gl X hp' (nx X hp) = some (m + 2, ndC 15 k q w none (xt' (nx X hp)))) := by
  refine MV.mono ?_ c_newNode
  rintro v hp' ⟨h1, h2, h3, h4, h5, h6⟩
  have hcell := fun nd => hm.cell (nd := nd)
  have hlt : ∀ a c, gl X hp a = some c → gl X hp' a = some c := fun a c h => by rw [h6 a (by have := gl_lt h; omega)]; exact h
  obtain ⟨g1, g2, vs, eset, mc, th, lf, e1, e2⟩ := hm
  refine ⟨h1, h2, h3, by omega, ext, xt, ⟨g1, g2, vs, eset, mc, th, lf, hlt _ _ e1, ?_⟩, hx, by rw [hx.2]; exact h5⟩
  rcases e2 with e2 | ⟨j, ta, t, q1, q2, q3, q4, q4c, q5, q6⟩
  · exact Or.inl e2
  · refine Or.inr ⟨j, ta, t, q1, q2, q3, q4, q4c, hlt _ _ q5, fun i hi => (q6 i hi).mono2 fun nd hm nxt hg => hlt _ _ hg⟩
theorem c_nnL {m q w n : Nat} {k sz : Int} {ks tb : Option Nat} {ext : List AV} {xt : Nat → List AV} {es : List Nd} (hm : hmR X hp 16 17 m ks ext xt n es sz tb) (hx : lx25 (es.map (fun nd => nd.1)) ext xt) : MV X yJ25_newNode fJ25_newNode 3 [vR (some m), vI k, vR (some q), vR (some w), vR none] hp (fun v hp' => v = vR (some (nx X hp)) ∧ Fr X (fun l => l = m + 2) hp hp' ∧ hp'.1 = hp.1 + 1 ∧ hp'.2.1 ≤ hp.2.1 + 6 ∧ ∃ ext' xt', hmR X hp' 16 17 m ks ext' xt' n es sz tb ∧ lx25 (es.map (fun nd => nd.1) ++ [nx X hp]) ext' xt' ∧ gl X hp' (nx X hp) = some (m + 2, ndC 17 k q w none (xt' (nx X hp)))) := by
  have hcell := fun nd => hm.cell (nd := nd)
  have hnd := hm.1
  obtain ⟨g1, g2, vs, eset, mc, th, lf, e1, e2⟩ := hm
  obtain ⟨x1, x2⟩ := hx
  refine MC.of pfJ25_newNode rfl (fun h => by cases h) 1 rfl rfl ?_
  refine gs_new (pc := 0) (m + 2) dfJ22 dJ25_newNode_0 clJ22 in_J22 tyJ22 tyJ22_ok q1208 q1252 q128 dfoJ22 ?_
  refine gs_dup (pc := 3) dJ25_newNode_3 rfl ?_
  refine gs_ild1 (pc := 4) dJ25_newNode_4 ?_
  refine gs_ald2 (pc := 5) dJ25_newNode_5 ?_
  refine gs_ald3 (pc := 6) dJ25_newNode_6 ?_
  refine gs_ald4 (pc := 7) dJ25_newNode_7 ?_
  refine gs_I4v (pc := 9) dJ25_newNode_9 kJ25_28 (by decide) (Nat.le_of_ble_eq_true rfl) (c_entInit (by omega) gl_new_self) (fun hp1 hq => ?_)
  obtain ⟨z1, z2, z3, z4⟩ := hq
  refine gs_ast5 (pc := 12) dJ25_newNode_12 rfl ?_
  have hlt : ∀ a c, gl X hp a = some c → a ≠ nx X hp ∧ gl X hp1 a = some c := fun a c h => ⟨by have := gl_lt h; omega, by rw [z4 a (by have := gl_lt h; omega), gl_new_of h]⟩
  have hF : Fr X (fun l => l = m + 2) hp hp1 := Fr_upd (Fr.new Fr.refl) (Nat.le_refl _) z1 z2 z4
  have c1 : hp1.1 = hp.1 + 1 := by rw [z1]; rfl
  have c2 : hp1.2.1 = hp.2.1 + 6 := by rw [z2]; rfl
  generalize nx X hp = a at z3 hlt ⊢
  have e1' := (hlt _ _ e1).2
  rw [x1] at e1'
  have hlast : ∀ t, (es.map (fun nd => nd.1)).getLast? = some t → ∃ nd ∈ es, nd.1 = t ∧ ∃ i, (es.map (fun nd => nd.1))[i]? = some t ∧ i + 1 = es.length := by
    intro t ht
    rw [List.getLast?_eq_getElem?, List.length_map] at ht
    have hm := List.mem_of_getElem? ht
    obtain ⟨nd, h1, h2⟩ := List.mem_map.mp hm
    refine ⟨nd, h1, h2, es.length - 1, ht, ?_⟩
    have := List.length_pos_of_mem h1
    omega
  have hxt : ∀ t, (es.map (fun nd => nd.1)).getLast? = some t → ∃ b, xt t = [vR b, vR none] := by
    intro t ht
    obtain ⟨nd, m1, m2, i, m3, m4⟩ := hlast t ht
    obtain ⟨b, hb⟩ := x2 i t m3
    rw [List.getElem?_eq_none (by rw [List.length_map]; omega)] at hb
    exact ⟨b, hb⟩
  have hE3 : ∀ t, (es.map (fun nd => nd.1)).getLast? = some t → t ≠ a ∧ t ≠ m ∧ ∃ k' q' w' n' b', gl X hp1 t = some (m + 2, ndC 17 k' q' w' n' [vR b', vR none]) := fun t ht => by
    obtain ⟨nd, m1, rfl, i, m3, m4⟩ := hlast t ht
    obtain ⟨nxt, hg⟩ := hcell nd m1
    obtain ⟨b, hb⟩ := hxt _ ht
    rw [hb] at hg
    exact ⟨(hlt _ _ hg).1, (by intro h; rw [h, e1] at hg; cases hg), _, _, _, _, _, (hlt _ _ hg).2⟩
  refine gs_ald0 (pc := 14) dJ25_newNode_14 ?_
  refine gs_ald5 (pc := 15) dJ25_newNode_15 ?_
  refine gs_V1v (pc := 17) dJ25_newNode_17 kJ25_32 e1' clJ25 (by decide) (Nat.le_of_ble_eq_true rfl) (c_linkE e1' z3 hE3) (fun hp2 hq => ?_)
  obtain ⟨y1, y2, y3, y4, y5, y6⟩ := hq
  refine gs_ald5 (pc := 20) dJ25_newNode_20 ?_
  refine gs_aret (pc := 22) dJ25_newNode_22 rfl (Or.inl ⟨_, rfl⟩) ?_
  generalize htl : (es.map (fun nd => nd.1)).getLast? = tl at *
  have hF2 : Fr X (fun l => l = m + 2) hp hp2 := by
    refine ⟨by omega, by omega, fun b c hb => ?_⟩
    obtain ⟨n1, n2⟩ := hlt b c hb
    by_cases hbm : b = m
    · subst hbm
      rw [e1] at hb; cases hb
      exact ⟨fun h => absurd rfl h, _, y3, rfl, rfl⟩
    · by_cases hbt : some b = tl
      · obtain ⟨nd, m1, rfl, i, m3, m4⟩ := hlast b hbt.symm
        obtain ⟨nxt, hg⟩ := hcell nd m1
        obtain ⟨b', hb'⟩ := hxt _ hbt.symm
        have h5 := y5 _ hbt.symm _ _ _ _ _ (by rw [← hb']; exact (hlt _ _ hg).2)
        rw [hb] at hg; cases hg
        exact ⟨fun h => absurd rfl h, _, h5, rfl, rfl⟩
      · rw [y6 b hbm n1 hbt, n2]
        exact ⟨fun _ => rfl, c, rfl, shp.refl c⟩
  refine ⟨_, rfl, rfl, hF2, by omega, by omega, [vR (if tl = none then some a else (es.map (fun nd => nd.1)).head?), vR (some a), vI 0, vI 0], fun b => if b = a then [vR tl, vR none] else if tl = some b then [(xt b).headD (vR none), vR (some a)] else xt b, ⟨g1, g2, vs, eset, mc, th, lf, y3, ?_⟩, ⟨?_, fun i b hb => ?_⟩, by dsimp only; rw [if_pos rfl]; exact y4⟩
  · rcases e2 with e2 | ⟨j, ta, t, q1, q2, q3, q4, q4c, q5, q6⟩
    · exact Or.inl e2
    · have hta : some ta ≠ tl := by
        intro h
        obtain ⟨nd, m1, rfl, i, m3, m4⟩ := hlast ta h.symm
        obtain ⟨nxt, hg⟩ := hcell nd m1
        rw [q5] at hg; cases hg
      refine Or.inr ⟨j, ta, t, q1, q2, q3, q4, q4c, ?_, fun i hi => (q6 i hi).mono2 fun nd hm nxt hg => ?_⟩
      · rw [y6 ta (by intro h; subst h; rw [e1] at q5; cases q5) (hlt _ _ q5).1 hta]
        exact (hlt _ _ q5).2
      · obtain ⟨n1, n2⟩ := hlt _ _ hg
        have hnm : nd.1 ≠ m := by intro h; rw [h, e1] at hg; cases hg
        rw [if_neg n1]
        by_cases h : tl = some nd.1
        · obtain ⟨b', hb'⟩ := hxt _ h
          rw [if_pos h, hb']
          exact y5 _ h _ _ _ _ _ (by rw [← hb']; exact n2)
        · rw [if_neg h, y6 nd.1 hnm n1 (fun q => h q.symm)]
          exact n2
  · rw [← htl, List.getLast?_append, List.getLast?_singleton]
    cases es with
    | nil => rfl
    | cons nd es => rw [if_neg (by simp)]; rfl
  · have hlen : (es.map (fun nd => nd.1)).length = es.length := List.length_map _
    by_cases hi : i < es.length
    · rw [List.getElem?_append_left (by omega)] at hb
      obtain ⟨nd, m1, m2⟩ := List.mem_map.mp (List.mem_of_getElem? hb)
      obtain ⟨nxt, hg⟩ := hcell nd m1
      rw [m2] at hg
      dsimp only
      rw [if_neg (hlt _ _ hg).1]
      by_cases h : tl = some b
      · obtain ⟨nd', m1', m2', i', m3', m4'⟩ := hlast b h
        obtain rfl : i = i' := (List.getElem?_inj (by rw [hlen]; exact hi) hnd).mp (hb.trans m3'.symm)
        obtain ⟨b', hb'⟩ := hxt _ h
        rw [if_pos h, hb', List.getElem?_append_right (by omega), show i + 1 - (es.map (fun nd => nd.1)).length = 0 by omega]
        exact ⟨b', rfl⟩
      · rw [if_neg h]
        obtain ⟨b', hb'⟩ := x2 i b hb
        have hi1 : i + 1 < es.length := by
          rcases Nat.lt_or_ge (i + 1) es.length with h' | h'
          · exact h'
          · refine absurd ?_ h
            rw [← htl, List.getLast?_eq_getElem?, hlen, show es.length - 1 = i by omega]
            exact hb
        rw [List.getElem?_append_left (by omega)]
        exact ⟨b', hb'⟩
    · rw [List.getElem?_append_right (by omega)] at hb
      have hi2 : i - (es.map (fun nd => nd.1)).length = 0 := by
        rcases Nat.eq_zero_or_pos (i - (es.map (fun nd => nd.1)).length) with h | h
        · exact h
        · rw [List.getElem?_eq_none (by rw [List.length_singleton]; omega)] at hb; cases hb
      rw [hi2] at hb
      cases hb
      dsimp only
      rw [if_pos rfl, List.getElem?_eq_none (by rw [List.length_append, List.length_singleton]; omega)]
      exact ⟨tl, rfl⟩
theorem c_anA {m q : Nat} : M0 X yJ14_afterNodeAccess fJ14_afterNodeAccess 1 [vR (some m), vR (some q)] hp (fun hp' => hp = hp') := by
  refine MC.of pfJ14_afterNodeAccess rfl (fun h => by cases h) 0 rfl rfl ?_
  refine gs_vret (pc := 0) dJ14_afterNodeAccess_0 rfl ?_
  exact ⟨rfl, rfl⟩
theorem c_anI {m : Nat} {b : Int} : M0 X yJ14_afterNodeInsertion fJ14_afterNodeInsertion 1 [vR (some m), vI b] hp (fun hp' => hp = hp') := by
  refine MC.of pfJ14_afterNodeInsertion rfl (fun h => by cases h) 0 rfl rfl ?_
  refine gs_vret (pc := 0) dJ14_afterNodeInsertion_0 rfl ?_
  exact ⟨rfl, rfl⟩
theorem c_anAL {m q : Nat} {ks vs tb es hd tl : Option Nat} {sz mc th : Int} {lf : UInt32} (e1 : gl X hp m = some (m + 2, hmC 16 ks vs tb es sz mc th lf [vR hd, vR tl, vI 0, vI 0])) : M0 X yJ25_afterNodeAccess fJ25_afterNodeAccess 1 [vR (some m), vR (some q)] hp (fun hp' => hp = hp') := by
  refine MC.of pfJ25_afterNodeAccess rfl (fun h => by cases h) 5 rfl rfl ?_
  refine gs_ald0 (pc := 0) dJ25_afterNodeAccess_0 ?_
  refine gs_getf (pc := 1) 11 dJ25_afterNodeAccess_1 e1 clJ25 in_J25 (by decide) q1953 (Or.inl rfl) rfl ?_
  refine gs_iconst (pc := 4) dJ25_afterNodeAccess_4 ?_
  refine gs_ic_eq (pc := 5) (tgt := 22) dJ25_afterNodeAccess_5 (by decide) (by omega) (fun hn => absurd hn (by decide)) (fun _ => ?_)
  refine gs_ald0 (pc := 8) dJ25_afterNodeAccess_8 ?_
  refine gs_getf (pc := 9) 11 dJ25_afterNodeAccess_9 e1 clJ25 in_J25 (by decide) q1953 (Or.inl rfl) rfl ?_
  refine gs_if_ne (pc := 12) (tgt := 141) dJ25_afterNodeAccess_12 (by decide) (by omega) (fun hn => absurd rfl hn) (fun _ => ?_)
  refine gs_ald0 (pc := 15) dJ25_afterNodeAccess_15 ?_
  refine gs_getf (pc := 16) 10 dJ25_afterNodeAccess_16 e1 clJ25 in_J25 (by decide) q1952 (Or.inl rfl) rfl ?_
  refine gs_if_eq (pc := 19) (tgt := 141) dJ25_afterNodeAccess_19 (by decide) (by omega) (fun _ => ?_) (fun hn => absurd rfl hn)
  refine gs_ald0 (pc := 141) dJ25_afterNodeAccess_141 ?_
  refine gs_getf (pc := 142) 11 dJ25_afterNodeAccess_142 e1 clJ25 in_J25 (by decide) q1953 (Or.inl rfl) rfl ?_
  refine gs_iconst (pc := 145) dJ25_afterNodeAccess_145 ?_
  refine gs_ic_ne (pc := 146) (tgt := 265) dJ25_afterNodeAccess_146 (by decide) (by omega) (fun _ => ?_) (fun hn => absurd hn (by decide))
  refine gs_vret (pc := 265) dJ25_afterNodeAccess_265 rfl ?_
  exact ⟨rfl, rfl⟩
theorem c_rmE {m q : Nat} : MV X yJ25_removeEldestEntry fJ25_removeEldestEntry 1 [vR (some m), vR (some q)] hp (fun v hp' => v = vI 0 ∧ hp = hp') := by
  refine MC.of pfJ25_removeEldestEntry rfl (fun h => by cases h) 0 rfl rfl ?_
  refine gs_iconst (pc := 0) dJ25_removeEldestEntry_0 ?_
  refine gs_zret (pc := 1) .boolean dJ25_removeEldestEntry_1 rfl rfl ?_
  exact ⟨_, rfl, rfl, rfl⟩
theorem c_anIL {m : Nat} {b : Int} {ks vs tb es hd tl : Option Nat} {sz mc th : Int} {lf : UInt32} (hb : b = 1) (e1 : gl X hp m = some (m + 2, hmC 16 ks vs tb es sz mc th lf [vR hd, vR tl, vI 0, vI 0])) : M0 X yJ25_afterNodeInsertion fJ25_afterNodeInsertion 2 [vR (some m), vI b] hp (fun hp' => hp = hp') := by
  subst hb
  refine MC.of pfJ25_afterNodeInsertion rfl (fun h => by cases h) 2 rfl rfl ?_
  cases hd with
  | none =>
    refine gs_ild1 (pc := 0) dJ25_afterNodeInsertion_0 ?_
    refine gs_if_eq (pc := 1) (tgt := 39) dJ25_afterNodeInsertion_1 (by decide) (by omega) (fun hn => absurd hn (by decide)) (fun _ => ?_)
    refine gs_ald0 (pc := 4) dJ25_afterNodeInsertion_4 ?_
    refine gs_getf (pc := 5) 8 dJ25_afterNodeInsertion_5 e1 clJ25 in_J25 (by decide) q1948 (Or.inl rfl) rfl ?_
    refine gs_dup (pc := 8) dJ25_afterNodeInsertion_8 rfl ?_
    refine gs_ast2 (pc := 9) dJ25_afterNodeInsertion_9 rfl ?_
    refine gs_ifnull (pc := 10) (tgt := 39) dJ25_afterNodeInsertion_10 (by decide) (fun _ => ?_) (fun _ h => by cases h)
    refine gs_vret (pc := 39) dJ25_afterNodeInsertion_39 rfl ?_
    exact ⟨rfl, rfl⟩
  | some h =>
    refine gs_ild1 (pc := 0) dJ25_afterNodeInsertion_0 ?_
    refine gs_if_eq (pc := 1) (tgt := 39) dJ25_afterNodeInsertion_1 (by decide) (by omega) (fun hn => absurd hn (by decide)) (fun _ => ?_)
    refine gs_ald0 (pc := 4) dJ25_afterNodeInsertion_4 ?_
    refine gs_getf (pc := 5) 8 dJ25_afterNodeInsertion_5 e1 clJ25 in_J25 (by decide) q1948 (Or.inl rfl) rfl ?_
    refine gs_dup (pc := 8) dJ25_afterNodeInsertion_8 rfl ?_
    refine gs_ast2 (pc := 9) dJ25_afterNodeInsertion_9 rfl ?_
    refine gs_ifnull (pc := 10) (tgt := 39) dJ25_afterNodeInsertion_10 (by decide) (fun h => by cases h) (fun _ _ => ?_)
    refine gs_ald0 (pc := 13) dJ25_afterNodeInsertion_13 ?_
    refine gs_ald2 (pc := 14) dJ25_afterNodeInsertion_14 ?_
    refine gs_V1 (pc := 15) dJ25_afterNodeInsertion_15 kJ25_53 e1 clJ25 (by decide) (Nat.le_of_ble_eq_true rfl) (c_rmE) (fun v hp1 hq => ?_)
    obtain ⟨rfl, rfl⟩ := hq
    refine gs_if_eq (pc := 18) (tgt := 39) dJ25_afterNodeInsertion_18 (by decide) (by omega) (fun _ => ?_) (fun hn => absurd rfl hn)
    refine gs_vret (pc := 39) dJ25_afterNodeInsertion_39 rfl ?_
    exact ⟨rfl, rfl⟩
theorem c_tree {m n ta : Nat} {k : Int} {ks : Option Nat} {ext : List AV} {xt : Nat → List AV} {es : List Nd} {sz : Int} (hm : hmR X hp 12 15 m ks ext xt n es sz (some ta)) (hn : n < 64) : M0 X yJ14_treeifyBin fJ14_treeifyBin 2 [vR (some m), vR (some ta), vI k] hp (fun hp' => Fr X (fun l => l = m + 2) hp hp' ∧ hp'.1 = hp.1 + 1 ∧ hp'.2.1 = hp.2.1 + nn n ∧ ∃ ta', hmR X hp' 12 15 m ks ext xt (nn n) es sz (some ta')) := by
  have hm' := hm
  obtain ⟨h1, h2, vs, eset, mc, th, lf, e1, e2⟩ := hm
  rcases e2 with ⟨-, h, -⟩ | ⟨j, ta', t, q1, q2, q3, q4, q4c, q5, q6⟩
  · cases h
  cases q4c
  refine MC.of pfJ14_treeifyBin rfl (fun h => by cases h) 6 rfl rfl ?_
  refine gs_ald1 (pc := 0) dJ14_treeifyBin_0 ?_
  refine gs_ifnull (pc := 1) (tgt := 13) dJ14_treeifyBin_1 (by decide) (fun h => by cases h) (fun _ _ => ?_)
  refine gs_ald1 (pc := 4) dJ14_treeifyBin_4 ?_
  refine gs_alen (pc := 5) dJ14_treeifyBin_5 q5 ?_
  refine gs_dup (pc := 6) dJ14_treeifyBin_6 rfl ?_
  refine gs_ist3 (pc := 7) dJ14_treeifyBin_7 rfl ?_
  refine gs_bipush (pc := 8) dJ14_treeifyBin_8 rfl ?_
  refine gs_ic_ge (pc := 10) (tgt := 21) dJ14_treeifyBin_10 (by decide) (by omega) (fun hn => absurd hn (by omega)) (fun _ => ?_)
  refine gs_ald0 (pc := 13) dJ14_treeifyBin_13 ?_
  refine gs_V0 (pc := 14) dJ14_treeifyBin_14 kJ14_117 e1 clJ14 (by decide) (Nat.le_of_ble_eq_true rfl) (c_resize hm' (by omega)) (fun v hp1 hq => ?_)
  obtain ⟨z1, z2, z3, ta', rfl, z4⟩ := hq
  refine gs_pop (pc := 17) dJ14_treeifyBin_17 rfl ?_
  refine gs_goto (pc := 18) (tgt := 109) dJ14_treeifyBin_18 (by decide) ?_
  exact gs_vret (pc := 109) dJ14_treeifyBin_109 rfl ⟨rfl, z1, z2, z3, ta', z4⟩
theorem c_treeL {m n ta : Nat} {k : Int} {ks : Option Nat} {ext : List AV} {xt : Nat → List AV} {es : List Nd} {sz : Int} (hm : hmR X hp 16 17 m ks ext xt n es sz (some ta)) (hn : n < 64) : M0 X yJ14_treeifyBin fJ14_treeifyBin 2 [vR (some m), vR (some ta), vI k] hp (fun hp' => Fr X (fun l => l = m + 2) hp hp' ∧ hp'.1 = hp.1 + 1 ∧ hp'.2.1 = hp.2.1 + nn n ∧ ∃ ta', hmR X hp' 16 17 m ks ext xt (nn n) es sz (some ta')) := by
  have hm' := hm
  obtain ⟨h1, h2, vs, eset, mc, th, lf, e1, e2⟩ := hm
  rcases e2 with ⟨-, h, -⟩ | ⟨j, ta', t, q1, q2, q3, q4, q4c, q5, q6⟩
  · cases h
  cases q4c
  refine MC.of pfJ14_treeifyBin rfl (fun h => by cases h) 6 rfl rfl ?_
  refine gs_ald1 (pc := 0) dJ14_treeifyBin_0 ?_
  refine gs_ifnull (pc := 1) (tgt := 13) dJ14_treeifyBin_1 (by decide) (fun h => by cases h) (fun _ _ => ?_)
  refine gs_ald1 (pc := 4) dJ14_treeifyBin_4 ?_
  refine gs_alen (pc := 5) dJ14_treeifyBin_5 q5 ?_
  refine gs_dup (pc := 6) dJ14_treeifyBin_6 rfl ?_
  refine gs_ist3 (pc := 7) dJ14_treeifyBin_7 rfl ?_
  refine gs_bipush (pc := 8) dJ14_treeifyBin_8 rfl ?_
  refine gs_ic_ge (pc := 10) (tgt := 21) dJ14_treeifyBin_10 (by decide) (by omega) (fun hn => absurd hn (by omega)) (fun _ => ?_)
  refine gs_ald0 (pc := 13) dJ14_treeifyBin_13 ?_
  refine gs_U0 (pc := 14) dJ14_treeifyBin_14 kJ14_117_J25 e1 clJ25 (by decide) (Nat.le_of_ble_eq_true rfl) (c_resizeL hm' (by omega)) (fun v hp1 hq => ?_)
  obtain ⟨z1, z2, z3, ta', rfl, z4⟩ := hq
  refine gs_pop (pc := 17) dJ14_treeifyBin_17 rfl ?_
  refine gs_goto (pc := 18) (tgt := 109) dJ14_treeifyBin_18 (by decide) ?_
  exact gs_vret (pc := 109) dJ14_treeifyBin_109 rfl ⟨rfl, z1, z2, z3, ta', z4⟩
end HM6
