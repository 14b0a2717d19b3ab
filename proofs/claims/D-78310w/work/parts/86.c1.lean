/-! THE COMPONENT: pictures of lines, rules, states; frames. -/
section C1
variable {X : gCx} {hp hp1 hp2 : gHp} {S0 : Nat → Prop}
/-- labels that belong to no Model -/
def nM (X : gCx) (hp : gHp) (l : Nat) : Prop := 2 ≤ l ∧ ∀ a lb fs, gl X hp a = some (lb, .inr (2, fs)) → l ≠ a + 2
theorem nM.back (h : Fr X S0 hp hp1) {l : Nat} (hl : nM X hp1 l) : nM X hp l := by
  refine ⟨hl.1, fun a lb fs ha => ?_⟩
  obtain ⟨⟨l', q | o⟩, e4, e5⟩ := (h.2.2 a _ ha).2
  · exact e5.2.elim
  · obtain ⟨ci, fs'⟩ := o
    have : (2 : Nat) = ci := e5.2
    subst this
    exact hl.2 a l' fs' e4
theorem nM.cell {a lb ci : Nat} {fs : List AV} (ha : gl X hp a = some (lb, .inr (ci, fs))) (hc : ci ≠ 2) : nM X hp (a + 2) := by
  refine ⟨by omega, fun b lb' fs' hb e => ?_⟩
  obtain rfl : a = b := by omega
  rw [ha] at hb
  cases hb
  exact hc rfl
theorem nM.new {l : Nat} (h : nx X hp + 2 ≤ l) : nM X hp l := ⟨by omega, fun a lb fs ha => by have := gl_lt ha; omega⟩
/-- nothing of a Model changes -/
def FrM (X : gCx) (hp hp1 : gHp) : Prop := Fr X (nM X hp) hp hp1
theorem FrM.refl : FrM X hp hp := Fr.refl
theorem FrM.trans (h : FrM X hp hp1) (h' : FrM X hp1 hp2) : FrM X hp hp2 := Fr.trans h (Fr.mono h' (fun _ hl => nM.back h hl))
theorem FrM.of (h : Fr X S0 hp hp1) (hS : ∀ l, S0 l → nM X hp l) : FrM X hp hp1 := h.mono hS
/-- only what is made since hp changes -/
def frs (X : gCx) (hp : gHp) (l : Nat) : Prop := nx X hp + 2 ≤ l
def FrN (X : gCx) (hp hp1 : gHp) : Prop := Fr X (frs X hp) hp hp1
theorem FrN.refl : FrN X hp hp := Fr.refl
theorem FrN.trans (h : FrN X hp hp1) (h' : FrN X hp1 hp2) : FrN X hp hp2 := Fr.trans h (Fr.mono h' (fun l hl => by have := h.nx; unfold frs at *; omega))
theorem FrN.to (h : FrN X hp hp1) {a : Nat} (ha : nx X hp ≤ a) (h' : Fr X (fun l => l = a + 2) hp1 hp2) : FrN X hp hp2 := Fr.trans h (Fr.mono h' (fun l hl => by unfold frs; omega))
theorem FrN.f0 (h : FrN X hp hp1) (h' : Fr X (fun _ => False) hp1 hp2) : FrN X hp hp2 := Fr.trans h (Fr.of0 h')
theorem FrN.M (h : FrN X hp hp1) : FrM X hp hp1 := FrM.of h (fun _ hl => nM.new hl)
theorem frs_2 {l : Nat} (h : frs X hp l) : 2 ≤ l := by unfold frs at h; omega
/-- a line -/
def isLn (X : gCx) (hp : gHp) (lb x : Nat) (l : Ln) : Prop := ∃ c, gl X hp x = some (lb, .inr (3, [vI l.1, vR (some c), vI (b2i l.2.2)])) ∧ isS X hp c l.2.1 ∧ (l.2.1 ≠ [] → isN X hp c)
theorem isLn.fr {lb x : Nat} {l : Ln} (h : Fr X S0 hp hp1) (hS : ∀ l, S0 l → 2 ≤ l) (hl : ¬ S0 lb) (hs : isLn X hp lb x l) : isLn X hp1 lb x l := by
  obtain ⟨c, e1, e2, e3⟩ := hs
  exact ⟨c, h.at e1 hl, e2.fr h hS, fun hn => (e3 hn).fr h hS⟩
theorem isLn.ok {lb x : Nat} {l : Ln} (hs : isLn X hp lb x l) : okO X hp x := by
  obtain ⟨c, e1, -⟩ := hs
  exact ⟨lb, 3, _, RX3, TX3, 3, e1, rfl, q2805⟩
/-- a rule -/
def isRl (X : gCx) (hp : gHp) (q : Nat) (R : Rl) : Prop := ∃ t k, gl X hp q = some (1, .inr (7, [vI R.1, vI R.2.1, vI R.2.2.1, vI R.2.2.2.1, vI R.2.2.2.2.1, vR (some t), vR k])) ∧ isS X hp t R.2.2.2.2.2.1 ∧ (R.1 = 1 → ∃ k', k = some k' ∧ isS X hp k' R.2.2.2.2.2.2)
theorem isRl.fr {q : Nat} {R : Rl} (h : Fr X S0 hp hp1) (hS : ∀ l, S0 l → 2 ≤ l) (hs : isRl X hp q R) : isRl X hp1 q R := by
  obtain ⟨t, k, e1, e2, e3⟩ := hs
  refine ⟨t, k, h.at e1 (fun q => by have := hS _ q; omega), e2.fr h hS, fun h1 => ?_⟩
  obtain ⟨k', g1, g2⟩ := e3 h1
  exact ⟨k', g1, g2.fr h hS⟩
/-- the rules' array -/
def rlsA (X : gCx) (hp : gHp) (f : Int → Option Nat) (S : SS) : Prop := ∀ r : Nat, r < 12 → (S.2.1 r = none ∧ f r = none) ∨ ∃ R q, S.2.1 r = some R ∧ f r = some q ∧ isRl X hp q R
theorem rlsA.fr {f : Int → Option Nat} {S : SS} (h : Fr X S0 hp hp1) (hS : ∀ l, S0 l → 2 ≤ l) (hs : rlsA X hp f S) : rlsA X hp1 f S := by
  intro r hr
  rcases hs r hr with g | ⟨R, q, g1, g2, g3⟩
  · exact Or.inl g
  · exact Or.inr ⟨R, q, g1, g2, g3.fr h hS⟩
/-- a state, with its list, its rules' array -/
def stA (X : gCx) (hp : gHp) (s : Nat) (S : SS) (xs : List Nat) (cap ra : Nat) (f : Int → Option Nat) : Prop := gl X hp s = some (s + 2, .inr (1, [vR (some (s + 1)), vR (some ra), vI S.2.2.1, vI S.2.2.2.1, vI S.2.2.2.2])) ∧ isAL X hp (s + 1) xs cap ∧ cap ≤ 60 ∧ xs.length = S.1.length ∧ xs.Nodup ∧ (∀ i : Nat, i < xs.length → isLn X hp (s + 2) (xs.getD i 0) (lnA S i)) ∧ gl X hp ra = some (s + 2, .inl (5, 12, .inr f)) ∧ rlsA X hp f S
def isSta (X : gCx) (hp : gHp) (s : Nat) (S : SS) : Prop := ∃ xs cap ra f, stA X hp s S xs cap ra f
theorem stA.fr {s cap ra : Nat} {S : SS} {xs : List Nat} {f : Int → Option Nat} (hX : KX X) (h : Fr X S0 hp hp1) (hS : ∀ l, S0 l → 2 ≤ l) (h2 : ¬ S0 (s + 2)) (h3 : ¬ S0 (s + 3)) (hs : stA X hp s S xs cap ra f) : stA X hp1 s S xs cap ra f := by
  obtain ⟨e1, e2, e3, e4, e5, e6, e7, e8⟩ := hs
  exact ⟨h.at e1 h2, e2.fr hX h h3, e3, e4, e5, fun i hi => (e6 i hi).fr h hS h2, h.at e7 h2, e8.fr h hS⟩
theorem isSta.fr {s : Nat} {S : SS} (hX : KX X) (h : Fr X S0 hp hp1) (hS : ∀ l, S0 l → 2 ≤ l) (h2 : ¬ S0 (s + 2)) (h3 : ¬ S0 (s + 3)) (hs : isSta X hp s S) : isSta X hp1 s S := by
  obtain ⟨xs, cap, ra, f, hs⟩ := hs
  exact ⟨xs, cap, ra, f, hs.fr hX h hS h2 h3⟩
theorem stA.lt {s cap ra : Nat} {S : SS} {xs : List Nat} {f : Int → Option Nat} (hs : stA X hp s S xs cap ra f) : s + 1 < nx X hp := by
  obtain ⟨mc, e, lbe, f, e1, -⟩ := hs.2.1
  exact gl_lt e1
theorem isSta.lt {s : Nat} {S : SS} (hs : isSta X hp s S) : s + 1 < nx X hp := by
  obtain ⟨xs, cap, ra, f, hs⟩ := hs
  exact hs.lt
theorem isSta.new {s : Nat} {S : SS} (hX : KX X) (h : FrN X hp hp1) (hs : isSta X hp s S) : isSta X hp1 s S := by
  have := hs.lt
  exact hs.fr hX h (fun _ hl => frs_2 hl) (by unfold frs; omega) (by unfold frs; omega)
theorem isSta.ok {s : Nat} {S : SS} (hs : isSta X hp s S) : okO X hp s := by
  obtain ⟨xs, cap, ra, f, hs⟩ := hs
  exact ⟨s + 2, 1, _, RX1, TX1, 5, hs.1, rfl, q2800⟩
/-! small methods -/
theorem c_lnInit {a lb c : Nat} {z : Int} (hl : lb ≠ 0) (ha : gl X hp a = some (lb, .inr (3, dfX3))) : M0 X yX3_init fX3_init 2 [vR (some a), vI z, vR (some c)] hp (fun hp' => hp'.1 = hp.1 ∧ hp'.2.1 = hp.2.1 ∧ gl X hp' a = some (lb, .inr (3, [vI z, vR (some c), vI 0])) ∧ ∀ b, b ≠ a → gl X hp' b = gl X hp b) := by
  refine MC.of pfX3_init rfl (fun _ => rfl) 0 rfl rfl ?_
  refine gs_ald0 (pc := 0) dX3_init_0 ?_
  refine gs_objInit (pc := 1) dX3_init_1 q272 q146 q147 (by decide) (Nat.le_of_ble_eq_true rfl) ?_
  refine gs_ald0 (pc := 4) dX3_init_4 ?_
  refine gs_ild1 (pc := 5) dX3_init_5 ?_
  refine gs_putf (pc := 6) 0 (.inr (3, [vI z, vR none, vI 0])) dX3_init_6 ha hl clX3 in_X3 tyX3 tyX3_ok nmX3 (by decide) q273 (Or.inl rfl) rfl (fok_int _) (Nat.le_of_ble_eq_true rfl) rfl ?_
  have h1 := gl_set_self (c := (lb, Sum.inr (3, [vI z, vR none, vI 0]))) ha hl
  refine gs_ald0 (pc := 9) dX3_init_9 ?_
  refine gs_ald2 (pc := 10) dX3_init_10 ?_
  refine gs_putf (pc := 11) 1 (.inr (3, [vI z, vR (some c), vI 0])) dX3_init_11 h1 hl clX3 in_X3 tyX3 tyX3_ok nmX3 (by decide) q276 (Or.inl rfl) rfl (fok_obj _ _) (Nat.le_of_ble_eq_true rfl) rfl ?_
  refine gs_vret (pc := 14) dX3_init_14 rfl ?_
  exact ⟨rfl, rfl, rfl, gl_set_self h1 hl, fun b hb => by rw [gl_set_ne hb, gl_set_ne hb]⟩
/-- cells but one stay: a frame -/
theorem FrN_ne {a : Nat} (ha : nx X hp ≤ a) (h1 : hp.1 ≤ hp1.1) (h2 : hp.2.1 ≤ hp1.2.1) (h : ∀ b, b ≠ a → ∀ c, gl X hp b = some c → gl X hp1 b = some c) : Fr X (fun _ => False) hp hp1 := by
  refine ⟨h1, h2, fun b c hb => ?_⟩
  have hlt := gl_lt hb
  have := h b (by omega) c hb
  exact ⟨fun _ => this, c, this, shp.refl c⟩
theorem c_lnCopy {x lb lb2 : Nat} {l : Ln} (h2 : lb2 ≠ 0) (hx : isLn X hp lb x l) : MV X yX3_copy fX3_copy 3 [vR (some x)] hp (fun v hp' => v = vR (some (nx X hp)) ∧ Fr X (fun _ => False) hp hp' ∧ hp'.1 = hp.1 + 1 ∧ hp'.2.1 = hp.2.1 + 3 ∧ isLn X hp' lb2 (nx X hp) l) := by
  obtain ⟨c, e1, e2, e3⟩ := hx
  refine MC.of pfX3_copy rfl (fun h => by cases h) 1 rfl rfl ?_
  refine gs_new (pc := 0) lb2 dfX3 dX3_copy_0 clX3 in_X3 tyX3 tyX3_ok q519 q267 q102 dfoX3 ?_
  have hF : Fr X (fun _ => False) hp (hnew X hp 3 (lb2, Sum.inr (3, dfX3))) := Fr.new Fr.refl
  have g1 : gl X (hnew X hp 3 (lb2, Sum.inr (3, dfX3))) (nx X hp) = some (lb2, .inr (3, dfX3)) := gl_new_self
  have g0 := hF.at e1 (fun h => h)
  have hne := gl_ne e1
  generalize hh : hnew X hp 3 (lb2, Sum.inr (3, dfX3)) = hpa at *
  have hc1 : hpa.1 = hp.1 + 1 := by rw [← hh]; rfl
  have hc2 : hpa.2.1 = hp.2.1 + 3 := by rw [← hh]; rfl
  refine gs_dup (pc := 3) dX3_copy_3 rfl ?_
  refine gs_ald0 (pc := 4) dX3_copy_4 ?_
  refine gs_getf (pc := 5) 0 dX3_copy_5 g0 clX3 in_X3 (by decide) q273 (Or.inl rfl) rfl ?_
  refine gs_ald0 (pc := 8) dX3_copy_8 ?_
  refine gs_getf (pc := 9) 1 dX3_copy_9 g0 clX3 in_X3 (by decide) q276 (Or.inl rfl) rfl ?_
  refine gs_I2v (pc := 12) dX3_copy_12 kX3_17 (by decide) (Nat.le_of_ble_eq_true rfl) (c_lnInit h2 g1) (fun hp1 hq => ?_)
  obtain ⟨i1, i2, i3, i4⟩ := hq
  have g2 : gl X hp1 x = some (lb, .inr (3, [vI l.1, vR (some c), vI (b2i l.2.2)])) := by rw [i4 x hne]; exact g0
  refine gs_ast1 (pc := 15) dX3_copy_15 rfl ?_
  refine gs_ald1 (pc := 16) dX3_copy_16 ?_
  refine gs_ald0 (pc := 17) dX3_copy_17 ?_
  refine gs_getf (pc := 18) 2 dX3_copy_18 g2 clX3 in_X3 (by decide) q279 (Or.inl rfl) rfl ?_
  refine gs_putf (pc := 21) 2 (.inr (3, [vI l.1, vR (some c), vI (b2i l.2.2)])) dX3_copy_21 i3 h2 clX3 in_X3 tyX3 tyX3_ok nmX3 (by decide) q279 (Or.inl rfl) rfl (fok_bool (by cases l.2.2 <;> simp [b2i])) (Nat.le_of_ble_eq_true rfl) rfl ?_
  refine gs_ald1 (pc := 24) dX3_copy_24 ?_
  refine gs_aret (pc := 25) dX3_copy_25 rfl (Or.inl ⟨_, rfl⟩) ?_
  have hG : Fr X (fun _ => False) hp (hset hp1 (nx X hp) (lb2, .inr (3, [vI l.1, vR (some c), vI (b2i l.2.2)]))) := by
    refine FrN_ne (Nat.le_refl _) (by show hp.1 ≤ hp1.1; omega) (by show hp.2.1 ≤ hp1.2.1; omega) (fun b hb e he => ?_)
    rw [gl_set_ne hb, i4 b hb]
    exact hF.at he (fun h => h)
  refine ⟨_, rfl, rfl, hG, by show hp1.1 = _; omega, by show hp1.2.1 = _; omega, c, gl_set_self i3 h2, e2.fr hG (fun _ h => h.elim), fun hn => (e3 hn).fr hG (fun _ h => h.elim)⟩
theorem c_lnBlank {x lb : Nat} {l : Ln} (hx : isLn X hp lb x l) : MV X yX3_isBlank fX3_isBlank 2 [vR (some x)] hp (fun v hp' => v = vI (b2i l.2.1.isEmpty) ∧ hp = hp') := by
  obtain ⟨c, e1, e2, e3⟩ := hx
  have e2' := e2
  obtain ⟨-, -, lbs, b, hh, z, -, es, -⟩ := e2'
  refine MC.of pfX3_isBlank rfl (fun h => by cases h) 0 rfl rfl ?_
  refine gs_ald0 (pc := 0) dX3_isBlank_0 ?_
  refine gs_getf (pc := 1) 1 dX3_isBlank_1 e1 clX3 in_X3 (by decide) q276 (Or.inl rfl) rfl ?_
  refine gs_V0 (pc := 4) dX3_isBlank_4 kX3_24 es clJ5 (by decide) (Nat.le_of_ble_eq_true rfl) (c_sempty e2) (fun v hp1 hq => ?_)
  obtain ⟨rfl, rfl⟩ := hq
  have eb : (if l.2.1.length = 0 then (1 : Int) else 0) = b2i l.2.1.isEmpty := by
    cases l.2.1 with
    | nil => rfl
    | cons c t => rfl
  rw [eb]
  refine gs_zret (pc := 7) .boolean dX3_isBlank_7 rfl (zb _) ?_
  exact ⟨_, rfl, rfl, rfl⟩
theorem c_isIn {v l h : Int} (hv : i32 v) (hl : i32 l) (hh : i32 h) : MV X yX0_isIn fX0_isIn 1 [vI v, vI l, vI h] hp (fun r hp' => r = vI (b2i (inB v l h)) ∧ hp = hp') := by
  refine MC.of pfX0_isIn rfl (fun h => by cases h) 0 rfl rfl ?_
  refine gs_ild0 (pc := 0) dX0_isIn_0 ?_
  refine gs_ild1 (pc := 1) dX0_isIn_1 ?_
  refine gs_ic_lt (pc := 2) (tgt := 14) dX0_isIn_2 (by decide) (by omega) (fun h1 => ?_) (fun h1 => ?_)
  · refine gs_iconst (pc := 14) dX0_isIn_14 ?_
    refine gs_zret (pc := 15) .boolean dX0_isIn_15 rfl rfl ?_
    exact ⟨_, rfl, by rw [inB_f (by omega)]; rfl, rfl⟩
  · refine gs_ild0 (pc := 5) dX0_isIn_5 ?_
    refine gs_ild2 (pc := 6) dX0_isIn_6 ?_
    refine gs_ic_gt (pc := 7) (tgt := 14) dX0_isIn_7 (by decide) (by omega) (fun h2 => ?_) (fun h2 => ?_)
    · refine gs_iconst (pc := 14) dX0_isIn_14 ?_
      refine gs_zret (pc := 15) .boolean dX0_isIn_15 rfl rfl ?_
      exact ⟨_, rfl, by rw [inB_f (by omega)]; rfl, rfl⟩
    · refine gs_iconst (pc := 10) dX0_isIn_10 ?_
      refine gs_goto (pc := 11) (tgt := 15) dX0_isIn_11 (by decide) ?_
      refine gs_zret (pc := 15) .boolean dX0_isIn_15 rfl rfl ?_
      exact ⟨_, rfl, by rw [inB_t (by omega)]; rfl, rfl⟩
theorem c_held {z : Int} (hz : i32 z) : MV X yX0_held fX0_held 2 [vI z] hp (fun r hp' => r = vI (held z) ∧ hp = hp') := by
  refine MC.of pfX0_held rfl (fun h => by cases h) 0 rfl rfl ?_
  refine gs_iconst (pc := 0) dX0_held_0 ?_
  refine gs_bipush (pc := 1) dX0_held_1 rfl ?_
  refine gs_ild0 (pc := 3) dX0_held_3 ?_
  refine gs_S2 (pc := 4) dX0_held_4 kX0_7 (by decide) (Nat.le_of_ble_eq_true rfl) (c_min 40 z hp (by decide) hz) (fun v hp1 hq => ?_)
  obtain ⟨rfl, rfl⟩ := hq
  refine gs_S2 (pc := 7) dX0_held_7 kX0_13 (by decide) (Nat.le_of_ble_eq_true rfl) (c_max 0 (min 40 z) hp (by decide) (by omega)) (fun v hp1 hq => ?_)
  obtain ⟨rfl, rfl⟩ := hq
  refine gs_iret (pc := 10) dX0_held_10 rfl ?_
  exact ⟨_, rfl, rfl, rfl⟩
end C1
