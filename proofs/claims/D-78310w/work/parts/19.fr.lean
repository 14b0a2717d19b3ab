/-! FRAMES: what a method may change. Labels: 0 constants, 1 what is never changed (texts, rules, boxes), a + 2 what belongs to the cell a. -/
/-- the same kind of cell -/
def shp (c c' : gCel) : Prop := c.1 = c'.1 ∧ match c.2, c'.2 with
  | .inl q, .inl q' => q.1 = q'.1 ∧ q.2.1 = q'.2.1
  | .inr o, .inr o' => o.1 = o'.1
  | _, _ => False
theorem shp.refl (c : gCel) : shp c c := by
  obtain ⟨l, q | o⟩ := c
  · exact ⟨rfl, rfl, rfl⟩
  · exact ⟨rfl, rfl⟩
theorem shp.trans {c c' c'' : gCel} (h : shp c c') (h' : shp c' c'') : shp c c'' := by
  obtain ⟨l, q | o⟩ := c <;> obtain ⟨l', q' | o'⟩ := c' <;> obtain ⟨l'', q'' | o''⟩ := c''
  · exact ⟨h.1.trans h'.1, h.2.1.trans h'.2.1, h.2.2.trans h'.2.2⟩
  · exact h'.2.elim
  · exact h.2.elim
  · exact h.2.elim
  · exact h.2.elim
  · exact h.2.elim
  · exact h'.2.elim
  · exact ⟨h.1.trans h'.1, h.2.trans h'.2⟩
/-- only cells with a label in S may change; no cell changes its kind; cells are made -/
def Fr (X : gCx) (S : Nat → Prop) (hp hp' : gHp) : Prop := hp.1 ≤ hp'.1 ∧ hp.2.1 ≤ hp'.2.1 ∧ ∀ a c, gl X hp a = some c → (¬ S c.1 → gl X hp' a = some c) ∧ ∃ c', gl X hp' a = some c' ∧ shp c c'
section FR
variable {X : gCx} {S S' : Nat → Prop} {hp hp1 hp2 hp0 : gHp} {a b lb n t : Nat} {c c0 : gCe}
theorem Fr.refl : Fr X S hp hp := ⟨Nat.le_refl _, Nat.le_refl _, fun _ c h => ⟨fun _ => h, c, h, shp.refl c⟩⟩
theorem Fr.trans (h : Fr X S hp hp1) (h' : Fr X S hp1 hp2) : Fr X S hp hp2 := by
  refine ⟨Nat.le_trans h.1 h'.1, Nat.le_trans h.2.1 h'.2.1, fun a c hc => ⟨fun hs => (h'.2.2 a c ((h.2.2 a c hc).1 hs)).1 hs, ?_⟩⟩
  obtain ⟨c1, e1, e2⟩ := (h.2.2 a c hc).2
  obtain ⟨c2, e3, e4⟩ := (h'.2.2 a c1 e1).2
  exact ⟨c2, e3, e2.trans e4⟩
theorem Fr.mono (h : Fr X S hp hp1) (hs : ∀ l, S l → S' l) : Fr X S' hp hp1 := ⟨h.1, h.2.1, fun a c hc => ⟨fun hn => (h.2.2 a c hc).1 (fun q => hn (hs _ q)), (h.2.2 a c hc).2⟩⟩
theorem Fr.of0 (h : Fr X (fun _ => False) hp hp1) : Fr X S hp hp1 := h.mono (fun _ q => q.elim)
theorem Fr.new {e : gCel} (h : Fr X S hp0 hp) : Fr X S hp0 (hnew X hp n e) := h.trans ⟨Nat.le_succ _, Nat.le_add_right _ _, fun _ c h => ⟨fun _ => gl_new_of h, c, gl_new_of h, shp.refl c⟩⟩
/-- a cell that was there is changed -/
theorem Fr.set (h : Fr X S hp0 hp) (hc : gl X hp a = some (lb, c0)) (hl : lb ≠ 0) (hs : S lb) (hsh : shp (lb, c0) (lb, c)) : Fr X S hp0 (hset hp a (lb, c)) := by
  refine h.trans ⟨Nat.le_refl _, Nat.le_refl _, fun b e hb => ?_⟩
  by_cases q : b = a
  · subst q
    rw [hc] at hb
    cases hb
    exact ⟨fun hn => absurd hs hn, _, gl_set_self hc hl, hsh⟩
  · rw [gl_set_ne q]
    exact ⟨fun _ => hb, e, hb, shp.refl e⟩
/-- a cell that was made since is changed -/
theorem Fr.setN {e : gCel} (h : Fr X S hp0 hp) (ha : nx X hp0 ≤ a) : Fr X S hp0 (hset hp a e) := by
  refine ⟨h.1, h.2.1, fun b e' hb => ?_⟩
  have hne : b ≠ a := by have := gl_lt hb; omega
  rw [gl_set_ne hne]
  exact h.2.2 b e' hb
theorem Fr.at (h : Fr X S hp hp1) (hc : gl X hp a = some (lb, c)) (hs : ¬ S lb) : gl X hp1 a = some (lb, c) := (h.2.2 a _ hc).1 hs
theorem Fr.nx (h : Fr X S hp hp1) : nx X hp ≤ nx X hp1 := Nat.add_le_add_left h.1 _
/-- an object that may lie in a list -/
def okO (X : gCx) (hp : gHp) (y : Nat) : Prop := ∃ lb ci fs C T N, gl X hp y = some (lb, .inr (ci, fs)) ∧ gCl[ci]? = some (C, T, N) ∧ Cond.castable C "java/lang/Object" ∈ lw_tbl
theorem okO.fr (h : Fr X S hp hp1) {y : Nat} (ho : okO X hp y) : okO X hp1 y := by
  obtain ⟨lb, ci, fs, C, T, N, e1, e2, e3⟩ := ho
  obtain ⟨⟨l', q | o⟩, e4, e5⟩ := (h.2.2 y _ e1).2
  · exact e5.2.elim
  · obtain ⟨ci', fs'⟩ := o
    have : ci = ci' := e5.2
    subst this
    exact ⟨l', ci, fs', C, T, N, e4, e2, e3⟩
theorem okO.any {y : Nat} (ho : okO X hp y) : ∃ lbv ci fs C T N, gl X hp y = some (lbv, .inr (ci, fs)) ∧ gCl[ci]? = some (C, T, N) ∧ (C = "java/lang/Object" ∨ Cond.castable C "java/lang/Object" ∈ lw_tbl) := by
  obtain ⟨lb, ci, fs, C, T, N, e1, e2, e3⟩ := ho
  exact ⟨lb, ci, fs, C, T, N, e1, e2, Or.inr e3⟩
end FR
/-! texts: lists of codes 0..127 -/
def sok (s : List Int) : Prop := ∀ c ∈ s, 0 ≤ c ∧ c ≤ 127
def isB (X : gCx) (hp : gHp) (b : Nat) (s : List Int) : Prop := ∃ lb f, lb ≤ 1 ∧ gl X hp b = some (lb, .inl (2, s.length, .inl f)) ∧ ∀ i : Nat, i < s.length → f (i : Int) = s.getD i 0
def isS (X : gCx) (hp : gHp) (a : Nat) (s : List Int) : Prop := sok s ∧ s.length ≤ 1000 ∧ ∃ lb b h z, lb ≤ 1 ∧ gl X hp a = some (lb, .inr (11, [vR (some b), vI 0, vI h, vI z])) ∧ isB X hp b s
theorem isB.fr {X : gCx} {S : Nat → Prop} {hp hp1 : gHp} {b : Nat} {s : List Int} (h : Fr X S hp hp1) (hS : ∀ l, S l → 2 ≤ l) (hb : isB X hp b s) : isB X hp1 b s := by
  obtain ⟨lb, f, e1, e2, e3⟩ := hb
  exact ⟨lb, f, e1, h.at e2 (fun q => by have := hS _ q; omega), e3⟩
theorem isS.fr {X : gCx} {S : Nat → Prop} {hp hp1 : gHp} {a : Nat} {s : List Int} (h : Fr X S hp hp1) (hS : ∀ l, S l → 2 ≤ l) (hs : isS X hp a s) : isS X hp1 a s := by
  obtain ⟨h1, h2, lb, b, x, z, e1, e2, e3⟩ := hs
  exact ⟨h1, h2, lb, b, x, z, e1, h.at e2 (fun q => by have := hS _ q; omega), e3.fr h hS⟩
theorem sok.at {s : List Int} (h : sok s) (i : Nat) : 0 ≤ s.getD i 0 ∧ s.getD i 0 ≤ 127 := by
  by_cases hi : i < s.length
  · rw [List.getD_eq_getElem?_getD, List.getElem?_eq_getElem hi]
    exact h _ (List.getElem_mem hi)
  · rw [List.getD_eq_getElem?_getD, List.getElem?_eq_none (by omega)]
    exact ⟨Int.le_refl _, by decide⟩
