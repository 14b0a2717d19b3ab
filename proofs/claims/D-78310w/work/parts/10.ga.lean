/-! THE G LAYER, part 1: abstract values, abstract heaps, what a frame stands on, and the judgement G. Our own work. -/
abbrev AV : Type := Int ⊕ (Option Nat ⊕ (Int64 ⊕ UInt32))
abbrev vI (z : Int) : AV := Sum.inl z
abbrev vR (r : Option Nat) : AV := Sum.inr (Sum.inl r)
abbrev vL (x : Int64) : AV := Sum.inr (Sum.inr (Sum.inl x))
abbrev vF (x : UInt32) : AV := Sum.inr (Sum.inr (Sum.inr x))
def cv (v : AV) : Value := match v with
  | .inl z => .int (Int32.ofInt z)
  | .inr (.inl r) => va_rf r
  | .inr (.inr (.inl x)) => .long x
  | .inr (.inr (.inr x)) => .float x
def ct (v : AV) : Nat := match v with
  | .inr (.inr (.inl _)) => 2
  | _ => 1
theorem ct_cv (v : AV) : (cv v).category = ct v := by
  rcases v with z | r | x | x
  · rfl
  · cases r <;> rfl
  · rfl
  · rfl
def nolg (o : Option AV) : Bool := match o with
  | some (.inr (.inr (.inl _))) => false
  | _ => true
/-- the locals, by place -/
def lok (ls : Array Slot) (nL : Nat) (L : List (Option AV)) : Prop := ls.size = nL ∧ lv_wf ls ∧ L.length ≤ nL ∧ ∀ (i : Nat) (v : AV), L[i]? = some (some v) → ls[i]? = some (.val (cv v))
def las (L : List (Option AV)) : List (Nat × Value) := (List.range L.length).filterMap (fun i => match L[i]? with
  | some (some v) => some (i, cv v)
  | _ => none)
theorem las_mem {L : List (Option AV)} {i : Nat} {v : AV} (h : L[i]? = some (some v)) : (i, cv v) ∈ las L := by
  have hi : i < L.length := (List.getElem?_eq_some_iff.mp h).1
  refine List.mem_filterMap.mpr ⟨i, List.mem_range.mpr hi, ?_⟩
  rw [h]
theorem las_of {L : List (Option AV)} {q : Nat × Value} (h : q ∈ las L) : ∃ v, L[q.1]? = some (some v) ∧ q.2 = cv v := by
  obtain ⟨i, -, hi⟩ := List.mem_filterMap.mp h
  cases hL : L[i]? with
  | none => rw [hL] at hi; cases hi
  | some o =>
    cases o with
    | none => rw [hL] at hi; cases hi
    | some v =>
      rw [hL] at hi
      cases hi
      exact ⟨v, hL, rfl⟩
theorem lok.has {ls : Array Slot} {nL : Nat} {L : List (Option AV)} (h : lok ls nL L) : lv_has ls nL (las L) := by
  refine ⟨h.1, h.2.1, fun q hq => ?_⟩
  obtain ⟨v, h1, h2⟩ := las_of hq
  rw [h2]
  exact h.2.2.2 _ _ h1
theorem lok.at {ls : Array Slot} {nL : Nat} {L : List (Option AV)} {i : Nat} {v : AV} (h : lok ls nL L) (hi : L[i]? = some (some v)) : ls[i]? = some (.val (cv v)) := h.2.2.2 i v hi
theorem lok.lt {ls : Array Slot} {nL : Nat} {L : List (Option AV)} {i : Nat} (h : lok ls nL L) (hi : i < L.length) : i < nL := Nat.lt_of_lt_of_le hi h.2.2.1
theorem lok.weak {ls : Array Slot} {nL : Nat} {L L' : List (Option AV)} (h : lok ls nL L) (hl : L'.length ≤ L.length) (hw : ∀ (i : Nat) (v : AV), L'[i]? = some (some v) → L[i]? = some (some v)) : lok ls nL L' :=
  ⟨h.1, h.2.1, Nat.le_trans hl h.2.2.1, fun i v hi => h.2.2.2 i v (hw i v hi)⟩
theorem lok.set1 {ls ls' : Array Slot} {nL i : Nat} {L : List (Option AV)} {v : AV} (h : lok ls nL L) (hn : ∀ j, j + 1 = i → nolg (L.getD j none) = true)
    (h' : lv_has ls' nL ((i, cv v) :: (las L).filter (fun q => !(q.1 == i) && !(q.1 + 1 == i && q.2.category == 2)))) : lok ls' nL (L.set i (some v)) := by
  refine ⟨h'.1, h'.2.1, by rw [List.length_set]; exact h.2.2.1, fun j w hj => ?_⟩
  by_cases e : j = i
  · subst e
    have hlt : j < L.length := by
      have := (List.getElem?_eq_some_iff.mp hj).1
      rwa [List.length_set] at this
    rw [List.getElem?_set_self hlt] at hj
    cases hj
    exact h'.2.2 (j, cv v) List.mem_cons_self
  · rw [List.getElem?_set_ne (Ne.symm e)] at hj
    refine h'.2.2 (j, cv w) (List.mem_cons_of_mem _ (List.mem_filter.mpr ⟨las_mem hj, ?_⟩))
    have hc : ¬ (j + 1 = i ∧ (cv w).category = 2) := by
      rintro ⟨e1, e2⟩
      have h3 := hn j e1
      rw [List.getD_eq_getElem?_getD, hj] at h3
      rw [ct_cv] at e2
      rcases w with z | r | x | x
      · cases e2
      · cases e2
      · cases h3
      · cases e2
    simp only [Bool.and_eq_true, Bool.not_eq_true', beq_eq_false_iff_ne, ne_eq, Bool.and_eq_false_iff]
    refine ⟨e, ?_⟩
    by_cases h4 : j + 1 = i
    · right
      intro h5
      exact hc ⟨h4, h5⟩
    · left
      exact h4
theorem lok.set2 {ls ls' : Array Slot} {nL i : Nat} {L : List (Option AV)} {v : AV} (h : lok ls nL L) (hn : ∀ j, j + 1 = i → nolg (L.getD j none) = true)
    (h' : lv_has ls' nL ((i, cv v) :: (las L).filter (fun q => !(q.1 == i) && (!(q.1 == i + 1) && !(q.1 + 1 == i && q.2.category == 2))))) : lok ls' nL ((L.set i (some v)).set (i + 1) none) := by
  refine ⟨h'.1, h'.2.1, by rw [List.length_set, List.length_set]; exact h.2.2.1, fun j w hj => ?_⟩
  have e0 : j ≠ i + 1 := by
    intro e
    subst e
    have hlt : i + 1 < (L.set i (some v)).length := by
      have := (List.getElem?_eq_some_iff.mp hj).1
      rwa [List.length_set] at this
    rw [List.getElem?_set_self hlt] at hj
    cases hj
  rw [List.getElem?_set_ne (Ne.symm e0)] at hj
  by_cases e : j = i
  · subst e
    have hlt : j < L.length := by
      have := (List.getElem?_eq_some_iff.mp hj).1
      rwa [List.length_set] at this
    rw [List.getElem?_set_self hlt] at hj
    cases hj
    exact h'.2.2 (j, cv v) List.mem_cons_self
  · rw [List.getElem?_set_ne (Ne.symm e)] at hj
    refine h'.2.2 (j, cv w) (List.mem_cons_of_mem _ (List.mem_filter.mpr ⟨las_mem hj, ?_⟩))
    have hc : ¬ (j + 1 = i ∧ (cv w).category = 2) := by
      rintro ⟨e1, e2⟩
      have h3 := hn j e1
      rw [List.getD_eq_getElem?_getD, hj] at h3
      rw [ct_cv] at e2
      rcases w with z | r | x | x
      · cases e2
      · cases e2
      · cases h3
      · cases e2
    simp only [Bool.and_eq_true, Bool.not_eq_true', beq_eq_false_iff_ne, ne_eq, Bool.and_eq_false_iff]
    refine ⟨e, e0, ?_⟩
    by_cases h4 : j + 1 = i
    · right
      intro h5
      exact hc ⟨h4, h5⟩
    · left
      exact h4
/-! abstract heaps: a cell is a label (its owner) and an array (kind, length, contents) or an object (class number, fields) -/
abbrev gCe : Type := (Nat × Nat × ((Int → Int) ⊕ (Int → Option Nat))) ⊕ (Nat × List AV)
abbrev gCel : Type := Nat × gCe
/-- next address, slots used, cells -/
abbrev gHp : Type := Nat × Nat × (Nat → Option gCel)
/-- launch, classes' numbers and slots, array classes' numbers, the heap at the law's start, constant cells, constants' addresses, a value -/
abbrev gCx : Type := Launch × va_G × (Nat → ClassId) × Heap × (Nat → Option gCe) × (Nat → Nat) × (Option Nat)
def cxL (X : gCx) : Launch := X.1
def cxD (X : gCx) : va_G := X.2.1
def cxA (X : gCx) : Nat → ClassId := X.2.2.1
def cxH (X : gCx) : Heap := X.2.2.2.1
def cxF (X : gCx) : Nat → Option gCe := X.2.2.2.2.1
def cxK (X : gCx) : Nat → Nat := X.2.2.2.2.2.1
def cxV (X : gCx) : Option Nat := X.2.2.2.2.2.2
def cxz (X : gCx) : Nat := (cxH X).size
/-- the next address -/
def nx (X : gCx) (hp : gHp) : Nat := cxz X + hp.1
/-- what the heap holds at an address: below the start's size the constants -/
def gl (X : gCx) (hp : gHp) (a : Nat) : Option gCel := if a < cxz X then (cxF X a).map (fun e => ((0 : Nat), e)) else if a < nx X hp then hp.2.2 a else none
def hset (hp : gHp) (a : Nat) (c : gCel) : gHp := (hp.1, hp.2.1, fun b => if b = a then some c else hp.2.2 b)
def hnew (X : gCx) (hp : gHp) (n : Nat) (c : gCel) : gHp := (hp.1 + 1, hp.2.1 + n, fun b => if b = nx X hp then some c else hp.2.2 b)
def fup {α : Type} (f : Int → α) (k : Int) (x : α) : Int → α := fun j => if j = k then x else f j
theorem fup_eq {α : Type} {f : Int → α} {k : Int} {x : α} : fup f k x k = x := by simp [fup]
theorem fup_ne {α : Type} {f : Int → α} {k j : Int} {x : α} (h : j ≠ k) : fup f k x j = f j := by simp [fup, h]
def cpy {α : Type} (f g : Int → α) (sp dp n : Int) : Int → α := fun k => if dp ≤ k ∧ k < dp + n then f (sp + (k - dp)) else g k
def arE (q : (Int → Int) ⊕ (Int → Option Nat)) (j : Nat) : Value := match q with
  | .inl f => .int (Int32.ofInt (f (j : Int)))
  | .inr f => va_rf (f (j : Int))
/-- the classes of the objects that are made: place = number -/
abbrev gCl : List vw_C := [(RX0, TX0, 10), (RX1, TX1, 5), (RX2, TX2, 41), (RX3, TX3, 3), (RX4, TX4, 16), (RX5, TX5, 7), (RX6, TX6, 10), (RX7, TX7, 7), (RX8, TX8, 2), (RJ2, TJ2, 3), (RJ4, TJ4, 4), (RJ5, TJ5, 4), (RJ14, TJ14, 8), (RJ16, TJ16, 1), (RJ18, TJ18, 1), (RJ21, TJ21, 4), (RJ25, TJ25, 12), (RJ22, TJ22, 6), (RJ26, TJ26, 2), (RJ31, TJ31, 5)]
/-- the kinds of arrays -/
def arT (t : Nat) : FieldType := match t with
  | 0 => .int
  | 1 => .boolean
  | 2 => .byte
  | 3 => .object "java/lang/Object"
  | 4 => .object "java/util/HashMap$Node"
  | 5 => .object "AutoIndenter$Rule"
  | 6 => .object "AutoIndenter$State"
  | 7 => .object "java/lang/Integer"
  | _ => .int
def celAt (X : gCx) (a : Nat) (c : gCe) (H : Heap) : Prop := match c with
  | .inl q => q.1 < 9 ∧ ∃ cell : Cell, H[a]? = some cell ∧ cell.cls = cxA X q.1 ∧ cell.vm.isStatics = false ∧ cell.vm ≠ .unknown ∧ q.2.1 ≤ cell.slots.size ∧ cell.slots.size.toInt32 = Int32.ofNat q.2.1 ∧ (∀ j, j < q.2.1 → cell.slots[j]? = some (arE q.2.2 j)) ∧ (cxz X ≤ a → cell = arrV (cxA X q.1) q.2.1 (arE q.2.2))
  | .inr o => ∃ (r : vw_C) (cell : Cell), gCl[o.1]? = some r ∧ H[a]? = some cell ∧ cell.cls = (cxD X).1 o.1 ∧ cell.vm.isStatics = false ∧ cell.vm ≠ .unknown ∧ (∀ k, k < r.2.2 → cell.slots[(cxD X).2 o.1 k]? = some (vp_V (o.2.map cv) k)) ∧ (cxz X ≤ a → cell.vm = .none)
theorem celAt.kept {X : gCx} {a : Nat} {c : gCe} {H H1 : Heap} (h : celAt X a c H) (e : H1[a]? = H[a]?) : celAt X a c H1 := by
  rcases c with q | o
  · obtain ⟨h0, cell, h1, h2⟩ := h
    exact ⟨h0, cell, by rw [e]; exact h1, h2⟩
  · obtain ⟨r, cell, h1, h2, h3⟩ := h
    exact ⟨r, cell, h1, by rw [e]; exact h2, h3⟩
theorem celAt.lt {X : gCx} {a : Nat} {c : gCe} {H : Heap} (h : celAt X a c H) : a < H.size := by
  rcases c with q | o
  · obtain ⟨-, cell, h1, -⟩ := h
    exact (Array.getElem?_eq_some_iff.mp h1).1
  · obtain ⟨r, cell, -, h2, -⟩ := h
    exact (Array.getElem?_eq_some_iff.mp h2).1
theorem arrV_congr {c : ClassId} {n : Nat} {f g : Nat → Value} (h : ∀ j, j < n → f j = g j) : arrV c n f = arrV c n g := by
  unfold arrV
  congr 1
  apply Array.ext
  · simp
  · intro j h1 h2
    rw [Array.getElem_ofFn, Array.getElem_ofFn]
    exact h j (by simpa using h1)
/-- an array's cell by its contents -/
theorem celAt.arr {X : gCx} {a t n : Nat} {q : (Int → Int) ⊕ (Int → Option Nat)} {H : Heap} (ht : t < 9) (h : H[a]? = some (arrV (cxA X t) n (arE q))) : celAt X a (.inl (t, n, q)) H :=
  ⟨ht, _, h, rfl, rfl, fun e => (by cases e), Nat.le_of_eq (arrV_size _ _ _).symm, (by rw [arrV_size] <;> rfl), fun j hj => arrV_read _ _ hj, fun _ => rfl⟩
/-- the heap is as the abstract one says -/
def Rp (X : gCx) (hp : gHp) (H : Heap) : Prop := H.size = nx X hp ∧ (∀ a, a < cxz X → H[a]? = (cxH X)[a]?) ∧ ∀ a c, gl X hp a = some c → celAt X a c.2 H
theorem gl_lo {X : gCx} {hp : gHp} {a : Nat} {lb : Nat} {c : gCe} (h : gl X hp a = some (lb, c)) (hl : lb ≠ 0) : cxz X ≤ a := by
  unfold gl at h
  by_cases q : a < cxz X
  · rw [if_pos q] at h
    cases e : cxF X a with
    | none => rw [e] at h; cases h
    | some x => rw [e] at h; cases h; exact absurd rfl hl
  · exact Nat.not_lt.mp q
theorem gl_lt {X : gCx} {hp : gHp} {a : Nat} {c : gCel} (h : gl X hp a = some c) : a < nx X hp := by
  unfold gl at h
  by_cases q : a < cxz X
  · exact Nat.lt_of_lt_of_le q (Nat.le_add_right _ _)
  · rw [if_neg q] at h
    by_cases q2 : a < nx X hp
    · exact q2
    · rw [if_neg q2] at h; cases h
theorem gl_ne {X : gCx} {hp : gHp} {a : Nat} {c : gCel} (h : gl X hp a = some c) : a ≠ nx X hp := Nat.ne_of_lt (gl_lt h)
theorem nx_set {X : gCx} {hp : gHp} {a : Nat} {c : gCel} : nx X (hset hp a c) = nx X hp := rfl
theorem nx_new {X : gCx} {hp : gHp} {n : Nat} {c : gCel} : nx X (hnew X hp n c) = nx X hp + 1 := rfl
theorem gl_set_self {X : gCx} {hp : gHp} {a : Nat} {lb : Nat} {c : gCel} {c0 : gCe} (h : gl X hp a = some (lb, c0)) (hl : lb ≠ 0) : gl X (hset hp a c) a = some c := by
  have h1 := gl_lo h hl
  have h2 := gl_lt h
  unfold gl
  rw [if_neg (Nat.not_lt.mpr h1), nx_set, if_pos h2]
  simp [hset]
theorem gl_set_ne {X : gCx} {hp : gHp} {a b : Nat} {c : gCel} (h : b ≠ a) : gl X (hset hp a c) b = gl X hp b := by
  unfold gl
  rw [nx_set]
  simp [hset, h]
theorem gl_new_self {X : gCx} {hp : gHp} {n : Nat} {c : gCel} : gl X (hnew X hp n c) (nx X hp) = some c := by
  unfold gl
  rw [if_neg (show ¬ nx X hp < cxz X from Nat.not_lt.mpr (Nat.le_add_right _ _)), nx_new, if_pos (Nat.lt_succ_self _)]
  simp [hnew]
theorem gl_new_ne {X : gCx} {hp : gHp} {b n : Nat} {c : gCel} (h : b ≠ nx X hp) : gl X (hnew X hp n c) b = gl X hp b := by
  unfold gl
  by_cases q : b < cxz X
  · rw [if_pos q, if_pos q]
  · rw [if_neg q, if_neg q, nx_new]
    by_cases q2 : b < nx X hp
    · rw [if_pos q2, if_pos (by omega)]
      simp [hnew, h]
    · rw [if_neg q2, if_neg (by omega)]
theorem gl_new_of {X : gCx} {hp : gHp} {b n : Nat} {c c' : gCel} (h : gl X hp b = some c') : gl X (hnew X hp n c) b = some c' := by
  rw [gl_new_ne (gl_ne h)]; exact h
theorem Rp.set {X : gCx} {hp : gHp} {H H1 : Heap} (h : Rp X hp H) {a : Nat} {lb : Nat} {c c' : gCe} (hc : gl X hp a = some (lb, c)) (hl : lb ≠ 0) (hz : H1.size = H.size) (ho : ∀ q, q ≠ a → H1[q]? = H[q]?) (hn : celAt X a c' H1) : Rp X (hset hp a (lb, c')) H1 := by
  have ha := gl_lo hc hl
  refine ⟨hz.trans h.1, fun b hb => ?_, fun b e hb => ?_⟩
  · rw [ho b (by omega)]
    exact h.2.1 b hb
  · by_cases q : b = a
    · subst q
      rw [gl_set_self hc hl] at hb
      cases hb
      exact hn
    · rw [gl_set_ne q] at hb
      exact (h.2.2 b e hb).kept (ho b q)
theorem Rp.new {X : gCx} {hp : gHp} {H H1 : Heap} (h : Rp X hp H) {n : Nat} {c : gCel} (hz : H1.size = H.size + 1) (ho : ∀ q, q < H.size → H1[q]? = H[q]?) (hn : celAt X (nx X hp) c.2 H1) : Rp X (hnew X hp n c) H1 := by
  refine ⟨by rw [hz, h.1]; rfl, fun b hb => ?_, fun b e hb => ?_⟩
  · have h2 : b < H.size := by rw [h.1]; exact Nat.lt_of_lt_of_le hb (Nat.le_add_right _ _)
    rw [ho b h2]
    exact h.2.1 b hb
  · by_cases q : b = nx X hp
    · subst q
      rw [gl_new_self] at hb
      cases hb
      exact hn
    · rw [gl_new_ne q] at hb
      have h1 := h.2.2 b e hb
      exact h1.kept (ho b h1.lt)
