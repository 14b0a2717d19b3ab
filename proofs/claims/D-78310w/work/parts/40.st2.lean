/-! THE START, part 2: the String constants. Printed by tool/genstart.py. -/
section ST2
variable {s : State} {args : Array Value}
def slotv (s : State) (cell : Cell) (o n d : String) (v : Value) : Prop := ∃ cf k i f, s.fieldFound? o n d = some (cf, k, i, f) ∧ cell.slots[f.slot]? = some v
def StrAt (s : State) (a v : Nat) (h z : Int32) (bs : List Int) : Prop := (∃ cell : Cell, s.heap[a]? = some cell ∧ s.vm.findClass "java/lang/String" = some cell.cls ∧ cell.vm.isStatics = false ∧ cell.vm ≠ .unknown ∧ slotv s cell "java/lang/String" "value" "[B" (.ref v) ∧ slotv s cell "java/lang/String" "coder" "B" (.int 0) ∧ slotv s cell "java/lang/String" "hash" "I" (.int h) ∧ slotv s cell "java/lang/String" "hashIsZero" "Z" (.int z)) ∧ ∃ vc : Cell, s.heap[v]? = some vc ∧ s.vm.findClass "[B" = some vc.cls ∧ s.isArrayOf vc .byte ∧ vc.vm.isStatics = false ∧ vc.vm ≠ .unknown ∧ bs.length ≤ vc.slots.size ∧ vc.slots.size.toInt32 = Int32.ofNat bs.length ∧ ∀ j, j < bs.length → vc.slots[j]? = some (.int (Int32.ofInt (bs.getD j 0)))
theorem st_slot {t : Term} {a : Nat} {o n d : String} {v : Value} {cell : Cell} (ht : t.eval args s none [] s = some (.ref a)) (hc : s.heap[a]? = some cell) (hv : (Term.field t o n d).eval args s none [] s = some v) : cell.vm ≠ .unknown ∧ slotv s cell o n d v := by
  cases hfo : s.fieldFound? o n d with
  | none =>
    rw [va_fe ht] at hv
    simp [State.fieldOf?, State.fieldNamed?, hfo] at hv
  | some x =>
    obtain ⟨cf, k, fi, f⟩ := x
    obtain ⟨g1, cell', g2, g3, -, -, g6⟩ := Term.field_spec hfo ht hv
    rw [hc] at g2
    cases g2
    exact ⟨g3, cf, k, fi, f, hfo, g6⟩
theorem st_str {tm : Term} {bs : List Int} (h z : Int32) (hl : bs.length ≤ 1000) (hex : (Cond.exactly tm "java/lang/String").before args s = true) (hco : (Cond.eq (.field tm "java/lang/String" "coder" "B") (.int 0)).before args s = true) (har : (Cond.arrayOf (.field tm "java/lang/String" "value" "[B") .byte).before args s = true) (hxb : (Cond.exactly (.field tm "java/lang/String" "value" "[B") "[B").before args s = true) (hle : (Cond.eq (.length (.field tm "java/lang/String" "value" "[B")) (.int (Int32.ofNat bs.length))).before args s = true)
    (hel : ∀ j : Nat, j < bs.length → (Cond.eq (.elem (.field tm "java/lang/String" "value" "[B") (.int (Int32.ofNat j))) (.int (Int32.ofInt (bs.getD j 0)))).before args s = true) (hh : (Cond.eq (.field tm "java/lang/String" "hash" "I") (.int h)).before args s = true) (hz : (Cond.eq (.field tm "java/lang/String" "hashIsZero" "Z") (.int z)).before args s = true) : ∃ a v, tm.eval args s none [] s = some (.ref a) ∧ StrAt s a v h z bs := by
  obtain ⟨a, c, cell, k, q1, q2, q3, q4, q5, q6, -⟩ := Cond.exactly_spec (args := args) (first := s) (o := none) (s := s) (idx := []) hex
  obtain ⟨v, c2, vc, k2, r1, r2, r3, r4, r5, r6, -⟩ := Cond.exactly_spec (args := args) (first := s) (o := none) (s := s) (idx := []) hxb
  obtain ⟨v', hv', hT⟩ := va_Tof (f := fun j => .int (Int32.ofInt (bs.getD j 0))) (A := fun _ => False) (N := bs.length) (by omega) har (va_eqt hle) (fun j hj => va_eqt (hel j hj)) (fun _ _ h => h)
  rw [r1] at hv'
  cases hv'
  obtain ⟨vc', t1, t2, t3, t4, t5, t6, -⟩ := hT
  rw [r3] at t1
  cases t1
  have f1 := st_slot q1 q3 r1
  exact ⟨a, v, q1, ⟨cell, q3, by rw [q6]; exact q2, q5, f1.1, f1.2, (st_slot q1 q3 (va_eqt hco)).2, (st_slot q1 q3 (va_eqt hh)).2, (st_slot q1 q3 (va_eqt hz)).2⟩, vc, r3, by rw [r6]; exact r2, t2, r5, t3, t4, t5, t6⟩
theorem st_K (hs : ∀ c ∈ flatC (Jvm.Cond.and given_1 narrow_1), c.before args s = true) : ∀ k, k < 19 → ∃ a v h z, (Term.string (skT.getD k ("", 0, "")).1 (skT.getD k ("", 0, "")).2.1).eval args s none [] s = some (.ref a) ∧ StrAt s a v h z (skS k) := by
  intro k hk
  match k, hk with
  | 0, _ =>
    obtain ⟨a, v, h1, h2⟩ := st_str (tm := Term.string "AutoIndenter" 126) (bs := skS 0) (0) (1) (by decide) (hs _ (by decide +kernel)) (hs _ (by decide +kernel)) (hs _ (by decide +kernel)) (hs _ (by decide +kernel)) (hs _ (by decide +kernel)) (fun j hj => by
      match j, hj with
      | j + 0, h => exact absurd h (by simp [skS])) (hs _ (by decide +kernel)) (hs _ (by decide +kernel))
    exact ⟨a, v, _, _, h1, h2⟩
  | 1, _ =>
    obtain ⟨a, v, h1, h2⟩ := st_str (tm := Term.string "java/lang/StringLatin1" 151) (bs := skS 1) (0) (1) (by decide) (hs _ (by decide +kernel)) (hs _ (by decide +kernel)) (hs _ (by decide +kernel)) (hs _ (by decide +kernel)) (hs _ (by decide +kernel)) (fun j hj => by
      match j, hj with
      | j + 0, h => exact absurd h (by simp [skS])) (hs _ (by decide +kernel)) (hs _ (by decide +kernel))
    exact ⟨a, v, _, _, h1, h2⟩
  | 2, _ =>
    obtain ⟨a, v, h1, h2⟩ := st_str (tm := Term.string "AutoIndenter" 191) (bs := skS 2) (32) (0) (by decide) (hs _ (by decide +kernel)) (hs _ (by decide +kernel)) (hs _ (by decide +kernel)) (hs _ (by decide +kernel)) (hs _ (by decide +kernel)) (fun j hj => by
      match j, hj with
      | 0, _ => exact (hs _ (by decide +kernel))
      | j + 1, h => exact absurd h (by simp [skS])) (hs _ (by decide +kernel)) (hs _ (by decide +kernel))
    exact ⟨a, v, _, _, h1, h2⟩
  | 3, _ =>
    obtain ⟨a, v, h1, h2⟩ := st_str (tm := Term.string "AutoIndenter" 409) (bs := skS 3) (3047) (0) (by decide) (hs _ (by decide +kernel)) (hs _ (by decide +kernel)) (hs _ (by decide +kernel)) (hs _ (by decide +kernel)) (hs _ (by decide +kernel)) (fun j hj => by
      match j, hj with
      | 0, _ => exact (hs _ (by decide +kernel))
      | 1, _ => exact (hs _ (by decide +kernel))
      | j + 2, h => exact absurd h (by simp [skS])) (hs _ (by decide +kernel)) (hs _ (by decide +kernel))
    exact ⟨a, v, _, _, h1, h2⟩
  | 4, _ =>
    obtain ⟨a, v, h1, h2⟩ := st_str (tm := Term.string "AutoIndenter" 411) (bs := skS 4) (41) (0) (by decide) (hs _ (by decide +kernel)) (hs _ (by decide +kernel)) (hs _ (by decide +kernel)) (hs _ (by decide +kernel)) (hs _ (by decide +kernel)) (fun j hj => by
      match j, hj with
      | 0, _ => exact (hs _ (by decide +kernel))
      | j + 1, h => exact absurd h (by simp [skS])) (hs _ (by decide +kernel)) (hs _ (by decide +kernel))
    exact ⟨a, v, _, _, h1, h2⟩
  | 5, _ =>
    obtain ⟨a, v, h1, h2⟩ := st_str (tm := Term.string "AutoIndenter" 413) (bs := skS 5) (123) (0) (by decide) (hs _ (by decide +kernel)) (hs _ (by decide +kernel)) (hs _ (by decide +kernel)) (hs _ (by decide +kernel)) (hs _ (by decide +kernel)) (fun j hj => by
      match j, hj with
      | 0, _ => exact (hs _ (by decide +kernel))
      | j + 1, h => exact absurd h (by simp [skS])) (hs _ (by decide +kernel)) (hs _ (by decide +kernel))
    exact ⟨a, v, _, _, h1, h2⟩
  | 6, _ =>
    obtain ⟨a, v, h1, h2⟩ := st_str (tm := Term.string "AutoIndenter" 415) (bs := skS 6) (125) (0) (by decide) (hs _ (by decide +kernel)) (hs _ (by decide +kernel)) (hs _ (by decide +kernel)) (hs _ (by decide +kernel)) (hs _ (by decide +kernel)) (fun j hj => by
      match j, hj with
      | 0, _ => exact (hs _ (by decide +kernel))
      | j + 1, h => exact absurd h (by simp [skS])) (hs _ (by decide +kernel)) (hs _ (by decide +kernel))
    exact ⟨a, v, _, _, h1, h2⟩
  | 7, _ =>
    obtain ⟨a, v, h1, h2⟩ := st_str (tm := Term.string "AutoIndenter" 417) (bs := skS 7) (91215) (0) (by decide) (hs _ (by decide +kernel)) (hs _ (by decide +kernel)) (hs _ (by decide +kernel)) (hs _ (by decide +kernel)) (hs _ (by decide +kernel)) (fun j hj => by
      match j, hj with
      | 0, _ => exact (hs _ (by decide +kernel))
      | 1, _ => exact (hs _ (by decide +kernel))
      | 2, _ => exact (hs _ (by decide +kernel))
      | j + 3, h => exact absurd h (by simp [skS])) (hs _ (by decide +kernel)) (hs _ (by decide +kernel))
    exact ⟨a, v, _, _, h1, h2⟩
  | 8, _ =>
    obtain ⟨a, v, h1, h2⟩ := st_str (tm := Term.string "AutoIndenter" 419) (bs := skS 8) (93) (0) (by decide) (hs _ (by decide +kernel)) (hs _ (by decide +kernel)) (hs _ (by decide +kernel)) (hs _ (by decide +kernel)) (hs _ (by decide +kernel)) (fun j hj => by
      match j, hj with
      | 0, _ => exact (hs _ (by decide +kernel))
      | j + 1, h => exact absurd h (by simp [skS])) (hs _ (by decide +kernel)) (hs _ (by decide +kernel))
    exact ⟨a, v, _, _, h1, h2⟩
  | 9, _ =>
    obtain ⟨a, v, h1, h2⟩ := st_str (tm := Term.string "AutoIndenter" 421) (bs := skS 9) (93616297) (0) (by decide) (hs _ (by decide +kernel)) (hs _ (by decide +kernel)) (hs _ (by decide +kernel)) (hs _ (by decide +kernel)) (hs _ (by decide +kernel)) (fun j hj => by
      match j, hj with
      | 0, _ => exact (hs _ (by decide +kernel))
      | 1, _ => exact (hs _ (by decide +kernel))
      | 2, _ => exact (hs _ (by decide +kernel))
      | 3, _ => exact (hs _ (by decide +kernel))
      | 4, _ => exact (hs _ (by decide +kernel))
      | j + 5, h => exact absurd h (by simp [skS])) (hs _ (by decide +kernel)) (hs _ (by decide +kernel))
    exact ⟨a, v, _, _, h1, h2⟩
  | 10, _ =>
    obtain ⟨a, v, h1, h2⟩ := st_str (tm := Term.string "AutoIndenter" 422) (bs := skS 10) (100571) (0) (by decide) (hs _ (by decide +kernel)) (hs _ (by decide +kernel)) (hs _ (by decide +kernel)) (hs _ (by decide +kernel)) (hs _ (by decide +kernel)) (fun j hj => by
      match j, hj with
      | 0, _ => exact (hs _ (by decide +kernel))
      | 1, _ => exact (hs _ (by decide +kernel))
      | 2, _ => exact (hs _ (by decide +kernel))
      | j + 3, h => exact absurd h (by simp [skS])) (hs _ (by decide +kernel)) (hs _ (by decide +kernel))
    exact ⟨a, v, _, _, h1, h2⟩
  | 11, _ =>
    obtain ⟨a, v, h1, h2⟩ := st_str (tm := Term.string "AutoIndenter" 424) (bs := skS 11) (3046192) (0) (by decide) (hs _ (by decide +kernel)) (hs _ (by decide +kernel)) (hs _ (by decide +kernel)) (hs _ (by decide +kernel)) (hs _ (by decide +kernel)) (fun j hj => by
      match j, hj with
      | 0, _ => exact (hs _ (by decide +kernel))
      | 1, _ => exact (hs _ (by decide +kernel))
      | 2, _ => exact (hs _ (by decide +kernel))
      | 3, _ => exact (hs _ (by decide +kernel))
      | j + 4, h => exact absurd h (by simp [skS])) (hs _ (by decide +kernel)) (hs _ (by decide +kernel))
    exact ⟨a, v, _, _, h1, h2⟩
  | 12, _ =>
    obtain ⟨a, v, h1, h2⟩ := st_str (tm := Term.string "AutoIndenter" 426) (bs := skS 12) (36273) (0) (by decide) (hs _ (by decide +kernel)) (hs _ (by decide +kernel)) (hs _ (by decide +kernel)) (hs _ (by decide +kernel)) (hs _ (by decide +kernel)) (fun j hj => by
      match j, hj with
      | 0, _ => exact (hs _ (by decide +kernel))
      | 1, _ => exact (hs _ (by decide +kernel))
      | 2, _ => exact (hs _ (by decide +kernel))
      | j + 3, h => exact absurd h (by simp [skS])) (hs _ (by decide +kernel)) (hs _ (by decide +kernel))
    exact ⟨a, v, _, _, h1, h2⟩
  | 13, _ =>
    obtain ⟨a, v, h1, h2⟩ := st_str (tm := Term.string "AutoIndenter" 428) (bs := skS 13) (1184) (0) (by decide) (hs _ (by decide +kernel)) (hs _ (by decide +kernel)) (hs _ (by decide +kernel)) (hs _ (by decide +kernel)) (hs _ (by decide +kernel)) (fun j hj => by
      match j, hj with
      | 0, _ => exact (hs _ (by decide +kernel))
      | 1, _ => exact (hs _ (by decide +kernel))
      | j + 2, h => exact absurd h (by simp [skS])) (hs _ (by decide +kernel)) (hs _ (by decide +kernel))
    exact ⟨a, v, _, _, h1, h2⟩
  | 14, _ =>
    obtain ⟨a, v, h1, h2⟩ := st_str (tm := Term.string "AutoIndenter" 430) (bs := skS 14) (3794) (0) (by decide) (hs _ (by decide +kernel)) (hs _ (by decide +kernel)) (hs _ (by decide +kernel)) (hs _ (by decide +kernel)) (hs _ (by decide +kernel)) (fun j hj => by
      match j, hj with
      | 0, _ => exact (hs _ (by decide +kernel))
      | 1, _ => exact (hs _ (by decide +kernel))
      | j + 2, h => exact absurd h (by simp [skS])) (hs _ (by decide +kernel)) (hs _ (by decide +kernel))
    exact ⟨a, v, _, _, h1, h2⟩
  | 15, _ =>
    obtain ⟨a, v, h1, h2⟩ := st_str (tm := Term.string "AutoIndenter" 432) (bs := skS 15) (33762) (0) (by decide) (hs _ (by decide +kernel)) (hs _ (by decide +kernel)) (hs _ (by decide +kernel)) (hs _ (by decide +kernel)) (hs _ (by decide +kernel)) (fun j hj => by
      match j, hj with
      | 0, _ => exact (hs _ (by decide +kernel))
      | 1, _ => exact (hs _ (by decide +kernel))
      | 2, _ => exact (hs _ (by decide +kernel))
      | j + 3, h => exact absurd h (by simp [skS])) (hs _ (by decide +kernel)) (hs _ (by decide +kernel))
    exact ⟨a, v, _, _, h1, h2⟩
  | 16, _ =>
    obtain ⟨a, v, h1, h2⟩ := st_str (tm := Term.string "AutoIndenter" 434) (bs := skS 16) (122) (0) (by decide) (hs _ (by decide +kernel)) (hs _ (by decide +kernel)) (hs _ (by decide +kernel)) (hs _ (by decide +kernel)) (hs _ (by decide +kernel)) (fun j hj => by
      match j, hj with
      | 0, _ => exact (hs _ (by decide +kernel))
      | j + 1, h => exact absurd h (by simp [skS])) (hs _ (by decide +kernel)) (hs _ (by decide +kernel))
    exact ⟨a, v, _, _, h1, h2⟩
  | 17, _ =>
    obtain ⟨a, v, h1, h2⟩ := st_str (tm := Term.string "AutoIndenter" 436) (bs := skS 17) (3080204) (0) (by decide) (hs _ (by decide +kernel)) (hs _ (by decide +kernel)) (hs _ (by decide +kernel)) (hs _ (by decide +kernel)) (hs _ (by decide +kernel)) (fun j hj => by
      match j, hj with
      | 0, _ => exact (hs _ (by decide +kernel))
      | 1, _ => exact (hs _ (by decide +kernel))
      | 2, _ => exact (hs _ (by decide +kernel))
      | 3, _ => exact (hs _ (by decide +kernel))
      | j + 4, h => exact absurd h (by simp [skS])) (hs _ (by decide +kernel)) (hs _ (by decide +kernel))
    exact ⟨a, v, _, _, h1, h2⟩
  | 18, _ =>
    obtain ⟨a, v, h1, h2⟩ := st_str (tm := Term.string "AutoIndenter" 438) (bs := skS 18) (59) (0) (by decide) (hs _ (by decide +kernel)) (hs _ (by decide +kernel)) (hs _ (by decide +kernel)) (hs _ (by decide +kernel)) (hs _ (by decide +kernel)) (fun j hj => by
      match j, hj with
      | 0, _ => exact (hs _ (by decide +kernel))
      | j + 1, h => exact absurd h (by simp [skS])) (hs _ (by decide +kernel)) (hs _ (by decide +kernel))
    exact ⟨a, v, _, _, h1, h2⟩
  | k + 19, h => exact absurd h (by omega)
end ST2
