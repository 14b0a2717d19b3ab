/-! THE START, part 1: what the tables' words give. Printed by tool/genstart.py. -/
section ST1
variable {s : State} {args : Array Value}
theorem st_D (hts : ∀ w ∈ lw_tbl, w.before args s = true) : ∃ D : va_G, ∀ (c : Nat) (q : vw_C), gCl[c]? = some q → u_Kn s q.1 q.2.1 q.2.2 (D.1 c) (D.2 c) := by
  have ht : ∀ w ∈ lw_all, w.before args s = true := fun w hw => hts w (lw_all_tbl hw)
  obtain ⟨c0, i0, h0⟩ := u_known (C := RX0) (T := TX0) (N := 10) ht in_X0 (ht _ q141)
  obtain ⟨c1, i1, h1⟩ := u_known (C := RX1) (T := TX1) (N := 5) ht in_X1 (ht _ q149)
  obtain ⟨c2, i2, h2⟩ := u_known (C := RX2) (T := TX2) (N := 41) ht in_X2 (ht _ q2221)
  obtain ⟨c3, i3, h3⟩ := u_known (C := RX3) (T := TX3) (N := 3) ht in_X3 (ht _ q267)
  obtain ⟨c4, i4, h4⟩ := u_known (C := RX4) (T := TX4) (N := 16) ht in_X4 (ht _ q673)
  obtain ⟨c5, i5, h5⟩ := u_known (C := RX5) (T := TX5) (N := 7) ht in_X5 (ht _ q675)
  obtain ⟨c6, i6, h6⟩ := u_known (C := RX6) (T := TX6) (N := 10) ht in_X6 (ht _ q717)
  obtain ⟨c7, i7, h7⟩ := u_known (C := RX7) (T := TX7) (N := 7) ht in_X7 (ht _ q1737)
  obtain ⟨c8, i8, h8⟩ := u_known (C := RX8) (T := TX8) (N := 2) ht in_X8 (ht _ q1833)
  obtain ⟨c9, i9, h9⟩ := u_known (C := RJ2) (T := TJ2) (N := 3) ht in_J2 (ht _ q155)
  obtain ⟨c10, i10, h10⟩ := u_known (C := RJ4) (T := TJ4) (N := 4) ht in_J4 (ht _ q294)
  obtain ⟨c11, i11, h11⟩ := u_known (C := RJ5) (T := TJ5) (N := 4) ht in_J5 (ht _ q424)
  obtain ⟨c12, i12, h12⟩ := u_known (C := RJ14) (T := TJ14) (N := 8) ht in_J14 (ht _ q788)
  obtain ⟨c13, i13, h13⟩ := u_known (C := RJ16) (T := TJ16) (N := 1) ht in_J16 (ht _ q830)
  obtain ⟨c14, i14, h14⟩ := u_known (C := RJ18) (T := TJ18) (N := 1) ht in_J18 (ht _ q859)
  obtain ⟨c15, i15, h15⟩ := u_known (C := RJ21) (T := TJ21) (N := 4) ht in_J21 (ht _ q1308)
  obtain ⟨c16, i16, h16⟩ := u_known (C := RJ25) (T := TJ25) (N := 12) ht in_J25 (ht _ q1305)
  obtain ⟨c17, i17, h17⟩ := u_known (C := RJ22) (T := TJ22) (N := 6) ht in_J22 (ht _ q1252)
  obtain ⟨c18, i18, h18⟩ := u_known (C := RJ26) (T := TJ26) (N := 2) ht in_J26 (ht _ q1998)
  obtain ⟨c19, i19, h19⟩ := u_known (C := RJ31) (T := TJ31) (N := 5) ht in_J31 (ht _ q2077)
  refine ⟨(fun c => [c0, c1, c2, c3, c4, c5, c6, c7, c8, c9, c10, c11, c12, c13, c14, c15, c16, c17, c18, c19].getD c 0, fun c => [i0, i1, i2, i3, i4, i5, i6, i7, i8, i9, i10, i11, i12, i13, i14, i15, i16, i17, i18, i19].getD c (fun _ => 0)), fun c q hq => ?_⟩
  match c, hq with
  | 0, hq => cases hq; exact h0
  | 1, hq => cases hq; exact h1
  | 2, hq => cases hq; exact h2
  | 3, hq => cases hq; exact h3
  | 4, hq => cases hq; exact h4
  | 5, hq => cases hq; exact h5
  | 6, hq => cases hq; exact h6
  | 7, hq => cases hq; exact h7
  | 8, hq => cases hq; exact h8
  | 9, hq => cases hq; exact h9
  | 10, hq => cases hq; exact h10
  | 11, hq => cases hq; exact h11
  | 12, hq => cases hq; exact h12
  | 13, hq => cases hq; exact h13
  | 14, hq => cases hq; exact h14
  | 15, hq => cases hq; exact h15
  | 16, hq => cases hq; exact h16
  | 17, hq => cases hq; exact h17
  | 18, hq => cases hq; exact h18
  | 19, hq => cases hq; exact h19
  | c + 20, hq => exact absurd hq (by simp)
theorem st_A (hts : ∀ w ∈ lw_tbl, w.before args s = true) : ∃ A : Nat → ClassId, ∀ t, t < 7 → ArrOfT s (A t) (arT t) ∧ va_RA s (A t) (arT t) := by
  have hp : ∀ t : FieldType, (∀ C, t ≠ .object C) → (Cond.arrayClass t).before args s = true → ∃ c, ArrOfT s c t ∧ va_RA s c t := by
    intro t hn h
    obtain ⟨c, k, comp, h1, h2, h3⟩ := Cond.arrayClass_spec h
    refine ⟨c, fun N z => ⟨(fun k h => by cases h), k, h2, comp, h3⟩, ?_⟩
    cases t with
    | object C => exact absurd rfl (hn C)
    | _ => exact h1
  have ho : ∀ C : String, (Cond.arrayOver (.object C)).before args s = true → ∃ c, ArrOfT s c (.object C) ∧ va_RA s c (.object C) := by
    intro C h
    obtain ⟨comp, c, k, h1, -, h2, h3, h4⟩ := Cond.arrayOver_spec h
    exact ⟨c, fun N z => ⟨(fun k h => by cases h), k, h2, comp, h3⟩, k, comp, h2, h3, h1, h4⟩
  obtain ⟨a0, h0⟩ := hp .int (fun C h => by cases h) (hts _ (lw_all_tbl q770))
  obtain ⟨a1, h1⟩ := hp .boolean (fun C h => by cases h) (hts _ (lw_all_tbl q771))
  obtain ⟨a2, h2⟩ := hp .byte (fun C h => by cases h) (hts _ (lw_all_tbl q242))
  obtain ⟨a3, h3⟩ := ho "java/lang/Object" (hts _ q574)
  obtain ⟨a4, h4⟩ := ho "java/util/HashMap$Node" (hts _ q1235)
  obtain ⟨a5, h5⟩ := ho "AutoIndenter$Rule" (hts _ q181)
  obtain ⟨a6, h6⟩ := ho "AutoIndenter$State" (hts _ q210)
  refine ⟨fun t => [a0, a1, a2, a3, a4, a5, a6].getD t 0, fun t ht => ?_⟩
  match t, ht with
  | 0, _ => exact h0
  | 1, _ => exact h1
  | 2, _ => exact h2
  | 3, _ => exact h3
  | 4, _ => exact h4
  | 5, _ => exact h5
  | 6, _ => exact h6
theorem st_F (hts : ∀ w ∈ lw_tbl, w.before args s = true) : ∀ q ∈ ifT, va_Fw q.1 q.2.1 q.2.2 s := by
  intro q hq
  simp only [ifT, List.mem_cons, List.not_mem_nil, or_false] at hq
  rcases hq with rfl | rfl | rfl
  · exact va_Fw.of (hts _ q2014) (hts _ q2013) (hts _ q2074) (hts _ q2072) (hts _ q2070)
  · exact va_Fw.of (hts _ q2104) (hts _ q2103) (hts _ q2115) (hts _ q2113) (hts _ q2111)
  · exact va_Fw.of (hts _ q2120) (hts _ q2119) (hts _ q2135) (hts _ q2133) (hts _ q2111)
theorem st_N (hts : ∀ w ∈ lw_tbl, w.before args s = true) : (∀ a i b n d h, Cond.fieldLinkNest a i b n d h ∈ lw_tbl → va_Nw (.fieldLinkNest a i b n d h) s) ∧ (∀ a i y h, Cond.methodLinkNest a i y h ∈ lw_tbl → va_Nw (.methodLinkNest a i y h) s) ∧ (∀ C T, Cond.castable C T ∈ lw_tbl → va_Nw (.castable C T) s) ∧ (∀ x, Cond.declares x ∈ lw_tbl → va_Nw (.declares x) s) ∧ (∀ C, Cond.arrayOver (.object C) ∈ lw_tbl → va_AO C s) ∧ ∀ y, Cond.privateMethod y ∈ lw_tbl → va_Nw (.privateMethod y) s :=
  ⟨fun a i b n d h hm => va_Nw.of rfl (hts _ hm), fun a i y h hm => va_Nw.of rfl (hts _ hm), fun C T hm => va_Nw.of rfl (hts _ hm), fun x hm => va_Nw.of rfl (hts _ hm), fun C hm => va_AO.of (hts _ hm), fun y hm => va_Nw.of rfl (hts _ hm)⟩
end ST1
