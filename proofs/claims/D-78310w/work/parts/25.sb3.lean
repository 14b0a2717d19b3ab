/-! CONTRACTS: StringBuilder.toString. -/
section SB3
variable {X : gCx} {hp : gHp}
theorem c_sbLen {a b : Nat} {n : Int} (ha : gl X hp a = some (a + 2, sbC b n)) : MV X yJ4_length fJ4_length 2 [vR (some a)] hp (fun v hp' => v = vI n ∧ hp = hp') := by
  refine MC.of pfJ4_length rfl (fun h => by cases h) 0 rfl rfl ?_
  refine gs_ald0 (pc := 0) dJ4_length_0 ?_
  refine gs_SU0 (pc := 1) dJ4_length_1 kJ4_343 ha clJ4 (by decide) (Nat.le_of_ble_eq_true rfl) (c_asbLen ha) (fun v hp1 hq => ?_)
  obtain ⟨rfl, rfl⟩ := hq
  refine gs_iret (pc := 4) dJ4_length_4 rfl ?_
  exact ⟨_, rfl, rfl, rfl⟩
theorem c_sinit2 {r a cap : Nat} {s : List Int} (hr : gl X hp r = some (1, .inr (11, dfJ5))) (hs : isSB X hp a s cap) (hl : s.length ≤ 1000) : M0 X yJ5_init_2 fJ5_init_2 4 [vR (some r), vR (some a), vR none] hp (fun hp' => (∀ b e, gl X hp b = some e → b ≠ r → gl X hp' b = some e) ∧ hp'.1 = hp.1 + 1 ∧ hp'.2.1 = hp.2.1 + s.length ∧ isS X hp' r s ∧ isN X hp' r) := by
  obtain ⟨h1, h2, h3, h4, b, f, e1, e2, e3, e4⟩ := hs
  refine MC.of pfJ5_init_2 rfl (fun _ => rfl) 2 rfl rfl ?_
  refine gs_ald0 (pc := 0) dJ5_init_2_0 ?_
  refine gs_objInit (pc := 1) dJ5_init_2_1 q431 q146 q147 (by decide) (Nat.le_of_ble_eq_true rfl) ?_
  refine gs_ald1 (pc := 4) dJ5_init_2_4 ?_
  refine gs_U0 (pc := 5) dJ5_init_2_5 kJ5_552_J4 e1 clJ4 (by decide) (Nat.le_of_ble_eq_true rfl) (c_getVal e1) (fun v hp1 hq => ?_)
  obtain ⟨rfl, rfl⟩ := hq
  refine gs_ast3 (pc := 8) dJ5_init_2_8 rfl ?_
  refine gs_ald1 (pc := 9) dJ5_init_2_9 ?_
  refine gs_U0 (pc := 10) dJ5_init_2_10 kJ5_549_J4 e1 clJ4 (by decide) (Nat.le_of_ble_eq_true rfl) (c_sbLen e1) (fun v hp1 hq => ?_)
  obtain ⟨rfl, rfl⟩ := hq
  refine gs_ist4 (pc := 13) dJ5_init_2_13 rfl ?_
  refine gs_ald1 (pc := 15) dJ5_init_2_15 ?_
  refine gs_U0 (pc := 16) dJ5_init_2_16 kJ5_1047_J4 e1 clJ4 (by decide) (Nat.le_of_ble_eq_true rfl) (c_sbLatin e1) (fun v hp1 hq => ?_)
  obtain ⟨rfl, rfl⟩ := hq
  refine gs_if_eq (pc := 19) (tgt := 41) dJ5_init_2_19 (by decide) (by omega) (fun hn => absurd hn (by decide)) (fun _ => ?_)
  refine gs_ald0 (pc := 22) dJ5_init_2_22 ?_
  refine gs_iconst (pc := 23) dJ5_init_2_23 ?_
  refine gs_putF (pc := 24) 1 (.inr (11, [vR none, vI 0, vI 0, vI 0])) dJ5_init_2_24 hr (by decide) clJ5 in_J5 tyJ5 tyJ5_ok nmJ5 (by decide) q470 (Or.inl rfl) rfl rfl rfl fok_b0 (Nat.le_of_ble_eq_true rfl) rfl ?_
  have g1 := gl_set_self (c := (1, Sum.inr (11, [vR none, vI 0, vI 0, vI 0]))) hr (by decide)
  have hne : b ≠ r := by intro e; subst e; rw [hr] at e2; cases e2
  have g2 : gl X (hset hp r (1, Sum.inr (11, [vR none, vI 0, vI 0, vI 0]))) b = some (a + 2, .inl (2, cap, .inl f)) := by rw [gl_set_ne hne]; exact e2
  have hk : ∀ b e, gl X hp b = some e → b ≠ r → gl X (hset hp r (1, Sum.inr (11, [vR none, vI 0, vI 0, vI 0]))) b = some e := fun b e h1 h2 => by rw [gl_set_ne h2]; exact h1
  have hx : nx X (hset hp r (1, Sum.inr (11, [vR none, vI 0, vI 0, vI 0]))) = nx X hp := rfl
  generalize hh : hset hp r (1, Sum.inr (11, [vR none, vI 0, vI 0, vI 0])) = hp1 at g1 g2 hk hx ⊢
  have hc1 : hp1.1 = hp.1 := by rw [← hh]; rfl
  have hc2 : hp1.2.1 = hp.2.1 := by rw [← hh]; rfl
  refine gs_ald0 (pc := 27) dJ5_init_2_27 ?_
  refine gs_ald3 (pc := 28) dJ5_init_2_28 ?_
  refine gs_iconst (pc := 29) dJ5_init_2_29 ?_
  refine gs_ild4 (pc := 30) dJ5_init_2_30 ?_
  rw [show (s.length : Int) = ((0 + s.length : Nat) : Int) by omega]
  refine gs_S3 (pc := 32) dJ5_init_2_32 kJ5_54 (by decide) (Nat.le_of_ble_eq_true rfl) (c_copyR 1 (by decide) (i := 0) g2 (by omega) (by omega) (by omega) (by omega) e3 h1) (fun v hp2 hq => ?_)
  obtain ⟨b', rfl, q1, q2, q3, q4, g, q5, q6⟩ := hq
  rw [List.drop_zero, List.take_length] at q3 q5 q6
  have g3 := q1.at g1 (fun h => h)
  have hne' : b' ≠ r := by have := gl_lt g1; omega
  refine gs_putF (pc := 35) 0 (.inr (11, [vR (some b'), vI 0, vI 0, vI 0])) dJ5_init_2_35 g3 (by decide) clJ5 in_J5 tyJ5 tyJ5_ok nmJ5 (by decide) q469 (Or.inl rfl) rfl rfl rfl (fok_arr _ _) (Nat.le_of_ble_eq_true rfl) rfl ?_
  refine gs_goto (pc := 38) (tgt := 97) dJ5_init_2_38 (by decide) ?_
  refine gs_vret (pc := 97) dJ5_init_2_97 rfl ?_
  refine ⟨rfl, fun b e u1 u2 => ?_, by show hp2.1 = _; omega, by show hp2.2.1 = _; omega, ⟨h1, hl, 1, b', 0, 0, Nat.le_refl _, gl_set_self g3 (by decide), 1, g, Nat.le_refl _, ?_, q6⟩, b', 0, 0, .inl (2, s.length, .inl g), gl_set_self g3 (by decide), ?_⟩
  · rw [gl_set_ne u2]; exact (q1.2.2 b e (hk b e u1 u2)).1 (fun h => h)
  · rw [gl_set_ne hne']; exact q5
  · rw [gl_set_ne hne']; exact q5
theorem c_sinit {r a cap : Nat} {s : List Int} (hr : gl X hp r = some (1, .inr (11, dfJ5))) (hs : isSB X hp a s cap) (hl : s.length ≤ 1000) : M0 X yJ5_init fJ5_init 5 [vR (some r), vR (some a)] hp (fun hp' => (∀ b e, gl X hp b = some e → b ≠ r → gl X hp' b = some e) ∧ hp'.1 = hp.1 + 1 ∧ hp'.2.1 = hp.2.1 + s.length ∧ isS X hp' r s ∧ isN X hp' r) := by
  refine MC.of pfJ5_init rfl (fun _ => rfl) 0 rfl rfl ?_
  refine gs_ald0 (pc := 0) dJ5_init_0 ?_
  refine gs_ald1 (pc := 1) dJ5_init_1 ?_
  refine gs_null (pc := 2) dJ5_init_2 ?_
  refine gs_I2v (pc := 3) dJ5_init_3 kJ5_489 (by decide) (Nat.le_of_ble_eq_true rfl) (c_sinit2 hr hs hl) (fun hp1 hq => ?_)
  refine gs_vret (pc := 6) dJ5_init_6 rfl ?_
  exact ⟨rfl, hq⟩
theorem isSB.fr {S : Nat → Prop} {hp1 : gHp} {a cap : Nat} {s : List Int} (h : Fr X S hp hp1) (hS : ¬ S (a + 2)) (hs : isSB X hp a s cap) : isSB X hp1 a s cap := by
  obtain ⟨h1, h2, h3, h4, b, f, e1, e2, e3, e4⟩ := hs
  exact ⟨h1, h2, h3, h4, b, f, h.at e1 hS, h.at e2 hS, e3, e4⟩
theorem c_sbStr {a cap : Nat} {s : List Int} (hs : isSB X hp a s cap) (hl : s.length ≤ 1000) : MV X yJ4_toString fJ4_toString 6 [vR (some a)] hp (fun v hp' => ∃ r, v = vR (some r) ∧ newS X hp hp' r 2 (s.length + 4) s ∧ nx X hp ≤ r) := by
  refine MC.of pfJ4_toString rfl (fun h => by cases h) 0 rfl rfl ?_
  refine gs_new (pc := 0) 1 dfJ5 dJ4_toString_0 clJ5 in_J5 tyJ5 tyJ5_ok q423 q424 q105 dfoJ5 ?_
  have hF : Fr X (fun _ => False) hp (hnew X hp 4 (1, Sum.inr (11, dfJ5))) := Fr.new Fr.refl
  have h1 : gl X (hnew X hp 4 (1, Sum.inr (11, dfJ5))) (nx X hp) = some (1, Sum.inr (11, dfJ5)) := gl_new_self
  have hs1 := hs.fr hF (fun h => h)
  generalize hh : hnew X hp 4 (1, Sum.inr (11, dfJ5)) = hp1 at h1 hF hs1 ⊢
  have hc1 : hp1.1 = hp.1 + 1 := by rw [← hh]; rfl
  have hc2 : hp1.2.1 = hp.2.1 + 4 := by rw [← hh]; rfl
  refine gs_dup (pc := 3) dJ4_toString_3 rfl ?_
  refine gs_ald0 (pc := 4) dJ4_toString_4 ?_
  refine gs_I1v (pc := 5) dJ4_toString_5 kJ4_137 (by decide) (Nat.le_of_ble_eq_true rfl) (c_sinit h1 hs1 hl) (fun hp2 hq => ?_)
  obtain ⟨q1, q2, q3, q4⟩ := hq
  refine gs_aret (pc := 8) dJ4_toString_8 rfl (Or.inl ⟨_, rfl⟩) ?_
  refine ⟨_, rfl, _, rfl, ⟨⟨by omega, by omega, fun b e hb => ?_⟩, by omega, by omega, q4⟩, Nat.le_refl _⟩
  have hne : b ≠ nx X hp := gl_ne hb
  have := q1 b e ((hF.2.2 b e hb).1 (fun h => h)) hne
  exact ⟨fun _ => this, e, this, shp.refl e⟩
end SB3
