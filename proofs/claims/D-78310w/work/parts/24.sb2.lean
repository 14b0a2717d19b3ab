/-! CONTRACTS: StringBuilder.append, toString. -/
section SB2
variable {X : gCx} {hp : gHp}
/-- t has been appended to s -/
def sbApp (X : gCx) (hp hp' : gHp) (a : Nat) (s : List Int) (cap : Nat) (t : List Int) (cap' : Nat) : Prop := Fr X (fun l => l = a + 2) hp hp' ∧ cap ≤ cap' ∧ hp'.1 ≤ hp.1 + (cap' - cap) ∧ hp'.2.1 ≤ hp.2.1 + 2 * (cap' - cap) ∧ isSB X hp' a (s ++ t) cap'
theorem getD_app_lo {s t : List Int} {i : Nat} (h : i < s.length) : (s ++ t).getD i 0 = s.getD i 0 := by
  rw [List.getD_eq_getElem?_getD, List.getD_eq_getElem?_getD, List.getElem?_append_left h]
theorem getD_app_hi {s t : List Int} {i : Nat} : (s ++ t).getD (s.length + i) 0 = t.getD i 0 := by
  rw [List.getD_eq_getElem?_getD, List.getD_eq_getElem?_getD, List.getElem?_append_right (by omega), Nat.add_sub_cancel_left]
theorem sok_app {s t : List Int} (h : sok s) (h' : sok t) : sok (s ++ t) := fun c hc => by
  rcases List.mem_append.mp hc with q | q
  · exact h c q
  · exact h' c q
theorem c_asbC {a cap : Nat} {s : List Int} {c : Int} (hs : isSB X hp a s cap) (hc : 0 ≤ c ∧ c ≤ 127) (hl : s.length < 300) : MV X yJ3_append fJ3_append 5 [vR (some a), vI c] hp (fun v hp' => v = vR (some a) ∧ ∃ cap', sbApp X hp hp' a s cap [c] cap') := by
  have hs' := hs
  obtain ⟨h1, h2, h3, h4, b0, f0, e1, -⟩ := hs
  refine MC.of pfJ3_append rfl (fun h => by cases h) 0 rfl rfl ?_
  refine gs_ald0 (pc := 0) dJ3_append_0 ?_
  refine gs_ald0 (pc := 1) dJ3_append_1 ?_
  refine gs_getf (pc := 2) 3 dJ3_append_2 e1 clJ4 in_J4 (by decide) q314 (Or.inl rfl) rfl ?_
  refine gs_iconst (pc := 5) dJ3_append_5 ?_
  refine gs_iadd (pc := 6) dJ3_append_6 ?_
  rw [show (s.length : Int) + 1 = ((s.length + 1 : Nat) : Int) by omega]
  refine gs_P1v (pc := 7) dJ3_append_7 kJ3_100_J4 e1 clJ4 (by decide) (Nat.le_of_ble_eq_true rfl) (c_ensure hs' ⟨by omega, by omega⟩) (fun hp1 hq => ?_)
  obtain ⟨cap', q1, q2, q3, q4, q5, q6, b, f, q7, q8, q9, q10⟩ := hq
  refine gs_ald0 (pc := 10) dJ3_append_10 ?_
  refine gs_U0 (pc := 11) dJ3_append_11 kJ3_83_J4 q7 clJ4 (by decide) (Nat.le_of_ble_eq_true rfl) (c_sbLatin q7) (fun v hp2 hq => ?_)
  obtain ⟨rfl, rfl⟩ := hq
  refine gs_if_eq (pc := 14) (tgt := 45) dJ3_append_14 (by decide) (by omega) (fun hn => absurd hn (by decide)) (fun _ => ?_)
  refine gs_ild1 (pc := 17) dJ3_append_17 ?_
  refine gs_S1 (pc := 18) dJ3_append_18 kJ3_191 (by decide) (Nat.le_of_ble_eq_true rfl) (c_canEnc hc) (fun v hp2 hq => ?_)
  obtain ⟨rfl, rfl⟩ := hq
  refine gs_if_eq (pc := 21) (tgt := 45) dJ3_append_21 (by decide) (by omega) (fun hn => absurd hn (by decide)) (fun _ => ?_)
  refine gs_ald0 (pc := 24) dJ3_append_24 ?_
  refine gs_getf (pc := 25) 0 dJ3_append_25 q7 clJ4 in_J4 (by decide) q311 (Or.inl rfl) rfl ?_
  refine gs_ald0 (pc := 28) dJ3_append_28 ?_
  refine gs_dup (pc := 29) dJ3_append_29 rfl ?_
  refine gs_getf (pc := 30) 3 dJ3_append_30 q7 clJ4 in_J4 (by decide) q314 (Or.inl rfl) rfl ?_
  refine gs_dup_x1 (pc := 33) dJ3_append_33 rfl rfl ?_
  refine gs_iconst (pc := 34) dJ3_append_34 ?_
  refine gs_iadd (pc := 35) dJ3_append_35 ?_
  refine gs_putf (pc := 36) 3 (sbC b ((s.length : Int) + 1)) dJ3_append_36 q7 (by omega) clJ4 in_J4 tyJ4 tyJ4_ok nmJ4 (by decide) q314 (Or.inl rfl) rfl (fok_int _) (Nat.le_of_ble_eq_true rfl) rfl ?_
  have g1 := gl_set_self (c := (a + 2, sbC b ((s.length : Int) + 1))) q7 (by omega)
  have hF : Fr X (fun l => l = a + 2) hp (hset hp1 a (a + 2, sbC b ((s.length : Int) + 1))) := q1.set q7 (by omega) rfl ⟨rfl, rfl⟩
  have hne : b ≠ a := by intro e; subst e; rw [q7] at q8; cases q8
  have g2 : gl X (hset hp1 a (a + 2, sbC b ((s.length : Int) + 1))) b = some (a + 2, .inl (2, cap', .inl f)) := by rw [gl_set_ne hne]; exact q8
  generalize hh : hset hp1 a (a + 2, sbC b ((s.length : Int) + 1)) = hp2 at g1 g2 hF ⊢
  have hc1 : hp2.1 = hp1.1 := by rw [← hh]; rfl
  have hc2 : hp2.2.1 = hp1.2.1 := by rw [← hh]; rfl
  refine gs_ild1 (pc := 39) dJ3_append_39 ?_
  refine gs_i2b (pc := 40) dJ3_append_40 (i_b hc) ?_
  refine gs_bast (pc := 41) dJ3_append_41 g2 (by omega) (by omega) (by omega) (i_nb hc) ?_
  refine gs_goto (pc := 42) (tgt := 75) dJ3_append_42 (by decide) ?_
  refine gs_ald0 (pc := 75) dJ3_append_75 ?_
  refine gs_aret (pc := 76) dJ3_append_76 rfl (Or.inl ⟨_, rfl⟩) ?_
  have g3 := gl_set_self (c := (a + 2, Sum.inl (2, cap', Sum.inl (fup f (s.length : Int) c)))) g2 (by omega)
  have hF2 : Fr X (fun l => l = a + 2) hp (hset hp2 b (a + 2, Sum.inl (2, cap', Sum.inl (fup f (s.length : Int) c)))) := hF.set g2 (by omega) rfl ⟨rfl, rfl, rfl⟩
  refine ⟨_, rfl, rfl, cap', hF2, q2, ?_, ?_, ?_⟩
  · show hp2.1 ≤ _; omega
  · show hp2.2.1 ≤ _; omega
  · refine ⟨sok_app h1 (fun x hx => by rw [List.mem_singleton.mp hx]; exact hc), by rw [List.length_append]; exact q3, by omega, ?_, b, fup f (s.length : Int) c, ?_, g3, fun i hi => ?_, fun i hi => ?_⟩
    · rw [List.length_append, List.length_singleton]; omega
    · rw [gl_set_ne (Ne.symm hne), g1, List.length_append, List.length_singleton]; rfl
    · rw [List.length_append, List.length_singleton] at hi
      by_cases q : i < s.length
      · rw [fup_ne (by omega), getD_app_lo q]; exact q9 i q
      · obtain rfl : i = s.length + 0 := by omega
        rw [getD_app_hi, show ((s.length + 0 : Nat) : Int) = (s.length : Int) by omega, fup_eq]; rfl
    · by_cases q : i = s.length
      · subst q; rw [fup_eq]; exact hc
      · rw [fup_ne (by omega)]; exact q10 i hi
theorem c_sbC {a cap : Nat} {s : List Int} {c : Int} (hs : isSB X hp a s cap) (hc : 0 ≤ c ∧ c ≤ 127) (hl : s.length < 300) : MV X yJ4_append fJ4_append 6 [vR (some a), vI c] hp (fun v hp' => v = vR (some a) ∧ ∃ cap', sbApp X hp hp' a s cap [c] cap') := by
  have hs' := hs
  obtain ⟨h1, h2, h3, h4, b0, f0, e1, -⟩ := hs
  refine MC.of pfJ4_append rfl (fun h => by cases h) 0 rfl rfl ?_
  refine gs_ald0 (pc := 0) dJ4_append_0 ?_
  refine gs_ild1 (pc := 1) dJ4_append_1 ?_
  refine gs_SU1 (pc := 2) dJ4_append_2 kJ4_50 e1 clJ4 (by decide) (Nat.le_of_ble_eq_true rfl) (c_asbC hs' hc hl) (fun v hp1 hq => ?_)
  obtain ⟨rfl, hq⟩ := hq
  refine gs_pop (pc := 5) dJ4_append_5 rfl ?_
  refine gs_ald0 (pc := 6) dJ4_append_6 ?_
  refine gs_aret (pc := 7) dJ4_append_7 rfl (Or.inl ⟨_, rfl⟩) ?_
  exact ⟨_, rfl, rfl, hq⟩
theorem c_getBytes {a b l cap i : Nat} {s : List Int} {f : Int → Int} (hs : isS X hp a s) (hb : gl X hp b = some (l, .inl (2, cap, .inl f))) (hl : l ≠ 0) (hi : i + s.length ≤ cap) (hc : cap ≤ 1000) : M0 X yJ5_getBytes fJ5_getBytes 2 [vR (some a), vR (some b), vI (i : Int), vI 0] hp (fun hp' => ∃ g, hp' = hset hp b (l, .inl (2, cap, .inl g)) ∧ (∀ j : Nat, j < s.length → g ((i + j : Nat) : Int) = s.getD j 0) ∧ ∀ j : Nat, (j < i ∨ i + s.length ≤ j) → g (j : Int) = f (j : Int)) := by
  obtain ⟨h1, h2, lb, b', x, z, e1, e2, lb2, f', e3, e4, e5⟩ := hs
  refine MC.of pfJ5_getBytes rfl (fun h => by cases h) 0 rfl rfl ?_
  refine gs_ald0 (pc := 0) dJ5_getBytes_0 ?_
  refine gs_V0 (pc := 1) dJ5_getBytes_1 kJ5_335 e2 clJ5 (by decide) (Nat.le_of_ble_eq_true rfl) (c_coder e2) (fun v hp1 hq => ?_)
  obtain ⟨rfl, rfl⟩ := hq
  refine gs_ild3 (pc := 4) dJ5_getBytes_4 ?_
  refine gs_ic_ne (pc := 5) (tgt := 28) dJ5_getBytes_5 (by decide) (by omega) (fun hn => absurd rfl hn) (fun _ => ?_)
  refine gs_ald0 (pc := 8) dJ5_getBytes_8 ?_
  refine gs_getf (pc := 9) 0 dJ5_getBytes_9 e2 clJ5 in_J5 (by decide) q469 (Or.inl rfl) rfl ?_
  refine gs_iconst (pc := 12) dJ5_getBytes_12 ?_
  refine gs_ald1 (pc := 13) dJ5_getBytes_13 ?_
  refine gs_ild2 (pc := 14) dJ5_getBytes_14 ?_
  refine gs_ild3 (pc := 15) dJ5_getBytes_15 ?_
  refine gs_ishl (pc := 16) dJ5_getBytes_16 (i_shl0 _) ?_
  refine gs_ald0 (pc := 17) dJ5_getBytes_17 ?_
  refine gs_getf (pc := 18) 0 dJ5_getBytes_18 e2 clJ5 in_J5 (by decide) q469 (Or.inl rfl) rfl ?_
  refine gs_alen (pc := 21) dJ5_getBytes_21 e4 ?_
  refine gs_copyI (pc := 22) 2 (by decide) dJ5_getBytes_22 q1644 q365 q364 q110 e4 hb hl (by omega) (by omega) (by omega) (fun x h1' h2' => by obtain ⟨y, rfl⟩ : ∃ y : Nat, x = (y : Int) := ⟨x.toNat, by omega⟩; rw [e5 y (by omega)]; exact i_fb (h1.at y)) (by decide) (Nat.le_of_ble_eq_true rfl) ?_
  refine gs_goto (pc := 25) (tgt := 43) dJ5_getBytes_25 (by decide) ?_
  refine gs_vret (pc := 43) dJ5_getBytes_43 rfl ?_
  refine ⟨rfl, _, rfl, fun j hj => ?_, fun j hj => ?_⟩
  · show cpy f' _ _ _ _ _ = _
    unfold cpy
    rw [if_pos (by omega), show (0 : Int) + (((i + j : Nat) : Int) - (i : Int)) = (j : Int) by omega]; exact e5 j hj
  · show cpy f' _ _ _ _ _ = _
    unfold cpy
    rw [if_neg (by omega)]
theorem c_infl {a b n : Nat} {c : Nat} {s : List Int} (ha : gl X hp a = some (a + 2, sbC b n)) (hs : isS X hp c s) : M0 X yJ3_inflateIfNeededFor fJ3_inflateIfNeededFor 2 [vR (some a), vR (some c)] hp (fun hp' => hp = hp') := by
  obtain ⟨h1, h2, lb, b', x, z, e1, e2, -⟩ := hs
  refine MC.of pfJ3_inflateIfNeededFor rfl (fun h => by cases h) 0 rfl rfl ?_
  refine gs_gets (pc := 0) 0 (by decide) dJ3_inflateIfNeededFor_0 q302 (Or.inl rfl) ?_
  refine gs_if_eq (pc := 3) (tgt := 21) dJ3_inflateIfNeededFor_3 (by decide) (by omega) (fun hn => absurd hn (by decide)) (fun _ => ?_)
  refine gs_ald0 (pc := 6) dJ3_inflateIfNeededFor_6 ?_
  refine gs_getf (pc := 7) 1 dJ3_inflateIfNeededFor_7 ha clJ4 in_J4 (by decide) q312 (Or.inl rfl) rfl ?_
  refine gs_ald1 (pc := 10) dJ3_inflateIfNeededFor_10 ?_
  refine gs_V0 (pc := 11) dJ3_inflateIfNeededFor_11 kJ3_40 e2 clJ5 (by decide) (Nat.le_of_ble_eq_true rfl) (c_coder e2) (fun v hp1 hq => ?_)
  obtain ⟨rfl, rfl⟩ := hq
  refine gs_ic_eq (pc := 14) (tgt := 21) dJ3_inflateIfNeededFor_14 (by decide) (by omega) (fun _ => ?_) (fun hn => absurd rfl hn)
  refine gs_vret (pc := 21) dJ3_inflateIfNeededFor_21 rfl ?_
  exact ⟨rfl, rfl⟩
theorem c_putStr {a b l cap i : Nat} {n : Nat} {c : Nat} {s : List Int} {f : Int → Int} (ha : gl X hp a = some (a + 2, sbC b n)) (hs : isS X hp c s) (hb : gl X hp b = some (l, .inl (2, cap, .inl f))) (hl : l ≠ 0) (hi : i + s.length ≤ cap) (hc : cap ≤ 1000) : M0 X yJ3_putStringAt fJ3_putStringAt 3 [vR (some a), vI (i : Int), vR (some c)] hp (fun hp' => ∃ g, hp' = hset hp b (l, .inl (2, cap, .inl g)) ∧ (∀ j : Nat, j < s.length → g ((i + j : Nat) : Int) = s.getD j 0) ∧ ∀ j : Nat, (j < i ∨ i + s.length ≤ j) → g (j : Int) = f (j : Int)) := by
  have hs' := hs
  obtain ⟨h1, h2, lb, b', x, z, e1, e2, -⟩ := hs
  refine MC.of pfJ3_putStringAt rfl (fun h => by cases h) 0 rfl rfl ?_
  refine gs_ald0 (pc := 0) dJ3_putStringAt_0 ?_
  refine gs_ald2 (pc := 1) dJ3_putStringAt_1 ?_
  refine gs_P1v (pc := 2) dJ3_putStringAt_2 kJ3_397_J4 ha clJ4 (by decide) (Nat.le_of_ble_eq_true rfl) (c_infl ha hs') (fun hp1 hq => ?_)
  obtain ⟨rfl⟩ := hq
  refine gs_ald2 (pc := 5) dJ3_putStringAt_5 ?_
  refine gs_ald0 (pc := 6) dJ3_putStringAt_6 ?_
  refine gs_getf (pc := 7) 0 dJ3_putStringAt_7 ha clJ4 in_J4 (by decide) q311 (Or.inl rfl) rfl ?_
  refine gs_ild1 (pc := 10) dJ3_putStringAt_10 ?_
  refine gs_ald0 (pc := 11) dJ3_putStringAt_11 ?_
  refine gs_getf (pc := 12) 1 dJ3_putStringAt_12 ha clJ4 in_J4 (by decide) q312 (Or.inl rfl) rfl ?_
  refine gs_V3v (pc := 15) dJ3_putStringAt_15 kJ3_399 e2 clJ5 (by decide) (Nat.le_of_ble_eq_true rfl) (c_getBytes hs' hb hl hi hc) (fun hp1 hq => ?_)
  refine gs_vret (pc := 18) dJ3_putStringAt_18 rfl ?_
  exact ⟨rfl, hq⟩
theorem c_asbS {a cap c : Nat} {s t : List Int} (hs : isSB X hp a s cap) (ht : isS X hp c t) (hl : s.length + t.length ≤ 300) : MV X yJ3_append_2 fJ3_append_2 5 [vR (some a), vR (some c)] hp (fun v hp' => v = vR (some a) ∧ ∃ cap', sbApp X hp hp' a s cap t cap') := by
  have hs' := hs
  have ht' := ht
  obtain ⟨h1, h2, h3, h4, b0, f0, e1, -⟩ := hs
  obtain ⟨t1, t2, lb, b', x, z, u1, u2, -⟩ := ht
  refine MC.of pfJ3_append_2 rfl (fun h => by cases h) 1 rfl rfl ?_
  refine gs_ald1 (pc := 0) dJ3_append_2_0 ?_
  refine gs_ifnonnull (pc := 1) (tgt := 9) dJ3_append_2_1 (by decide) (fun _ _ => ?_) (fun h => by cases h)
  refine gs_ald1 (pc := 9) dJ3_append_2_9 ?_
  refine gs_V0 (pc := 10) dJ3_append_2_10 kJ3_32 u2 clJ5 (by decide) (Nat.le_of_ble_eq_true rfl) (c_slen ht') (fun v hp1 hq => ?_)
  obtain ⟨rfl, rfl⟩ := hq
  refine gs_ist2 (pc := 13) dJ3_append_2_13 rfl ?_
  refine gs_ald0 (pc := 14) dJ3_append_2_14 ?_
  refine gs_ald0 (pc := 15) dJ3_append_2_15 ?_
  refine gs_getf (pc := 16) 3 dJ3_append_2_16 e1 clJ4 in_J4 (by decide) q314 (Or.inl rfl) rfl ?_
  refine gs_ild2 (pc := 19) dJ3_append_2_19 ?_
  refine gs_iadd (pc := 20) dJ3_append_2_20 ?_
  rw [show (s.length : Int) + (t.length : Int) = ((s.length + t.length : Nat) : Int) by omega]
  refine gs_P1v (pc := 21) dJ3_append_2_21 kJ3_100_J4 e1 clJ4 (by decide) (Nat.le_of_ble_eq_true rfl) (c_ensure hs' ⟨by omega, by omega⟩) (fun hp1 hq => ?_)
  obtain ⟨cap', q1, q2, q3, q4, q5, q6, b, f, q7, q8, q9, q10⟩ := hq
  have ht1 := ht'.fr q1 (fun l h => by omega)
  refine gs_ald0 (pc := 24) dJ3_append_2_24 ?_
  refine gs_ald0 (pc := 25) dJ3_append_2_25 ?_
  refine gs_getf (pc := 26) 3 dJ3_append_2_26 q7 clJ4 in_J4 (by decide) q314 (Or.inl rfl) rfl ?_
  refine gs_ald1 (pc := 29) dJ3_append_2_29 ?_
  refine gs_P2v (pc := 30) dJ3_append_2_30 kJ3_208_J4 q7 clJ4 (by decide) (Nat.le_of_ble_eq_true rfl) (c_putStr q7 ht1 q8 (by omega) (by omega) (by omega)) (fun hp2 hq => ?_)
  obtain ⟨g, rfl, w1, w2⟩ := hq
  have hne : a ≠ b := by intro e; subst e; rw [q7] at q8; cases q8
  have g2 := gl_set_self (c := (a + 2, Sum.inl (2, cap', Sum.inl g))) q8 (by omega)
  have hF2 : Fr X (fun l => l = a + 2) hp (hset hp1 b (a + 2, Sum.inl (2, cap', Sum.inl g))) := q1.set q8 (by omega) rfl ⟨rfl, rfl, rfl⟩
  have q7' : gl X (hset hp1 b (a + 2, Sum.inl (2, cap', Sum.inl g))) a = some (a + 2, sbC b s.length) := by rw [gl_set_ne hne]; exact q7
  generalize hh : hset hp1 b (a + 2, Sum.inl (2, cap', Sum.inl g)) = hp2 at g2 hF2 q7' ⊢
  have hc1 : hp2.1 = hp1.1 := by rw [← hh]; rfl
  have hc2 : hp2.2.1 = hp1.2.1 := by rw [← hh]; rfl
  refine gs_ald0 (pc := 33) dJ3_append_2_33 ?_
  refine gs_dup (pc := 34) dJ3_append_2_34 rfl ?_
  refine gs_getf (pc := 35) 3 dJ3_append_2_35 q7' clJ4 in_J4 (by decide) q314 (Or.inl rfl) rfl ?_
  refine gs_ild2 (pc := 38) dJ3_append_2_38 ?_
  refine gs_iadd (pc := 39) dJ3_append_2_39 ?_
  refine gs_putf (pc := 40) 3 (sbC b ((s.length : Int) + (t.length : Int))) dJ3_append_2_40 q7' (by omega) clJ4 in_J4 tyJ4 tyJ4_ok nmJ4 (by decide) q314 (Or.inl rfl) rfl (fok_int _) (Nat.le_of_ble_eq_true rfl) rfl ?_
  refine gs_ald0 (pc := 43) dJ3_append_2_43 ?_
  refine gs_aret (pc := 44) dJ3_append_2_44 rfl (Or.inl ⟨_, rfl⟩) ?_
  have g3 := gl_set_self (c := (a + 2, sbC b ((s.length : Int) + (t.length : Int)))) q7' (by omega)
  have hF3 : Fr X (fun l => l = a + 2) hp (hset hp2 a (a + 2, sbC b ((s.length : Int) + (t.length : Int)))) := hF2.set q7' (by omega) rfl ⟨rfl, rfl⟩
  refine ⟨_, rfl, rfl, cap', hF3, q2, ?_, ?_, ?_⟩
  · show hp2.1 ≤ _; omega
  · show hp2.2.1 ≤ _; omega
  · refine ⟨sok_app h1 t1, by rw [List.length_append]; exact q3, by omega, ?_, b, g, ?_, ?_, fun i hi => ?_, fun i hi => ?_⟩
    · rw [List.length_append]; omega
    · rw [g3, List.length_append, show ((s.length + t.length : Nat) : Int) = (s.length : Int) + (t.length : Int) by omega]
    · rw [gl_set_ne (Ne.symm hne)]; exact g2
    · rw [List.length_append] at hi
      by_cases q : i < s.length
      · rw [w2 i (Or.inl q), getD_app_lo q]; exact q9 i q
      · obtain ⟨j, rfl⟩ : ∃ j, i = s.length + j := ⟨i - s.length, by omega⟩
        rw [w1 j (by omega), getD_app_hi]
    · by_cases q : i < s.length ∨ s.length + t.length ≤ i
      · rw [w2 i q]; exact q10 i hi
      · obtain ⟨j, rfl⟩ : ∃ j, i = s.length + j := ⟨i - s.length, by omega⟩
        rw [w1 j (by omega)]; exact t1.at j
theorem c_sbS {a cap c : Nat} {s t : List Int} (hs : isSB X hp a s cap) (ht : isS X hp c t) (hl : s.length + t.length ≤ 300) : MV X yJ4_append_2 fJ4_append_2 6 [vR (some a), vR (some c)] hp (fun v hp' => v = vR (some a) ∧ ∃ cap', sbApp X hp hp' a s cap t cap') := by
  have hs' := hs
  obtain ⟨h1, h2, h3, h4, b0, f0, e1, -⟩ := hs
  refine MC.of pfJ4_append_2 rfl (fun h => by cases h) 0 rfl rfl ?_
  refine gs_ald0 (pc := 0) dJ4_append_2_0 ?_
  refine gs_ald1 (pc := 1) dJ4_append_2_1 ?_
  refine gs_SU1 (pc := 2) dJ4_append_2_2 kJ4_29 e1 clJ4 (by decide) (Nat.le_of_ble_eq_true rfl) (c_asbS hs' ht hl) (fun v hp1 hq => ?_)
  obtain ⟨rfl, hq⟩ := hq
  refine gs_pop (pc := 5) dJ4_append_2_5 rfl ?_
  refine gs_ald0 (pc := 6) dJ4_append_2_6 ?_
  refine gs_aret (pc := 7) dJ4_append_2_7 rfl (Or.inl ⟨_, rfl⟩) ?_
  exact ⟨_, rfl, rfl, hq⟩
theorem c_getVal {a b : Nat} {n : Int} (ha : gl X hp a = some (a + 2, sbC b n)) : MV X yJ3_getValue fJ3_getValue 1 [vR (some a)] hp (fun v hp' => v = vR (some b) ∧ hp = hp') := by
  refine MC.of pfJ3_getValue rfl (fun h => by cases h) 0 rfl rfl ?_
  refine gs_ald0 (pc := 0) dJ3_getValue_0 ?_
  refine gs_getf (pc := 1) 0 dJ3_getValue_1 ha clJ4 in_J4 (by decide) q311 (Or.inl rfl) rfl ?_
  refine gs_aret (pc := 4) dJ3_getValue_4 rfl (Or.inr ⟨_, rfl⟩) ?_
  exact ⟨_, rfl, rfl, rfl⟩
theorem c_asbLen {a b : Nat} {n : Int} (ha : gl X hp a = some (a + 2, sbC b n)) : MV X yJ3_length fJ3_length 1 [vR (some a)] hp (fun v hp' => v = vI n ∧ hp = hp') := by
  refine MC.of pfJ3_length rfl (fun h => by cases h) 0 rfl rfl ?_
  refine gs_ald0 (pc := 0) dJ3_length_0 ?_
  refine gs_getf (pc := 1) 3 dJ3_length_1 ha clJ4 in_J4 (by decide) q314 (Or.inl rfl) rfl ?_
  refine gs_iret (pc := 4) dJ3_length_4 rfl ?_
  exact ⟨_, rfl, rfl, rfl⟩
end SB2
