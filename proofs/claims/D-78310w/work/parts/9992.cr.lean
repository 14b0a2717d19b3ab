/-! THE COMPONENT: tokens, the small methods. -/
section CR
variable {X : gCx} {hp hp1 hp2 hz : gHp} {S0 : Nat → Prop} {S : SS} {a c s t n p q : Nat} {x y : List Int} {xs us : List Nat} {tl : List (List Int)}
theorem getD_drp (x : List Int) (p j : Nat) : (x.drop p).getD j 0 = x.getD (p + j) 0 := by
  rw [List.getD_eq_getElem?_getD, List.getD_eq_getElem?_getD, List.getElem?_drop]
theorem trip_drp (x : List Int) (p : Nat) : trip (x.drop p) = decide (x.getD p 0 = 34 ∧ x.getD (p + 1) 0 = 34 ∧ x.getD (p + 2) 0 = 34) := by
  unfold trip
  rw [getD_drp, getD_drp, getD_drp]
  rfl
theorem drp_cons {x : List Int} {p : Nat} (h : p < x.length) : x.drop p = x.getD p 0 :: x.drop (p + 1) := by
  rw [List.drop_eq_getElem_cons h, List.getD_eq_getElem?_getD, List.getElem?_eq_getElem h]
  rfl
theorem c_isLiteral (hs : isS X hp a x) (hpl : p ≤ 1000) : MV X yX5_isLiteral fX5_isLiteral 5 [vR (some a), vI (p : Int)] hp (fun r hp' => r = vI (b2i (trip (x.drop p))) ∧ hp = hp') := by
  have h1000 := hs.2.1
  obtain ⟨lb, b, hh, z, es⟩ := hs.cell
  rw [trip_drp]
  refine MC.of pfX5_isLiteral rfl (fun h => by cases h) 0 rfl rfl ?_
  have e1 : (p : Int) + 1 = ((p + 1 : Nat) : Int) := by omega
  have e2 : (p : Int) + 2 = ((p + 2 : Nat) : Int) := by omega
  by_cases h0 : p + 2 < x.length
  · refine gs_ild1 (pc := 0) dX5_isLiteral_0 ?_
    refine gs_iconst (pc := 1) dX5_isLiteral_1 ?_
    refine gs_iadd (pc := 2) dX5_isLiteral_2 ?_
    refine gs_ald0 (pc := 3) dX5_isLiteral_3 ?_
    refine gs_V0 (pc := 4) dX5_isLiteral_4 kX5_93 es clJ5 (by decide) (Nat.le_of_ble_eq_true rfl) (c_slen hs) (fun v hp1 hq => ?_)
    obtain ⟨rfl, rfl⟩ := hq
    refine gs_ic_ge (pc := 7) (tgt := 48) dX5_isLiteral_7 (by decide) (by omega) (fun hn => absurd hn (by omega)) (fun _ => ?_)
    refine gs_ald0 (pc := 10) dX5_isLiteral_10 ?_
    refine gs_ild1 (pc := 11) dX5_isLiteral_11 ?_
    refine gs_V1 (pc := 12) dX5_isLiteral_12 kX5_96 es clJ5 (by decide) (Nat.le_of_ble_eq_true rfl) (c_char hs (i := p) (by omega)) (fun v hp1 hq => ?_)
    obtain ⟨rfl, rfl⟩ := hq
    refine gs_bipush (pc := 15) dX5_isLiteral_15 rfl ?_
    refine gs_ic_ne (pc := 17) (tgt := 48) dX5_isLiteral_17 (by decide) (by have := hs.1.at p; omega) (fun h1 => ?_) (fun h1 => ?_)
    · refine gs_iconst (pc := 48) dX5_isLiteral_48 ?_
      refine gs_zret (pc := 49) .boolean dX5_isLiteral_49 rfl rfl ?_
      exact ⟨_, rfl, by rw [decide_eq_false (fun h => h1 h.1)]; rfl, rfl⟩
    · refine gs_ald0 (pc := 20) dX5_isLiteral_20 ?_
      refine gs_ild1 (pc := 21) dX5_isLiteral_21 ?_
      refine gs_iconst (pc := 22) dX5_isLiteral_22 ?_
      refine gs_iadd (pc := 23) dX5_isLiteral_23 ?_
      rw [e1]
      refine gs_V1 (pc := 24) dX5_isLiteral_24 kX5_96 es clJ5 (by decide) (Nat.le_of_ble_eq_true rfl) (c_char hs (i := p + 1) (by omega)) (fun v hp1 hq => ?_)
      obtain ⟨rfl, rfl⟩ := hq
      refine gs_bipush (pc := 27) dX5_isLiteral_27 rfl ?_
      refine gs_ic_ne (pc := 29) (tgt := 48) dX5_isLiteral_29 (by decide) (by have := hs.1.at (p + 1); omega) (fun h2 => ?_) (fun h2 => ?_)
      · refine gs_iconst (pc := 48) dX5_isLiteral_48 ?_
        refine gs_zret (pc := 49) .boolean dX5_isLiteral_49 rfl rfl ?_
        exact ⟨_, rfl, by rw [decide_eq_false (fun h => h2 h.2.1)]; rfl, rfl⟩
      · refine gs_ald0 (pc := 32) dX5_isLiteral_32 ?_
        refine gs_ild1 (pc := 33) dX5_isLiteral_33 ?_
        refine gs_iconst (pc := 34) dX5_isLiteral_34 ?_
        refine gs_iadd (pc := 35) dX5_isLiteral_35 ?_
        rw [e2]
        refine gs_V1 (pc := 36) dX5_isLiteral_36 kX5_96 es clJ5 (by decide) (Nat.le_of_ble_eq_true rfl) (c_char hs (i := p + 2) (by omega)) (fun v hp1 hq => ?_)
        obtain ⟨rfl, rfl⟩ := hq
        refine gs_bipush (pc := 39) dX5_isLiteral_39 rfl ?_
        refine gs_ic_ne (pc := 41) (tgt := 48) dX5_isLiteral_41 (by decide) (by have := hs.1.at (p + 2); omega) (fun h3 => ?_) (fun h3 => ?_)
        · refine gs_iconst (pc := 48) dX5_isLiteral_48 ?_
          refine gs_zret (pc := 49) .boolean dX5_isLiteral_49 rfl rfl ?_
          exact ⟨_, rfl, by rw [decide_eq_false (fun h => h3 h.2.2)]; rfl, rfl⟩
        · refine gs_iconst (pc := 44) dX5_isLiteral_44 ?_
          refine gs_goto (pc := 45) (tgt := 49) dX5_isLiteral_45 (by decide) ?_
          refine gs_zret (pc := 49) .boolean dX5_isLiteral_49 rfl rfl ?_
          exact ⟨_, rfl, by rw [decide_eq_true ⟨h1, h2, h3⟩]; rfl, rfl⟩
  · refine gs_ild1 (pc := 0) dX5_isLiteral_0 ?_
    refine gs_iconst (pc := 1) dX5_isLiteral_1 ?_
    refine gs_iadd (pc := 2) dX5_isLiteral_2 ?_
    refine gs_ald0 (pc := 3) dX5_isLiteral_3 ?_
    refine gs_V0 (pc := 4) dX5_isLiteral_4 kX5_93 es clJ5 (by decide) (Nat.le_of_ble_eq_true rfl) (c_slen hs) (fun v hp1 hq => ?_)
    obtain ⟨rfl, rfl⟩ := hq
    refine gs_ic_ge (pc := 7) (tgt := 48) dX5_isLiteral_7 (by decide) (by omega) (fun _ => ?_) (fun hn => absurd (by omega) hn)
    refine gs_iconst (pc := 48) dX5_isLiteral_48 ?_
    refine gs_zret (pc := 49) .boolean dX5_isLiteral_49 rfl rfl ?_
    exact ⟨_, rfl, by rw [decide_eq_false (fun h => by have := h.2.2; rw [List.getD_eq_getElem?_getD, List.getElem?_eq_none (by omega)] at this; cases this)]; rfl, rfl⟩
/-- the tokens' own cell -/
def tkC (s al tx nr fa pr : Nat) (op : Int) : gCe := .inr (5, [vR (some s), vR (some al), vR (some tx), vI (nr : Int), vR (some fa), vR (some pr), vI op])
theorem c_literalEnd {al tx nr fa pr : Nat} {op : Int} (hs : isS X hp a x) (ht : gl X hp t = some (t + 2, tkC s al tx nr fa pr op)) (hp0 : p ≤ x.length) : MV X yX5_literalEnd fX5_literalEnd 6 [vR (some t), vR (some a), vI (p : Int)] hp (fun r hp' => (∃ n, litS (x.drop p) = some n ∧ r = vI ((p + n : Nat) : Int) ∧ hp' = hset hp t (t + 2, tkC s al tx nr fa pr 0)) ∨ (litS (x.drop p) = none ∧ r = vI (x.length : Int) ∧ hp' = hp)) := by
  have h1000 := hs.2.1
  obtain ⟨lb, b, hh, z, es⟩ := hs.cell
  refine MC.of pfX5_literalEnd rfl (fun h => by cases h) 1 rfl rfl ?_
  refine gs_ild2 (pc := 0) dX5_literalEnd_0 ?_
  refine gs_ist3 (pc := 1) dX5_literalEnd_1 rfl ?_
  have loop : ∀ (m q : Nat), q + m = x.length → G X fX5_literalEnd 6 2 [some (vR (some t)), some (vR (some a)), some (vI (p : Int)), some (vI (q : Int))] [] hp (fun r hp' => ∃ u, r = some u ∧ ((∃ n, litS (x.drop q) = some n ∧ u = vI ((q + n : Nat) : Int) ∧ hp' = hset hp t (t + 2, tkC s al tx nr fa pr 0)) ∨ (litS (x.drop q) = none ∧ u = vI (x.length : Int) ∧ hp' = hp))) := by
    intro m
    induction m with
    | zero =>
      intro q hq
      refine gs_ild3 (pc := 2) dX5_literalEnd_2 ?_
      refine gs_ald1 (pc := 3) dX5_literalEnd_3 ?_
      refine gs_V0 (pc := 4) dX5_literalEnd_4 kX5_93 es clJ5 (by decide) (Nat.le_of_ble_eq_true rfl) (c_slen hs) (fun v hp1 hq => ?_)
      obtain ⟨rfl, rfl⟩ := hq
      refine gs_ic_ge (pc := 7) (tgt := 33) dX5_literalEnd_7 (by decide) (by omega) (fun _ => ?_) (fun hn => absurd (by omega) hn)
      refine gs_ild3 (pc := 33) dX5_literalEnd_33 ?_
      refine gs_iret (pc := 34) dX5_literalEnd_34 rfl ?_
      refine ⟨_, rfl, Or.inr ⟨?_, ?_, rfl⟩⟩
      · rw [List.drop_eq_nil_of_le (by omega)]; rfl
      · rw [show q = x.length by omega]
    | succ m ih =>
      intro q hq
      refine gs_ild3 (pc := 2) dX5_literalEnd_2 ?_
      refine gs_ald1 (pc := 3) dX5_literalEnd_3 ?_
      refine gs_V0 (pc := 4) dX5_literalEnd_4 kX5_93 es clJ5 (by decide) (Nat.le_of_ble_eq_true rfl) (c_slen hs) (fun v hp1 hq => ?_)
      obtain ⟨rfl, rfl⟩ := hq
      refine gs_ic_ge (pc := 7) (tgt := 33) dX5_literalEnd_7 (by decide) (by omega) (fun hn => absurd hn (by omega)) (fun _ => ?_)
      rw [litS_drop (by omega)]
      refine gs_ald1 (pc := 10) dX5_literalEnd_10 ?_
      refine gs_ild3 (pc := 11) dX5_literalEnd_11 ?_
      refine gs_S2 (pc := 12) dX5_literalEnd_12 kX5_100 (by decide) (Nat.le_of_ble_eq_true rfl) (c_isLiteral hs (by omega)) (fun v hp1 hq => ?_)
      obtain ⟨rfl, rfl⟩ := hq
      refine gs_beq (pc := 15) (tgt := 27) dX5_literalEnd_15 (by decide) (fun h1 => ?_) (fun h1 => ?_)
      · refine gs_inc3 (pc := 27) dX5_literalEnd_27 rfl ?_
        rw [if_neg (by rw [h1]; decide)]
        rw [show (q : Int) + 1 = ((q + 1 : Nat) : Int) by omega]
        refine gs_goto (pc := 30) (tgt := 2) dX5_literalEnd_30 (by decide) ?_
        refine G.mono ?_ (ih (q + 1) (by omega))
        rintro r hp' ⟨u, hu, h⟩
        refine ⟨u, hu, ?_⟩
        rcases h with ⟨n, h1, h2, h3⟩ | ⟨h1, h2, h3⟩
        · exact Or.inl ⟨n + 1, by rw [h1]; rfl, by rw [h2]; congr 1; omega, h3⟩
        · exact Or.inr ⟨by rw [h1]; rfl, h2, h3⟩
      · rw [if_pos h1]
        refine gs_ald0 (pc := 18) dX5_literalEnd_18 ?_
        refine gs_iconst (pc := 19) dX5_literalEnd_19 ?_
        refine gs_putf (pc := 20) 6 (tkC s al tx nr fa pr 0) dX5_literalEnd_20 ht (by omega) clX5 in_X5 tyX5 tyX5_ok nmX5 (by decide) q1452 (Or.inl rfl) rfl (fok_bool (Or.inl rfl)) (Nat.le_of_ble_eq_true rfl) rfl ?_
        refine gs_ild3 (pc := 23) dX5_literalEnd_23 ?_
        refine gs_iconst (pc := 24) dX5_literalEnd_24 ?_
        refine gs_iadd (pc := 25) dX5_literalEnd_25 ?_
        refine gs_iret (pc := 26) dX5_literalEnd_26 rfl ?_
        exact ⟨_, rfl, Or.inl ⟨3, rfl, rfl, rfl⟩⟩
  exact loop (x.length - p) p (by omega)
theorem c_stringEnd (hs : isS X hp a x) (hp0 : p < x.length) : MV X yX5_stringEnd fX5_stringEnd 5 [vR (some a), vI (p : Int)] hp (fun r hp' => r = vI ((p + 1 + strS (x.drop (p + 1)) : Nat) : Int) ∧ hp = hp') := by
  have h1000 := hs.2.1
  obtain ⟨lb, b, hh, z, es⟩ := hs.cell
  refine MC.of pfX5_stringEnd rfl (fun h => by cases h) 1 rfl rfl ?_
  rw [show ((p + 1 + strS (x.drop (p + 1)) : Nat) : Int) = (((p + 1) + strS (x.drop (p + 1)) : Nat) : Int) from rfl]
  have fin : ∀ q r : Nat, q ≤ x.length + 1 → min x.length (q + 1) = r → G X fX5_stringEnd 5 43 [some (vR (some a)), some (vI (p : Int)), some (vI (q : Int))] [] hp (fun u hp' => ∃ v, u = some v ∧ v = vI (r : Int) ∧ hp = hp') := by
    intro q r hq hr
    refine gs_ald0 (pc := 43) dX5_stringEnd_43 ?_
    refine gs_V0 (pc := 44) dX5_stringEnd_44 kX5_93 es clJ5 (by decide) (Nat.le_of_ble_eq_true rfl) (c_slen hs) (fun v hp1 hq => ?_)
    obtain ⟨rfl, rfl⟩ := hq
    refine gs_ild2 (pc := 47) dX5_stringEnd_47 ?_
    refine gs_iconst (pc := 48) dX5_stringEnd_48 ?_
    refine gs_iadd (pc := 49) dX5_stringEnd_49 ?_
    refine gs_S2 (pc := 50) dX5_stringEnd_50 kX5_108 (by decide) (Nat.le_of_ble_eq_true rfl) (c_min _ _ _ (by omega) (by omega)) (fun v hp1 hq => ?_)
    obtain ⟨rfl, rfl⟩ := hq
    refine gs_iret (pc := 53) dX5_stringEnd_53 rfl ?_
    exact ⟨_, rfl, by congr 1; omega, rfl⟩
  have loop : ∀ (m q : Nat), x.length - q ≤ m → q ≤ x.length → G X fX5_stringEnd 5 4 [some (vR (some a)), some (vI (p : Int)), some (vI (q : Int))] [] hp (fun r hp' => ∃ u, r = some u ∧ u = vI ((q + strS (x.drop q) : Nat) : Int) ∧ hp = hp') := by
    intro m
    induction m with
    | zero =>
      intro q hq hq2
      obtain rfl : q = x.length := by omega
      refine gs_ild2 (pc := 4) dX5_stringEnd_4 ?_
      refine gs_ald0 (pc := 5) dX5_stringEnd_5 ?_
      refine gs_V0 (pc := 6) dX5_stringEnd_6 kX5_93 es clJ5 (by decide) (Nat.le_of_ble_eq_true rfl) (c_slen hs) (fun v hp1 hq => ?_)
      obtain ⟨rfl, rfl⟩ := hq
      refine gs_ic_ge (pc := 9) (tgt := 43) dX5_stringEnd_9 (by decide) (by omega) (fun _ => ?_) (fun hn => absurd (by omega) hn)
      refine fin _ _ (by omega) ?_
      rw [List.drop_eq_nil_of_le (Nat.le_refl _)]
      simp [strS]
    | succ m ih =>
      intro q hq hq2
      by_cases hql : q < x.length
      · refine gs_ild2 (pc := 4) dX5_stringEnd_4 ?_
        refine gs_ald0 (pc := 5) dX5_stringEnd_5 ?_
        refine gs_V0 (pc := 6) dX5_stringEnd_6 kX5_93 es clJ5 (by decide) (Nat.le_of_ble_eq_true rfl) (c_slen hs) (fun v hp1 hq => ?_)
        obtain ⟨rfl, rfl⟩ := hq
        refine gs_ic_ge (pc := 9) (tgt := 43) dX5_stringEnd_9 (by decide) (by omega) (fun hn => absurd hn (by omega)) (fun _ => ?_)
        have hcr := hs.1.at q
        rw [drp_cons hql, strS_c]
        refine gs_ald0 (pc := 12) dX5_stringEnd_12 ?_
        refine gs_ild2 (pc := 13) dX5_stringEnd_13 ?_
        refine gs_V1 (pc := 14) dX5_stringEnd_14 kX5_96 es clJ5 (by decide) (Nat.le_of_ble_eq_true rfl) (c_char hs (i := q) hql) (fun v hp1 hq => ?_)
        obtain ⟨rfl, rfl⟩ := hq
        refine gs_bipush (pc := 17) dX5_stringEnd_17 rfl ?_
        refine gs_ic_eq (pc := 19) (tgt := 43) dX5_stringEnd_19 (by decide) (by omega) (fun h1 => ?_) (fun h1 => ?_)
        · rw [if_pos h1]
          exact fin _ _ (by omega) (by omega)
        · rw [if_neg h1]
          refine gs_ild2 (pc := 22) dX5_stringEnd_22 ?_
          refine gs_ald0 (pc := 23) dX5_stringEnd_23 ?_
          refine gs_ild2 (pc := 24) dX5_stringEnd_24 ?_
          refine gs_V1 (pc := 25) dX5_stringEnd_25 kX5_96 es clJ5 (by decide) (Nat.le_of_ble_eq_true rfl) (c_char hs (i := q) hql) (fun v hp1 hq => ?_)
          obtain ⟨rfl, rfl⟩ := hq
          refine gs_bipush (pc := 28) dX5_stringEnd_28 rfl ?_
          refine gs_ic_ne (pc := 30) (tgt := 37) dX5_stringEnd_30 (by decide) (by omega) (fun h2 => ?_) (fun h2 => ?_)
          · rw [if_neg h2]
            refine gs_iconst (pc := 37) dX5_stringEnd_37 ?_
            refine gs_iadd (pc := 38) dX5_stringEnd_38 ?_
            refine gs_ist2 (pc := 39) dX5_stringEnd_39 rfl ?_
            rw [show (q : Int) + 1 = ((q + 1 : Nat) : Int) by omega]
            refine gs_goto (pc := 40) (tgt := 4) dX5_stringEnd_40 (by decide) ?_
            refine G.mono ?_ (ih (q + 1) (by omega) (by omega))
            rintro r hp' ⟨u, hu, h1, h2⟩
            exact ⟨u, hu, by rw [h1]; congr 1; omega, h2⟩
          · rw [if_pos h2]
            refine gs_iconst (pc := 33) dX5_stringEnd_33 ?_
            refine gs_goto (pc := 34) (tgt := 38) dX5_stringEnd_34 (by decide) ?_
            refine gs_iadd (pc := 38) dX5_stringEnd_38 ?_
            refine gs_ist2 (pc := 39) dX5_stringEnd_39 rfl ?_
            rw [show (q : Int) + 2 = ((q + 2 : Nat) : Int) by omega]
            refine gs_goto (pc := 40) (tgt := 4) dX5_stringEnd_40 (by decide) ?_
            by_cases hq3 : q + 1 < x.length
            · rw [drp_cons hq3]
              refine G.mono ?_ (ih (q + 2) (by omega) (by omega))
              rintro r hp' ⟨u, hu, h1, h2⟩
              exact ⟨u, hu, by rw [h1]; show _ = vI ((q + (2 + strS (x.drop (q + 2))) : Nat) : Int); congr 1; omega, h2⟩
            · refine gs_ild2 (pc := 4) dX5_stringEnd_4 ?_
              refine gs_ald0 (pc := 5) dX5_stringEnd_5 ?_
              refine gs_V0 (pc := 6) dX5_stringEnd_6 kX5_93 es clJ5 (by decide) (Nat.le_of_ble_eq_true rfl) (c_slen hs) (fun v hp1 hq => ?_)
              obtain ⟨rfl, rfl⟩ := hq
              refine gs_ic_ge (pc := 9) (tgt := 43) dX5_stringEnd_9 (by decide) (by omega) (fun _ => ?_) (fun hn => absurd (by omega) hn)
              rw [List.drop_eq_nil_of_le (by omega)]
              exact fin _ _ (by omega) (show min x.length (q + 2 + 1) = q + 1 by omega)
      · obtain rfl : q = x.length := by omega
        refine gs_ild2 (pc := 4) dX5_stringEnd_4 ?_
        refine gs_ald0 (pc := 5) dX5_stringEnd_5 ?_
        refine gs_V0 (pc := 6) dX5_stringEnd_6 kX5_93 es clJ5 (by decide) (Nat.le_of_ble_eq_true rfl) (c_slen hs) (fun v hp1 hq => ?_)
        obtain ⟨rfl, rfl⟩ := hq
        refine gs_ic_ge (pc := 9) (tgt := 43) dX5_stringEnd_9 (by decide) (by omega) (fun _ => ?_) (fun hn => absurd (by omega) hn)
        refine fin _ _ (by omega) ?_
        rw [List.drop_eq_nil_of_le (Nat.le_refl _)]
        simp [strS]
  refine gs_ild1 (pc := 0) dX5_stringEnd_0 ?_
  refine gs_iconst (pc := 1) dX5_stringEnd_1 ?_
  refine gs_iadd (pc := 2) dX5_stringEnd_2 ?_
  refine gs_ist2 (pc := 3) dX5_stringEnd_3 rfl ?_
  rw [show (p : Int) + 1 = ((p + 1 : Nat) : Int) by omega]
  exact loop (x.length - (p + 1)) (p + 1) (Nat.le_refl _) (by omega)
theorem c_wordEnd (hs : isS X hp a x) (hp0 : p ≤ x.length) : MV X yX5_wordEnd fX5_wordEnd 5 [vR (some a), vI (p : Int)] hp (fun r hp' => r = vI ((p + wrdS (x.drop p) : Nat) : Int) ∧ hp = hp') := by
  have h1000 := hs.2.1
  obtain ⟨lb, b, hh, z, es⟩ := hs.cell
  refine MC.of pfX5_wordEnd rfl (fun h => by cases h) 1 rfl rfl ?_
  have loop : ∀ (m q : Nat), q + m = x.length → G X fX5_wordEnd 5 2 [some (vR (some a)), some (vI (p : Int)), some (vI (q : Int))] [] hp (fun r hp' => ∃ u, r = some u ∧ u = vI ((q + wrdS (x.drop q) : Nat) : Int) ∧ hp = hp') := by
    intro m
    induction m with
    | zero =>
      intro q hq
      obtain rfl : q = x.length := by omega
      refine gs_ild2 (pc := 2) dX5_wordEnd_2 ?_
      refine gs_ald0 (pc := 3) dX5_wordEnd_3 ?_
      refine gs_V0 (pc := 4) dX5_wordEnd_4 kX5_93 es clJ5 (by decide) (Nat.le_of_ble_eq_true rfl) (c_slen hs) (fun v hp1 hq => ?_)
      obtain ⟨rfl, rfl⟩ := hq
      refine gs_ic_ge (pc := 7) (tgt := 27) dX5_wordEnd_7 (by decide) (by omega) (fun _ => ?_) (fun hn => absurd (by omega) hn)
      refine gs_ild2 (pc := 27) dX5_wordEnd_27 ?_
      refine gs_iret (pc := 28) dX5_wordEnd_28 rfl ?_
      exact ⟨_, rfl, by rw [List.drop_eq_nil_of_le (Nat.le_refl _)]; rfl, rfl⟩
    | succ m ih =>
      intro q hq
      have hcr := hs.1.at q
      refine gs_ild2 (pc := 2) dX5_wordEnd_2 ?_
      refine gs_ald0 (pc := 3) dX5_wordEnd_3 ?_
      refine gs_V0 (pc := 4) dX5_wordEnd_4 kX5_93 es clJ5 (by decide) (Nat.le_of_ble_eq_true rfl) (c_slen hs) (fun v hp1 hq => ?_)
      obtain ⟨rfl, rfl⟩ := hq
      refine gs_ic_ge (pc := 7) (tgt := 27) dX5_wordEnd_7 (by decide) (by omega) (fun hn => absurd hn (by omega)) (fun _ => ?_)
      refine gs_ald0 (pc := 10) dX5_wordEnd_10 ?_
      refine gs_ild2 (pc := 11) dX5_wordEnd_11 ?_
      refine gs_V1 (pc := 12) dX5_wordEnd_12 kX5_96 es clJ5 (by decide) (Nat.le_of_ble_eq_true rfl) (c_char hs (i := q) (by omega)) (fun v hp1 hq => ?_)
      obtain ⟨rfl, rfl⟩ := hq
      refine gs_SN1 (pc := 15) dX5_wordEnd_15 kX5_114 (by decide) (Nat.le_of_ble_eq_true rfl) (c_isWordByte (by omega)) (fun v hp1 hq => ?_)
      obtain ⟨rfl, rfl⟩ := hq
      refine gs_beq (pc := 18) (tgt := 27) dX5_wordEnd_18 (by decide) (fun h1 => ?_) (fun h1 => ?_)
      · refine gs_ild2 (pc := 27) dX5_wordEnd_27 ?_
        refine gs_iret (pc := 28) dX5_wordEnd_28 rfl ?_
        exact ⟨_, rfl, by rw [drp_cons (by omega), wrdS, List.takeWhile_cons_of_neg (by rw [h1]; decide)]; rfl, rfl⟩
      · refine gs_inc2 (pc := 21) dX5_wordEnd_21 rfl ?_
        rw [show (q : Int) + 1 = ((q + 1 : Nat) : Int) by omega]
        refine gs_goto (pc := 24) (tgt := 2) dX5_wordEnd_24 (by decide) ?_
        refine G.mono ?_ (ih (q + 1) (by omega))
        rintro r hp' ⟨u, hu, g1, g2⟩
        refine ⟨u, hu, ?_, g2⟩
        rw [g1, drp_cons (x := x) (p := q) (by omega), wrdS, wrdS, List.takeWhile_cons_of_pos h1, List.length_cons]
        congr 1
        omega
  refine gs_ild1 (pc := 0) dX5_wordEnd_0 ?_
  refine gs_ist2 (pc := 1) dX5_wordEnd_1 rfl ?_
  exact loop (x.length - p) p (by omega)
theorem getL_lo {L M : List (List Int)} {i : Nat} (h : i < L.length) : (L ++ M).getD i [] = L.getD i [] := by
  rw [List.getD_eq_getElem?_getD, List.getElem?_append_left h, ← List.getD_eq_getElem?_getD]
theorem getL_at {L : List (List Int)} {z : List Int} : (L ++ [z]).getD L.length [] = z := by
  rw [List.getD_eq_getElem?_getD, List.getElem?_append_right (Nat.le_refl _), Nat.sub_self]
  rfl
/-- the texts, by number -/
def txP (X : gCx) (hp : gHp) (tx : Nat) (us : List Nat) (tl : List (List Int)) (cap : Nat) : Prop := isAL X hp tx us cap ∧ us.length = tl.length ∧ (∀ i : Nat, i < us.length → isS X hp (us.getD i 0) (tl.getD i [])) ∧ tl.Nodup ∧ cap ≤ 2 * tl.length + 10
theorem txP.fr {tx cap : Nat} (hX : KX X) (h : Fr X S0 hp hp1) (hS : ∀ l, S0 l → 2 ≤ l) (h2 : ¬ S0 (tx + 2)) (hs : txP X hp tx us tl cap) : txP X hp1 tx us tl cap := ⟨hs.1.fr hX h h2, hs.2.1, fun i hi => (hs.2.2.1 i hi).fr h hS, hs.2.2.2⟩
theorem isS.ok (h : isS X hp a x) : okO X hp a := by
  obtain ⟨lb, b, hh, z, es⟩ := h.cell
  exact ⟨lb, 11, _, RJ5, TJ5, 4, es, rfl, q2807⟩
/-- behind wordOf -/
def woP (X : gCx) (hp hp' : gHp) (tx : Nat) (us : List Nat) (tl : List (List Int)) (cap : Nat) (y : List Int) (w : Nat) : Prop := ∃ us' tl' cap', txP X hp' tx us' tl' cap' ∧ tl <+: tl' ∧ tl'.length ≤ tl.length + 1 ∧ w < tl'.length ∧ tl'.getD w [] = y ∧ Fr X (fun l => l = tx + 2) hp hp' ∧ cap ≤ cap' ∧ hp'.1 ≤ hp.1 + (cap' - cap) ∧ hp'.2.1 ≤ hp.2.1 + 4 * (cap' - cap) ∧ (y ∈ tl → tl' = tl ∧ us' = us ∧ cap' = cap ∧ hp' = hp) ∧ ∀ z ∈ tl', z ∈ tl ∨ z = y
theorem c_wordOf {al tx nr fa pr cap : Nat} {op : Int} (hX : KX X) (hs : isS X hp a y) (ht : gl X hp t = some (t + 2, tkC s al tx nr fa pr op)) (hx : txP X hp tx us tl cap) (hl : tl.length ≤ 700) : MV X yX5_wordOf fX5_wordOf 8 [vR (some t), vR (some a)] hp (fun r hp' => ∃ w : Nat, r = vI (w : Int) ∧ woP X hp hp' tx us tl cap y w) := by
  obtain ⟨x1, x2, x3, x4, x5⟩ := hx
  have x1' := x1
  obtain ⟨mc, e, lbe, ff, ea, -⟩ := x1'
  refine MC.of pfX5_wordOf rfl (fun h => by cases h) 1 rfl rfl ?_
  have found : ∀ w : Nat, w < tl.length → tl.getD w [] = y → G X fX5_wordOf 8 37 [some (vR (some t)), some (vR (some a)), some (vI (w : Int))] [] hp (fun r hp' => ∃ u, r = some u ∧ ∃ w : Nat, u = vI (w : Int) ∧ woP X hp hp' tx us tl cap y w) := by
    intro w hw hy
    refine gs_ild2 (pc := 37) dX5_wordOf_37 ?_
    refine gs_ald0 (pc := 38) dX5_wordOf_38 ?_
    refine gs_getf (pc := 39) 2 dX5_wordOf_39 ht clX5 in_X5 (by decide) q1443 (Or.inl rfl) rfl ?_
    refine gs_V0 (pc := 42) dX5_wordOf_42 kX5_56 ea clJ2 (by decide) (Nat.le_of_ble_eq_true rfl) (c_alSize x1) (fun v hp1 hq => ?_)
    obtain ⟨rfl, rfl⟩ := hq
    refine gs_ic_ne (pc := 45) (tgt := 57) dX5_wordOf_45 (by decide) (by omega) (fun _ => ?_) (fun hn => absurd hn (by omega))
    refine gs_ild2 (pc := 57) dX5_wordOf_57 ?_
    refine gs_iret (pc := 58) dX5_wordOf_58 rfl ?_
    refine ⟨_, rfl, w, rfl, us, tl, cap, ⟨x1, x2, x3, x4, x5⟩, List.prefix_refl _, by omega, hw, hy, Fr.refl, Nat.le_refl _, by omega, by omega, fun _ => ⟨rfl, rfl, rfl, rfl⟩, fun z hz => Or.inl hz⟩
  have loop : ∀ (m w : Nat), w + m = tl.length → y ∉ tl.take w → G X fX5_wordOf 8 2 [some (vR (some t)), some (vR (some a)), some (vI (w : Int))] [] hp (fun r hp' => ∃ u, r = some u ∧ ∃ w : Nat, u = vI (w : Int) ∧ woP X hp hp' tx us tl cap y w) := by
    intro m
    induction m with
    | zero =>
      intro w hw hn
      have hwl : w = tl.length := by omega
      rw [hwl, List.take_length] at hn
      refine gs_ild2 (pc := 2) dX5_wordOf_2 ?_
      refine gs_ald0 (pc := 3) dX5_wordOf_3 ?_
      refine gs_getf (pc := 4) 2 dX5_wordOf_4 ht clX5 in_X5 (by decide) q1443 (Or.inl rfl) rfl ?_
      refine gs_V0 (pc := 7) dX5_wordOf_7 kX5_56 ea clJ2 (by decide) (Nat.le_of_ble_eq_true rfl) (c_alSize x1) (fun v hp1 hq => ?_)
      obtain ⟨rfl, rfl⟩ := hq
      refine gs_ic_ge (pc := 10) (tgt := 37) dX5_wordOf_10 (by decide) (by omega) (fun _ => ?_) (fun hn => absurd (by omega) hn)
      refine gs_ild2 (pc := 37) dX5_wordOf_37 ?_
      refine gs_ald0 (pc := 38) dX5_wordOf_38 ?_
      refine gs_getf (pc := 39) 2 dX5_wordOf_39 ht clX5 in_X5 (by decide) q1443 (Or.inl rfl) rfl ?_
      refine gs_V0 (pc := 42) dX5_wordOf_42 kX5_56 ea clJ2 (by decide) (Nat.le_of_ble_eq_true rfl) (c_alSize x1) (fun v hp1 hq => ?_)
      obtain ⟨rfl, rfl⟩ := hq
      refine gs_ic_ne (pc := 45) (tgt := 57) dX5_wordOf_45 (by decide) (by omega) (fun hn => absurd (by omega) hn) (fun _ => ?_)
      refine gs_ald0 (pc := 48) dX5_wordOf_48 ?_
      refine gs_getf (pc := 49) 2 dX5_wordOf_49 ht clX5 in_X5 (by decide) q1443 (Or.inl rfl) rfl ?_
      refine gs_ald1 (pc := 52) dX5_wordOf_52 ?_
      refine gs_V1 (pc := 53) dX5_wordOf_53 kX5_88 ea clJ2 (by decide) (Nat.le_of_ble_eq_true rfl) (c_alAdd hX x1 (by omega) hs.ok) (fun v hq hq => ?_)
      obtain ⟨rfl, r1, cap', ⟨r2, r3, r4, r5⟩, r6⟩ := hq
      refine gs_pop (pc := 56) dX5_wordOf_56 rfl ?_
      refine gs_ild2 (pc := 57) dX5_wordOf_57 ?_
      refine gs_iret (pc := 58) dX5_wordOf_58 rfl ?_
      have hal := hs.fr r1 (fun l hl => by omega)
      refine ⟨_, rfl, w, rfl, us ++ [a], tl ++ [y], cap', ⟨r6, ?_, fun i hi => ?_, ?_, ?_⟩, List.prefix_append _ _, by rw [List.length_append, List.length_singleton]; omega, by rw [List.length_append, List.length_singleton]; omega, ?_, r1, r2, r4, r5, fun h => absurd h hn, fun z hz => ?_⟩
      · rw [List.length_append, List.length_append, List.length_singleton, List.length_singleton, x2]
      · rw [List.length_append, List.length_singleton] at hi
        rw [getD_app1]
        by_cases hi2 : i < us.length
        · rw [if_pos hi2, getL_lo (by omega)]
          exact (x3 i hi2).fr r1 (fun l hl => by omega)
        · rw [if_neg hi2, if_pos (by omega), show i = tl.length by omega, getL_at]
          exact hal
      · rw [List.nodup_append]
        refine ⟨x4, by simp, fun u hu v hv => ?_⟩
        rw [List.mem_singleton] at hv
        intro h
        exact hn (by rw [← hv, ← h]; exact hu)
      · rw [List.length_append, List.length_singleton]; omega
      · rw [List.getD_eq_getElem?_getD, List.getElem?_append_right (by omega), show w - tl.length = 0 by omega]; rfl
      · rcases List.mem_append.mp hz with h | h
        · exact Or.inl h
        · exact Or.inr (List.mem_singleton.mp h)
    | succ m ih =>
      intro w hw hn
      have hsw := x3 w (by omega)
      obtain ⟨lw, bw, hhw, zw, esw⟩ := hsw.cell
      refine gs_ild2 (pc := 2) dX5_wordOf_2 ?_
      refine gs_ald0 (pc := 3) dX5_wordOf_3 ?_
      refine gs_getf (pc := 4) 2 dX5_wordOf_4 ht clX5 in_X5 (by decide) q1443 (Or.inl rfl) rfl ?_
      refine gs_V0 (pc := 7) dX5_wordOf_7 kX5_56 ea clJ2 (by decide) (Nat.le_of_ble_eq_true rfl) (c_alSize x1) (fun v hp1 hq => ?_)
      obtain ⟨rfl, rfl⟩ := hq
      refine gs_ic_ge (pc := 10) (tgt := 37) dX5_wordOf_10 (by decide) (by omega) (fun hn => absurd hn (by omega)) (fun _ => ?_)
      refine gs_ald0 (pc := 13) dX5_wordOf_13 ?_
      refine gs_getf (pc := 14) 2 dX5_wordOf_14 ht clX5 in_X5 (by decide) q1443 (Or.inl rfl) rfl ?_
      refine gs_ild2 (pc := 17) dX5_wordOf_17 ?_
      refine gs_V1 (pc := 18) dX5_wordOf_18 kX5_66 ea clJ2 (by decide) (Nat.le_of_ble_eq_true rfl) (c_alGet x1 (by omega)) (fun v hp1 hq => ?_)
      obtain ⟨rfl, rfl⟩ := hq
      refine gs_cast (pc := 21) dX5_wordOf_21 q688 esw clJ5 (Or.inl rfl) ?_
      refine gs_ald1 (pc := 24) dX5_wordOf_24 ?_
      refine gs_V1 (pc := 25) dX5_wordOf_25 kX5_84 esw clJ5 (by decide) (Nat.le_of_ble_eq_true rfl) (c_seq hsw hs) (fun v hp1 hq => ?_)
      obtain ⟨rfl, rfl⟩ := hq
      by_cases hy : tl.getD w [] = y
      · rw [if_pos hy]
        refine gs_if_ne (pc := 28) (tgt := 37) dX5_wordOf_28 (by decide) (by omega) (fun _ => ?_) (fun hn => absurd hn (by decide))
        exact found w (by omega) hy
      · rw [if_neg hy]
        refine gs_if_ne (pc := 28) (tgt := 37) dX5_wordOf_28 (by decide) (by omega) (fun hn => absurd (by decide) hn) (fun _ => ?_)
        refine gs_inc2 (pc := 31) dX5_wordOf_31 rfl ?_
        rw [show (w : Int) + 1 = ((w + 1 : Nat) : Int) by omega]
        refine gs_goto (pc := 34) (tgt := 2) dX5_wordOf_34 (by decide) ?_
        refine ih (w + 1) (by omega) (fun h => ?_)
        rw [List.take_succ_eq_append_getElem (by omega)] at h
        rcases List.mem_append.mp h with h | h
        · exact hn h
        · rw [List.mem_singleton] at h
          apply hy
          rw [List.getD_eq_getElem?_getD, List.getElem?_eq_getElem (by omega)]
          exact h.symm
  refine gs_iconst (pc := 0) dX5_wordOf_0 ?_
  refine gs_ist2 (pc := 1) dX5_wordOf_1 rfl ?_
  exact loop tl.length 0 (by omega) (by rw [List.take_zero]; exact List.not_mem_nil)
end CR
