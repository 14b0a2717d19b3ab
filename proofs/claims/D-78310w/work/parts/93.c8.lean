/-! THE COMPONENT: the text buffer as a line; lines put in and replaced. -/
section C8
variable {X : gCx} {hp hp1 hp2 hz : gHp} {S0 : Nat → Prop} {S S' T : SS} {A A' : AS} {a c s cap cap' ra pa ia tb n : Nat} {xs xs' ps : List Nat} {f fI : Int → Option Nat} {fT fT' : Int → Int} {w ch : Option Nat} {at_ fa dr : Int} {t : List Int}
theorem Fr_ne1 (h : Fr X S0 hp hp1) (ha : nx X hp ≤ a) (h1 : hp2.1 = hp1.1) (h2 : hp2.2.1 = hp1.2.1) (h3 : ∀ b, b ≠ a → gl X hp2 b = gl X hp1 b) : Fr X S0 hp hp2 := by
  refine ⟨by have := h.1; omega, by have := h.2.1; omega, fun b e hb => ?_⟩
  have hlt := gl_lt hb
  rw [h3 b (by omega)]
  exact h.2.2 b e hb
theorem ln_fr {lb ci : Nat} {fs gs : List AV} (ha : gl X hp a = some (lb, .inr (ci, fs))) (h1 : hp1.1 = hp.1) (h2 : hp1.2.1 = hp.2.1) (i3 : gl X hp1 a = some (lb, .inr (ci, gs))) (i4 : ∀ b, b ≠ a → gl X hp1 b = gl X hp b) : Fr X (fun l => l = lb) hp hp1 := by
  refine ⟨by omega, by omega, fun b e hb => ?_⟩
  by_cases h : b = a
  · subst h
    rw [ha] at hb
    cases hb
    exact ⟨fun h => absurd rfl h, _, i3, ⟨rfl, rfl⟩⟩
  · have := (i4 b h).trans hb
    exact ⟨fun _ => this, e, this, shp.refl e⟩
theorem txC.fr (h : Fr X S0 hp hp1) (hs : ¬ S0 (c + 2)) (ht : txC X hp c tb fT t) : txC X hp1 c tb fT t := ⟨h.at ht.1 hs, ht.2⟩
theorem c_typed {lb2 : Nat} (hX : KX X) (h2 : 2 ≤ lb2 ∧ lb2 < nx X hp + 2) (e1 : gl X hp c = some (rcC c s pa ia tb t.length w ch at_ fa dr)) (ht : txC X hp c tb fT t) : MV X yX0_typed fX0_typed 8 [vR (some c)] hp (fun v hp' => FrN X hp hp' ∧ hp'.1 ≤ hp.1 + 170 ∧ hp'.2.1 ≤ hp.2.1 + 420 ∧ ((typL t = none ∧ v = vR none) ∨ ∃ q x, typL t = some q ∧ v = vR (some x) ∧ nx X hp ≤ x ∧ isLn X hp' lb2 x (q.1, q.2, false))) := by
  refine MC.of pfX0_typed rfl (fun h => by cases h) 2 rfl rfl ?_
  have h72 := ht.2.1
  have hll := lead_le (t := t)
  have htr := trN_rng (t := t) (lo := lead t) t.length hll
  have hbl := bare_len (t := t)
  have hclt := gl_lt e1
  have k56 : G X fX0_typed 8 56 [some (vR (some c)), some (vI (lead t : Int)), some (vI (trN t (lead t) t.length : Int))] [] hp (fun r hp' => ∃ v, r = some v ∧ FrN X hp hp' ∧ hp'.1 ≤ hp.1 + 170 ∧ hp'.2.1 ≤ hp.2.1 + 420 ∧ ((typL t = none ∧ v = vR none) ∨ ∃ q x, typL t = some q ∧ v = vR (some x) ∧ nx X hp ≤ x ∧ isLn X hp' lb2 x (q.1, q.2, false))) := by
    have hnil : bare t = [] ↔ trN t (lead t) t.length = lead t := by
      rw [← List.length_eq_zero_iff, hbl]; omega
    unfold typL
    refine gs_ild1 (pc := 56) dX0_typed_56 ?_
    refine gs_ild2 (pc := 57) dX0_typed_57 ?_
    refine gs_ic_ne (pc := 58) (tgt := 72) dX0_typed_58 (by decide) (by omega) (fun h3 => ?_) (fun h3 => ?_)
    rotate_left
    · rw [if_pos (hnil.mpr (by omega))]
      refine gs_new (pc := 61) lb2 dfX3 dX0_typed_61 clX3 in_X3 tyX3 tyX3_ok q266 q267 q102 dfoX3 ?_
      have hF : FrN X hp (hnew X hp 3 (lb2, Sum.inr (3, dfX3))) := Fr.new Fr.refl
      have g1 : gl X (hnew X hp 3 (lb2, Sum.inr (3, dfX3))) (nx X hp) = some (lb2, .inr (3, dfX3)) := gl_new_self
      have hc1 : (hnew X hp 3 (lb2, Sum.inr (3, dfX3))).1 = hp.1 + 1 := rfl
      have hc2 : (hnew X hp 3 (lb2, Sum.inr (3, dfX3))).2.1 = hp.2.1 + 3 := rfl
      generalize hnew X hp 3 (lb2, Sum.inr (3, dfX3)) = ha at *
      refine gs_dup (pc := 64) dX0_typed_64 rfl ?_
      refine gs_iconst (pc := 65) dX0_typed_65 ?_
      refine gs_ldcS (pc := 66) 0 rfl dX0_typed_66 ?_
      refine gs_I2v (pc := 68) dX0_typed_68 kX0_128 (by decide) (Nat.le_of_ble_eq_true rfl) (c_lnInit (by omega) g1) (fun hb hq => ?_)
      obtain ⟨i1, i2, i3, i4⟩ := hq
      refine gs_aret (pc := 71) dX0_typed_71 rfl (Or.inl ⟨_, rfl⟩) ?_
      exact ⟨_, rfl, Fr_ne1 hF (Nat.le_refl _) i1 i2 i4, by omega, by omega, Or.inr ⟨_, _, rfl, rfl, Nat.le_refl _, _, i3, hX.2.2.2.1 hb 0 (by decide), fun h => absurd rfl h⟩⟩
    rw [if_neg (fun h => h3 (by have := hnil.mp h; omega))]
    have k86 : 40 < lead t ∨ 32 < (bare t).length → G X fX0_typed 8 86 [some (vR (some c)), some (vI (lead t : Int)), some (vI (trN t (lead t) t.length : Int))] [] hp (fun r hp' => ∃ v, r = some v ∧ FrN X hp hp' ∧ hp'.1 ≤ hp.1 + 170 ∧ hp'.2.1 ≤ hp.2.1 + 420 ∧ (((if 40 < lead t ∨ 32 < (bare t).length then none else some ((lead t : Int), bare t)) = none ∧ v = vR none) ∨ ∃ q x, (if 40 < lead t ∨ 32 < (bare t).length then none else some ((lead t : Int), bare t)) = some q ∧ v = vR (some x) ∧ nx X hp ≤ x ∧ isLn X hp' lb2 x (q.1, q.2, false))) := by
      intro h
      rw [if_pos h]
      refine gs_null (pc := 86) dX0_typed_86 ?_
      refine gs_goto (pc := 87) (tgt := 104) dX0_typed_87 (by decide) ?_
      refine gs_aret (pc := 104) dX0_typed_104 rfl (Or.inl ⟨_, rfl⟩) ?_
      exact ⟨_, rfl, FrN.refl, by omega, by omega, Or.inl ⟨rfl, rfl⟩⟩
    refine gs_ild1 (pc := 72) dX0_typed_72 ?_
    refine gs_bipush (pc := 73) dX0_typed_73 rfl ?_
    refine gs_ic_gt (pc := 75) (tgt := 86) dX0_typed_75 (by decide) (by omega) (fun h4 => ?_) (fun h4 => ?_)
    · exact k86 (Or.inl (by omega))
    refine gs_ild2 (pc := 78) dX0_typed_78 ?_
    refine gs_ild1 (pc := 79) dX0_typed_79 ?_
    refine gs_isub (pc := 80) dX0_typed_80 ?_
    refine gs_bipush (pc := 81) dX0_typed_81 rfl ?_
    refine gs_ic_le (pc := 83) (tgt := 90) dX0_typed_83 (by decide) (by omega) (fun h5 => ?_) (fun h5 => ?_)
    rotate_left
    · exact k86 (Or.inr (by omega))
    rw [if_neg (by omega)]
    refine gs_new (pc := 90) lb2 dfX3 dX0_typed_90 clX3 in_X3 tyX3 tyX3_ok q266 q267 q102 dfoX3 ?_
    have hF : FrN X hp (hnew X hp 3 (lb2, Sum.inr (3, dfX3))) := Fr.new Fr.refl
    have hF0 : Fr X (fun _ => False) hp (hnew X hp 3 (lb2, Sum.inr (3, dfX3))) := Fr.new Fr.refl
    have g1 : gl X (hnew X hp 3 (lb2, Sum.inr (3, dfX3))) (nx X hp) = some (lb2, .inr (3, dfX3)) := gl_new_self
    have hc1 : (hnew X hp 3 (lb2, Sum.inr (3, dfX3))).1 = hp.1 + 1 := rfl
    have hc2 : (hnew X hp 3 (lb2, Sum.inr (3, dfX3))).2.1 = hp.2.1 + 3 := rfl
    generalize hnew X hp 3 (lb2, Sum.inr (3, dfX3)) = ha at *
    have e1a := hF0.at e1 (fun h => h)
    have hta := ht.fr hF0 (fun h => h)
    refine gs_dup (pc := 93) dX0_typed_93 rfl ?_
    refine gs_ild1 (pc := 94) dX0_typed_94 ?_
    refine gs_ald0 (pc := 95) dX0_typed_95 ?_
    refine gs_ild1 (pc := 96) dX0_typed_96 ?_
    refine gs_ild2 (pc := 97) dX0_typed_97 ?_
    refine gs_V2 (pc := 98) dX0_typed_98 kX0_131 e1a clX0 (by decide) (Nat.le_of_ble_eq_true rfl) (c_cut (lo := lead t) (hi := trN t (lead t) t.length) e1a hta htr.1 htr.2) (fun v hb hq => ?_)
    obtain ⟨r, rfl, b1, b2, b3, b4, b5⟩ := hq
    rw [← bare_eq] at b2
    have g1b := b1.at g1 (by have := hF0.nx; unfold frs; omega)
    refine gs_I2v (pc := 101) dX0_typed_101 kX0_128 (by decide) (Nat.le_of_ble_eq_true rfl) (c_lnInit (by omega) g1b) (fun hq hq => ?_)
    obtain ⟨i1, i2, i3, i4⟩ := hq
    refine gs_aret (pc := 104) dX0_typed_104 rfl (Or.inl ⟨_, rfl⟩) ?_
    have hG := ln_fr g1b i1 i2 i3 i4
    exact ⟨_, rfl, Fr_ne1 (hF.trans b1) (Nat.le_refl _) i1 i2 i4, by omega, by omega, Or.inr ⟨_, _, rfl, rfl, Nat.le_refl _, _, i3, b2.fr hG (fun l hl => by omega), fun _ => b3.fr hG (fun l hl => by omega)⟩⟩
  have loop2 : ∀ n : Nat, lead t ≤ n → n ≤ t.length → trN t (lead t) t.length = trN t (lead t) n → G X fX0_typed 8 32 [some (vR (some c)), some (vI (lead t : Int)), some (vI (n : Int))] [] hp (fun r hp' => ∃ v, r = some v ∧ FrN X hp hp' ∧ hp'.1 ≤ hp.1 + 170 ∧ hp'.2.1 ≤ hp.2.1 + 420 ∧ ((typL t = none ∧ v = vR none) ∨ ∃ q x, typL t = some q ∧ v = vR (some x) ∧ nx X hp ≤ x ∧ isLn X hp' lb2 x (q.1, q.2, false))) := by
    intro n
    induction n with
    | zero =>
      intro h1 h2 h3
      rw [h3] at k56
      rw [show trN t (lead t) 0 = 0 from rfl] at k56
      refine gs_ild2 (pc := 32) dX0_typed_32 ?_
      refine gs_ild1 (pc := 33) dX0_typed_33 ?_
      refine gs_ic_le (pc := 34) (tgt := 56) dX0_typed_34 (by decide) (by omega) (fun _ => ?_) (fun hn => absurd (by omega) hn)
      exact k56
    | succ n ih =>
      intro h1 h2 h3
      obtain ⟨k1, k2, k3⟩ := ht.at (show n < t.length by omega)
      have hfin : ¬ (lead t < n + 1 ∧ t.getD n (-9) = 32) → G X fX0_typed 8 56 [some (vR (some c)), some (vI (lead t : Int)), some (vI ((n + 1 : Nat) : Int))] [] hp (fun r hp' => ∃ v, r = some v ∧ FrN X hp hp' ∧ hp'.1 ≤ hp.1 + 170 ∧ hp'.2.1 ≤ hp.2.1 + 420 ∧ ((typL t = none ∧ v = vR none) ∨ ∃ q x, typL t = some q ∧ v = vR (some x) ∧ nx X hp ≤ x ∧ isLn X hp' lb2 x (q.1, q.2, false))) := by
        intro hn
        have : trN t (lead t) (n + 1) = n + 1 := if_neg hn
        rw [h3, this] at k56
        exact k56
      refine gs_ild2 (pc := 32) dX0_typed_32 ?_
      refine gs_ild1 (pc := 33) dX0_typed_33 ?_
      refine gs_ic_le (pc := 34) (tgt := 56) dX0_typed_34 (by decide) (by omega) (fun h4 => ?_) (fun h4 => ?_)
      · exact hfin (by omega)
      · refine gs_ald0 (pc := 37) dX0_typed_37 ?_
        refine gs_getf (pc := 38) 3 dX0_typed_38 e1 clX0 in_X0 (by decide) q214 (Or.inl rfl) rfl ?_
        refine gs_ild2 (pc := 41) dX0_typed_41 ?_
        refine gs_iconst (pc := 42) dX0_typed_42 ?_
        refine gs_isub (pc := 43) dX0_typed_43 ?_
        refine gs_bald (pc := 44) dX0_typed_44 ht.1 (by omega) (by omega) ?_
        rw [show ((n + 1 : Nat) : Int) - 1 = (n : Int) by omega, k1]
        refine gs_bipush (pc := 45) dX0_typed_45 rfl ?_
        refine gs_ic_ne (pc := 47) (tgt := 56) dX0_typed_47 (by decide) (by omega) (fun h5 => ?_) (fun h5 => ?_)
        · exact hfin (fun h => h5 h.2)
        · have h6 : lead t < n + 1 ∧ t.getD n (-9) = 32 := ⟨by omega, by omega⟩
          have : trN t (lead t) (n + 1) = trN t (lead t) n := if_pos h6
          refine gs_inc2 (pc := 50) dX0_typed_50 rfl ?_
          refine gs_goto (pc := 53) (tgt := 32) dX0_typed_53 (by decide) ?_
          rw [show ((n + 1 : Nat) : Int) + -1 = (n : Int) by omega]
          exact ih (by omega) (by omega) (by rw [h3, this])
  have loop1 : ∀ (r k : Nat), k + r = t.length → lead t = k + lead (t.drop k) → G X fX0_typed 8 2 [some (vR (some c)), some (vI (k : Int)), none] [] hp (fun r hp' => ∃ v, r = some v ∧ FrN X hp hp' ∧ hp'.1 ≤ hp.1 + 170 ∧ hp'.2.1 ≤ hp.2.1 + 420 ∧ ((typL t = none ∧ v = vR none) ∨ ∃ q x, typL t = some q ∧ v = vR (some x) ∧ nx X hp ≤ x ∧ isLn X hp' lb2 x (q.1, q.2, false))) := by
    intro r
    have k27 : G X fX0_typed 8 27 [some (vR (some c)), some (vI (lead t : Int)), none] [] hp (fun r hp' => ∃ v, r = some v ∧ FrN X hp hp' ∧ hp'.1 ≤ hp.1 + 170 ∧ hp'.2.1 ≤ hp.2.1 + 420 ∧ ((typL t = none ∧ v = vR none) ∨ ∃ q x, typL t = some q ∧ v = vR (some x) ∧ nx X hp ≤ x ∧ isLn X hp' lb2 x (q.1, q.2, false))) := by
      refine gs_ald0 (pc := 27) dX0_typed_27 ?_
      refine gs_getf (pc := 28) 4 dX0_typed_28 e1 clX0 in_X0 (by decide) q215 (Or.inl rfl) rfl ?_
      refine gs_ist2 (pc := 31) dX0_typed_31 rfl ?_
      exact loop2 t.length hll (Nat.le_refl _) rfl
    induction r with
    | zero =>
      intro k hk he
      rw [List.drop_eq_nil_of_le (by omega)] at he
      have he : lead t = k := he
      rw [← he]
      refine gs_ild1 (pc := 2) dX0_typed_2 ?_
      refine gs_ald0 (pc := 3) dX0_typed_3 ?_
      refine gs_getf (pc := 4) 4 dX0_typed_4 e1 clX0 in_X0 (by decide) q215 (Or.inl rfl) rfl ?_
      refine gs_ic_ge (pc := 7) (tgt := 27) dX0_typed_7 (by decide) (by omega) (fun _ => ?_) (fun hn => absurd (by omega) hn)
      exact k27
    | succ r ih =>
      intro k hk he
      obtain ⟨k1, k2, k3⟩ := ht.at (show k < t.length by omega)
      refine gs_ild1 (pc := 2) dX0_typed_2 ?_
      refine gs_ald0 (pc := 3) dX0_typed_3 ?_
      refine gs_getf (pc := 4) 4 dX0_typed_4 e1 clX0 in_X0 (by decide) q215 (Or.inl rfl) rfl ?_
      refine gs_ic_ge (pc := 7) (tgt := 27) dX0_typed_7 (by decide) (by omega) (fun hn => absurd hn (by omega)) (fun _ => ?_)
      refine gs_ald0 (pc := 10) dX0_typed_10 ?_
      refine gs_getf (pc := 11) 3 dX0_typed_11 e1 clX0 in_X0 (by decide) q214 (Or.inl rfl) rfl ?_
      refine gs_ild1 (pc := 14) dX0_typed_14 ?_
      refine gs_bald (pc := 15) dX0_typed_15 ht.1 (by omega) (by omega) ?_
      rw [k1]
      refine gs_bipush (pc := 16) dX0_typed_16 rfl ?_
      refine gs_ic_ne (pc := 18) (tgt := 27) dX0_typed_18 (by decide) (by omega) (fun h1 => ?_) (fun h1 => ?_)
      · rw [lead_end h1] at he
        have he : lead t = k := by omega
        rw [← he]
        exact k27
      · rw [lead_next (by omega)] at he
        refine gs_inc1 (pc := 21) dX0_typed_21 rfl ?_
        refine gs_goto (pc := 24) (tgt := 2) dX0_typed_24 (by decide) ?_
        exact ih (k + 1) (by omega) (by omega)
  refine gs_iconst (pc := 0) dX0_typed_0 ?_
  refine gs_ist1 (pc := 1) dX0_typed_1 rfl ?_
  exact loop1 t.length 0 (by omega) (by rw [List.drop_zero, Nat.zero_add])
theorem c_insertLine {i : Int} (hX : KX X) (hR : RC X hp c A) (hO : asOk A) (hi : i32 i) : MV X yX0_insertLine fX0_insertLine 10 [vR (some c), vI i] hp (cPo X hp c (sp_insert A i)) := by
  have hR' := hR
  obtain ⟨s, pa, ia, tb, w, ch, at_, fa, dr, ps, fI, fT, e1, e2, e3, -, -⟩ := hR
  have e2' := e2
  obtain ⟨xs, cap, ra, f, es⟩ := e2'
  refine MC.of pfX0_insertLine rfl (fun h => by cases h) 1 rfl rfl ?_
  unfold sp_insert
  have hnl : nL A.1 = A.1.1.length := rfl
  have h20 : A.1.1.length ≤ 20 := hO.1.1
  have hxl := es.2.2.2.1
  have hslt := es.lt
  have eal := es.2.1
  obtain ⟨mc, e, lbe, ff, ea, -⟩ := es.2.1
  have hi32 : i32 (xs.length : Int) := by unfold i32; omega
  refine gs_ild1 (pc := 0) dX0_insertLine_0 ?_
  refine gs_iconst (pc := 1) dX0_insertLine_1 ?_
  refine gs_ald0 (pc := 2) dX0_insertLine_2 ?_
  refine gs_getf (pc := 3) 0 dX0_insertLine_3 e1 clX0 in_X0 (by decide) q211 (Or.inl rfl) rfl ?_
  refine gs_getfN (pc := 6) 0 dX0_insertLine_6 es.1 clX1 in_X1 (by decide) q185 (Or.inl rfl) rfl ?_
  refine gs_V0 (pc := 9) dX0_insertLine_9 kX0_44 ea clJ2 (by decide) (Nat.le_of_ble_eq_true rfl) (c_alSize eal) (fun v hp1 hq => ?_)
  obtain ⟨rfl, rfl⟩ := hq
  refine gs_S3 (pc := 12) dX0_insertLine_12 kX0_1 (by decide) (Nat.le_of_ble_eq_true rfl) (c_isIn hi (by decide) hi32) (fun v hp1 hq => ?_)
  obtain ⟨rfl, rfl⟩ := hq
  refine gs_bne (pc := 15) (tgt := 20) dX0_insertLine_15 (by decide) (fun h1 => ?_) (fun h1 => ?_)
  rotate_left
  · have h1 : ¬ (0 ≤ i ∧ i ≤ (xs.length : Int)) := by simpa [inB] using h1
    rw [if_neg (by omega)]
    refine gs_iconst (pc := 18) dX0_insertLine_18 ?_
    refine gs_iret (pc := 19) dX0_insertLine_19 rfl ?_
    exact ⟨_, rfl, rfl, same_po hR'⟩
  have h1 : 0 ≤ i ∧ i ≤ (xs.length : Int) := by simpa [inB] using h1
  rw [if_pos (by omega)]
  obtain ⟨n, rfl⟩ : ∃ n : Nat, i = (n : Int) := ⟨i.toNat, by omega⟩
  rw [Int.toNat_natCast]
  have hn : n ≤ xs.length := by omega
  refine gs_ald0 (pc := 20) dX0_insertLine_20 ?_
  refine gs_V0 (pc := 21) dX0_insertLine_21 kX0_135 e1 clX0 (by decide) (Nat.le_of_ble_eq_true rfl) (c_typed (lb2 := s + 2) hX (by omega) e1 (e3.tx hO)) (fun v hq hq => ?_)
  obtain ⟨q1, q2, q3, q4⟩ := hq
  have e1q := q1.at e1 (by have := gl_lt e1; unfold frs; omega)
  have esq := es.new hX q1
  have e3q := e3.new hX ⟨_, _, e1⟩ q1
  have eaq := q1.at ea (by have := gl_lt ea; unfold frs; omega)
  have hRq := hR'.new hX q1
  rcases q4 with ⟨q4, rfl⟩ | ⟨q, x, q4, rfl, q5, q6⟩
  · rw [q4]
    refine gs_ast2 (pc := 24) dX0_insertLine_24 rfl ?_
    refine gs_ald0 (pc := 25) dX0_insertLine_25 ?_
    refine gs_getf (pc := 26) 0 dX0_insertLine_26 e1q clX0 in_X0 (by decide) q211 (Or.inl rfl) rfl ?_
    refine gs_getfN (pc := 29) 0 dX0_insertLine_29 esq.1 clX1 in_X1 (by decide) q185 (Or.inl rfl) rfl ?_
    refine gs_V0 (pc := 32) dX0_insertLine_32 kX0_44 eaq clJ2 (by decide) (Nat.le_of_ble_eq_true rfl) (c_alSize esq.2.1) (fun v hp1 hq => ?_)
    obtain ⟨rfl, rfl⟩ := hq
    refine gs_bipush (pc := 35) dX0_insertLine_35 rfl ?_
    refine gs_ic_eq (pc := 37) (tgt := 44) dX0_insertLine_37 (by decide) (by omega) (fun h3 => ?_) (fun h3 => ?_)
    · refine gs_bipush (pc := 44) dX0_insertLine_44 rfl ?_
      refine gs_iret (pc := 46) dX0_insertLine_46 rfl ?_
      exact ⟨_, rfl, rfl, hRq, q1.M, by omega, by omega⟩
    · refine gs_ald2 (pc := 40) dX0_insertLine_40 ?_
      refine gs_ifnonnull (pc := 41) (tgt := 47) dX0_insertLine_41 (by decide) (fun _ h => by cases h) (fun _ => ?_)
      refine gs_bipush (pc := 44) dX0_insertLine_44 rfl ?_
      refine gs_iret (pc := 46) dX0_insertLine_46 rfl ?_
      exact ⟨_, rfl, rfl, hRq, q1.M, by omega, by omega⟩
  rw [q4]
  refine gs_ast2 (pc := 24) dX0_insertLine_24 rfl ?_
  refine gs_ald0 (pc := 25) dX0_insertLine_25 ?_
  refine gs_getf (pc := 26) 0 dX0_insertLine_26 e1q clX0 in_X0 (by decide) q211 (Or.inl rfl) rfl ?_
  refine gs_getfN (pc := 29) 0 dX0_insertLine_29 esq.1 clX1 in_X1 (by decide) q185 (Or.inl rfl) rfl ?_
  refine gs_V0 (pc := 32) dX0_insertLine_32 kX0_44 eaq clJ2 (by decide) (Nat.le_of_ble_eq_true rfl) (c_alSize esq.2.1) (fun v hp1 hq => ?_)
  obtain ⟨rfl, rfl⟩ := hq
  refine gs_bipush (pc := 35) dX0_insertLine_35 rfl ?_
  refine gs_ic_eq (pc := 37) (tgt := 44) dX0_insertLine_37 (by decide) (by omega) (fun h3 => ?_) (fun h3 => ?_)
  · dsimp only
    rw [if_pos (by omega)]
    refine gs_bipush (pc := 44) dX0_insertLine_44 rfl ?_
    refine gs_iret (pc := 46) dX0_insertLine_46 rfl ?_
    exact ⟨_, rfl, rfl, hRq, q1.M, by omega, by omega⟩
  dsimp only
  rw [if_neg (by omega)]
  obtain ⟨n1, n2, n3⟩ := bg_st ⟨_, _, e1q⟩ ⟨_, _, _, _, esq⟩ e3q
  refine gs_ald2 (pc := 40) dX0_insertLine_40 ?_
  refine gs_ifnonnull (pc := 41) (tgt := 47) dX0_insertLine_41 (by decide) (fun _ _ => ?_) (fun h => by cases h)
  refine gs_ald0 (pc := 47) dX0_insertLine_47 ?_
  refine gs_V0v (pc := 48) dX0_insertLine_48 kX0_139 e1q clX0 (by decide) (Nat.le_of_ble_eq_true rfl) (c_begins hX hO e1q ⟨_, _, _, _, esq⟩ e3q) (fun hz hq => ?_)
  obtain ⟨ps', z1, z2, z3, z4, z5, z6⟩ := hq
  have esz := esq.fr hX z3 n3 n1 n2
  have q6z := q6.fr z3 n3 n1
  have ealz := esz.2.1
  obtain ⟨mcz, ez, lbz, ffz, eaz, -⟩ := esz.2.1
  refine gs_ald0 (pc := 51) dX0_insertLine_51 ?_
  refine gs_getf (pc := 52) 0 dX0_insertLine_52 z1 clX0 in_X0 (by decide) q211 (Or.inl rfl) rfl ?_
  refine gs_getfN (pc := 55) 0 dX0_insertLine_55 esz.1 clX1 in_X1 (by decide) q185 (Or.inl rfl) rfl ?_
  refine gs_ild1 (pc := 58) dX0_insertLine_58 ?_
  refine gs_ald2 (pc := 59) dX0_insertLine_59 ?_
  refine gs_V2v (pc := 60) dX0_insertLine_60 kX0_142 eaz clJ2 (by decide) (Nat.le_of_ble_eq_true rfl) (c_alAddAt hX ealz (by have := es.2.2.1; omega) q6z.ok hn) (fun hr hq => ?_)
  obtain ⟨r1, cap', ⟨r2, r3, r4, r5⟩, r6⟩ := hq
  have hxlt : ∀ y ∈ xs, y ≠ x := by
    intro y hy he
    obtain ⟨k, hk, rfl⟩ := List.getElem_of_mem hy
    obtain ⟨cc, cl, -⟩ := es.2.2.2.2.2.1 k hk
    have := gl_lt cl
    rw [List.getD_eq_getElem?_getD, List.getElem?_eq_getElem hk] at this
    have : xs[k] < nx X hp := this
    omega
  have hln : ∀ j : Nat, j < (xs.take n ++ x :: xs.drop n).length → isLn X hz (s + 2) ((xs.take n ++ x :: xs.drop n).getD j 0) (lnA (A.1.1.take n ++ (q.1, q.2, false) :: A.1.1.drop n, A.1.2) j) := by
    intro j hj
    rw [List.length_append, List.length_cons, List.length_take, List.length_drop] at hj
    rw [getD_ins hn (by omega), lnA_ins (by omega)]
    by_cases h : j < n
    · rw [if_pos h, if_pos h]
      exact esz.2.2.2.2.2.1 j (by omega)
    · rw [if_neg h, if_neg h]
      by_cases h' : j = n
      · rw [if_pos h', if_pos h']
        exact q6z
      · rw [if_neg h', if_neg h']
        exact esz.2.2.2.2.2.1 (j - 1) (by omega)
  have hnd : (xs.take n ++ x :: xs.drop n).Nodup := by
    rw [List.perm_middle.nodup_iff, List.take_append_drop, List.nodup_cons]
    exact ⟨fun h => hxlt x h rfl, es.2.2.2.2.1⟩
  have hle : (xs.take n ++ x :: xs.drop n).length = xs.length + 1 := by rw [List.length_append, List.length_cons, List.length_take, List.length_drop]; omega
  have es2 := esz.list (L' := A.1.1.take n ++ (q.1, q.2, false) :: A.1.1.drop n) r1 r6 (by have := es.2.2.1; omega) (by rw [hle, List.length_append, List.length_cons, List.length_take, List.length_drop]; omega) hnd hln
  have hed := RC.edit (A := A) hX z1 z2 ⟨_, _, _, _, esz⟩ (r1.mono (fun l hl => Or.inr (Or.inl hl))) ⟨_, _, _, _, es2⟩
  have z1q := r1.at z1 (by have := (isO.ne ⟨_, _, z1⟩ ealz.o (by decide)); omega)
  obtain ⟨mc', e', lbe', ff', ea', -⟩ := es2.2.1
  refine gs_ald0 (pc := 63) dX0_insertLine_63 ?_
  refine gs_getf (pc := 64) 0 dX0_insertLine_64 z1q clX0 in_X0 (by decide) q211 (Or.inl rfl) rfl ?_
  refine gs_getfN (pc := 67) 0 dX0_insertLine_67 es2.1 clX1 in_X1 (by decide) q185 (Or.inl rfl) rfl ?_
  refine gs_V0 (pc := 70) dX0_insertLine_70 kX0_44 ea' clJ2 (by decide) (Nat.le_of_ble_eq_true rfl) (c_alSize es2.2.1) (fun v hp1 hq => ?_)
  obtain ⟨rfl, rfl⟩ := hq
  refine gs_iret (pc := 73) dX0_insertLine_73 rfl ?_
  refine ⟨_, rfl, ?_, hed.1, q1.M.trans (z4.trans hed.2), by have := es.2.2.1; omega, by have := es.2.2.1; omega⟩
  rw [hle]
  congr 1
  omega
end C8
