/-! CONTRACTS: ArrayList.add, add(i), remove, clear. -/
section AL2
variable {X : gCx} {hp : gHp}
/-- how much a list's array may have grown -/
def alG (hp hp' : gHp) (n cap cap' : Nat) : Prop := cap ≤ cap' ∧ cap' ≤ max cap (2 * n + 10) ∧ hp'.1 ≤ hp.1 + (cap' - cap) ∧ hp'.2.1 ≤ hp.2.1 + 4 * (cap' - cap)
theorem alG.refl {n cap : Nat} : alG hp hp n cap cap := ⟨Nat.le_refl _, by omega, by omega, by omega⟩
theorem gcap_b (n : Nat) : n < gcap n ∧ gcap n ≤ 2 * n + 10 ∧ gcap n ≤ 4 * (gcap n - n) := by
  unfold gcap
  by_cases h : n = 0
  · rw [if_pos h]; omega
  · rw [if_neg h]; omega
theorem getD_app1 {xs : List Nat} {x i : Nat} : (xs ++ [x]).getD i 0 = if i < xs.length then xs.getD i 0 else if i = xs.length then x else 0 := by
  rw [List.getD_eq_getElem?_getD, List.getD_eq_getElem?_getD]
  by_cases h : i < xs.length
  · rw [if_pos h, List.getElem?_append_left h]
  · rw [if_neg h, List.getElem?_append_right (by omega)]
    by_cases h2 : i = xs.length
    · rw [if_pos h2, h2, Nat.sub_self]; rfl
    · rw [if_neg h2, List.getElem?_eq_none (by simp; omega)]; rfl
theorem c_alAdd2 {a cap x e : Nat} {mc : Int} {xs : List Nat} {lbe : Nat} {f : Int → Option Nat} (hX : KX X) (e1 : gl X hp a = some (a + 2, alC mc e xs.length)) (e2 : gl X hp e = some (lbe, .inl (3, cap, .inr f))) (e3 : cap = 0 ∧ e = cxK X 0 ∨ 0 < cap ∧ lbe = a + 2) (e4 : xs.length ≤ cap) (e5 : cap ≤ 40000) (e6 : ∀ i : Nat, i < xs.length → f (i : Int) = some (xs.getD i 0)) (e7 : ∀ x ∈ xs, okO X hp x) (hx : okO X hp x) : M0 X yJ2_add_2 fJ2_add_2 6 [vR (some a), vR (some x), vR (some e), vI xs.length] hp (fun hp' => Fr X (fun l => l = a + 2) hp hp' ∧ ∃ cap', alG hp hp' xs.length cap cap' ∧ isAL X hp' a (xs ++ [x]) cap') := by
  refine MC.of pfJ2_add_2 rfl (fun h => by cases h) 0 rfl rfl ?_
  have k1 : ∀ (hp1 : gHp) (e' cap' : Nat) (mc' : Int) (f' : Int → Option Nat), Fr X (fun l => l = a + 2) hp hp1 → alG hp hp1 xs.length cap cap' → gl X hp1 a = some (a + 2, alC mc' e' xs.length) → gl X hp1 e' = some (a + 2, .inl (3, cap', .inr f')) → xs.length < cap' → cap' ≤ 100000 → (∀ i : Nat, i < xs.length → f' (i : Int) = some (xs.getD i 0)) → G X fJ2_add_2 6 11 [some (vR (some a)), some (vR (some x)), some (vR (some e')), some (vI xs.length)] [] hp1 (fun r hp' => r = none ∧ Fr X (fun l => l = a + 2) hp hp' ∧ ∃ cap', alG hp hp' xs.length cap cap' ∧ isAL X hp' a (xs ++ [x]) cap') := by
    intro hp1 e' cap' mc' f' hF hG g1 g2 g3 g3b g4
    refine gs_ald2 (pc := 11) dJ2_add_2_11 ?_
    refine gs_ild3 (pc := 12) dJ2_add_2_12 ?_
    refine gs_ald1 (pc := 13) dJ2_add_2_13 ?_
    refine gs_aast (pc := 14) 3 (by decide) rfl dJ2_add_2_14 g2 (by omega) (hx.fr hF).any (by omega) (by omega) ?_
    have hne : a ≠ e' := by intro h; subst h; rw [g1] at g2; cases g2
    have w1 : gl X (hset hp1 e' (a + 2, Sum.inl (3, cap', Sum.inr (fup f' (xs.length : Int) (some x))))) a = some (a + 2, alC mc' e' xs.length) := by rw [gl_set_ne hne]; exact g1
    have w2 := gl_set_self (c := (a + 2, Sum.inl (3, cap', Sum.inr (fup f' (xs.length : Int) (some x))))) g2 (by omega)
    have hF2 : Fr X (fun l => l = a + 2) hp (hset hp1 e' (a + 2, Sum.inl (3, cap', Sum.inr (fup f' (xs.length : Int) (some x))))) := hF.set g2 (by omega) rfl ⟨rfl, rfl, rfl⟩
    generalize hh : hset hp1 e' (a + 2, Sum.inl (3, cap', Sum.inr (fup f' (xs.length : Int) (some x)))) = hp2 at w1 w2 hF2 ⊢
    have hc1 : hp2.1 = hp1.1 := by rw [← hh]; rfl
    have hc2 : hp2.2.1 = hp1.2.1 := by rw [← hh]; rfl
    refine gs_ald0 (pc := 15) dJ2_add_2_15 ?_
    refine gs_ild3 (pc := 16) dJ2_add_2_16 ?_
    refine gs_iconst (pc := 17) dJ2_add_2_17 ?_
    refine gs_iadd (pc := 18) dJ2_add_2_18 ?_
    refine gs_putf (pc := 19) 2 (alC mc' e' ((xs.length : Int) + 1)) dJ2_add_2_19 w1 (by omega) clJ2 in_J2 tyJ2 tyJ2_ok nmJ2 (by decide) q169 (Or.inl rfl) rfl (fok_int _) (Nat.le_of_ble_eq_true rfl) rfl ?_
    refine gs_vret (pc := 22) dJ2_add_2_22 rfl ?_
    have w3 := gl_set_self (c := (a + 2, alC mc' e' ((xs.length : Int) + 1))) w1 (by omega)
    have hF3 : Fr X (fun l => l = a + 2) hp (hset hp2 a (a + 2, alC mc' e' ((xs.length : Int) + 1))) := hF2.set w1 (by omega) rfl ⟨rfl, rfl⟩
    refine ⟨rfl, hF3, cap', ?_, mc', e', a + 2, fup f' (xs.length : Int) (some x), ?_, ?_, Or.inr ⟨by omega, rfl⟩, ?_, g3b, fun i hi => ?_, fun y hy => ?_⟩
    · obtain ⟨r1, r2, r3, r4⟩ := hG
      exact ⟨r1, r2, by show hp2.1 ≤ _; omega, by show hp2.2.1 ≤ _; omega⟩
    · rw [w3, List.length_append, List.length_singleton]; rfl
    · rw [gl_set_ne (Ne.symm hne)]; exact w2
    · rw [List.length_append, List.length_singleton]; omega
    · rw [List.length_append, List.length_singleton] at hi
      rw [getD_app1]
      by_cases h : i < xs.length
      · rw [if_pos h, fup_ne (by omega)]; exact g4 i h
      · obtain rfl : i = xs.length := by omega
        rw [if_neg h, if_pos rfl, fup_eq]
    · rcases List.mem_append.mp hy with h | h
      · exact (e7 y h).fr hF3
      · rw [List.mem_singleton.mp h]; exact hx.fr hF3
  refine gs_ild3 (pc := 0) dJ2_add_2_0 ?_
  refine gs_ald2 (pc := 1) dJ2_add_2_1 ?_
  refine gs_alen (pc := 2) dJ2_add_2_2 e2 ?_
  refine gs_ic_ne (pc := 3) (tgt := 11) dJ2_add_2_3 (by decide) (by omega) (fun hc => ?_) (fun hc => ?_)
  · rcases e3 with ⟨q1, q2⟩ | ⟨q1, q2⟩
    · exact absurd hc (by omega)
    · subst q2
      exact k1 hp e cap mc f Fr.refl alG.refl e1 e2 (by omega) (by omega) e6
  · obtain rfl : cap = xs.length := by omega
    have hgb := gcap_b xs.length
    refine gs_ald0 (pc := 6) dJ2_add_2_6 ?_
    refine gs_V0 (pc := 7) dJ2_add_2_7 kJ2_129 e1 clJ2 (by decide) (Nat.le_of_ble_eq_true rfl) (c_alGrow hX ⟨mc, e, lbe, f, e1, e2, e3, Nat.le_refl _, by omega, e6, e7⟩ (by omega)) (fun v hp1 hq => ?_)
    obtain ⟨w1, w2, w3, mc', e', f', rfl, w4, w5, w6⟩ := hq
    refine gs_ast2 (pc := 10) dJ2_add_2_10 rfl ?_
    exact k1 hp1 e' _ mc' f' w1 ⟨by omega, by omega, by omega, by omega⟩ w4 w5 (by omega) (by omega) w6
theorem c_alAdd {a cap x : Nat} {xs : List Nat} (hX : KX X) (hs : isAL X hp a xs cap) (hc : cap ≤ 40000) (hx : okO X hp x) : MV X yJ2_add fJ2_add 7 [vR (some a), vR (some x)] hp (fun v hp' => v = vI 1 ∧ Fr X (fun l => l = a + 2) hp hp' ∧ ∃ cap', alG hp hp' xs.length cap cap' ∧ isAL X hp' a (xs ++ [x]) cap') := by
  obtain ⟨mc, e, lbe, f, e1, e2, e3, e4, e5, e6, e7⟩ := hs
  refine MC.of pfJ2_add rfl (fun h => by cases h) 0 rfl rfl ?_
  refine gs_ald0 (pc := 0) dJ2_add_0 ?_
  refine gs_dup (pc := 1) dJ2_add_1 rfl ?_
  refine gs_getf (pc := 2) 0 dJ2_add_2 e1 clJ2 in_J2 (by decide) q171 (Or.inr q172) rfl ?_
  refine gs_iconst (pc := 5) dJ2_add_5 ?_
  refine gs_iadd (pc := 6) dJ2_add_6 ?_
  refine gs_putf (pc := 7) 0 (alC (mc + 1) e xs.length) dJ2_add_7 e1 (by omega) clJ2 in_J2 tyJ2 tyJ2_ok nmJ2 (by decide) q171 (Or.inr q172) rfl (fok_int _) (Nat.le_of_ble_eq_true rfl) rfl ?_
  have h1 := gl_set_self (c := (a + 2, alC (mc + 1) e xs.length)) e1 (by omega)
  have hne : e ≠ a := by intro h; subst h; rw [e1] at e2; cases e2
  have h2 : gl X (hset hp a (a + 2, alC (mc + 1) e xs.length)) e = some (lbe, .inl (3, cap, .inr f)) := by rw [gl_set_ne hne]; exact e2
  have hF : Fr X (fun l => l = a + 2) hp (hset hp a (a + 2, alC (mc + 1) e xs.length)) := Fr.refl.set e1 (by omega) rfl ⟨rfl, rfl⟩
  generalize hh : hset hp a (a + 2, alC (mc + 1) e xs.length) = hp1 at h1 h2 hF ⊢
  have hc1 : hp1.1 = hp.1 := by rw [← hh]; rfl
  have hc2 : hp1.2.1 = hp.2.1 := by rw [← hh]; rfl
  refine gs_ald0 (pc := 10) dJ2_add_10 ?_
  refine gs_ald1 (pc := 11) dJ2_add_11 ?_
  refine gs_ald0 (pc := 12) dJ2_add_12 ?_
  refine gs_getf (pc := 13) 1 dJ2_add_13 h1 clJ2 in_J2 (by decide) q168 (Or.inl rfl) rfl ?_
  refine gs_ald0 (pc := 16) dJ2_add_16 ?_
  refine gs_getf (pc := 17) 2 dJ2_add_17 h1 clJ2 in_J2 (by decide) q169 (Or.inl rfl) rfl ?_
  refine gs_V3v (pc := 20) dJ2_add_20 kJ2_131 h1 clJ2 (by decide) (Nat.le_of_ble_eq_true rfl) (c_alAdd2 hX h1 h2 e3 e4 hc e6 (fun y hy => (e7 y hy).fr hF) (hx.fr hF)) (fun hp2 hq => ?_)
  obtain ⟨w1, cap', ⟨r1, r2, r3, r4⟩, w3⟩ := hq
  refine gs_iconst (pc := 23) dJ2_add_23 ?_
  refine gs_zret (pc := 24) .boolean dJ2_add_24 rfl rfl ?_
  exact ⟨_, rfl, rfl, hF.trans w1, cap', ⟨r1, r2, by omega, by omega⟩, w3⟩
theorem c_alRC {a cap i : Nat} {xs : List Nat} (hs : isAL X hp a xs cap) (hi : i ≤ xs.length) : M0 X yJ2_rangeCheckForAdd fJ2_rangeCheckForAdd 1 [vR (some a), vI (i : Int)] hp (fun hp' => hp = hp') := by
  obtain ⟨mc, e, lbe, f, e1, e2, e3, e4, e5, e6, e7⟩ := hs
  refine MC.of pfJ2_rangeCheckForAdd rfl (fun h => by cases h) 0 rfl rfl ?_
  refine gs_ild1 (pc := 0) dJ2_rangeCheckForAdd_0 ?_
  refine gs_ald0 (pc := 1) dJ2_rangeCheckForAdd_1 ?_
  refine gs_getf (pc := 2) 2 dJ2_rangeCheckForAdd_2 e1 clJ2 in_J2 (by decide) q169 (Or.inl rfl) rfl ?_
  refine gs_ic_gt (pc := 5) (tgt := 12) dJ2_rangeCheckForAdd_5 (by decide) (by omega) (fun hn => absurd hn (by omega)) (fun _ => ?_)
  refine gs_ild1 (pc := 8) dJ2_rangeCheckForAdd_8 ?_
  refine gs_if_ge (pc := 9) (tgt := 25) dJ2_rangeCheckForAdd_9 (by decide) (by omega) (fun _ => ?_) (fun hn => absurd (by omega) hn)
  refine gs_vret (pc := 25) dJ2_rangeCheckForAdd_25 rfl ?_
  exact ⟨rfl, rfl⟩
theorem mem_getD {xs : List Nat} {i : Nat} (h : i < xs.length) : xs.getD i 0 ∈ xs := by
  rw [List.getD_eq_getElem?_getD, List.getElem?_eq_getElem h]; exact List.getElem_mem h
theorem getD_ins {xs : List Nat} {x i j : Nat} (hi : i ≤ xs.length) (hj : j < xs.length + 1) : (xs.take i ++ x :: xs.drop i).getD j 0 = if j < i then xs.getD j 0 else if j = i then x else xs.getD (j - 1) 0 := by
  have hl : (xs.take i).length = i := by rw [List.length_take]; omega
  rw [List.getD_eq_getElem?_getD]
  by_cases h : j < i
  · rw [if_pos h, List.getElem?_append_left (by omega), List.getElem?_take, if_pos h, ← List.getD_eq_getElem?_getD]
  · rw [if_neg h, List.getElem?_append_right (by omega), hl]
    by_cases h2 : j = i
    · rw [if_pos h2, h2, Nat.sub_self]; rfl
    · rw [if_neg h2, show j - i = (j - 1 - i) + 1 by omega, List.getElem?_cons_succ, List.getElem?_drop, show i + (j - 1 - i) = j - 1 by omega, ← List.getD_eq_getElem?_getD]
theorem c_alAddAt {a cap x i : Nat} {xs : List Nat} (hX : KX X) (hs : isAL X hp a xs cap) (hc : cap ≤ 40000) (hx : okO X hp x) (hi : i ≤ xs.length) : M0 X yJ2_add_3 fJ2_add_3 6 [vR (some a), vI (i : Int), vR (some x)] hp (fun hp' => Fr X (fun l => l = a + 2) hp hp' ∧ ∃ cap', alG hp hp' xs.length cap cap' ∧ isAL X hp' a (xs.take i ++ x :: xs.drop i) cap') := by
  have hs' := hs
  obtain ⟨mc, e, lbe, f, e1, e2, e3, e4, e5, e6, e7⟩ := hs
  refine MC.of pfJ2_add_3 rfl (fun h => by cases h) 2 rfl rfl ?_
  refine gs_ald0 (pc := 0) dJ2_add_3_0 ?_
  refine gs_ild1 (pc := 1) dJ2_add_3_1 ?_
  refine gs_V1v (pc := 2) dJ2_add_3_2 kJ2_135 e1 clJ2 (by decide) (Nat.le_of_ble_eq_true rfl) (c_alRC hs' hi) (fun hp1 hq => ?_)
  obtain ⟨rfl⟩ := hq
  refine gs_ald0 (pc := 5) dJ2_add_3_5 ?_
  refine gs_dup (pc := 6) dJ2_add_3_6 rfl ?_
  refine gs_getf (pc := 7) 0 dJ2_add_3_7 e1 clJ2 in_J2 (by decide) q171 (Or.inr q172) rfl ?_
  refine gs_iconst (pc := 10) dJ2_add_3_10 ?_
  refine gs_iadd (pc := 11) dJ2_add_3_11 ?_
  refine gs_putf (pc := 12) 0 (alC (mc + 1) e xs.length) dJ2_add_3_12 e1 (by omega) clJ2 in_J2 tyJ2 tyJ2_ok nmJ2 (by decide) q171 (Or.inr q172) rfl (fok_int _) (Nat.le_of_ble_eq_true rfl) rfl ?_
  have h1 := gl_set_self (c := (a + 2, alC (mc + 1) e xs.length)) e1 (by omega)
  have hne : e ≠ a := by intro h; subst h; rw [e1] at e2; cases e2
  have h2 : gl X (hset hp a (a + 2, alC (mc + 1) e xs.length)) e = some (lbe, .inl (3, cap, .inr f)) := by rw [gl_set_ne hne]; exact e2
  have hF : Fr X (fun l => l = a + 2) hp (hset hp a (a + 2, alC (mc + 1) e xs.length)) := Fr.refl.set e1 (by omega) rfl ⟨rfl, rfl⟩
  generalize hh : hset hp a (a + 2, alC (mc + 1) e xs.length) = hp1 at h1 h2 hF ⊢
  have hc1 : hp1.1 = hp.1 := by rw [← hh]; rfl
  have hc2 : hp1.2.1 = hp.2.1 := by rw [← hh]; rfl
  have k1 : ∀ (hp1 : gHp) (e' cap' : Nat) (mc' : Int) (f' : Int → Option Nat), Fr X (fun l => l = a + 2) hp hp1 → alG hp hp1 xs.length cap cap' → gl X hp1 a = some (a + 2, alC mc' e' xs.length) → gl X hp1 e' = some (a + 2, .inl (3, cap', .inr f')) → xs.length < cap' → cap' ≤ 200000 → (∀ i : Nat, i < xs.length → f' (i : Int) = some (xs.getD i 0)) → cap' ≤ 100000 → G X fJ2_add_3 6 38 [some (vR (some a)), some (vI (i : Int)), some (vR (some x)), some (vI xs.length), some (vR (some e'))] [] hp1 (fun r hp' => r = none ∧ Fr X (fun l => l = a + 2) hp hp' ∧ ∃ cap', alG hp hp' xs.length cap cap' ∧ isAL X hp' a (xs.take i ++ x :: xs.drop i) cap') := by
    intro hp1 e' cap' mc' f' hF hG g1 g2 g3 g3b g4 g5
    refine gs_ald4 (pc := 38) dJ2_add_3_38 ?_
    refine gs_ild1 (pc := 40) dJ2_add_3_40 ?_
    refine gs_ald4 (pc := 41) dJ2_add_3_41 ?_
    refine gs_ild1 (pc := 43) dJ2_add_3_43 ?_
    refine gs_iconst (pc := 44) dJ2_add_3_44 ?_
    refine gs_iadd (pc := 45) dJ2_add_3_45 ?_
    refine gs_ild3 (pc := 46) dJ2_add_3_46 ?_
    refine gs_ild1 (pc := 47) dJ2_add_3_47 ?_
    refine gs_isub (pc := 48) dJ2_add_3_48 ?_
    refine gs_copyR (pc := 49) 3 (by decide) rfl dJ2_add_3_49 q498 q365 q364 q110 g2 g2 (by omega) (by omega) (by omega) (by omega) (fun y h1' h2' z hz => by obtain ⟨j, rfl⟩ : ∃ j : Nat, y = (j : Int) := ⟨y.toNat, by omega⟩; rw [g4 j (by omega)] at hz; cases hz; exact ((e7 _ (mem_getD (by omega))).fr hF).any) (by decide) (Nat.le_of_ble_eq_true rfl) ?_
    have hne : a ≠ e' := by intro h; subst h; rw [g1] at g2; cases g2
    have w2 := gl_set_self (c := (a + 2, Sum.inl (3, cap', Sum.inr (cpy f' f' (i : Int) ((i : Int) + 1) ((xs.length : Int) - (i : Int)))))) g2 (by omega)
    have w1 : gl X (hset hp1 e' (a + 2, Sum.inl (3, cap', Sum.inr (cpy f' f' (i : Int) ((i : Int) + 1) ((xs.length : Int) - (i : Int)))))) a = some (a + 2, alC mc' e' xs.length) := by rw [gl_set_ne hne]; exact g1
    have hF2 : Fr X (fun l => l = a + 2) hp (hset hp1 e' (a + 2, Sum.inl (3, cap', Sum.inr (cpy f' f' (i : Int) ((i : Int) + 1) ((xs.length : Int) - (i : Int)))))) := hF.set g2 (by omega) rfl ⟨rfl, rfl, rfl⟩
    generalize hh : hset hp1 e' (a + 2, Sum.inl (3, cap', Sum.inr (cpy f' f' (i : Int) ((i : Int) + 1) ((xs.length : Int) - (i : Int))))) = hp2 at w1 w2 hF2 ⊢
    have hc1 : hp2.1 = hp1.1 := by rw [← hh]; rfl
    have hc2 : hp2.2.1 = hp1.2.1 := by rw [← hh]; rfl
    generalize hff : cpy f' f' (i : Int) ((i : Int) + 1) ((xs.length : Int) - (i : Int)) = ff at w2 ⊢
    refine gs_ald4 (pc := 52) dJ2_add_3_52 ?_
    refine gs_ild1 (pc := 54) dJ2_add_3_54 ?_
    refine gs_ald2 (pc := 55) dJ2_add_3_55 ?_
    refine gs_aast (pc := 56) 3 (by decide) rfl dJ2_add_3_56 w2 (by omega) (hx.fr hF2).any (by omega) (by omega) ?_
    have w3 := gl_set_self (c := (a + 2, Sum.inl (3, cap', Sum.inr (fup ff (i : Int) (some x))))) w2 (by omega)
    have w4 : gl X (hset hp2 e' (a + 2, Sum.inl (3, cap', Sum.inr (fup ff (i : Int) (some x))))) a = some (a + 2, alC mc' e' xs.length) := by rw [gl_set_ne hne]; exact w1
    have hF3 : Fr X (fun l => l = a + 2) hp (hset hp2 e' (a + 2, Sum.inl (3, cap', Sum.inr (fup ff (i : Int) (some x))))) := hF2.set w2 (by omega) rfl ⟨rfl, rfl, rfl⟩
    generalize hh' : hset hp2 e' (a + 2, Sum.inl (3, cap', Sum.inr (fup ff (i : Int) (some x)))) = hp3 at w3 w4 hF3 ⊢
    have hc3 : hp3.1 = hp2.1 := by rw [← hh']; rfl
    have hc4 : hp3.2.1 = hp2.2.1 := by rw [← hh']; rfl
    refine gs_ald0 (pc := 57) dJ2_add_3_57 ?_
    refine gs_ild3 (pc := 58) dJ2_add_3_58 ?_
    refine gs_iconst (pc := 59) dJ2_add_3_59 ?_
    refine gs_iadd (pc := 60) dJ2_add_3_60 ?_
    refine gs_putf (pc := 61) 2 (alC mc' e' ((xs.length : Int) + 1)) dJ2_add_3_61 w4 (by omega) clJ2 in_J2 tyJ2 tyJ2_ok nmJ2 (by decide) q169 (Or.inl rfl) rfl (fok_int _) (Nat.le_of_ble_eq_true rfl) rfl ?_
    refine gs_vret (pc := 64) dJ2_add_3_64 rfl ?_
    have w5 := gl_set_self (c := (a + 2, alC mc' e' ((xs.length : Int) + 1))) w4 (by omega)
    have hF4 : Fr X (fun l => l = a + 2) hp (hset hp3 a (a + 2, alC mc' e' ((xs.length : Int) + 1))) := hF3.set w4 (by omega) rfl ⟨rfl, rfl⟩
    have hlen : (xs.take i ++ x :: xs.drop i).length = xs.length + 1 := by rw [List.length_append, List.length_cons, List.length_take, List.length_drop]; omega
    refine ⟨rfl, hF4, cap', ?_, mc', e', a + 2, fup ff (i : Int) (some x), ?_, ?_, Or.inr ⟨by omega, rfl⟩, by omega, by omega, fun j hj => ?_, fun y hy => ?_⟩
    · obtain ⟨r1, r2, r3, r4⟩ := hG
      exact ⟨r1, r2, by show hp3.1 ≤ _; omega, by show hp3.2.1 ≤ _; omega⟩
    · rw [w5, hlen]; rfl
    · rw [gl_set_ne (Ne.symm hne)]; exact w3
    · rw [hlen] at hj
      rw [getD_ins hi hj]
      by_cases h : j = i
      · subst h; rw [fup_eq, if_neg (by omega), if_pos rfl]
      · rw [fup_ne (by omega), ← hff]
        unfold cpy
        by_cases h2 : j < i
        · rw [if_neg (by omega), if_pos h2]; exact g4 j (by omega)
        · rw [if_pos (by omega), if_neg h2, if_neg h, show (i : Int) + ((j : Int) - ((i : Int) + 1)) = ((j - 1 : Nat) : Int) by omega]; exact g4 _ (by omega)
    · rcases List.mem_append.mp hy with h | h
      · exact (e7 y (List.mem_of_mem_take h)).fr hF4
      · rcases List.mem_cons.mp h with h | h
        · rw [h]; exact hx.fr hF4
        · exact (e7 y (List.mem_of_mem_drop h)).fr hF4
  have hG : alG hp hp1 xs.length cap cap := ⟨by omega, by omega, by omega, by omega⟩
  refine gs_ald0 (pc := 15) dJ2_add_3_15 ?_
  refine gs_getf (pc := 16) 2 dJ2_add_3_16 h1 clJ2 in_J2 (by decide) q169 (Or.inl rfl) rfl ?_
  refine gs_dup (pc := 19) dJ2_add_3_19 rfl ?_
  refine gs_ist3 (pc := 20) dJ2_add_3_20 rfl ?_
  refine gs_ald0 (pc := 21) dJ2_add_3_21 ?_
  refine gs_getf (pc := 22) 1 dJ2_add_3_22 h1 clJ2 in_J2 (by decide) q168 (Or.inl rfl) rfl ?_
  refine gs_dup (pc := 25) dJ2_add_3_25 rfl ?_
  refine gs_ast4 (pc := 26) dJ2_add_3_26 rfl ?_
  refine gs_alen (pc := 28) dJ2_add_3_28 h2 ?_
  refine gs_ic_ne (pc := 29) (tgt := 38) dJ2_add_3_29 (by decide) (by omega) (fun hd => ?_) (fun hd => ?_)
  · rcases e3 with ⟨q1, q2⟩ | ⟨q1, q2⟩
    · exact absurd hd (by omega)
    · subst q2
      exact k1 hp1 e cap _ f hF hG h1 h2 (by omega) (by omega) e6 (by omega)
  · obtain rfl : cap = xs.length := by omega
    have hgb := gcap_b xs.length
    refine gs_ald0 (pc := 32) dJ2_add_3_32 ?_
    refine gs_V0 (pc := 33) dJ2_add_3_33 kJ2_129 h1 clJ2 (by decide) (Nat.le_of_ble_eq_true rfl) (c_alGrow hX ⟨mc + 1, e, lbe, f, h1, h2, e3, Nat.le_refl _, by omega, e6, fun y hy => (e7 y hy).fr hF⟩ (by omega)) (fun v hp2 hq => ?_)
    obtain ⟨w1, w2, w3, mc', e', f', rfl, w4, w5, w6⟩ := hq
    refine gs_ast4 (pc := 36) dJ2_add_3_36 rfl ?_
    exact k1 hp2 e' _ mc' f' (hF.trans w1) ⟨by omega, by omega, by omega, by omega⟩ w4 w5 (by omega) (by omega) w6 (by omega)
end AL2
section AL3
variable {X : gCx} {hp : gHp}
theorem getD_era {xs : List Nat} {i j : Nat} (hj : j + 1 < xs.length) : (xs.eraseIdx i).getD j 0 = if j < i then xs.getD j 0 else xs.getD (j + 1) 0 := by
  rw [List.getD_eq_getElem?_getD, List.getElem?_eraseIdx]
  by_cases h : j < i
  · rw [if_pos h, if_pos h, ← List.getD_eq_getElem?_getD]
  · rw [if_neg h, if_neg h, ← List.getD_eq_getElem?_getD]
theorem c_alFast {a cap e i : Nat} {mc : Int} {xs : List Nat} {f : Int → Option Nat} (e1 : gl X hp a = some (a + 2, alC mc e xs.length)) (e2 : gl X hp e = some (a + 2, .inl (3, cap, .inr f))) (e4 : xs.length ≤ cap) (e5 : cap ≤ 100000) (e6 : ∀ i : Nat, i < xs.length → f (i : Int) = some (xs.getD i 0)) (e7 : ∀ x ∈ xs, okO X hp x) (hi : i < xs.length) : M0 X yJ2_fastRemove fJ2_fastRemove 2 [vR (some a), vR (some e), vI (i : Int)] hp (fun hp' => Fr X (fun l => l = a + 2) hp hp' ∧ hp'.1 = hp.1 ∧ hp'.2.1 = hp.2.1 ∧ isAL X hp' a (xs.eraseIdx i) cap) := by
  refine MC.of pfJ2_fastRemove rfl (fun h => by cases h) 1 rfl rfl ?_
  refine gs_ald0 (pc := 0) dJ2_fastRemove_0 ?_
  refine gs_dup (pc := 1) dJ2_fastRemove_1 rfl ?_
  refine gs_getf (pc := 2) 0 dJ2_fastRemove_2 e1 clJ2 in_J2 (by decide) q171 (Or.inr q172) rfl ?_
  refine gs_iconst (pc := 5) dJ2_fastRemove_5 ?_
  refine gs_iadd (pc := 6) dJ2_fastRemove_6 ?_
  refine gs_putf (pc := 7) 0 (alC (mc + 1) e xs.length) dJ2_fastRemove_7 e1 (by omega) clJ2 in_J2 tyJ2 tyJ2_ok nmJ2 (by decide) q171 (Or.inr q172) rfl (fok_int _) (Nat.le_of_ble_eq_true rfl) rfl ?_
  have h1 := gl_set_self (c := (a + 2, alC (mc + 1) e xs.length)) e1 (by omega)
  have hne : e ≠ a := by intro h; subst h; rw [e1] at e2; cases e2
  have h2 : gl X (hset hp a (a + 2, alC (mc + 1) e xs.length)) e = some (a + 2, .inl (3, cap, .inr f)) := by rw [gl_set_ne hne]; exact e2
  have hF : Fr X (fun l => l = a + 2) hp (hset hp a (a + 2, alC (mc + 1) e xs.length)) := Fr.refl.set e1 (by omega) rfl ⟨rfl, rfl⟩
  generalize hh : hset hp a (a + 2, alC (mc + 1) e xs.length) = hp1 at h1 h2 hF ⊢
  have hc1 : hp1.1 = hp.1 := by rw [← hh]; rfl
  have hc2 : hp1.2.1 = hp.2.1 := by rw [← hh]; rfl
  have hlen : (xs.eraseIdx i).length = xs.length - 1 := List.length_eraseIdx_of_lt hi
  have k1 : ∀ (hp2 : gHp) (g : Int → Option Nat), Fr X (fun l => l = a + 2) hp hp2 → hp2.1 = hp.1 → hp2.2.1 = hp.2.1 → gl X hp2 a = some (a + 2, alC (mc + 1) e xs.length) → gl X hp2 e = some (a + 2, .inl (3, cap, .inr g)) → (∀ j : Nat, j + 1 < xs.length → g (j : Int) = some ((xs.eraseIdx i).getD j 0)) → G X fJ2_fastRemove 2 34 [some (vR (some a)), some (vR (some e)), some (vI (i : Int)), some (vI ((xs.length : Int) - 1))] [] hp2 (fun r hp' => r = none ∧ Fr X (fun l => l = a + 2) hp hp' ∧ hp'.1 = hp.1 ∧ hp'.2.1 = hp.2.1 ∧ isAL X hp' a (xs.eraseIdx i) cap) := by
    intro hp2 g hF2 r1 r2 g1 g2 g3
    refine gs_ald1 (pc := 34) dJ2_fastRemove_34 ?_
    refine gs_ald0 (pc := 35) dJ2_fastRemove_35 ?_
    refine gs_ild3 (pc := 36) dJ2_fastRemove_36 ?_
    refine gs_dup_x1 (pc := 37) dJ2_fastRemove_37 rfl rfl ?_
    refine gs_putf (pc := 38) 2 (alC (mc + 1) e ((xs.length : Int) - 1)) dJ2_fastRemove_38 g1 (by omega) clJ2 in_J2 tyJ2 tyJ2_ok nmJ2 (by decide) q169 (Or.inl rfl) rfl (fok_int _) (Nat.le_of_ble_eq_true rfl) rfl ?_
    have w1 := gl_set_self (c := (a + 2, alC (mc + 1) e ((xs.length : Int) - 1))) g1 (by omega)
    have w2 : gl X (hset hp2 a (a + 2, alC (mc + 1) e ((xs.length : Int) - 1))) e = some (a + 2, .inl (3, cap, .inr g)) := by rw [gl_set_ne hne]; exact g2
    have hF3 : Fr X (fun l => l = a + 2) hp (hset hp2 a (a + 2, alC (mc + 1) e ((xs.length : Int) - 1))) := hF2.set g1 (by omega) rfl ⟨rfl, rfl⟩
    refine gs_null (pc := 41) dJ2_fastRemove_41 ?_
    refine gs_aastN (pc := 42) 3 rfl dJ2_fastRemove_42 w2 (by omega) (by omega) (by omega) ?_
    refine gs_vret (pc := 43) dJ2_fastRemove_43 rfl ?_
    have w3 := gl_set_self (c := (a + 2, Sum.inl (3, cap, Sum.inr (fup g ((xs.length : Int) - 1) none)))) w2 (by omega)
    have hF4 : Fr X (fun l => l = a + 2) hp (hset (hset hp2 a (a + 2, alC (mc + 1) e ((xs.length : Int) - 1))) e (a + 2, Sum.inl (3, cap, Sum.inr (fup g ((xs.length : Int) - 1) none)))) := hF3.set w2 (by omega) rfl ⟨rfl, rfl, rfl⟩
    refine ⟨rfl, hF4, r1, r2, mc + 1, e, a + 2, fup g ((xs.length : Int) - 1) none, ?_, w3, Or.inr ⟨by omega, rfl⟩, by omega, e5, fun j hj => ?_, fun y hy => (e7 y (List.mem_of_mem_eraseIdx hy)).fr hF4⟩
    · rw [gl_set_ne (Ne.symm hne), w1, hlen, show ((xs.length - 1 : Nat) : Int) = (xs.length : Int) - 1 by omega]
    · rw [fup_ne (by omega)]; exact g3 j (by omega)
  refine gs_ald0 (pc := 10) dJ2_fastRemove_10 ?_
  refine gs_getf (pc := 11) 2 dJ2_fastRemove_11 h1 clJ2 in_J2 (by decide) q169 (Or.inl rfl) rfl ?_
  refine gs_iconst (pc := 14) dJ2_fastRemove_14 ?_
  refine gs_isub (pc := 15) dJ2_fastRemove_15 ?_
  refine gs_dup (pc := 16) dJ2_fastRemove_16 rfl ?_
  refine gs_ist3 (pc := 17) dJ2_fastRemove_17 rfl ?_
  refine gs_ild2 (pc := 18) dJ2_fastRemove_18 ?_
  refine gs_ic_le (pc := 19) (tgt := 34) dJ2_fastRemove_19 (by decide) (by omega) (fun hd => ?_) (fun hd => ?_)
  · exact k1 hp1 f hF hc1 hc2 h1 h2 (fun j hj => by rw [e6 j (by omega), getD_era hj, if_pos (by omega)])
  · refine gs_ald1 (pc := 22) dJ2_fastRemove_22 ?_
    refine gs_ild2 (pc := 23) dJ2_fastRemove_23 ?_
    refine gs_iconst (pc := 24) dJ2_fastRemove_24 ?_
    refine gs_iadd (pc := 25) dJ2_fastRemove_25 ?_
    refine gs_ald1 (pc := 26) dJ2_fastRemove_26 ?_
    refine gs_ild2 (pc := 27) dJ2_fastRemove_27 ?_
    refine gs_ild3 (pc := 28) dJ2_fastRemove_28 ?_
    refine gs_ild2 (pc := 29) dJ2_fastRemove_29 ?_
    refine gs_isub (pc := 30) dJ2_fastRemove_30 ?_
    refine gs_copyR (pc := 31) 3 (by decide) rfl dJ2_fastRemove_31 q498 q365 q364 q110 h2 h2 (by omega) (by omega) (by omega) (by omega) (fun y h1' h2' z hz => by obtain ⟨j, rfl⟩ : ∃ j : Nat, y = (j : Int) := ⟨y.toNat, by omega⟩; rw [e6 j (by omega)] at hz; cases hz; exact ((e7 _ (mem_getD (by omega))).fr hF).any) (by decide) (Nat.le_of_ble_eq_true rfl) ?_
    have w2 := gl_set_self (c := (a + 2, Sum.inl (3, cap, Sum.inr (cpy f f ((i : Int) + 1) (i : Int) ((xs.length : Int) - 1 - (i : Int)))))) h2 (by omega)
    have w1 : gl X (hset hp1 e (a + 2, Sum.inl (3, cap, Sum.inr (cpy f f ((i : Int) + 1) (i : Int) ((xs.length : Int) - 1 - (i : Int)))))) a = some (a + 2, alC (mc + 1) e xs.length) := by rw [gl_set_ne (Ne.symm hne)]; exact h1
    have hF2 : Fr X (fun l => l = a + 2) hp (hset hp1 e (a + 2, Sum.inl (3, cap, Sum.inr (cpy f f ((i : Int) + 1) (i : Int) ((xs.length : Int) - 1 - (i : Int)))))) := hF.set h2 (by omega) rfl ⟨rfl, rfl, rfl⟩
    refine k1 _ _ hF2 hc1 hc2 w1 w2 (fun j hj => ?_)
    rw [getD_era hj]
    unfold cpy
    by_cases h : j < i
    · rw [if_neg (by omega), if_pos h]; exact e6 j (by omega)
    · rw [if_pos (by omega), if_neg h, show (i : Int) + 1 + ((j : Int) - (i : Int)) = ((j + 1 : Nat) : Int) by omega]; exact e6 _ hj
theorem c_alRemove {a cap i : Nat} {xs : List Nat} (hs : isAL X hp a xs cap) (hi : i < xs.length) : MV X yJ2_remove fJ2_remove 3 [vR (some a), vI (i : Int)] hp (fun v hp' => v = vR (some (xs.getD i 0)) ∧ Fr X (fun l => l = a + 2) hp hp' ∧ hp'.1 = hp.1 ∧ hp'.2.1 = hp.2.1 ∧ isAL X hp' a (xs.eraseIdx i) cap) := by
  obtain ⟨mc, e, lbe, f, e1, e2, e3, e4, e5, e6, e7⟩ := hs
  have hlb : lbe = a + 2 := by rcases e3 with ⟨q1, q2⟩ | ⟨q1, q2⟩; exact absurd hi (by omega); exact q2
  subst hlb
  refine MC.of pfJ2_remove rfl (fun h => by cases h) 2 rfl rfl ?_
  refine gs_ild1 (pc := 0) dJ2_remove_0 ?_
  refine gs_ald0 (pc := 1) dJ2_remove_1 ?_
  refine gs_getf (pc := 2) 2 dJ2_remove_2 e1 clJ2 in_J2 (by decide) q169 (Or.inl rfl) rfl ?_
  refine gs_S2 (pc := 5) dJ2_remove_5 kJ2_118 (by decide) (Nat.le_of_ble_eq_true rfl) (c_ocheck ⟨by omega, by omega⟩ (by omega)) (fun v hp1 hq => ?_)
  obtain ⟨rfl, rfl⟩ := hq
  refine gs_pop (pc := 8) dJ2_remove_8 rfl ?_
  refine gs_ald0 (pc := 9) dJ2_remove_9 ?_
  refine gs_getf (pc := 10) 1 dJ2_remove_10 e1 clJ2 in_J2 (by decide) q168 (Or.inl rfl) rfl ?_
  refine gs_ast2 (pc := 13) dJ2_remove_13 rfl ?_
  refine gs_ald2 (pc := 14) dJ2_remove_14 ?_
  refine gs_ild1 (pc := 15) dJ2_remove_15 ?_
  refine gs_aald (pc := 16) 3 (by decide) dJ2_remove_16 e2 (by omega) (by omega) ?_
  rw [e6 i hi]
  refine gs_ast3 (pc := 17) dJ2_remove_17 rfl ?_
  refine gs_ald0 (pc := 18) dJ2_remove_18 ?_
  refine gs_ald2 (pc := 19) dJ2_remove_19 ?_
  refine gs_ild1 (pc := 20) dJ2_remove_20 ?_
  refine gs_V2v (pc := 21) dJ2_remove_21 kJ2_144 e1 clJ2 (by decide) (Nat.le_of_ble_eq_true rfl) (c_alFast e1 e2 e4 e5 e6 e7 hi) (fun hp1 hq => ?_)
  obtain ⟨w1, w2, w3, w4⟩ := hq
  refine gs_ald3 (pc := 24) dJ2_remove_24 ?_
  refine gs_aret (pc := 25) dJ2_remove_25 rfl (Or.inl ⟨_, rfl⟩) ?_
  exact ⟨_, rfl, rfl, w1, w2, w3, w4⟩
theorem c_alClear {a cap : Nat} {xs : List Nat} (hX : KX X) (hs : isAL X hp a xs cap) : M0 X yJ2_clear fJ2_clear 1 [vR (some a)] hp (fun hp' => Fr X (fun l => l = a + 2) hp hp' ∧ hp'.1 = hp.1 ∧ hp'.2.1 = hp.2.1 ∧ isAL X hp' a [] cap) := by
  obtain ⟨mc, e, lbe, f, e1, e2, e3, e4, e5, e6, e7⟩ := hs
  refine MC.of pfJ2_clear rfl (fun h => by cases h) 3 rfl rfl ?_
  refine gs_ald0 (pc := 0) dJ2_clear_0 ?_
  refine gs_dup (pc := 1) dJ2_clear_1 rfl ?_
  refine gs_getf (pc := 2) 0 dJ2_clear_2 e1 clJ2 in_J2 (by decide) q171 (Or.inr q172) rfl ?_
  refine gs_iconst (pc := 5) dJ2_clear_5 ?_
  refine gs_iadd (pc := 6) dJ2_clear_6 ?_
  refine gs_putf (pc := 7) 0 (alC (mc + 1) e xs.length) dJ2_clear_7 e1 (by omega) clJ2 in_J2 tyJ2 tyJ2_ok nmJ2 (by decide) q171 (Or.inr q172) rfl (fok_int _) (Nat.le_of_ble_eq_true rfl) rfl ?_
  have h1 := gl_set_self (c := (a + 2, alC (mc + 1) e xs.length)) e1 (by omega)
  have hne : e ≠ a := by intro h; subst h; rw [e1] at e2; cases e2
  have hF : Fr X (fun l => l = a + 2) hp (hset hp a (a + 2, alC (mc + 1) e xs.length)) := Fr.refl.set e1 (by omega) rfl ⟨rfl, rfl⟩
  have h2 : gl X (hset hp a (a + 2, alC (mc + 1) e xs.length)) e = some (lbe, .inl (3, cap, .inr f)) := by rw [gl_set_ne hne]; exact e2
  generalize hh : hset hp a (a + 2, alC (mc + 1) e xs.length) = hp1 at h1 h2 hF ⊢
  have hc1 : hp1.1 = hp.1 := by rw [← hh]; rfl
  have hc2 : hp1.2.1 = hp.2.1 := by rw [← hh]; rfl
  refine gs_ald0 (pc := 10) dJ2_clear_10 ?_
  refine gs_getf (pc := 11) 1 dJ2_clear_11 h1 clJ2 in_J2 (by decide) q168 (Or.inl rfl) rfl ?_
  refine gs_ast1 (pc := 14) dJ2_clear_14 rfl ?_
  refine gs_ald0 (pc := 15) dJ2_clear_15 ?_
  refine gs_getf (pc := 16) 2 dJ2_clear_16 h1 clJ2 in_J2 (by decide) q169 (Or.inl rfl) rfl ?_
  refine gs_ist2 (pc := 19) dJ2_clear_19 rfl ?_
  refine gs_ald0 (pc := 20) dJ2_clear_20 ?_
  refine gs_iconst (pc := 21) dJ2_clear_21 ?_
  refine gs_dup_x1 (pc := 22) dJ2_clear_22 rfl rfl ?_
  refine gs_putf (pc := 23) 2 (alC (mc + 1) e 0) dJ2_clear_23 h1 (by omega) clJ2 in_J2 tyJ2 tyJ2_ok nmJ2 (by decide) q169 (Or.inl rfl) rfl (fok_int _) (Nat.le_of_ble_eq_true rfl) rfl ?_
  have h3 := gl_set_self (c := (a + 2, alC (mc + 1) e 0)) h1 (by omega)
  have hF2 : Fr X (fun l => l = a + 2) hp (hset hp1 a (a + 2, alC (mc + 1) e 0)) := hF.set h1 (by omega) rfl ⟨rfl, rfl⟩
  have h4 : gl X (hset hp1 a (a + 2, alC (mc + 1) e 0)) e = some (lbe, .inl (3, cap, .inr f)) := by rw [gl_set_ne hne]; exact h2
  generalize hh2 : hset hp1 a (a + 2, alC (mc + 1) e 0) = hp2 at h3 h4 hF2 ⊢
  have hc3 : hp2.1 = hp.1 := by rw [← hh2]; exact hc1
  have hc4 : hp2.2.1 = hp.2.1 := by rw [← hh2]; exact hc2
  refine gs_ist3 (pc := 26) dJ2_clear_26 rfl ?_
  have loop : ∀ (n i : Nat) (hp2 : gHp) (f : Int → Option Nat), i + n = xs.length → Fr X (fun l => l = a + 2) hp hp2 → hp2.1 = hp.1 → hp2.2.1 = hp.2.1 → gl X hp2 a = some (a + 2, alC (mc + 1) e 0) → gl X hp2 e = some (lbe, .inl (3, cap, .inr f)) → G X fJ2_clear 1 27 [some (vR (some a)), some (vR (some e)), some (vI xs.length), some (vI (i : Int))] [] hp2 (fun r hp' => r = none ∧ Fr X (fun l => l = a + 2) hp hp' ∧ hp'.1 = hp.1 ∧ hp'.2.1 = hp.2.1 ∧ isAL X hp' a [] cap) := by
    intro n
    induction n with
    | zero =>
      intro i hp2 f hi g1 g2 g3 g4 g5
      refine gs_ild3 (pc := 27) dJ2_clear_27 ?_
      refine gs_ild2 (pc := 28) dJ2_clear_28 ?_
      refine gs_ic_ge (pc := 29) (tgt := 42) dJ2_clear_29 (by decide) (by omega) (fun _ => ?_) (fun hn => absurd (by omega) hn)
      refine gs_vret (pc := 42) dJ2_clear_42 rfl ?_
      exact ⟨rfl, g1, g2, g3, mc + 1, e, lbe, f, g4, g5, e3, Nat.zero_le _, e5, fun i hi => absurd hi (by simp), fun x hx => by cases hx⟩
    | succ n ih =>
      intro i hp2 f hi g1 g2 g3 g4 g5
      rcases e3 with ⟨q1, q2⟩ | ⟨q1, q2⟩
      · exact absurd hi (by omega)
      · subst q2
        refine gs_ild3 (pc := 27) dJ2_clear_27 ?_
        refine gs_ild2 (pc := 28) dJ2_clear_28 ?_
        refine gs_ic_ge (pc := 29) (tgt := 42) dJ2_clear_29 (by decide) (by omega) (fun hn => absurd hn (by omega)) (fun _ => ?_)
        refine gs_ald1 (pc := 32) dJ2_clear_32 ?_
        refine gs_ild3 (pc := 33) dJ2_clear_33 ?_
        refine gs_null (pc := 34) dJ2_clear_34 ?_
        refine gs_aastN (pc := 35) 3 rfl dJ2_clear_35 g5 (by omega) (by omega) (by omega) ?_
        refine gs_inc3 (pc := 36) dJ2_clear_36 rfl ?_
        refine gs_goto (pc := 39) (tgt := 27) dJ2_clear_39 (by decide) ?_
        exact ih (i + 1) _ _ (by omega) (g1.set g5 (by omega) rfl ⟨rfl, rfl, rfl⟩) g2 g3 (by rw [gl_set_ne (Ne.symm hne)]; exact g4) (gl_set_self g5 (by omega))
  exact loop xs.length 0 hp2 f (by omega) hF2 hc3 hc4 h3 h4
end AL3
