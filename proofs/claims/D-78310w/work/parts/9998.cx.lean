/-! THE COMPONENT: findRules; the tokens are made. -/
section CX
variable {X : gCx} {hp hp1 hp2 hz h h3 h4 : gHp} {S0 : Nat → Prop} {S : SS} {a c s t n p q al tx nr fa pr B D capA capT capA' capT' x m len cap ra r : Nat} {u y : List Int} {xs us ts us' : List Nat} {tl tl' : List (List Int)} {T : Tok} {Tl : List Tok} {ff fp : Int → Int} {op wd so : Int} {txo : Option Nat} {f : Int → Option Nat} {R : Rl}
theorem mapV_new (h : gl X hp m = some (m + 2, hmC 12 none none none none 0 0 0 1061158912 [])) {kd : Bool} : mapV X hp kd m 0 0 (fun _ => none) := ⟨[], hmNew h, rfl, fun nd h => (by cases h), fun k => Or.inl ⟨rfl, rfl⟩⟩
theorem c_findRules (hX : KX X) (hO : ssOk S) (hk : tkP X hp t s al tx nr fa pr op ts us tl Tl capA capT ff fp B D) (hst : stA X hp s S xs cap ra f) (hnr : nr ≤ 24) (hrt : ∀ r R, r < 12 → S.2.1 r = some R → R.2.2.2.2.2.1 ∈ tl.take nr ∧ (R.1 = 1 → R.2.2.2.2.2.2 ∈ tl.take nr)) (hT : Tl.length ≤ 640) (hq : ∀ T ∈ Tl, ¬ T.2.2.2.1 < 2 → T.2.2.2.2 = []) : M0 X yX5_findRules fX5_findRules 10 [vR (some t)] hp (fun hp' => ∃ h1, FrN X hp h1 ∧ ftI X h1 hp' t S ts Tl tl ts.length ∧ hp'.1 ≤ hp.1 + 290 ∧ hp'.2.1 ≤ hp.2.1 + 700) := by
  refine MC.of pfX5_findRules rfl (fun h => by cases h) 6 rfl rfl ?_
  have F0 : Fr X (fun _ => False) hp hp := Fr.refl
  have s0 : hp.1 = hp.1 + 0 ∧ hp.2.1 = hp.2.1 + 0 := ⟨rfl, rfl⟩
  have hh0 : hp = hp := rfl
  refine gs_new (pc := 0) (nx X hp + 2) dfJ14 dX5_findRules_0 clJ14 in_J14 tyJ14 tyJ14_ok q787 q788 q118 dfoJ14 ?_
  have a1 : gl X (hnew X hp 8 (nx X hp + 2, .inr (12, dfJ14))) (nx X hp) = some (nx X hp + 2, .inr (12, dfJ14)) := gl_new_self
  have b1 : Fr X (fun _ => False) hp (hnew X hp 8 (nx X hp + 2, .inr (12, dfJ14))) := F0.new
  have n1 : nx X hp ≤ nx X hp := F0.nx
  have c1 : (hnew X hp 8 (nx X hp + 2, .inr (12, dfJ14))).1 = hp.1 + 1 ∧ (hnew X hp 8 (nx X hp + 2, .inr (12, dfJ14))).2.1 = hp.2.1 + 8 ∧ Fr X (fun _ => False) hp (hnew X hp 8 (nx X hp + 2, .inr (12, dfJ14))) ∧ nx X hp < nx X (hnew X hp 8 (nx X hp + 2, .inr (12, dfJ14))) := ⟨rfl, rfl, Fr.refl.new, by rw [nx_new]; omega⟩
  generalize hm1 : nx X hp = m1 at *
  generalize hnew X hp 8 (m1 + 2, Sum.inr (12, dfJ14)) = k1 at *
  have n1 : nx X hp ≤ m1 := Nat.le_of_eq hm1
  refine gs_dup (pc := 3) dX5_findRules_3 rfl ?_
  refine gs_I0v (pc := 4) dX5_findRules_4 kX5_144 (by decide) (Nat.le_of_ble_eq_true rfl) (c_hmInit a1) (fun h1 hh1 => ?_)
  have d1 : gl X h1 m1 = some (m1 + 2, hmC 12 none none none none 0 0 0 1061158912 []) := by rw [hh1]; exact gl_set_self a1 (by omega)
  have F1 : Fr X (fun _ => False) hp h1 := by rw [hh1]; exact b1.setN n1
  have G1 : Fr X (fun _ => False) hp h1 := by rw [hh1]; exact c1.2.2.1.setN (Nat.le_of_eq hm1)
  have s1 : h1.1 = hp.1 + 1 ∧ h1.2.1 = hp.2.1 + 8 := by rw [hh1]; exact ⟨by show k1.1 = _; omega, by show k1.2.1 = _; omega⟩
  have q1 : m1 < nx X h1 := by rw [hh1]; exact c1.2.2.2
  refine gs_ast1 (pc := 7) dX5_findRules_7 rfl ?_
  refine gs_new (pc := 8) (nx X h1 + 2) dfJ14 dX5_findRules_8 clJ14 in_J14 tyJ14 tyJ14_ok q787 q788 q118 dfoJ14 ?_
  have a2 : gl X (hnew X h1 8 (nx X h1 + 2, .inr (12, dfJ14))) (nx X h1) = some (nx X h1 + 2, .inr (12, dfJ14)) := gl_new_self
  have b2 : Fr X (fun _ => False) hp (hnew X h1 8 (nx X h1 + 2, .inr (12, dfJ14))) := F1.new
  have n2 : nx X hp ≤ nx X h1 := F1.nx
  have c2 : (hnew X h1 8 (nx X h1 + 2, .inr (12, dfJ14))).1 = h1.1 + 1 ∧ (hnew X h1 8 (nx X h1 + 2, .inr (12, dfJ14))).2.1 = h1.2.1 + 8 ∧ Fr X (fun _ => False) h1 (hnew X h1 8 (nx X h1 + 2, .inr (12, dfJ14))) ∧ nx X h1 < nx X (hnew X h1 8 (nx X h1 + 2, .inr (12, dfJ14))) := ⟨rfl, rfl, Fr.refl.new, by rw [nx_new]; omega⟩
  generalize hm2 : nx X h1 = m2 at *
  generalize hnew X h1 8 (m2 + 2, Sum.inr (12, dfJ14)) = k2 at *
  refine gs_dup (pc := 11) dX5_findRules_11 rfl ?_
  refine gs_I0v (pc := 12) dX5_findRules_12 kX5_144 (by decide) (Nat.le_of_ble_eq_true rfl) (c_hmInit a2) (fun h2 hh2 => ?_)
  have d2 : gl X h2 m2 = some (m2 + 2, hmC 12 none none none none 0 0 0 1061158912 []) := by rw [hh2]; exact gl_set_self a2 (by omega)
  have F2 : Fr X (fun _ => False) hp h2 := by rw [hh2]; exact b2.setN n2
  have G2 : Fr X (fun _ => False) h1 h2 := by rw [hh2]; exact c2.2.2.1.setN (Nat.le_of_eq hm2)
  have s2 : h2.1 = hp.1 + 2 ∧ h2.2.1 = hp.2.1 + 16 := by rw [hh2]; exact ⟨by show k2.1 = _; omega, by show k2.2.1 = _; omega⟩
  have q2 : m2 < nx X h2 := by rw [hh2]; exact c2.2.2.2
  refine gs_ast2 (pc := 15) dX5_findRules_15 rfl ?_
  refine gs_new (pc := 16) (nx X h2 + 2) dfJ14 dX5_findRules_16 clJ14 in_J14 tyJ14 tyJ14_ok q787 q788 q118 dfoJ14 ?_
  have a3 : gl X (hnew X h2 8 (nx X h2 + 2, .inr (12, dfJ14))) (nx X h2) = some (nx X h2 + 2, .inr (12, dfJ14)) := gl_new_self
  have b3 : Fr X (fun _ => False) hp (hnew X h2 8 (nx X h2 + 2, .inr (12, dfJ14))) := F2.new
  have n3 : nx X hp ≤ nx X h2 := F2.nx
  have c3 : (hnew X h2 8 (nx X h2 + 2, .inr (12, dfJ14))).1 = h2.1 + 1 ∧ (hnew X h2 8 (nx X h2 + 2, .inr (12, dfJ14))).2.1 = h2.2.1 + 8 ∧ Fr X (fun _ => False) h2 (hnew X h2 8 (nx X h2 + 2, .inr (12, dfJ14))) ∧ nx X h2 < nx X (hnew X h2 8 (nx X h2 + 2, .inr (12, dfJ14))) := ⟨rfl, rfl, Fr.refl.new, by rw [nx_new]; omega⟩
  generalize hm3 : nx X h2 = m3 at *
  generalize hnew X h2 8 (m3 + 2, Sum.inr (12, dfJ14)) = k3 at *
  refine gs_dup (pc := 19) dX5_findRules_19 rfl ?_
  refine gs_I0v (pc := 20) dX5_findRules_20 kX5_144 (by decide) (Nat.le_of_ble_eq_true rfl) (c_hmInit a3) (fun h3 hh3 => ?_)
  have d3 : gl X h3 m3 = some (m3 + 2, hmC 12 none none none none 0 0 0 1061158912 []) := by rw [hh3]; exact gl_set_self a3 (by omega)
  have F3 : Fr X (fun _ => False) hp h3 := by rw [hh3]; exact b3.setN n3
  have G3 : Fr X (fun _ => False) h2 h3 := by rw [hh3]; exact c3.2.2.1.setN (Nat.le_of_eq hm3)
  have s3 : h3.1 = hp.1 + 3 ∧ h3.2.1 = hp.2.1 + 24 := by rw [hh3]; exact ⟨by show k3.1 = _; omega, by show k3.2.1 = _; omega⟩
  have q3 : m3 < nx X h3 := by rw [hh3]; exact c3.2.2.2
  refine gs_ast3 (pc := 23) dX5_findRules_23 rfl ?_
  refine gs_new (pc := 24) 1 dfJ16 dX5_findRules_24 clJ16 in_J16 tyJ16 tyJ16_ok q829 q830 q120 dfoJ16 ?_
  have a4 : gl X (hnew X h3 1 (1, .inr (13, dfJ16))) (nx X h3) = some (1, .inr (13, dfJ16)) := gl_new_self
  have b4 : nx X h3 + 1 = nx X (hnew X h3 1 (1, .inr (13, dfJ16))) := rfl
  have c4 : (hnew X h3 1 (1, .inr (13, dfJ16))).1 = h3.1 + 1 ∧ (hnew X h3 1 (1, .inr (13, dfJ16))).2.1 = h3.2.1 + 1 ∧ ∀ b c, gl X h3 b = some c → gl X (hnew X h3 1 (1, .inr (13, dfJ16))) b = some c := ⟨rfl, rfl, fun b c h => gl_new_of h⟩
  generalize hnew X h3 1 (1, Sum.inr (13, dfJ16)) = k4 at *
  refine gs_dup (pc := 27) dX5_findRules_27 rfl ?_
  refine gs_I0v (pc := 28) dX5_findRules_28 kX5_147 (by decide) (Nat.le_of_ble_eq_true rfl) (c_hsInit a4 b4) (fun h4 hq => ?_)
  obtain ⟨j1, j2, j3, j4, j5⟩ := hq
  have G4 : Fr X (fun _ => False) h3 h4 := FrN_ne (Nat.le_refl (nx X h3)) (by omega) (by omega) (fun b hb c hc => j3 b c hb (c4.2.2 b c hc))
  have F4 := F3.trans G4
  refine gs_ast4 (pc := 31) dX5_findRules_31 rfl ?_
  refine gs_iconst (pc := 33) dX5_findRules_33 ?_
  refine gs_ist5 (pc := 34) dX5_findRules_34 rfl ?_
  have z2 : ∀ l : Nat, False → 2 ≤ l := fun l h => h.elim
  have no : ¬ False := fun h => h
  have nx34 : nx X h3 ≤ nx X h4 := G4.nx
  have hn3 : nx X hp ≤ nx X h3 := F3.nx
  have g12 : nx X h1 ≤ nx X h2 := G2.nx
  have g23 : nx X h2 ≤ nx X h3 := G3.nx
  refine fr_rules (m1 := m1) (m2 := m2) (m3 := m3) (hs := nx X h3) (mh := nx X h3 + 1) hX hO hk hst hnr hrt hT ⟨n1, n2, n3, by omega⟩ (by omega) (fun h l6 hI => ?_) 12 0 h4 none (by omega) ⟨F4.of0, 0, 0, 0, 0, 0, 0, 0, 0, ?_, ?_, ?_, ⟨j4, [], j5, rfl, fun nd hn => (by cases hn), fun k => ?_⟩, by omega, by omega, by omega, by omega⟩
  · obtain ⟨hF, n1', l1, n2', l2, n3', l3, n4', l4, i1, i2, i3, i4, i5, i6, i7, i8⟩ := hI
    have hlt1 := gl_lt hk.1
    have hlt2 := hk.2.1.o.lt
    have hlt3 := hk.2.2.2.2.2.2.1.1.o.lt
    have f2 : ∀ l, frs X hp l → 2 ≤ l := fun l hl => frs_2 hl
    have ht := hF.at hk.1 (by unfold frs; omega)
    have hal := hk.2.1.fr hX hF (by unfold frs; omega)
    have e13 := hk.2.2.2.2.2.2.2.2.2.2.1
    refine gs_iconst (pc := 126) dX5_findRules_126 ?_
    refine gs_ist5 (pc := 127) dX5_findRules_127 rfl ?_
    refine fr_tokens (S := S) (tl := tl) (Tl := Tl) hX hO ht hal hk.2.2.2.2.1 hk.2.2.1 hk.2.2.2.2.2.2.1.2.2.2.1 hnr hrt hT hq (by omega) i1 i2 i3 i4 (fun h' l5 l6 hI' => ?_) ts.length 0 h l6 (by omega) ⟨rfl, rfl, Fr.refl, fun b hb => rfl, fun j hj => absurd hj (Nat.not_lt_zero _), fun j _ hj => (hk.2.2.2.1 j hj).fr hF f2 (by unfold frs; omega) (List.prefix_refl _)⟩
    refine gs_vret (pc := 239) dX5_findRules_239 rfl ?_
    exact ⟨rfl, h, hF, hI', by have := hI'.1; omega, by have := hI'.2.1; omega⟩
  · rw [rV_0]; exact ((mapV_new d1).fr G2 no z2).fr (G3.trans G4) no z2
  · rw [rV_0]; exact ((mapV_new d2).fr G3 no z2).fr G4 no z2
  · rw [rV_0]; exact (mapV_new d3).fr G4 no z2
  · unfold clW clN; simp [fk]
end CX
