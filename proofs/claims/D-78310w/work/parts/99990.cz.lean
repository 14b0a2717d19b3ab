/-! THE COMPONENT: the tokens are made: the constructor. -/
section CZ
variable {X : gCx} {hp hp1 hp2 hz h h3 h4 : gHp} {S0 : Nat → Prop} {S : SS} {a c s t n p q al tx nr fa pr B D capA capT capA' capT' x m len cap ra r : Nat} {u y : List Int} {xs us ts us' : List Nat} {tl tl' : List (List Int)} {T : Tok} {Tl : List Tok} {ff fp : Int → Int} {op wd so : Int} {txo : Option Nat} {f : Int → Option Nat} {R : Rl}
theorem tkL_2 {l : Nat} (h : tkL t al tx l) : 2 ≤ l := by unfold tkL at h; omega
/-- the rules' texts get their numbers -/
theorem ti_rules {h0 : gHp} {Q : Option AV → gHp → Prop} (hX : KX X) (hO : ssOk S) (hst : stA X h0 s S xs cap ra f) (hsn : s ≠ t ∧ s ≠ al ∧ s ≠ tx ∧ s + 1 ≠ t ∧ s + 1 ≠ al ∧ s + 1 ≠ tx)
    (kk : ∀ h us tl capT l3, Fr X (tkL t al tx) h0 h → tkP X h t s al tx 0 fa pr 0 [] us tl [] 0 capT ff fp B D → tl.length ≤ 24 → (∀ r R, r < 12 → S.2.1 r = some R → R.2.2.2.2.2.1 ∈ tl ∧ (R.1 = 1 → R.2.2.2.2.2.2 ∈ tl)) → G X fX5_init 11 105 [some (vR (some t)), some (vR (some s)), some (vI 12), l3] [] h Q) :
    ∀ (k r : Nat) (h : gHp) (us : List Nat) (tl : List (List Int)) (capT : Nat) (l3 : Option AV), r + k = 12 → Fr X (tkL t al tx) h0 h → tkP X h t s al tx 0 fa pr 0 [] us tl [] 0 capT ff fp B D → tl.length ≤ 2 * r → (∀ r' R, r' < r → S.2.1 r' = some R → R.2.2.2.2.2.1 ∈ tl ∧ (R.1 = 1 → R.2.2.2.2.2.2 ∈ tl)) → G X fX5_init 11 49 [some (vR (some t)), some (vR (some s)), some (vI (r : Int)), l3] [] h Q := by
  intro k
  induction k with
  | zero =>
    intro r h us tl capT l3 hr hF hk hl hall
    obtain rfl : r = 12 := by omega
    refine gs_ild2 (pc := 49) dX5_init_49 ?_
    refine gs_bipush (pc := 50) dX5_init_50 rfl ?_
    refine gs_ic_ge (pc := 52) (tgt := 105) dX5_init_52 (by decide) (by omega) (fun _ => ?_) (fun hn => absurd (by decide) hn)
    exact kk h us tl capT l3 hF hk (by omega) hall
  | succ k ih =>
    intro r h us tl capT l3 hr hF hk hl hall
    have inc : ∀ (h : gHp) (us : List Nat) (tl : List (List Int)) (capT : Nat) (l3 : Option AV), Fr X (tkL t al tx) h0 h → tkP X h t s al tx 0 fa pr 0 [] us tl [] 0 capT ff fp B D → tl.length ≤ 2 * (r + 1) → (∀ r' R, r' < r + 1 → S.2.1 r' = some R → R.2.2.2.2.2.1 ∈ tl ∧ (R.1 = 1 → R.2.2.2.2.2.2 ∈ tl)) → G X fX5_init 11 99 [some (vR (some t)), some (vR (some s)), some (vI (r : Int)), l3] [] h Q := by
      intro h us tl capT l3 hF hk hl hall
      refine gs_inc2 (pc := 99) dX5_init_99 rfl ?_
      refine gs_goto (pc := 102) (tgt := 49) dX5_init_102 (by decide) ?_
      rw [show (r : Int) + 1 = ((r + 1 : Nat) : Int) by omega]
      exact ih (r + 1) h us tl capT l3 (by omega) hF hk hl hall
    have hs2 : ¬ tkL t al tx (s + 2) ∧ ¬ tkL t al tx (s + 3) := by unfold tkL; omega
    have hs' := hst.fr hX hF (fun l hl => tkL_2 hl) hs2.1 hs2.2
    obtain ⟨e1, e2, e3, e4, e5, e6, e7, e8⟩ := id hs'
    refine gs_ild2 (pc := 49) dX5_init_49 ?_
    refine gs_bipush (pc := 50) dX5_init_50 rfl ?_
    refine gs_ic_ge (pc := 52) (tgt := 105) dX5_init_52 (by decide) (by omega) (fun hn => absurd hn (by omega)) (fun _ => ?_)
    refine gs_ald1 (pc := 55) dX5_init_55 ?_
    refine gs_getfN (pc := 56) 1 dX5_init_56 e1 clX1 in_X1 (by decide) q187 (Or.inl rfl) rfl ?_
    refine gs_ild2 (pc := 59) dX5_init_59 ?_
    refine gs_aald (pc := 60) 5 (by decide) dX5_init_60 e7 (by omega) (by omega) ?_
    have hin : r < 12 := by omega
    rcases e8 r hin with ⟨g1, g2⟩ | ⟨R, q, g1, g2, g3⟩
    · rw [g2]
      refine gs_ast3 (pc := 61) dX5_init_61 rfl ?_
      refine gs_ald3 (pc := 62) dX5_init_62 ?_
      refine gs_ifnull (pc := 63) (tgt := 99) dX5_init_63 (by decide) (fun _ => ?_) (fun _ h => by cases h)
      refine inc h us tl capT _ hF hk (by omega) (fun r' R hr' hR => ?_)
      by_cases e : r' = r
      · subst e; rw [g1] at hR; cases hR
      · exact hall r' R (by omega) hR
    · rw [g2]
      obtain ⟨tt, kk2, c1, c2, c3⟩ := g3
      have hso := (hO.2.2.1 r R g1).1
      have ht := hk.1
      refine gs_ast3 (pc := 61) dX5_init_61 rfl ?_
      refine gs_ald3 (pc := 62) dX5_init_62 ?_
      refine gs_ifnull (pc := 63) (tgt := 99) dX5_init_63 (by decide) (fun h => by cases h) (fun _ _ => ?_)
      refine gs_ald0 (pc := 66) dX5_init_66 ?_
      refine gs_ald3 (pc := 67) dX5_init_67 ?_
      refine gs_getfN (pc := 68) 5 dX5_init_68 c1 clX7 in_X7 (by decide) q1762 (Or.inl rfl) rfl ?_
      refine gs_V1 (pc := 71) dX5_init_71 kX5_45 ht clX5 (by decide) (Nat.le_of_ble_eq_true rfl) (c_wordOf hX c2 ht hk.2.2.2.2.2.2.1 (by omega)) (fun v h1 hq => ?_)
      obtain ⟨w, rfl, hwo⟩ := hq
      have hl0 : tl.length < 24 + (dst (txN ([] : List Tok) ([] : List Tok).length)).length := by show tl.length < 24 + 0; omega
      obtain ⟨us1, tl1, capT1, k1, k2, k3, k4, k5⟩ := hk.word hX hwo hl0 rfl
      have c1a := k5.at c1 (by unfold tkL; omega)
      have c2a := c2.fr k5 (fun l hl => tkL_2 hl)
      have ht1 := k1.1
      have hl1 : tl1.length < 24 + (dst (txN ([] : List Tok) ([] : List Tok).length)).length := by show tl1.length < 24 + 0; omega
      have fin : ∀ (x : Nat) (y : List Int), isS X h1 x y → (y = R.2.2.2.2.2.1 ∧ R.1 ≠ 1 ∨ y = R.2.2.2.2.2.2) → G X fX5_init 11 95 [some (vR (some t)), some (vR (some s)), some (vI (r : Int)), some (vR (some q))] [vR (some x), vR (some t)] h1 Q := by
        intro x y hx hy
        refine gs_V1 (pc := 95) dX5_init_95 kX5_45 ht1 clX5 (by decide) (Nat.le_of_ble_eq_true rfl) (c_wordOf hX hx ht1 k1.2.2.2.2.2.2.1 (by omega)) (fun v h2 hq => ?_)
        obtain ⟨w2, rfl, hwo2⟩ := hq
        refine gs_pop (pc := 98) dX5_init_98 rfl ?_
        obtain ⟨us2, tl2, capT2, j1, j2, j3, j4, j5⟩ := k1.word hX hwo2 hl1 rfl
        refine inc h2 us2 tl2 capT2 _ (hF.trans (k5.trans j5)) j1 (by omega) (fun r' R' hr' hR' => ?_)
        by_cases e : r' = r
        · subst e
          obtain rfl : R = R' := Option.some.inj (g1.symm.trans hR')
          refine ⟨j2.subset k4, fun h1 => ?_⟩
          rcases hy with ⟨-, hy⟩ | hy
          · exact absurd h1 hy
          · rw [← hy]; exact j4
        · obtain ⟨q1, q2⟩ := hall r' R' (by omega) hR'
          exact ⟨j2.subset (k2.subset q1), fun h1 => j2.subset (k2.subset (q2 h1))⟩
      refine gs_pop (pc := 74) dX5_init_74 rfl ?_
      refine gs_ald0 (pc := 75) dX5_init_75 ?_
      refine gs_ald3 (pc := 76) dX5_init_76 ?_
      refine gs_getfN (pc := 77) 0 dX5_init_77 c1a clX7 in_X7 (by decide) q1746 (Or.inl rfl) rfl ?_
      refine gs_iconst (pc := 80) dX5_init_80 ?_
      refine gs_ic_ne (pc := 81) (tgt := 91) dX5_init_81 (by decide) (by omega) (fun hs1 => ?_) (fun hs1 => ?_)
      · refine gs_ald3 (pc := 91) dX5_init_91 ?_
        refine gs_getfN (pc := 92) 5 dX5_init_92 c1a clX7 in_X7 (by decide) q1762 (Or.inl rfl) rfl ?_
        exact fin tt _ c2a (Or.inl ⟨rfl, hs1⟩)
      · obtain ⟨k', rfl, c4⟩ := c3 hs1
        refine gs_ald3 (pc := 84) dX5_init_84 ?_
        refine gs_getfN (pc := 85) 6 dX5_init_85 c1a clX7 in_X7 (by decide) q1765 (Or.inl rfl) rfl ?_
        refine gs_goto (pc := 88) (tgt := 95) dX5_init_88 (by decide) ?_
        exact fin k' _ (c4.fr k5 (fun l hl => tkL_2 hl)) (Or.inr rfl)
/-- the lines are divided -/
theorem ti_lines {h0 : gHp} {Q : Option AV → gHp → Prop} (hX : KX X) (hO : ssOk S) (hst : stA X h0 s S xs cap ra f) (hsn : s ≠ t ∧ s ≠ al ∧ s ≠ tx ∧ s + 1 ≠ t ∧ s + 1 ≠ al ∧ s + 1 ≠ tx)
    (kk : ∀ h ts us tl' capA capT opn ff fp l3, Fr X (tkL t al tx) h0 h → tkP X h t s al tx nr fa pr (b2i opn) ts us tl' (toks S) capA capT ff fp B D → tl <+: tl' → lnI S (nL S) opn (toks S) ff fp → G X fX5_init 11 169 [some (vR (some t)), some (vR (some s)), some (vI (nL S : Int)), l3] [] h Q) :
    ∀ (k i : Nat) (h : gHp) (ts us : List Nat) (tl' : List (List Int)) (capA capT : Nat) (opn : Bool) (Tl : List Tok) (ff fp : Int → Int) (l3 : Option AV), i + k = nL S → Fr X (tkL t al tx) h0 h → tkP X h t s al tx nr fa pr (b2i opn) ts us tl' Tl capA capT ff fp B D → tl <+: tl' → lnI S i opn Tl ff fp → G X fX5_init 11 118 [some (vR (some t)), some (vR (some s)), some (vI (i : Int)), l3] [] h Q := by
  have hn20 : nL S ≤ 20 := hO.1
  intro k
  induction k with
  | zero =>
    intro i h ts us tl' capA capT opn Tl ff fp l3 hi hF hk hpre hI
    obtain rfl : i = nL S := by omega
    have hs2 : ¬ tkL t al tx (s + 2) ∧ ¬ tkL t al tx (s + 3) := by unfold tkL; omega
    have hs' := hst.fr hX hF (fun l hl => tkL_2 hl) hs2.1 hs2.2
    obtain ⟨e1, e2, e3, e4, e5, e6, e7, e8⟩ := id hs'
    have e2' := e2
    obtain ⟨mc, e, lbe, ff', ea, -⟩ := e2'
    have e4 : xs.length = nL S := e4
    refine gs_ild2 (pc := 118) dX5_init_118 ?_
    refine gs_ald1 (pc := 119) dX5_init_119 ?_
    refine gs_getfN (pc := 120) 0 dX5_init_120 e1 clX1 in_X1 (by decide) q183 (Or.inl rfl) rfl ?_
    refine gs_V0 (pc := 123) dX5_init_123 kX5_56 ea clJ2 (by decide) (Nat.le_of_ble_eq_true rfl) (c_alSize e2) (fun v hp1 hq => ?_)
    obtain ⟨rfl, rfl⟩ := hq
    refine gs_ic_ge (pc := 126) (tgt := 169) dX5_init_126 (by decide) (by omega) (fun _ => ?_) (fun hn => absurd (by omega) hn)
    have hT : toks S = Tl := by
      obtain ⟨P, -, -, p3, -⟩ := hI
      have hd : S.1.drop (nL S) = [] := List.drop_eq_nil_of_le (Nat.le_refl _)
      rw [p3, hd]
      simp [flt]
    rw [← hT] at hk hI
    exact kk h ts us tl' capA capT opn ff fp l3 hF hk hpre hI
  | succ k ih =>
    intro i h ts us tl' capA capT opn Tl ff fp l3 hi hF hk hpre hI
    have hs2 : ¬ tkL t al tx (s + 2) ∧ ¬ tkL t al tx (s + 3) := by unfold tkL; omega
    have hs' := hst.fr hX hF (fun l hl => tkL_2 hl) hs2.1 hs2.2
    obtain ⟨e1, e2, e3, e4, e5, e6, e7, e8⟩ := id hs'
    have e2' := e2
    obtain ⟨mc, e, lbe, ff', ea, -⟩ := e2'
    have e4 : xs.length = nL S := e4
    obtain ⟨cc, l1, l2, l4⟩ := e6 i (by omega)
    have hmem : lnA S i ∈ S.1 := by
      unfold lnA
      have hi' : i < S.1.length := by show i < nL S; omega
      rw [List.getD_eq_getElem?_getD, List.getElem?_eq_getElem hi']
      exact List.getElem_mem hi'
    have hlo := hO.2.1 _ hmem
    have h32 := hlo.2.2.1
    have hcm : S.2.2.2.2 ≠ 32 ∧ i32 S.2.2.2.2 := by
      have := hO.2.2.2.2.2
      simp [cmOk, inB] at this
      omega
    have hTl : Tl.length ≤ 32 * i := by
      obtain ⟨P, -, -, -, -, -, -, p7⟩ := hI
      exact p7
    have ht := hk.1
    refine gs_ild2 (pc := 118) dX5_init_118 ?_
    refine gs_ald1 (pc := 119) dX5_init_119 ?_
    refine gs_getfN (pc := 120) 0 dX5_init_120 e1 clX1 in_X1 (by decide) q183 (Or.inl rfl) rfl ?_
    refine gs_V0 (pc := 123) dX5_init_123 kX5_56 ea clJ2 (by decide) (Nat.le_of_ble_eq_true rfl) (c_alSize e2) (fun v hp1 hq => ?_)
    obtain ⟨rfl, rfl⟩ := hq
    refine gs_ic_ge (pc := 126) (tgt := 169) dX5_init_126 (by decide) (by omega) (fun hn => absurd hn (by omega)) (fun _ => ?_)
    refine gs_ald0 (pc := 129) dX5_init_129 ?_
    refine gs_ild2 (pc := 130) dX5_init_130 ?_
    refine gs_ald1 (pc := 131) dX5_init_131 ?_
    refine gs_getfN (pc := 132) 0 dX5_init_132 e1 clX1 in_X1 (by decide) q183 (Or.inl rfl) rfl ?_
    refine gs_ild2 (pc := 135) dX5_init_135 ?_
    refine gs_V1 (pc := 136) dX5_init_136 kX5_66 ea clJ2 (by decide) (Nat.le_of_ble_eq_true rfl) (c_alGet e2 (by omega)) (fun v hp1 hq => ?_)
    obtain ⟨rfl, rfl⟩ := hq
    refine gs_cast (pc := 139) dX5_init_139 q698 l1 clX3 (Or.inl rfl) ?_
    refine gs_getfN (pc := 142) 1 dX5_init_142 l1 clX3 in_X3 (by decide) q277 (Or.inl rfl) rfl ?_
    refine gs_V2v (pc := 145) dX5_init_145 kX5_75 ht clX5 (by decide) (Nat.le_of_ble_eq_true rfl) (c_divide hX hcm hlo.2.2.1 hlo.2.2.2.1 (by omega) hk e1 l2 l4 (by omega)) (fun h1 hq => ?_)
    obtain ⟨d1, ts1, us1, tl1, capA1, capT1, d2, d3⟩ := hq
    have ht1 := d3.1
    have e2a := d3.2.1
    obtain ⟨mc1, e1', lbe1, ff1, ea1, -⟩ := d3.2.1
    have hfa := d3.2.2.2.2.2.2.2.1
    have hpr := d3.2.2.2.2.2.2.2.2.1
    have hl1 := d3.2.2.1
    refine gs_ald0 (pc := 148) dX5_init_148 ?_
    refine gs_getf (pc := 149) 4 dX5_init_149 ht1 clX5 in_X5 (by decide) q1446 (Or.inl rfl) rfl ?_
    refine gs_ild2 (pc := 152) dX5_init_152 ?_
    refine gs_iconst (pc := 153) dX5_init_153 ?_
    refine gs_iadd (pc := 154) dX5_init_154 ?_
    refine gs_ald0 (pc := 155) dX5_init_155 ?_
    refine gs_getf (pc := 156) 1 dX5_init_156 ht1 clX5 in_X5 (by decide) q1440 (Or.inl rfl) rfl ?_
    refine gs_V0 (pc := 159) dX5_init_159 kX5_56 ea1 clJ2 (by decide) (Nat.le_of_ble_eq_true rfl) (c_alSize e2a) (fun v hp1 hq => ?_)
    obtain ⟨rfl, rfl⟩ := hq
    refine gs_iast (pc := 162) dX5_init_162 hfa (by omega) (by omega) (by omega) ?_
    rw [hl1]
    have hk2 := d3.own (c1 := .inl (0, 21, .inl (fup ff ((i : Int) + 1) ((Tl ++ (lt S.2.2.2.2 opn (lnA S i).2.1).1.map (mkT i (lnA S i).2.1)).length : Int)))) (op' := b2i (lt S.2.2.2.2 opn (lnA S i).2.1).2) (nr' := nr) (ff' := fup ff ((i : Int) + 1) ((Tl ++ (lt S.2.2.2.2 opn (lnA S i).2.1).1.map (mkT i (lnA S i).2.1)).length : Int)) hX hfa ⟨rfl, rfl, rfl⟩ (fun fs hh => by cases hh) (by rw [gl_set_ne (fun e => by rw [← e, ht1] at hfa; cases hfa)]; exact ht1) (gl_set_self hfa (by omega)) (by rw [gl_set_ne (fun e => by rw [← e, hpr] at hfa; cases hfa)]; exact hpr)
    have F2 : Fr X (tkL t al tx) h1 (hset h1 fa (t + 2, .inl (0, 21, .inl (fup ff ((i : Int) + 1) ((Tl ++ (lt S.2.2.2.2 opn (lnA S i).2.1).1.map (mkT i (lnA S i).2.1)).length : Int))))) := (Fr1 (c := .inl (0, 21, .inl (fup ff ((i : Int) + 1) ((Tl ++ (lt S.2.2.2.2 opn (lnA S i).2.1).1.map (mkT i (lnA S i).2.1)).length : Int)))) hfa (by omega) ⟨rfl, rfl, rfl⟩).mono (fun l hl => Or.inl hl)
    refine gs_inc2 (pc := 163) dX5_init_163 rfl ?_
    refine gs_goto (pc := 166) (tgt := 118) dX5_init_166 (by decide) ?_
    rw [show (i : Int) + 1 = ((i + 1 : Nat) : Int) by omega]
    have hst' := hI.step hO (by omega)
    rw [show (i : Int) + 1 = ((i + 1 : Nat) : Int) by omega] at hk2 F2 hst'
    exact ih (i + 1) _ ts1 us1 tl1 capA1 capT1 _ _ _ _ _ (by omega) (hF.trans (d1.trans F2)) hk2 (hpre.trans d2) hst'
theorem c_tkInit (hX : KX X) (hO : ssOk S) (hst : stA X hp s S xs cap ra f) (ht : gl X hp t = some (t + 2, .inr (5, dfX5))) (hst1 : s + 1 < t) : M0 X yX5_init fX5_init 11 [vR (some t), vR (some s)] hp (fun hp' => isTk X hp' t s S ∧ Fr X (fun l => l = t + 2 ∨ frs X hp l) hp hp' ∧ hp'.1 ≤ hp.1 + 5000 ∧ hp'.2.1 ≤ hp.2.1 + 60000) := by
  have htl := gl_lt ht
  refine MC.of pfX5_init rfl (fun _ => rfl) 2 rfl rfl ?_
  have S2 : ∀ l, (l = t + 2 ∨ frs X hp l) → 2 ≤ l := fun l hl => by unfold frs at hl; omega
  refine gs_ald0 (pc := 0) dX5_init_0 ?_
  refine gs_objInit (pc := 1) dX5_init_1 q679 q146 q147 (by decide) (Nat.le_of_ble_eq_true rfl) ?_
  refine gs_ald0 (pc := 4) dX5_init_4 ?_
  refine gs_new (pc := 5) (nx X hp + 2) dfJ2 dX5_init_5 clJ2 in_J2 tyJ2 tyJ2_ok q680 q155 q100 dfoJ2 ?_
  have a1 : gl X (hnew X hp 3 (nx X hp + 2, .inr (9, dfJ2))) (nx X hp) = some (nx X hp + 2, .inr (9, dfJ2)) := gl_new_self
  have b1 : Fr X (fun _ => False) hp (hnew X hp 3 (nx X hp + 2, .inr (9, dfJ2))) := Fr.refl.new
  have c1 : (hnew X hp 3 (nx X hp + 2, .inr (9, dfJ2))).1 = hp.1 + 1 ∧ (hnew X hp 3 (nx X hp + 2, .inr (9, dfJ2))).2.1 = hp.2.1 + 3 ∧ nx X (hnew X hp 3 (nx X hp + 2, .inr (9, dfJ2))) = nx X hp + 1 := ⟨rfl, rfl, rfl⟩
  generalize hnew X hp 3 (nx X hp + 2, Sum.inr (9, dfJ2)) = k1 at *
  refine gs_dup (pc := 8) dX5_init_8 rfl ?_
  refine gs_I0v (pc := 9) dX5_init_9 kX5_11 (by decide) (Nat.le_of_ble_eq_true rfl) (c_alInit hX a1) (fun h1 hq => ?_)
  obtain ⟨d1, d2, d3, d4⟩ := hq
  have F1 : Fr X (fun l => l = t + 2 ∨ frs X hp l) hp h1 := (Fr.of0 b1).trans (d1.mono (fun l hl => Or.inr (by unfold frs; omega)))
  have t1 : gl X h1 t = some (t + 2, .inr (5, dfX5)) := d1.at (b1.at ht (fun h => h)) (by omega)
  refine gs_putF (pc := 12) 1 (.inr (5, [vR none, vR (some (nx X hp)), vR none, vI 0, vR none, vR none, vI 0])) dX5_init_12 t1 (by omega) clX5 in_X5 tyX5 tyX5_ok nmX5 (by decide) q1440 (Or.inl rfl) rfl rfl rfl (fok_obj _ _) (Nat.le_of_ble_eq_true rfl) rfl ?_
  have F2 := F1.set (c := .inr (5, [vR none, vR (some (nx X hp)), vR none, vI 0, vR none, vR none, vI 0])) t1 (by omega) (Or.inl rfl) ⟨rfl, rfl⟩
  have d4 := d4.fr hX (Fr1 (c := .inr (5, [vR none, vR (some (nx X hp)), vR none, vI 0, vR none, vR none, vI 0])) t1 (by omega) ⟨rfl, rfl⟩) (by omega)
  have t2 := gl_set_self (c := (t + 2, .inr (5, [vR none, vR (some (nx X hp)), vR none, vI 0, vR none, vR none, vI 0]))) t1 (by omega)
  have s2 : (hset h1 t (t + 2, .inr (5, [vR none, vR (some (nx X hp)), vR none, vI 0, vR none, vR none, vI 0]))).1 = h1.1 ∧ (hset h1 t (t + 2, .inr (5, [vR none, vR (some (nx X hp)), vR none, vI 0, vR none, vR none, vI 0]))).2.1 = h1.2.1 := ⟨rfl, rfl⟩
  generalize hset h1 t (t + 2, Sum.inr (5, [vR none, vR (some (nx X hp)), vR none, vI 0, vR none, vR none, vI 0])) = h2 at *
  have nx12 : nx X hp + 1 ≤ nx X h2 := by unfold nx at *; omega
  refine gs_ald0 (pc := 15) dX5_init_15 ?_
  refine gs_new (pc := 16) (nx X h2 + 2) dfJ2 dX5_init_16 clJ2 in_J2 tyJ2 tyJ2_ok q680 q155 q100 dfoJ2 ?_
  have a3 : gl X (hnew X h2 3 (nx X h2 + 2, .inr (9, dfJ2))) (nx X h2) = some (nx X h2 + 2, .inr (9, dfJ2)) := gl_new_self
  have b3 : Fr X (fun _ => False) h2 (hnew X h2 3 (nx X h2 + 2, .inr (9, dfJ2))) := Fr.refl.new
  have c3 : (hnew X h2 3 (nx X h2 + 2, .inr (9, dfJ2))).1 = h2.1 + 1 ∧ (hnew X h2 3 (nx X h2 + 2, .inr (9, dfJ2))).2.1 = h2.2.1 + 3 := ⟨rfl, rfl⟩
  generalize hnew X h2 3 (nx X h2 + 2, Sum.inr (9, dfJ2)) = k3 at *
  refine gs_dup (pc := 19) dX5_init_19 rfl ?_
  refine gs_I0v (pc := 20) dX5_init_20 kX5_11 (by decide) (Nat.le_of_ble_eq_true rfl) (c_alInit hX a3) (fun h3 hq => ?_)
  obtain ⟨f1, f2, f3, f4⟩ := hq
  have G3 : Fr X (fun l => l = nx X h2 + 2) h2 h3 := (Fr.of0 b3).trans f1
  have F3 : Fr X (fun l => l = t + 2 ∨ frs X hp l) hp h3 := F2.trans (G3.mono (fun l hl => Or.inr (by unfold frs; omega)))
  have t3 := G3.at t2 (by omega)
  have d4 := d4.fr hX G3 (by omega)
  refine gs_putF (pc := 23) 2 (.inr (5, [vR none, vR (some (nx X hp)), vR (some (nx X h2)), vI 0, vR none, vR none, vI 0])) dX5_init_23 t3 (by omega) clX5 in_X5 tyX5 tyX5_ok nmX5 (by decide) q1443 (Or.inl rfl) rfl rfl rfl (fok_obj _ _) (Nat.le_of_ble_eq_true rfl) rfl ?_
  have hF4 := Fr1 (c := .inr (5, [vR none, vR (some (nx X hp)), vR (some (nx X h2)), vI 0, vR none, vR none, vI 0])) t3 (by omega) ⟨rfl, rfl⟩
  have F4 := F3.trans (hF4.mono (fun l hl => Or.inl hl))
  have d4 := d4.fr hX hF4 (by omega)
  have f4 := f4.fr hX hF4 (by omega)
  have t4 := gl_set_self (c := (t + 2, .inr (5, [vR none, vR (some (nx X hp)), vR (some (nx X h2)), vI 0, vR none, vR none, vI 0]))) t3 (by omega)
  have s4 : (hset h3 t (t + 2, .inr (5, [vR none, vR (some (nx X hp)), vR (some (nx X h2)), vI 0, vR none, vR none, vI 0]))).1 = h3.1 ∧ (hset h3 t (t + 2, .inr (5, [vR none, vR (some (nx X hp)), vR (some (nx X h2)), vI 0, vR none, vR none, vI 0]))).2.1 = h3.2.1 := ⟨rfl, rfl⟩
  generalize hset h3 t (t + 2, Sum.inr (5, [vR none, vR (some (nx X hp)), vR (some (nx X h2)), vI 0, vR none, vR none, vI 0])) = h4 at *
  refine gs_ald0 (pc := 26) dX5_init_26 ?_
  refine gs_bipush (pc := 27) dX5_init_27 rfl ?_
  refine gs_newa (pc := 29) 0 (21) (t + 2) (by decide) rfl dX5_init_29 q770 (by first | rfl | omega) (by omega) ?_
  have a5 : gl X (hnew X h4 21 (t + 2, .inl (0, 21, .inl (fun _ => 0)))) (nx X h4) = some (t + 2, .inl (0, 21, .inl (fun _ => 0))) := gl_new_self
  have b5 : Fr X (fun _ => False) h4 (hnew X h4 21 (t + 2, .inl (0, 21, .inl (fun _ => 0)))) := Fr.refl.new
  have c5 : (hnew X h4 21 (t + 2, .inl (0, 21, .inl (fun _ => 0)))).1 = h4.1 + 1 ∧ (hnew X h4 21 (t + 2, .inl (0, 21, .inl (fun _ => 0)))).2.1 = h4.2.1 + 21 := ⟨rfl, rfl⟩
  generalize hnew X h4 21 (t + 2, Sum.inl (0, 21, Sum.inl (fun _ => 0))) = h5 at *
  have t5 := b5.at t4 (fun h => h)
  have d4 := d4.fr hX b5 (fun h => h)
  have f4 := f4.fr hX b5 (fun h => h)
  have F5 := F4.trans (Fr.of0 b5)
  generalize nx X h4 = fa at *
  refine gs_putF (pc := 31) 4 (.inr (5, [vR none, vR (some (nx X hp)), vR (some (nx X h2)), vI 0, vR (some fa), vR none, vI 0])) dX5_init_31 t5 (by omega) clX5 in_X5 tyX5 tyX5_ok nmX5 (by decide) q1446 (Or.inl rfl) rfl rfl rfl (fok_arr _ _) (Nat.le_of_ble_eq_true rfl) rfl ?_
  have hF6 := Fr1 (c := .inr (5, [vR none, vR (some (nx X hp)), vR (some (nx X h2)), vI 0, vR (some fa), vR none, vI 0])) t5 (by omega) ⟨rfl, rfl⟩
  have F6 := F5.trans (hF6.mono (fun l hl => Or.inl hl))
  have d4 := d4.fr hX hF6 (by omega)
  have f4 := f4.fr hX hF6 (by omega)
  have a6 : gl X (hset h5 t (t + 2, .inr (5, [vR none, vR (some (nx X hp)), vR (some (nx X h2)), vI 0, vR (some fa), vR none, vI 0]))) fa = some (t + 2, .inl (0, 21, .inl (fun _ => 0))) := by rw [gl_set_ne (fun e => by rw [e, t5] at a5; cases a5)]; exact a5
  have t6 := gl_set_self (c := (t + 2, .inr (5, [vR none, vR (some (nx X hp)), vR (some (nx X h2)), vI 0, vR (some fa), vR none, vI 0]))) t5 (by omega)
  have s6 : (hset h5 t (t + 2, .inr (5, [vR none, vR (some (nx X hp)), vR (some (nx X h2)), vI 0, vR (some fa), vR none, vI 0]))).1 = h5.1 ∧ (hset h5 t (t + 2, .inr (5, [vR none, vR (some (nx X hp)), vR (some (nx X h2)), vI 0, vR (some fa), vR none, vI 0]))).2.1 = h5.2.1 := ⟨rfl, rfl⟩
  generalize hset h5 t (t + 2, Sum.inr (5, [vR none, vR (some (nx X hp)), vR (some (nx X h2)), vI 0, vR (some fa), vR none, vI 0])) = h6 at *
  refine gs_ald0 (pc := 34) dX5_init_34 ?_
  refine gs_bipush (pc := 35) dX5_init_35 rfl ?_
  refine gs_newa (pc := 37) 1 (20) (t + 2) (by decide) rfl dX5_init_37 q771 (by first | rfl | omega) (by omega) ?_
  have a7 : gl X (hnew X h6 20 (t + 2, .inl (1, 20, .inl (fun _ => 0)))) (nx X h6) = some (t + 2, .inl (1, 20, .inl (fun _ => 0))) := gl_new_self
  have b7 : Fr X (fun _ => False) h6 (hnew X h6 20 (t + 2, .inl (1, 20, .inl (fun _ => 0)))) := Fr.refl.new
  have c7 : (hnew X h6 20 (t + 2, .inl (1, 20, .inl (fun _ => 0)))).1 = h6.1 + 1 ∧ (hnew X h6 20 (t + 2, .inl (1, 20, .inl (fun _ => 0)))).2.1 = h6.2.1 + 20 := ⟨rfl, rfl⟩
  generalize hnew X h6 20 (t + 2, Sum.inl (1, 20, Sum.inl (fun _ => 0))) = h7 at *
  have t7 := b7.at t6 (fun h => h)
  have a6 := b7.at a6 (fun h => h)
  have d4 := d4.fr hX b7 (fun h => h)
  have f4 := f4.fr hX b7 (fun h => h)
  have F7 := F6.trans (Fr.of0 b7)
  generalize nx X h6 = pr at *
  have p8 : ∀ (o : Option Nat) (hb : gHp), gl X hb t = some (t + 2, .inr (5, [vR o, vR (some (nx X hp)), vR (some (nx X h2)), vI 0, vR (some fa), vR (some pr), vI 0])) → True := fun _ _ _ => trivial
  refine gs_putF (pc := 39) 5 (.inr (5, [vR none, vR (some (nx X hp)), vR (some (nx X h2)), vI 0, vR (some fa), vR (some pr), vI 0])) dX5_init_39 t7 (by omega) clX5 in_X5 tyX5 tyX5_ok nmX5 (by decide) q1449 (Or.inl rfl) rfl rfl rfl (fok_arr _ _) (Nat.le_of_ble_eq_true rfl) rfl ?_
  have t8 := gl_set_self (c := (t + 2, .inr (5, [vR none, vR (some (nx X hp)), vR (some (nx X h2)), vI 0, vR (some fa), vR (some pr), vI 0]))) t7 (by omega)
  refine gs_ald0 (pc := 42) dX5_init_42 ?_
  refine gs_ald1 (pc := 43) dX5_init_43 ?_
  refine gs_putF (pc := 44) 0 (tkC s (nx X hp) (nx X h2) 0 fa pr 0) dX5_init_44 t8 (by omega) clX5 in_X5 tyX5 tyX5_ok nmX5 (by decide) q1439 (Or.inl rfl) rfl rfl rfl (fok_obj _ _) (Nat.le_of_ble_eq_true rfl) rfl ?_
  have hF8 : Fr X (fun l => l = t + 2) h7 (hset (hset h7 t (t + 2, .inr (5, [vR none, vR (some (nx X hp)), vR (some (nx X h2)), vI 0, vR (some fa), vR (some pr), vI 0]))) t (t + 2, tkC s (nx X hp) (nx X h2) 0 fa pr 0)) := (Fr1 (c := .inr (5, [vR none, vR (some (nx X hp)), vR (some (nx X h2)), vI 0, vR (some fa), vR (some pr), vI 0])) t7 (by omega) ⟨rfl, rfl⟩).trans (Fr1 (c := tkC s (nx X hp) (nx X h2) 0 fa pr 0) t8 (by omega) ⟨rfl, rfl⟩)
  have t9 := gl_set_self (c := (t + 2, tkC s (nx X hp) (nx X h2) 0 fa pr 0)) t8 (by omega)
  have hfat : fa ≠ t := fun e => by rw [e, t7] at a6; cases a6
  have hprt : pr ≠ t := fun e => by rw [e, t7] at a7; cases a7
  have a9 : gl X (hset (hset h7 t (t + 2, .inr (5, [vR none, vR (some (nx X hp)), vR (some (nx X h2)), vI 0, vR (some fa), vR (some pr), vI 0]))) t (t + 2, tkC s (nx X hp) (nx X h2) 0 fa pr 0)) fa = some (t + 2, .inl (0, 21, .inl (fun _ => 0))) := by rw [gl_set_ne hfat, gl_set_ne hfat]; exact a6
  have a10 : gl X (hset (hset h7 t (t + 2, .inr (5, [vR none, vR (some (nx X hp)), vR (some (nx X h2)), vI 0, vR (some fa), vR (some pr), vI 0]))) t (t + 2, tkC s (nx X hp) (nx X h2) 0 fa pr 0)) pr = some (t + 2, .inl (1, 20, .inl (fun _ => 0))) := by rw [gl_set_ne hprt, gl_set_ne hprt]; exact a7
  have s9 : (hset (hset h7 t (t + 2, .inr (5, [vR none, vR (some (nx X hp)), vR (some (nx X h2)), vI 0, vR (some fa), vR (some pr), vI 0]))) t (t + 2, tkC s (nx X hp) (nx X h2) 0 fa pr 0)).1 = h7.1 ∧ (hset (hset h7 t (t + 2, .inr (5, [vR none, vR (some (nx X hp)), vR (some (nx X h2)), vI 0, vR (some fa), vR (some pr), vI 0]))) t (t + 2, tkC s (nx X hp) (nx X h2) 0 fa pr 0)).2.1 = h7.2.1 := ⟨rfl, rfl⟩
  have d4 := d4.fr hX hF8 (by omega)
  have f4 := f4.fr hX hF8 (by omega)
  have F9 := F7.trans (hF8.mono (fun l hl => Or.inl hl))
  generalize hset (hset h7 t (t + 2, Sum.inr (5, [vR none, vR (some (nx X hp)), vR (some (nx X h2)), vI 0, vR (some fa), vR (some pr), vI 0]))) t (t + 2, tkC s (nx X hp) (nx X h2) 0 fa pr 0) = h9 at *
  generalize hal : nx X hp = al at *
  generalize htx : nx X h2 = tx at *
  have hfs : ∀ l, frs X hp l → al + 2 ≤ l := fun l hl => by unfold frs at hl; omega
  have hst9 : stA X h9 s S xs cap ra f := hst.fr hX F9 S2 (fun g => by rcases g with g | g; omega; have := hfs _ g; omega) (fun g => by rcases g with g | g; omega; have := hfs _ g; omega)
  refine gs_iconst (pc := 47) dX5_init_47 ?_
  refine gs_ist2 (pc := 48) dX5_init_48 rfl ?_
  have hk0 : tkP X h9 t s al tx 0 fa pr 0 [] [] [] [] 0 0 (fun _ => 0) (fun _ => 0) h9.1 h9.2.1 := ⟨t9, d4, rfl, fun k hk => absurd hk (Nat.not_lt_zero _), List.nodup_nil, by omega, ⟨f4, rfl, fun k hk => absurd hk (Nat.not_lt_zero _), List.nodup_nil, by omega⟩, a9, a10, by omega, ⟨by simp, wB0 (by simp)⟩, by simp, by simp⟩
  have hsn : s ≠ t ∧ s ≠ al ∧ s ≠ tx ∧ s + 1 ≠ t ∧ s + 1 ≠ al ∧ s + 1 ≠ tx := by omega
  refine ti_rules (h0 := h9) hX hO hst9 hsn (fun h us tl capT l3 q1 q2 q3 q4 => ?_) 12 0 h9 [] [] 0 none rfl Fr.refl hk0 (by simp) (fun r' R hr' => absurd hr' (Nat.not_lt_zero _))
  have hs2 : ¬ tkL t al tx (s + 2) ∧ ¬ tkL t al tx (s + 3) := by unfold tkL; omega
  have hst10 := hst9.fr hX q1 (fun l hl => tkL_2 hl) hs2.1 hs2.2
  have u1 := q2.1
  have u2 := q2.2.2.2.2.2.2.1
  have u8 := q2.2.2.2.2.2.2.2.1
  have u9 := q2.2.2.2.2.2.2.2.2.1
  obtain ⟨mc, e, lbe, ff, ea, -⟩ := u2.1
  refine gs_ald0 (pc := 105) dX5_init_105 ?_
  refine gs_ald0 (pc := 106) dX5_init_106 ?_
  refine gs_getf (pc := 107) 2 dX5_init_107 u1 clX5 in_X5 (by decide) q1443 (Or.inl rfl) rfl ?_
  refine gs_V0 (pc := 110) dX5_init_110 kX5_56 ea clJ2 (by decide) (Nat.le_of_ble_eq_true rfl) (c_alSize u2.1) (fun v hp1 hq => ?_)
  obtain ⟨rfl, rfl⟩ := hq
  rw [u2.2.1]
  refine gs_putF (pc := 113) 3 (tkC s al tx tl.length fa pr 0) dX5_init_113 u1 (by omega) clX5 in_X5 tyX5 tyX5_ok nmX5 (by decide) q1445 (Or.inl rfl) rfl rfl rfl (fok_int _) (Nat.le_of_ble_eq_true rfl) rfl ?_
  have hk1 := q2.own (c1 := tkC s al tx tl.length fa pr 0) (op' := 0) (nr' := tl.length) hX u1 ⟨rfl, rfl⟩ (fun fs hh => by have := (Prod.mk.inj (Sum.inr.inj hh)).1; omega) (gl_set_self u1 (by omega)) (by rw [gl_set_ne (fun e => by rw [e, u1] at u8; cases u8)]; exact u8) (by rw [gl_set_ne (fun e => by rw [e, u1] at u9; cases u9)]; exact u9)
  have G1 : Fr X (tkL t al tx) h (hset h t (t + 2, tkC s al tx tl.length fa pr 0)) := (Fr1 (c := tkC s al tx tl.length fa pr 0) u1 (by omega) ⟨rfl, rfl⟩).mono (fun l hl => Or.inl hl)
  generalize hset h t (t + 2, tkC s al tx tl.length fa pr 0) = h10 at *
  refine gs_iconst (pc := 116) dX5_init_116 ?_
  refine gs_ist2 (pc := 117) dX5_init_117 rfl ?_
  have hL0 : lnI S 0 false [] (fun _ => 0) (fun _ => 0) := by
    refine ⟨[], rfl, by rw [List.drop_zero]; rfl, by rw [List.drop_zero]; rfl, by rw [fstO_0]; rfl, fun j hj => ?_, fun j hj => absurd hj (Nat.not_lt_zero _), by simp⟩
    obtain rfl : j = 0 := by omega
    rw [fstO_0]
    rfl
  refine ti_lines (h0 := h9) (tl := tl) hX hO hst9 hsn (fun h' ts us' tl' capA' capT' opn ff' fp' l3' v1 v2 v3 v4 => ?_) (nL S) 0 h10 [] us tl 0 capT false [] (fun _ => 0) (fun _ => 0) l3 (by omega) (q1.trans G1) hk1 (List.prefix_refl _) hL0
  have hst11 := hst9.fr hX v1 (fun l hl => tkL_2 hl) hs2.1 hs2.2
  have htk : tl'.take tl.length = tl := (List.prefix_iff_eq_take.mp v3).symm
  have htle := toks_le hO
  have w1 := v2.1
  refine gs_ald0 (pc := 169) dX5_init_169 ?_
  refine gs_V0v (pc := 170) dX5_init_170 kX5_79 w1 clX5 (by decide) (Nat.le_of_ble_eq_true rfl) (c_findRules hX hO v2 hst11 q3 (fun r R hr hR => by rw [htk]; exact q4 r R hr hR) htle (flt_q S.1 0 _)) (fun h12 hq => ?_)
  obtain ⟨h11, y1, y2, y3, y4⟩ := hq
  refine gs_vret (pc := 173) dX5_init_173 rfl ?_
  have hlA := v2.2.1
  have hlT := v2.2.2.2.2.2.2.1
  have lt1 := gl_lt w1
  have lt2 := hlA.o.lt
  have lt3 := hlT.1.o.lt
  have w8 := v2.2.2.2.2.2.2.2.1
  have w9 := v2.2.2.2.2.2.2.2.2.1
  have w1' := y1.at w1 (by unfold frs; omega)
  have w8' := y1.at w8 (by unfold frs; omega)
  have w9' := y1.at w9 (by unfold frs; omega)
  have hn2 : nx X h9 ≤ nx X h' := v1.nx
  have hn3 : al ≤ nx X h9 := by have := F9.nx; omega
  have m1 := v2.2.2.1
  have m2 := v2.2.2.2.2.2.1
  have m3 := v2.2.2.2.2.2.2.1.2.2.2.2
  have m4 := v2.2.2.2.2.2.2.2.2.2.2.1.1
  have mB := v2.2.2.2.2.2.2.2.2.2.2.1.2
  have m5 := v2.2.2.2.2.2.2.2.2.2.2.2.1
  have m6 := v2.2.2.2.2.2.2.2.2.2.2.2.2
  obtain ⟨-, -, -, -, -, p5, p6, -⟩ := v4
  refine ⟨rfl, ⟨al, tx, fa, pr, ts, us', tl', ff', fp', ⟨(tl.length : Int), b2i opn, (y2.2.2.2.1 t (y2.tn w1')).trans w1'⟩, ⟨capA', (hlA.fr hX y1 (by unfold frs; omega)).fr hX y2.2.2.1 (by have := v2.ne; omega)⟩, m1, fun k hk => y2.2.2.2.2.1 k hk, ⟨capT', (hlT.1.fr hX y1 (by unfold frs; omega)).fr hX y2.2.2.1 (by have := v2.ne; omega)⟩, hlT.2.1, fun i hi => ((hlT.2.2.1 i hi).fr y1 (fun l hl => frs_2 hl)).fr y2.2.2.1 (fun l hl => by omega), hlT.2.2.2.1, (y2.2.2.2.1 fa (y2.an w8')).trans w8', p5, (y2.2.2.2.1 pr (y2.an w9')).trans w9', p6, by omega, fun k hk h2 => mB.2 k hk h2⟩, ?_, by omega, by omega⟩
  refine F9.trans ((v1.mono (fun l hl => ?_)).trans ((y1.mono (fun l hl => Or.inr ?_)).trans (y2.2.2.1.mono (fun l hl => Or.inl hl))))
  · unfold tkL at hl
    unfold frs
    omega
  · unfold frs at hl ⊢
    omega
end CZ
