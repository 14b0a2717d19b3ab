/-! THE COMPONENT: findRules. -/
section CV
variable {X : gCx} {hp hp1 hp2 hz h h3 h4 : gHp} {S0 : Nat → Prop} {S : SS} {a c s t n p q al tx nr fa pr B D capA capT capA' capT' x m len cap ra r : Nat} {u y : List Int} {xs us ts us' : List Nat} {tl tl' : List (List Int)} {T : Tok} {Tl : List Tok} {ff fp : Int → Int} {op wd so : Int} {txo : Option Nat} {f : Int → Option Nat} {R : Rl}
/-- a set of numbers -/
def hsV (X : gCx) (hp : gHp) (hs m n len : Nat) (V : Int → Bool) : Prop := gl X hp hs = some (1, .inr (13, [vR (some m)])) ∧ ∃ es, isHM X hp 12 15 false m none [] (fun _ => []) n es ∧ es.length = len ∧ (∀ nd ∈ es, nd.2.1 < 448) ∧ ∀ k, (fk es k).isSome = V k
theorem hsV.fr {hs : Nat} {V : Int → Bool} (hF : Fr X S0 hp hp1) (hS : ¬ S0 (m + 2)) (hS2 : ∀ l, S0 l → 2 ≤ l) (h : hsV X hp hs m n len V) : hsV X hp1 hs m n len V := by
  obtain ⟨e0, es, e1, e2, e3, e4⟩ := h
  exact ⟨hF.at e0 (fun g => by have := hS2 _ g; omega), es, e1.fr hF hS hS2, e2, e3, e4⟩
theorem c_hsAdd2 {hs : Nat} {V : Int → Bool} {k : Int} (hh : hsV X hp hs m n len V) (hq : isKey X hp false q k) (hk : k < 448) (hn : n ≤ 8192) : MV X yJ16_add fJ16_add 7 [vR (some hs), vR (some q)] hp (fun v hp' => (v = vI 0 ∨ v = vI 1) ∧ Fr X (fun l => l = m + 2) hp hp' ∧ ∃ n' len', hmG hp hp' len n n' ∧ len' ≤ len + 1 ∧ hsV X hp' hs m n' len' (fun j => decide (j = k) || V j)) := by
  obtain ⟨h1, es, h3, e2, e3, e4⟩ := hh
  have h3' := h3
  obtain ⟨-, -, -, vs, tb, eset, mc, th, lf, e1, -⟩ := h3
  refine MC.of pfJ16_add rfl (fun h => by cases h) 0 rfl rfl ?_
  refine gs_ald0 (pc := 0) dJ16_add_0 ?_
  refine gs_getf (pc := 1) 0 dJ16_add_1 h1 clJ16 in_J16 (by decide) q840 (Or.inl rfl) rfl ?_
  refine gs_ald1 (pc := 4) dJ16_add_4 ?_
  refine gs_gets (pc := 5) 4 (by decide) dJ16_add_5 q1424 (Or.inl rfl) ?_
  refine gs_V2 (pc := 8) dJ16_add_8 kJ16_68 e1 clJ14 (by decide) (Nat.le_of_ble_eq_true rfl) (c_put h3' ⟨rfl, fun _ => rfl⟩ hq hn (fun h64 nd hn => by have := e3 nd hn; omega)) (fun v hp1 hq => ?_)
  obtain ⟨rfl, z1, ext', xt', n', a, z2, z3, z4, z5⟩ := hq
  obtain rfl : ext' = [] := z4
  obtain rfl : xt' = fun _ => [] := funext z5
  have hfin : ∀ v, v = vI 0 ∨ v = vI 1 → (v = vI 0 ∨ v = vI 1) ∧ Fr X (fun l => l = m + 2) hp hp1 ∧ ∃ n' len', hmG hp hp1 len n n' ∧ len' ≤ len + 1 ∧ hsV X hp1 hs m n' len' (fun j => decide (j = k) || V j) := by
    intro v hv
    refine ⟨hv, z1, n', _, by rw [← e2]; exact z2, by rw [← e2]; exact fk_putE.2.2.1, z1.at h1 (by omega), _, z3, rfl, fun nd hn => ?_, fun j => ?_⟩
    · rcases fk_putE.2.2.2 nd hn with h | ⟨nd', h1, h2⟩
      · omega
      · have := e3 nd' h1; omega
    · by_cases hj : j = k
      · subst hj
        obtain ⟨nd, q1, q2⟩ := (fk_putE (es := es) (k := j) (q := q) (w := cxK X 1) (a := a)).1
        rw [q1]; simp
      · rw [fk_putE.2.1 j hj, e4 j]; simp [hj]
  cases fk es k with
  | none =>
    refine gs_ifnonnull (pc := 11) (tgt := 18) dJ16_add_11 (by decide) (fun _ h => by cases h) (fun _ => ?_)
    refine gs_iconst (pc := 14) dJ16_add_14 ?_
    refine gs_goto (pc := 15) (tgt := 19) dJ16_add_15 (by decide) ?_
    refine gs_zret (pc := 19) .boolean dJ16_add_19 rfl rfl ?_
    exact ⟨_, rfl, hfin _ (Or.inr rfl)⟩
  | some nd =>
    refine gs_ifnonnull (pc := 11) (tgt := 18) dJ16_add_11 (by decide) (fun _ _ => ?_) (fun h => by cases h)
    refine gs_iconst (pc := 18) dJ16_add_18 ?_
    refine gs_zret (pc := 19) .boolean dJ16_add_19 rfl rfl ?_
    exact ⟨_, rfl, hfin _ (Or.inl rfl)⟩
theorem c_hsHas2 {hs : Nat} {V : Int → Bool} {k : Int} (hh : hsV X hp hs m n len V) (hq : isKey X hp false q k) : MV X yJ16_contains fJ16_contains 6 [vR (some hs), vR (some q)] hp (fun v hp' => v = vI (b2i (V k)) ∧ hp = hp') := by
  obtain ⟨h1, es, h3, e2, e3, e4⟩ := hh
  have h3' := h3
  obtain ⟨-, -, -, vs, tb, eset, mc, th, lf, e1, -⟩ := h3
  refine MC.of pfJ16_contains rfl (fun h => by cases h) 0 rfl rfl ?_
  refine gs_ald0 (pc := 0) dJ16_contains_0 ?_
  refine gs_getf (pc := 1) 0 dJ16_contains_1 h1 clJ16 in_J16 (by decide) q840 (Or.inl rfl) rfl ?_
  refine gs_ald1 (pc := 4) dJ16_contains_4 ?_
  refine gs_V1 (pc := 5) dJ16_contains_5 kJ16_60 e1 clJ14 (by decide) (Nat.le_of_ble_eq_true rfl) (c_hmHas h3' hq) (fun v hp1 hq => ?_)
  obtain ⟨rfl, rfl⟩ := hq
  rw [← e4 k]
  refine gs_zret (pc := 8) .boolean dJ16_contains_8 rfl ?_ ⟨_, rfl, ?_, rfl⟩
  · cases (fk es k).isSome <;> rfl
  · cases (fk es k).isSome <;> rfl
/-- whether a text closes one of the first r pairs -/
def clN (S : SS) (y : List Int) (r : Nat) : Bool := (List.range r).any (fun r => match S.2.1 r with
  | some R => decide (R.1 = 1 ∧ R.2.2.2.2.2.2 = y)
  | none => false)
theorem clN_s : clN S y (r + 1) = (clN S y r || match S.2.1 r with
  | some R => decide (R.1 = 1 ∧ R.2.2.2.2.2.2 = y)
  | none => false) := by
  unfold clN
  rw [List.range_succ, List.any_append]
  simp
def clW (S : SS) (tl : List (List Int)) (r : Nat) (k : Int) : Bool := decide (0 ≤ k ∧ k < tl.length) && clN S (tl.getD k.toNat []) r
theorem clW_skip (h : S.2.1 r = none ∨ ∃ R, S.2.1 r = some R ∧ R.1 ≠ 1) : clW S tl (r + 1) = clW S tl r := by
  funext k
  unfold clW
  rw [clN_s]
  rcases h with h | ⟨R, h, h'⟩
  · rw [h]; simp
  · rw [h]; simp [h']
theorem clW_new {w : Nat} (hR : S.2.1 r = some R) (h1 : R.1 = 1) (hnd : tl.Nodup) (hw : w < tl.length) (he : tl.getD w [] = R.2.2.2.2.2.2) : clW S tl (r + 1) = fun j => decide (j = (w : Int)) || clW S tl r j := by
  funext j
  unfold clW
  rw [clN_s, hR]
  dsimp only
  by_cases hj : j = (w : Int)
  · subst hj
    rw [Int.toNat_natCast, he]
    have h2 : 0 ≤ (w : Int) ∧ (w : Int) < tl.length := by omega
    simp [h1, h2]
  · by_cases hr : 0 ≤ j ∧ j < tl.length
    · have : ¬ R.2.2.2.2.2.2 = tl.getD j.toNat [] := fun g => by
        have := tx_inj hnd hw (j := j.toNat) (by omega) (by rw [he, g])
        omega
      rw [decide_eq_false (p := R.1 = 1 ∧ R.2.2.2.2.2.2 = tl.getD j.toNat []) (fun g => this g.2)]
      simp [hj]
    · simp [hr, hj]
theorem rfor_no {n : Nat} : (∀ r R, r < n → S.2.1 r = some R → R.2.2.2.2.2.1 ≠ y) → rfor S so y n = -9 := by
  induction n with
  | zero => intro _; rfl
  | succ n ih =>
    intro h
    have h1 := ih (fun r R hr => h r R (by omega))
    cases e : S.2.1 n with
    | none => rw [rfor_n e, h1]
    | some R => rw [rfor_s e, if_neg (fun g => h n R (by omega) e g.2.1), h1]
theorem clN_no {n : Nat} : (∀ r R, r < n → S.2.1 r = some R → R.1 = 1 → R.2.2.2.2.2.2 ≠ y) → clN S y n = false := by
  induction n with
  | zero => intro _; rfl
  | succ n ih =>
    intro h
    rw [clN_s, ih (fun r R hr => h r R (by omega))]
    cases e : S.2.1 n with
    | none => rfl
    | some R =>
      dsimp only
      rw [decide_eq_false (fun g => h n R (by omega) e g.1 g.2)]
      rfl
/-- while the rules are gone through -/
def frI (X : gCx) (hp h : gHp) (m1 m2 m3 hs mh : Nat) (S : SS) (tl : List (List Int)) (r : Nat) : Prop := FrN X hp h ∧ ∃ n1 l1 n2 l2 n3 l3 n4 l4, mapV X h false m1 n1 l1 (rV S 1 tl r) ∧ mapV X h false m2 n2 l2 (rV S 2 tl r) ∧ mapV X h false m3 n3 l3 (rV S 3 tl r) ∧ hsV X h hs mh n4 l4 (clW S tl r) ∧ (l1 ≤ r ∧ l2 ≤ r ∧ l3 ≤ r ∧ l4 ≤ r) ∧ (n1 ≤ 64 ∧ n2 ≤ 64 ∧ n3 ≤ 64 ∧ n4 ≤ 64) ∧ h.1 ≤ hp.1 + 5 + 2 * r + n1 + n2 + n3 + n4 ∧ h.2.1 ≤ hp.2.1 + 40 + 12 * r + 2 * (n1 + n2 + n3 + n4)
def isTokD (X : gCx) (hp : gHp) (lb x : Nat) (S : SS) (T : Tok) (tl : List (List Int)) : Prop := ∃ tx wd, gl X hp x = some (lb, tkCe T tx wd (rfor S 1 T.2.2.2.2 12) (rfor S 2 T.2.2.2.2 12) (rfor S 3 T.2.2.2.2 12) (b2i (clsT S T.2.2.2.2))) ∧ txW X hp T tl tx wd
theorem fr_rules {m1 m2 m3 hs mh : Nat} {Q : Option AV → gHp → Prop} (hX : KX X) (hO : ssOk S) (hk : tkP X hp t s al tx nr fa pr op ts us tl Tl capA capT ff fp B D) (hst : stA X hp s S xs cap ra f) (hnr : nr ≤ 24) (hrt : ∀ r R, r < 12 → S.2.1 r = some R → R.2.2.2.2.2.1 ∈ tl.take nr ∧ (R.1 = 1 → R.2.2.2.2.2.2 ∈ tl.take nr)) (hT : Tl.length ≤ 640) (hge : nx X hp ≤ m1 ∧ nx X hp ≤ m2 ∧ nx X hp ≤ m3 ∧ nx X hp ≤ mh) (hne : m1 ≠ m2 ∧ m1 ≠ m3 ∧ m1 ≠ mh ∧ m2 ≠ m3 ∧ m2 ≠ mh ∧ m3 ≠ mh)
    (kk : ∀ h l6, frI X hp h m1 m2 m3 hs mh S tl 12 → G X fX5_findRules 10 126 [some (vR (some t)), some (vR (some m1)), some (vR (some m2)), some (vR (some m3)), some (vR (some hs)), some (vI 12), l6] [] h Q) :
    ∀ (k r : Nat) (h : gHp) (l6 : Option AV), r + k = 12 → frI X hp h m1 m2 m3 hs mh S tl r → G X fX5_findRules 10 36 [some (vR (some t)), some (vR (some m1)), some (vR (some m2)), some (vR (some m3)), some (vR (some hs)), some (vI (r : Int)), l6] [] h Q := by
  intro k
  induction k with
  | zero =>
    intro r h l6 hr hI
    obtain rfl : r = 12 := by omega
    refine gs_ild5 (pc := 36) dX5_findRules_36 ?_
    refine gs_bipush (pc := 38) dX5_findRules_38 rfl ?_
    refine gs_ic_ge (pc := 40) (tgt := 126) dX5_findRules_40 (by decide) (by omega) (fun _ => ?_) (fun hn => absurd (by decide) hn)
    exact kk h l6 hI
  | succ k ih =>
    intro r h l6 hr hI
    have inc : ∀ (h : gHp) (l6 : Option AV), frI X hp h m1 m2 m3 hs mh S tl (r + 1) → G X fX5_findRules 10 120 [some (vR (some t)), some (vR (some m1)), some (vR (some m2)), some (vR (some m3)), some (vR (some hs)), some (vI (r : Int)), l6] [] h Q := by
      intro h l6 hI
      refine gs_inc5 (pc := 120) dX5_findRules_120 rfl ?_
      refine gs_goto (pc := 123) (tgt := 36) dX5_findRules_123 (by decide) ?_
      rw [show (r : Int) + 1 = ((r + 1 : Nat) : Int) by omega]
      exact ih (r + 1) h l6 (by omega) hI
    obtain ⟨hF, n1, l1, n2, l2, n3, l3, n4, l4, i1, i2, i3, i4, i5, i6, i7, i8⟩ := hI
    have hlt1 := gl_lt hk.1
    have hlt2 := hk.2.1.o.lt
    have hlt3 := hk.2.2.2.2.2.2.1.1.o.lt
    have ht := hF.at hk.1 (by unfold frs; omega)
    have hx := hk.2.2.2.2.2.2.1.fr hX hF (fun l hl => frs_2 hl) (by unfold frs; omega)
    have hs' := hst.new hX hF
    have e13 := hk.2.2.2.2.2.2.2.2.2.2.1
    obtain ⟨e1, e2, e3, e4, e5, e6, e7, e8⟩ := id hs'
    refine gs_ild5 (pc := 36) dX5_findRules_36 ?_
    refine gs_bipush (pc := 38) dX5_findRules_38 rfl ?_
    refine gs_ic_ge (pc := 40) (tgt := 126) dX5_findRules_40 (by decide) (by omega) (fun hn => absurd hn (by omega)) (fun _ => ?_)
    refine gs_ald0 (pc := 43) dX5_findRules_43 ?_
    refine gs_getf (pc := 44) 0 dX5_findRules_44 ht clX5 in_X5 (by decide) q1439 (Or.inl rfl) rfl ?_
    refine gs_getfN (pc := 47) 1 dX5_findRules_47 e1 clX1 in_X1 (by decide) q187 (Or.inl rfl) rfl ?_
    refine gs_ild5 (pc := 50) dX5_findRules_50 ?_
    refine gs_aald (pc := 52) 5 (by decide) dX5_findRules_52 e7 (by omega) (by omega) ?_
    have hin : r < 12 := by omega
    rcases e8 r hin with ⟨g1, g2⟩ | ⟨R, q, g1, g2, g3⟩
    · rw [g2]
      refine gs_ast6 (pc := 53) dX5_findRules_53 rfl ?_
      refine gs_ald6 (pc := 55) dX5_findRules_55 ?_
      refine gs_ifnull (pc := 57) (tgt := 120) dX5_findRules_57 (by decide) (fun _ => ?_) (fun _ h => by cases h)
      refine inc h _ ⟨hF, n1, l1, n2, l2, n3, l3, n4, l4, ?_, ?_, ?_, ?_, by omega, i6, by omega, by omega⟩
      · rw [rV_skip (Or.inl g1)]; exact i1
      · rw [rV_skip (Or.inl g1)]; exact i2
      · rw [rV_skip (Or.inl g1)]; exact i3
      · rw [clW_skip (Or.inl g1)]; exact i4
    · rw [g2]
      obtain ⟨tt, kk2, c1, c2, c3⟩ := g3
      obtain ⟨hm1, hm2⟩ := hrt r R hin g1
      have hso := (hO.2.2.1 r R g1).1
      have sk : ∀ z : Int, R.1 ≠ z → rV S z tl (r + 1) = rV S z tl r := fun z hz => rV_skip (Or.inr ⟨R, g1, hz⟩)
      rcases (show R.1 = 1 ∨ R.1 = 2 ∨ R.1 = 3 by omega) with hs1 | hs1 | hs1
      · refine gs_ast6 (pc := 53) dX5_findRules_53 rfl ?_
        refine gs_ald6 (pc := 55) dX5_findRules_55 ?_
        refine gs_ifnull (pc := 57) (tgt := 120) dX5_findRules_57 (by decide) (fun h => by cases h) (fun _ _ => ?_)
        refine gs_ald0 (pc := 60) dX5_findRules_60 ?_
        refine gs_ald6 (pc := 61) dX5_findRules_61 ?_
        refine gs_getfN (pc := 63) 0 dX5_findRules_63 c1 clX7 in_X7 (by decide) q1746 (Or.inl rfl) rfl ?_
        refine gs_iconst (pc := 66) dX5_findRules_66 ?_
        refine gs_ic_ne (pc := 67) (tgt := 74) dX5_findRules_67 (by decide) (by omega) (fun hn => absurd hs1 hn) (fun _ => ?_)
        refine gs_ald1 (pc := 70) dX5_findRules_70 ?_
        refine gs_goto (pc := 71) (tgt := 88) dX5_findRules_71 (by decide) ?_
        rw [← hs1] at i1
        refine gs_ild5 (pc := 88) dX5_findRules_88 ?_
        refine gs_V2v (pc := 90) dX5_findRules_90 kX5_148 ht clX5 (by decide) (Nat.le_of_ble_eq_true rfl) (c_use hX hO ht hs' hx (by omega) hin g1 hm1 hnr i1 i6.1 i5.1) (fun h1 hq => ?_)
        obtain ⟨w1, n1', l1', w2, w3, w4, w5, w6, w7⟩ := hq
        have c1a := w1.at c1 (by omega)
        refine gs_ald6 (pc := 93) dX5_findRules_93 ?_
        refine gs_getfN (pc := 95) 0 dX5_findRules_95 c1a clX7 in_X7 (by decide) q1746 (Or.inl rfl) rfl ?_
        refine gs_iconst (pc := 98) dX5_findRules_98 ?_
        refine gs_ic_ne (pc := 99) (tgt := 120) dX5_findRules_99 (by decide) (by omega) (fun hn => absurd hs1 hn) (fun _ => ?_)
        obtain ⟨k', rfl, c4⟩ := c3 hs1
        have w2' : ∀ l, l = m1 + 2 → 2 ≤ l := fun l hl => by omega
        have hta := w1.at ht (by omega)
        have hxa := hx.fr hX w1 w2' (by omega)
        have i4a := i4.fr w1 (by omega) w2'
        refine gs_ald4 (pc := 102) dX5_findRules_102 ?_
        refine gs_ald0 (pc := 104) dX5_findRules_104 ?_
        refine gs_ald6 (pc := 105) dX5_findRules_105 ?_
        refine gs_getfN (pc := 107) 6 dX5_findRules_107 c1a clX7 in_X7 (by decide) q1765 (Or.inl rfl) rfl ?_
        refine gs_V1 (pc := 110) dX5_findRules_110 kX5_45 hta clX5 (by decide) (Nat.le_of_ble_eq_true rfl) (c_wordOf hX (c4.fr w1 w2') hta hxa (by omega)) (fun v hq hq => ?_)
        obtain ⟨w, rfl, us', tl', cap', v1, v2, v3, v4, v5, v6, v7, v8, v9, v10, -⟩ := hq
        obtain ⟨rfl, rfl, rfl, rfl⟩ := v10 (List.mem_of_mem_take (hm2 hs1))
        have hw24 := nd_take hx.2.2.2.1 v4 v5 (hm2 hs1)
        refine gs_S1 (pc := 113) dX5_findRules_113 kX5_152 (by decide) (Nat.le_of_ble_eq_true rfl) (c_valSmall hX (by omega)) (fun v hp1 hq => ?_)
        obtain ⟨⟨b, rfl, hb⟩, rfl⟩ := hq
        refine gs_V1 (pc := 116) dX5_findRules_116 kX5_158 i4a.1 clJ16 (by decide) (Nat.le_of_ble_eq_true rfl) (c_hsAdd2 i4a (show isKey X hq false b (w : Int) from ⟨hb, by omega⟩) (by omega) (by omega)) (fun v h2 hq => ?_)
        obtain ⟨hv01, p1, n4', l4', ⟨p2, p3, p4, p5⟩, p6, p7⟩ := hq
        have hvI : ∃ z, v = vI z := by rcases hv01 with g | g <;> exact ⟨_, g⟩
        obtain ⟨z, rfl⟩ := hvI
        refine gs_pop (pc := 119) dX5_findRules_119 rfl ?_
        have p2' : ∀ l, l = mh + 2 → 2 ≤ l := fun l hl => by omega
        have hFN : FrN X hp h2 := (hF.to hge.1 w1).to hge.2.2.2 p1
        refine inc h2 _ ⟨hFN, n1', l1', n2, l2, n3, l3, n4', l4', ?_, ?_, ?_, ?_, by omega, by omega, by omega, by omega⟩
        · rw [← hs1]; exact w2.fr p1 (by omega) p2'
        · rw [sk 2 (by omega)]; exact (i2.fr w1 (by omega) w2').fr p1 (by omega) p2'
        · rw [sk 3 (by omega)]; exact (i3.fr w1 (by omega) w2').fr p1 (by omega) p2'
        · rw [clW_new g1 hs1 hx.2.2.2.1 v4 v5]; exact p7
      · refine gs_ast6 (pc := 53) dX5_findRules_53 rfl ?_
        refine gs_ald6 (pc := 55) dX5_findRules_55 ?_
        refine gs_ifnull (pc := 57) (tgt := 120) dX5_findRules_57 (by decide) (fun h => by cases h) (fun _ _ => ?_)
        refine gs_ald0 (pc := 60) dX5_findRules_60 ?_
        refine gs_ald6 (pc := 61) dX5_findRules_61 ?_
        refine gs_getfN (pc := 63) 0 dX5_findRules_63 c1 clX7 in_X7 (by decide) q1746 (Or.inl rfl) rfl ?_
        refine gs_iconst (pc := 66) dX5_findRules_66 ?_
        refine gs_ic_ne (pc := 67) (tgt := 74) dX5_findRules_67 (by decide) (by omega) (fun _ => ?_) (fun hn => absurd hn (by omega))
        refine gs_ald6 (pc := 74) dX5_findRules_74 ?_
        refine gs_getfN (pc := 76) 0 dX5_findRules_76 c1 clX7 in_X7 (by decide) q1746 (Or.inl rfl) rfl ?_
        refine gs_iconst (pc := 79) dX5_findRules_79 ?_
        refine gs_ic_ne (pc := 80) (tgt := 87) dX5_findRules_80 (by decide) (by omega) (fun hn => absurd hs1 hn) (fun _ => ?_)
        refine gs_ald2 (pc := 83) dX5_findRules_83 ?_
        refine gs_goto (pc := 84) (tgt := 88) dX5_findRules_84 (by decide) ?_
        rw [← hs1] at i2
        refine gs_ild5 (pc := 88) dX5_findRules_88 ?_
        refine gs_V2v (pc := 90) dX5_findRules_90 kX5_148 ht clX5 (by decide) (Nat.le_of_ble_eq_true rfl) (c_use hX hO ht hs' hx (by omega) hin g1 hm1 hnr i2 i6.2.1 i5.2.1) (fun h1 hq => ?_)
        obtain ⟨w1, n1', l1', w2, w3, w4, w5, w6, w7⟩ := hq
        have c1a := w1.at c1 (by omega)
        refine gs_ald6 (pc := 93) dX5_findRules_93 ?_
        refine gs_getfN (pc := 95) 0 dX5_findRules_95 c1a clX7 in_X7 (by decide) q1746 (Or.inl rfl) rfl ?_
        refine gs_iconst (pc := 98) dX5_findRules_98 ?_
        refine gs_ic_ne (pc := 99) (tgt := 120) dX5_findRules_99 (by decide) (by omega) (fun _ => ?_) (fun hn => absurd hn (by omega))
        have w2' : ∀ l, l = m2 + 2 → 2 ≤ l := fun l hl => by omega
        refine inc h1 _ ⟨hF.to hge.2.1 w1, n1, l1, n1', l1', n3, l3, n4, l4, ?_, ?_, ?_, ?_, by omega, by omega, by omega, by omega⟩
        · rw [sk 1 (by omega)]; exact i1.fr w1 (by omega) w2'
        · rw [← hs1]; exact w2
        · rw [sk 3 (by omega)]; exact i3.fr w1 (by omega) w2'
        · rw [clW_skip (Or.inr ⟨R, g1, by omega⟩)]; exact i4.fr w1 (by omega) w2'
      · refine gs_ast6 (pc := 53) dX5_findRules_53 rfl ?_
        refine gs_ald6 (pc := 55) dX5_findRules_55 ?_
        refine gs_ifnull (pc := 57) (tgt := 120) dX5_findRules_57 (by decide) (fun h => by cases h) (fun _ _ => ?_)
        refine gs_ald0 (pc := 60) dX5_findRules_60 ?_
        refine gs_ald6 (pc := 61) dX5_findRules_61 ?_
        refine gs_getfN (pc := 63) 0 dX5_findRules_63 c1 clX7 in_X7 (by decide) q1746 (Or.inl rfl) rfl ?_
        refine gs_iconst (pc := 66) dX5_findRules_66 ?_
        refine gs_ic_ne (pc := 67) (tgt := 74) dX5_findRules_67 (by decide) (by omega) (fun _ => ?_) (fun hn => absurd hn (by omega))
        refine gs_ald6 (pc := 74) dX5_findRules_74 ?_
        refine gs_getfN (pc := 76) 0 dX5_findRules_76 c1 clX7 in_X7 (by decide) q1746 (Or.inl rfl) rfl ?_
        refine gs_iconst (pc := 79) dX5_findRules_79 ?_
        refine gs_ic_ne (pc := 80) (tgt := 87) dX5_findRules_80 (by decide) (by omega) (fun _ => ?_) (fun hn => absurd hn (by omega))
        refine gs_ald3 (pc := 87) dX5_findRules_87 ?_
        rw [← hs1] at i3
        refine gs_ild5 (pc := 88) dX5_findRules_88 ?_
        refine gs_V2v (pc := 90) dX5_findRules_90 kX5_148 ht clX5 (by decide) (Nat.le_of_ble_eq_true rfl) (c_use hX hO ht hs' hx (by omega) hin g1 hm1 hnr i3 i6.2.2.1 i5.2.2.1) (fun h1 hq => ?_)
        obtain ⟨w1, n1', l1', w2, w3, w4, w5, w6, w7⟩ := hq
        have c1a := w1.at c1 (by omega)
        refine gs_ald6 (pc := 93) dX5_findRules_93 ?_
        refine gs_getfN (pc := 95) 0 dX5_findRules_95 c1a clX7 in_X7 (by decide) q1746 (Or.inl rfl) rfl ?_
        refine gs_iconst (pc := 98) dX5_findRules_98 ?_
        refine gs_ic_ne (pc := 99) (tgt := 120) dX5_findRules_99 (by decide) (by omega) (fun _ => ?_) (fun hn => absurd hn (by omega))
        have w2' : ∀ l, l = m3 + 2 → 2 ≤ l := fun l hl => by omega
        refine inc h1 _ ⟨hF.to hge.2.2.1 w1, n1, l1, n2, l2, n1', l1', n4, l4, ?_, ?_, ?_, ?_, by omega, by omega, by omega, by omega⟩
        · rw [sk 1 (by omega)]; exact i1.fr w1 (by omega) w2'
        · rw [sk 2 (by omega)]; exact i2.fr w1 (by omega) w2'
        · rw [← hs1]; exact w2
        · rw [clW_skip (Or.inr ⟨R, g1, by omega⟩)]; exact i4.fr w1 (by omega) w2'
end CV
