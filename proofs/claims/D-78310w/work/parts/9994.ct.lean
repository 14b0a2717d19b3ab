/-! THE COMPONENT: divide; maps of small numbers. -/
section CT
variable {X : gCx} {hp hp1 hp2 hz h h3 h4 : gHp} {S0 : Nat → Prop} {S : SS} {a c s t n p q al tx nr fa pr B D capA capT capA' capT' x m len cap ra : Nat} {u y : List Int} {xs us ts us' : List Nat} {tl tl' : List (List Int)} {T : Tok} {Tl : List Tok} {ff fp : Int → Int} {op wd : Int} {txo : Option Nat} {f : Int → Option Nat}
theorem b2i_01 (b : Bool) : b2i b = 0 ∨ b2i b = 1 := by cases b <;> simp [b2i]
theorem c_divide {i a : Nat} {cm : Int} {o1 o2 o3 o4 : AV} {opn : Bool} (hX : KX X) (hcm : cm ≠ 32 ∧ i32 cm) (hx32 : y.length ≤ 32) (hxr : ∀ c ∈ y, 32 ≤ c ∧ c ≤ 126) (hi : i < 20) (hk : tkP X hp t s al tx nr fa pr (b2i opn) ts us tl Tl capA capT ff fp B D) (hst : gl X hp s = some (s + 2, .inr (1, [o1, o2, o3, o4, vI cm]))) (hs : isS X hp a y) (hN : y ≠ [] → isN X hp a) (hT : Tl.length + y.length ≤ 640) : M0 X yX5_divide fX5_divide 9 [vR (some t), vI (i : Int), vR (some a)] hp (fun hp' => dvP X hp t s al tx nr fa pr tl (Tl ++ (lt cm opn y).1.map (mkT i y)) (lt cm opn y).2 ff (fup fp i (b2i (opn && !y.isEmpty))) B D hp') := by
  refine MC.of pfX5_divide rfl (fun h => by cases h) 5 rfl rfl ?_
  obtain ⟨n1, n2⟩ := hk.ne
  obtain ⟨e1, e2, e3, e4, e5, e6, e7, e8, e9, e10, e13, e11, e12⟩ := id hk
  have hst2 : s ≠ t ∧ s ≠ al ∧ s ≠ tx := ⟨isO.ne ⟨_, _, hst⟩ ⟨_, _, e1⟩ (by decide), isO.ne ⟨_, _, hst⟩ e2.o (by decide), isO.ne ⟨_, _, hst⟩ e7.1.o (by decide)⟩
  obtain ⟨lb, b, hh, z, es⟩ := hs.cell
  have k24 : G X fX5_divide 9 24 [some (vR (some t)), some (vI (i : Int)), some (vR (some a)), none, none, none, none, none] [vI (b2i (opn && !y.isEmpty)), vI (i : Int), vR (some pr)] hp (fun r hp' => r = none ∧ dvP X hp t s al tx nr fa pr tl (Tl ++ (lt cm opn y).1.map (mkT i y)) (lt cm opn y).2 ff (fup fp i (b2i (opn && !y.isEmpty))) B D hp') := by
    refine gs_zast (pc := 24) dX5_divide_24 e9 (by omega) (by omega) (by omega) (b2i_01 _) ?_
    have F1 : Fr X (tkL t al tx) hp (hset hp pr (t + 2, .inl (1, 20, .inl (fup fp (i : Int) (b2i (opn && !y.isEmpty)))))) := (Fr1 (c := .inl (1, 20, .inl (fup fp (i : Int) (b2i (opn && !y.isEmpty))))) e9 (by omega) ⟨rfl, rfl, rfl⟩).mono (fun l hl => Or.inl hl)
    have hk1 := hk.own (c1 := .inl (1, 20, .inl (fup fp (i : Int) (b2i (opn && !y.isEmpty))))) (op' := b2i opn) (nr' := nr) (ff' := ff) (fp' := fup fp (i : Int) (b2i (opn && !y.isEmpty))) hX e9 ⟨rfl, rfl, rfl⟩ (fun fs hh => by cases hh) (by rw [gl_set_ne (fun e => by rw [← e, e1] at e9; cases e9)]; exact e1) (by rw [gl_set_ne (fun e => by rw [← e, e8] at e9; cases e9)]; exact e8) (gl_set_self e9 (by omega))
    generalize hset hp pr (t + 2, Sum.inl (1, 20, Sum.inl (fup fp (i : Int) (b2i (opn && !y.isEmpty))))) = h1 at *
    have hL2 : ∀ l, tkL t al tx l → 2 ≤ l := fun l hl => by unfold tkL at hl; omega
    have fr3 : ∀ {h4 : gHp}, Fr X (tkL t al tx) hp h4 → gl X h4 s = some (s + 2, .inr (1, [o1, o2, o3, o4, vI cm])) ∧ isS X h4 a y ∧ (y ≠ [] → isN X h4 a) := fun g => ⟨g.at hst (by unfold tkL; omega), hs.fr g hL2, fun hh => (hN hh).fr g hL2⟩
    obtain ⟨g1, g2, g3⟩ := fr3 F1
    obtain ⟨lb1, b1, hh1, z1, es1⟩ := g2.cell
    have f1 := hk1.1
    cases opn with
    | false =>
      refine gs_ald0 (pc := 25) dX5_divide_25 ?_
      refine gs_getf (pc := 26) 6 dX5_divide_26 f1 clX5 in_X5 (by decide) q1452 (Or.inl rfl) rfl ?_
      refine gs_beq (pc := 29) (tgt := 41) dX5_divide_29 (by decide) (fun _ => ?_) (fun hn => absurd ((rfl : _ = false).symm.trans hn) (by decide))
      refine gs_iconst (pc := 41) dX5_divide_41 ?_
      refine gs_ist3 (pc := 42) dX5_divide_42 rfl ?_
      rw [lt_f]
      have := c_dvLoop (hp := hp) (tl0 := tl) (i := i) hX hcm hx32 hxr hi 33 0 h1 tl Tl ts us capA capT none none none none (by omega) (by omega) hk1 g1 g2 g3 F1 (List.prefix_refl _) (by omega)
      rw [List.drop_zero] at this
      exact this
    | true =>
      refine gs_ald0 (pc := 25) dX5_divide_25 ?_
      refine gs_getf (pc := 26) 6 dX5_divide_26 f1 clX5 in_X5 (by decide) q1452 (Or.inl rfl) rfl ?_
      refine gs_beq (pc := 29) (tgt := 41) dX5_divide_29 (by decide) (fun hn => absurd ((rfl : _ = true).symm.trans hn) (by decide)) (fun _ => ?_)
      refine gs_ald0 (pc := 32) dX5_divide_32 ?_
      refine gs_ald2 (pc := 33) dX5_divide_33 ?_
      refine gs_iconst (pc := 34) dX5_divide_34 ?_
      refine gs_V2 (pc := 35) dX5_divide_35 kX5_122 f1 clX5 (by decide) (Nat.le_of_ble_eq_true rfl) (c_literalEnd (p := 0) g2 f1 (by omega)) (fun v h2 hq => ?_)
      rw [List.drop_zero] at hq
      rcases hq with ⟨n, l1, rfl, rfl⟩ | ⟨l1, rfl, rfl⟩
      · refine gs_goto (pc := 38) (tgt := 42) dX5_divide_38 (by decide) ?_
        refine gs_ist3 (pc := 42) dX5_divide_42 rfl ?_
        rw [lt_sm l1]
        have hnl := (litS_le _ _ l1).2
        have F2 : Fr X (tkL t al tx) h1 (hset h1 t (t + 2, tkC s al tx nr fa pr 0)) := (Fr1 (c := tkC s al tx nr fa pr 0) f1 (by omega) ⟨rfl, rfl⟩).mono (fun l hl => Or.inl hl)
        have e8' := hk1.2.2.2.2.2.2.2.1
        have e9' := hk1.2.2.2.2.2.2.2.2.1
        have hk2 := hk1.own (c1 := tkC s al tx nr fa pr 0) (op' := 0) (nr' := nr) hX f1 ⟨rfl, rfl⟩ (fun fs hh => by have := (Prod.mk.inj (Sum.inr.inj hh)).1; omega) (gl_set_self f1 (by omega)) (by rw [gl_set_ne (fun e => by rw [e, f1] at e8'; cases e8')]; exact e8') (by rw [gl_set_ne (fun e => by rw [e, f1] at e9'; cases e9')]; exact e9')
        generalize hset h1 t (t + 2, tkC s al tx nr fa pr 0) = h2 at *
        obtain ⟨g1, g2, g3⟩ := fr3 (F1.trans F2)
        rw [Nat.zero_add]
        exact c_dvLoop (hp := hp) (tl0 := tl) (i := i) hX hcm hx32 hxr hi 33 n h2 tl Tl ts us capA capT none none none none (by omega) (by omega) hk2 g1 g2 g3 (F1.trans F2) (List.prefix_refl _) (by omega)
      · refine gs_goto (pc := 38) (tgt := 42) dX5_divide_38 (by decide) ?_
        refine gs_ist3 (pc := 42) dX5_divide_42 rfl ?_
        rw [lt_nn l1, List.map_nil, List.append_nil]
        refine gs_ild3 (pc := 43) dX5_divide_43 ?_
        refine gs_ald2 (pc := 44) dX5_divide_44 ?_
        refine gs_V0 (pc := 45) dX5_divide_45 kX5_93 es1 clJ5 (by decide) (Nat.le_of_ble_eq_true rfl) (c_slen g2) (fun v hp1 hq => ?_)
        obtain ⟨rfl, rfl⟩ := hq
        refine gs_ic_ge (pc := 48) (tgt := 254) dX5_divide_48 (by decide) (by omega) (fun _ => ?_) (fun hn => absurd (by omega) hn)
        refine gs_vret (pc := 254) dX5_divide_254 rfl ?_
        exact ⟨rfl, F1, ts, us, tl, capA, capT, List.prefix_refl _, hk1⟩
  cases opn with
  | false =>
    refine gs_ald0 (pc := 0) dX5_divide_0 ?_
    refine gs_getf (pc := 1) 5 dX5_divide_1 e1 clX5 in_X5 (by decide) q1449 (Or.inl rfl) rfl ?_
    refine gs_ild1 (pc := 4) dX5_divide_4 ?_
    refine gs_ald0 (pc := 5) dX5_divide_5 ?_
    refine gs_getf (pc := 6) 6 dX5_divide_6 e1 clX5 in_X5 (by decide) q1452 (Or.inl rfl) rfl ?_
    refine gs_beq (pc := 9) (tgt := 23) dX5_divide_9 (by decide) (fun _ => ?_) (fun hn => absurd ((rfl : _ = false).symm.trans hn) (by decide))
    refine gs_iconst (pc := 23) dX5_divide_23 ?_
    exact k24
  | true =>
    refine gs_ald0 (pc := 0) dX5_divide_0 ?_
    refine gs_getf (pc := 1) 5 dX5_divide_1 e1 clX5 in_X5 (by decide) q1449 (Or.inl rfl) rfl ?_
    refine gs_ild1 (pc := 4) dX5_divide_4 ?_
    refine gs_ald0 (pc := 5) dX5_divide_5 ?_
    refine gs_getf (pc := 6) 6 dX5_divide_6 e1 clX5 in_X5 (by decide) q1452 (Or.inl rfl) rfl ?_
    refine gs_beq (pc := 9) (tgt := 23) dX5_divide_9 (by decide) (fun hn => absurd ((rfl : _ = true).symm.trans hn) (by decide)) (fun _ => ?_)
    refine gs_ald2 (pc := 12) dX5_divide_12 ?_
    refine gs_V0 (pc := 13) dX5_divide_13 kX5_118 es clJ5 (by decide) (Nat.le_of_ble_eq_true rfl) (c_sempty hs) (fun v hp1 hq => ?_)
    obtain ⟨rfl, rfl⟩ := hq
    cases y with
    | nil =>
      rw [if_pos (show ([] : List Int).length = 0 from rfl)]
      refine gs_if_ne (pc := 16) (tgt := 23) dX5_divide_16 (by decide) (by omega) (fun _ => ?_) (fun hn => absurd hn (by decide))
      refine gs_iconst (pc := 23) dX5_divide_23 ?_
      exact k24
    | cons c0 y0 =>
      rw [if_neg (show ¬ (c0 :: y0).length = 0 by rw [List.length_cons]; omega)]
      refine gs_if_ne (pc := 16) (tgt := 23) dX5_divide_16 (by decide) (by omega) (fun hn => absurd (by decide) hn) (fun _ => ?_)
      refine gs_iconst (pc := 19) dX5_divide_19 ?_
      refine gs_goto (pc := 20) (tgt := 24) dX5_divide_20 (by decide) ?_
      exact k24
/-! maps with small numbers as values -/
theorem fk_upE {es : List Nd} {k j : Int} {w : Nat} : fk (es.map (upE k w)) j = (fk es j).map (upE k w) := by
  induction es with
  | nil => rfl
  | cons nd L ih =>
    rw [List.map_cons, fk_cons, fk_cons, upE1.2.1]
    by_cases h : nd.2.1 = j
    · rw [if_pos h, if_pos h]; rfl
    · rw [if_neg h, if_neg h, ih]
theorem fk_app {es : List Nd} {x : Nd} {j : Int} : fk (es ++ [x]) j = (fk es j).or (if x.2.1 = j then some x else none) := by
  induction es with
  | nil => rw [List.nil_append, fk_cons]; rfl
  | cons nd L ih =>
    rw [List.cons_append, fk_cons, fk_cons]
    by_cases h : nd.2.1 = j
    · rw [if_pos h, if_pos h]; rfl
    · rw [if_neg h, if_neg h, ih]
theorem fk_putE {es : List Nd} {k : Int} {q w a : Nat} : (∃ nd, fk (putE es k q w a) k = some nd ∧ nd.2.2.2 = w) ∧ (∀ j, j ≠ k → fk (putE es k q w a) j = fk es j) ∧ (putE es k q w a).length ≤ es.length + 1 ∧ ∀ nd ∈ putE es k q w a, nd.2.1 = k ∨ ∃ nd' ∈ es, nd'.2.1 = nd.2.1 := by
  cases hk : fk es k with
  | none =>
    rw [putE_none hk]
    refine ⟨⟨(a, k, q, w), by rw [fk_app, hk, if_pos rfl]; rfl, rfl⟩, fun j hj => ?_, by rw [List.length_append, List.length_singleton]; omega, fun nd hn => ?_⟩
    · rw [fk_app, if_neg (fun e => hj e.symm)]
      cases fk es j <;> rfl
    · rcases List.mem_append.mp hn with h | h
      · exact Or.inr ⟨nd, h, rfl⟩
      · rw [List.mem_singleton.mp h]; exact Or.inl rfl
  | some nd0 =>
    have e : putE es k q w a = es.map (upE k w) := putE_some (by rw [hk]; rfl)
    rw [e]
    refine ⟨⟨upE k w nd0, by rw [fk_upE, hk]; rfl, ?_⟩, fun j hj => ?_, by rw [List.length_map]; omega, fun nd hn => ?_⟩
    · unfold upE
      rw [if_pos (fk_mem hk).2]
    · rw [fk_upE]
      cases hj2 : fk es j with
      | none => rfl
      | some nd =>
        show some (upE k w nd) = some nd
        unfold upE
        rw [if_neg (by rw [(fk_mem hj2).2]; exact hj)]
    · obtain ⟨nd', h1, h2⟩ := List.mem_map.mp hn
      exact Or.inr ⟨nd', h1, by rw [← h2, upE1.2.1]⟩
/-- a map from keys to small numbers: a table of n places, len keys -/
def mapV (X : gCx) (hp : gHp) (kd : Bool) (m n len : Nat) (V : Int → Option Int) : Prop := ∃ es, isHM X hp 12 15 kd m none [] (fun _ => []) n es ∧ es.length = len ∧ (∀ nd ∈ es, nd.2.1 < 448) ∧ ∀ k, (fk es k = none ∧ V k = none) ∨ ∃ nd v, fk es k = some nd ∧ V k = some v ∧ isI X hp nd.2.2.2 v
theorem mapV.o {kd : Bool} {V : Int → Option Int} (h : mapV X hp kd m n len V) : ∃ fs, gl X hp m = some (m + 2, .inr (12, fs)) := by
  obtain ⟨es, ⟨-, -, -, vs, tb, eset, mc, th, lf, e, -⟩, -⟩ := h
  exact ⟨_, e⟩
theorem mapV.fr {kd : Bool} {V : Int → Option Int} (hF : Fr X S0 hp hp1) (hS : ¬ S0 (m + 2)) (hS2 : ∀ l, S0 l → 2 ≤ l) (h : mapV X hp kd m n len V) : mapV X hp1 kd m n len V := by
  obtain ⟨es, e1, e2, e3, e4⟩ := h
  refine ⟨es, e1.fr hF hS hS2, e2, e3, fun k => ?_⟩
  rcases e4 k with g | ⟨nd, v, g1, g2, g3⟩
  · exact Or.inl g
  · exact Or.inr ⟨nd, v, g1, g2, g3.fr' hF hS2⟩
theorem c_mapGet {kd : Bool} {V : Int → Option Int} {k : Int} (hm : mapV X hp kd m n len V) (hq : isKey X hp kd q k) : MV X yJ14_get fJ14_get 5 [vR (some m), vR (some q)] hp (fun v hp' => ((V k = none ∧ v = vR none) ∨ ∃ z b, V k = some z ∧ v = vR (some b) ∧ isI X hp b z) ∧ hp = hp') := by
  obtain ⟨es, e1, e2, e3, e4⟩ := hm
  refine MC.mono ?_ (c_hmGet e1 hq)
  rintro r hp' ⟨v, hv, rfl, rfl⟩
  refine ⟨_, hv, ?_, rfl⟩
  rcases e4 k with ⟨g1, g2⟩ | ⟨nd, z, g1, g2, g3⟩
  · exact Or.inl ⟨g2, by rw [g1]; rfl⟩
  · exact Or.inr ⟨z, nd.2.2.2, g2, by rw [g1]; rfl, g3⟩
theorem c_mapPut {kd : Bool} {V : Int → Option Int} {k z : Int} {w : Nat} (hm : mapV X hp kd m n len V) (hq : isKey X hp kd q k) (hk : k < 448) (hn : n ≤ 8192) (hw : isI X hp w z) : MV X yJ14_put fJ14_put 6 [vR (some m), vR (some q), vR (some w)] hp (fun v hp' => (∃ o, v = vR o) ∧ Fr X (fun l => l = m + 2) hp hp' ∧ ∃ n' len', hmG hp hp' len n n' ∧ len' ≤ len + 1 ∧ mapV X hp' kd m n' len' (fun j => if j = k then some z else V j)) := by
  obtain ⟨es, e1, e2, e3, e4⟩ := hm
  refine MC.mono ?_ (c_put e1 ⟨rfl, fun _ => rfl⟩ hq hn (fun h64 nd hn => by have := e3 nd hn; omega))
  rintro r hp' ⟨v, hv, hvo, hF, ext', xt', n', a, g1, g2, g3, g4⟩
  refine ⟨_, hv, ⟨_, hvo⟩, hF, n', (putE es k q w a).length, by rw [← e2]; exact g1, by rw [← e2]; exact fk_putE.2.2.1, putE es k q w a, ?_, rfl, fun nd hn => ?_, fun j => ?_⟩
  · rw [show xt' = fun _ => [] from funext g4, g3] at g2
    exact g2
  · rcases fk_putE.2.2.2 nd hn with h | ⟨nd', h1, h2⟩
    · omega
    · have := e3 nd' h1; omega
  · have h2 : ∀ l, l = m + 2 → 2 ≤ l := fun l hl => by omega
    by_cases hj : j = k
    · subst hj
      obtain ⟨nd, q1, q2⟩ := (fk_putE (es := es) (k := j) (q := q) (w := w) (a := a)).1
      exact Or.inr ⟨nd, z, q1, if_pos rfl, by rw [q2]; exact hw.fr' hF h2⟩
    · rw [fk_putE.2.1 j hj]
      dsimp only
      rw [if_neg hj]
      rcases e4 j with g | ⟨nd, v, g1, g2, g3⟩
      · exact Or.inl g
      · exact Or.inr ⟨nd, v, g1, g2, g3.fr' hF h2⟩
theorem c_numberOf {V : Int → Option Int} {w : Int} (hX : KX X) (hm : mapV X hp false m n len V) (hw : 0 ≤ w ∧ w ≤ 127) : MV X yX5_numberOf fX5_numberOf 6 [vR (some m), vI w] hp (fun r hp' => r = vI ((V w).getD (-9)) ∧ hp = hp') := by
  obtain ⟨fs, hc⟩ := hm.o
  refine MC.of pfX5_numberOf rfl (fun h => by cases h) 1 rfl rfl ?_
  refine gs_ald0 (pc := 0) dX5_numberOf_0 ?_
  refine gs_ild1 (pc := 1) dX5_numberOf_1 ?_
  refine gs_S1 (pc := 2) dX5_numberOf_2 kX5_152 (by decide) (Nat.le_of_ble_eq_true rfl) (c_valSmall hX (by omega)) (fun v hp1 hq => ?_)
  obtain ⟨⟨b, rfl, hb⟩, rfl⟩ := hq
  refine gs_V1 (pc := 5) dX5_numberOf_5 kX5_192 hc clJ14 (by decide) (Nat.le_of_ble_eq_true rfl) (c_mapGet hm (show isKey X hp false b w from ⟨hb, by omega⟩)) (fun v hp1 hq => ?_)
  obtain ⟨hv, rfl⟩ := hq
  rcases hv with ⟨g1, rfl⟩ | ⟨z, b', g1, rfl, g3⟩
  · refine gs_castN (pc := 8) dX5_numberOf_8 ?_
    refine gs_ast2 (pc := 11) dX5_numberOf_11 rfl ?_
    refine gs_ald2 (pc := 12) dX5_numberOf_12 ?_
    refine gs_ifnonnull (pc := 13) (tgt := 21) dX5_numberOf_13 (by decide) (fun _ h => by cases h) (fun _ => ?_)
    refine gs_bipush (pc := 16) dX5_numberOf_16 rfl ?_
    refine gs_goto (pc := 18) (tgt := 25) dX5_numberOf_18 (by decide) ?_
    refine gs_iret (pc := 25) dX5_numberOf_25 rfl ?_
    exact ⟨_, rfl, by rw [g1]; rfl, rfl⟩
  · have g3' := g3
    obtain ⟨lb, -, g4⟩ := g3'
    refine gs_cast (pc := 8) dX5_numberOf_8 q1211 g4 clJ18 (Or.inl rfl) ?_
    refine gs_ast2 (pc := 11) dX5_numberOf_11 rfl ?_
    refine gs_ald2 (pc := 12) dX5_numberOf_12 ?_
    refine gs_ifnonnull (pc := 13) (tgt := 21) dX5_numberOf_13 (by decide) (fun _ _ => ?_) (fun h => by cases h)
    refine gs_ald2 (pc := 21) dX5_numberOf_21 ?_
    refine gs_V0 (pc := 22) dX5_numberOf_22 kX5_195 g4 clJ18 (by decide) (Nat.le_of_ble_eq_true rfl) (c_intValue g3) (fun v hp1 hq => ?_)
    obtain ⟨rfl, rfl⟩ := hq
    refine gs_iret (pc := 25) dX5_numberOf_25 rfl ?_
    exact ⟨_, rfl, by rw [g1]; rfl, rfl⟩
end CT
