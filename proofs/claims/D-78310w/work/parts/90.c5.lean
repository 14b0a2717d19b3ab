/-! THE COMPONENT: a change begins. -/
section C5
variable {X : gCx} {hp hp1 hp2 : gHp} {S0 : Nat → Prop} {S : SS} {A A' : AS} {c s cap ra pa ia tb : Nat} {xs ps : List Nat} {f fI : Int → Option Nat} {fT fT' : Int → Int} {w ch : Option Nat} {at_ fa dr : Int}
abbrev cPo (X : gCx) (hp : gHp) (c : Nat) (q : Int × AS) : AV → gHp → Prop := fun v hp' => v = vI q.1 ∧ RC X hp' c q.2 ∧ FrM X hp hp' ∧ hp'.1 ≤ hp.1 + 12900 ∧ hp'.2.1 ≤ hp.2.1 + 100000
/-- the text changes, or c's own fields -/
theorem rcB.own (hX : KX X) (hc0 : isO X hp c 0) (h : Fr X (fun l => l = c + 2) hp hp1) (hia : gl X hp1 ia = gl X hp ia) (htb : gl X hp1 tb = some (c + 2, .inl (2, 72, .inl fT'))) (hA : A'.2.1 = A.2.1 ∧ A'.2.2.1 = A.2.2.1 ∧ A'.2.2.2.1 = A.2.2.2.1) (ht : ∀ k : Nat, k < A'.2.2.2.2.length → fT' k = A'.2.2.2.2.getD k 0) (hs : rcB X hp c s pa ia tb ps fI fT A) : rcB X hp1 c s pa ia tb ps fI fT' A' := by
  have no : ∀ {b cj : Nat}, isO X hp b cj → 0 ≠ cj → ¬ b + 2 = c + 2 := by
    intro b cj hb hij hl
    exact hc0.ne hb hij (by omega)
  obtain ⟨⟨pcap, e1, e1'⟩, e2, e3, e4, e5, e6, e7, e8, e9, e10, e11⟩ := hs
  have h2 : ∀ l, l = c + 2 → 2 ≤ l := fun l hl => by omega
  have fx : ∀ {q : Nat} {T : SS}, isSta X hp q T → isSta X hp1 q T := fun g => g.fr hX h h2 (no g.o.1 (by decide)) (no g.o.2 (by decide))
  refine ⟨⟨pcap, e1.fr hX h (no e1.o (by decide)), e1'⟩, by rw [hA.1]; exact e2, fun i hi => by rw [hA.1]; exact fx (e3 i hi), by rw [hia]; exact e4, ?_, ?_, htb, ht, e9, e10, fun q hq hqs => ?_⟩
  · rw [hA.2.1]
    rcases e5 with g | ⟨q, T, g1, g2, g3⟩
    · exact Or.inl g
    · exact Or.inr ⟨q, T, g1, g2, fx g3⟩
  · rw [hA.2.2]
    rcases e6 with g | ⟨q, T, g1, g2, g3⟩
    · exact Or.inl g
    · exact Or.inr ⟨q, T, g1, g2, fx g3⟩
  · obtain ⟨T, g⟩ := e11 q hq hqs
    exact ⟨T, fx g⟩
theorem i_i2b' : ∀ n : Nat, n < 128 → narrow .byte (.int (Int32.ofInt (n : Int))) = .int (Int32.ofInt (n : Int)) := by decide
theorem isS_c0 (h : gl X hp c = some (rcC c s pa ia tb cap w ch at_ fa dr)) : isO X hp c 0 := ⟨_, _, h⟩
/-- c's own label: what stays -/
theorem own_fr (hX : KX X) (hc0 : isO X hp c 0) (h : Fr X (fun l => l = c + 2) hp hp1) : (∀ {q : Nat} {T : SS}, isSta X hp q T → isSta X hp1 q T) ∧ (∀ {wa q : Nat} {T : SS}, isWk X hp wa q T → isWk X hp1 wa q T) ∧ (∀ {m : Nat} {T : SS}, chM X hp m T → chM X hp1 m T) ∧ FrM X hp hp1 := by
  have hS : ∀ l, l = c + 2 → lbC X hp 0 l ∨ frs X hp l := fun l hl => Or.inl ⟨c, hl, hc0⟩
  obtain ⟨lb, fs, hc⟩ := hc0
  exact ⟨fun g => g.frC hX h hS (by decide), fun g => g.frC hX h hS (by decide), fun g => g.frC h hS (by decide), FrM.of h (fun l hl => by rw [hl]; exact nM.cell hc (by decide))⟩
theorem c_clear (hX : KX X) (hR : RC X hp c A) : MV X yX0_clear fX0_clear 1 [vR (some c)] hp (cPo X hp c (sp_clear A)) := by
  obtain ⟨s, pa, ia, tb, w, ch, at_, fa, dr, ps, fI, fT, e1, e2, e3, e4, e5⟩ := hR
  refine MC.of pfX0_clear rfl (fun h => by cases h) 1 rfl rfl ?_
  refine gs_ald0 (pc := 0) dX0_clear_0 ?_
  refine gs_getf (pc := 1) 4 dX0_clear_1 e1 clX0 in_X0 (by decide) q215 (Or.inl rfl) rfl ?_
  refine gs_ist1 (pc := 4) dX0_clear_4 rfl ?_
  refine gs_ald0 (pc := 5) dX0_clear_5 ?_
  refine gs_iconst (pc := 6) dX0_clear_6 ?_
  refine gs_putf (pc := 7) 4 (rcC c s pa ia tb 0 w ch at_ fa dr).2 dX0_clear_7 e1 (by omega) clX0 in_X0 tyX0 tyX0_ok nmX0 (by decide) q215 (Or.inl rfl) rfl (fok_int _) (Nat.le_of_ble_eq_true rfl) rfl ?_
  refine gs_ild1 (pc := 10) dX0_clear_10 ?_
  refine gs_iret (pc := 11) dX0_clear_11 rfl ?_
  have hF : Fr X (fun l => l = c + 2) hp (hset hp c (rcC c s pa ia tb 0 w ch at_ fa dr)) := Fr1 e1 (by omega) ⟨rfl, rfl⟩
  have hc0 : isO X hp c 0 := ⟨_, _, e1⟩
  obtain ⟨o1, o2, o3, o4⟩ := own_fr hX hc0 hF
  have hia : ia ≠ c := fun e => by have := e3.2.2.2.1; rw [e, e1] at this; cases this
  have htb : tb ≠ c := fun e => by have := e3.2.2.2.2.2.2.1; rw [e, e1] at this; cases this
  refine ⟨_, rfl, rfl, ⟨s, pa, ia, tb, w, ch, at_, fa, dr, ps, fI, fT, gl_set_self e1 (by omega), o1 e2, rcB.own (A := A) (A' := (sp_clear A).2) hX hc0 hF (gl_set_ne hia) (by rw [gl_set_ne htb]; exact e3.2.2.2.2.2.2.1) ⟨rfl, rfl, rfl⟩ (fun k hk => absurd hk (Nat.not_lt_zero _)) e3, fun wa hw => o2 (e4 wa hw), fun m hm => o3 (e5 m hm)⟩, o4, by show hp.1 ≤ _; omega, by show hp.2.1 ≤ _; omega⟩
theorem c_type {z : Int} (hX : KX X) (hR : RC X hp c A) (hO : asOk A) (hz : i32 z) : MV X yX0_type fX0_type 2 [vR (some c), vI z] hp (cPo X hp c (sp_type A z)) := by
  have hR' := hR
  obtain ⟨s, pa, ia, tb, w, ch, at_, fa, dr, ps, fI, fT, e1, e2, e3, e4, e5⟩ := hR
  have h72 := hO.2.2.2.2.1
  have same : RC X hp c A ∧ FrM X hp hp ∧ hp.1 ≤ hp.1 + 12900 ∧ hp.2.1 ≤ hp.2.1 + 100000 := ⟨hR', FrM.refl, by omega, by omega⟩
  refine MC.of pfX0_type rfl (fun h => by cases h) 0 rfl rfl ?_
  unfold sp_type
  refine gs_ild1 (pc := 0) dX0_type_0 ?_
  refine gs_bipush (pc := 1) dX0_type_1 rfl ?_
  refine gs_bipush (pc := 3) dX0_type_3 rfl ?_
  refine gs_S3 (pc := 5) dX0_type_5 kX0_1 (by decide) (Nat.le_of_ble_eq_true rfl) (c_isIn hz (by decide) (by decide)) (fun v hp1 hq => ?_)
  obtain ⟨rfl, rfl⟩ := hq
  refine gs_bne (pc := 8) (tgt := 13) dX0_type_8 (by decide) (fun h1 => ?_) (fun h1 => ?_)
  rotate_left
  · have h1 : ¬ (32 ≤ z ∧ z ≤ 126) := by simpa [inB] using h1
    rw [if_neg h1]
    refine gs_iconst (pc := 11) dX0_type_11 ?_
    refine gs_iret (pc := 12) dX0_type_12 rfl ?_
    exact ⟨_, rfl, rfl, same⟩
  have h1 : 32 ≤ z ∧ z ≤ 126 := by simpa [inB] using h1
  rw [if_pos h1]
  refine gs_ald0 (pc := 13) dX0_type_13 ?_
  refine gs_getf (pc := 14) 4 dX0_type_14 e1 clX0 in_X0 (by decide) q215 (Or.inl rfl) rfl ?_
  refine gs_bipush (pc := 17) dX0_type_17 rfl ?_
  refine gs_ic_ne (pc := 19) (tgt := 25) dX0_type_19 (by decide) (by omega) (fun h2 => ?_) (fun h2 => ?_)
  rotate_left
  · rw [if_pos (by omega)]
    refine gs_bipush (pc := 22) dX0_type_22 rfl ?_
    refine gs_iret (pc := 24) dX0_type_24 rfl ?_
    exact ⟨_, rfl, rfl, same⟩
  rw [if_neg (by omega)]
  have htb := e3.2.2.2.2.2.2.1
  have hia := e3.2.2.2.1
  have nz : narrow .byte (.int (Int32.ofInt z)) = .int (Int32.ofInt z) := by
    obtain ⟨n, rfl⟩ : ∃ n : Nat, z = (n : Int) := ⟨z.toNat, by omega⟩
    exact i_i2b' n (by omega)
  refine gs_ald0 (pc := 25) dX0_type_25 ?_
  refine gs_getf (pc := 26) 3 dX0_type_26 e1 clX0 in_X0 (by decide) q214 (Or.inl rfl) rfl ?_
  refine gs_ald0 (pc := 29) dX0_type_29 ?_
  refine gs_getf (pc := 30) 4 dX0_type_30 e1 clX0 in_X0 (by decide) q215 (Or.inl rfl) rfl ?_
  refine gs_ild1 (pc := 33) dX0_type_33 ?_
  refine gs_i2b (pc := 34) dX0_type_34 (i_b (by omega)) ?_
  refine gs_bast (pc := 35) dX0_type_35 htb (by omega) (by omega) (by omega) nz ?_
  have hc0 : isO X hp c 0 := ⟨_, _, e1⟩
  have tc : tb ≠ c := fun e => by rw [e, e1] at htb; cases htb
  have ic : ia ≠ c := fun e => by rw [e, e1] at hia; cases hia
  have it : ia ≠ tb := fun e => by rw [e, htb] at hia; cases hia
  have hF1 : Fr X (fun l => l = c + 2) hp (hset hp tb (c + 2, .inl (2, 72, .inl (fup fT (A.2.2.2.2.length : Int) z)))) := Fr1 htb (by omega) ⟨rfl, rfl, rfl⟩
  have g1 : gl X (hset hp tb (c + 2, .inl (2, 72, .inl (fup fT (A.2.2.2.2.length : Int) z)))) c = some (rcC c s pa ia tb A.2.2.2.2.length w ch at_ fa dr) := by rw [gl_set_ne (Ne.symm tc)]; exact e1
  refine gs_ald0 (pc := 36) dX0_type_36 ?_
  refine gs_dup (pc := 37) dX0_type_37 rfl ?_
  refine gs_getf (pc := 38) 4 dX0_type_38 g1 clX0 in_X0 (by decide) q215 (Or.inl rfl) rfl ?_
  refine gs_iconst (pc := 41) dX0_type_41 ?_
  refine gs_iadd (pc := 42) dX0_type_42 ?_
  refine gs_putf (pc := 43) 4 (rcC c s pa ia tb (A.2.2.2.2.length + 1) w ch at_ fa dr).2 dX0_type_43 g1 (by omega) clX0 in_X0 tyX0 tyX0_ok nmX0 (by decide) q215 (Or.inl rfl) rfl (fok_int _) (Nat.le_of_ble_eq_true rfl) rfl ?_
  have hF : Fr X (fun l => l = c + 2) hp _ := hF1.set (c := (rcC c s pa ia tb (A.2.2.2.2.length + 1) w ch at_ fa dr).2) g1 (by omega) rfl ⟨rfl, rfl⟩
  have g2 := gl_set_self (c := rcC c s pa ia tb (A.2.2.2.2.length + 1) w ch at_ fa dr) g1 (by omega)
  refine gs_ald0 (pc := 46) dX0_type_46 ?_
  refine gs_getf (pc := 47) 4 dX0_type_47 g2 clX0 in_X0 (by decide) q215 (Or.inl rfl) rfl ?_
  refine gs_iret (pc := 50) dX0_type_50 rfl ?_
  obtain ⟨o1, o2, o3, o4⟩ := own_fr hX hc0 hF
  have hl : (A.2.2.2.2 ++ [z]).length = A.2.2.2.2.length + 1 := by rw [List.length_append, List.length_singleton]
  refine ⟨_, rfl, rfl, ⟨s, pa, ia, tb, w, ch, at_, fa, dr, ps, fI, fup fT (A.2.2.2.2.length : Int) z, by dsimp only; rw [hl]; exact g2, o1 e2, rcB.own (A := A) hX hc0 hF (by rw [gl_set_ne ic, gl_set_ne it]) (by rw [gl_set_ne tc]; exact gl_set_self htb (by omega)) ⟨rfl, rfl, rfl⟩ (fun k hk => ?_) e3, fun wa hw => o2 (e4 wa hw), fun m hm => o3 (e5 m hm)⟩, o4, by show hp.1 ≤ _; omega, by show hp.2.1 ≤ _; omega⟩
  have hk : k < (A.2.2.2.2 ++ [z]).length := hk
  rw [hl] at hk
  show fup fT _ z k = (A.2.2.2.2 ++ [z]).getD k 0
  rw [List.getD_eq_getElem?_getD]
  by_cases hkl : k < A.2.2.2.2.length
  · rw [fup_ne (by omega), List.getElem?_append_left hkl, ← List.getD_eq_getElem?_getD]
    exact e3.2.2.2.2.2.2.2.1 k hkl
  · obtain rfl : k = A.2.2.2.2.length := by omega
    rw [fup_eq, List.getElem?_append_right (Nat.le_refl _), Nat.sub_self]
    rfl
/-- what begins may change -/
def bgF (X : gCx) (hp : gHp) (c pa : Nat) (l : Nat) : Prop := l = c + 2 ∨ l = pa + 2 ∨ frs X hp l
theorem getD_mem {qs : List Nat} {i : Nat} (h : i < qs.length) : qs.getD i 0 ∈ qs := by
  rw [List.getD_eq_getElem?_getD, List.getElem?_eq_getElem h]
  exact List.getElem_mem h
theorem nodup_app1 {qs : List Nat} {q : Nat} (h : qs.Nodup) (hq : ∀ y ∈ qs, y ≠ q) : (qs ++ [q]).Nodup := by
  rw [List.nodup_append]
  refine ⟨h, by simp, fun a ha b hb => ?_⟩
  rw [List.mem_singleton.mp hb]
  exact hq a ha
theorem c_begins (hX : KX X) (hO : asOk A) (e1 : gl X hp c = some (rcC c s pa ia tb A.2.2.2.2.length w ch at_ fa dr)) (e2 : isSta X hp s A.1) (e3 : rcB X hp c s pa ia tb ps fI fT A) : M0 X yX0_begins fX0_begins 9 [vR (some c)] hp (fun hp' => ∃ ps', gl X hp' c = some (rcC c s pa ia tb A.2.2.2.2.length none none at_ fa dr) ∧ rcB X hp' c s pa ia tb ps' fI fT (chg A A.1) ∧ Fr X (bgF X hp c pa) hp hp' ∧ FrM X hp hp' ∧ hp'.1 ≤ hp.1 + 200 ∧ hp'.2.1 ≤ hp.2.1 + 800) := by
  refine MC.of pfX0_begins rfl (fun h => by cases h) 0 rfl rfl ?_
  obtain ⟨⟨pcap, b1, b1'⟩, b2, b3, b4, b5, b6, b7, b8, b9, b10, b11⟩ := e3
  have hc0 : isO X hp c 0 := ⟨_, _, e1⟩
  have hpo := b1.o
  have hcp : c ≠ pa := hc0.ne hpo (by decide)
  have hclt := hc0.lt
  have hplt := hpo.lt
  have h8 := hO.2.1.1
  have hzlt : ∀ q ∈ zst s ps fI, q + 1 < nx X hp ∧ q ≠ pa := by
    intro q hq
    by_cases hqs : q = s
    · subst hqs; exact ⟨e2.lt, e2.o.1.ne hpo (by decide)⟩
    · obtain ⟨T, g⟩ := b11 q hq hqs
      exact ⟨g.lt, g.o.1.ne hpo (by decide)⟩
  have k21 : ∀ (hq : gHp) (qs : List Nat) (Ps : List SS), Fr X (fun l => l = pa + 2) hp hq → hq.1 = hp.1 → hq.2.1 = hp.2.1 → isAL X hq pa qs pcap → qs.length = Ps.length → (∀ i : Nat, i < qs.length → isSta X hp (qs.getD i 0) (Ps.getD i ssD)) → qs.Sublist ps → qs.length ≤ 7 → (chg A A.1).2.1 = Ps ++ [A.1] → G X fX0_begins 9 21 [some (vR (some c))] [] hq (fun r hp' => r = none ∧ ∃ ps', gl X hp' c = some (rcC c s pa ia tb A.2.2.2.2.length none none at_ fa dr) ∧ rcB X hp' c s pa ia tb ps' fI fT (chg A A.1) ∧ Fr X (bgF X hp c pa) hp hp' ∧ FrM X hp hp' ∧ hp'.1 ≤ hp.1 + 200 ∧ hp'.2.1 ≤ hp.2.1 + 800) := by
    intro hq qs Ps q1 q2 q3 q4 q5 q6 q7 q8 q9
    have p2 : ∀ l, l = pa + 2 → 2 ≤ l := fun l hl => by omega
    have ec := q1.at e1 (by omega)
    have es : isSta X hq s A.1 := e2.fr hX q1 p2 (by have := hzlt s List.mem_cons_self; omega) (by have := b10 s List.mem_cons_self; omega)
    obtain ⟨sxs, scap, sra, sf, es'⟩ := es
    have hnq : nx X hq = nx X hp := by unfold nx; omega
    have q4' := q4
    obtain ⟨mc, e, lbe, ff, ea, -⟩ := q4'
    refine gs_ald0 (pc := 21) dX0_begins_21 ?_
    refine gs_getf (pc := 22) 1 dX0_begins_22 ec clX0 in_X0 (by decide) q212 (Or.inl rfl) rfl ?_
    refine gs_ald0 (pc := 25) dX0_begins_25 ?_
    refine gs_getf (pc := 26) 0 dX0_begins_26 ec clX0 in_X0 (by decide) q211 (Or.inl rfl) rfl ?_
    refine gs_V0 (pc := 29) dX0_begins_29 kX0_52 es'.1 clX1 (by decide) (Nat.le_of_ble_eq_true rfl) (c_stCopy hX hO.1 ⟨_, _, _, _, es'⟩) (fun v hr hq => ?_)
    obtain ⟨rfl, r1, r2, r3, r4⟩ := hq
    have r1' : Fr X (frs X hp) hq hr := Fr.mono r1 (fun l hl => by unfold frs at *; omega)
    have al2 : isAL X hr pa qs pcap := q4.fr hX r1 (by unfold frs; omega)
    have ea2 := r1.at ea (by unfold frs; omega)
    have ec2 := r1.at ec (by unfold frs; omega)
    rw [hnq] at r2 ⊢
    refine gs_V1 (pc := 32) dX0_begins_32 kX0_56 ea2 clJ2 (by decide) (Nat.le_of_ble_eq_true rfl) (c_alAdd hX al2 (by omega) r2.ok) (fun v hs hq => ?_)
    obtain ⟨rfl, s1, cap', ⟨s2, s3, s4, s5⟩, s6⟩ := hq
    refine gs_pop (pc := 35) dX0_begins_35 rfl ?_
    have ec3 := s1.at ec2 (by omega)
    have hFF : Fr X (bgF X hp c pa) hp hs := ((q1.mono (fun l hl => Or.inr (Or.inl hl))).trans (r1'.mono (fun l hl => Or.inr (Or.inr hl)))).trans (s1.mono (fun l hl => Or.inr (Or.inl hl)))
    refine gs_ald0 (pc := 36) dX0_begins_36 ?_
    refine gs_null (pc := 37) dX0_begins_37 ?_
    refine gs_putf (pc := 38) 5 (rcC c s pa ia tb A.2.2.2.2.length none ch at_ fa dr).2 dX0_begins_38 ec3 (by omega) clX0 in_X0 tyX0 tyX0_ok nmX0 (by decide) q216 (Or.inl rfl) rfl (fok_obj _ _) (Nat.le_of_ble_eq_true rfl) rfl ?_
    have ec4 := gl_set_self (c := rcC c s pa ia tb A.2.2.2.2.length none ch at_ fa dr) ec3 (by omega)
    refine gs_ald0 (pc := 41) dX0_begins_41 ?_
    refine gs_null (pc := 42) dX0_begins_42 ?_
    refine gs_putf (pc := 43) 6 (rcC c s pa ia tb A.2.2.2.2.length none none at_ fa dr).2 dX0_begins_43 ec4 (by omega) clX0 in_X0 tyX0 tyX0_ok nmX0 (by decide) q217 (Or.inl rfl) rfl (fok_obj _ _) (Nat.le_of_ble_eq_true rfl) rfl ?_
    refine gs_vret (pc := 46) dX0_begins_46 rfl ?_
    have ec5 := gl_set_self (c := rcC c s pa ia tb A.2.2.2.2.length none none at_ fa dr) ec4 (by omega)
    have hFc : Fr X (fun l => l = c + 2) hs _ := (Fr1 (c := (rcC c s pa ia tb A.2.2.2.2.length none ch at_ fa dr).2) ec3 (by omega) ⟨rfl, rfl⟩).set (c := (rcC c s pa ia tb A.2.2.2.2.length none none at_ fa dr).2) ec4 (by omega) rfl ⟨rfl, rfl⟩
    have hG : Fr X (bgF X hp c pa) hp _ := hFF.trans (hFc.mono (fun l hl => Or.inl hl))
    have hge : ∀ b, b ≠ c → gl X (hset (hset hs c (c + 2, (rcC c s pa ia tb A.2.2.2.2.length none ch at_ fa dr).2)) c (c + 2, (rcC c s pa ia tb A.2.2.2.2.length none none at_ fa dr).2)) b = gl X hs b := fun b hb => by rw [gl_set_ne hb, gl_set_ne hb]
    have hc1 : (hset (hset hs c (c + 2, (rcC c s pa ia tb A.2.2.2.2.length none ch at_ fa dr).2)) c (c + 2, (rcC c s pa ia tb A.2.2.2.2.length none none at_ fa dr).2)).1 = hs.1 := rfl
    have hc2 : (hset (hset hs c (c + 2, (rcC c s pa ia tb A.2.2.2.2.length none ch at_ fa dr).2)) c (c + 2, (rcC c s pa ia tb A.2.2.2.2.length none none at_ fa dr).2)).2.1 = hs.2.1 := rfl
    have ec5' : gl X (hset (hset hs c (c + 2, (rcC c s pa ia tb A.2.2.2.2.length none ch at_ fa dr).2)) c (c + 2, (rcC c s pa ia tb A.2.2.2.2.length none none at_ fa dr).2)) c = some (rcC c s pa ia tb A.2.2.2.2.length none none at_ fa dr) := ec5
    show _ ∧ ∃ ps', gl X (hset (hset hs c (c + 2, (rcC c s pa ia tb A.2.2.2.2.length none ch at_ fa dr).2)) c (c + 2, (rcC c s pa ia tb A.2.2.2.2.length none none at_ fa dr).2)) c = _ ∧ _
    generalize hset (hset hs c (c + 2, (rcC c s pa ia tb A.2.2.2.2.length none ch at_ fa dr).2)) c (c + 2, (rcC c s pa ia tb A.2.2.2.2.length none none at_ fa dr).2) = hz at *
    have b2S : ∀ l, bgF X hp c pa l → 2 ≤ l := fun l hl => by rcases hl with g | g | g; omega; omega; exact frs_2 g
    have st : ∀ q ∈ zst s ps fI, ∀ T, isSta X hp q T → isSta X hz q T := by
      intro q hq T g
      have hqz := hzlt q hq
      have := b10 q hq
      have n1 : c ≠ q := hc0.ne g.o.1 (by decide)
      have n2 : c ≠ q + 1 := hc0.ne g.o.2 (by decide)
      refine g.fr hX hG b2S ?_ ?_
      · rintro (g | g | g)
        · omega
        · omega
        · unfold frs at g; omega
      · rintro (g | g | g)
        · omega
        · omega
        · unfold frs at g; omega
    have hqsub : ∀ y ∈ qs, y ∈ ps := fun y hy => q7.subset hy
    have hqz : ∀ y ∈ qs, y ∈ zst s ps fI := fun y hy => List.mem_cons_of_mem _ (List.mem_append_left _ (hqsub y hy))
    have hnew : isSta X hz (nx X hp) A.1 := by
      have r2' : isSta X hs (nx X hp) A.1 := r2.fr hX s1 p2 (by omega) (by omega)
      have n1 := r2'.o
      exact r2'.fr hX hFc (fun l hl => by omega) (by rw [hnq] at *; omega) (by rw [hnq] at *; omega)
    have fzI : ∀ q, q ∈ (fI 0).toList ++ (fI 1).toList → q ∈ zst s ps fI := fun q hq => List.mem_cons_of_mem _ (List.mem_append_right _ hq)
    have z9 := b9
    unfold zst at z9
    rw [List.nodup_cons, List.nodup_append] at z9
    obtain ⟨y1, y2, y3, y4⟩ := z9
    refine ⟨rfl, qs ++ [nx X hp], ec5', ⟨⟨cap', s6.fr hX hFc (by omega), by omega⟩, ?_, fun i hi => ?_, ?_, ?_, ?_, ?_, b8, ?_, fun q hq => ?_, fun q hq hqs => ?_⟩, hG, FrM.of hG (fun l hl => ?_), by omega, by omega⟩
    · rw [q9, List.length_append, List.length_append, q5]; rfl
    · rw [List.length_append, List.length_singleton] at hi
      rw [q9, List.getD_eq_getElem?_getD, List.getD_eq_getElem?_getD]
      by_cases hil : i < qs.length
      · rw [List.getElem?_append_left hil, List.getElem?_append_left (by omega), ← List.getD_eq_getElem?_getD, ← List.getD_eq_getElem?_getD]
        exact st _ (hqz _ (getD_mem hil)) _ (q6 i hil)
      · obtain rfl : i = qs.length := by omega
        rw [List.getElem?_append_right (Nat.le_refl _), Nat.sub_self, q5, List.getElem?_append_right (Nat.le_refl _), Nat.sub_self]
        exact hnew
    · have hic : ia ≠ c := fun e => by rw [e, e1] at b4; cases b4
      rw [hge ia hic]
      exact s1.at (r1'.at (q1.at b4 (by omega)) (by unfold frs; omega)) (by omega)
    · rcases b5 with g | ⟨q, T, g1, g2, g3⟩
      · exact Or.inl g
      · exact Or.inr ⟨q, T, g1, g2, st q (zst_0 g1) T g3⟩
    · rcases b6 with g | ⟨q, T, g1, g2, g3⟩
      · exact Or.inl g
      · exact Or.inr ⟨q, T, g1, g2, st q (zst_1 g1) T g3⟩
    · have htc : tb ≠ c := fun e => by rw [e, e1] at b7; cases b7
      rw [hge tb htc]
      exact s1.at (r1'.at (q1.at b7 (by omega)) (by unfold frs; omega)) (by omega)
    · have hns : s ≠ nx X hp := by have := hzlt s List.mem_cons_self; omega
      unfold zst
      rw [List.nodup_cons, List.nodup_append]
      refine ⟨fun hm => ?_, nodup_app1 (y2.sublist q7) (fun y hy => by have := hzlt y (hqz y hy); omega), y3, fun u hu v hv => ?_⟩
      · rcases List.mem_append.mp hm with hm | hm
        · rcases List.mem_append.mp hm with hm | hm
          · exact y1 (List.mem_append_left _ (hqsub s hm))
          · exact hns (List.mem_singleton.mp hm)
        · exact y1 (List.mem_append_right _ hm)
      · rcases List.mem_append.mp hu with hu | hu
        · exact y4 u (hqsub u hu) v hv
        · rw [List.mem_singleton.mp hu]
          have := hzlt v (fzI v hv)
          omega
    · rcases List.mem_cons.mp hq with hq | hq
      · subst hq; exact b10 q List.mem_cons_self
      · rcases List.mem_append.mp hq with hq | hq
        · rcases List.mem_append.mp hq with hq | hq
          · exact b10 q (hqz q hq)
          · rw [List.mem_singleton.mp hq]; omega
        · exact b10 q (fzI q hq)
    · rcases List.mem_cons.mp hq with hq | hq
      · exact absurd hq hqs
      · rcases List.mem_append.mp hq with hq | hq
        · rcases List.mem_append.mp hq with hq | hq
          · obtain ⟨T, g⟩ := b11 q (hqz q hq) hqs
            exact ⟨T, st q (hqz q hq) T g⟩
          · rw [List.mem_singleton.mp hq]; exact ⟨_, hnew⟩
        · obtain ⟨T, g⟩ := b11 q (fzI q hq) hqs
          exact ⟨T, st q (fzI q hq) T g⟩
    · rcases hl with g | g | g
      · rw [g]; exact nM.cell e1 (by decide)
      · obtain ⟨lb, fs, hpa⟩ := hpo
        rw [g]; exact nM.cell hpa (by decide)
      · exact nM.new g
  have hch : (chg A A.1).2.1 = (if A.2.1.length = 8 then A.2.1.drop 1 else A.2.1) ++ [A.1] := rfl
  have b1c := b1
  obtain ⟨mc, e, lbe, ff, ea, -⟩ := b1c
  refine gs_ald0 (pc := 0) dX0_begins_0 ?_
  refine gs_getf (pc := 1) 1 dX0_begins_1 e1 clX0 in_X0 (by decide) q212 (Or.inl rfl) rfl ?_
  refine gs_V0 (pc := 4) dX0_begins_4 kX0_44 ea clJ2 (by decide) (Nat.le_of_ble_eq_true rfl) (c_alSize b1) (fun v hp1 hq => ?_)
  obtain ⟨rfl, rfl⟩ := hq
  refine gs_bipush (pc := 7) dX0_begins_7 rfl ?_
  refine gs_ic_ne (pc := 9) (tgt := 21) dX0_begins_9 (by decide) (by omega) (fun h1 => ?_) (fun h1 => ?_)
  · exact k21 hp ps A.2.1 Fr.refl rfl rfl b1 b2 b3 (List.Sublist.refl _) (by omega) (by rw [hch, if_neg (by omega)])
  · refine gs_ald0 (pc := 12) dX0_begins_12 ?_
    refine gs_getf (pc := 13) 1 dX0_begins_13 e1 clX0 in_X0 (by decide) q212 (Or.inl rfl) rfl ?_
    refine gs_iconst (pc := 16) dX0_begins_16 ?_
    refine gs_V1 (pc := 17) dX0_begins_17 kX0_48 ea clJ2 (by decide) (Nat.le_of_ble_eq_true rfl) (c_alRemove (i := 0) b1 (by omega)) (fun v hq hq => ?_)
    obtain ⟨rfl, g1, g2, g3, g4⟩ := hq
    refine gs_pop (pc := 20) dX0_begins_20 rfl ?_
    have ee : ps.eraseIdx 0 = ps.drop 1 := by cases ps <;> rfl
    rw [ee] at g4
    refine k21 hq (ps.drop 1) (A.2.1.drop 1) g1 g2 g3 g4 (by rw [List.length_drop, List.length_drop, b2]) (fun i hi => ?_) (List.drop_sublist _ _) (by rw [List.length_drop]; omega) (by rw [hch, if_pos (by omega)])
    rw [List.length_drop] at hi
    rw [List.getD_eq_getElem?_getD, List.getD_eq_getElem?_getD, List.getElem?_drop, List.getElem?_drop, ← List.getD_eq_getElem?_getD, ← List.getD_eq_getElem?_getD]
    exact b3 (1 + i) (by omega)
end C5
