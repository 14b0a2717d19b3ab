/-! CONTRACTS: HashMap, part 2: getNode, get, containsKey. -/
section HM2
variable {X : gCx} {hp : gHp}
def fk (es : List Nd) (k : Int) : Option Nd := es.find? (fun nd => decide (nd.2.1 = k))
theorem fk_rs {n : Nat} {es : List Nd} {k : Int} : fk (rs n es (k.toNat % n)) k = fk es k := by
  unfold fk rs
  rw [List.find?_filter]
  congr 1
  funext nd
  by_cases h : nd.2.1 = k
  · simp [h]
  · simp [h]
theorem fk_cons {nd : Nd} {L : List Nd} {k : Int} : fk (nd :: L) k = if nd.2.1 = k then some nd else fk L k := by
  unfold fk
  rw [List.find?_cons]
  by_cases h : nd.2.1 = k
  · simp [h]
  · simp [h]
theorem mem_rs {n i : Nat} {es : List Nd} {nd : Nd} (h : nd ∈ rs n es i) : nd ∈ es ∧ nd.2.1.toNat % n = i := by
  unfold rs at h
  obtain ⟨h1, h2⟩ := List.mem_filter.mp h
  exact ⟨h1, by simpa using h2⟩
theorem c_getNode {kd : Bool} {m q n : Nat} {ks : Option Nat} {ext : List AV} {xt : Nat → List AV} {es : List Nd} {k : Int} (hm : isHM X hp 12 15 kd m ks ext xt n es) (hq : isKey X hp kd q k) : MV X yJ14_getNode fJ14_getNode 4 [vR (some m), vR (some q)] hp (fun v hp' => v = vR ((fk es k).map (fun nd => nd.1)) ∧ hp = hp') := by
  obtain ⟨h1, h2, h3, vs, tb, eset, mc, th, lf, e1, e2⟩ := hm
  refine MC.of pfJ14_getNode rfl (fun h => by cases h) 6 rfl rfl ?_
  have hr := hq.rng
  rcases e2 with ⟨rfl, rfl, -, rfl⟩ | ⟨j, ta, t, q1, q2, q3, q4, q4b, rfl, q5, q6⟩
  · refine gs_ald0 (pc := 0) dJ14_getNode_0 ?_
    refine gs_getf (pc := 1) 2 dJ14_getNode_1 e1 clJ14 in_J14 (by decide) q798 (Or.inl rfl) rfl ?_
    refine gs_dup (pc := 4) dJ14_getNode_4 rfl ?_
    refine gs_ast2 (pc := 5) dJ14_getNode_5 rfl ?_
    refine gs_ifnull (pc := 6) (tgt := 148) dJ14_getNode_6 (by decide) (fun _ => ?_) (fun _ h => by cases h)
    refine gs_null (pc := 148) dJ14_getNode_148 ?_
    refine gs_aret (pc := 149) dJ14_getNode_149 rfl (Or.inl ⟨_, rfl⟩) ?_
    exact ⟨_, rfl, rfl, rfl⟩
  · have hn := pow14 q1 ⟨q2, q3⟩
    have hi : k.toNat % n < n := Nat.mod_lt _ (by omega)
    have hseg := q6 _ hi
    have hfk : fk (rs n es (k.toNat % n)) k = fk es k := fk_rs
    have hmem : ∀ nd ∈ rs n es (k.toNat % n), isKey X hp kd nd.2.2.1 nd.2.1 := fun nd h => h3 nd (mem_rs h).1
    rw [← hfk]
    refine gs_ald0 (pc := 0) dJ14_getNode_0 ?_
    refine gs_getf (pc := 1) 2 dJ14_getNode_1 e1 clJ14 in_J14 (by decide) q798 (Or.inl rfl) rfl ?_
    refine gs_dup (pc := 4) dJ14_getNode_4 rfl ?_
    refine gs_ast2 (pc := 5) dJ14_getNode_5 rfl ?_
    refine gs_ifnull (pc := 6) (tgt := 148) dJ14_getNode_6 (by decide) (fun h => by cases h) (fun _ _ => ?_)
    refine gs_ald2 (pc := 9) dJ14_getNode_9 ?_
    refine gs_alen (pc := 10) dJ14_getNode_10 q5 ?_
    refine gs_dup (pc := 11) dJ14_getNode_11 rfl ?_
    refine gs_ist5 (pc := 12) dJ14_getNode_12 rfl ?_
    refine gs_if_le (pc := 14) (tgt := 148) dJ14_getNode_14 (by decide) (by omega) (fun hn => absurd hn (by omega)) (fun _ => ?_)
    refine gs_ald2 (pc := 17) dJ14_getNode_17 ?_
    refine gs_ild5 (pc := 18) dJ14_getNode_18 ?_
    refine gs_iconst (pc := 20) dJ14_getNode_20 ?_
    refine gs_isub (pc := 21) dJ14_getNode_21 ?_
    refine gs_ald1 (pc := 22) dJ14_getNode_22 ?_
    refine gs_S1 (pc := 23) dJ14_getNode_23 kJ14_149 (by decide) (Nat.le_of_ble_eq_true rfl) (c_hash hq) (fun v hp1 hq => ?_)
    obtain ⟨rfl, rfl⟩ := hq
    refine gs_dup (pc := 26) dJ14_getNode_26 rfl ?_
    refine gs_ist6 (pc := 27) dJ14_getNode_27 rfl ?_
    refine gs_iand (pc := 29) dJ14_getNode_29 (i_andN q1 ⟨q2, q3⟩ hr) ?_
    refine gs_aald (pc := 30) 4 (by decide) dJ14_getNode_30 q5 (by omega) (by omega) ?_
    refine gs_dup (pc := 31) dJ14_getNode_31 rfl ?_
    refine gs_ast3 (pc := 32) dJ14_getNode_32 rfl ?_
    generalize rs n es (k.toNat % n) = LL at hseg hmem ⊢
    generalize t ((k.toNat % n : Nat) : Int) = h0 at hseg ⊢
    cases LL with
    | nil =>
      have hseg : h0 = none := hseg
      subst hseg
      refine gs_ifnull (pc := 33) (tgt := 148) dJ14_getNode_33 (by decide) (fun _ => ?_) (fun _ h => by cases h)
      refine gs_null (pc := 148) dJ14_getNode_148 ?_
      refine gs_aret (pc := 149) dJ14_getNode_149 rfl (Or.inl ⟨_, rfl⟩) ?_
      exact ⟨_, rfl, rfl, rfl⟩
    | cons nd LL =>
      obtain ⟨rfl, nxt, g1, g2⟩ := hseg
      have hk1 := hmem nd List.mem_cons_self
      have hr1 := hk1.rng
      rw [fk_cons]
      have kres : nd.2.1 = k → ∀ L7 : Option AV, nolg (some (vI k)) = true → G X fJ14_getNode 4 69 [some (vR (some m)), some (vR (some q)), some (vR (some ta)), some (vR (some nd.1)), none, some (vI (n : Int)), some (vI k), L7] [] hp (fun r hp' => ∃ v, r = some v ∧ v = vR ((if nd.2.1 = k then some nd else fk LL k).map (fun nd => nd.1)) ∧ hp = hp') := by
        intro he L7 _
        refine gs_ald3 (pc := 69) dJ14_getNode_69 ?_
        refine gs_aret (pc := 70) dJ14_getNode_70 rfl (Or.inl ⟨_, rfl⟩) ?_
        exact ⟨_, rfl, by rw [if_pos he]; rfl, rfl⟩
      have k71 : nd.2.1 ≠ k → ∀ L7 : Option AV, G X fJ14_getNode 4 71 [some (vR (some m)), some (vR (some q)), some (vR (some ta)), some (vR (some nd.1)), none, some (vI (n : Int)), some (vI k), L7] [] hp (fun r hp' => ∃ v, r = some v ∧ v = vR ((if nd.2.1 = k then some nd else fk LL k).map (fun nd => nd.1)) ∧ hp = hp') := by
        intro he L7
        rw [if_neg he]
        have loop : ∀ (LL : List Nd) (h0 : Option Nat) (L4 L7 : Option AV), (∀ nd ∈ LL, isKey X hp kd nd.2.2.1 nd.2.1) → seg X hp (m + 2) 15 xt h0 LL none → ∀ nd0, LL.head? = some nd0 → G X fJ14_getNode 4 99 [some (vR (some m)), some (vR (some q)), some (vR (some ta)), some (vR (some nd.1)), some (vR h0), some (vI (n : Int)), some (vI k), L7] [] hp (fun r hp' => ∃ v, r = some v ∧ v = vR ((fk LL k).map (fun nd => nd.1)) ∧ hp = hp') := by
          intro LL
          induction LL with
          | nil => intro h0 L4 L7 _ _ nd0 hh; cases hh
          | cons nd2 LL ih =>
            intro h0 L4 L7 hmem hseg nd0 hh
            obtain ⟨rfl, nxt, g1, g2⟩ := hseg
            have hk1 := hmem nd2 List.mem_cons_self
            have hr1 := hk1.rng
            rw [fk_cons]
            have k137 : nd2.2.1 ≠ k → ∀ L7 : Option AV, G X fJ14_getNode 4 137 [some (vR (some m)), some (vR (some q)), some (vR (some ta)), some (vR (some nd.1)), some (vR (some nd2.1)), some (vI (n : Int)), some (vI k), L7] [] hp (fun r hp' => ∃ v, r = some v ∧ v = vR ((if nd2.2.1 = k then some nd2 else fk LL k).map (fun nd => nd.1)) ∧ hp = hp') := by
              intro he L7
              rw [if_neg he]
              refine gs_ald4 (pc := 137) dJ14_getNode_137 ?_
              refine gs_getf (pc := 139) 3 dJ14_getNode_139 g1 clJ21 in_J21 (by decide) q1287 (Or.inl rfl) rfl ?_
              refine gs_dup (pc := 142) dJ14_getNode_142 rfl ?_
              refine gs_ast4 (pc := 143) dJ14_getNode_143 rfl ?_
              cases LL with
              | nil =>
                have g2 : nxt = none := g2
                subst g2
                refine gs_ifnonnull (pc := 145) (tgt := 99) dJ14_getNode_145 (by decide) (fun _ h => by cases h) (fun _ => ?_)
                refine gs_null (pc := 148) dJ14_getNode_148 ?_
                refine gs_aret (pc := 149) dJ14_getNode_149 rfl (Or.inl ⟨_, rfl⟩) ?_
                exact ⟨_, rfl, rfl, rfl⟩
              | cons nd3 LL =>
                have g2' := g2
                obtain ⟨rfl, -⟩ := g2'
                refine gs_ifnonnull (pc := 145) (tgt := 99) dJ14_getNode_145 (by decide) (fun _ _ => ?_) (fun h => by cases h)
                exact ih _ none _ (fun x hx => hmem x (List.mem_cons_of_mem _ hx)) g2 nd3 rfl
            refine gs_ald4 (pc := 99) dJ14_getNode_99 ?_
            refine gs_getf (pc := 101) 0 dJ14_getNode_101 g1 clJ21 in_J21 (by decide) q1269 (Or.inl rfl) rfl ?_
            refine gs_ild6 (pc := 104) dJ14_getNode_104 ?_
            refine gs_ic_ne (pc := 106) (tgt := 137) dJ14_getNode_106 (by decide) (by omega) (fun hc => ?_) (fun hc => ?_)
            · exact k137 hc L7
            · refine gs_ald4 (pc := 109) dJ14_getNode_109 ?_
              refine gs_getf (pc := 111) 1 dJ14_getNode_111 g1 clJ21 in_J21 (by decide) q1276 (Or.inl rfl) rfl ?_
              refine gs_dup (pc := 114) dJ14_getNode_114 rfl ?_
              refine gs_ast7 (pc := 115) dJ14_getNode_115 rfl ?_
              refine gs_ald1 (pc := 117) dJ14_getNode_117 ?_
              refine gs_acmp_eq (pc := 118) (tgt := 134) dJ14_getNode_118 (by decide) (fun hd => ?_) (fun hd => ?_)
              · refine gs_ald4 (pc := 134) dJ14_getNode_134 ?_
                refine gs_aret (pc := 136) dJ14_getNode_136 rfl (Or.inl ⟨_, rfl⟩) ?_
                exact ⟨_, rfl, by rw [if_pos hc]; rfl, rfl⟩
              · refine gs_ald1 (pc := 121) dJ14_getNode_121 ?_
                refine gs_ifnull (pc := 122) (tgt := 137) dJ14_getNode_122 (by decide) (fun h => by cases h) (fun _ _ => ?_)
                refine gs_ald1 (pc := 125) dJ14_getNode_125 ?_
                refine gs_ald7 (pc := 126) dJ14_getNode_126 ?_
                refine gs_keyEq (pc := 128) rfl dJ14_getNode_128 hq hk1 (by decide) (Nat.le_of_ble_eq_true rfl) ?_
                rw [if_pos hc.symm]
                refine gs_if_eq (pc := 131) (tgt := 137) dJ14_getNode_131 (by decide) (by omega) (fun hn => absurd hn (by decide)) (fun _ => ?_)
                refine gs_ald4 (pc := 134) dJ14_getNode_134 ?_
                refine gs_aret (pc := 136) dJ14_getNode_136 rfl (Or.inl ⟨_, rfl⟩) ?_
                exact ⟨_, rfl, by rw [if_pos hc]; rfl, rfl⟩
        refine gs_ald3 (pc := 71) dJ14_getNode_71 ?_
        refine gs_getf (pc := 72) 3 dJ14_getNode_72 g1 clJ21 in_J21 (by decide) q1287 (Or.inl rfl) rfl ?_
        refine gs_dup (pc := 75) dJ14_getNode_75 rfl ?_
        refine gs_ast4 (pc := 76) dJ14_getNode_76 rfl ?_
        cases LL with
        | nil =>
          have g2 : nxt = none := g2
          subst g2
          refine gs_ifnull (pc := 78) (tgt := 148) dJ14_getNode_78 (by decide) (fun _ => ?_) (fun _ h => by cases h)
          refine gs_null (pc := 148) dJ14_getNode_148 ?_
          refine gs_aret (pc := 149) dJ14_getNode_149 rfl (Or.inl ⟨_, rfl⟩) ?_
          exact ⟨_, rfl, rfl, rfl⟩
        | cons nd3 LL =>
          have g2' := g2
          obtain ⟨rfl, -⟩ := g2'
          refine gs_ifnull (pc := 78) (tgt := 148) dJ14_getNode_78 (by decide) (fun h => by cases h) (fun _ _ => ?_)
          refine gs_ald3 (pc := 81) dJ14_getNode_81 ?_
          refine gs_instNo (pc := 82) dJ14_getNode_82 q986 g1 clJ21 (Or.inl rfl) ?_
          refine gs_if_eq (pc := 85) (tgt := 99) dJ14_getNode_85 (by decide) (by omega) (fun _ => ?_) (fun hn => absurd rfl hn)
          exact loop _ _ none L7 (fun x hx => hmem x (List.mem_cons_of_mem _ hx)) g2 nd3 rfl
      refine gs_ifnull (pc := 33) (tgt := 148) dJ14_getNode_33 (by decide) (fun h => by cases h) (fun _ _ => ?_)
      refine gs_ald3 (pc := 36) dJ14_getNode_36 ?_
      refine gs_getf (pc := 37) 0 dJ14_getNode_37 g1 clJ21 in_J21 (by decide) q1269 (Or.inl rfl) rfl ?_
      refine gs_ild6 (pc := 40) dJ14_getNode_40 ?_
      refine gs_ic_ne (pc := 42) (tgt := 71) dJ14_getNode_42 (by decide) (by omega) (fun hc => ?_) (fun hc => ?_)
      · exact k71 hc none
      · refine gs_ald3 (pc := 45) dJ14_getNode_45 ?_
        refine gs_getf (pc := 46) 1 dJ14_getNode_46 g1 clJ21 in_J21 (by decide) q1276 (Or.inl rfl) rfl ?_
        refine gs_dup (pc := 49) dJ14_getNode_49 rfl ?_
        refine gs_ast7 (pc := 50) dJ14_getNode_50 rfl ?_
        refine gs_ald1 (pc := 52) dJ14_getNode_52 ?_
        refine gs_acmp_eq (pc := 53) (tgt := 69) dJ14_getNode_53 (by decide) (fun hd => ?_) (fun hd => ?_)
        · exact kres hc _ rfl
        · refine gs_ald1 (pc := 56) dJ14_getNode_56 ?_
          refine gs_ifnull (pc := 57) (tgt := 71) dJ14_getNode_57 (by decide) (fun h => by cases h) (fun _ _ => ?_)
          refine gs_ald1 (pc := 60) dJ14_getNode_60 ?_
          refine gs_ald7 (pc := 61) dJ14_getNode_61 ?_
          refine gs_keyEq (pc := 63) rfl dJ14_getNode_63 hq hk1 (by decide) (Nat.le_of_ble_eq_true rfl) ?_
          rw [if_pos hc.symm]
          refine gs_if_eq (pc := 66) (tgt := 71) dJ14_getNode_66 (by decide) (by omega) (fun hn => absurd hn (by decide)) (fun _ => ?_)
          exact kres hc _ rfl
theorem c_getNodeL {kd : Bool} {m q n : Nat} {ks : Option Nat} {ext : List AV} {xt : Nat → List AV} {es : List Nd} {k : Int} (hm : isHM X hp 16 17 kd m ks ext xt n es) (hq : isKey X hp kd q k) : MV X yJ14_getNode fJ14_getNode 4 [vR (some m), vR (some q)] hp (fun v hp' => v = vR ((fk es k).map (fun nd => nd.1)) ∧ hp = hp') := by
  obtain ⟨h1, h2, h3, vs, tb, eset, mc, th, lf, e1, e2⟩ := hm
  refine MC.of pfJ14_getNode rfl (fun h => by cases h) 6 rfl rfl ?_
  have hr := hq.rng
  rcases e2 with ⟨rfl, rfl, -, rfl⟩ | ⟨j, ta, t, q1, q2, q3, q4, q4b, rfl, q5, q6⟩
  · refine gs_ald0 (pc := 0) dJ14_getNode_0 ?_
    refine gs_getf (pc := 1) 2 dJ14_getNode_1 e1 clJ25 in_J25 (by decide) q798 (Or.inl rfl) rfl ?_
    refine gs_dup (pc := 4) dJ14_getNode_4 rfl ?_
    refine gs_ast2 (pc := 5) dJ14_getNode_5 rfl ?_
    refine gs_ifnull (pc := 6) (tgt := 148) dJ14_getNode_6 (by decide) (fun _ => ?_) (fun _ h => by cases h)
    refine gs_null (pc := 148) dJ14_getNode_148 ?_
    refine gs_aret (pc := 149) dJ14_getNode_149 rfl (Or.inl ⟨_, rfl⟩) ?_
    exact ⟨_, rfl, rfl, rfl⟩
  · have hn := pow14 q1 ⟨q2, q3⟩
    have hi : k.toNat % n < n := Nat.mod_lt _ (by omega)
    have hseg := q6 _ hi
    have hfk : fk (rs n es (k.toNat % n)) k = fk es k := fk_rs
    have hmem : ∀ nd ∈ rs n es (k.toNat % n), isKey X hp kd nd.2.2.1 nd.2.1 := fun nd h => h3 nd (mem_rs h).1
    rw [← hfk]
    refine gs_ald0 (pc := 0) dJ14_getNode_0 ?_
    refine gs_getf (pc := 1) 2 dJ14_getNode_1 e1 clJ25 in_J25 (by decide) q798 (Or.inl rfl) rfl ?_
    refine gs_dup (pc := 4) dJ14_getNode_4 rfl ?_
    refine gs_ast2 (pc := 5) dJ14_getNode_5 rfl ?_
    refine gs_ifnull (pc := 6) (tgt := 148) dJ14_getNode_6 (by decide) (fun h => by cases h) (fun _ _ => ?_)
    refine gs_ald2 (pc := 9) dJ14_getNode_9 ?_
    refine gs_alen (pc := 10) dJ14_getNode_10 q5 ?_
    refine gs_dup (pc := 11) dJ14_getNode_11 rfl ?_
    refine gs_ist5 (pc := 12) dJ14_getNode_12 rfl ?_
    refine gs_if_le (pc := 14) (tgt := 148) dJ14_getNode_14 (by decide) (by omega) (fun hn => absurd hn (by omega)) (fun _ => ?_)
    refine gs_ald2 (pc := 17) dJ14_getNode_17 ?_
    refine gs_ild5 (pc := 18) dJ14_getNode_18 ?_
    refine gs_iconst (pc := 20) dJ14_getNode_20 ?_
    refine gs_isub (pc := 21) dJ14_getNode_21 ?_
    refine gs_ald1 (pc := 22) dJ14_getNode_22 ?_
    refine gs_S1 (pc := 23) dJ14_getNode_23 kJ14_149 (by decide) (Nat.le_of_ble_eq_true rfl) (c_hash hq) (fun v hp1 hq => ?_)
    obtain ⟨rfl, rfl⟩ := hq
    refine gs_dup (pc := 26) dJ14_getNode_26 rfl ?_
    refine gs_ist6 (pc := 27) dJ14_getNode_27 rfl ?_
    refine gs_iand (pc := 29) dJ14_getNode_29 (i_andN q1 ⟨q2, q3⟩ hr) ?_
    refine gs_aald (pc := 30) 4 (by decide) dJ14_getNode_30 q5 (by omega) (by omega) ?_
    refine gs_dup (pc := 31) dJ14_getNode_31 rfl ?_
    refine gs_ast3 (pc := 32) dJ14_getNode_32 rfl ?_
    generalize rs n es (k.toNat % n) = LL at hseg hmem ⊢
    generalize t ((k.toNat % n : Nat) : Int) = h0 at hseg ⊢
    cases LL with
    | nil =>
      have hseg : h0 = none := hseg
      subst hseg
      refine gs_ifnull (pc := 33) (tgt := 148) dJ14_getNode_33 (by decide) (fun _ => ?_) (fun _ h => by cases h)
      refine gs_null (pc := 148) dJ14_getNode_148 ?_
      refine gs_aret (pc := 149) dJ14_getNode_149 rfl (Or.inl ⟨_, rfl⟩) ?_
      exact ⟨_, rfl, rfl, rfl⟩
    | cons nd LL =>
      obtain ⟨rfl, nxt, g1, g2⟩ := hseg
      have hk1 := hmem nd List.mem_cons_self
      have hr1 := hk1.rng
      rw [fk_cons]
      have kres : nd.2.1 = k → ∀ L7 : Option AV, nolg (some (vI k)) = true → G X fJ14_getNode 4 69 [some (vR (some m)), some (vR (some q)), some (vR (some ta)), some (vR (some nd.1)), none, some (vI (n : Int)), some (vI k), L7] [] hp (fun r hp' => ∃ v, r = some v ∧ v = vR ((if nd.2.1 = k then some nd else fk LL k).map (fun nd => nd.1)) ∧ hp = hp') := by
        intro he L7 _
        refine gs_ald3 (pc := 69) dJ14_getNode_69 ?_
        refine gs_aret (pc := 70) dJ14_getNode_70 rfl (Or.inl ⟨_, rfl⟩) ?_
        exact ⟨_, rfl, by rw [if_pos he]; rfl, rfl⟩
      have k71 : nd.2.1 ≠ k → ∀ L7 : Option AV, G X fJ14_getNode 4 71 [some (vR (some m)), some (vR (some q)), some (vR (some ta)), some (vR (some nd.1)), none, some (vI (n : Int)), some (vI k), L7] [] hp (fun r hp' => ∃ v, r = some v ∧ v = vR ((if nd.2.1 = k then some nd else fk LL k).map (fun nd => nd.1)) ∧ hp = hp') := by
        intro he L7
        rw [if_neg he]
        have loop : ∀ (LL : List Nd) (h0 : Option Nat) (L4 L7 : Option AV), (∀ nd ∈ LL, isKey X hp kd nd.2.2.1 nd.2.1) → seg X hp (m + 2) 17 xt h0 LL none → ∀ nd0, LL.head? = some nd0 → G X fJ14_getNode 4 99 [some (vR (some m)), some (vR (some q)), some (vR (some ta)), some (vR (some nd.1)), some (vR h0), some (vI (n : Int)), some (vI k), L7] [] hp (fun r hp' => ∃ v, r = some v ∧ v = vR ((fk LL k).map (fun nd => nd.1)) ∧ hp = hp') := by
          intro LL
          induction LL with
          | nil => intro h0 L4 L7 _ _ nd0 hh; cases hh
          | cons nd2 LL ih =>
            intro h0 L4 L7 hmem hseg nd0 hh
            obtain ⟨rfl, nxt, g1, g2⟩ := hseg
            have hk1 := hmem nd2 List.mem_cons_self
            have hr1 := hk1.rng
            rw [fk_cons]
            have k137 : nd2.2.1 ≠ k → ∀ L7 : Option AV, G X fJ14_getNode 4 137 [some (vR (some m)), some (vR (some q)), some (vR (some ta)), some (vR (some nd.1)), some (vR (some nd2.1)), some (vI (n : Int)), some (vI k), L7] [] hp (fun r hp' => ∃ v, r = some v ∧ v = vR ((if nd2.2.1 = k then some nd2 else fk LL k).map (fun nd => nd.1)) ∧ hp = hp') := by
              intro he L7
              rw [if_neg he]
              refine gs_ald4 (pc := 137) dJ14_getNode_137 ?_
              refine gs_getf (pc := 139) 3 dJ14_getNode_139 g1 clJ22 in_J22 (by decide) q1287 (Or.inl rfl) rfl ?_
              refine gs_dup (pc := 142) dJ14_getNode_142 rfl ?_
              refine gs_ast4 (pc := 143) dJ14_getNode_143 rfl ?_
              cases LL with
              | nil =>
                have g2 : nxt = none := g2
                subst g2
                refine gs_ifnonnull (pc := 145) (tgt := 99) dJ14_getNode_145 (by decide) (fun _ h => by cases h) (fun _ => ?_)
                refine gs_null (pc := 148) dJ14_getNode_148 ?_
                refine gs_aret (pc := 149) dJ14_getNode_149 rfl (Or.inl ⟨_, rfl⟩) ?_
                exact ⟨_, rfl, rfl, rfl⟩
              | cons nd3 LL =>
                have g2' := g2
                obtain ⟨rfl, -⟩ := g2'
                refine gs_ifnonnull (pc := 145) (tgt := 99) dJ14_getNode_145 (by decide) (fun _ _ => ?_) (fun h => by cases h)
                exact ih _ none _ (fun x hx => hmem x (List.mem_cons_of_mem _ hx)) g2 nd3 rfl
            refine gs_ald4 (pc := 99) dJ14_getNode_99 ?_
            refine gs_getf (pc := 101) 0 dJ14_getNode_101 g1 clJ22 in_J22 (by decide) q1269 (Or.inl rfl) rfl ?_
            refine gs_ild6 (pc := 104) dJ14_getNode_104 ?_
            refine gs_ic_ne (pc := 106) (tgt := 137) dJ14_getNode_106 (by decide) (by omega) (fun hc => ?_) (fun hc => ?_)
            · exact k137 hc L7
            · refine gs_ald4 (pc := 109) dJ14_getNode_109 ?_
              refine gs_getf (pc := 111) 1 dJ14_getNode_111 g1 clJ22 in_J22 (by decide) q1276 (Or.inl rfl) rfl ?_
              refine gs_dup (pc := 114) dJ14_getNode_114 rfl ?_
              refine gs_ast7 (pc := 115) dJ14_getNode_115 rfl ?_
              refine gs_ald1 (pc := 117) dJ14_getNode_117 ?_
              refine gs_acmp_eq (pc := 118) (tgt := 134) dJ14_getNode_118 (by decide) (fun hd => ?_) (fun hd => ?_)
              · refine gs_ald4 (pc := 134) dJ14_getNode_134 ?_
                refine gs_aret (pc := 136) dJ14_getNode_136 rfl (Or.inl ⟨_, rfl⟩) ?_
                exact ⟨_, rfl, by rw [if_pos hc]; rfl, rfl⟩
              · refine gs_ald1 (pc := 121) dJ14_getNode_121 ?_
                refine gs_ifnull (pc := 122) (tgt := 137) dJ14_getNode_122 (by decide) (fun h => by cases h) (fun _ _ => ?_)
                refine gs_ald1 (pc := 125) dJ14_getNode_125 ?_
                refine gs_ald7 (pc := 126) dJ14_getNode_126 ?_
                refine gs_keyEq (pc := 128) rfl dJ14_getNode_128 hq hk1 (by decide) (Nat.le_of_ble_eq_true rfl) ?_
                rw [if_pos hc.symm]
                refine gs_if_eq (pc := 131) (tgt := 137) dJ14_getNode_131 (by decide) (by omega) (fun hn => absurd hn (by decide)) (fun _ => ?_)
                refine gs_ald4 (pc := 134) dJ14_getNode_134 ?_
                refine gs_aret (pc := 136) dJ14_getNode_136 rfl (Or.inl ⟨_, rfl⟩) ?_
                exact ⟨_, rfl, by rw [if_pos hc]; rfl, rfl⟩
        refine gs_ald3 (pc := 71) dJ14_getNode_71 ?_
        refine gs_getf (pc := 72) 3 dJ14_getNode_72 g1 clJ22 in_J22 (by decide) q1287 (Or.inl rfl) rfl ?_
        refine gs_dup (pc := 75) dJ14_getNode_75 rfl ?_
        refine gs_ast4 (pc := 76) dJ14_getNode_76 rfl ?_
        cases LL with
        | nil =>
          have g2 : nxt = none := g2
          subst g2
          refine gs_ifnull (pc := 78) (tgt := 148) dJ14_getNode_78 (by decide) (fun _ => ?_) (fun _ h => by cases h)
          refine gs_null (pc := 148) dJ14_getNode_148 ?_
          refine gs_aret (pc := 149) dJ14_getNode_149 rfl (Or.inl ⟨_, rfl⟩) ?_
          exact ⟨_, rfl, rfl, rfl⟩
        | cons nd3 LL =>
          have g2' := g2
          obtain ⟨rfl, -⟩ := g2'
          refine gs_ifnull (pc := 78) (tgt := 148) dJ14_getNode_78 (by decide) (fun h => by cases h) (fun _ _ => ?_)
          refine gs_ald3 (pc := 81) dJ14_getNode_81 ?_
          refine gs_instNo (pc := 82) dJ14_getNode_82 q986 g1 clJ22 (Or.inr rfl) ?_
          refine gs_if_eq (pc := 85) (tgt := 99) dJ14_getNode_85 (by decide) (by omega) (fun _ => ?_) (fun hn => absurd rfl hn)
          exact loop _ _ none L7 (fun x hx => hmem x (List.mem_cons_of_mem _ hx)) g2 nd3 rfl
      refine gs_ifnull (pc := 33) (tgt := 148) dJ14_getNode_33 (by decide) (fun h => by cases h) (fun _ _ => ?_)
      refine gs_ald3 (pc := 36) dJ14_getNode_36 ?_
      refine gs_getf (pc := 37) 0 dJ14_getNode_37 g1 clJ22 in_J22 (by decide) q1269 (Or.inl rfl) rfl ?_
      refine gs_ild6 (pc := 40) dJ14_getNode_40 ?_
      refine gs_ic_ne (pc := 42) (tgt := 71) dJ14_getNode_42 (by decide) (by omega) (fun hc => ?_) (fun hc => ?_)
      · exact k71 hc none
      · refine gs_ald3 (pc := 45) dJ14_getNode_45 ?_
        refine gs_getf (pc := 46) 1 dJ14_getNode_46 g1 clJ22 in_J22 (by decide) q1276 (Or.inl rfl) rfl ?_
        refine gs_dup (pc := 49) dJ14_getNode_49 rfl ?_
        refine gs_ast7 (pc := 50) dJ14_getNode_50 rfl ?_
        refine gs_ald1 (pc := 52) dJ14_getNode_52 ?_
        refine gs_acmp_eq (pc := 53) (tgt := 69) dJ14_getNode_53 (by decide) (fun hd => ?_) (fun hd => ?_)
        · exact kres hc _ rfl
        · refine gs_ald1 (pc := 56) dJ14_getNode_56 ?_
          refine gs_ifnull (pc := 57) (tgt := 71) dJ14_getNode_57 (by decide) (fun h => by cases h) (fun _ _ => ?_)
          refine gs_ald1 (pc := 60) dJ14_getNode_60 ?_
          refine gs_ald7 (pc := 61) dJ14_getNode_61 ?_
          refine gs_keyEq (pc := 63) rfl dJ14_getNode_63 hq hk1 (by decide) (Nat.le_of_ble_eq_true rfl) ?_
          rw [if_pos hc.symm]
          refine gs_if_eq (pc := 66) (tgt := 71) dJ14_getNode_66 (by decide) (by omega) (fun hn => absurd hn (by decide)) (fun _ => ?_)
          exact kres hc _ rfl
end HM2
section HM2b
variable {X : gCx} {hp : gHp}
theorem seg.cell {lb nc : Nat} {xt : Nat → List AV} {nd : Nd} : ∀ {L : List Nd} {h stop : Option Nat}, seg X hp lb nc xt h L stop → nd ∈ L → ∃ nxt, gl X hp nd.1 = some (lb, ndC nc nd.2.1 nd.2.2.1 nd.2.2.2 nxt (xt nd.1)) := by
  intro L
  induction L with
  | nil => intro h stop _ hm; cases hm
  | cons x L ih =>
    intro h stop hs hm
    obtain ⟨e1, nxt, e2, e3⟩ := hs
    rcases List.mem_cons.mp hm with rfl | hm
    · exact ⟨nxt, e2⟩
    · exact ih e3 hm
theorem isHM.cell {cm nc : Nat} {kd : Bool} {m n : Nat} {ks : Option Nat} {ext : List AV} {xt : Nat → List AV} {es : List Nd} (h : isHM X hp cm nc kd m ks ext xt n es) {nd : Nd} (hm : nd ∈ es) : ∃ nxt, gl X hp nd.1 = some (m + 2, ndC nc nd.2.1 nd.2.2.1 nd.2.2.2 nxt (xt nd.1)) := by
  obtain ⟨h1, h2, h3, vs, tb, eset, mc, th, lf, e1, e2⟩ := h
  rcases e2 with ⟨-, -, -, rfl⟩ | ⟨j, ta, t, q1, q2, q3, q4, q4b, -, q5, q6⟩
  · cases hm
  · have hn := pow14 q1 ⟨q2, q3⟩
    have hi : nd.2.1.toNat % n < n := Nat.mod_lt _ (by omega)
    exact (q6 _ hi).cell (List.mem_filter.mpr ⟨hm, by simp⟩)
theorem fk_mem {es : List Nd} {k : Int} {nd : Nd} (h : fk es k = some nd) : nd ∈ es ∧ nd.2.1 = k := by
  unfold fk at h
  exact ⟨List.mem_of_find?_eq_some h, by simpa using List.find?_some h⟩
theorem isHM.fr {S : Nat → Prop} {hp1 : gHp} {cm nc : Nat} {kd : Bool} {m n : Nat} {ks : Option Nat} {ext : List AV} {xt : Nat → List AV} {es : List Nd} (hF : Fr X S hp hp1) (hS : ¬ S (m + 2)) (hS2 : ∀ l, S l → 2 ≤ l) (h : isHM X hp cm nc kd m ks ext xt n es) : isHM X hp1 cm nc kd m ks ext xt n es := by
  have hc := fun nd => h.cell (nd := nd)
  obtain ⟨h1, h2, h3, vs, tb, eset, mc, th, lf, e1, e2⟩ := h
  refine ⟨h1, h2, fun nd hm => (h3 nd hm).fr hF hS2, vs, tb, eset, mc, th, lf, hF.at e1 hS, ?_⟩
  rcases e2 with e2 | ⟨j, ta, t, q1, q2, q3, q4, q4b, q4c, q5, q6⟩
  · exact Or.inl e2
  · refine Or.inr ⟨j, ta, t, q1, q2, q3, q4, q4b, q4c, hF.at q5 hS, fun i hi => (q6 i hi).mono fun nd hm => ?_⟩
    obtain ⟨nxt, hg⟩ := hc nd (mem_rs hm).1
    rw [hg, hF.at hg hS]
theorem c_hmGet {kd : Bool} {m q n : Nat} {ks : Option Nat} {ext : List AV} {xt : Nat → List AV} {es : List Nd} {k : Int} (hm : isHM X hp 12 15 kd m ks ext xt n es) (hq : isKey X hp kd q k) : MV X yJ14_get fJ14_get 5 [vR (some m), vR (some q)] hp (fun v hp' => v = vR ((fk es k).map (fun nd => nd.2.2.2)) ∧ hp = hp') := by
  have hm' := hm
  obtain ⟨h1, h2, h3, vs, tb, eset, mc, th, lf, e1, e2⟩ := hm
  refine MC.of pfJ14_get rfl (fun h => by cases h) 1 rfl rfl ?_
  refine gs_ald0 (pc := 0) dJ14_get_0 ?_
  refine gs_ald1 (pc := 1) dJ14_get_1 ?_
  refine gs_V1 (pc := 2) dJ14_get_2 kJ14_158 e1 clJ14 (by decide) (Nat.le_of_ble_eq_true rfl) (c_getNode hm' hq) (fun v hp1 hq => ?_)
  obtain ⟨rfl, rfl⟩ := hq
  refine gs_dup (pc := 5) dJ14_get_5 rfl ?_
  refine gs_ast2 (pc := 6) dJ14_get_6 rfl ?_
  cases hk : fk es k with
  | none =>
    refine gs_ifnonnull (pc := 7) (tgt := 14) dJ14_get_7 (by decide) (fun _ h => by cases h) (fun _ => ?_)
    refine gs_null (pc := 10) dJ14_get_10 ?_
    refine gs_goto (pc := 11) (tgt := 18) dJ14_get_11 (by decide) ?_
    refine gs_aret (pc := 18) dJ14_get_18 rfl (Or.inl ⟨_, rfl⟩) ?_
    exact ⟨_, rfl, rfl, rfl⟩
  | some nd =>
    obtain ⟨nxt, hg⟩ := hm'.cell (fk_mem hk).1
    refine gs_ifnonnull (pc := 7) (tgt := 14) dJ14_get_7 (by decide) (fun _ _ => ?_) (fun h => by cases h)
    refine gs_ald2 (pc := 14) dJ14_get_14 ?_
    refine gs_getf (pc := 15) 2 dJ14_get_15 hg clJ21 in_J21 (by decide) q1280 (Or.inl rfl) rfl ?_
    refine gs_aret (pc := 18) dJ14_get_18 rfl (Or.inl ⟨_, rfl⟩) ?_
    exact ⟨_, rfl, rfl, rfl⟩
theorem c_hmHas {kd : Bool} {m q n : Nat} {ks : Option Nat} {ext : List AV} {xt : Nat → List AV} {es : List Nd} {k : Int} (hm : isHM X hp 12 15 kd m ks ext xt n es) (hq : isKey X hp kd q k) : MV X yJ14_containsKey fJ14_containsKey 5 [vR (some m), vR (some q)] hp (fun v hp' => v = vI (if (fk es k).isSome then 1 else 0) ∧ hp = hp') := by
  have hm' := hm
  obtain ⟨h1, h2, h3, vs, tb, eset, mc, th, lf, e1, e2⟩ := hm
  refine MC.of pfJ14_containsKey rfl (fun h => by cases h) 0 rfl rfl ?_
  refine gs_ald0 (pc := 0) dJ14_containsKey_0 ?_
  refine gs_ald1 (pc := 1) dJ14_containsKey_1 ?_
  refine gs_V1 (pc := 2) dJ14_containsKey_2 kJ14_158 e1 clJ14 (by decide) (Nat.le_of_ble_eq_true rfl) (c_getNode hm' hq) (fun v hp1 hq => ?_)
  obtain ⟨rfl, rfl⟩ := hq
  cases hk : fk es k with
  | none =>
    refine gs_ifnull (pc := 5) (tgt := 12) dJ14_containsKey_5 (by decide) (fun _ => ?_) (fun _ h => by cases h)
    refine gs_iconst (pc := 12) dJ14_containsKey_12 ?_
    refine gs_zret (pc := 13) .boolean dJ14_containsKey_13 rfl rfl ?_
    exact ⟨_, rfl, rfl, rfl⟩
  | some nd =>
    refine gs_ifnull (pc := 5) (tgt := 12) dJ14_containsKey_5 (by decide) (fun h => by cases h) (fun _ _ => ?_)
    refine gs_iconst (pc := 8) dJ14_containsKey_8 ?_
    refine gs_goto (pc := 9) (tgt := 13) dJ14_containsKey_9 (by decide) ?_
    refine gs_zret (pc := 13) .boolean dJ14_containsKey_13 rfl rfl ?_
    exact ⟨_, rfl, rfl, rfl⟩
theorem c_lhmGet {kd : Bool} {m q n : Nat} {ks : Option Nat} {hd tl : Option Nat} {pm : Int} {xt : Nat → List AV} {es : List Nd} {k : Int} (hm : isHM X hp 16 17 kd m ks [vR hd, vR tl, vI 0, vI pm] xt n es) (hq : isKey X hp kd q k) : MV X yJ25_get fJ25_get 5 [vR (some m), vR (some q)] hp (fun v hp' => v = vR ((fk es k).map (fun nd => nd.2.2.2)) ∧ hp = hp') := by
  have hm' := hm
  obtain ⟨h1, h2, h3, vs, tb, eset, mc, th, lf, e1, e2⟩ := hm
  refine MC.of pfJ25_get rfl (fun h => by cases h) 1 rfl rfl ?_
  refine gs_ald0 (pc := 0) dJ25_get_0 ?_
  refine gs_ald1 (pc := 1) dJ25_get_1 ?_
  refine gs_U1 (pc := 2) dJ25_get_2 kJ25_99_J25 e1 clJ25 (by decide) (Nat.le_of_ble_eq_true rfl) (c_getNodeL hm' hq) (fun v hp1 hq => ?_)
  obtain ⟨rfl, rfl⟩ := hq
  refine gs_dup (pc := 5) dJ25_get_5 rfl ?_
  refine gs_ast2 (pc := 6) dJ25_get_6 rfl ?_
  cases hk : fk es k with
  | none =>
    refine gs_ifnonnull (pc := 7) (tgt := 12) dJ25_get_7 (by decide) (fun _ h => by cases h) (fun _ => ?_)
    refine gs_null (pc := 10) dJ25_get_10 ?_
    refine gs_aret (pc := 11) dJ25_get_11 rfl (Or.inl ⟨_, rfl⟩) ?_
    exact ⟨_, rfl, rfl, rfl⟩
  | some nd =>
    obtain ⟨nxt, hg⟩ := hm'.cell (fk_mem hk).1
    refine gs_ifnonnull (pc := 7) (tgt := 12) dJ25_get_7 (by decide) (fun _ _ => ?_) (fun h => by cases h)
    refine gs_ald0 (pc := 12) dJ25_get_12 ?_
    refine gs_getf (pc := 13) 10 dJ25_get_13 e1 clJ25 in_J25 (by decide) q1952 (Or.inl rfl) rfl ?_
    refine gs_if_eq (pc := 16) (tgt := 24) dJ25_get_16 (by decide) (by omega) (fun _ => ?_) (fun hn => absurd rfl hn)
    refine gs_ald2 (pc := 24) dJ25_get_24 ?_
    refine gs_getf (pc := 25) 2 dJ25_get_25 hg clJ22 in_J22 (by decide) q1281 (Or.inl rfl) rfl ?_
    refine gs_aret (pc := 28) dJ25_get_28 rfl (Or.inl ⟨_, rfl⟩) ?_
    exact ⟨_, rfl, rfl, rfl⟩
end HM2b
