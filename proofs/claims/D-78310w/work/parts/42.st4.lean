/-! THE START, part 4: the context of the run, put together. -/
section ST4
variable {s : State}
/-- the constant cells, by kind -/
def st_R (kC kE b L : Nat) (xs : Nat → Int32) (sk : Nat → Nat × Nat × Int32 × Int32) (ad K : Nat → Nat) (n a : Nat) (c : gCe) : Prop := match n with
  | 0 => a = kC ∧ c = .inl (7, 256, .inr (fun i => some (K (100 + i.toNat))))
  | 1 => a = kE ∧ c = .inl (3, 0, .inr (fun _ => none))
  | 2 => a = b ∧ c = .inl (8, L, .inl (fun j => (xs j.toNat).toInt))
  | 3 => ∃ k, k < 19 ∧ a = (sk k).2.1 ∧ c = .inl (2, (skS k).length, .inl (fun j => (skS k).getD j.toNat 0))
  | 4 => ∃ k, k < 19 ∧ a = (sk k).1 ∧ c = .inr (11, [vR (some (sk k).2.1), vI 0, vI (sk k).2.2.1.toInt, vI (sk k).2.2.2.toInt])
  | _ => ∃ j, j < 256 ∧ a = ad j ∧ c = .inr (14, [vI (vb_c j).toInt])
theorem st_sr : ∀ (k : Nat) (q : String × Nat × String), skT[k]? = some q → Cond.stringRef q.1 q.2.1 q.2.2 ∈ lw_tbl := by
  intro k q hq
  match k, hq with
  | 0, hq => cases hq; exact q268
  | 1, hq => cases hq; exact q635
  | 2, hq => cases hq; exact q1646
  | 3, hq => cases hq; exact q2187
  | 4, hq => cases hq; exact q2188
  | 5, hq => cases hq; exact q2189
  | 6, hq => cases hq; exact q2190
  | 7, hq => cases hq; exact q2191
  | 8, hq => cases hq; exact q2192
  | 9, hq => cases hq; exact q2193
  | 10, hq => cases hq; exact q2194
  | 11, hq => cases hq; exact q2195
  | 12, hq => cases hq; exact q2196
  | 13, hq => cases hq; exact q2197
  | 14, hq => cases hq; exact q2198
  | 15, hq => cases hq; exact q2199
  | 16, hq => cases hq; exact q2200
  | 17, hq => cases hq; exact q2201
  | 18, hq => cases hq; exact q2202
  | k + 19, hq => exact absurd hq (by simp [skT])
set_option maxHeartbeats 2000000 in
theorem st_X (l : Launch) {b L : Nat} {xs : Nat → Int32} (hts : ∀ w ∈ lw_tbl, w.before #[Value.ref b] s = true) (hX : va_X b L xs s s.heap) (hL : L ≤ 384) (hgv : (Jvm.Cond.and given_1 narrow_1).before #[Value.ref b] s = true) : ∃ X : gCx, cxL X = l ∧ cxH X = s.heap ∧ Fx X s ∧ KX X ∧ (∀ hp, gl X hp b = some (0, .inl (8, L, .inl (fun j => (xs j.toNat).toInt)))) ∧ Rp X (0, 0, fun _ => none) s.heap := by
  have hs := flat_of_before _ hgv
  obtain ⟨D, hD⟩ := st_D hts
  obtain ⟨A, hA⟩ := st_A hts
  obtain ⟨kE, hkE, cE, eE1, eE2, eE3, eE4, eE5, -, -⟩ := va_Tof (args := #[Value.ref b]) (s := s) (tm := Term.static "java/util/ArrayList" "DEFAULTCAPACITY_EMPTY_ELEMENTDATA" "[Ljava/lang/Object;") (ty := .object "java/lang/Object") (N := 0) (f := fun _ => .null) (A := fun _ => False) (by omega) (hs _ (by decide +kernel)) (va_eqt (hs _ (by decide +kernel))) (fun j hj => absurd hj (by omega)) (fun _ _ h => h)
  obtain ⟨kE', cc, cE', kk, x1, x2, x3, x4, x5, x6, -⟩ := Cond.exactly_spec (args := #[Value.ref b]) (first := s) (o := none) (s := s) (idx := []) (t := Term.static "java/util/ArrayList" "DEFAULTCAPACITY_EMPTY_ELEMENTDATA" "[Ljava/lang/Object;") (cls := "[Ljava/lang/Object;") (hs _ (by decide +kernel))
  rw [hkE] at x1
  cases x1
  rw [eE1] at x3
  cases x3
  obtain ⟨ad, hC, hel⟩ := vb_Cof (args := #[Value.ref b]) (s := s) (st := Term.static "java/lang/Integer$IntegerCache" "cache" "[Ljava/lang/Integer;") (A := fun _ => False) rfl (va_eqt (hs _ (by decide +kernel))) (hs _ (by decide +kernel)) (fun _ _ h => h)
  obtain ⟨kC, hkC, cC, eC1, eC2, eC3, eC4, eC5, eC6, -⟩ := va_Tof (args := #[Value.ref b]) (s := s) (tm := Term.static "java/lang/Integer$IntegerCache" "cache" "[Ljava/lang/Integer;") (ty := .object "java/lang/Integer") (N := 256) (f := fun j => .ref (ad j)) (A := fun _ => False) (by omega) (hs _ (by decide +kernel)) (va_eqt (hs _ (by decide +kernel))) (fun j hj => hel j hj) (fun _ _ h => h)
  obtain ⟨kP, _, _, _, hkP, _, _, _, _, _, _⟩ := Cond.exactly_spec (args := #[Value.ref b]) (first := s) (o := none) (s := s) (idx := []) (t := Term.static "java/util/HashSet" "PRESENT" "Ljava/lang/Object;") (cls := "java/lang/Object") (hs _ (by decide +kernel))
  obtain ⟨oV, hoV⟩ : ∃ o : Option Nat, (Term.static "jdk/internal/util/Preconditions" "SIOOBE_FORMATTER" "Ljava/util/function/BiFunction;").eval #[Value.ref b] s none [] s = some (va_rf o) := by
    obtain ⟨v, hv, hr⟩ := Cond.isRef_spec (args := #[Value.ref b]) (first := s) (o := none) (s := s) (idx := []) (t := Term.static "jdk/internal/util/Preconditions" "SIOOBE_FORMATTER" "Ljava/util/function/BiFunction;") (hs _ (by decide +kernel))
    cases v with
    | ref a => exact ⟨some a, hv⟩
    | null => exact ⟨none, hv⟩
    | _ => cases hr
  obtain ⟨mi, hmi⟩ := va_Mi.of (args := #[Value.ref b]) (s := s) (C := "[Ljava/lang/Object;") (hs _ (by decide +kernel))
  have hK := st_K hs
  have h0 : ∀ k : Nat, ∃ q : Nat × Nat × Int32 × Int32, k < 19 → (Term.string (skT.getD k ("", 0, "")).1 (skT.getD k ("", 0, "")).2.1).eval #[Value.ref b] s none [] s = some (.ref q.1) ∧ StrAt s q.1 q.2.1 q.2.2.1 q.2.2.2 (skS k) := by
    intro k
    by_cases hk : k < 19
    · obtain ⟨a, v, h, z, e1, e2⟩ := hK k hk
      exact ⟨(a, v, h, z), fun _ => ⟨e1, e2⟩⟩
    · exact ⟨(0, 0, 0, 0), fun h => absurd h hk⟩
  obtain ⟨sk, hsk⟩ := Classical.axiomOfChoice h0
  obtain ⟨scr, eS1, eS2, eS3, eS4, eS5⟩ := hX
  have hS11 : ClassAt s "java/lang/String" (D.1 11) := (hD 11 _ rfl).2
  have hS14 : ClassAt s "java/lang/Integer" (D.1 14) := (hD 14 _ rfl).2
  have hbox : ∀ j, j < 256 → ∃ cell : Cell, s.heap[ad j]? = some cell ∧ s.vm.findClass "java/lang/Integer" = some cell.cls ∧ cell.vm.isStatics = false ∧ cell.vm ≠ .unknown ∧ cell.slots[D.2 14 0]? = some (.int (vb_c j)) := by
    intro j hj
    obtain ⟨cell, g1, g2, g3, -⟩ := hC.1 j hj
    obtain ⟨cf, k, i, f, cell', f1, f2, f3, f4, f5, -⟩ := hC.2 j hj
    rw [g1] at f3
    cases f3
    exact ⟨cell, g1, g3, g2, f4, slotv_at ⟨cf, k, i, f, f1, f5⟩ ((hD 14 _ rfl).1 0 (by decide))⟩
  obtain ⟨K, hK0, hK1, hK2, hK3, hKs, hKb⟩ : ∃ K : Nat → Nat, K 0 = kE ∧ K 1 = kP ∧ K 2 = kC ∧ K 3 = mi ∧ (∀ k, k < 19 → K (10 + k) = (sk k).1) ∧ ∀ j, K (100 + j) = ad j := by
    refine ⟨fun i => if i = 0 then kE else if i = 1 then kP else if i = 2 then kC else if i = 3 then mi else if i < 29 then (sk (i - 10)).1 else ad (i - 100), rfl, rfl, rfl, rfl, fun k hk => ?_, fun j => ?_⟩
    · dsimp only
      rw [if_neg (by omega), if_neg (by omega), if_neg (by omega), if_neg (by omega), if_pos (by omega), show 10 + k - 10 = k by omega]
    · dsimp only
      rw [if_neg (by omega), if_neg (by omega), if_neg (by omega), if_neg (by omega), if_neg (by omega), show 100 + j - 100 = j by omega]
  have hRx : ∃ F : Nat → Option gCe, (∀ a c, F a = some c ↔ ∃ n, n < 6 ∧ st_R kC kE b L xs sk ad K n a c) := by
    have huq : ∀ a c c', (∃ n, n < 6 ∧ st_R kC kE b L xs sk ad K n a c) → (∃ n, n < 6 ∧ st_R kC kE b L xs sk ad K n a c') → c = c' := by
      have htg : ∀ n a c, n < 6 → st_R kC kE b L xs sk ad K n a c → ∃ cell, s.heap[a]? = some cell ∧ tgd s n cell := by
        intro n a c hn h
        match n, hn, h with
        | 0, _, h => exact ⟨cC, by rw [h.1]; exact eC1, eC2⟩
        | 1, _, h => exact ⟨cE, by rw [h.1]; exact eE1, eE2⟩
        | 2, _, h => exact ⟨scr, by rw [h.1]; exact eS1, eS2⟩
        | 3, _, ⟨k, hk, h1, _⟩ =>
          obtain ⟨-, vc, g1, -, g2, -⟩ := (hsk k hk).2
          exact ⟨vc, by rw [h1]; exact g1, g2⟩
        | 4, _, ⟨k, hk, h1, _⟩ =>
          obtain ⟨⟨vc, g1, g2, -⟩, -⟩ := (hsk k hk).2
          exact ⟨vc, by rw [h1]; exact g1, g2⟩
        | 5, _, ⟨j, hj, h1, _⟩ =>
          obtain ⟨vc, g1, g2, -⟩ := hbox j hj
          exact ⟨vc, by rw [h1]; exact g1, g2⟩
      rintro a c c' ⟨n, hn, h⟩ ⟨n', hn', h'⟩
      obtain ⟨cell, g1, g2⟩ := htg n a c hn h
      obtain ⟨cell', g1', g2'⟩ := htg n' a c' hn' h'
      rw [g1] at g1'
      cases g1'
      have := tgd_uniq hn hn' hS11 hS14 g2 g2'
      subst this
      match n, hn, h, h' with
      | 0, _, h, h' => exact h.2.trans h'.2.symm
      | 1, _, h, h' => exact h.2.trans h'.2.symm
      | 2, _, h, h' => exact h.2.trans h'.2.symm
      | 3, _, ⟨k, hk, h1, h2⟩, ⟨k', hk', h1', h2'⟩ =>
        have e1 := (hsk k hk).2
        have e2 := (hsk k' hk').2
        rw [← h1] at e1
        rw [← h1'] at e2
        have := e1.bytes e2 (skS_ok k hk).1 (skS_ok k' hk').1 (skS_ok k hk).2 (skS_ok k' hk').2
        rw [h2, h2', this]
      | 4, _, ⟨k, hk, h1, h2⟩, ⟨k', hk', h1', h2'⟩ =>
        have e1 := (hsk k hk).2
        have e2 := (hsk k' hk').2
        rw [← h1] at e1
        rw [← h1'] at e2
        have q1 := e1.value e2
        have q2 := e1.hz e2
        rw [h2, h2', q1, q2.1, q2.2]
      | 5, _, ⟨j, hj, h1, h2⟩, ⟨j', hj', h1', h2'⟩ =>
        obtain ⟨c1, f1, -, -, -, f2⟩ := hbox j hj
        obtain ⟨c2, f1', -, -, -, f2'⟩ := hbox j' hj'
        rw [← h1] at f1
        rw [← h1', f1] at f1'
        cases f1'
        rw [f2] at f2'
        rw [h2, h2', Value.int.inj (Option.some.inj f2')]
    have h1 : ∀ a, ∃ o : Option gCe, ∀ c, o = some c ↔ ∃ n, n < 6 ∧ st_R kC kE b L xs sk ad K n a c := by
      intro a
      by_cases h : ∃ c, ∃ n, n < 6 ∧ st_R kC kE b L xs sk ad K n a c
      · obtain ⟨c, hc⟩ := h
        exact ⟨some c, fun c' => ⟨fun e => by cases e; exact hc, fun hc' => by rw [huq a c c' hc hc']⟩⟩
      · exact ⟨none, fun c => ⟨fun e => (by cases e), fun hc => absurd ⟨c, hc⟩ h⟩⟩
    obtain ⟨F, hF⟩ := Classical.axiomOfChoice h1
    exact ⟨F, hF⟩
  obtain ⟨F, hF⟩ := hRx
  obtain ⟨A', hA1, hA2, hA3⟩ : ∃ A' : Nat → ClassId, (∀ t, t < 7 → A' t = A t) ∧ A' 7 = cC.cls ∧ A' 8 = scr.cls := ⟨fun t => if t < 7 then A t else if t = 7 then cC.cls else scr.cls, fun t ht => if_pos ht, rfl, rfl⟩
  have hlt : ∀ {a : Nat} {c : Cell}, s.heap[a]? = some c → a < s.heap.size := fun h => (Array.getElem?_eq_some_iff.mp h).1
  have hgl : ∀ hp a n c, n < 6 → st_R kC kE b L xs sk ad K n a c → a < s.heap.size → gl (l, D, A', s.heap, F, K, oV) hp a = some (0, c) := by
    intro hp a n c hn h ha
    have := (hF a c).mpr ⟨n, hn, h⟩
    unfold gl
    rw [if_pos (show a < cxz (l, D, A', s.heap, F, K, oV) from ha)]
    show (F a).map _ = _
    rw [this]
    rfl
  have hz : ∀ a : Nat, a < s.heap.size → ¬ (cxz (l, D, A', s.heap, F, K, oV) ≤ a) := fun a ha h => by
    have : cxz (l, D, A', s.heap, F, K, oV) = s.heap.size := rfl
    omega
  refine ⟨(l, D, A', s.heap, F, K, oV), rfl, rfl, ⟨hD, ⟨fun t ht => ?_, fun t ht => ?_⟩, st_N hts, st_F hts, ⟨va_Nc.of (hs _ (by decide +kernel)), va_Nc.of (hs _ (by decide +kernel))⟩, fun k hk => ?_, fun k q hq => ?_, ?_⟩, ⟨fun hp => ?_, fun hp => ?_, fun hp j hj => ?_, fun hp k hk => ?_, trivial, ?_⟩, fun hp => hgl hp b 2 _ (by omega) ⟨rfl, rfl⟩ (hlt eS1), rfl, fun a ha => rfl, fun a c hc => ?_⟩
  · show ArrOfT s (A' t) (arT t)
    rcases (by omega : t < 7 ∨ t = 7 ∨ t = 8) with h | rfl | rfl
    · rw [hA1 t h]; exact (hA t h).1
    · rw [hA2]; exact arr_of eC2
    · rw [hA3]; exact arr_of eS2
  · show va_RA s (A' t) (arT t)
    rw [hA1 t ht]; exact (hA t ht).2
  · rcases (by omega : k = 0 ∨ k = 1 ∨ k = 2 ∨ k = 3 ∨ k = 4 ∨ k = 5) with rfl | rfl | rfl | rfl | rfl | rfl
    · exact va_Zof (hts _ q303) (hts _ (lw_all_tbl q105)) (va_eqt (z := 1) (hs _ (by decide +kernel))) hz
    · refine va_Zof (hts _ q167) (hts _ (lw_all_tbl q100)) ?_ hz
      show _ = some (Value.ref (K 0))
      rw [hK0]; exact hkE
    · exact va_Zof (hts _ q855) (hts _ (lw_all_tbl q123)) (va_eqt (z := 127) (hs _ (by decide +kernel))) hz
    · refine va_Zof (hts _ q857) (hts _ (lw_all_tbl q123)) ?_ hz
      show _ = some (Value.ref (K 2))
      rw [hK2]; exact hkC
    · refine va_Zof (hts _ q1425) (hts _ (lw_all_tbl q120)) ?_ hz
      show _ = some (Value.ref (K 1))
      rw [hK1]; exact hkP
    · exact va_Zof (hts _ q394) (hts _ (lw_all_tbl q112)) hoV hz
  · have hk : k < 19 := (List.getElem?_eq_some_iff.mp hq).1
    have e1 := (hsk k hk).1
    rw [show skT.getD k ("", 0, "") = q by rw [List.getD_eq_getElem?_getD, hq]; rfl] at e1
    show vk_R _ _ _ (K (10 + k)) s
    rw [hKs k hk]
    refine vk_R.of (A := #[Value.ref b]) (hts _ ?_) e1
    exact st_sr k q hq
  · show va_Mi _ (K 3) s
    rw [hK3]; exact hmi
  · refine hgl hp _ 1 _ (by omega) ⟨hK0, rfl⟩ ?_
    show K 0 < _
    rw [hK0]; exact hlt eE1
  · refine hgl hp _ 0 _ (by omega) ⟨hK2, rfl⟩ ?_
    show K 2 < _
    rw [hK2]; exact hlt eC1
  · obtain ⟨c1, f1, -, -, -, f2⟩ := hbox j hj
    have hv : (vb_c j).toInt = (j : Int) - 128 := by
      unfold vb_c
      have := pk_sub_toInt (a := j) (b := 128) (by omega) (by omega)
      exact this
    refine hgl hp _ 5 _ (by omega) ⟨j, hj, hKb j, by rw [hv]⟩ ?_
    show K (100 + j) < _
    rw [hKb]; exact hlt f1
  · have hst := (hsk k hk).2
    obtain ⟨⟨c1, f1, -⟩, c2, f2, -⟩ := hst
    refine ⟨(skS_ok k hk).1, (skS_ok k hk).2, 0, (sk k).2.1, (sk k).2.2.1.toInt, (sk k).2.2.2.toInt, by omega, hgl hp _ 4 _ (by omega) ⟨k, hk, hKs k hk, rfl⟩ ?_, 0, _, by omega, hgl hp _ 3 _ (by omega) ⟨k, hk, rfl, rfl⟩ (hlt f2), fun i hi => rfl⟩
    show K (10 + k) < _
    rw [hKs k hk]; exact hlt f1
  · show 0 < s.heap.size
    have := hlt eS1
    omega
  · have hcl : ∃ n, n < 6 ∧ st_R kC kE b L xs sk ad K n a c.2 := by
      unfold gl at hc
      by_cases ha : a < cxz (l, D, A', s.heap, F, K, oV)
      · rw [if_pos ha] at hc
        refine (hF a c.2).mp ?_
        have hc : (F a).map (fun e => ((0 : Nat), e)) = some c := hc
        cases hFa : F a with
        | none => rw [hFa] at hc; cases hc
        | some x => rw [hFa] at hc; cases hc; rfl
      · rw [if_neg ha] at hc
        by_cases ha2 : a < nx (l, D, A', s.heap, F, K, oV) (0, 0, fun _ => none)
        · rw [if_pos ha2] at hc; cases hc
        · rw [if_neg ha2] at hc; cases hc
    obtain ⟨n, hn, hR⟩ := hcl
    generalize c.2 = cc at hR
    have hvac : ∀ {c' : Cell} {P : Prop}, s.heap[a]? = some c' → cxz (l, D, A', s.heap, F, K, oV) ≤ a → P := fun h1 h2 => absurd h2 (hz a (hlt h1))
    rcases (by omega : n = 0 ∨ n = 1 ∨ n = 2 ∨ n = 3 ∨ n = 4 ∨ n = 5) with rfl | rfl | rfl | rfl | rfl | rfl
    · obtain ⟨rfl, rfl⟩ := hR
      exact ⟨(by decide : (7 : Nat) < 9), cC, eC1, hA2.symm, isSt_of eC2.1, eC3, eC4, eC5, fun j hj => by rw [eC6 j hj]; show _ = some (Value.ref (K (100 + j))); rw [hKb], hvac eC1⟩
    · obtain ⟨rfl, rfl⟩ := hR
      refine ⟨(by decide : (3 : Nat) < 9), cE, eE1, ?_, isSt_of eE2.1, eE3, eE4, eE5, fun j hj => absurd hj (by show ¬ j < 0; omega), hvac eE1⟩
      show cE.cls = A' 3
      rw [hA1 3 (by omega)]
      have h3 := va_nmO (hA 3 (by omega)).2 (C := "java/lang/Object") (nm := "[Ljava/lang/Object;") rfl
      rw [x2] at h3
      exact x6.trans (Option.some.inj h3)
    · obtain ⟨rfl, rfl⟩ := hR
      refine ⟨(by decide : (8 : Nat) < 9), scr, eS1, hA3.symm, isSt_of eS2.1, eS3, Nat.le_of_eq eS4.symm, by rw [eS4], fun j hj => ?_, hvac eS1⟩
      rw [eS5 j hj]
      show _ = some (Value.int (Int32.ofInt ((xs ((j : Int).toNat)).toInt)))
      rw [Int.toNat_natCast, Int32.ofInt_toInt]
    · obtain ⟨k, hk, rfl, rfl⟩ := hR
      obtain ⟨-, vc, g1, g2, g3, g4, g5, g6, g7, g8⟩ := (hsk k hk).2
      refine ⟨(by decide : (2 : Nat) < 9), vc, g1, ?_, g4, g5, g6, g7, fun j hj => by rw [g8 j hj]; rfl, hvac g1⟩
      show vc.cls = A' 2
      rw [hA1 2 (by omega)]
      have h3 := va_nm_byte (hA 2 (by omega)).2
      rw [g2] at h3
      exact Option.some.inj h3
    · obtain ⟨k, hk, rfl, rfl⟩ := hR
      obtain ⟨⟨vc, g1, g2, g3, g4, g5, g6, g7, g8⟩, -⟩ := (hsk k hk).2
      have hsl := (hD 11 _ rfl).1
      refine ⟨_, vc, rfl, g1, ?_, g3, g4, fun i hi => ?_, hvac g1⟩
      · show vc.cls = D.1 11
        have h3 := hS11.1
        rw [g2] at h3
        exact Option.some.inj h3
      · have hi : i < 4 := hi
        rcases (by omega : i = 0 ∨ i = 1 ∨ i = 2 ∨ i = 3) with rfl | rfl | rfl | rfl
        · exact slotv_at g5 (hsl 0 (by decide))
        · exact slotv_at g6 (hsl 1 (by decide))
        · refine (slotv_at g7 (hsl 2 (by decide))).trans ?_
          show _ = some (Value.int (Int32.ofInt _))
          rw [Int32.ofInt_toInt]
        · refine (slotv_at g8 (hsl 3 (by decide))).trans ?_
          show _ = some (Value.int (Int32.ofInt _))
          rw [Int32.ofInt_toInt]
    · obtain ⟨j, hj, rfl, rfl⟩ := hR
      obtain ⟨vc, g1, g2, g3, g4, g5⟩ := hbox j hj
      refine ⟨_, vc, rfl, g1, ?_, g3, g4, fun i hi => ?_, hvac g1⟩
      · show vc.cls = D.1 14
        have h3 := hS14.1
        rw [g2] at h3
        exact Option.some.inj h3
      · have hi : i < 1 := hi
        obtain rfl : i = 0 := by omega
        refine g5.trans ?_
        show _ = some (Value.int (Int32.ofInt _))
        rw [Int32.ofInt_toInt]
end ST4
