/-! CONTRACTS: HashMap, part 7: putVal, put. -/
section HM7
variable {X : gCx} {hp : gHp}
theorem pig : ∀ (b : Nat) {L : List Nat}, L.Nodup → (∀ x ∈ L, x < b) → L.length ≤ b := by
  intro b
  induction b with
  | zero =>
    intro L _ h
    cases L with
    | nil => exact Nat.le_refl _
    | cons x L => exact absurd (h x List.mem_cons_self) (by omega)
  | succ b ih =>
    intro L hn h
    by_cases hb : b ∈ L
    · have h1 := ih (hn.erase b) (fun x hx => by
        have h2 := (List.Nodup.mem_erase_iff hn).mp hx
        have := h x h2.2
        omega)
      rw [List.length_erase_of_mem hb] at h1
      omega
    · have := ih hn (fun x hx => by
        have h1 := h x hx
        have : x ≠ b := fun h => hb (h ▸ hx)
        omega)
      omega
theorem bin_nd {n i : Nat} : ∀ {L : List Nd}, (L.map (fun nd => nd.2.1)).Nodup → (∀ nd ∈ L, 0 ≤ nd.2.1 ∧ nd.2.1.toNat % n = i) → (L.map (fun nd => nd.2.1.toNat / n)).Nodup := by
  intro L
  induction L with
  | nil => intro _ _; exact List.Pairwise.nil
  | cons x L ih =>
    intro h1 h2
    rw [List.map_cons, List.nodup_cons] at h1 ⊢
    refine ⟨fun hm => h1.1 ?_, ih h1.2 (fun nd hx => h2 nd (List.mem_cons_of_mem _ hx))⟩
    obtain ⟨y, hy, he⟩ := List.mem_map.mp hm
    refine List.mem_map.mpr ⟨y, hy, ?_⟩
    have a1 := h2 x List.mem_cons_self
    have a2 := h2 y (List.mem_cons_of_mem _ hy)
    have b1 := Nat.mod_add_div x.2.1.toNat n
    have b2 := Nat.mod_add_div y.2.1.toNat n
    have he : y.2.1.toNat / n = x.2.1.toNat / n := he
    rw [he] at b2
    have : x.2.1.toNat = y.2.1.toNat := by omega
    omega
theorem bin_len {n i : Nat} {es : List Nd} (hn : 0 < n) (h1 : (es.map (fun nd => nd.2.1)).Nodup) (h2 : ∀ nd ∈ es, 0 ≤ nd.2.1 ∧ nd.2.1 < 7 * (n : Int)) : (rs n es i).length ≤ 7 := by
  have h3 : ((rs n es i).map (fun nd => nd.2.1)).Nodup := h1.sublist ((List.filter_sublist).map _)
  have h4 := bin_nd (n := n) (i := i) h3 (fun nd hx => ⟨(h2 nd (mem_rs hx).1).1, (mem_rs hx).2⟩)
  have h5 := pig 7 h4 (fun x hx => by
    obtain ⟨y, hy, rfl⟩ := List.mem_map.mp hx
    have := h2 y (mem_rs hy).1
    exact Nat.div_lt_of_lt_mul (by omega))
  rwa [List.length_map] at h5
theorem rs_snoc {n i : Nat} {es : List Nd} {nd : Nd} : rs n (es ++ [nd]) i = rs n es i ++ (if nd.2.1.toNat % n = i then [nd] else []) := by
  unfold rs
  rw [List.filter_append, List.filter_cons, List.filter_nil]
  by_cases h : nd.2.1.toNat % n = i
  · simp [h]
  · simp [h]
def putE (es : List Nd) (k : Int) (q w a : Nat) : List Nd := if (fk es k).isSome then es.map (fun x => if x.2.1 = k then (x.1, x.2.1, x.2.2.1, w) else x) else es ++ [(a, k, q, w)]
theorem nodup_snoc {α : Type} {L : List α} {x : α} (h : L.Nodup) (hx : x ∉ L) : (L ++ [x]).Nodup := by
  rw [List.nodup_append]
  exact ⟨h, by simp, fun a ha b hb => by rw [List.mem_singleton.mp hb]; intro h; exact hx (h ▸ ha)⟩
theorem fk_none {es : List Nd} {k : Int} (h : fk es k = none) : ∀ nd ∈ es, nd.2.1 ≠ k := by
  intro nd hm he
  unfold fk at h
  have := List.find?_eq_none.mp h nd hm
  simp [he] at this
theorem hmR_linkE {m n ta : Nat} {ks : Option Nat} {ext : List AV} {xt : Nat → List AV} {es : List Nd} {sz : Int} {t : Int → Option Nat} {nd : Nd} (hm : hmR X hp 12 15 m ks ext xt n es sz (some ta)) (hc : gl X hp nd.1 = some (m + 2, ndC 15 nd.2.1 nd.2.2.1 nd.2.2.2 none (xt nd.1))) (hf : ∀ x ∈ es, x.1 ≠ nd.1) (hr : 0 ≤ nd.2.1 ∧ nd.2.1 < 65536) (ht : gl X hp ta = some (m + 2, .inl (4, n, .inr t))) (hb : rs n es (nd.2.1.toNat % n) = []) : hmR X (hset hp ta (m + 2, .inl (4, n, .inr (fup t ((nd.2.1.toNat % n : Nat) : Int) (some nd.1))))) 12 15 m ks ext xt n (es ++ [nd]) sz (some ta) := by
  have hcell := fun x => hm.cell (nd := x)
  obtain ⟨h1, h2, vs, eset, mc, th, lf, e1, e2⟩ := hm
  rcases e2 with ⟨-, h, -⟩ | ⟨j, ta', t', q1, q2, q3, q4, q4c, q5, q6⟩
  · cases h
  cases q4c
  rw [ht] at q5; cases q5
  have hn := pow14 q1 ⟨q2, q3⟩
  have hmt : m ≠ ta := by intro h; rw [← h, e1] at ht; cases ht
  have hnt : nd.1 ≠ ta := by intro h; rw [← h, hc] at ht; cases ht
  have hxt : ∀ x ∈ es, x.1 ≠ ta := fun x hx h => by obtain ⟨nxt, hg⟩ := hcell x hx; rw [h, ht] at hg; cases hg
  refine ⟨?_, fun x hx => ?_, vs, eset, mc, th, lf, by rw [gl_set_ne hmt]; exact e1, Or.inr ⟨j, ta, _, q1, q2, q3, q4, rfl, gl_set_self ht (by omega), fun i hi => ?_⟩⟩
  · rw [List.map_append]
    refine nodup_snoc h1 (fun h => ?_)
    obtain ⟨x, hx, he⟩ := List.mem_map.mp h
    exact hf x hx he
  · rcases List.mem_append.mp hx with h | h
    · exact h2 x h
    · rw [List.mem_singleton.mp h]; exact hr
  · rw [rs_snoc]
    by_cases h : nd.2.1.toNat % n = i
    · subst h
      rw [if_pos rfl, hb, List.nil_append, fup_eq]
      exact ⟨rfl, none, by rw [gl_set_ne hnt]; exact hc, rfl⟩
    · rw [if_neg h, List.append_nil, fup_ne (by omega)]
      exact (q6 i hi).mono (fun x hx => gl_set_ne (hxt x (mem_rs hx).1))
theorem hmR_linkP {m n ta : Nat} {ks : Option Nat} {ext : List AV} {xt : Nat → List AV} {es A : List Nd} {sz : Int} {nd p : Nd} (hm : hmR X hp 12 15 m ks ext xt n es sz (some ta)) (hc : gl X hp nd.1 = some (m + 2, ndC 15 nd.2.1 nd.2.2.1 nd.2.2.2 none (xt nd.1))) (hf : ∀ x ∈ es, x.1 ≠ nd.1) (hr : 0 ≤ nd.2.1 ∧ nd.2.1 < 65536) (hb : rs n es (nd.2.1.toNat % n) = A ++ [p]) : gl X hp p.1 = some (m + 2, ndC 15 p.2.1 p.2.2.1 p.2.2.2 none (xt p.1)) ∧ hmR X (hset hp p.1 (m + 2, ndC 15 p.2.1 p.2.2.1 p.2.2.2 (some nd.1) (xt p.1))) 12 15 m ks ext xt n (es ++ [nd]) sz (some ta) := by
  have hcell := fun x => hm.cell (nd := x)
  obtain ⟨h1, h2, vs, eset, mc, th, lf, e1, e2⟩ := hm
  rcases e2 with ⟨-, h, -⟩ | ⟨j, ta', t', q1, q2, q3, q4, q4c, q5, q6⟩
  · cases h
  cases q4c
  have hn := pow14 q1 ⟨q2, q3⟩
  have hpm : p ∈ rs n es (nd.2.1.toNat % n) := by rw [hb]; exact List.mem_append_right _ (List.mem_singleton.mpr rfl)
  have hpe := mem_rs hpm
  have hndb : ((A ++ [p]).map (fun nd => nd.1)).Nodup := by rw [← hb]; exact nd_filter h1
  have hsg := q6 _ (Nat.mod_lt nd.2.1.toNat (by omega))
  rw [hb] at hsg
  have hcp := hsg.last
  have hmp : m ≠ p.1 := by intro h; rw [← h, e1] at hcp; cases hcp
  have htp : ta ≠ p.1 := by intro h; rw [← h, q5] at hcp; cases hcp
  refine ⟨hcp, ?_, fun x hx => ?_, vs, eset, mc, th, lf, by rw [gl_set_ne hmp]; exact e1, Or.inr ⟨j, ta, t', q1, q2, q3, q4, rfl, by rw [gl_set_ne htp]; exact q5, fun i hi => ?_⟩⟩
  · rw [List.map_append]
    refine nodup_snoc h1 (fun h => ?_)
    obtain ⟨x, hx, he⟩ := List.mem_map.mp h
    exact hf x hx he
  · rcases List.mem_append.mp hx with h | h
    · exact h2 x h
    · rw [List.mem_singleton.mp h]; exact hr
  · rw [rs_snoc]
    by_cases h : nd.2.1.toNat % n = i
    · subst h
      rw [if_pos rfl, hb]
      refine (hsg.relink (stop' := some nd.1) (by omega) (fun x hx => nd_app hndb hx (List.mem_singleton.mpr rfl))).app ⟨rfl, none, ?_, rfl⟩
      rw [gl_set_ne (Ne.symm (hf p hpe.1))]; exact hc
    · rw [if_neg h, List.append_nil]
      refine (q6 i hi).mono (fun x hx => gl_set_ne (fun he => ?_))
      have hx := mem_rs hx
      have := nd_inj h1 hx.1 hpe.1 he
      subst this
      omega
theorem isHM_toR {kd : Bool} {m n : Nat} {ks : Option Nat} {ext : List AV} {xt : Nat → List AV} {es : List Nd} (h : isHM X hp 12 15 kd m ks ext xt n es) : ∃ tb, hmR X hp 12 15 m ks ext xt n es es.length tb := by
  obtain ⟨h1, h2, h3, vs, tb, eset, mc, th, lf, e1, e2⟩ := h
  refine ⟨tb, h1, fun nd hm => (h3 nd hm).rng, vs, eset, mc, th, lf, e1, ?_⟩
  rcases e2 with e2 | ⟨j, ta, t, q1, q2, q3, q4, q4b, q4c, q5, q6⟩
  · exact Or.inl e2
  · exact Or.inr ⟨j, ta, t, q1, q2, q3, q4, q4c, q5, q6⟩
theorem hmR_linkEL {m n ta : Nat} {ks : Option Nat} {ext : List AV} {xt : Nat → List AV} {es : List Nd} {sz : Int} {t : Int → Option Nat} {nd : Nd} (hm : hmR X hp 16 17 m ks ext xt n es sz (some ta)) (hc : gl X hp nd.1 = some (m + 2, ndC 17 nd.2.1 nd.2.2.1 nd.2.2.2 none (xt nd.1))) (hf : ∀ x ∈ es, x.1 ≠ nd.1) (hr : 0 ≤ nd.2.1 ∧ nd.2.1 < 65536) (ht : gl X hp ta = some (m + 2, .inl (4, n, .inr t))) (hb : rs n es (nd.2.1.toNat % n) = []) : hmR X (hset hp ta (m + 2, .inl (4, n, .inr (fup t ((nd.2.1.toNat % n : Nat) : Int) (some nd.1))))) 16 17 m ks ext xt n (es ++ [nd]) sz (some ta) := by
  have hcell := fun x => hm.cell (nd := x)
  obtain ⟨h1, h2, vs, eset, mc, th, lf, e1, e2⟩ := hm
  rcases e2 with ⟨-, h, -⟩ | ⟨j, ta', t', q1, q2, q3, q4, q4c, q5, q6⟩
  · cases h
  cases q4c
  rw [ht] at q5; cases q5
  have hn := pow14 q1 ⟨q2, q3⟩
  have hmt : m ≠ ta := by intro h; rw [← h, e1] at ht; cases ht
  have hnt : nd.1 ≠ ta := by intro h; rw [← h, hc] at ht; cases ht
  have hxt : ∀ x ∈ es, x.1 ≠ ta := fun x hx h => by obtain ⟨nxt, hg⟩ := hcell x hx; rw [h, ht] at hg; cases hg
  refine ⟨?_, fun x hx => ?_, vs, eset, mc, th, lf, by rw [gl_set_ne hmt]; exact e1, Or.inr ⟨j, ta, _, q1, q2, q3, q4, rfl, gl_set_self ht (by omega), fun i hi => ?_⟩⟩
  · rw [List.map_append]
    refine nodup_snoc h1 (fun h => ?_)
    obtain ⟨x, hx, he⟩ := List.mem_map.mp h
    exact hf x hx he
  · rcases List.mem_append.mp hx with h | h
    · exact h2 x h
    · rw [List.mem_singleton.mp h]; exact hr
  · rw [rs_snoc]
    by_cases h : nd.2.1.toNat % n = i
    · subst h
      rw [if_pos rfl, hb, List.nil_append, fup_eq]
      exact ⟨rfl, none, by rw [gl_set_ne hnt]; exact hc, rfl⟩
    · rw [if_neg h, List.append_nil, fup_ne (by omega)]
      exact (q6 i hi).mono (fun x hx => gl_set_ne (hxt x (mem_rs hx).1))
theorem hmR_linkPL {m n ta : Nat} {ks : Option Nat} {ext : List AV} {xt : Nat → List AV} {es A : List Nd} {sz : Int} {nd p : Nd} (hm : hmR X hp 16 17 m ks ext xt n es sz (some ta)) (hc : gl X hp nd.1 = some (m + 2, ndC 17 nd.2.1 nd.2.2.1 nd.2.2.2 none (xt nd.1))) (hf : ∀ x ∈ es, x.1 ≠ nd.1) (hr : 0 ≤ nd.2.1 ∧ nd.2.1 < 65536) (hb : rs n es (nd.2.1.toNat % n) = A ++ [p]) : gl X hp p.1 = some (m + 2, ndC 17 p.2.1 p.2.2.1 p.2.2.2 none (xt p.1)) ∧ hmR X (hset hp p.1 (m + 2, ndC 17 p.2.1 p.2.2.1 p.2.2.2 (some nd.1) (xt p.1))) 16 17 m ks ext xt n (es ++ [nd]) sz (some ta) := by
  have hcell := fun x => hm.cell (nd := x)
  obtain ⟨h1, h2, vs, eset, mc, th, lf, e1, e2⟩ := hm
  rcases e2 with ⟨-, h, -⟩ | ⟨j, ta', t', q1, q2, q3, q4, q4c, q5, q6⟩
  · cases h
  cases q4c
  have hn := pow14 q1 ⟨q2, q3⟩
  have hpm : p ∈ rs n es (nd.2.1.toNat % n) := by rw [hb]; exact List.mem_append_right _ (List.mem_singleton.mpr rfl)
  have hpe := mem_rs hpm
  have hndb : ((A ++ [p]).map (fun nd => nd.1)).Nodup := by rw [← hb]; exact nd_filter h1
  have hsg := q6 _ (Nat.mod_lt nd.2.1.toNat (by omega))
  rw [hb] at hsg
  have hcp := hsg.last
  have hmp : m ≠ p.1 := by intro h; rw [← h, e1] at hcp; cases hcp
  have htp : ta ≠ p.1 := by intro h; rw [← h, q5] at hcp; cases hcp
  refine ⟨hcp, ?_, fun x hx => ?_, vs, eset, mc, th, lf, by rw [gl_set_ne hmp]; exact e1, Or.inr ⟨j, ta, t', q1, q2, q3, q4, rfl, by rw [gl_set_ne htp]; exact q5, fun i hi => ?_⟩⟩
  · rw [List.map_append]
    refine nodup_snoc h1 (fun h => ?_)
    obtain ⟨x, hx, he⟩ := List.mem_map.mp h
    exact hf x hx he
  · rcases List.mem_append.mp hx with h | h
    · exact h2 x h
    · rw [List.mem_singleton.mp h]; exact hr
  · rw [rs_snoc]
    by_cases h : nd.2.1.toNat % n = i
    · subst h
      rw [if_pos rfl, hb]
      refine (hsg.relink (stop' := some nd.1) (by omega) (fun x hx => nd_app hndb hx (List.mem_singleton.mpr rfl))).app ⟨rfl, none, ?_, rfl⟩
      rw [gl_set_ne (Ne.symm (hf p hpe.1))]; exact hc
    · rw [if_neg h, List.append_nil]
      refine (q6 i hi).mono (fun x hx => gl_set_ne (fun he => ?_))
      have hx := mem_rs hx
      have := nd_inj h1 hx.1 hpe.1 he
      subst this
      omega
theorem isHM_toRL {kd : Bool} {m n : Nat} {ks : Option Nat} {ext : List AV} {xt : Nat → List AV} {es : List Nd} (h : isHM X hp 16 17 kd m ks ext xt n es) : ∃ tb, hmR X hp 16 17 m ks ext xt n es es.length tb := by
  obtain ⟨h1, h2, h3, vs, tb, eset, mc, th, lf, e1, e2⟩ := h
  refine ⟨tb, h1, fun nd hm => (h3 nd hm).rng, vs, eset, mc, th, lf, e1, ?_⟩
  rcases e2 with e2 | ⟨j, ta, t, q1, q2, q3, q4, q4b, q4c, q5, q6⟩
  · exact Or.inl e2
  · exact Or.inr ⟨j, ta, t, q1, q2, q3, q4, q4c, q5, q6⟩
end HM7
