/-! THE START, part 5: from a walk of the law's body in the G layer to the machine. -/
section ST5
theorem st_new {s t : State} {locs : List Loc} {k n k' n' : Nat} (h : s.sameButNew t locs k n) (hl : ∀ q ∈ locs, s.heap.size ≤ q.base) (hk : k ≤ k') (hn : n ≤ n') : s.sameButNew t [] k' n' := by
  obtain ⟨h1, h2, h3, h4, h5, h6⟩ := h
  refine ⟨h1, h2, by omega, h4, by omega, fun a c hc => ?_⟩
  obtain ⟨c', e1, e2, e3, e4⟩ := h6 a c hc
  refine ⟨c', e1, e2, e3, fun i _ => e4 i (fun hm => ?_)⟩
  have h7 := hl _ hm
  have h8 : a < s.heap.size := (Array.getElem?_eq_some_iff.mp hc).1
  exact absurd h8 (Nat.not_lt.mpr h7)
theorem st_go {p : Program} {e : Env} {s : State} {m : MethodId} {below : List Frame} {meth : Method} {c : Code} (l : Launch) {b L : Nat} {xs : Nat → Int32} (hL : L ≤ 384) (c1 : p.tables.exec = Jvm.exec) (c2 : c.code = code) (c3 : meth.sig.returnType = ret) (c4 : c.maxLocals = 4) (c5 : s.vm.findClass "AutoIndenterLaw" = some m.cls) (c6 : ∀ w ∈ lw_tbl, w.before #[Value.ref b] s = true) (c7 : va_X b L xs s s.heap) (c9 : meth.locks = false) (c10 : (Jvm.Cond.and given_1 narrow_1).before #[Value.ref b] s = true)
    (HG : ∀ X : gCx, KX X → (∀ hp, gl X hp b = some (0, .inl (8, L, .inl (fun j => (xs j.toNat).toInt)))) → G X fL_law 1000 0 [some (vR (some b)), none, none, none] [] (0, 0, fun _ => none) (fun r hp' => r = some (vI 1) ∧ hp'.1 ≤ 835053 ∧ hp'.2.1 ≤ 6597090)) :
    W p l e room_1 s m #[Value.ref b] below meth c s.heap [] 0 0 (fun t => ∃ o, t.status = .running ∧ Ended t below o ∧ (o = .returned (some (.int 1)) ∧ Framed s o t [] 835053 6597090)) (entryFrame m ([Value.ref b] : List Value).toArray 4) := by
  obtain ⟨X, x1, x2, x3, x4, x5, x6⟩ := st_X l c6 c7 hL c10
  obtain ⟨r, hp', ⟨rfl, q1, q2⟩, g1, g2, g3⟩ := HG X x4 x5
  have hlen : (lg_sl (([vR (some b)] : List AV).map cv)).length ≤ 4 := by rw [gEnt_sl]; exact Nat.le_of_ble_eq_true rfl
  have hl := lv_entry (([vR (some b)] : List AV).map cv) (n := 4) hlen
  rw [show ([Value.ref b] : List Value) = ([vR (some b)] : List AV).map cv from rfl, lg_entry_eq]
  generalize (lg_sl (([vR (some b)] : List AV).map cv) ++ List.replicate (4 - (lg_sl (([vR (some b)] : List AV).map cv)).length) Slot.unset).toArray = ls at hl ⊢
  have hlk : lok ls fL_law.2.2.1 [some (vR (some b)), none, none, none] := by
    refine ⟨hl.1, hl.2.1, Nat.le_refl _, fun i v hi => ?_⟩
    match i, hi with
    | 0, hi => cases hi; exact hl.2.2 (0, _) List.mem_cons_self
    | 1, hi => cases hi
    | 2, hi => cases hi
    | 3, hi => cases hi
    | i + 4, hi => simp at hi
  have hg := g3 p e room_1 s m #[Value.ref b] below meth c s.heap [] 0 0 ls ⟨c1, c2, c4, c3, c9, c5, fun w hw => c6 w (lw_all_tbl hw), x3, by decide, by decide, fun h => by cases h⟩ x6 (fun q h => by cases h) (by show 0 + (hp'.1 - 0) ≤ 835053; omega) (by show 0 + (hp'.2.1 - 0) ≤ 6597090; omega) hlk
  rw [x1] at hg
  intro T hT Y
  obtain ⟨t, a1, o, b1, b2, ⟨b3, -, -⟩, Lc, ⟨d1, d2, d3⟩, b5⟩ := hg T hT Y
  refine ⟨t, a1, o, b1, b2, b3, d1, d2, st_new d3 (fun q hq => ?_) (by show 0 + (hp'.1 - 0) ≤ _; omega) (by show 0 + (hp'.2.1 - 0) ≤ _; omega)⟩
  have := b5 q hq
  unfold cxz at this
  rw [x2] at this
  exact this
end ST5
