/-! THE COMPONENT: a text without spaces at its ends. -/
section CK
variable {X : gCx} {hp : gHp} {a : Nat} {t : List Int}
theorem c_bare (hs : isS X hp a t) (hN : isN X hp a) (hc : ∀ z ∈ t, 32 ≤ z ∧ z ≤ 126) (h32 : t.length ≤ 72) (hb : bare t ≠ []) : MV X yX0_bare fX0_bare 6 [vR (some a)] hp (fun v hp' => ∃ r, v = vR (some r) ∧ newS X hp hp' r 2 ((bare t).length + 4) (bare t)) := by
  refine MC.of pfX0_bare rfl (fun h => by cases h) 2 rfl rfl ?_
  obtain ⟨lj, bj, hj, zj, es⟩ := hs.cell
  have hll := lead_le (t := t)
  have htr := trN_rng (t := t) (lo := lead t) t.length hll
  have hbl := bare_len (t := t)
  have hpos : 0 < (bare t).length := List.length_pos_iff.mpr hb
  have hat : ∀ {k : Nat}, k < t.length → 32 ≤ t.getD k (-9) ∧ t.getD k (-9) ≤ 126 ∧ t.getD k 0 = t.getD k (-9) := by
    intro k hk
    rw [getD_in hk, getD_in hk]
    have := hc _ (List.getElem_mem hk)
    exact ⟨this.1, this.2, rfl⟩
  have k54 : G X fX0_bare 6 54 [some (vR (some a)), some (vI (lead t : Int)), some (vI (trN t (lead t) t.length : Int))] [] hp (fun r hp' => ∃ v, r = some v ∧ ∃ r, v = vR (some r) ∧ newS X hp hp' r 2 ((bare t).length + 4) (bare t)) := by
    refine gs_ald0 (pc := 54) dX0_bare_54 ?_
    refine gs_ild1 (pc := 55) dX0_bare_55 ?_
    refine gs_ild2 (pc := 56) dX0_bare_56 ?_
    refine gs_V2 (pc := 57) dX0_bare_57 kX0_168 es clJ5 (by decide) (Nat.le_of_ble_eq_true rfl) (c_sub (i := lead t) (j := trN t (lead t) t.length) hs hN (by omega) htr.2) (fun v hq hq => ?_)
    obtain ⟨r, rfl, h⟩ := hq
    refine gs_aret (pc := 60) dX0_bare_60 rfl (Or.inl ⟨_, rfl⟩) ?_
    rw [← bare_eq, ← hbl] at h
    exact ⟨_, rfl, r, rfl, h⟩
  have loop2 : ∀ n : Nat, lead t ≤ n → n ≤ t.length → trN t (lead t) t.length = trN t (lead t) n → G X fX0_bare 6 31 [some (vR (some a)), some (vI (lead t : Int)), some (vI (n : Int))] [] hp (fun r hp' => ∃ v, r = some v ∧ ∃ r, v = vR (some r) ∧ newS X hp hp' r 2 ((bare t).length + 4) (bare t)) := by
    intro n
    induction n with
    | zero =>
      intro h1 h2 h3
      rw [h3, show trN t (lead t) 0 = 0 from rfl] at k54
      refine gs_ild2 (pc := 31) dX0_bare_31 ?_
      refine gs_ild1 (pc := 32) dX0_bare_32 ?_
      refine gs_ic_le (pc := 33) (tgt := 54) dX0_bare_33 (by decide) (by omega) (fun _ => ?_) (fun hn => absurd (by omega) hn)
      exact k54
    | succ n ih =>
      intro h1 h2 h3
      obtain ⟨k1, k2, k3⟩ := hat (show n < t.length by omega)
      have hfin : ¬ (lead t < n + 1 ∧ t.getD n (-9) = 32) → G X fX0_bare 6 54 [some (vR (some a)), some (vI (lead t : Int)), some (vI ((n + 1 : Nat) : Int))] [] hp (fun r hp' => ∃ v, r = some v ∧ ∃ r, v = vR (some r) ∧ newS X hp hp' r 2 ((bare t).length + 4) (bare t)) := by
        intro hn
        have : trN t (lead t) (n + 1) = n + 1 := if_neg hn
        rw [h3, this] at k54
        exact k54
      refine gs_ild2 (pc := 31) dX0_bare_31 ?_
      refine gs_ild1 (pc := 32) dX0_bare_32 ?_
      refine gs_ic_le (pc := 33) (tgt := 54) dX0_bare_33 (by decide) (by omega) (fun h4 => ?_) (fun h4 => ?_)
      · exact hfin (by omega)
      · refine gs_ald0 (pc := 36) dX0_bare_36 ?_
        refine gs_ild2 (pc := 37) dX0_bare_37 ?_
        refine gs_iconst (pc := 38) dX0_bare_38 ?_
        refine gs_isub (pc := 39) dX0_bare_39 ?_
        rw [show ((n + 1 : Nat) : Int) - 1 = (n : Int) by omega]
        refine gs_V1 (pc := 40) dX0_bare_40 kX0_164 es clJ5 (by decide) (Nat.le_of_ble_eq_true rfl) (c_char hs (show n < t.length by omega)) (fun v hp1 hq => ?_)
        obtain ⟨rfl, rfl⟩ := hq
        rw [k3]
        refine gs_bipush (pc := 43) dX0_bare_43 rfl ?_
        refine gs_ic_ne (pc := 45) (tgt := 54) dX0_bare_45 (by decide) (by omega) (fun h5 => ?_) (fun h5 => ?_)
        · exact hfin (fun h => h5 h.2)
        · have h6 : lead t < n + 1 ∧ t.getD n (-9) = 32 := ⟨by omega, by omega⟩
          have : trN t (lead t) (n + 1) = trN t (lead t) n := if_pos h6
          refine gs_inc2 (pc := 48) dX0_bare_48 rfl ?_
          refine gs_goto (pc := 51) (tgt := 31) dX0_bare_51 (by decide) ?_
          rw [show ((n + 1 : Nat) : Int) + -1 = (n : Int) by omega]
          exact ih (by omega) (by omega) (by rw [h3, this])
  have loop1 : ∀ (r k : Nat), k + r = t.length → lead t = k + lead (t.drop k) → G X fX0_bare 6 2 [some (vR (some a)), some (vI (k : Int)), none] [] hp (fun r hp' => ∃ v, r = some v ∧ ∃ r, v = vR (some r) ∧ newS X hp hp' r 2 ((bare t).length + 4) (bare t)) := by
    intro r
    have k26 : G X fX0_bare 6 26 [some (vR (some a)), some (vI (lead t : Int)), none] [] hp (fun r hp' => ∃ v, r = some v ∧ ∃ r, v = vR (some r) ∧ newS X hp hp' r 2 ((bare t).length + 4) (bare t)) := by
      refine gs_ald0 (pc := 26) dX0_bare_26 ?_
      refine gs_V0 (pc := 27) dX0_bare_27 kX0_160 es clJ5 (by decide) (Nat.le_of_ble_eq_true rfl) (c_slen hs) (fun v hp1 hq => ?_)
      obtain ⟨rfl, rfl⟩ := hq
      refine gs_ist2 (pc := 30) dX0_bare_30 rfl ?_
      exact loop2 t.length hll (Nat.le_refl _) rfl
    induction r with
    | zero =>
      intro k hk he
      rw [List.drop_eq_nil_of_le (by omega)] at he
      have he : lead t = k := he
      rw [← he]
      refine gs_ild1 (pc := 2) dX0_bare_2 ?_
      refine gs_ald0 (pc := 3) dX0_bare_3 ?_
      refine gs_V0 (pc := 4) dX0_bare_4 kX0_160 es clJ5 (by decide) (Nat.le_of_ble_eq_true rfl) (c_slen hs) (fun v hp1 hq => ?_)
      obtain ⟨rfl, rfl⟩ := hq
      refine gs_ic_ge (pc := 7) (tgt := 26) dX0_bare_7 (by decide) (by omega) (fun _ => ?_) (fun hn => absurd (by omega) hn)
      exact k26
    | succ r ih =>
      intro k hk he
      obtain ⟨k1, k2, k3⟩ := hat (show k < t.length by omega)
      refine gs_ild1 (pc := 2) dX0_bare_2 ?_
      refine gs_ald0 (pc := 3) dX0_bare_3 ?_
      refine gs_V0 (pc := 4) dX0_bare_4 kX0_160 es clJ5 (by decide) (Nat.le_of_ble_eq_true rfl) (c_slen hs) (fun v hp1 hq => ?_)
      obtain ⟨rfl, rfl⟩ := hq
      refine gs_ic_ge (pc := 7) (tgt := 26) dX0_bare_7 (by decide) (by omega) (fun hn => absurd hn (by omega)) (fun _ => ?_)
      refine gs_ald0 (pc := 10) dX0_bare_10 ?_
      refine gs_ild1 (pc := 11) dX0_bare_11 ?_
      refine gs_V1 (pc := 12) dX0_bare_12 kX0_164 es clJ5 (by decide) (Nat.le_of_ble_eq_true rfl) (c_char hs (show k < t.length by omega)) (fun v hp1 hq => ?_)
      obtain ⟨rfl, rfl⟩ := hq
      rw [k3]
      refine gs_bipush (pc := 15) dX0_bare_15 rfl ?_
      refine gs_ic_ne (pc := 17) (tgt := 26) dX0_bare_17 (by decide) (by omega) (fun h1 => ?_) (fun h1 => ?_)
      · rw [lead_end h1] at he
        have he : lead t = k := by omega
        rw [← he]
        exact k26
      · rw [lead_next (by omega)] at he
        refine gs_inc1 (pc := 20) dX0_bare_20 rfl ?_
        refine gs_goto (pc := 23) (tgt := 2) dX0_bare_23 (by decide) ?_
        exact ih (k + 1) (by omega) (by omega)
  refine gs_iconst (pc := 0) dX0_bare_0 ?_
  refine gs_ist1 (pc := 1) dX0_bare_1 rfl ?_
  exact loop1 t.length 0 (by omega) (by rw [List.drop_zero, Nat.zero_add])
end CK
