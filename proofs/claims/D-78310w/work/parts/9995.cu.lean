/-! THE COMPONENT: which rules are used for tokens: use. -/
section CU
variable {X : gCx} {hp hp1 hp2 hz h h3 h4 : gHp} {S0 : Nat → Prop} {S : SS} {a c s t n p q al tx nr fa pr B D capA capT capA' capT' x m len cap ra r : Nat} {u y : List Int} {xs us ts us' : List Nat} {tl tl' : List (List Int)} {T : Tok} {Tl : List Tok} {ff fp : Int → Int} {op wd so : Int} {txo : Option Nat} {f : Int → Option Nat} {R : Rl}
theorem tx_inj {L : List (List Int)} {i j : Nat} (h : L.Nodup) (hi : i < L.length) (hj : j < L.length) (e : L.getD i [] = L.getD j []) : i = j := by
  rw [List.getD_eq_getElem?_getD, List.getD_eq_getElem?_getD, List.getElem?_eq_getElem hi, List.getElem?_eq_getElem hj] at e
  have hpw := List.pairwise_iff_getElem.mp h
  rcases Nat.lt_trichotomy i j with g | g | g
  · exact absurd e (hpw i j hi hj g)
  · exact g
  · exact absurd e.symm (hpw j i hj hi g)
theorem nd_take {L : List (List Int)} {w k : Nat} {z : List Int} (h : L.Nodup) (hw : w < L.length) (e : L.getD w [] = z) (hz : z ∈ L.take k) : w < k := by
  obtain ⟨i, hi, g⟩ := List.getElem_of_mem hz
  rw [List.length_take] at hi
  rw [List.getElem_take] at g
  have : i = w := tx_inj h (by omega) hw (by rw [e, List.getD_eq_getElem?_getD, List.getElem?_eq_getElem (by omega)]; exact g)
  omega
/-- by the number of a text: the rule of a sort among the first r that is used for it -/
def rV (S : SS) (so : Int) (tl : List (List Int)) (r : Nat) (k : Int) : Option Int := if 0 ≤ k ∧ k < tl.length ∧ rfor S so (tl.getD k.toNat []) r ≠ -9 then some (rfor S so (tl.getD k.toNat []) r) else none
theorem rV_get {w : Nat} (hw : w < tl.length) : (rV S so tl r (w : Int)).getD (-9) = rfor S so (tl.getD w []) r := by
  unfold rV
  rw [Int.toNat_natCast]
  by_cases h : rfor S so (tl.getD w []) r = -9
  · rw [if_neg (fun g => g.2.2 h), h]; rfl
  · rw [if_pos ⟨by omega, by omega, h⟩]; rfl
theorem rfor_s (hR : S.2.1 r = some R) : rfor S so y (r + 1) = if R.1 = so ∧ R.2.2.2.2.2.1 = y ∧ (rfor S so y r = -9 ∨ rPr S (rfor S so y r) < R.2.1) then (r : Int) else rfor S so y r := by
  rw [rfor, hR]
theorem rfor_n (hR : S.2.1 r = none) : rfor S so y (r + 1) = rfor S so y r := by
  rw [rfor, hR]
theorem rV_skip (h : S.2.1 r = none ∨ ∃ R, S.2.1 r = some R ∧ R.1 ≠ so) : rV S so tl (r + 1) = rV S so tl r := by
  have e : ∀ y, rfor S so y (r + 1) = rfor S so y r := by
    intro y
    rcases h with h | ⟨R, h, h'⟩
    · exact rfor_n h
    · rw [rfor_s h, if_neg (fun g => h' g.1)]
  funext k
  unfold rV
  rw [e]
theorem rV_keep (hR : S.2.1 r = some R) (hn : ¬ (rfor S R.1 R.2.2.2.2.2.1 r = -9 ∨ rPr S (rfor S R.1 R.2.2.2.2.2.1 r) < R.2.1)) : rV S R.1 tl (r + 1) = rV S R.1 tl r := by
  have e : ∀ y, rfor S R.1 y (r + 1) = rfor S R.1 y r := by
    intro y
    rw [rfor_s hR, if_neg]
    rintro ⟨-, g1, g2⟩
    subst g1
    exact hn g2
  funext k
  unfold rV
  rw [e]
theorem rV_new {w : Nat} (hR : S.2.1 r = some R) (hn : rfor S R.1 R.2.2.2.2.2.1 r = -9 ∨ rPr S (rfor S R.1 R.2.2.2.2.2.1 r) < R.2.1) (hnd : tl.Nodup) (hw : w < tl.length) (he : tl.getD w [] = R.2.2.2.2.2.1) : rV S R.1 tl (r + 1) = fun j => if j = (w : Int) then some (r : Int) else rV S R.1 tl r j := by
  funext j
  by_cases hj : j = (w : Int)
  · subst hj
    rw [if_pos rfl]
    unfold rV
    have e : rfor S R.1 (tl.getD (w : Int).toNat []) (r + 1) = (r : Int) := by
      rw [Int.toNat_natCast, he, rfor_s hR]
      exact if_pos ⟨rfl, rfl, hn⟩
    rw [e, if_pos ⟨by omega, by omega, by omega⟩]
  · rw [if_neg hj]
    unfold rV
    by_cases hr : 0 ≤ j ∧ j < tl.length
    · have e : rfor S R.1 (tl.getD j.toNat []) (r + 1) = rfor S R.1 (tl.getD j.toNat []) r := by
        rw [rfor_s hR, if_neg]
        rintro ⟨-, g1, -⟩
        have := tx_inj hnd hw (j := j.toNat) (by omega) (by rw [he, g1])
        omega
      rw [e]
    · rw [if_neg (fun g => hr ⟨g.1, g.2.1⟩), if_neg (fun g => hr ⟨g.1, g.2.1⟩)]
theorem rV_0 : rV S so tl 0 = fun _ => none := by
  funext k
  unfold rV
  rw [if_neg (fun g => g.2.2 rfl)]
theorem c_use (hX : KX X) (hO : ssOk S) (ht : gl X hp t = some (t + 2, tkC s al tx nr fa pr op)) (hs : stA X hp s S xs cap ra f) (hx : txP X hp tx us tl capT) (hl : tl.length ≤ 700) (hr : r < 12) (hR : S.2.1 r = some R) (hmem : R.2.2.2.2.2.1 ∈ tl.take nr) (hnr : nr ≤ 24) (hm : mapV X hp false m n len (rV S R.1 tl r)) (hn : n ≤ 64) (hlen : len ≤ r) : M0 X yX5_use fX5_use 9 [vR (some t), vR (some m), vI (r : Int)] hp (fun hp' => Fr X (fun l => l = m + 2) hp hp' ∧ ∃ n' len', mapV X hp' false m n' len' (rV S R.1 tl (r + 1)) ∧ len' ≤ len + 1 ∧ n ≤ n' ∧ n' ≤ 64 ∧ hp'.1 ≤ hp.1 + 1 + (n' - n) ∧ hp'.2.1 ≤ hp.2.1 + 6 + 2 * (n' - n)) := by
  obtain ⟨e1, e2, e3, e4, e5, e6, e7, e8⟩ := hs
  obtain ⟨R0, q, g1, g2, g3⟩ : ∃ R0 q, S.2.1 r = some R0 ∧ f r = some q ∧ isRl X hp q R0 := by
    rcases e8 r hr with ⟨g, -⟩ | g
    · rw [hR] at g; cases g
    · exact g
  obtain rfl : R = R0 := Option.some.inj (hR.symm.trans g1)
  obtain ⟨tt, kk, c1, c2, -⟩ := g3
  obtain ⟨fs, hc⟩ := hm.o
  refine MC.of pfX5_use rfl (fun h => by cases h) 2 rfl rfl ?_
  refine gs_ald0 (pc := 0) dX5_use_0 ?_
  refine gs_ald0 (pc := 1) dX5_use_1 ?_
  refine gs_getf (pc := 2) 0 dX5_use_2 ht clX5 in_X5 (by decide) q1439 (Or.inl rfl) rfl ?_
  refine gs_getfN (pc := 5) 1 dX5_use_5 e1 clX1 in_X1 (by decide) q187 (Or.inl rfl) rfl ?_
  refine gs_ild2 (pc := 8) dX5_use_8 ?_
  refine gs_aald (pc := 9) 5 (by decide) dX5_use_9 e7 (by omega) (by omega) ?_
  rw [g2]
  refine gs_getfN (pc := 10) 5 dX5_use_10 c1 clX7 in_X7 (by decide) q1762 (Or.inl rfl) rfl ?_
  refine gs_V1 (pc := 13) dX5_use_13 kX5_45 ht clX5 (by decide) (Nat.le_of_ble_eq_true rfl) (c_wordOf hX c2 ht hx hl) (fun v hq hq => ?_)
  obtain ⟨w, rfl, us', tl', cap', v1, v2, v3, v4, v5, v6, v7, v8, v9, v10, -⟩ := hq
  obtain ⟨rfl, rfl, rfl, rfl⟩ := v10 (List.mem_of_mem_take hmem)
  have hw24 := nd_take hx.2.2.2.1 v4 v5 hmem
  refine gs_ist3 (pc := 16) dX5_use_16 rfl ?_
  refine gs_ald1 (pc := 17) dX5_use_17 ?_
  refine gs_ild3 (pc := 18) dX5_use_18 ?_
  refine gs_S2 (pc := 19) dX5_use_19 kX5_166 (by decide) (Nat.le_of_ble_eq_true rfl) (c_numberOf hX hm (by omega)) (fun v hp1 hq => ?_)
  obtain ⟨rfl, rfl⟩ := hq
  rw [rV_get v4, v5]
  have hrf := rfor_ok (S := S) (so := R.1) (x := R.2.2.2.2.2.1) r
  have put : (rfor S R.1 R.2.2.2.2.2.1 r = -9 ∨ rPr S (rfor S R.1 R.2.2.2.2.2.1 r) < R.2.1) → ∀ z, G X fX5_use 9 59 [some (vR (some t)), some (vR (some m)), some (vI (r : Int)), some (vI (w : Int)), z] [] hq (fun r_ hp' => r_ = none ∧ Fr X (fun l => l = m + 2) hq hp' ∧ ∃ n' len', mapV X hp' false m n' len' (rV S R.1 tl' (r + 1)) ∧ len' ≤ len + 1 ∧ n ≤ n' ∧ n' ≤ 64 ∧ hp'.1 ≤ hq.1 + 1 + (n' - n) ∧ hp'.2.1 ≤ hq.2.1 + 6 + 2 * (n' - n)) := by
    intro hcond z
    refine gs_ald1 (pc := 59) dX5_use_59 ?_
    refine gs_ild3 (pc := 60) dX5_use_60 ?_
    refine gs_S1 (pc := 61) dX5_use_61 kX5_152 (by decide) (Nat.le_of_ble_eq_true rfl) (c_valSmall hX (by omega)) (fun v hp1 hq => ?_)
    obtain ⟨⟨b, rfl, hb⟩, rfl⟩ := hq
    refine gs_ild2 (pc := 64) dX5_use_64 ?_
    refine gs_S1 (pc := 65) dX5_use_65 kX5_152 (by decide) (Nat.le_of_ble_eq_true rfl) (c_valSmall hX (by omega)) (fun v hp1 hq => ?_)
    obtain ⟨⟨b2, rfl, hb2⟩, rfl⟩ := hq
    refine gs_V2 (pc := 68) dX5_use_68 kX5_188 hc clJ14 (by decide) (Nat.le_of_ble_eq_true rfl) (c_mapPut hm (show isKey X hq false b (w : Int) from ⟨hb, by omega⟩) (by omega) (by omega) hb2) (fun v h2 hq => ?_)
    obtain ⟨⟨o, rfl⟩, p1, n', len', ⟨p2, p3, p4, p5⟩, p6, p7⟩ := hq
    refine gs_pop (pc := 71) dX5_use_71 rfl ?_
    refine gs_vret (pc := 72) dX5_use_72 rfl ?_
    exact ⟨rfl, p1, n', len', by rw [rV_new hR hcond hx.2.2.2.1 v4 v5]; exact p7, p6, p2, by omega, by omega, by omega⟩
  rcases hrf with hrf | ⟨r', R', q1, q2, q3, q4, q5⟩
  · rw [hrf]
    refine gs_ist4 (pc := 22) dX5_use_22 rfl ?_
    refine gs_ild4 (pc := 24) dX5_use_24 ?_
    refine gs_bipush (pc := 26) dX5_use_26 rfl ?_
    refine gs_ic_eq (pc := 28) (tgt := 59) dX5_use_28 (by decide) (by omega) (fun _ => ?_) (fun hn => absurd rfl hn)
    exact put (Or.inl hrf) _
  · rw [q1]
    refine gs_ist4 (pc := 22) dX5_use_22 rfl ?_
    refine gs_ild4 (pc := 24) dX5_use_24 ?_
    refine gs_bipush (pc := 26) dX5_use_26 rfl ?_
    refine gs_ic_eq (pc := 28) (tgt := 59) dX5_use_28 (by decide) (by omega) (fun hn => absurd hn (by omega)) (fun _ => ?_)
    obtain ⟨R1, q', g1', g2', g3'⟩ : ∃ R0 q, S.2.1 r' = some R0 ∧ f r' = some q ∧ isRl X hq q R0 := by
      rcases e8 r' (by omega) with ⟨g, -⟩ | g
      · rw [q3] at g; cases g
      · exact g
    obtain rfl : R' = R1 := Option.some.inj (q3.symm.trans g1')
    obtain ⟨tt', kk', c1', c2', -⟩ := g3'
    have hp1 := (hO.2.2.1 r' R' q3).2.1
    have hp2 := (hO.2.2.1 r R hR).2.1
    refine gs_ald0 (pc := 31) dX5_use_31 ?_
    refine gs_getf (pc := 32) 0 dX5_use_32 ht clX5 in_X5 (by decide) q1439 (Or.inl rfl) rfl ?_
    refine gs_getfN (pc := 35) 1 dX5_use_35 e1 clX1 in_X1 (by decide) q187 (Or.inl rfl) rfl ?_
    refine gs_ild4 (pc := 38) dX5_use_38 ?_
    refine gs_aald (pc := 40) 5 (by decide) dX5_use_40 e7 (by omega) (by omega) ?_
    rw [g2']
    refine gs_getfN (pc := 41) 1 dX5_use_41 c1' clX7 in_X7 (by decide) q1750 (Or.inl rfl) rfl ?_
    refine gs_ald0 (pc := 44) dX5_use_44 ?_
    refine gs_getf (pc := 45) 0 dX5_use_45 ht clX5 in_X5 (by decide) q1439 (Or.inl rfl) rfl ?_
    refine gs_getfN (pc := 48) 1 dX5_use_48 e1 clX1 in_X1 (by decide) q187 (Or.inl rfl) rfl ?_
    refine gs_ild2 (pc := 51) dX5_use_51 ?_
    refine gs_aald (pc := 52) 5 (by decide) dX5_use_52 e7 (by omega) (by omega) ?_
    rw [g2]
    have hpr : rPr S (rfor S R.1 R.2.2.2.2.2.1 r) = R'.2.1 := by rw [q1]; unfold rPr; rw [Int.toNat_natCast, q3]
    refine gs_getfN (pc := 53) 1 dX5_use_53 c1 clX7 in_X7 (by decide) q1750 (Or.inl rfl) rfl ?_
    refine gs_ic_ge (pc := 56) (tgt := 72) dX5_use_56 (by decide) (by omega) (fun h9 => ?_) (fun h9 => ?_)
    · refine gs_vret (pc := 72) dX5_use_72 rfl ?_
      refine ⟨rfl, Fr.refl, n, len, ?_, by omega, Nat.le_refl _, hn, by omega, by omega⟩
      rw [rV_keep hR (by rw [hpr, q1]; omega)]
      exact hm
    · exact put (by rw [hpr]; omega) _
end CU
