/-! THE COMPONENT: lines joined; rules dropped. -/
section CB
variable {X : gCx} {hp hp1 hp2 hz : gHp} {S0 : Nat → Prop} {S S' T : SS} {A A' : AS} {a c s cap cap' ra pa ia tb n g j : Nat} {xs xs' ps : List Nat} {f fI : Int → Option Nat} {fT fT' : Int → Int} {w ch : Option Nat} {at_ fa dr d : Int} {L : List Ln} {t : List Int}
theorem isS.cell (h : isS X hp a t) : ∃ lb b hh z, gl X hp a = some (lb, .inr (11, [vR (some b), vI 0, vI hh, vI z])) := by
  obtain ⟨-, -, lbs, b, hh, z, -, es, -⟩ := h
  exact ⟨_, _, _, _, es⟩
theorem isSB.cell (h : isSB X hp a t cap) : ∃ b, gl X hp a = some (a + 2, sbC b t.length) := by
  obtain ⟨-, -, -, -, b, ff, es, -⟩ := h
  exact ⟨_, es⟩
theorem isSB_cap (h : isSB X hp a t cap) : cap ≤ 16 ∨ cap ≤ 2 * t.length := h.2.2.2.1
/-- a line leaves the list -/
theorem stA.era (hX : KX X) (es : stA X hz s S xs cap ra f) (hn : n < xs.length) (r1 : Fr X (fun l => l = s + 1 + 2) hz hp1) (r4 : isAL X hp1 (s + 1) (xs.eraseIdx n) cap) : stA X hp1 s (S.1.eraseIdx n, S.2) (xs.eraseIdx n) cap ra f := by
  have hxl := es.2.2.2.1
  have hln : ∀ j : Nat, j < (xs.eraseIdx n).length → isLn X hz (s + 2) ((xs.eraseIdx n).getD j 0) (lnA (S.1.eraseIdx n, S.2) j) := by
    intro j hj
    rw [List.length_eraseIdx, if_pos (by omega)] at hj
    rw [lnA_era, List.getD_eq_getElem?_getD, List.getElem?_eraseIdx]
    by_cases hjn : j < n
    · rw [if_pos hjn, if_pos hjn, ← List.getD_eq_getElem?_getD]
      exact es.2.2.2.2.2.1 j (by omega)
    · rw [if_neg hjn, if_neg hjn, ← List.getD_eq_getElem?_getD]
      exact es.2.2.2.2.2.1 (j + 1) (by omega)
  exact es.list (L' := S.1.eraseIdx n) r1 r4 es.2.2.1 (by rw [List.length_eraseIdx, List.length_eraseIdx, if_pos (by omega), if_pos (by omega), hxl]) (es.2.2.2.2.1.sublist (List.eraseIdx_sublist _ _)) hln
theorem c_joinLines {i : Int} (hX : KX X) (hR : RC X hp c A) (hO : asOk A) (hi : i32 i) : MV X yX0_joinLines fX0_joinLines 10 [vR (some c), vI i] hp (cPo X hp c (sp_join A i)) := by
  have hR' := hR
  obtain ⟨s, pa, ia, tb, w, ch, at_, fa, dr, ps, fI, fT, e1, e2, e3, -, -⟩ := hR
  have e2' := e2
  obtain ⟨xs, cap, ra, f, es⟩ := e2'
  have h20 : A.1.1.length ≤ 20 := hO.1.1
  refine MC.of pfX0_joinLines rfl (fun h => by cases h) 4 rfl rfl ?_
  unfold sp_join
  have hslt := es.lt
  refine gs_ald0 (pc := 0) dX0_joinLines_0 ?_
  refine gs_ild1 (pc := 1) dX0_joinLines_1 ?_
  refine gs_V1 (pc := 2) dX0_joinLines_2 kX0_145 e1 clX0 (by decide) (Nat.le_of_ble_eq_true rfl) (c_isLine e1 es hi) (fun v hp1 hq => ?_)
  obtain ⟨rfl, rfl⟩ := hq
  refine gs_beq (pc := 5) (tgt := 18) dX0_joinLines_5 (by decide) (fun h1 => ?_) (fun h1 => ?_)
  · rw [inB_isL] at h1
    rw [if_neg (by rw [h1]; simp)]
    refine gs_iconst (pc := 18) dX0_joinLines_18 ?_
    refine gs_iret (pc := 19) dX0_joinLines_19 rfl ?_
    exact ⟨_, rfl, rfl, same_po hR'⟩
  rw [inB_isL] at h1
  obtain ⟨n, rfl, hn⟩ := isL_nat h1
  have hnl : nL A.1 = A.1.1.length := rfl
  refine gs_ald0 (pc := 8) dX0_joinLines_8 ?_
  refine gs_ild1 (pc := 9) dX0_joinLines_9 ?_
  refine gs_iconst (pc := 10) dX0_joinLines_10 ?_
  refine gs_iadd (pc := 11) dX0_joinLines_11 ?_
  refine gs_V1 (pc := 12) dX0_joinLines_12 kX0_145 e1 clX0 (by decide) (Nat.le_of_ble_eq_true rfl) (c_isLine e1 es (by omega)) (fun v hp1 hq => ?_)
  obtain ⟨rfl, rfl⟩ := hq
  refine gs_bne (pc := 15) (tgt := 20) dX0_joinLines_15 (by decide) (fun h2 => ?_) (fun h2 => ?_)
  rotate_left
  · rw [inB_isL] at h2
    rw [if_neg (by rw [h2]; simp)]
    refine gs_iconst (pc := 18) dX0_joinLines_18 ?_
    refine gs_iret (pc := 19) dX0_joinLines_19 rfl ?_
    exact ⟨_, rfl, rfl, same_po hR'⟩
  rw [inB_isL] at h2
  rw [if_pos ⟨h1, h2⟩]
  rw [Int.toNat_natCast]
  have hm : n + 1 < A.1.1.length := by
    obtain ⟨m, hm1, hm2⟩ := isL_nat h2
    omega
  have hx := es.2.2.2.2.2.1 n (by rw [es.2.2.2.1]; omega)
  have hy := es.2.2.2.2.2.1 (n + 1) (by rw [es.2.2.2.1]; omega)
  have hx32 := lnl (S := A.1) (j := n) hO.1
  have hy32 := lnl (S := A.1) (j := n + 1) hO.1
  have hxb : ((lnA A.1 n).2.1.isEmpty = true ↔ (lnA A.1 n).2.1 = []) := List.isEmpty_iff
  have hyb : ((lnA A.1 (n + 1)).2.1.isEmpty = true ↔ (lnA A.1 (n + 1)).2.1 = []) := List.isEmpty_iff
  dsimp only
  generalize hJ : (if (lnA A.1 n).2.1 = [] then (lnA A.1 (n + 1)).2.1 else if (lnA A.1 (n + 1)).2.1 = [] then (lnA A.1 n).2.1 else (lnA A.1 n).2.1 ++ 32 :: (lnA A.1 (n + 1)).2.1) = J
  have hJl : J.length ≤ 65 := by
    rw [← hJ]
    by_cases h1 : (lnA A.1 n).2.1 = []
    · rw [if_pos h1]; omega
    · rw [if_neg h1]
      by_cases h2 : (lnA A.1 (n + 1)).2.1 = []
      · rw [if_pos h2]; omega
      · rw [if_neg h2, List.length_append, List.length_cons]; omega
  have k91 : ∀ (h : gHp) (jr : Nat), FrN X hp h → h.1 ≤ hp.1 + 200 → h.2.1 ≤ hp.2.1 + 600 → isS X h jr J → (J ≠ [] → isN X h jr) → G X fX0_joinLines 10 91 [some (vR (some c)), some (vI (n : Int)), some (vR (some (xs.getD n 0))), some (vR (some (xs.getD (n + 1) 0))), none, none] [vR (some jr)] h (fun r hp' => ∃ v, r = some v ∧ cPo X hp c (if 32 < J.length then (-3, A) else ((J.length : Int), chg A ((A.1.1.set n (if (lnA A.1 n).2.1 = [] then (lnA A.1 (n + 1)).1 else (lnA A.1 n).1, J, (lnA A.1 n).2.2)).eraseIdx (n + 1), A.1.2))) v hp') := by
    intro h jr q1 q2 q3 js jn
    have e1q := q1.at e1 (by have := gl_lt e1; unfold frs; omega)
    have esq := es.new hX q1
    have e3q := e3.new hX ⟨_, _, e1⟩ q1
    have hRq := hR'.new hX q1
    obtain ⟨lj, bj, hj, zj, ej⟩ := js.cell
    refine gs_ast4 (pc := 91) dX0_joinLines_91 rfl ?_
    refine gs_ald4 (pc := 93) dX0_joinLines_93 ?_
    refine gs_V0 (pc := 95) dX0_joinLines_95 kX0_160 ej clJ5 (by decide) (Nat.le_of_ble_eq_true rfl) (c_slen js) (fun v hp1 hq => ?_)
    obtain ⟨rfl, rfl⟩ := hq
    refine gs_bipush (pc := 98) dX0_joinLines_98 rfl ?_
    refine gs_ic_le (pc := 100) (tgt := 106) dX0_joinLines_100 (by decide) (by omega) (fun h4 => ?_) (fun h4 => ?_)
    rotate_left
    · rw [if_pos (by omega)]
      refine gs_bipush (pc := 103) dX0_joinLines_103 rfl ?_
      refine gs_iret (pc := 105) dX0_joinLines_105 rfl ?_
      exact ⟨_, rfl, rfl, hRq, q1.M, by omega, by omega⟩
    rw [if_neg (by omega)]
    have k126 : ∀ (ind : Int) (L5 : Option AV), ind = (if (lnA A.1 n).2.1 = [] then (lnA A.1 (n + 1)).1 else (lnA A.1 n).1) → G X fX0_joinLines 10 124 [some (vR (some c)), some (vI (n : Int)), some (vR (some (xs.getD n 0))), some (vR (some (xs.getD (n + 1) 0))), some (vR (some jr)), L5] [vI ind] h (fun r hp' => ∃ v, r = some v ∧ cPo X hp c ((J.length : Int), chg A ((A.1.1.set n (if (lnA A.1 n).2.1 = [] then (lnA A.1 (n + 1)).1 else (lnA A.1 n).1, J, (lnA A.1 n).2.2)).eraseIdx (n + 1), A.1.2)) v hp') := by
      intro ind L5 hind
      rw [← hind]
      obtain ⟨n1, n2, n3⟩ := bg_st ⟨_, _, e1q⟩ ⟨_, _, _, _, esq⟩ e3q
      refine gs_ist5 (pc := 124) dX0_joinLines_124 rfl ?_
      refine gs_ald0 (pc := 126) dX0_joinLines_126 ?_
      refine gs_V0v (pc := 127) dX0_joinLines_127 kX0_139 e1q clX0 (by decide) (Nat.le_of_ble_eq_true rfl) (c_begins hX hO e1q ⟨_, _, _, _, esq⟩ e3q) (fun hz hq => ?_)
      obtain ⟨ps', z1, z2, z3, z4, z5, z6⟩ := hq
      have esz := esq.fr hX z3 n3 n1 n2
      have jsz := js.fr z3 n3
      have jnz : J ≠ [] → isN X hz jr := fun h => (jn h).fr z3 n3
      have hxn : n < xs.length := by rw [esz.2.2.2.1]; exact hn
      obtain ⟨cc, cl, cs, cn⟩ := esz.2.2.2.2.2.1 n hxn
      have hcx := cls_ne z1 cl (by decide)
      obtain ⟨g1, g2⟩ := esz.setL (l' := ((lnA A.1 n).1, J, (lnA A.1 n).2.2)) hX hxn jsz jnz
      have z1a := (gl_set_ne (c := (s + 2, .inr (3, [vI (lnA A.1 n).1, vR (some jr), vI (b2i (lnA A.1 n).2.2)]))) hcx).trans z1
      have cla := gl_set_self (c := (s + 2, .inr (3, [vI (lnA A.1 n).1, vR (some jr), vI (b2i (lnA A.1 n).2.2)]))) cl (by omega)
      obtain ⟨g3, g4⟩ := g1.setL (l' := (ind, J, (lnA A.1 n).2.2)) hX hxn (jsz.fr g2 (fun l hl => by omega)) (fun h => (jnz h).fr g2 (fun l hl => by omega))
      have z1b := (gl_set_ne (c := (s + 2, .inr (3, [vI ind, vR (some jr), vI (b2i (lnA A.1 n).2.2)]))) hcx).trans z1a
      dsimp only at g1 g2 g3 g4
      rw [List.set_set] at g3
      refine gs_ald0 (pc := 130) dX0_joinLines_130 ?_
      refine gs_ild1 (pc := 131) dX0_joinLines_131 ?_
      refine gs_V1 (pc := 132) dX0_joinLines_132 kX0_149 z1 clX0 (by decide) (Nat.le_of_ble_eq_true rfl) (c_line z1 esz hn) (fun v hp1 hq => ?_)
      obtain ⟨rfl, rfl⟩ := hq
      refine gs_ald4 (pc := 135) dX0_joinLines_135 ?_
      refine gs_putfN (pc := 137) 1 (.inr (3, [vI (lnA A.1 n).1, vR (some jr), vI (b2i (lnA A.1 n).2.2)])) dX0_joinLines_137 cl (by omega) clX3 in_X3 tyX3 tyX3_ok nmX3 (by decide) q278 (Or.inl rfl) rfl (fok_obj _ _) (Nat.le_of_ble_eq_true rfl) rfl ?_
      refine gs_ald0 (pc := 140) dX0_joinLines_140 ?_
      refine gs_ild1 (pc := 141) dX0_joinLines_141 ?_
      refine gs_V1 (pc := 142) dX0_joinLines_142 kX0_149 z1a clX0 (by decide) (Nat.le_of_ble_eq_true rfl) (c_line z1a g1 (by show n < (A.1.1.set n _).length; rw [List.length_set]; exact hn)) (fun v hp1 hq => ?_)
      obtain ⟨rfl, rfl⟩ := hq
      refine gs_ild5 (pc := 145) dX0_joinLines_145 ?_
      refine gs_putfN (pc := 147) 0 (.inr (3, [vI ind, vR (some jr), vI (b2i (lnA A.1 n).2.2)])) dX0_joinLines_147 cla (by omega) clX3 in_X3 tyX3 tyX3_ok nmX3 (by decide) q275 (Or.inl rfl) rfl (fok_int _) (Nat.le_of_ble_eq_true rfl) rfl ?_
      have hsz : ∀ (b : Nat) (ce : gCel), (hset (hset hz (xs.getD n 0) (s + 2, .inr (3, [vI (lnA A.1 n).1, vR (some jr), vI (b2i (lnA A.1 n).2.2)]))) b ce).1 = hz.1 ∧ (hset (hset hz (xs.getD n 0) (s + 2, .inr (3, [vI (lnA A.1 n).1, vR (some jr), vI (b2i (lnA A.1 n).2.2)]))) b ce).2.1 = hz.2.1 := fun _ _ => ⟨rfl, rfl⟩
      have hsz' := hsz (xs.getD n 0) (s + 2, .inr (3, [vI ind, vR (some jr), vI (b2i (lnA A.1 n).2.2)]))
      have g5 := g2.trans g4
      generalize hset (hset hz (xs.getD n 0) (s + 2, .inr (3, [vI (lnA A.1 n).1, vR (some jr), vI (b2i (lnA A.1 n).2.2)]))) (xs.getD n 0) (s + 2, .inr (3, [vI ind, vR (some jr), vI (b2i (lnA A.1 n).2.2)])) = hy at *
      have eal := g3.2.1
      obtain ⟨mc, e, lbe, ff, ea, -⟩ := g3.2.1
      have hxm : n + 1 < xs.length := by rw [esz.2.2.2.1]; exact hm
      refine gs_ald0 (pc := 150) dX0_joinLines_150 ?_
      refine gs_getf (pc := 151) 0 dX0_joinLines_151 z1b clX0 in_X0 (by decide) q211 (Or.inl rfl) rfl ?_
      refine gs_getfN (pc := 154) 0 dX0_joinLines_154 g3.1 clX1 in_X1 (by decide) q185 (Or.inl rfl) rfl ?_
      refine gs_ild1 (pc := 157) dX0_joinLines_157 ?_
      refine gs_iconst (pc := 158) dX0_joinLines_158 ?_
      refine gs_iadd (pc := 159) dX0_joinLines_159 ?_
      rw [show (n : Int) + 1 = ((n + 1 : Nat) : Int) by omega]
      refine gs_V1 (pc := 160) dX0_joinLines_160 kX0_48 ea clJ2 (by decide) (Nat.le_of_ble_eq_true rfl) (c_alRemove eal hxm) (fun v hq hq => ?_)
      obtain ⟨rfl, r1, r2, r3, r4⟩ := hq
      refine gs_pop (pc := 163) dX0_joinLines_163 rfl ?_
      have es2 := g3.era hX hxm r1 r4
      have hed := RC.edit (A := A) hX z1 z2 ⟨_, _, _, _, esz⟩ ((g5.mono (fun l hl => Or.inl hl)).trans (r1.mono (fun l hl => Or.inr (Or.inl hl)))) ⟨_, _, _, _, es2⟩
      have jsq : isS X hq jr J := (jsz.fr g5 (fun l hl => by omega)).fr r1 (fun l hl => by omega)
      obtain ⟨lj2, bj2, hj2, zj2, ej2⟩ := jsq.cell
      refine gs_ald4 (pc := 164) dX0_joinLines_164 ?_
      refine gs_V0 (pc := 166) dX0_joinLines_166 kX0_160 ej2 clJ5 (by decide) (Nat.le_of_ble_eq_true rfl) (c_slen jsq) (fun v hp1 hq => ?_)
      obtain ⟨rfl, rfl⟩ := hq
      refine gs_iret (pc := 169) dX0_joinLines_169 rfl ?_
      exact ⟨_, rfl, rfl, hed.1, q1.M.trans (z4.trans hed.2), by omega, by omega⟩
    have hxq := esq.2.2.2.2.2.1 n (by rw [esq.2.2.2.1]; omega)
    have hyq := esq.2.2.2.2.2.1 (n + 1) (by rw [esq.2.2.2.1]; omega)
    have hxq' := hxq
    have hyq' := hyq
    obtain ⟨cx, clx, -⟩ := hxq
    obtain ⟨cy, cly, -⟩ := hyq
    refine gs_ald2 (pc := 106) dX0_joinLines_106 ?_
    refine gs_V0 (pc := 107) dX0_joinLines_107 kX0_184 clx clX3 (by decide) (Nat.le_of_ble_eq_true rfl) (c_lnBlank hxq') (fun v hp1 hq => ?_)
    obtain ⟨rfl, rfl⟩ := hq
    refine gs_beq (pc := 110) (tgt := 120) dX0_joinLines_110 (by decide) (fun hb => ?_) (fun hb => ?_)
    · refine gs_ald2 (pc := 120) dX0_joinLines_120 ?_
      refine gs_getfN (pc := 121) 0 dX0_joinLines_121 clx clX3 in_X3 (by decide) q275 (Or.inl rfl) rfl ?_
      exact k126 _ _ (by rw [if_neg (fun h => by rw [hxb.mpr h] at hb; cases hb)])
    · refine gs_ald3 (pc := 113) dX0_joinLines_113 ?_
      refine gs_getfN (pc := 114) 0 dX0_joinLines_114 cly clX3 in_X3 (by decide) q275 (Or.inl rfl) rfl ?_
      refine gs_goto (pc := 117) (tgt := 124) dX0_joinLines_117 (by decide) ?_
      exact k126 _ _ (by rw [if_pos (hxb.mp hb)])
  have hx' := hx
  have hy' := hy
  obtain ⟨cx, clx, csx, cnx⟩ := hx
  obtain ⟨cy, cly, csy, cny⟩ := hy
  have hn' : n < A.1.1.length := hn
  have hcv : (n : Int) + 1 = ((n + 1 : Nat) : Int) := by omega
  refine gs_ald0 (pc := 20) dX0_joinLines_20 ?_
  refine gs_ild1 (pc := 21) dX0_joinLines_21 ?_
  refine gs_V1 (pc := 22) dX0_joinLines_22 kX0_149 e1 clX0 (by decide) (Nat.le_of_ble_eq_true rfl) (c_line e1 es hn') (fun v hp1 hq => ?_)
  obtain ⟨rfl, rfl⟩ := hq
  refine gs_ast2 (pc := 25) dX0_joinLines_25 rfl ?_
  refine gs_ald0 (pc := 26) dX0_joinLines_26 ?_
  refine gs_ild1 (pc := 27) dX0_joinLines_27 ?_
  refine gs_iconst (pc := 28) dX0_joinLines_28 ?_
  refine gs_iadd (pc := 29) dX0_joinLines_29 ?_
  rw [hcv]
  refine gs_V1 (pc := 30) dX0_joinLines_30 kX0_149 e1 clX0 (by decide) (Nat.le_of_ble_eq_true rfl) (c_line e1 es hm) (fun v hp1 hq => ?_)
  obtain ⟨rfl, rfl⟩ := hq
  refine gs_ast3 (pc := 33) dX0_joinLines_33 rfl ?_
  refine gs_ald2 (pc := 34) dX0_joinLines_34 ?_
  refine gs_V0 (pc := 35) dX0_joinLines_35 kX0_184 clx clX3 (by decide) (Nat.le_of_ble_eq_true rfl) (c_lnBlank hx') (fun v hp1 hq => ?_)
  obtain ⟨rfl, rfl⟩ := hq
  refine gs_beq (pc := 38) (tgt := 48) dX0_joinLines_38 (by decide) (fun hb1 => ?_) (fun hb1 => ?_)
  rotate_left
  · refine gs_ald3 (pc := 41) dX0_joinLines_41 ?_
    refine gs_getfN (pc := 42) 1 dX0_joinLines_42 cly clX3 in_X3 (by decide) q278 (Or.inl rfl) rfl ?_
    refine gs_goto (pc := 45) (tgt := 91) dX0_joinLines_45 (by decide) ?_
    rw [if_pos (hxb.mp hb1)] at hJ
    subst hJ
    exact k91 hp cy FrN.refl (by omega) (by omega) csy cny
  have hb1' : ¬ (lnA A.1 n).2.1 = [] := fun h => by rw [hxb.mpr h] at hb1; cases hb1
  rw [if_neg hb1'] at hJ
  refine gs_ald3 (pc := 48) dX0_joinLines_48 ?_
  refine gs_V0 (pc := 49) dX0_joinLines_49 kX0_184 cly clX3 (by decide) (Nat.le_of_ble_eq_true rfl) (c_lnBlank hy') (fun v hp1 hq => ?_)
  obtain ⟨rfl, rfl⟩ := hq
  refine gs_beq (pc := 52) (tgt := 62) dX0_joinLines_52 (by decide) (fun hb2 => ?_) (fun hb2 => ?_)
  rotate_left
  · refine gs_ald2 (pc := 55) dX0_joinLines_55 ?_
    refine gs_getfN (pc := 56) 1 dX0_joinLines_56 clx clX3 in_X3 (by decide) q278 (Or.inl rfl) rfl ?_
    refine gs_goto (pc := 59) (tgt := 91) dX0_joinLines_59 (by decide) ?_
    rw [if_pos (hyb.mp hb2)] at hJ
    subst hJ
    exact k91 hp cx FrN.refl (by omega) (by omega) csx cnx
  have hb2' : ¬ (lnA A.1 (n + 1)).2.1 = [] := fun h => by rw [hyb.mpr h] at hb2; cases hb2
  rw [if_neg hb2'] at hJ
  refine gs_new (pc := 62) (nx X hp + 2) dfJ4 dX0_joinLines_62 clJ4 in_J4 tyJ4 tyJ4_ok q293 q294 q104 dfoJ4 ?_
  have hF : FrN X hp (hnew X hp 4 (nx X hp + 2, Sum.inr (10, dfJ4))) := Fr.new Fr.refl
  have g1 : gl X (hnew X hp 4 (nx X hp + 2, Sum.inr (10, dfJ4))) (nx X hp) = some (nx X hp + 2, .inr (10, dfJ4)) := gl_new_self
  have hc1 : (hnew X hp 4 (nx X hp + 2, Sum.inr (10, dfJ4))).1 = hp.1 + 1 := rfl
  have hc2 : (hnew X hp 4 (nx X hp + 2, Sum.inr (10, dfJ4))).2.1 = hp.2.1 + 4 := rfl
  generalize hnew X hp 4 (nx X hp + 2, Sum.inr (10, dfJ4)) = ha at *
  have lo : ∀ {h : gHp}, FrN X hp h → gl X h (xs.getD n 0) = some (s + 2, .inr (3, [vI (lnA A.1 n).1, vR (some cx), vI (b2i (lnA A.1 n).2.2)])) ∧ gl X h (xs.getD (n + 1) 0) = some (s + 2, .inr (3, [vI (lnA A.1 (n + 1)).1, vR (some cy), vI (b2i (lnA A.1 (n + 1)).2.2)])) ∧ isS X h cx (lnA A.1 n).2.1 ∧ isS X h cy (lnA A.1 (n + 1)).2.1 := fun hf => ⟨hf.at clx (by unfold frs; omega), hf.at cly (by unfold frs; omega), csx.fr hf (fun l hl => frs_2 hl), csy.fr hf (fun l hl => frs_2 hl)⟩
  refine gs_dup (pc := 65) dX0_joinLines_65 rfl ?_
  refine gs_I0v (pc := 66) dX0_joinLines_66 kX0_117 (by decide) (Nat.le_of_ble_eq_true rfl) (c_sbInit g1) (fun hb hq => ?_)
  obtain ⟨b1, b2, b3, b4⟩ := hq
  have f1 : FrN X hp hb := hF.to (Nat.le_refl _) b1
  obtain ⟨l1, l2, l3, l4⟩ := lo f1
  obtain ⟨sb1, sc1⟩ := b4.cell
  have hc32 : ∀ h, isS X h (cxK X 12) [32] := fun h => hX.2.2.2.1 h 2 (by decide)
  refine gs_ald2 (pc := 69) dX0_joinLines_69 ?_
  refine gs_getfN (pc := 70) 1 dX0_joinLines_70 l1 clX3 in_X3 (by decide) q278 (Or.inl rfl) rfl ?_
  refine gs_V1 (pc := 73) dX0_joinLines_73 kX0_188 sc1 clJ4 (by decide) (Nat.le_of_ble_eq_true rfl) (c_sbS b4 l3 (by rw [List.length_nil]; omega)) (fun v hc hq => ?_)
  obtain ⟨rfl, cap1, a1, a2, a3, a4, a5⟩ := hq
  have f2 := f1.to (Nat.le_refl _) a1
  obtain ⟨sb2, sc2⟩ := a5.cell
  refine gs_ldcS (pc := 76) 2 rfl dX0_joinLines_76 ?_
  refine gs_V1 (pc := 78) dX0_joinLines_78 kX0_188 sc2 clJ4 (by decide) (Nat.le_of_ble_eq_true rfl) (c_sbS a5 (hc32 hc) (by rw [List.nil_append, List.length_singleton]; omega)) (fun v hd hq => ?_)
  obtain ⟨rfl, cap2, d1, d2, d3, d4, d5⟩ := hq
  have f3 := f2.to (Nat.le_refl _) d1
  obtain ⟨sb3, sc3⟩ := d5.cell
  obtain ⟨m1, m2, m3, m4⟩ := lo f3
  refine gs_ald3 (pc := 81) dX0_joinLines_81 ?_
  refine gs_getfN (pc := 82) 1 dX0_joinLines_82 m2 clX3 in_X3 (by decide) q278 (Or.inl rfl) rfl ?_
  refine gs_V1 (pc := 85) dX0_joinLines_85 kX0_188 sc3 clJ4 (by decide) (Nat.le_of_ble_eq_true rfl) (c_sbS d5 m4 (by rw [List.nil_append, List.length_append, List.length_singleton]; omega)) (fun v he hq => ?_)
  obtain ⟨rfl, cap3, o1, o2, o3, o4, o5⟩ := hq
  have f4 := f3.to (Nat.le_refl _) o1
  have eJ : ([] ++ (lnA A.1 n).2.1 ++ [32] ++ (lnA A.1 (n + 1)).2.1) = J := by rw [← hJ, List.nil_append, List.append_assoc]; rfl
  rw [eJ] at o5
  obtain ⟨sb4, sc4⟩ := o5.cell
  have ocap := isSB_cap o5
  refine gs_V0 (pc := 88) dX0_joinLines_88 kX0_122 sc4 clJ4 (by decide) (Nat.le_of_ble_eq_true rfl) (c_sbStr o5 (by omega)) (fun v hg hq => ?_)
  obtain ⟨r, rfl, ⟨p1, p2, p3, p4, p5⟩, -⟩ := hq
  exact k91 hg r (f4.f0 p1) (by omega) (by omega) p4 (fun _ => p5)
end CB
