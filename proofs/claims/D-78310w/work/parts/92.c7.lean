/-! THE COMPONENT: pins; the text buffer as a line; lines put in and replaced. -/
section C7
variable {X : gCx} {hp hp1 hp2 hz : gHp} {S0 : Nat → Prop} {S S' T : SS} {A A' : AS} {c s cap cap' ra pa ia tb n : Nat} {xs xs' ps : List Nat} {f fI : Int → Option Nat} {fT fT' : Int → Int} {w ch : Option Nat} {at_ fa dr : Int} {t : List Int}
theorem RC.new (hX : KX X) (h : FrN X hp hp1) (hs : RC X hp c A) : RC X hp1 c A := hs.frC (ci := 2) hX h (fun l hl => Or.inr hl) (by decide)
theorem rcB.new (hX : KX X) (hc0 : isO X hp c 0) (h : FrN X hp hp1) (hs : rcB X hp c s pa ia tb ps fI fT A) : rcB X hp1 c s pa ia tb ps fI fT A := hs.frC (ci := 2) hX hc0 h (fun l hl => Or.inr hl) (by decide)
theorem stA.new (hX : KX X) (h : FrN X hp hp1) (hs : stA X hp s S xs cap ra f) : stA X hp1 s S xs cap ra f := by
  have := hs.lt
  exact hs.fr hX h (fun _ hl => frs_2 hl) (by unfold frs; omega) (by unfold frs; omega)
/-- a line's cell is written -/
theorem stA.setL {c' : Nat} {l' : Ln} (hX : KX X) (hs : stA X hp s S xs cap ra f) (hn : n < xs.length) (hc : isS X hp c' l'.2.1) (hcn : l'.2.1 ≠ [] → isN X hp c') : stA X (hset hp (xs.getD n 0) (s + 2, .inr (3, [vI l'.1, vR (some c'), vI (b2i l'.2.2)]))) s (S.1.set n l', S.2) xs cap ra f ∧ Fr X (fun l => l = s + 2) hp (hset hp (xs.getD n 0) (s + 2, .inr (3, [vI l'.1, vR (some c'), vI (b2i l'.2.2)]))) := by
  obtain ⟨cc, g, -⟩ := hs.2.2.2.2.2.1 n hn
  have hF := Fr1 (c := .inr (3, [vI l'.1, vR (some c'), vI (b2i l'.2.2)])) g (by omega) ⟨rfl, rfl⟩
  have h2 : ∀ l, l = s + 2 → 2 ≤ l := fun l hl => by omega
  exact ⟨hs.line hX hn ⟨c', gl_set_self g (by omega), hc.fr hF h2, fun h => (hcn h).fr hF h2⟩ hF (fun b hb => gl_set_ne hb), hF⟩
theorem c_pin {i : Int} (hX : KX X) (hR : RC X hp c A) (hO : asOk A) (hi : i32 i) : MV X yX0_pin fX0_pin 10 [vR (some c), vI i] hp (cPo X hp c (sp_pin A i)) := by
  have hR' := hR
  obtain ⟨s, pa, ia, tb, w, ch, at_, fa, dr, ps, fI, fT, e1, e2, e3, -, -⟩ := hR
  have e2' := e2
  obtain ⟨xs, cap, ra, f, e2s⟩ := e2'
  refine MC.of pfX0_pin rfl (fun h => by cases h) 0 rfl rfl ?_
  unfold sp_pin
  refine gs_ald0 (pc := 0) dX0_pin_0 ?_
  refine gs_ild1 (pc := 1) dX0_pin_1 ?_
  refine gs_V1 (pc := 2) dX0_pin_2 kX0_145 e1 clX0 (by decide) (Nat.le_of_ble_eq_true rfl) (c_isLine e1 e2s hi) (fun v hp1 hq => ?_)
  obtain ⟨rfl, rfl⟩ := hq
  refine gs_bne (pc := 5) (tgt := 10) dX0_pin_5 (by decide) (fun h1 => ?_) (fun h1 => ?_)
  rotate_left
  · rw [inB_isL] at h1
    rw [if_neg (by rw [h1]; decide)]
    refine gs_iconst (pc := 8) dX0_pin_8 ?_
    refine gs_iret (pc := 9) dX0_pin_9 rfl ?_
    exact ⟨_, rfl, rfl, same_po hR'⟩
  rw [inB_isL] at h1
  rw [if_pos h1]
  obtain ⟨n, rfl, hn⟩ := isL_nat h1
  rw [Int.toNat_natCast]
  obtain ⟨n1, n2, n3⟩ := bg_st ⟨_, _, e1⟩ e2 e3
  refine gs_ald0 (pc := 10) dX0_pin_10 ?_
  refine gs_V0v (pc := 11) dX0_pin_11 kX0_139 e1 clX0 (by decide) (Nat.le_of_ble_eq_true rfl) (c_begins hX hO e1 e2 e3) (fun hz hq => ?_)
  obtain ⟨ps', z1, z2, z3, z4, z5, z6⟩ := hq
  have es := e2s.fr hX z3 n3 n1 n2
  have hxn : n < xs.length := by rw [es.2.2.2.1]; exact hn
  obtain ⟨cc, cl, cs, cn⟩ := es.2.2.2.2.2.1 n hxn
  have hcx := cls_ne z1 cl (by decide)
  have hed : ∀ b : Bool, stA X (hset hz (xs.getD n 0) (s + 2, .inr (3, [vI (lnA A.1 n).1, vR (some cc), vI (b2i b)]))) s (upL A.1 n ((lnA A.1 n).1, (lnA A.1 n).2.1, b)) xs cap ra f ∧ RC X (hset hz (xs.getD n 0) (s + 2, .inr (3, [vI (lnA A.1 n).1, vR (some cc), vI (b2i b)]))) c (chg A (upL A.1 n ((lnA A.1 n).1, (lnA A.1 n).2.1, b))) ∧ FrM X hz (hset hz (xs.getD n 0) (s + 2, .inr (3, [vI (lnA A.1 n).1, vR (some cc), vI (b2i b)]))) := by
    intro b
    obtain ⟨g1, g2⟩ := es.setL (l' := ((lnA A.1 n).1, (lnA A.1 n).2.1, b)) hX hxn cs cn
    exact ⟨g1, RC.edit (A := A) hX z1 z2 ⟨_, _, _, _, es⟩ (g2.mono (fun l hl => Or.inl hl)) ⟨_, _, _, _, g1⟩⟩
  have hn' : ∀ l : Ln, n < (upL A.1 n l).1.length := fun l => by unfold upL; rw [List.length_set]; exact hn
  refine gs_ald0 (pc := 14) dX0_pin_14 ?_
  refine gs_ild1 (pc := 15) dX0_pin_15 ?_
  refine gs_V1 (pc := 16) dX0_pin_16 kX0_149 z1 clX0 (by decide) (Nat.le_of_ble_eq_true rfl) (c_line z1 es hn) (fun v hp1 hq => ?_)
  obtain ⟨rfl, rfl⟩ := hq
  refine gs_ald0 (pc := 19) dX0_pin_19 ?_
  refine gs_ild1 (pc := 20) dX0_pin_20 ?_
  refine gs_V1 (pc := 21) dX0_pin_21 kX0_149 z1 clX0 (by decide) (Nat.le_of_ble_eq_true rfl) (c_line z1 es hn) (fun v hp1 hq => ?_)
  obtain ⟨rfl, rfl⟩ := hq
  refine gs_getfN (pc := 24) 2 dX0_pin_24 cl clX3 in_X3 (by decide) q281 (Or.inl rfl) rfl ?_
  cases hb : (lnA A.1 n).2.2 with
  | true =>
    rw [show pinB A.1 n = true from hb]
    refine gs_bne (pc := 27) (tgt := 34) dX0_pin_27 (by decide) (fun _ => ?_) (fun hn => absurd ((rfl : _ = true).symm.trans hn) (by decide))
    refine gs_iconst (pc := 34) dX0_pin_34 ?_
    refine gs_putfN (pc := 35) 2 (.inr (3, [vI (lnA A.1 n).1, vR (some cc), vI 0])) dX0_pin_35 cl (by omega) clX3 in_X3 tyX3 tyX3_ok nmX3 (by decide) q281 (Or.inl rfl) rfl (fok_bool (Or.inl rfl)) (Nat.le_of_ble_eq_true rfl) rfl ?_
    obtain ⟨g1, g2, g3⟩ := hed false
    have z1' := (gl_set_ne (c := (s + 2, .inr (3, [vI (lnA A.1 n).1, vR (some cc), vI 0]))) hcx).trans z1
    have cl' := gl_set_self (c := (s + 2, .inr (3, [vI (lnA A.1 n).1, vR (some cc), vI 0]))) cl (by omega)
    refine gs_ald0 (pc := 38) dX0_pin_38 ?_
    refine gs_ild1 (pc := 39) dX0_pin_39 ?_
    refine gs_V1 (pc := 40) dX0_pin_40 kX0_149 z1' clX0 (by decide) (Nat.le_of_ble_eq_true rfl) (c_line z1' g1 (hn' _)) (fun v hp1 hq => ?_)
    obtain ⟨rfl, rfl⟩ := hq
    refine gs_getfN (pc := 43) 2 dX0_pin_43 cl' clX3 in_X3 (by decide) q281 (Or.inl rfl) rfl ?_
    refine gs_if_eq (pc := 46) (tgt := 53) dX0_pin_46 (by decide) (by omega) (fun _ => ?_) (fun hn => absurd rfl hn)
    refine gs_iconst (pc := 53) dX0_pin_53 ?_
    refine gs_iret (pc := 54) dX0_pin_54 rfl ?_
    exact ⟨_, rfl, rfl, g2, z4.trans g3, by show hz.1 ≤ _; omega, by show hz.2.1 ≤ _; omega⟩
  | false =>
    rw [show pinB A.1 n = false from hb]
    refine gs_bne (pc := 27) (tgt := 34) dX0_pin_27 (by decide) (fun hn => absurd ((rfl : _ = false).symm.trans hn) (by decide)) (fun _ => ?_)
    refine gs_iconst (pc := 30) dX0_pin_30 ?_
    refine gs_goto (pc := 31) (tgt := 35) dX0_pin_31 (by decide) ?_
    refine gs_putfN (pc := 35) 2 (.inr (3, [vI (lnA A.1 n).1, vR (some cc), vI 1])) dX0_pin_35 cl (by omega) clX3 in_X3 tyX3 tyX3_ok nmX3 (by decide) q281 (Or.inl rfl) rfl (fok_bool (Or.inr rfl)) (Nat.le_of_ble_eq_true rfl) rfl ?_
    obtain ⟨g1, g2, g3⟩ := hed true
    have z1' := (gl_set_ne (c := (s + 2, .inr (3, [vI (lnA A.1 n).1, vR (some cc), vI 1]))) hcx).trans z1
    have cl' := gl_set_self (c := (s + 2, .inr (3, [vI (lnA A.1 n).1, vR (some cc), vI 1]))) cl (by omega)
    refine gs_ald0 (pc := 38) dX0_pin_38 ?_
    refine gs_ild1 (pc := 39) dX0_pin_39 ?_
    refine gs_V1 (pc := 40) dX0_pin_40 kX0_149 z1' clX0 (by decide) (Nat.le_of_ble_eq_true rfl) (c_line z1' g1 (hn' _)) (fun v hp1 hq => ?_)
    obtain ⟨rfl, rfl⟩ := hq
    refine gs_getfN (pc := 43) 2 dX0_pin_43 cl' clX3 in_X3 (by decide) q281 (Or.inl rfl) rfl ?_
    refine gs_if_eq (pc := 46) (tgt := 53) dX0_pin_46 (by decide) (by omega) (fun hn => absurd hn (by decide)) (fun _ => ?_)
    refine gs_iconst (pc := 49) dX0_pin_49 ?_
    refine gs_goto (pc := 50) (tgt := 54) dX0_pin_50 (by decide) ?_
    refine gs_iret (pc := 54) dX0_pin_54 rfl ?_
    exact ⟨_, rfl, rfl, g2, z4.trans g3, by show hz.1 ≤ _; omega, by show hz.2.1 ≤ _; omega⟩
/-- the text buffer in the component -/
def txC (X : gCx) (hp : gHp) (c tb : Nat) (fT : Int → Int) (t : List Int) : Prop := gl X hp tb = some (c + 2, .inl (2, 72, .inl fT)) ∧ t.length ≤ 72 ∧ (∀ z ∈ t, 32 ≤ z ∧ z ≤ 126) ∧ ∀ k : Nat, k < t.length → fT k = t.getD k 0
theorem rcB.tx (hO : asOk A) (h : rcB X hp c s pa ia tb ps fI fT A) : txC X hp c tb fT A.2.2.2.2 := ⟨h.2.2.2.2.2.2.1, hO.2.2.2.2.1, hO.2.2.2.2.2, h.2.2.2.2.2.2.2.1⟩
theorem txC.at {k : Nat} (h : txC X hp c tb fT t) (hk : k < t.length) : fT k = t.getD k (-9) ∧ 32 ≤ t.getD k (-9) ∧ t.getD k (-9) ≤ 126 := by
  have h1 := h.2.2.2 k hk
  rw [getD_in hk] at h1 ⊢
  exact ⟨h1, h.2.2.1 _ (List.getElem_mem hk)⟩
theorem sub_s {lo k : Nat} (h1 : lo ≤ k) (hk : k < t.length) : (t.drop lo).take (k + 1 - lo) = (t.drop lo).take (k - lo) ++ [t.getD k (-9)] := by
  rw [show k + 1 - lo = (k - lo) + 1 by omega, take_s (t.drop lo) (k - lo) (by rw [List.length_drop]; omega), List.getElem_drop, getD_in hk]
  congr 2
  exact getElem_congr_idx (by omega)
theorem c_cut {lo hi : Nat} {len : Nat} (e1 : gl X hp c = some (rcC c s pa ia tb len w ch at_ fa dr)) (ht : txC X hp c tb fT t) (h1 : lo ≤ hi) (h2 : hi ≤ t.length) : MV X yX0_cut fX0_cut 7 [vR (some c), vI (lo : Int), vI (hi : Int)] hp (fun v hp' => ∃ r, v = vR (some r) ∧ FrN X hp hp' ∧ isS X hp' r ((t.drop lo).take (hi - lo)) ∧ isN X hp' r ∧ hp'.1 ≤ hp.1 + 160 ∧ hp'.2.1 ≤ hp.2.1 + 400) := by
  refine MC.of pfX0_cut rfl (fun h => by cases h) 2 rfl rfl ?_
  have hclt := gl_lt e1
  have h72 := ht.2.1
  refine gs_new (pc := 0) (nx X hp + 2) dfJ4 dX0_cut_0 clJ4 in_J4 tyJ4 tyJ4_ok q293 q294 q104 dfoJ4 ?_
  have hF : FrN X hp (hnew X hp 4 (nx X hp + 2, Sum.inr (10, dfJ4))) := Fr.new Fr.refl
  have g1 : gl X (hnew X hp 4 (nx X hp + 2, Sum.inr (10, dfJ4))) (nx X hp) = some (nx X hp + 2, .inr (10, dfJ4)) := gl_new_self
  have hc1 : (hnew X hp 4 (nx X hp + 2, Sum.inr (10, dfJ4))).1 = hp.1 + 1 := rfl
  have hc2 : (hnew X hp 4 (nx X hp + 2, Sum.inr (10, dfJ4))).2.1 = hp.2.1 + 4 := rfl
  generalize hnew X hp 4 (nx X hp + 2, Sum.inr (10, dfJ4)) = ha at *
  refine gs_dup (pc := 3) dX0_cut_3 rfl ?_
  refine gs_I0v (pc := 4) dX0_cut_4 kX0_117 (by decide) (Nat.le_of_ble_eq_true rfl) (c_sbInit g1) (fun hb hq => ?_)
  obtain ⟨b1, b2, b3, b4⟩ := hq
  refine gs_ast3 (pc := 7) dX0_cut_7 rfl ?_
  refine gs_ild1 (pc := 8) dX0_cut_8 ?_
  refine gs_ist4 (pc := 9) dX0_cut_9 rfl ?_
  have loop : ∀ (r k : Nat) (h : gHp) (cap : Nat), k + r = hi → lo ≤ k → FrN X hp h → isSB X h (nx X hp) ((t.drop lo).take (k - lo)) cap → h.1 + 14 ≤ hp.1 + cap → h.2.1 + 12 ≤ hp.2.1 + 2 * cap → G X fX0_cut 7 11 [some (vR (some c)), some (vI (lo : Int)), some (vI (hi : Int)), some (vR (some (nx X hp))), some (vI (k : Int))] [] h (fun v hp' => ∃ u, v = some u ∧ ∃ r, u = vR (some r) ∧ FrN X hp hp' ∧ isS X hp' r ((t.drop lo).take (hi - lo)) ∧ isN X hp' r ∧ hp'.1 ≤ hp.1 + 160 ∧ hp'.2.1 ≤ hp.2.1 + 400) := by
    intro r
    induction r with
    | zero =>
      intro k h cap hk hlo hf hs q1 q2
      obtain rfl : k = hi := by omega
      have hs' := hs
      obtain ⟨-, -, -, s4, b, ff, es, -⟩ := hs
      have hlen : ((t.drop lo).take (k - lo)).length = k - lo := getD_take_drop_len (by omega)
      refine gs_ild4 (pc := 11) dX0_cut_11 ?_
      refine gs_ild2 (pc := 13) dX0_cut_13 ?_
      refine gs_ic_ge (pc := 14) (tgt := 36) dX0_cut_14 (by decide) (by omega) (fun _ => ?_) (fun hn => absurd (by omega) hn)
      refine gs_ald3 (pc := 36) dX0_cut_36 ?_
      refine gs_V0 (pc := 37) dX0_cut_37 kX0_122 es clJ4 (by decide) (Nat.le_of_ble_eq_true rfl) (c_sbStr hs' (by omega)) (fun v hq hq => ?_)
      obtain ⟨r, rfl, ⟨s1, s2, s3, s5, s6⟩, -⟩ := hq
      refine gs_aret (pc := 40) dX0_cut_40 rfl (Or.inl ⟨_, rfl⟩) ?_
      exact ⟨_, rfl, r, rfl, hf.f0 s1, s5, s6, by omega, by omega⟩
    | succ r ih =>
      intro k h cap hk hlo hf hs q1 q2
      have hs' := hs
      obtain ⟨-, -, -, s4, b, ff, es, -⟩ := hs
      have hlen : ((t.drop lo).take (k - lo)).length = k - lo := getD_take_drop_len (by omega)
      have ec := hf.at e1 (by unfold frs; omega)
      have et := hf.at ht.1 (by unfold frs; omega)
      obtain ⟨k1, k2, k3⟩ := ht.at (show k < t.length by omega)
      refine gs_ild4 (pc := 11) dX0_cut_11 ?_
      refine gs_ild2 (pc := 13) dX0_cut_13 ?_
      refine gs_ic_ge (pc := 14) (tgt := 36) dX0_cut_14 (by decide) (by omega) (fun hn => absurd hn (by omega)) (fun _ => ?_)
      refine gs_ald3 (pc := 17) dX0_cut_17 ?_
      refine gs_ald0 (pc := 18) dX0_cut_18 ?_
      refine gs_getf (pc := 19) 3 dX0_cut_19 ec clX0 in_X0 (by decide) q214 (Or.inl rfl) rfl ?_
      refine gs_ild4 (pc := 22) dX0_cut_22 ?_
      refine gs_bald (pc := 24) dX0_cut_24 et (by omega) (by omega) ?_
      rw [k1]
      refine gs_i2c (pc := 25) dX0_cut_25 (i_c2 (by omega)) ?_
      refine gs_V1 (pc := 26) dX0_cut_26 kX0_118 es clJ4 (by decide) (Nat.le_of_ble_eq_true rfl) (c_sbC hs' (by omega) (by omega)) (fun v hq hq => ?_)
      obtain ⟨rfl, cap2, g1, g2, g3, g4, g5⟩ := hq
      refine gs_pop (pc := 29) dX0_cut_29 rfl ?_
      refine gs_inc4 (pc := 30) dX0_cut_30 rfl ?_
      refine gs_goto (pc := 33) (tgt := 11) dX0_cut_33 (by decide) ?_
      rw [← sub_s hlo (by omega)] at g5
      exact ih (k + 1) hq cap2 (by omega) (by omega) (hf.to (Nat.le_refl _) g1) g5 (by omega) (by omega)
  exact loop (hi - lo) lo hb 16 (by omega) (by omega) (hF.to (Nat.le_refl _) b1) (by rw [Nat.sub_self, List.take_zero]; exact b4) (by omega) (by omega)
end C7
