/-! THE COMPONENT: texts of rules are read; a rule is laid. -/
section CF
variable {X : gCx} {hp hp1 hp2 hz : gHp} {S0 : Nat → Prop} {S S' T : SS} {A A' : AS} {a c s cap cap' ra pa ia tb n g j k len : Nat} {xs xs' ps : List Nat} {f fI : Int → Option Nat} {fT fT' : Int → Int} {w ch : Option Nat} {at_ fa dr d at' fa' : Int} {L : List Ln} {t : List Int}
/-- only c's own cell has changed: its reading place and fault -/
def aF (X : gCx) (hp hp1 : gHp) (c s pa ia tb len : Nat) (w ch : Option Nat) (at_ fa dr : Int) : Prop := gl X hp1 c = some (rcC c s pa ia tb len w ch at_ fa dr) ∧ (∀ b, b ≠ c → gl X hp1 b = gl X hp b) ∧ hp1.1 = hp.1 ∧ hp1.2.1 = hp.2.1
theorem aF.set (h : aF X hp hp1 c s pa ia tb len w ch at_ fa dr) : aF X hp (hset hp1 c (rcC c s pa ia tb len w ch at' fa' dr)) c s pa ia tb len w ch at' fa' dr := ⟨gl_set_self h.1 (by omega), fun b hb => by rw [gl_set_ne hb]; exact h.2.1 b hb, h.2.2.1, h.2.2.2⟩
theorem aF.refl (h : gl X hp c = some (rcC c s pa ia tb len w ch at_ fa dr)) : aF X hp hp c s pa ia tb len w ch at_ fa dr := ⟨h, fun _ _ => rfl, rfl, rfl⟩
theorem aF.trans (h : aF X hp hp1 c s pa ia tb len w ch at_ fa dr) (h' : aF X hp1 hp2 c s pa ia tb len w ch at' fa' dr) : aF X hp hp2 c s pa ia tb len w ch at' fa' dr := ⟨h'.1, fun b hb => (h'.2.1 b hb).trans (h.2.1 b hb), h'.2.2.1.trans h.2.2.1, h'.2.2.2.trans h.2.2.2⟩
theorem aF.fr (e1 : gl X hp c = some (rcC c s pa ia tb len w ch at_ fa dr)) (h : aF X hp hp1 c s pa ia tb len w ch at' fa' dr) : Fr X (fun l => l = c + 2) hp hp1 := ln_fr e1 h.2.2.1 h.2.2.2 h.1 h.2.1
theorem aF.tx (h : aF X hp hp1 c s pa ia tb len w ch at_ fa dr) (e1 : isO X hp c 0) (ht : txC X hp c tb fT t) : txC X hp1 c tb fT t := by
  have : tb ≠ c := fun e => by obtain ⟨lb, fs, e1⟩ := e1; have := ht.1; rw [e, e1] at this; cases this
  exact ⟨by rw [h.2.1 tb this]; exact ht.1, ht.2⟩
theorem c_skips (e1 : gl X hp c = some (rcC c s pa ia tb t.length w ch (k : Int) fa dr)) (ht : txC X hp c tb fT t) (hk : k ≤ t.length) : M0 X yX0_skips fX0_skips 1 [vR (some c)] hp (fun hp' => aF X hp hp' c s pa ia tb t.length w ch ((k + lead (t.drop k) : Nat) : Int) fa dr) := by
  refine MC.of pfX0_skips rfl (fun h => by cases h) 0 rfl rfl ?_
  have h72 := ht.2.1
  have loop : ∀ (r q : Nat) (h : gHp), q + r = t.length → k + lead (t.drop k) = q + lead (t.drop q) → aF X hp h c s pa ia tb t.length w ch (q : Int) fa dr → G X fX0_skips 1 0 [some (vR (some c))] [] h (fun r hp' => r = none ∧ aF X hp hp' c s pa ia tb t.length w ch ((k + lead (t.drop k) : Nat) : Int) fa dr) := by
    intro r
    induction r with
    | zero =>
      intro q h hq he ha
      rw [List.drop_eq_nil_of_le (show t.length ≤ q by omega)] at he
      have he : k + lead (t.drop k) = q := he
      rw [he]
      refine gs_ald0 (pc := 0) dX0_skips_0 ?_
      refine gs_getf (pc := 1) 7 dX0_skips_1 ha.1 clX0 in_X0 (by decide) q218 (Or.inl rfl) rfl ?_
      refine gs_ald0 (pc := 4) dX0_skips_4 ?_
      refine gs_getf (pc := 5) 4 dX0_skips_5 ha.1 clX0 in_X0 (by decide) q215 (Or.inl rfl) rfl ?_
      refine gs_ic_ge (pc := 8) (tgt := 38) dX0_skips_8 (by decide) (by omega) (fun _ => ?_) (fun hn => absurd (by omega) hn)
      refine gs_vret (pc := 38) dX0_skips_38 rfl ?_
      exact ⟨rfl, ha⟩
    | succ r ih =>
      intro q h hq he ha
      have hth := ha.tx ⟨_, _, e1⟩ ht
      obtain ⟨k1, k2, k3⟩ := ht.at (show q < t.length by omega)
      refine gs_ald0 (pc := 0) dX0_skips_0 ?_
      refine gs_getf (pc := 1) 7 dX0_skips_1 ha.1 clX0 in_X0 (by decide) q218 (Or.inl rfl) rfl ?_
      refine gs_ald0 (pc := 4) dX0_skips_4 ?_
      refine gs_getf (pc := 5) 4 dX0_skips_5 ha.1 clX0 in_X0 (by decide) q215 (Or.inl rfl) rfl ?_
      refine gs_ic_ge (pc := 8) (tgt := 38) dX0_skips_8 (by decide) (by omega) (fun hn => absurd hn (by omega)) (fun _ => ?_)
      refine gs_ald0 (pc := 11) dX0_skips_11 ?_
      refine gs_getf (pc := 12) 3 dX0_skips_12 ha.1 clX0 in_X0 (by decide) q214 (Or.inl rfl) rfl ?_
      refine gs_ald0 (pc := 15) dX0_skips_15 ?_
      refine gs_getf (pc := 16) 7 dX0_skips_16 ha.1 clX0 in_X0 (by decide) q218 (Or.inl rfl) rfl ?_
      refine gs_bald (pc := 19) dX0_skips_19 hth.1 (by omega) (by omega) ?_
      rw [k1]
      refine gs_bipush (pc := 20) dX0_skips_20 rfl ?_
      refine gs_ic_ne (pc := 22) (tgt := 38) dX0_skips_22 (by decide) (by omega) (fun h1 => ?_) (fun h1 => ?_)
      · rw [lead_end h1] at he
        rw [he]
        refine gs_vret (pc := 38) dX0_skips_38 rfl ?_
        exact ⟨rfl, ha⟩
      · rw [lead_next (t := t) (k := q) (by omega)] at he
        refine gs_ald0 (pc := 25) dX0_skips_25 ?_
        refine gs_dup (pc := 26) dX0_skips_26 rfl ?_
        refine gs_getf (pc := 27) 7 dX0_skips_27 ha.1 clX0 in_X0 (by decide) q218 (Or.inl rfl) rfl ?_
        refine gs_iconst (pc := 30) dX0_skips_30 ?_
        refine gs_iadd (pc := 31) dX0_skips_31 ?_
        refine gs_putf (pc := 32) 7 (rcC c s pa ia tb t.length w ch ((q + 1 : Nat) : Int) fa dr).2 dX0_skips_32 ha.1 (by omega) clX0 in_X0 tyX0 tyX0_ok nmX0 (by decide) q218 (Or.inl rfl) rfl (fok_int _) (Nat.le_of_ble_eq_true rfl) rfl ?_
        refine gs_goto (pc := 35) (tgt := 0) dX0_skips_35 (by decide) ?_
        exact ih (q + 1) _ (by omega) (by omega) ha.set
  exact loop (t.length - k) k hp (by omega) rfl (aF.refl e1)
theorem c_isOver (e1 : gl X hp c = some (rcC c s pa ia tb t.length w ch (k : Int) fa dr)) (ht : txC X hp c tb fT t) (hk : k ≤ t.length) : MV X yX0_isOver fX0_isOver 2 [vR (some c)] hp (fun v hp' => v = vI (b2i (rdE t k).isNone) ∧ aF X hp hp' c s pa ia tb t.length w ch ((k + lead (t.drop k) : Nat) : Int) ((k + lead (t.drop k) : Nat) : Int) dr) := by
  refine MC.of pfX0_isOver rfl (fun h => by cases h) 0 rfl rfl ?_
  have h72 := ht.2.1
  have hld := lead_le (t := t.drop k)
  rw [List.length_drop] at hld
  refine gs_ald0 (pc := 0) dX0_isOver_0 ?_
  refine gs_V0v (pc := 1) dX0_isOver_1 kX0_231 e1 clX0 (by decide) (Nat.le_of_ble_eq_true rfl) (c_skips e1 ht hk) (fun hq ha => ?_)
  unfold rdE
  generalize hqq : k + lead (t.drop k) = q at *
  have hqt : q ≤ t.length := by omega
  refine gs_ald0 (pc := 4) dX0_isOver_4 ?_
  refine gs_ald0 (pc := 5) dX0_isOver_5 ?_
  refine gs_getf (pc := 6) 7 dX0_isOver_6 ha.1 clX0 in_X0 (by decide) q218 (Or.inl rfl) rfl ?_
  refine gs_putf (pc := 9) 8 (rcC c s pa ia tb t.length w ch (q : Int) (q : Int) dr).2 dX0_isOver_9 ha.1 (by omega) clX0 in_X0 tyX0 tyX0_ok nmX0 (by decide) q219 (Or.inl rfl) rfl (fok_int _) (Nat.le_of_ble_eq_true rfl) rfl ?_
  have ha2 := ha.set (at' := (q : Int)) (fa' := (q : Int))
  refine gs_ald0 (pc := 12) dX0_isOver_12 ?_
  refine gs_getf (pc := 13) 7 dX0_isOver_13 ha2.1 clX0 in_X0 (by decide) q218 (Or.inl rfl) rfl ?_
  refine gs_ald0 (pc := 16) dX0_isOver_16 ?_
  refine gs_getf (pc := 17) 4 dX0_isOver_17 ha2.1 clX0 in_X0 (by decide) q215 (Or.inl rfl) rfl ?_
  refine gs_ic_ne (pc := 20) (tgt := 27) dX0_isOver_20 (by decide) (by omega) (fun h1 => ?_) (fun h1 => ?_)
  · refine gs_iconst (pc := 27) dX0_isOver_27 ?_
    refine gs_zret (pc := 28) .boolean dX0_isOver_28 rfl rfl ?_
    exact ⟨_, rfl, by rw [if_neg (by omega)]; rfl, ha2⟩
  · refine gs_iconst (pc := 23) dX0_isOver_23 ?_
    refine gs_goto (pc := 24) (tgt := 28) dX0_isOver_24 (by decide) ?_
    refine gs_zret (pc := 28) .boolean dX0_isOver_28 rfl rfl ?_
    exact ⟨_, rfl, by rw [if_pos (by omega)]; rfl, ha2⟩
theorem c_isRule {r q : Int} (hr : i32 r) (hq : i32 q) : MV X yX0_isRule fX0_isRule 2 [vI r, vI q] hp (fun v hp' => v = vI (b2i (rlB r q)) ∧ hp = hp') := by
  refine MC.of pfX0_isRule rfl (fun h => by cases h) 0 rfl rfl ?_
  unfold rlB
  refine gs_ild0 (pc := 0) dX0_isRule_0 ?_
  refine gs_iconst (pc := 1) dX0_isRule_1 ?_
  refine gs_bipush (pc := 2) dX0_isRule_2 rfl ?_
  refine gs_S3 (pc := 4) dX0_isRule_4 kX0_1 (by decide) (Nat.le_of_ble_eq_true rfl) (c_isIn hr (by decide) (by decide)) (fun v hp1 hq => ?_)
  obtain ⟨rfl, rfl⟩ := hq
  refine gs_beq (pc := 7) (tgt := 24) dX0_isRule_7 (by decide) (fun h1 => ?_) (fun h1 => ?_)
  · refine gs_iconst (pc := 24) dX0_isRule_24 ?_
    refine gs_zret (pc := 25) .boolean dX0_isRule_25 rfl rfl ?_
    exact ⟨_, rfl, by rw [h1]; rfl, rfl⟩
  · refine gs_ild1 (pc := 10) dX0_isRule_10 ?_
    refine gs_iconst (pc := 11) dX0_isRule_11 ?_
    refine gs_bipush (pc := 12) dX0_isRule_12 rfl ?_
    refine gs_S3 (pc := 14) dX0_isRule_14 kX0_1 (by decide) (Nat.le_of_ble_eq_true rfl) (c_isIn hq (by decide) (by decide)) (fun v hp1 hq => ?_)
    obtain ⟨rfl, rfl⟩ := hq
    refine gs_beq (pc := 17) (tgt := 24) dX0_isRule_17 (by decide) (fun h2 => ?_) (fun h2 => ?_)
    · refine gs_iconst (pc := 24) dX0_isRule_24 ?_
      refine gs_zret (pc := 25) .boolean dX0_isRule_25 rfl rfl ?_
      exact ⟨_, rfl, by rw [h1, h2]; rfl, rfl⟩
    · refine gs_iconst (pc := 20) dX0_isRule_20 ?_
      refine gs_goto (pc := 21) (tgt := 25) dX0_isRule_21 (by decide) ?_
      refine gs_zret (pc := 25) .boolean dX0_isRule_25 rfl rfl ?_
      exact ⟨_, rfl, by rw [h1, h2]; rfl, rfl⟩
theorem c_lay {q : Nat} {R : Rl} (hX : KX X) (hO : asOk A) (hn : n < 12) (e1 : gl X hp c = some (rcC c s pa ia tb A.2.2.2.2.length w ch at_ fa dr)) (e2 : isSta X hp s A.1) (e3 : rcB X hp c s pa ia tb ps fI fT A) (hq : isRl X hp q R) : MV X yX0_lay fX0_lay 10 [vR (some c), vI (n : Int), vR (some q)] hp (fun v hp' => v = vI (lay A n R).1 ∧ RC X hp' c (lay A n R).2 ∧ FrM X hp hp' ∧ hp'.1 ≤ hp.1 + 200 ∧ hp'.2.1 ≤ hp.2.1 + 800) := by
  refine MC.of pfX0_lay rfl (fun h => by cases h) 1 rfl rfl ?_
  have e2' := e2
  obtain ⟨xs, cap, ra, f, es⟩ := e2'
  obtain ⟨n1, n2, n3⟩ := bg_st ⟨_, _, e1⟩ e2 e3
  refine gs_ald0 (pc := 0) dX0_lay_0 ?_
  refine gs_V0v (pc := 1) dX0_lay_1 kX0_139 e1 clX0 (by decide) (Nat.le_of_ble_eq_true rfl) (c_begins hX hO e1 e2 e3) (fun hz hq => ?_)
  obtain ⟨ps', z1, z2, z3, z4, z5, z6⟩ := hq
  have esz := es.fr hX z3 n3 n1 n2
  have hqz := hq.fr z3 n3
  obtain ⟨k1, k2⟩ := esz.setR (n := n) (o := some R) (q := some q) hX hn (Or.inr ⟨R, q, rfl, rfl, hqz⟩)
  have hed := RC.edit (A := A) hX z1 z2 ⟨_, _, _, _, esz⟩ (k2.mono (fun l hl => Or.inl hl)) ⟨_, _, _, _, k1⟩
  obtain ⟨tq, kq, cq, -⟩ := hqz
  have k21 : ∀ z : Int, z = b2i (A.1.2.1 n).isSome → G X fX0_lay 10 21 [some (vR (some c)), some (vI (n : Int)), some (vR (some q)), none] [vI z] hz (fun r hp' => ∃ v, r = some v ∧ v = vI (lay A n R).1 ∧ RC X hp' c (lay A n R).2 ∧ FrM X hp hp' ∧ hp'.1 ≤ hp.1 + 200 ∧ hp'.2.1 ≤ hp.2.1 + 800) := by
    intro z hzz
    refine gs_ist3 (pc := 21) dX0_lay_21 rfl ?_
    refine gs_ald0 (pc := 22) dX0_lay_22 ?_
    refine gs_getf (pc := 23) 0 dX0_lay_23 z1 clX0 in_X0 (by decide) q211 (Or.inl rfl) rfl ?_
    refine gs_getfN (pc := 26) 1 dX0_lay_26 esz.1 clX1 in_X1 (by decide) q189 (Or.inl rfl) rfl ?_
    refine gs_ild1 (pc := 29) dX0_lay_29 ?_
    refine gs_ald2 (pc := 30) dX0_lay_30 ?_
    refine gs_aast (pc := 31) 5 (by decide) rfl dX0_lay_31 esz.2.2.2.2.2.2.1 (by omega) ⟨_, 7, _, RX7, TX7, 7, cq, rfl, Or.inl rfl⟩ (by omega) (by omega) ?_
    refine gs_ild3 (pc := 32) dX0_lay_32 ?_
    refine gs_iret (pc := 33) dX0_lay_33 rfl ?_
    refine ⟨_, rfl, ?_, ?_, z4.trans hed.2, z5, z6⟩
    · unfold lay; rw [hzz, Int.toNat_natCast]
    · unfold lay; rw [Int.toNat_natCast]; exact hed.1
  refine gs_ald0 (pc := 4) dX0_lay_4 ?_
  refine gs_getf (pc := 5) 0 dX0_lay_5 z1 clX0 in_X0 (by decide) q211 (Or.inl rfl) rfl ?_
  refine gs_getfN (pc := 8) 1 dX0_lay_8 esz.1 clX1 in_X1 (by decide) q189 (Or.inl rfl) rfl ?_
  refine gs_ild1 (pc := 11) dX0_lay_11 ?_
  refine gs_aald (pc := 12) 5 (by decide) dX0_lay_12 esz.2.2.2.2.2.2.1 (by omega) (by omega) ?_
  rcases esz.2.2.2.2.2.2.2 n hn with ⟨g1, g2⟩ | ⟨R', q', g1, g2, -⟩
  · rw [g2]
    refine gs_ifnonnull (pc := 13) (tgt := 20) dX0_lay_13 (by decide) (fun _ h => by cases h) (fun _ => ?_)
    refine gs_iconst (pc := 16) dX0_lay_16 ?_
    refine gs_goto (pc := 17) (tgt := 21) dX0_lay_17 (by decide) ?_
    exact k21 _ (by rw [g1]; rfl)
  · rw [g2]
    refine gs_ifnonnull (pc := 13) (tgt := 20) dX0_lay_13 (by decide) (fun _ _ => ?_) (fun h => by cases h)
    refine gs_iconst (pc := 20) dX0_lay_20 ?_
    exact k21 _ (by rw [g1]; rfl)
end CF
