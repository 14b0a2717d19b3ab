/-! THE COMPONENT: pairs, starters, joiners. -/
section CJ
variable {X : gCx} {hp hp1 hp2 hz : gHp} {S0 : Nat → Prop} {S S' T : SS} {A A' : AS} {a c s cap cap' ra pa ia tb n g j k len : Nat} {xs xs' ps : List Nat} {f fI : Int → Option Nat} {fT fT' : Int → Int} {w ch : Option Nat} {at_ fa dr d at' fa' : Int} {L : List Ln} {t : List Int}
theorem c_starter {r q z : Int} (hX : KX X) (hR : RC X hp c A) (hO : asOk A) (hr : i32 r) (hq : i32 q) (hz : i32 z) : MV X yX0_starter fX0_starter 12 [vR (some c), vI r, vI q, vI z] hp (cPo X hp c (sp_single A 2 r q z)) := by
  have hR' := hR
  obtain ⟨s, pa, ia, tb, w, ch, at_, fa, dr, ps, fI, fT, e1, -⟩ := hR
  refine MC.of pfX0_starter rfl (fun h => by cases h) 0 rfl rfl ?_
  refine gs_ald0 (pc := 0) dX0_starter_0 ?_
  refine gs_iconst (pc := 1) dX0_starter_1 ?_
  refine gs_ild1 (pc := 2) dX0_starter_2 ?_
  refine gs_ild2 (pc := 3) dX0_starter_3 ?_
  refine gs_ild3 (pc := 4) dX0_starter_4 ?_
  refine gs_V4 (pc := 5) dX0_starter_5 kX0_259 e1 clX0 (by decide) (Nat.le_of_ble_eq_true rfl) (c_single hX hR' hO (Or.inl rfl) hr hq hz) (fun v hp1 hq => ?_)
  obtain ⟨rfl, h1⟩ := hq
  refine gs_iret (pc := 8) dX0_starter_8 rfl ?_
  exact ⟨_, rfl, rfl, h1⟩
theorem c_joiner {r q z : Int} (hX : KX X) (hR : RC X hp c A) (hO : asOk A) (hr : i32 r) (hq : i32 q) (hz : i32 z) : MV X yX0_joiner fX0_joiner 12 [vR (some c), vI r, vI q, vI z] hp (cPo X hp c (sp_single A 3 r q z)) := by
  have hR' := hR
  obtain ⟨s, pa, ia, tb, w, ch, at_, fa, dr, ps, fI, fT, e1, -⟩ := hR
  refine MC.of pfX0_joiner rfl (fun h => by cases h) 0 rfl rfl ?_
  refine gs_ald0 (pc := 0) dX0_joiner_0 ?_
  refine gs_iconst (pc := 1) dX0_joiner_1 ?_
  refine gs_ild1 (pc := 2) dX0_joiner_2 ?_
  refine gs_ild2 (pc := 3) dX0_joiner_3 ?_
  refine gs_ild3 (pc := 4) dX0_joiner_4 ?_
  refine gs_V4 (pc := 5) dX0_joiner_5 kX0_259 e1 clX0 (by decide) (Nat.le_of_ble_eq_true rfl) (c_single hX hR' hO (Or.inr rfl) hr hq hz) (fun v hp1 hq => ?_)
  obtain ⟨rfl, h1⟩ := hq
  refine gs_iret (pc := 8) dX0_joiner_8 rfl ?_
  exact ⟨_, rfl, rfl, h1⟩
theorem c_pair {r q z m o : Int} (hX : KX X) (hR : RC X hp c A) (hO : asOk A) (hr : i32 r) (hq : i32 q) (hz : i32 z) (hm : i32 m) (ho : i32 o) : MV X yX0_pair fX0_pair 12 [vR (some c), vI r, vI q, vI z, vI m, vI o] hp (cPo X hp c (sp_pair A r q z m o)) := by
  have hR' := hR
  obtain ⟨s, pa, ia, tb, w, ch, at_, fa, dr, ps, fI, fT, e1, e2, e3, e4, e5⟩ := hR
  refine MC.of pfX0_pair rfl (fun h => by cases h) 2 rfl rfl ?_
  unfold sp_pair
  refine gs_ild1 (pc := 0) dX0_pair_0 ?_
  refine gs_ild2 (pc := 1) dX0_pair_1 ?_
  refine gs_S2 (pc := 2) dX0_pair_2 kX0_241 (by decide) (Nat.le_of_ble_eq_true rfl) (c_isRule hr hq) (fun v hp1 hq => ?_)
  obtain ⟨rfl, rfl⟩ := hq
  refine gs_beq (pc := 5) (tgt := 37) dX0_pair_5 (by decide) (fun h1 => ?_) (fun h1 => ?_)
  · rw [h1, Bool.false_and, Bool.false_and, Bool.false_and, if_neg (by decide)]
    refine gs_iconst (pc := 37) dX0_pair_37 ?_
    refine gs_iret (pc := 38) dX0_pair_38 rfl ?_
    exact ⟨_, rfl, rfl, same_po hR'⟩
  refine gs_ild3 (pc := 8) dX0_pair_8 ?_
  refine gs_iconst (pc := 9) dX0_pair_9 ?_
  refine gs_iconst (pc := 10) dX0_pair_10 ?_
  refine gs_S3 (pc := 11) dX0_pair_11 kX0_1 (by decide) (Nat.le_of_ble_eq_true rfl) (c_isIn hz (by decide) (by decide)) (fun v hp1 hq => ?_)
  obtain ⟨rfl, rfl⟩ := hq
  refine gs_beq (pc := 14) (tgt := 37) dX0_pair_14 (by decide) (fun h2 => ?_) (fun h2 => ?_)
  · rw [h1, h2, Bool.and_false, Bool.false_and, Bool.false_and, if_neg (by decide)]
    refine gs_iconst (pc := 37) dX0_pair_37 ?_
    refine gs_iret (pc := 38) dX0_pair_38 rfl ?_
    exact ⟨_, rfl, rfl, same_po hR'⟩
  refine gs_ild4 (pc := 17) dX0_pair_17 ?_
  refine gs_iconst (pc := 19) dX0_pair_19 ?_
  refine gs_iconst (pc := 20) dX0_pair_20 ?_
  refine gs_S3 (pc := 21) dX0_pair_21 kX0_1 (by decide) (Nat.le_of_ble_eq_true rfl) (c_isIn hm (by decide) (by decide)) (fun v hp1 hq => ?_)
  obtain ⟨rfl, rfl⟩ := hq
  refine gs_beq (pc := 24) (tgt := 37) dX0_pair_24 (by decide) (fun h3 => ?_) (fun h3 => ?_)
  · rw [h1, h2, h3, Bool.and_false, Bool.false_and, if_neg (by decide)]
    refine gs_iconst (pc := 37) dX0_pair_37 ?_
    refine gs_iret (pc := 38) dX0_pair_38 rfl ?_
    exact ⟨_, rfl, rfl, same_po hR'⟩
  refine gs_ild5 (pc := 27) dX0_pair_27 ?_
  refine gs_iconst (pc := 29) dX0_pair_29 ?_
  refine gs_iconst (pc := 30) dX0_pair_30 ?_
  refine gs_S3 (pc := 31) dX0_pair_31 kX0_1 (by decide) (Nat.le_of_ble_eq_true rfl) (c_isIn ho (by decide) (by decide)) (fun v hp1 hq => ?_)
  obtain ⟨rfl, rfl⟩ := hq
  refine gs_bne (pc := 34) (tgt := 39) dX0_pair_34 (by decide) (fun h4 => ?_) (fun h4 => ?_)
  rotate_left
  · rw [h1, h2, h3, h4, Bool.and_false, if_neg (by decide)]
    refine gs_iconst (pc := 37) dX0_pair_37 ?_
    refine gs_iret (pc := 38) dX0_pair_38 rfl ?_
    exact ⟨_, rfl, rfl, same_po hR'⟩
  rw [h1, h2, h3, h4, Bool.and_true, Bool.and_true, Bool.and_true, if_pos rfl]
  obtain ⟨n, rfl, hn⟩ := rlB_r h1
  have h72 := hO.2.2.2.2.1
  refine gs_ald0 (pc := 39) dX0_pair_39 ?_
  refine gs_iconst (pc := 40) dX0_pair_40 ?_
  refine gs_putf (pc := 41) 7 (rcC c s pa ia tb A.2.2.2.2.length w ch ((0 : Nat) : Int) fa dr).2 dX0_pair_41 e1 (by omega) clX0 in_X0 tyX0 tyX0_ok nmX0 (by decide) q218 (Or.inl rfl) rfl (fok_int _) (Nat.le_of_ble_eq_true rfl) rfl ?_
  have ha0 : aF X hp (hset hp c (rcC c s pa ia tb A.2.2.2.2.length w ch ((0 : Nat) : Int) fa dr)) c s pa ia tb A.2.2.2.2.length w ch ((0 : Nat) : Int) fa dr := (aF.refl e1).set
  obtain ⟨p0, m0⟩ := pcR_aF hX ⟨e1, e2, e3, e4, e5⟩ ha0
  show G X fX0_pair 12 44 _ _ (hset hp c (rcC c s pa ia tb A.2.2.2.2.length w ch ((0 : Nat) : Int) fa dr)) _
  generalize hset hp c (rcC c s pa ia tb A.2.2.2.2.length w ch ((0 : Nat) : Int) fa dr) = h0 at *
  refine gs_ald0 (pc := 44) dX0_pair_44 ?_
  refine gs_V0 (pc := 45) dX0_pair_45 kX0_244 p0.1 clX0 (by decide) (Nat.le_of_ble_eq_true rfl) (c_readText p0.1 (p0.2.2.1.tx hO) (Nat.zero_le _)) (fun v hq hq => ?_)
  obtain ⟨h1, at1, fa1, f1, f2, f3, f4, f5⟩ := hq
  obtain ⟨p1, m1⟩ := pcR_aF hX p0 f1
  have p2 := pcR_new hX p1 f2
  have m2 := m0.trans (m1.trans f2.M)
  have s1 := ha0.2.2.1
  have s2 := ha0.2.2.2
  rcases f5 with ⟨f, hr, rfl, rfl⟩ | ⟨x, hr, rfl, hx, xr, rfl, xs, xn⟩
  · rw [hr]
    dsimp only
    have hf := rdT_f h72 (Nat.zero_le _) hr
    refine gs_ast6 (pc := 48) dX0_pair_48 rfl ?_
    refine gs_ald6 (pc := 50) dX0_pair_50 ?_
    refine gs_ifnonnull (pc := 52) (tgt := 59) dX0_pair_52 (by decide) (fun _ h => by cases h) (fun _ => ?_)
    refine gs_null (pc := 55) dX0_pair_55 ?_
    refine gs_goto (pc := 56) (tgt := 63) dX0_pair_56 (by decide) ?_
    refine gs_ast7 (pc := 63) dX0_pair_63 rfl ?_
    refine gs_ald7 (pc := 65) dX0_pair_65 ?_
    refine gs_ifnull (pc := 67) (tgt := 77) dX0_pair_67 (by decide) (fun _ => ?_) (fun _ h => by cases h)
    refine gs_bipush (pc := 77) dX0_pair_77 rfl ?_
    refine gs_ald0 (pc := 79) dX0_pair_79 ?_
    refine gs_getf (pc := 80) 8 dX0_pair_80 p2.1 clX0 in_X0 (by decide) q219 (Or.inl rfl) rfl ?_
    refine gs_isub (pc := 83) dX0_pair_83 ?_
    refine gs_iret (pc := 84) dX0_pair_84 rfl ?_
    exact ⟨_, rfl, rfl, pcR_RC p2, m2, by omega, by omega⟩
  rw [hr]
  dsimp only
  refine gs_ast6 (pc := 48) dX0_pair_48 rfl ?_
  refine gs_ald6 (pc := 50) dX0_pair_50 ?_
  refine gs_ifnonnull (pc := 52) (tgt := 59) dX0_pair_52 (by decide) (fun _ _ => ?_) (fun h => by cases h)
  refine gs_ald0 (pc := 59) dX0_pair_59 ?_
  refine gs_V0 (pc := 60) dX0_pair_60 kX0_244 p2.1 clX0 (by decide) (Nat.le_of_ble_eq_true rfl) (c_readText p2.1 (p2.2.2.1.tx hO) hx) (fun v hu hq => ?_)
  obtain ⟨h2, at2, fa2, k1, k2, k3, k4, k5⟩ := hq
  obtain ⟨p3, m3⟩ := pcR_aF hX p2 k1
  have p4 := pcR_new hX p3 k2
  have m4 := m2.trans (m3.trans k2.M)
  have hxs := (xs.fr (k1.fr p2.1) (fun l hl => by omega)).fr k2 (fun l hl => frs_2 hl)
  rcases k5 with ⟨f, hr2, rfl, rfl⟩ | ⟨y, hr2, rfl, hy, yr, rfl, ys, yn⟩
  · rw [hr2]
    dsimp only
    have hf := rdT_f h72 hx hr2
    refine gs_ast7 (pc := 63) dX0_pair_63 rfl ?_
    refine gs_ald7 (pc := 65) dX0_pair_65 ?_
    refine gs_ifnull (pc := 67) (tgt := 77) dX0_pair_67 (by decide) (fun _ => ?_) (fun _ h => by cases h)
    refine gs_bipush (pc := 77) dX0_pair_77 rfl ?_
    refine gs_ald0 (pc := 79) dX0_pair_79 ?_
    refine gs_getf (pc := 80) 8 dX0_pair_80 p4.1 clX0 in_X0 (by decide) q219 (Or.inl rfl) rfl ?_
    refine gs_isub (pc := 83) dX0_pair_83 ?_
    refine gs_iret (pc := 84) dX0_pair_84 rfl ?_
    exact ⟨_, rfl, rfl, pcR_RC p4, m4, by omega, by omega⟩
  rw [hr2]
  dsimp only
  refine gs_ast7 (pc := 63) dX0_pair_63 rfl ?_
  refine gs_ald7 (pc := 65) dX0_pair_65 ?_
  refine gs_ifnull (pc := 67) (tgt := 77) dX0_pair_67 (by decide) (fun h => by cases h) (fun _ _ => ?_)
  refine gs_ald0 (pc := 70) dX0_pair_70 ?_
  refine gs_V0 (pc := 71) dX0_pair_71 kX0_247 p4.1 clX0 (by decide) (Nat.le_of_ble_eq_true rfl) (c_isOver p4.1 (p4.2.2.1.tx hO) hy) (fun v hw hq => ?_)
  obtain ⟨rfl, f6⟩ := hq
  obtain ⟨p5, m5⟩ := pcR_aF hX p4 f6
  have m6 := m4.trans m5
  have s3 := f6.2.2.1
  have s4 := f6.2.2.2
  have hF6 := f6.fr p4.1
  cases hE : rdE A.2.2.2.2 y.1 with
  | some f =>
    have hf := rdE_f h72 hy hE
    have he := rdE_at hE
    rw [← he] at p5
    dsimp only
    refine gs_bne (pc := 74) (tgt := 85) dX0_pair_74 (by decide) (fun hn => absurd ((rfl : _ = false).symm.trans hn) (by decide)) (fun _ => ?_)
    refine gs_bipush (pc := 77) dX0_pair_77 rfl ?_
    refine gs_ald0 (pc := 79) dX0_pair_79 ?_
    refine gs_getf (pc := 80) 8 dX0_pair_80 p5.1 clX0 in_X0 (by decide) q219 (Or.inl rfl) rfl ?_
    refine gs_isub (pc := 83) dX0_pair_83 ?_
    refine gs_iret (pc := 84) dX0_pair_84 rfl ?_
    exact ⟨_, rfl, rfl, pcR_RC p5, m6, by omega, by omega⟩
  | none =>
    dsimp only
    refine gs_bne (pc := 74) (tgt := 85) dX0_pair_74 (by decide) (fun _ => ?_) (fun hn => absurd ((rfl : _ = true).symm.trans hn) (by decide))
    refine gs_ald0 (pc := 85) dX0_pair_85 ?_
    refine gs_ild1 (pc := 86) dX0_pair_86 ?_
    refine gs_new (pc := 87) 1 dfX7 dX0_pair_87 clX7 in_X7 tyX7 tyX7_ok q1736 q1737 q131 dfoX7 ?_
    have hN : FrN X hw (hnew X hw 7 (1, Sum.inr (7, dfX7))) := Fr.new Fr.refl
    have g1 : gl X (hnew X hw 7 (1, Sum.inr (7, dfX7))) (nx X hw) = some (1, .inr (7, dfX7)) := gl_new_self
    have hc1 : (hnew X hw 7 (1, Sum.inr (7, dfX7))).1 = hw.1 + 1 := rfl
    have hc2 : (hnew X hw 7 (1, Sum.inr (7, dfX7))).2.1 = hw.2.1 + 7 := rfl
    generalize hnew X hw 7 (1, Sum.inr (7, dfX7)) = hv at *
    refine gs_dup (pc := 90) dX0_pair_90 rfl ?_
    refine gs_iconst (pc := 91) dX0_pair_91 ?_
    refine gs_ild2 (pc := 92) dX0_pair_92 ?_
    refine gs_ild3 (pc := 93) dX0_pair_93 ?_
    refine gs_ild4 (pc := 94) dX0_pair_94 ?_
    refine gs_ild5 (pc := 96) dX0_pair_96 ?_
    refine gs_ald6 (pc := 98) dX0_pair_98 ?_
    refine gs_ald7 (pc := 100) dX0_pair_100 ?_
    refine gs_IN7v (pc := 102) dX0_pair_102 kX0_252 (by decide) (Nat.le_of_ble_eq_true rfl) (c_rlInit g1) (fun hv2 hq => ?_)
    obtain ⟨i1, i2, i3, i4⟩ := hq
    have hN2 : FrN X hw hv2 := Fr_ne1 hN (Nat.le_refl _) i1 i2 i4
    have p6 := pcR_new hX p5 hN2
    have xsv : isS X hv2 xr x.2 := (hxs.fr hF6 (fun l hl => by omega)).fr hN2 (fun l hl => frs_2 hl)
    have ysv : isS X hv2 yr y.2 := (ys.fr hF6 (fun l hl => by omega)).fr hN2 (fun l hl => frs_2 hl)
    have hrl : isRl X hv2 (nx X hw) (1, q, z, m, o, x.2, y.2) := ⟨xr, some yr, i3, xsv, fun _ => ⟨yr, rfl, ysv⟩⟩
    refine gs_V2 (pc := 105) dX0_pair_105 kX0_255 p6.1 clX0 (by decide) (Nat.le_of_ble_eq_true rfl) (c_lay hX hO hn p6.1 p6.2.1 p6.2.2.1 hrl) (fun v hx hq => ?_)
    obtain ⟨rfl, l1, l2, l3, l4⟩ := hq
    refine gs_iret (pc := 108) dX0_pair_108 rfl ?_
    exact ⟨_, rfl, rfl, l1, m6.trans (hN2.M.trans l2), by omega, by omega⟩
end CJ
