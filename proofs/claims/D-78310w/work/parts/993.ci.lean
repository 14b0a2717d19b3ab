/-! THE COMPONENT: single rules. -/
section CI
variable {X : gCx} {hp hp1 hp2 hz : gHp} {S0 : Nat → Prop} {S S' T : SS} {A A' : AS} {a c s cap cap' ra pa ia tb n g j k len : Nat} {xs xs' ps : List Nat} {f fI : Int → Option Nat} {fT fT' : Int → Int} {w ch : Option Nat} {at_ fa dr d at' fa' : Int} {L : List Ln} {t : List Int}
theorem rdE_at {f : Nat} (h : rdE t k = some f) : f = k + lead (t.drop k) := by
  unfold rdE at h
  by_cases g : t.length ≤ k + lead (t.drop k)
  · rw [if_pos g] at h; cases h
  · rw [if_neg g] at h; cases h; rfl
theorem c_single {so r q z : Int} (hX : KX X) (hR : RC X hp c A) (hO : asOk A) (hso : so = 2 ∨ so = 3) (hr : i32 r) (hq : i32 q) (hz : i32 z) : MV X yX0_single fX0_single 11 [vR (some c), vI so, vI r, vI q, vI z] hp (cPo X hp c (sp_single A so r q z)) := by
  have hR' := hR
  obtain ⟨s, pa, ia, tb, w, ch, at_, fa, dr, ps, fI, fT, e1, e2, e3, e4, e5⟩ := hR
  refine MC.of pfX0_single rfl (fun h => by cases h) 1 rfl rfl ?_
  unfold sp_single
  refine gs_ild2 (pc := 0) dX0_single_0 ?_
  refine gs_ild3 (pc := 1) dX0_single_1 ?_
  refine gs_S2 (pc := 2) dX0_single_2 kX0_241 (by decide) (Nat.le_of_ble_eq_true rfl) (c_isRule hr hq) (fun v hp1 hq => ?_)
  obtain ⟨rfl, rfl⟩ := hq
  refine gs_beq (pc := 5) (tgt := 19) dX0_single_5 (by decide) (fun h1 => ?_) (fun h1 => ?_)
  · rw [h1, Bool.false_and, if_neg (by decide)]
    refine gs_iconst (pc := 19) dX0_single_19 ?_
    refine gs_iret (pc := 20) dX0_single_20 rfl ?_
    exact ⟨_, rfl, rfl, same_po hR'⟩
  refine gs_ild4 (pc := 8) dX0_single_8 ?_
  refine gs_bipush (pc := 10) dX0_single_10 rfl ?_
  refine gs_iconst (pc := 12) dX0_single_12 ?_
  refine gs_S3 (pc := 13) dX0_single_13 kX0_1 (by decide) (Nat.le_of_ble_eq_true rfl) (c_isIn hz (by decide) (by decide)) (fun v hp1 hq => ?_)
  obtain ⟨rfl, rfl⟩ := hq
  refine gs_bne (pc := 16) (tgt := 21) dX0_single_16 (by decide) (fun h2 => ?_) (fun h2 => ?_)
  rotate_left
  · rw [h1, h2, Bool.true_and, if_neg (by decide)]
    refine gs_iconst (pc := 19) dX0_single_19 ?_
    refine gs_iret (pc := 20) dX0_single_20 rfl ?_
    exact ⟨_, rfl, rfl, same_po hR'⟩
  rw [h1, h2, Bool.true_and, if_pos rfl]
  obtain ⟨n, rfl, hn⟩ := rlB_r h1
  have h72 := hO.2.2.2.2.1
  refine gs_ald0 (pc := 21) dX0_single_21 ?_
  refine gs_iconst (pc := 22) dX0_single_22 ?_
  refine gs_putf (pc := 23) 7 (rcC c s pa ia tb A.2.2.2.2.length w ch ((0 : Nat) : Int) fa dr).2 dX0_single_23 e1 (by omega) clX0 in_X0 tyX0 tyX0_ok nmX0 (by decide) q218 (Or.inl rfl) rfl (fok_int _) (Nat.le_of_ble_eq_true rfl) rfl ?_
  have ha0 : aF X hp (hset hp c (rcC c s pa ia tb A.2.2.2.2.length w ch ((0 : Nat) : Int) fa dr)) c s pa ia tb A.2.2.2.2.length w ch ((0 : Nat) : Int) fa dr := (aF.refl e1).set
  obtain ⟨p0, m0⟩ := pcR_aF hX ⟨e1, e2, e3, e4, e5⟩ ha0
  show G X fX0_single 11 26 _ _ (hset hp c (rcC c s pa ia tb A.2.2.2.2.length w ch ((0 : Nat) : Int) fa dr)) _
  generalize hset hp c (rcC c s pa ia tb A.2.2.2.2.length w ch ((0 : Nat) : Int) fa dr) = h0 at *
  refine gs_ald0 (pc := 26) dX0_single_26 ?_
  refine gs_V0 (pc := 27) dX0_single_27 kX0_244 p0.1 clX0 (by decide) (Nat.le_of_ble_eq_true rfl) (c_readText p0.1 (p0.2.2.1.tx hO) (Nat.zero_le _)) (fun v hq hq => ?_)
  obtain ⟨h1, at1, fa1, f1, f2, f3, f4, f5⟩ := hq
  obtain ⟨p1, m1⟩ := pcR_aF hX p0 f1
  have p2 := pcR_new hX p1 f2
  have m2 := m0.trans (m1.trans f2.M)
  have s1 := ha0.2.2.1
  have s2 := ha0.2.2.2
  rcases f5 with ⟨f, hr, rfl, rfl⟩ | ⟨y, hr, rfl, hy, tr, rfl, ys, yn⟩
  · rw [hr]
    dsimp only
    have hf := rdT_f h72 (Nat.zero_le _) hr
    refine gs_ast5 (pc := 30) dX0_single_30 rfl ?_
    refine gs_ald5 (pc := 32) dX0_single_32 ?_
    refine gs_ifnull (pc := 34) (tgt := 44) dX0_single_34 (by decide) (fun _ => ?_) (fun _ h => by cases h)
    refine gs_bipush (pc := 44) dX0_single_44 rfl ?_
    refine gs_ald0 (pc := 46) dX0_single_46 ?_
    refine gs_getf (pc := 47) 8 dX0_single_47 p2.1 clX0 in_X0 (by decide) q219 (Or.inl rfl) rfl ?_
    refine gs_isub (pc := 50) dX0_single_50 ?_
    refine gs_iret (pc := 51) dX0_single_51 rfl ?_
    exact ⟨_, rfl, rfl, pcR_RC p2, m2, by omega, by omega⟩
  rw [hr]
  dsimp only
  refine gs_ast5 (pc := 30) dX0_single_30 rfl ?_
  refine gs_ald5 (pc := 32) dX0_single_32 ?_
  refine gs_ifnull (pc := 34) (tgt := 44) dX0_single_34 (by decide) (fun h => by cases h) (fun _ _ => ?_)
  refine gs_ald0 (pc := 37) dX0_single_37 ?_
  refine gs_V0 (pc := 38) dX0_single_38 kX0_247 p2.1 clX0 (by decide) (Nat.le_of_ble_eq_true rfl) (c_isOver p2.1 (p2.2.2.1.tx hO) hy) (fun v hw hq => ?_)
  obtain ⟨rfl, f6⟩ := hq
  obtain ⟨p3, m3⟩ := pcR_aF hX p2 f6
  have m4 := m2.trans m3
  have s3 := f6.2.2.1
  have s4 := f6.2.2.2
  have hF6 := f6.fr p2.1
  cases hE : rdE A.2.2.2.2 y.1 with
  | some f =>
    have hf := rdE_f h72 hy hE
    have he := rdE_at hE
    rw [← he] at p3
    dsimp only
    refine gs_bne (pc := 41) (tgt := 52) dX0_single_41 (by decide) (fun hn => absurd ((rfl : _ = false).symm.trans hn) (by decide)) (fun _ => ?_)
    refine gs_bipush (pc := 44) dX0_single_44 rfl ?_
    refine gs_ald0 (pc := 46) dX0_single_46 ?_
    refine gs_getf (pc := 47) 8 dX0_single_47 p3.1 clX0 in_X0 (by decide) q219 (Or.inl rfl) rfl ?_
    refine gs_isub (pc := 50) dX0_single_50 ?_
    refine gs_iret (pc := 51) dX0_single_51 rfl ?_
    exact ⟨_, rfl, rfl, pcR_RC p3, m4, by omega, by omega⟩
  | none =>
    dsimp only
    refine gs_bne (pc := 41) (tgt := 52) dX0_single_41 (by decide) (fun _ => ?_) (fun hn => absurd ((rfl : _ = true).symm.trans hn) (by decide))
    refine gs_ald0 (pc := 52) dX0_single_52 ?_
    refine gs_ild2 (pc := 53) dX0_single_53 ?_
    refine gs_new (pc := 54) 1 dfX7 dX0_single_54 clX7 in_X7 tyX7 tyX7_ok q1736 q1737 q131 dfoX7 ?_
    have hN : FrN X hw (hnew X hw 7 (1, Sum.inr (7, dfX7))) := Fr.new Fr.refl
    have g1 : gl X (hnew X hw 7 (1, Sum.inr (7, dfX7))) (nx X hw) = some (1, .inr (7, dfX7)) := gl_new_self
    have hc1 : (hnew X hw 7 (1, Sum.inr (7, dfX7))).1 = hw.1 + 1 := rfl
    have hc2 : (hnew X hw 7 (1, Sum.inr (7, dfX7))).2.1 = hw.2.1 + 7 := rfl
    generalize hnew X hw 7 (1, Sum.inr (7, dfX7)) = hu at *
    refine gs_dup (pc := 57) dX0_single_57 rfl ?_
    refine gs_ild1 (pc := 58) dX0_single_58 ?_
    refine gs_ild3 (pc := 59) dX0_single_59 ?_
    refine gs_ild4 (pc := 60) dX0_single_60 ?_
    refine gs_iconst (pc := 62) dX0_single_62 ?_
    refine gs_iconst (pc := 63) dX0_single_63 ?_
    refine gs_ald5 (pc := 64) dX0_single_64 ?_
    refine gs_null (pc := 66) dX0_single_66 ?_
    refine gs_IN7v (pc := 67) dX0_single_67 kX0_252 (by decide) (Nat.le_of_ble_eq_true rfl) (c_rlInit (kx := none) g1) (fun hv hq => ?_)
    obtain ⟨i1, i2, i3, i4⟩ := hq
    have hN2 : FrN X hw hv := Fr_ne1 hN (Nat.le_refl _) i1 i2 i4
    have p4 := pcR_new hX p3 hN2
    have ysv : isS X hv tr y.2 := (ys.fr hF6 (fun l hl => by omega)).fr hN2 (fun l hl => frs_2 hl)
    have hrl : isRl X hv (nx X hw) (so, q, z, 0, 0, y.2, []) := ⟨tr, none, i3, ysv, fun h => by have h : so = 1 := h; omega⟩
    refine gs_V2 (pc := 70) dX0_single_70 kX0_255 p4.1 clX0 (by decide) (Nat.le_of_ble_eq_true rfl) (c_lay hX hO hn p4.1 p4.2.1 p4.2.2.1 hrl) (fun v hx hq => ?_)
    obtain ⟨rfl, l1, l2, l3, l4⟩ := hq
    refine gs_iret (pc := 73) dX0_single_73 rfl ?_
    exact ⟨_, rfl, rfl, l1, m4.trans (hN2.M.trans l2), by omega, by omega⟩
end CI
