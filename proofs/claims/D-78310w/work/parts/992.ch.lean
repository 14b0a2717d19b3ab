/-! THE COMPONENT: rules. -/
section CH
variable {X : gCx} {hp hp1 hp2 hz : gHp} {S0 : Nat → Prop} {S S' T : SS} {A A' : AS} {a c s cap cap' ra pa ia tb n g j k len : Nat} {xs xs' ps : List Nat} {f fI : Int → Option Nat} {fT fT' : Int → Int} {w ch : Option Nat} {at_ fa dr d at' fa' : Int} {L : List Ln} {t : List Int}
/-- the pieces of RC -/
def pcR (X : gCx) (hp : gHp) (c s pa ia tb : Nat) (ps : List Nat) (fI : Int → Option Nat) (fT : Int → Int) (w ch : Option Nat) (at_ fa dr : Int) (A : AS) : Prop := gl X hp c = some (rcC c s pa ia tb A.2.2.2.2.length w ch at_ fa dr) ∧ isSta X hp s A.1 ∧ rcB X hp c s pa ia tb ps fI fT A ∧ wkOp X hp s A.1 w ∧ chOp X hp A.1 ch
theorem pcR_RC (h : pcR X hp c s pa ia tb ps fI fT w ch at_ fa dr A) : RC X hp c A := ⟨_, _, _, _, _, _, _, _, _, _, _, _, h⟩
theorem pcR_aF (hX : KX X) (h : pcR X hp c s pa ia tb ps fI fT w ch at_ fa dr A) (h' : aF X hp hp1 c s pa ia tb A.2.2.2.2.length w ch at' fa' dr) : pcR X hp1 c s pa ia tb ps fI fT w ch at' fa' dr A ∧ FrM X hp hp1 := by
  obtain ⟨e1, e2, e3, e4, e5⟩ := h
  have hc0 : isO X hp c 0 := ⟨_, _, e1⟩
  have hF := h'.fr e1
  obtain ⟨o1, o2, o3, o4⟩ := own_fr hX hc0 hF
  have b4 := e3.2.2.2.1
  have b7 := e3.2.2.2.2.2.2.1
  have hic : ia ≠ c := fun e => by rw [e, e1] at b4; cases b4
  have htc : tb ≠ c := fun e => by rw [e, e1] at b7; cases b7
  exact ⟨⟨h'.1, o1 e2, e3.own hX hc0 hF (h'.2.1 ia hic) ((h'.2.1 tb htc).trans b7) ⟨rfl, rfl, rfl⟩ e3.2.2.2.2.2.2.2.1, fun wa hw => o2 (e4 wa hw), fun m hm => o3 (e5 m hm)⟩, o4⟩
theorem pcR_new (hX : KX X) (h : pcR X hp c s pa ia tb ps fI fT w ch at_ fa dr A) (h' : FrN X hp hp1) : pcR X hp1 c s pa ia tb ps fI fT w ch at_ fa dr A := by
  obtain ⟨e1, e2, e3, e4, e5⟩ := h
  exact ⟨h'.at e1 (by have := gl_lt e1; unfold frs; omega), e2.new hX h', e3.new hX ⟨_, _, e1⟩ h', fun wa hw => (e4 wa hw).frC (ci := 2) hX h' (fun l hl => Or.inr hl) (by decide), fun m hm => (e5 m hm).frC (ci := 2) h' (fun l hl => Or.inr hl) (by decide)⟩
theorem c_recInit : M0 X yJ24_init fJ24_init 1 [vR (some a)] hp (fun hp' => hp = hp') := by
  refine MC.of pfJ24_init rfl (fun _ => rfl) 0 rfl rfl ?_
  refine gs_ald0 (pc := 0) dJ24_init_0 ?_
  refine gs_objInit (pc := 1) dJ24_init_1 q1744 q146 q147 (by decide) (Nat.le_of_ble_eq_true rfl) ?_
  refine gs_vret (pc := 4) dJ24_init_4 rfl ?_
  exact ⟨rfl, rfl⟩
theorem c_rlInit {so pr st md cl : Int} {tx kx : Option Nat} (ha : gl X hp a = some (1, .inr (7, dfX7))) : M0 X yX7_init fX7_init 2 [vR (some a), vI so, vI pr, vI st, vI md, vI cl, vR tx, vR kx] hp (fun hp' => hp'.1 = hp.1 ∧ hp'.2.1 = hp.2.1 ∧ gl X hp' a = some (1, .inr (7, [vI so, vI pr, vI st, vI md, vI cl, vR tx, vR kx])) ∧ ∀ b, b ≠ a → gl X hp' b = gl X hp b) := by
  refine MC.of pfX7_init rfl (fun _ => rfl) 0 rfl rfl ?_
  refine gs_ald0 (pc := 0) dX7_init_0 ?_
  refine gs_I0v (pc := 1) dX7_init_1 kX7_3 (by decide) (Nat.le_of_ble_eq_true rfl) (c_recInit) (fun hp1 hq => ?_)
  obtain ⟨rfl⟩ := hq
  have g1 := gl_set_self (c := (1, Sum.inr (7, [vI so, vI 0, vI 0, vI 0, vI 0, vR none, vR none]))) ha (by decide)
  have g2 := gl_set_self (c := (1, Sum.inr (7, [vI so, vI pr, vI 0, vI 0, vI 0, vR none, vR none]))) g1 (by decide)
  have g3 := gl_set_self (c := (1, Sum.inr (7, [vI so, vI pr, vI st, vI 0, vI 0, vR none, vR none]))) g2 (by decide)
  have g4 := gl_set_self (c := (1, Sum.inr (7, [vI so, vI pr, vI st, vI md, vI 0, vR none, vR none]))) g3 (by decide)
  have g5 := gl_set_self (c := (1, Sum.inr (7, [vI so, vI pr, vI st, vI md, vI cl, vR none, vR none]))) g4 (by decide)
  have g6 := gl_set_self (c := (1, Sum.inr (7, [vI so, vI pr, vI st, vI md, vI cl, vR tx, vR none]))) g5 (by decide)
  have g7 := gl_set_self (c := (1, Sum.inr (7, [vI so, vI pr, vI st, vI md, vI cl, vR tx, vR kx]))) g6 (by decide)
  refine gs_ald0 (pc := 4) dX7_init_4 ?_
  refine gs_ild1 (pc := 5) dX7_init_5 ?_
  refine gs_putF (pc := 6) 0 (.inr (7, [vI so, vI 0, vI 0, vI 0, vI 0, vR none, vR none])) dX7_init_6 ha (by decide) clX7 in_X7 tyX7 tyX7_ok nmX7 (by decide) q1745 (Or.inl rfl) rfl rfl rfl (fok_int _) (Nat.le_of_ble_eq_true rfl) rfl ?_
  refine gs_ald0 (pc := 9) dX7_init_9 ?_
  refine gs_ild2 (pc := 10) dX7_init_10 ?_
  refine gs_putF (pc := 11) 1 (.inr (7, [vI so, vI pr, vI 0, vI 0, vI 0, vR none, vR none])) dX7_init_11 g1 (by decide) clX7 in_X7 tyX7 tyX7_ok nmX7 (by decide) q1748 (Or.inl rfl) rfl rfl rfl (fok_int _) (Nat.le_of_ble_eq_true rfl) rfl ?_
  refine gs_ald0 (pc := 14) dX7_init_14 ?_
  refine gs_ild3 (pc := 15) dX7_init_15 ?_
  refine gs_putF (pc := 16) 2 (.inr (7, [vI so, vI pr, vI st, vI 0, vI 0, vR none, vR none])) dX7_init_16 g2 (by decide) clX7 in_X7 tyX7 tyX7_ok nmX7 (by decide) q1752 (Or.inl rfl) rfl rfl rfl (fok_int _) (Nat.le_of_ble_eq_true rfl) rfl ?_
  refine gs_ald0 (pc := 19) dX7_init_19 ?_
  refine gs_ild4 (pc := 20) dX7_init_20 ?_
  refine gs_putF (pc := 22) 3 (.inr (7, [vI so, vI pr, vI st, vI md, vI 0, vR none, vR none])) dX7_init_22 g3 (by decide) clX7 in_X7 tyX7 tyX7_ok nmX7 (by decide) q1755 (Or.inl rfl) rfl rfl rfl (fok_int _) (Nat.le_of_ble_eq_true rfl) rfl ?_
  refine gs_ald0 (pc := 25) dX7_init_25 ?_
  refine gs_ild5 (pc := 26) dX7_init_26 ?_
  refine gs_putF (pc := 28) 4 (.inr (7, [vI so, vI pr, vI st, vI md, vI cl, vR none, vR none])) dX7_init_28 g4 (by decide) clX7 in_X7 tyX7 tyX7_ok nmX7 (by decide) q1758 (Or.inl rfl) rfl rfl rfl (fok_int _) (Nat.le_of_ble_eq_true rfl) rfl ?_
  refine gs_ald0 (pc := 31) dX7_init_31 ?_
  refine gs_ald6 (pc := 32) dX7_init_32 ?_
  refine gs_putF (pc := 34) 5 (.inr (7, [vI so, vI pr, vI st, vI md, vI cl, vR tx, vR none])) dX7_init_34 g5 (by decide) clX7 in_X7 tyX7 tyX7_ok nmX7 (by decide) q1761 (Or.inl rfl) rfl rfl rfl (fok_obj _ _) (Nat.le_of_ble_eq_true rfl) rfl ?_
  refine gs_ald0 (pc := 37) dX7_init_37 ?_
  refine gs_ald7 (pc := 38) dX7_init_38 ?_
  refine gs_putF (pc := 40) 6 (.inr (7, [vI so, vI pr, vI st, vI md, vI cl, vR tx, vR kx])) dX7_init_40 g6 (by decide) clX7 in_X7 tyX7 tyX7_ok nmX7 (by decide) q1764 (Or.inl rfl) rfl rfl rfl (fok_obj _ _) (Nat.le_of_ble_eq_true rfl) rfl ?_
  refine gs_vret (pc := 43) dX7_init_43 rfl ?_
  exact ⟨rfl, rfl, rfl, g7, fun b hb => by rw [gl_set_ne hb, gl_set_ne hb, gl_set_ne hb, gl_set_ne hb, gl_set_ne hb, gl_set_ne hb, gl_set_ne hb]⟩
end CH
