/-! THE COMPONENT: a line replaced. -/
section C9
variable {X : gCx} {hp hp1 hp2 hz : gHp} {S0 : Nat → Prop} {S S' T : SS} {A A' : AS} {a c s cap cap' ra pa ia tb n : Nat} {xs xs' ps : List Nat} {f fI : Int → Option Nat} {fT fT' : Int → Int} {w ch : Option Nat} {at_ fa dr : Int} {t : List Int}
theorem c_replaceLine {i : Int} (hX : KX X) (hR : RC X hp c A) (hO : asOk A) (hi : i32 i) : MV X yX0_replaceLine fX0_replaceLine 10 [vR (some c), vI i] hp (cPo X hp c (sp_replace A i)) := by
  have hR' := hR
  obtain ⟨s, pa, ia, tb, w, ch, at_, fa, dr, ps, fI, fT, e1, e2, e3, -, -⟩ := hR
  have e2' := e2
  obtain ⟨xs, cap, ra, f, es⟩ := e2'
  refine MC.of pfX0_replaceLine rfl (fun h => by cases h) 2 rfl rfl ?_
  unfold sp_replace
  have hslt := es.lt
  refine gs_ald0 (pc := 0) dX0_replaceLine_0 ?_
  refine gs_ild1 (pc := 1) dX0_replaceLine_1 ?_
  refine gs_V1 (pc := 2) dX0_replaceLine_2 kX0_145 e1 clX0 (by decide) (Nat.le_of_ble_eq_true rfl) (c_isLine e1 es hi) (fun v hp1 hq => ?_)
  obtain ⟨rfl, rfl⟩ := hq
  refine gs_bne (pc := 5) (tgt := 10) dX0_replaceLine_5 (by decide) (fun h1 => ?_) (fun h1 => ?_)
  rotate_left
  · rw [inB_isL] at h1
    rw [if_neg (by rw [h1]; decide)]
    refine gs_iconst (pc := 8) dX0_replaceLine_8 ?_
    refine gs_iret (pc := 9) dX0_replaceLine_9 rfl ?_
    exact ⟨_, rfl, rfl, same_po hR'⟩
  rw [inB_isL] at h1
  rw [if_pos h1]
  obtain ⟨n, rfl, hn⟩ := isL_nat h1
  rw [Int.toNat_natCast]
  refine gs_ald0 (pc := 10) dX0_replaceLine_10 ?_
  refine gs_V0 (pc := 11) dX0_replaceLine_11 kX0_135 e1 clX0 (by decide) (Nat.le_of_ble_eq_true rfl) (c_typed (lb2 := s + 2) hX (by omega) e1 (e3.tx hO)) (fun v hq hq => ?_)
  obtain ⟨q1, q2, q3, q4⟩ := hq
  have e1q := q1.at e1 (by have := gl_lt e1; unfold frs; omega)
  have esq := es.new hX q1
  have e3q := e3.new hX ⟨_, _, e1⟩ q1
  have hRq := hR'.new hX q1
  rcases q4 with ⟨q4, rfl⟩ | ⟨q, x, q4, rfl, q5, q6⟩
  · rw [q4]
    refine gs_ast2 (pc := 14) dX0_replaceLine_14 rfl ?_
    refine gs_ald2 (pc := 15) dX0_replaceLine_15 ?_
    refine gs_ifnonnull (pc := 16) (tgt := 22) dX0_replaceLine_16 (by decide) (fun _ h => by cases h) (fun _ => ?_)
    refine gs_bipush (pc := 19) dX0_replaceLine_19 rfl ?_
    refine gs_iret (pc := 21) dX0_replaceLine_21 rfl ?_
    exact ⟨_, rfl, rfl, hRq, q1.M, by omega, by omega⟩
  rw [q4]
  dsimp only
  obtain ⟨n1, n2, n3⟩ := bg_st ⟨_, _, e1q⟩ ⟨_, _, _, _, esq⟩ e3q
  refine gs_ast2 (pc := 14) dX0_replaceLine_14 rfl ?_
  refine gs_ald2 (pc := 15) dX0_replaceLine_15 ?_
  refine gs_ifnonnull (pc := 16) (tgt := 22) dX0_replaceLine_16 (by decide) (fun _ _ => ?_) (fun h => by cases h)
  refine gs_ald0 (pc := 22) dX0_replaceLine_22 ?_
  refine gs_V0v (pc := 23) dX0_replaceLine_23 kX0_139 e1q clX0 (by decide) (Nat.le_of_ble_eq_true rfl) (c_begins hX hO e1q ⟨_, _, _, _, esq⟩ e3q) (fun hz hq => ?_)
  obtain ⟨ps', z1, z2, z3, z4, z5, z6⟩ := hq
  have esz := esq.fr hX z3 n3 n1 n2
  have q6z := q6.fr z3 n3 n1
  have hxn : n < xs.length := by rw [esz.2.2.2.1]; exact hn
  obtain ⟨cc, cl, cs, cn⟩ := esz.2.2.2.2.2.1 n hxn
  have hcx := cls_ne z1 cl (by decide)
  have hxx : x ≠ xs.getD n 0 := by
    obtain ⟨cc0, cl0, -⟩ := es.2.2.2.2.2.1 n hxn
    have := gl_lt cl0
    omega
  obtain ⟨cq, cql, cqs, cqn⟩ := q6z
  obtain ⟨g1, g2⟩ := esz.setL (l' := (q.1, (lnA A.1 n).2.1, (lnA A.1 n).2.2)) hX hxn cs cn
  have z1a := (gl_set_ne (c := (s + 2, .inr (3, [vI q.1, vR (some cc), vI (b2i (lnA A.1 n).2.2)]))) hcx).trans z1
  have cla := gl_set_self (c := (s + 2, .inr (3, [vI q.1, vR (some cc), vI (b2i (lnA A.1 n).2.2)]))) cl (by omega)
  have cqa := (gl_set_ne (c := (s + 2, .inr (3, [vI q.1, vR (some cc), vI (b2i (lnA A.1 n).2.2)]))) hxx).trans cql
  obtain ⟨g3, g4⟩ := g1.setL (l' := (q.1, q.2, (lnA A.1 n).2.2)) hX hxn (cqs.fr g2 (fun l hl => by omega)) (fun h => (cqn h).fr g2 (fun l hl => by omega))
  rw [List.set_set] at g3
  have hed := RC.edit (A := A) hX z1 z2 ⟨_, _, _, _, esz⟩ ((g2.trans g4).mono (fun l hl => Or.inl hl)) ⟨_, _, _, _, g3⟩
  refine gs_ald0 (pc := 26) dX0_replaceLine_26 ?_
  refine gs_ild1 (pc := 27) dX0_replaceLine_27 ?_
  refine gs_V1 (pc := 28) dX0_replaceLine_28 kX0_149 z1 clX0 (by decide) (Nat.le_of_ble_eq_true rfl) (c_line z1 esz hn) (fun v hp1 hq => ?_)
  obtain ⟨rfl, rfl⟩ := hq
  refine gs_getfN (pc := 31) 0 dX0_replaceLine_31 cl clX3 in_X3 (by decide) q275 (Or.inl rfl) rfl ?_
  refine gs_ist3 (pc := 34) dX0_replaceLine_34 rfl ?_
  refine gs_ald0 (pc := 35) dX0_replaceLine_35 ?_
  refine gs_ild1 (pc := 36) dX0_replaceLine_36 ?_
  refine gs_V1 (pc := 37) dX0_replaceLine_37 kX0_149 z1 clX0 (by decide) (Nat.le_of_ble_eq_true rfl) (c_line z1 esz hn) (fun v hp1 hq => ?_)
  obtain ⟨rfl, rfl⟩ := hq
  refine gs_ald2 (pc := 40) dX0_replaceLine_40 ?_
  refine gs_getfN (pc := 41) 0 dX0_replaceLine_41 cql clX3 in_X3 (by decide) q275 (Or.inl rfl) rfl ?_
  refine gs_putfN (pc := 44) 0 (.inr (3, [vI q.1, vR (some cc), vI (b2i (lnA A.1 n).2.2)])) dX0_replaceLine_44 cl (by omega) clX3 in_X3 tyX3 tyX3_ok nmX3 (by decide) q275 (Or.inl rfl) rfl (fok_int _) (Nat.le_of_ble_eq_true rfl) rfl ?_
  refine gs_ald0 (pc := 47) dX0_replaceLine_47 ?_
  refine gs_ild1 (pc := 48) dX0_replaceLine_48 ?_
  refine gs_V1 (pc := 49) dX0_replaceLine_49 kX0_149 z1a clX0 (by decide) (Nat.le_of_ble_eq_true rfl) (c_line z1a g1 (by show n < (A.1.1.set n _).length; rw [List.length_set]; exact hn)) (fun v hp1 hq => ?_)
  obtain ⟨rfl, rfl⟩ := hq
  refine gs_ald2 (pc := 52) dX0_replaceLine_52 ?_
  refine gs_getfN (pc := 53) 1 dX0_replaceLine_53 cqa clX3 in_X3 (by decide) q278 (Or.inl rfl) rfl ?_
  refine gs_putfN (pc := 56) 1 (.inr (3, [vI q.1, vR (some cq), vI (b2i (lnA A.1 n).2.2)])) dX0_replaceLine_56 cla (by omega) clX3 in_X3 tyX3 tyX3_ok nmX3 (by decide) q278 (Or.inl rfl) rfl (fok_obj _ _) (Nat.le_of_ble_eq_true rfl) rfl ?_
  refine gs_ild3 (pc := 59) dX0_replaceLine_59 ?_
  refine gs_iret (pc := 60) dX0_replaceLine_60 rfl ?_
  exact ⟨_, rfl, rfl, hed.1, q1.M.trans (z4.trans hed.2), by show hz.1 ≤ _; omega, by show hz.2.1 ≤ _; omega⟩
end C9
