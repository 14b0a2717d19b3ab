/-! THE COMPONENT: lines shifted. -/
section CA
variable {X : gCx} {hp hp1 hp2 hz : gHp} {S0 : Nat → Prop} {S S' T : SS} {A A' : AS} {a c s cap cap' ra pa ia tb n g j : Nat} {xs xs' ps : List Nat} {f fI : Int → Option Nat} {fT fT' : Int → Int} {w ch : Option Nat} {at_ fa dr d : Int} {L : List Ln}
def shL (L : List Ln) (g j : Nat) (d : Int) : List Ln := L.mapIdx (fun i l => if (g : Int) ≤ i ∧ (i : Int) < (j : Int) ∧ l.2.1 ≠ [] then (l.1 + d, l.2) else l)
theorem shL_len : (shL L g j d).length = L.length := by unfold shL; rw [List.length_mapIdx]
theorem shL_get {i : Nat} (h : i < (shL L g j d).length) : (shL L g j d)[i] = if (g : Int) ≤ i ∧ (i : Int) < (j : Int) ∧ (L[i]'(by rw [shL_len] at h; exact h)).2.1 ≠ [] then ((L[i]'(by rw [shL_len] at h; exact h)).1 + d, (L[i]'(by rw [shL_len] at h; exact h)).2) else L[i]'(by rw [shL_len] at h; exact h) := List.getElem_mapIdx (h := h)
theorem shL_0 : shL L g g d = L := by
  refine List.ext_getElem shL_len (fun i h1 h2 => ?_)
  rw [shL_get, if_neg (by omega)]
theorem shL_at {R : (Nat → Option Rl) × Int × Int × Int} (hj : j < S.1.length) : lnA (shL S.1 g j d, R) j = lnA S j := by
  unfold shL
  rw [lnA_map hj, if_neg (by omega)]
theorem shL_s (hg : g ≤ j) (hj : j < S.1.length) : (shL S.1 g j d).set j (if (lnA S j).2.1 ≠ [] then ((lnA S j).1 + d, (lnA S j).2) else lnA S j) = shL S.1 g (j + 1) d := by
  have hl : lnA S j = S.1[j] := by
    unfold lnA
    rw [List.getD_eq_getElem?_getD, List.getElem?_eq_getElem hj]; rfl
  refine List.ext_getElem (by rw [List.length_set, shL_len, shL_len]) (fun i h1 h2 => ?_)
  rw [List.getElem_set, shL_get, shL_get]
  by_cases h : j = i
  · subst h
    rw [if_pos rfl, hl]
    by_cases hb : S.1[j].2.1 ≠ []
    · rw [if_pos hb, if_pos ⟨by omega, by omega, hb⟩]
    · rw [if_neg hb, if_neg (fun h => hb h.2.2)]
  · rw [if_neg h]
    have hi : i < S.1.length := by rw [shL_len] at h2; exact h2
    generalize S.1[i]'hi = l
    by_cases hb : (g : Int) ≤ i ∧ (i : Int) < (j : Int) ∧ l.2.1 ≠ []
    · rw [if_pos hb, if_pos ⟨hb.1, by omega, hb.2.2⟩]
    · rw [if_neg hb, if_neg (fun h' => hb ⟨h'.1, by omega, h'.2.2⟩)]
theorem c_shift {f t d : Int} (hX : KX X) (hR : RC X hp c A) (hO : asOk A) (hf : i32 f) (ht : i32 t) (hd : i32 d) : MV X yX0_shift fX0_shift 10 [vR (some c), vI f, vI t, vI d] hp (cPo X hp c (sp_shift A f t d)) := by
  have hR' := hR
  obtain ⟨s, pa, ia, tb, w, ch, at_, fa, dr, ps, fI, fT, e1, e2, e3, -, -⟩ := hR
  have e2' := e2
  obtain ⟨xs, cap, ra, fr, es⟩ := e2'
  refine MC.of pfX0_shift rfl (fun h => by cases h) 2 rfl rfl ?_
  unfold sp_shift
  refine gs_ald0 (pc := 0) dX0_shift_0 ?_
  refine gs_ild1 (pc := 1) dX0_shift_1 ?_
  refine gs_ild2 (pc := 2) dX0_shift_2 ?_
  refine gs_V2 (pc := 3) dX0_shift_3 kX0_193 e1 clX0 (by decide) (Nat.le_of_ble_eq_true rfl) (c_isRange e1 es hf ht) (fun v hp1 hq => ?_)
  obtain ⟨rfl, rfl⟩ := hq
  refine gs_beq (pc := 6) (tgt := 20) dX0_shift_6 (by decide) (fun h1 => ?_) (fun h1 => ?_)
  · rw [if_neg (by rw [h1]; simp)]
    refine gs_iconst (pc := 20) dX0_shift_20 ?_
    refine gs_iret (pc := 21) dX0_shift_21 rfl ?_
    exact ⟨_, rfl, rfl, same_po hR'⟩
  refine gs_ild3 (pc := 9) dX0_shift_9 ?_
  refine gs_bipush (pc := 10) dX0_shift_10 rfl ?_
  refine gs_bipush (pc := 12) dX0_shift_12 rfl ?_
  refine gs_S3 (pc := 14) dX0_shift_14 kX0_1 (by decide) (Nat.le_of_ble_eq_true rfl) (c_isIn hd (by decide) (by decide)) (fun v hp1 hq => ?_)
  obtain ⟨rfl, rfl⟩ := hq
  refine gs_bne (pc := 17) (tgt := 22) dX0_shift_17 (by decide) (fun h2 => ?_) (fun h2 => ?_)
  rotate_left
  · have h2 : ¬ (-40 ≤ d ∧ d ≤ 40) := by simpa [inB] using h2
    rw [if_neg (fun h => h2 h.2)]
    refine gs_iconst (pc := 20) dX0_shift_20 ?_
    refine gs_iret (pc := 21) dX0_shift_21 rfl ?_
    exact ⟨_, rfl, rfl, same_po hR'⟩
  have h2 : -40 ≤ d ∧ d ≤ 40 := by simpa [inB] using h2
  rw [if_pos ⟨h1, h2⟩]
  obtain ⟨g, u, rfl, rfl, hgu, hun⟩ := rngB_nat h1
  rw [Int.toNat_natCast, Int.toNat_natCast]
  dsimp only
  have hnl : nL A.1 = A.1.1.length := rfl
  have hin : ∀ x : Nat, x < nL A.1 → 0 ≤ (lnA A.1 x).1 ∧ (lnA A.1 x).1 ≤ 40 := fun x hx => indS_ok hO.1 hx
  have h20 : A.1.1.length ≤ 20 := hO.1.1
  have k78 : ∀ L5, G X fX0_shift 10 78 [some (vR (some c)), some (vI (g : Int)), some (vI (u : Int)), some (vI d), some (vI ((((List.range (u - g)).map (· + g)).filter (fun i => !blkL A.1 i)).length : Int)), L5] [] hp (fun r hp' => ∃ v, r = some v ∧ cPo X hp c ((((List.range (u - g)).map (· + g)).filter (fun i => !blkL A.1 i)).length, chg A (shL A.1.1 g u d, A.1.2)) v hp') := by
    intro L5
    obtain ⟨n1, n2, n3⟩ := bg_st ⟨_, _, e1⟩ e2 e3
    refine gs_ald0 (pc := 78) dX0_shift_78 ?_
    refine gs_V0v (pc := 79) dX0_shift_79 kX0_139 e1 clX0 (by decide) (Nat.le_of_ble_eq_true rfl) (c_begins hX hO e1 e2 e3) (fun hz hq => ?_)
    obtain ⟨ps', z1, z2, z3, z4, z5, z6⟩ := hq
    refine gs_ild1 (pc := 82) dX0_shift_82 ?_
    refine gs_ist5 (pc := 83) dX0_shift_83 rfl ?_
    have esz := es.fr hX z3 n3 n1 n2
    generalize (((List.range (u - g)).map (· + g)).filter (fun i => !blkL A.1 i)).length = cnt
    have loop : ∀ (r j : Nat) (h : gHp), j + r = u → g ≤ j → h.1 = hz.1 → h.2.1 = hz.2.1 → Fr X (fun l => l = s + 2) hz h → gl X h c = some (rcC c s pa ia tb A.2.2.2.2.length none none at_ fa dr) → stA X h s (shL A.1.1 g j d, A.1.2) xs cap ra fr → G X fX0_shift 10 85 [some (vR (some c)), some (vI (g : Int)), some (vI (u : Int)), some (vI d), some (vI (cnt : Int)), some (vI (j : Int))] [] h (fun r hp' => ∃ v, r = some v ∧ cPo X hp c (cnt, chg A (shL A.1.1 g u d, A.1.2)) v hp') := by
      intro r
      induction r with
      | zero =>
        intro j h hj hgj q1 q2 q3 q4 q5
        obtain rfl : j = u := by omega
        have hed := RC.edit (A := A) hX z1 z2 ⟨_, _, _, _, esz⟩ (q3.mono (fun l hl => Or.inl hl)) ⟨_, _, _, _, q5⟩
        refine gs_ild5 (pc := 85) dX0_shift_85 ?_
        refine gs_ild2 (pc := 87) dX0_shift_87 ?_
        refine gs_ic_ge (pc := 88) (tgt := 128) dX0_shift_88 (by decide) (by omega) (fun _ => ?_) (fun hn => absurd (by omega) hn)
        refine gs_ild4 (pc := 128) dX0_shift_128 ?_
        refine gs_iret (pc := 130) dX0_shift_130 rfl ?_
        exact ⟨_, rfl, rfl, hed.1, z4.trans hed.2, by omega, by omega⟩
      | succ r ih =>
        intro j h hj hgj q1 q2 q3 q4 q5
        have hjn : j < A.1.1.length := by omega
        have hjs : j < (shL A.1.1 g j d).length := by rw [shL_len]; exact hjn
        have hjx : j < xs.length := by rw [q5.2.2.2.1]; exact hjs
        have hl := q5.2.2.2.2.2.1 j hjx
        rw [shL_at hjn] at hl
        have hl' := hl
        obtain ⟨cc, cl, cs, cn⟩ := hl
        have hcx := cls_ne q4 cl (by decide)
        have hij := hin j hjn
        have kk : ∀ z : Int, z = (if (lnA A.1 j).2.1 ≠ [] then (lnA A.1 j).1 + d else (lnA A.1 j).1) → G X fX0_shift 10 119 [some (vR (some c)), some (vI (g : Int)), some (vI (u : Int)), some (vI d), some (vI (cnt : Int)), some (vI (j : Int))] [vI z, vR (some (xs.getD j 0))] h (fun r hp' => ∃ v, r = some v ∧ cPo X hp c (cnt, chg A (shL A.1.1 g u d, A.1.2)) v hp') := by
          intro z hz
          obtain ⟨g1, g2⟩ := q5.setL (l' := (z, (lnA A.1 j).2)) hX hjx cs cn
          have q4' := (gl_set_ne (c := (s + 2, .inr (3, [vI z, vR (some cc), vI (b2i (lnA A.1 j).2.2)]))) hcx).trans q4
          have ez : (z, (lnA A.1 j).2) = (if (lnA A.1 j).2.1 ≠ [] then ((lnA A.1 j).1 + d, (lnA A.1 j).2) else lnA A.1 j) := by
            rw [hz]
            by_cases hb : (lnA A.1 j).2.1 ≠ []
            · rw [if_pos hb, if_pos hb]
            · rw [if_neg hb, if_neg hb]
          rw [ez, shL_s hgj hjn] at g1
          rw [← ez] at g1
          refine gs_putfN (pc := 119) 0 (.inr (3, [vI z, vR (some cc), vI (b2i (lnA A.1 j).2.2)])) dX0_shift_119 cl (by omega) clX3 in_X3 tyX3 tyX3_ok nmX3 (by decide) q275 (Or.inl rfl) rfl (fok_int _) (Nat.le_of_ble_eq_true rfl) rfl ?_
          refine gs_inc5 (pc := 122) dX0_shift_122 rfl ?_
          refine gs_goto (pc := 125) (tgt := 85) dX0_shift_125 (by decide) ?_
          exact ih (j + 1) _ (by omega) (by omega) q1 q2 (q3.trans g2) q4' g1
        refine gs_ild5 (pc := 85) dX0_shift_85 ?_
        refine gs_ild2 (pc := 87) dX0_shift_87 ?_
        refine gs_ic_ge (pc := 88) (tgt := 128) dX0_shift_88 (by decide) (by omega) (fun hn => absurd hn (by omega)) (fun _ => ?_)
        refine gs_ald0 (pc := 91) dX0_shift_91 ?_
        refine gs_ild5 (pc := 92) dX0_shift_92 ?_
        refine gs_V1 (pc := 94) dX0_shift_94 kX0_149 q4 clX0 (by decide) (Nat.le_of_ble_eq_true rfl) (c_line q4 q5 hjs) (fun v hp1 hq => ?_)
        obtain ⟨rfl, rfl⟩ := hq
        refine gs_dup (pc := 97) dX0_shift_97 rfl ?_
        refine gs_getfN (pc := 98) 0 dX0_shift_98 cl clX3 in_X3 (by decide) q275 (Or.inl rfl) rfl ?_
        refine gs_ald0 (pc := 101) dX0_shift_101 ?_
        refine gs_ild5 (pc := 102) dX0_shift_102 ?_
        refine gs_V1 (pc := 104) dX0_shift_104 kX0_149 q4 clX0 (by decide) (Nat.le_of_ble_eq_true rfl) (c_line q4 q5 hjs) (fun v hp1 hq => ?_)
        obtain ⟨rfl, rfl⟩ := hq
        refine gs_V0 (pc := 107) dX0_shift_107 kX0_184 cl clX3 (by decide) (Nat.le_of_ble_eq_true rfl) (c_lnBlank hl') (fun v hp1 hq => ?_)
        obtain ⟨rfl, rfl⟩ := hq
        refine gs_beq (pc := 110) (tgt := 117) dX0_shift_110 (by decide) (fun hbl => ?_) (fun hbl => ?_)
        · refine gs_ild3 (pc := 117) dX0_shift_117 ?_
          refine gs_iadd (pc := 118) dX0_shift_118 ?_
          exact kk _ (by rw [if_pos (by intro h; rw [h] at hbl; cases hbl)])
        · refine gs_iconst (pc := 113) dX0_shift_113 ?_
          refine gs_goto (pc := 114) (tgt := 118) dX0_shift_114 (by decide) ?_
          refine gs_iadd (pc := 118) dX0_shift_118 ?_
          exact kk _ (by rw [if_neg (fun h => h (List.isEmpty_iff.mp hbl))]; omega)
    exact loop (u - g) g hz (by omega) (Nat.le_refl _) rfl rfl Fr.refl z1 (by rw [shL_0]; exact esz)
  have loop1 : ∀ (r j : Nat), g + j + r = u → ((List.range j).map (· + g)).all (fun i => blkL A.1 i || decide (0 ≤ (lnA A.1 i).1 + d ∧ (lnA A.1 i).1 + d ≤ 40)) = true → G X fX0_shift 10 28 [some (vR (some c)), some (vI (g : Int)), some (vI (u : Int)), some (vI d), some (vI ((((List.range j).map (· + g)).filter (fun i => !blkL A.1 i)).length : Int)), some (vI ((g + j : Nat) : Int))] [] hp (fun r hp' => ∃ v, r = some v ∧ cPo X hp c (if ((List.range (u - g)).map (· + g)).all (fun i => blkL A.1 i || decide (0 ≤ (lnA A.1 i).1 + d ∧ (lnA A.1 i).1 + d ≤ 40)) = true then ((((List.range (u - g)).map (· + g)).filter (fun i => !blkL A.1 i)).length, chg A (A.1.1.mapIdx (fun i l => if (g : Int) ≤ i ∧ (i : Int) < u ∧ l.2.1 ≠ [] then (l.1 + d, l.2) else l), A.1.2)) else (-2, A)) v hp') := by
    intro r
    induction r with
    | zero =>
      intro j hj hall
      obtain rfl : j = u - g := by omega
      rw [if_pos hall]
      refine gs_ild5 (pc := 28) dX0_shift_28 ?_
      refine gs_ild2 (pc := 30) dX0_shift_30 ?_
      refine gs_ic_ge (pc := 31) (tgt := 78) dX0_shift_31 (by decide) (by omega) (fun _ => ?_) (fun hn => absurd (by omega) hn)
      exact k78 _
    | succ r ih =>
      intro j hj hall
      have hi := ih (j + 1) (by omega)
      rw [List.range_succ, List.map_append, List.all_append, List.filter_append, List.length_append, hall, Bool.true_and] at hi
      have h3 := hin (g + j) (by omega)
      have hjn : g + j < A.1.1.length := by omega
      have hl := es.2.2.2.2.2.1 (g + j) (by rw [es.2.2.2.1]; exact hjn)
      have hl' := hl
      obtain ⟨cc, cl, -⟩ := hl
      refine gs_ild5 (pc := 28) dX0_shift_28 ?_
      refine gs_ild2 (pc := 30) dX0_shift_30 ?_
      refine gs_ic_ge (pc := 31) (tgt := 78) dX0_shift_31 (by decide) (by omega) (fun hn => absurd hn (by omega)) (fun _ => ?_)
      refine gs_ald0 (pc := 34) dX0_shift_34 ?_
      refine gs_ild5 (pc := 35) dX0_shift_35 ?_
      refine gs_V1 (pc := 37) dX0_shift_37 kX0_149 e1 clX0 (by decide) (Nat.le_of_ble_eq_true rfl) (c_line e1 es hjn) (fun v hp1 hq => ?_)
      obtain ⟨rfl, rfl⟩ := hq
      refine gs_V0 (pc := 40) dX0_shift_40 kX0_184 cl clX3 (by decide) (Nat.le_of_ble_eq_true rfl) (c_lnBlank hl') (fun v hp1 hq => ?_)
      obtain ⟨rfl, rfl⟩ := hq
      refine gs_bne (pc := 43) (tgt := 72) dX0_shift_43 (by decide) (fun hb => ?_) (fun hb => ?_)
      · have hb' : blkL A.1 (j + g) = true := by rw [Nat.add_comm]; exact hb
        have hi := hi (by simp [hb'])
        rw [show (List.filter (fun i => !blkL A.1 i) (List.map (· + g) [j])).length = 0 by simp [hb']] at hi
        refine gs_inc5 (pc := 72) dX0_shift_72 rfl ?_
        refine gs_goto (pc := 75) (tgt := 28) dX0_shift_75 (by decide) ?_
        exact hi
      · have hb' : blkL A.1 (j + g) = false := by rw [Nat.add_comm]; exact hb
        have hb0 : blkL A.1 (g + j) = false := hb
        rw [show (List.filter (fun i => !blkL A.1 i) (List.map (· + g) [j])).length = 1 by simp [hb']] at hi
        refine gs_inc4 (pc := 46) dX0_shift_46 rfl ?_
        refine gs_ald0 (pc := 49) dX0_shift_49 ?_
        refine gs_ild5 (pc := 50) dX0_shift_50 ?_
        refine gs_V1 (pc := 52) dX0_shift_52 kX0_149 e1 clX0 (by decide) (Nat.le_of_ble_eq_true rfl) (c_line e1 es hjn) (fun v hp1 hq => ?_)
        obtain ⟨rfl, rfl⟩ := hq
        refine gs_getfN (pc := 55) 0 dX0_shift_55 cl clX3 in_X3 (by decide) q275 (Or.inl rfl) rfl ?_
        refine gs_ild3 (pc := 58) dX0_shift_58 ?_
        refine gs_iadd (pc := 59) dX0_shift_59 ?_
        refine gs_iconst (pc := 60) dX0_shift_60 ?_
        refine gs_bipush (pc := 61) dX0_shift_61 rfl ?_
        refine gs_S3 (pc := 63) dX0_shift_63 kX0_1 (by decide) (Nat.le_of_ble_eq_true rfl) (c_isIn (by omega) (by decide) (by decide)) (fun v hp1 hq => ?_)
        obtain ⟨rfl, rfl⟩ := hq
        refine gs_bne (pc := 66) (tgt := 72) dX0_shift_66 (by decide) (fun hr => ?_) (fun hr => ?_)
        · have hr : 0 ≤ (lnA A.1 (g + j)).1 + d ∧ (lnA A.1 (g + j)).1 + d ≤ 40 := by simpa [inB] using hr
          have hi := hi (by simp only [List.map_cons, List.map_nil, List.all_cons, List.all_nil, Bool.and_true, hb', Bool.false_or]; rw [Nat.add_comm j g]; exact decide_eq_true hr)
          refine gs_inc5 (pc := 72) dX0_shift_72 rfl ?_
          refine gs_goto (pc := 75) (tgt := 28) dX0_shift_75 (by decide) ?_
          exact hi
        · have hr : ¬ (0 ≤ (lnA A.1 (g + j)).1 + d ∧ (lnA A.1 (g + j)).1 + d ≤ 40) := by simpa [inB] using hr
          rw [if_neg (fun h => hr ?_)]
          · refine gs_bipush (pc := 69) dX0_shift_69 rfl ?_
            refine gs_iret (pc := 71) dX0_shift_71 rfl ?_
            exact ⟨_, rfl, rfl, same_po hR'⟩
          · have := List.all_eq_true.mp h (g + j) (List.mem_map.mpr ⟨j, List.mem_range.mpr (by omega), by omega⟩)
            rw [hb0, Bool.false_or] at this
            exact of_decide_eq_true this
  refine gs_iconst (pc := 22) dX0_shift_22 ?_
  refine gs_ist4 (pc := 23) dX0_shift_23 rfl ?_
  refine gs_ild1 (pc := 25) dX0_shift_25 ?_
  refine gs_ist5 (pc := 26) dX0_shift_26 rfl ?_
  exact loop1 (u - g) 0 (by omega) rfl
end CA
