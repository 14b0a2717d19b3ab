/-! THE COMPONENT: the present state is changed. -/
section C6
variable {X : gCx} {hp hp1 hp2 hz : gHp} {S0 : Nat → Prop} {S S' T : SS} {A A' : AS} {c s cap cap' ra pa ia tb : Nat} {xs xs' ps : List Nat} {f fI : Int → Option Nat} {fT fT' : Int → Int} {w ch : Option Nat} {at_ fa dr : Int}
/-- what a change of the state s may touch -/
def edF (X : gCx) (hp : gHp) (s : Nat) (l : Nat) : Prop := l = s + 2 ∨ l = s + 3 ∨ frs X hp l
theorem edF_2 {l : Nat} (h : edF X hp s l) : 2 ≤ l := by rcases h with g | g | g; omega; omega; exact frs_2 g
theorem isO.fr {a ci : Nat} (h : Fr X S0 hp hp1) (ho : isO X hp a ci) : isO X hp1 a ci := by
  obtain ⟨lb, fs, e⟩ := ho
  obtain ⟨⟨l', q | o⟩, e4, e5⟩ := (h.2.2 a _ e).2
  · exact e5.2.elim
  · obtain ⟨ci', fs'⟩ := o
    have : ci = ci' := e5.2
    subst this
    exact ⟨_, _, e4⟩
/-- begins leaves the state s -/
theorem bg_st (e1 : isO X hp c 0) (e2 : isSta X hp s T) (e3 : rcB X hp c s pa ia tb ps fI fT A) : ¬ bgF X hp c pa (s + 2) ∧ ¬ bgF X hp c pa (s + 3) ∧ ∀ l, bgF X hp c pa l → 2 ≤ l := by
  obtain ⟨pcap, b1, -⟩ := e3.1
  have h1 := e2.lt
  have h2 := e1.ne e2.o.1 (by decide)
  have h3 := e1.ne e2.o.2 (by decide)
  have h4 := b1.o.ne e2.o.1 (by decide)
  have h5 := e3.2.2.2.2.2.2.2.2.2.1 s List.mem_cons_self
  refine ⟨?_, ?_, fun l hl => ?_⟩
  · rintro (g | g | g)
    · omega
    · omega
    · unfold frs at g; omega
  · rintro (g | g | g)
    · omega
    · omega
    · unfold frs at g; omega
  · rcases hl with g | g | g
    · omega
    · omega
    · exact frs_2 g
/-- the present state is changed, behind begins -/
theorem RC.edit (hX : KX X) (e1 : gl X hz c = some (rcC c s pa ia tb A.2.2.2.2.length none none at_ fa dr)) (e3 : rcB X hz c s pa ia tb ps fI fT (chg A A.1)) (e0 : isSta X hz s T) (hF : Fr X (edF X hz s) hz hp1) (hs : isSta X hp1 s S') : RC X hp1 c (chg A S') ∧ FrM X hz hp1 := by
  have ho : isO X hz c 0 := ⟨_, _, e1⟩
  obtain ⟨pcap, b1, -⟩ := e3.1
  have hlt := e0.lt
  have hclt := ho.lt
  have hplt := b1.o.lt
  have h2 := ho.ne e0.o.1 (by decide)
  have h3 := ho.ne e0.o.2 (by decide)
  have h4 := b1.o.ne e0.o.1 (by decide)
  have h5 := e3.2.2.2.2.2.2.2.2.2.1 s List.mem_cons_self
  have hcn : ¬ edF X hz s (c + 2) := by
    rintro (g | g | g)
    · omega
    · omega
    · unfold frs at g; omega
  have hB : rcB X hp1 c s pa ia tb ps fI fT (chg A A.1) := by
    refine e3.fr hX hF (fun l hl => edF_2 hl) hcn ?_ (fun q hq hqs => ?_)
    · rintro (g | g | g)
      · omega
      · omega
      · unfold frs at g; omega
    · obtain ⟨U, g⟩ := e3.2.2.2.2.2.2.2.2.2.2 q hq hqs
      have g1 := g.lt
      have g2 := g.o.1.ne e0.o.2 (by decide)
      have g3 := g.o.2.ne e0.o.1 (by decide)
      constructor
      · rintro (g | g | g)
        · omega
        · omega
        · unfold frs at g; omega
      · rintro (g | g | g)
        · omega
        · omega
        · unfold frs at g; omega
  refine ⟨⟨s, pa, ia, tb, none, none, at_, fa, dr, ps, fI, fT, hF.at e1 hcn, hs, hB, fun wa h => (by cases h), fun m h => (by cases h)⟩, FrM.of hF (fun l hl => ?_)⟩
  obtain ⟨xs, cap, ra, f, g⟩ := e0
  obtain ⟨lb, fs, g2⟩ := g.2.1.o
  rcases hl with h | h | h
  · rw [h]; exact nM.cell g.1 (by decide)
  · rw [h]; exact nM.cell g2 (by decide)
  · exact nM.new h
theorem isLn.ne {lb x : Nat} {l : Ln} (hF : Fr X S0 hp hp1) (h2 : ∀ l, S0 l → 2 ≤ l) (hx : gl X hp1 x = gl X hp x) (h : isLn X hp lb x l) : isLn X hp1 lb x l := by
  obtain ⟨c, e1, e2, e3⟩ := h
  exact ⟨c, by rw [hx]; exact e1, e2.fr hF h2, fun hn => (e3 hn).fr hF h2⟩
/-- step, base, comment -/
theorem stA.cell {st ba cm : Int} (hX : KX X) (hs : stA X hp s S xs cap ra f) : stA X (hset hp s (s + 2, .inr (1, [vR (some (s + 1)), vR (some ra), vI st, vI ba, vI cm]))) s (S.1, S.2.1, st, ba, cm) xs cap ra f := by
  obtain ⟨e1, e2, e3, e4, e5, e6, e7, e8⟩ := hs
  have hF := Fr1 (c := .inr (1, [vR (some (s + 1)), vR (some ra), vI st, vI ba, vI cm])) e1 (by omega) ⟨rfl, rfl⟩
  have h2 : ∀ l, l = s + 2 → 2 ≤ l := fun l hl => by omega
  refine ⟨gl_set_self e1 (by omega), e2.fr hX hF (by omega), e3, e4, e5, fun i hi => (e6 i hi).ne hF h2 (gl_set_ne ?_), ?_, e8.fr hF h2⟩
  · obtain ⟨cc, g, -⟩ := e6 i hi
    exact cls_ne g e1 (by decide)
  · rw [gl_set_ne (fun e => by rw [e, e1] at e7; cases e7)]; exact e7
/-- a line -/
theorem stA.line {i : Nat} {l' : Ln} (hX : KX X) (hs : stA X hp s S xs cap ra f) (hi : i < xs.length) (hl : isLn X hp1 (s + 2) (xs.getD i 0) l') (hF : Fr X (fun l => l = s + 2) hp hp1) (hne : ∀ b, b ≠ xs.getD i 0 → gl X hp1 b = gl X hp b) : stA X hp1 s (S.1.set i l', S.2) xs cap ra f := by
  obtain ⟨e1, e2, e3, e4, e5, e6, e7, e8⟩ := hs
  have h2 : ∀ l, l = s + 2 → 2 ≤ l := fun l hl => by omega
  obtain ⟨cc, g, -⟩ := e6 i hi
  refine ⟨by rw [hne s (fun e => cls_ne e1 (by rw [e]; exact g) (by decide) rfl)]; exact e1, e2.fr hX hF (by omega), e3, by rw [e4, List.length_set], e5, fun j hj => ?_, ?_, e8.fr hF h2⟩
  · rw [lnA_set (by omega)]
    by_cases hji : j = i
    · subst hji; rw [if_pos rfl]; exact hl
    · rw [if_neg hji]
      refine (e6 j hj).ne hF h2 (hne _ (fun e => ?_))
      rw [List.getD_eq_getElem?_getD, List.getD_eq_getElem?_getD, List.getElem?_eq_getElem hj, List.getElem?_eq_getElem hi] at e
      have hpw := List.pairwise_iff_getElem.mp e5
      rcases Nat.lt_or_gt_of_ne hji with h | h
      · exact hpw j i hj hi h e
      · exact hpw i j hi hj h e.symm
  · rw [hne ra (fun e => by rw [e, g] at e7; cases e7)]; exact e7
/-- the list of lines -/
theorem stA.list {L' : List Ln} (hs : stA X hp s S xs cap ra f) (hF : Fr X (fun l => l = s + 3) hp hp1) (hal : isAL X hp1 (s + 1) xs' cap') (hc : cap' ≤ 60) (hlen : xs'.length = L'.length) (hnd : xs'.Nodup) (hln : ∀ i : Nat, i < xs'.length → isLn X hp (s + 2) (xs'.getD i 0) (lnA (L', S.2) i)) : stA X hp1 s (L', S.2) xs' cap' ra f := by
  obtain ⟨e1, e2, e3, e4, e5, e6, e7, e8⟩ := hs
  have h2 : ∀ l, l = s + 3 → 2 ≤ l := fun l hl => by omega
  exact ⟨hF.at e1 (by omega), hal, hc, hlen, hnd, fun i hi => (hln i hi).fr hF h2 (by omega), hF.at e7 (by omega), e8.fr hF h2⟩
theorem stA.rules {S2 : (Nat → Option Rl)} {f' : Int → Option Nat} (hX : KX X) (hs : stA X hp s S xs cap ra f) (hr : rlsA X (hset hp ra (s + 2, .inl (5, 12, .inr f'))) f' (S.1, S2, S.2.2)) : stA X (hset hp ra (s + 2, .inl (5, 12, .inr f'))) s (S.1, S2, S.2.2) xs cap ra f' := by
  obtain ⟨e1, e2, e3, e4, e5, e6, e7, e8⟩ := hs
  have hF := Fr1 (c := .inl (5, 12, .inr f')) e7 (by omega) ⟨rfl, rfl, rfl⟩
  have h2 : ∀ l, l = s + 2 → 2 ≤ l := fun l hl => by omega
  refine ⟨by rw [gl_set_ne (fun e => by rw [e, e7] at e1; cases e1)]; exact e1, e2.fr hX hF (by omega), e3, e4, e5, fun i hi => (e6 i hi).ne hF h2 (gl_set_ne ?_), gl_set_self e7 (by omega), hr⟩
  obtain ⟨cc, g, -⟩ := e6 i hi
  exact fun e => by rw [e, e7] at g; cases g
theorem same_po (hR : RC X hp c A) : RC X hp c A ∧ FrM X hp hp ∧ hp.1 ≤ hp.1 + 12900 ∧ hp.2.1 ≤ hp.2.1 + 100000 := ⟨hR, FrM.refl, by omega, by omega⟩
theorem c_setStep {v : Int} (hX : KX X) (hR : RC X hp c A) (hO : asOk A) (hv : i32 v) : MV X yX0_setStep fX0_setStep 10 [vR (some c), vI v] hp (cPo X hp c (sp_setStep A v)) := by
  have hR' := hR
  obtain ⟨s, pa, ia, tb, w, ch, at_, fa, dr, ps, fI, fT, e1, e2, e3, -, -⟩ := hR
  refine MC.of pfX0_setStep rfl (fun h => by cases h) 1 rfl rfl ?_
  unfold sp_setStep
  refine gs_ild1 (pc := 0) dX0_setStep_0 ?_
  refine gs_iconst (pc := 1) dX0_setStep_1 ?_
  refine gs_bipush (pc := 2) dX0_setStep_2 rfl ?_
  refine gs_S3 (pc := 4) dX0_setStep_4 kX0_1 (by decide) (Nat.le_of_ble_eq_true rfl) (c_isIn hv (by decide) (by decide)) (fun v hp1 hq => ?_)
  obtain ⟨rfl, rfl⟩ := hq
  refine gs_bne (pc := 7) (tgt := 12) dX0_setStep_7 (by decide) (fun h1 => ?_) (fun h1 => ?_)
  rotate_left
  · have h1 : ¬ (1 ≤ v ∧ v ≤ 8) := by simpa [inB] using h1
    rw [if_neg h1]
    refine gs_iconst (pc := 10) dX0_setStep_10 ?_
    refine gs_iret (pc := 11) dX0_setStep_11 rfl ?_
    exact ⟨_, rfl, rfl, same_po hR'⟩
  have h1 : 1 ≤ v ∧ v ≤ 8 := by simpa [inB] using h1
  rw [if_pos h1]
  obtain ⟨n1, n2, n3⟩ := bg_st ⟨_, _, e1⟩ e2 e3
  refine gs_ald0 (pc := 12) dX0_setStep_12 ?_
  refine gs_V0v (pc := 13) dX0_setStep_13 kX0_139 e1 clX0 (by decide) (Nat.le_of_ble_eq_true rfl) (c_begins hX hO e1 e2 e3) (fun hz hq => ?_)
  obtain ⟨ps', z1, z2, z3, z4, z5, z6⟩ := hq
  obtain ⟨xs, cap, ra, f, es⟩ := e2.fr hX z3 n3 n1 n2
  refine gs_ald0 (pc := 16) dX0_setStep_16 ?_
  refine gs_getf (pc := 17) 0 dX0_setStep_17 z1 clX0 in_X0 (by decide) q211 (Or.inl rfl) rfl ?_
  refine gs_getfN (pc := 20) 2 dX0_setStep_20 es.1 clX1 in_X1 (by decide) q191 (Or.inl rfl) rfl ?_
  refine gs_ist2 (pc := 23) dX0_setStep_23 rfl ?_
  refine gs_ald0 (pc := 24) dX0_setStep_24 ?_
  refine gs_getf (pc := 25) 0 dX0_setStep_25 z1 clX0 in_X0 (by decide) q211 (Or.inl rfl) rfl ?_
  refine gs_ild1 (pc := 28) dX0_setStep_28 ?_
  refine gs_putfN (pc := 29) 2 (.inr (1, [vR (some (s + 1)), vR (some ra), vI v, vI A.1.2.2.2.1, vI A.1.2.2.2.2])) dX0_setStep_29 es.1 (by omega) clX1 in_X1 tyX1 tyX1_ok nmX1 (by decide) q191 (Or.inl rfl) rfl (fok_int _) (Nat.le_of_ble_eq_true rfl) rfl ?_
  refine gs_ild2 (pc := 32) dX0_setStep_32 ?_
  refine gs_iret (pc := 33) dX0_setStep_33 rfl ?_
  have hed := RC.edit (A := A) hX z1 z2 ⟨_, _, _, _, es⟩ ((Fr1 (c := .inr (1, [vR (some (s + 1)), vR (some ra), vI v, vI A.1.2.2.2.1, vI A.1.2.2.2.2])) es.1 (by omega) ⟨rfl, rfl⟩).mono (fun l hl => Or.inl hl)) ⟨_, _, _, _, es.cell hX⟩
  exact ⟨_, rfl, rfl, hed.1, z4.trans hed.2, by show hz.1 ≤ _; omega, by show hz.2.1 ≤ _; omega⟩
theorem c_setBase {v : Int} (hX : KX X) (hR : RC X hp c A) (hO : asOk A) (hv : i32 v) : MV X yX0_setBase fX0_setBase 10 [vR (some c), vI v] hp (cPo X hp c (sp_setBase A v)) := by
  have hR' := hR
  obtain ⟨s, pa, ia, tb, w, ch, at_, fa, dr, ps, fI, fT, e1, e2, e3, -, -⟩ := hR
  refine MC.of pfX0_setBase rfl (fun h => by cases h) 1 rfl rfl ?_
  unfold sp_setBase
  refine gs_ild1 (pc := 0) dX0_setBase_0 ?_
  refine gs_iconst (pc := 1) dX0_setBase_1 ?_
  refine gs_bipush (pc := 2) dX0_setBase_2 rfl ?_
  refine gs_S3 (pc := 4) dX0_setBase_4 kX0_1 (by decide) (Nat.le_of_ble_eq_true rfl) (c_isIn hv (by decide) (by decide)) (fun v hp1 hq => ?_)
  obtain ⟨rfl, rfl⟩ := hq
  refine gs_bne (pc := 7) (tgt := 12) dX0_setBase_7 (by decide) (fun h1 => ?_) (fun h1 => ?_)
  rotate_left
  · have h1 : ¬ (0 ≤ v ∧ v ≤ 20) := by simpa [inB] using h1
    rw [if_neg h1]
    refine gs_iconst (pc := 10) dX0_setBase_10 ?_
    refine gs_iret (pc := 11) dX0_setBase_11 rfl ?_
    exact ⟨_, rfl, rfl, same_po hR'⟩
  have h1 : 0 ≤ v ∧ v ≤ 20 := by simpa [inB] using h1
  rw [if_pos h1]
  obtain ⟨n1, n2, n3⟩ := bg_st ⟨_, _, e1⟩ e2 e3
  refine gs_ald0 (pc := 12) dX0_setBase_12 ?_
  refine gs_V0v (pc := 13) dX0_setBase_13 kX0_139 e1 clX0 (by decide) (Nat.le_of_ble_eq_true rfl) (c_begins hX hO e1 e2 e3) (fun hz hq => ?_)
  obtain ⟨ps', z1, z2, z3, z4, z5, z6⟩ := hq
  obtain ⟨xs, cap, ra, f, es⟩ := e2.fr hX z3 n3 n1 n2
  refine gs_ald0 (pc := 16) dX0_setBase_16 ?_
  refine gs_getf (pc := 17) 0 dX0_setBase_17 z1 clX0 in_X0 (by decide) q211 (Or.inl rfl) rfl ?_
  refine gs_getfN (pc := 20) 3 dX0_setBase_20 es.1 clX1 in_X1 (by decide) q193 (Or.inl rfl) rfl ?_
  refine gs_ist2 (pc := 23) dX0_setBase_23 rfl ?_
  refine gs_ald0 (pc := 24) dX0_setBase_24 ?_
  refine gs_getf (pc := 25) 0 dX0_setBase_25 z1 clX0 in_X0 (by decide) q211 (Or.inl rfl) rfl ?_
  refine gs_ild1 (pc := 28) dX0_setBase_28 ?_
  refine gs_putfN (pc := 29) 3 (.inr (1, [vR (some (s + 1)), vR (some ra), vI A.1.2.2.1, vI v, vI A.1.2.2.2.2])) dX0_setBase_29 es.1 (by omega) clX1 in_X1 tyX1 tyX1_ok nmX1 (by decide) q193 (Or.inl rfl) rfl (fok_int _) (Nat.le_of_ble_eq_true rfl) rfl ?_
  refine gs_ild2 (pc := 32) dX0_setBase_32 ?_
  refine gs_iret (pc := 33) dX0_setBase_33 rfl ?_
  have hed := RC.edit (A := A) hX z1 z2 ⟨_, _, _, _, es⟩ ((Fr1 (c := .inr (1, [vR (some (s + 1)), vR (some ra), vI A.1.2.2.1, vI v, vI A.1.2.2.2.2])) es.1 (by omega) ⟨rfl, rfl⟩).mono (fun l hl => Or.inl hl)) ⟨_, _, _, _, es.cell hX⟩
  exact ⟨_, rfl, rfl, hed.1, z4.trans hed.2, by show hz.1 ≤ _; omega, by show hz.2.1 ≤ _; omega⟩
theorem c_setComment {v : Int} (hX : KX X) (hR : RC X hp c A) (hO : asOk A) (hv : i32 v) : MV X yX0_setComment fX0_setComment 10 [vR (some c), vI v] hp (cPo X hp c (sp_setComment A v)) := by
  have hR' := hR
  obtain ⟨s, pa, ia, tb, w, ch, at_, fa, dr, ps, fI, fT, e1, e2, e3, -, -⟩ := hR
  refine MC.of pfX0_setComment rfl (fun h => by cases h) 1 rfl rfl ?_
  have kY : cmOk v = true → G X fX0_setComment 10 30 [some (vR (some c)), some (vI v), none] [] hp (fun r hp' => ∃ u, r = some u ∧ cPo X hp c (sp_setComment A v) u hp') := by
    intro h1
    unfold sp_setComment
    rw [if_pos h1]
    obtain ⟨n1, n2, n3⟩ := bg_st ⟨_, _, e1⟩ e2 e3
    refine gs_ald0 (pc := 30) dX0_setComment_30 ?_
    refine gs_V0v (pc := 31) dX0_setComment_31 kX0_139 e1 clX0 (by decide) (Nat.le_of_ble_eq_true rfl) (c_begins hX hO e1 e2 e3) (fun hz hq => ?_)
    obtain ⟨ps', z1, z2, z3, z4, z5, z6⟩ := hq
    obtain ⟨xs, cap, ra, f, es⟩ := e2.fr hX z3 n3 n1 n2
    refine gs_ald0 (pc := 34) dX0_setComment_34 ?_
    refine gs_getf (pc := 35) 0 dX0_setComment_35 z1 clX0 in_X0 (by decide) q211 (Or.inl rfl) rfl ?_
    refine gs_getfN (pc := 38) 4 dX0_setComment_38 es.1 clX1 in_X1 (by decide) q196 (Or.inl rfl) rfl ?_
    refine gs_ist2 (pc := 41) dX0_setComment_41 rfl ?_
    refine gs_ald0 (pc := 42) dX0_setComment_42 ?_
    refine gs_getf (pc := 43) 0 dX0_setComment_43 z1 clX0 in_X0 (by decide) q211 (Or.inl rfl) rfl ?_
    refine gs_ild1 (pc := 46) dX0_setComment_46 ?_
    refine gs_putfN (pc := 47) 4 (.inr (1, [vR (some (s + 1)), vR (some ra), vI A.1.2.2.1, vI A.1.2.2.2.1, vI v])) dX0_setComment_47 es.1 (by omega) clX1 in_X1 tyX1 tyX1_ok nmX1 (by decide) q196 (Or.inl rfl) rfl (fok_int _) (Nat.le_of_ble_eq_true rfl) rfl ?_
    refine gs_ild2 (pc := 50) dX0_setComment_50 ?_
    refine gs_iret (pc := 51) dX0_setComment_51 rfl ?_
    have hed := RC.edit (A := A) hX z1 z2 ⟨_, _, _, _, es⟩ ((Fr1 (c := .inr (1, [vR (some (s + 1)), vR (some ra), vI A.1.2.2.1, vI A.1.2.2.2.1, vI v])) es.1 (by omega) ⟨rfl, rfl⟩).mono (fun l hl => Or.inl hl)) ⟨_, _, _, _, es.cell hX⟩
    exact ⟨_, rfl, rfl, hed.1, z4.trans hed.2, by show hz.1 ≤ _; omega, by show hz.2.1 ≤ _; omega⟩
  have kN : cmOk v = false → G X fX0_setComment 10 28 [some (vR (some c)), some (vI v), none] [] hp (fun r hp' => ∃ u, r = some u ∧ cPo X hp c (sp_setComment A v) u hp') := by
    intro h1
    unfold sp_setComment
    rw [if_neg (by rw [h1]; decide)]
    refine gs_iconst (pc := 28) dX0_setComment_28 ?_
    refine gs_iret (pc := 29) dX0_setComment_29 rfl ?_
    exact ⟨_, rfl, rfl, same_po hR'⟩
  refine gs_ild1 (pc := 0) dX0_setComment_0 ?_
  refine gs_if_eq (pc := 1) (tgt := 30) dX0_setComment_1 (by decide) (by omega) (fun h0 => ?_) (fun h0 => ?_)
  · exact kY (by simp [cmOk, h0])
  · refine gs_ild1 (pc := 4) dX0_setComment_4 ?_
    refine gs_bipush (pc := 5) dX0_setComment_5 rfl ?_
    refine gs_bipush (pc := 7) dX0_setComment_7 rfl ?_
    refine gs_S3 (pc := 9) dX0_setComment_9 kX0_1 (by decide) (Nat.le_of_ble_eq_true rfl) (c_isIn hv (by decide) (by decide)) (fun v hp1 hq => ?_)
    obtain ⟨rfl, rfl⟩ := hq
    refine gs_beq (pc := 12) (tgt := 28) dX0_setComment_12 (by decide) (fun h1 => ?_) (fun h1 => ?_)
    · exact kN (by simp [cmOk, h0, h1])
    · refine gs_ild1 (pc := 15) dX0_setComment_15 ?_
      refine gs_bipush (pc := 16) dX0_setComment_16 rfl ?_
      refine gs_ic_eq (pc := 18) (tgt := 28) dX0_setComment_18 (by decide) (by omega) (fun h2 => ?_) (fun h2 => ?_)
      · exact kN (by simp [cmOk, h0, h2])
      · refine gs_ild1 (pc := 21) dX0_setComment_21 ?_
        refine gs_S1 (pc := 22) dX0_setComment_22 kX0_222 (by decide) (Nat.le_of_ble_eq_true rfl) (c_isWordByte hv) (fun v hp1 hq => ?_)
        obtain ⟨rfl, rfl⟩ := hq
        refine gs_beq (pc := 25) (tgt := 30) dX0_setComment_25 (by decide) (fun h3 => ?_) (fun h3 => ?_)
        · exact kY (by simp [cmOk, h0, h1, h2, h3])
        · exact kN (by simp [cmOk, h0, h3])
theorem c_removeLine {i : Int} (hX : KX X) (hR : RC X hp c A) (hO : asOk A) (hi : i32 i) : MV X yX0_removeLine fX0_removeLine 10 [vR (some c), vI i] hp (cPo X hp c (sp_remove A i)) := by
  have hR' := hR
  obtain ⟨s, pa, ia, tb, w, ch, at_, fa, dr, ps, fI, fT, e1, e2, e3, -, -⟩ := hR
  have e2' := e2
  obtain ⟨xs0, cap0, ra0, f0, e2s⟩ := e2'
  refine MC.of pfX0_removeLine rfl (fun h => by cases h) 0 rfl rfl ?_
  unfold sp_remove
  refine gs_ald0 (pc := 0) dX0_removeLine_0 ?_
  refine gs_ild1 (pc := 1) dX0_removeLine_1 ?_
  refine gs_V1 (pc := 2) dX0_removeLine_2 kX0_145 e1 clX0 (by decide) (Nat.le_of_ble_eq_true rfl) (c_isLine e1 e2s hi) (fun v hp1 hq => ?_)
  obtain ⟨rfl, rfl⟩ := hq
  refine gs_bne (pc := 5) (tgt := 10) dX0_removeLine_5 (by decide) (fun h1 => ?_) (fun h1 => ?_)
  rotate_left
  · rw [inB_isL] at h1
    rw [if_neg (by rw [h1]; decide)]
    refine gs_iconst (pc := 8) dX0_removeLine_8 ?_
    refine gs_iret (pc := 9) dX0_removeLine_9 rfl ?_
    exact ⟨_, rfl, rfl, same_po hR'⟩
  rw [inB_isL] at h1
  rw [if_pos h1]
  obtain ⟨n, rfl, hn⟩ := isL_nat h1
  rw [Int.toNat_natCast]
  obtain ⟨n1, n2, n3⟩ := bg_st ⟨_, _, e1⟩ e2 e3
  refine gs_ald0 (pc := 10) dX0_removeLine_10 ?_
  refine gs_V0v (pc := 11) dX0_removeLine_11 kX0_139 e1 clX0 (by decide) (Nat.le_of_ble_eq_true rfl) (c_begins hX hO e1 e2 e3) (fun hz hq => ?_)
  obtain ⟨ps', z1, z2, z3, z4, z5, z6⟩ := hq
  have es := e2s.fr hX z3 n3 n1 n2
  have hnl : nL A.1 = A.1.1.length := rfl
  have hxl := es.2.2.2.1
  have eal := es.2.1
  obtain ⟨mc, e, lbe, ff, ea, -⟩ := es.2.1
  refine gs_ald0 (pc := 14) dX0_removeLine_14 ?_
  refine gs_getf (pc := 15) 0 dX0_removeLine_15 z1 clX0 in_X0 (by decide) q211 (Or.inl rfl) rfl ?_
  refine gs_getfN (pc := 18) 0 dX0_removeLine_18 es.1 clX1 in_X1 (by decide) q185 (Or.inl rfl) rfl ?_
  refine gs_ild1 (pc := 21) dX0_removeLine_21 ?_
  refine gs_V1 (pc := 22) dX0_removeLine_22 kX0_48 ea clJ2 (by decide) (Nat.le_of_ble_eq_true rfl) (c_alRemove eal (by omega)) (fun v hq hq => ?_)
  obtain ⟨rfl, r1, r2, r3, r4⟩ := hq
  refine gs_pop (pc := 25) dX0_removeLine_25 rfl ?_
  have hln : ∀ j : Nat, j < (xs0.eraseIdx n).length → isLn X hz (s + 2) ((xs0.eraseIdx n).getD j 0) (lnA (A.1.1.eraseIdx n, A.1.2) j) := by
    intro j hj
    rw [List.length_eraseIdx, if_pos (by omega)] at hj
    rw [lnA_era, List.getD_eq_getElem?_getD, List.getElem?_eraseIdx]
    by_cases hjn : j < n
    · rw [if_pos hjn, if_pos hjn, ← List.getD_eq_getElem?_getD]
      exact es.2.2.2.2.2.1 j (by omega)
    · rw [if_neg hjn, if_neg hjn, ← List.getD_eq_getElem?_getD]
      exact es.2.2.2.2.2.1 (j + 1) (by omega)
  have es2 := es.list (L' := A.1.1.eraseIdx n) r1 r4 es.2.2.1 (by rw [List.length_eraseIdx, List.length_eraseIdx, if_pos (by omega), if_pos (by omega), hxl]) (es.2.2.2.2.1.sublist (List.eraseIdx_sublist _ _)) hln
  have hed := RC.edit (A := A) hX z1 z2 ⟨_, _, _, _, es⟩ (r1.mono (fun l hl => Or.inr (Or.inl hl))) ⟨_, _, _, _, es2⟩
  have z1q := r1.at z1 (by have := (isO.ne ⟨_, _, z1⟩ eal.o (by decide)); omega)
  obtain ⟨mc', e', lbe', ff', ea', -⟩ := r4
  have r4 : isAL X hq (s + 1) (xs0.eraseIdx n) cap0 := es2.2.1
  refine gs_ald0 (pc := 26) dX0_removeLine_26 ?_
  refine gs_getf (pc := 27) 0 dX0_removeLine_27 z1q clX0 in_X0 (by decide) q211 (Or.inl rfl) rfl ?_
  refine gs_getfN (pc := 30) 0 dX0_removeLine_30 es2.1 clX1 in_X1 (by decide) q185 (Or.inl rfl) rfl ?_
  refine gs_V0 (pc := 33) dX0_removeLine_33 kX0_44 ea' clJ2 (by decide) (Nat.le_of_ble_eq_true rfl) (c_alSize r4) (fun v hp1 hq => ?_)
  obtain ⟨rfl, rfl⟩ := hq
  refine gs_iret (pc := 36) dX0_removeLine_36 rfl ?_
  refine ⟨_, rfl, ?_, hed.1, z4.trans hed.2, by omega, by omega⟩
  rw [List.length_eraseIdx, if_pos (by omega)]
  congr 1
  omega
end C6
