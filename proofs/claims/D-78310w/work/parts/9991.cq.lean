/-! THE COMPONENT: draw. -/
section CQ
variable {X : gCx} {hp hp1 hp2 hz : gHp} {S0 : Nat → Prop} {S S' T : SS} {A A' : AS} {a c s cap cap' ra pa ia tb n g j k len : Nat} {xs xs' ps : List Nat} {f fI : Int → Option Nat} {fT fT' : Int → Int} {w ch : Option Nat} {at_ fa dr d at' fa' dr' : Int} {L : List Ln} {t : List Int}
def dwG (X : gCx) (c : Nat) (S0 : Nat → Prop) (hp hp1 : gHp) : Prop := Fr X (fun l => l = c + 2 ∨ S0 l) hp hp1 ∧ ∀ x e, x ≠ c → gl X hp x = some (c + 2, e) → gl X hp1 x = some (c + 2, e)
theorem dwG.refl : dwG X c S0 hp hp := ⟨Fr.refl, fun _ _ _ h => h⟩
theorem dwG.own {e0 e1 : List AV} (h : dwG X c S0 hp hp1) (hc : gl X hp1 c = some (c + 2, .inr (0, e0))) : dwG X c S0 hp (hset hp1 c (c + 2, .inr (0, e1))) := ⟨h.1.set hc (by omega) (Or.inl rfl) ⟨rfl, rfl⟩, fun x e hx hh => by rw [gl_set_ne hx]; exact h.2 x e hx hh⟩
theorem dwG.step {S1 : Nat → Prop} (h : dwG X c S0 hp hp1) (h' : Fr X S1 hp1 hp2) (hs : ∀ l, S1 l → S0 l) (hc : ¬ S0 (c + 2)) : dwG X c S0 hp hp2 := ⟨h.1.trans (h'.mono (fun l hl => Or.inr (hs l hl))), fun x e hx hh => h'.at (h.2 x e hx hh) (fun q => hc (hs _ q))⟩
theorem dwG.trans {S1 : Nat → Prop} (h : dwG X c S0 hp hp1) (h' : dwG X c S1 hp1 hp2) (hs : ∀ l, S1 l → S0 l) : dwG X c S0 hp hp2 := ⟨h.1.trans (h'.1.mono (fun l hl => hl.elim Or.inl (fun q => Or.inr (hs l q)))), fun x e hx hh => h'.2 x e hx (h.2 x e hx hh)⟩
theorem pcs_len : ∀ k : Nat, (pcs k).length ≤ 5 := by
  intro k
  unfold pcs
  split <;> decide
theorem drP_len (z : Int) : ∀ n, (drP z n).2.length ≤ 6 * n
  | 0 => Nat.le_refl _
  | n + 1 => by
    have h1 := drP_len z n
    have h2 := pcs_len (outD (nxD (drP z n).1) % 16).toNat
    simp only [drP, List.length_append]
    have h3 : (if n = 0 then ([] : List Int) else [32]).length ≤ 1 := by split <;> decide
    omega
theorem skS_pcs : ∀ k : Nat, k < 16 → skS (3 + k) = pcs k := by decide
theorem loc8 {a b c e : AV} (o1 o2 o3 o4 : Option AV) : ∀ (i : Nat) (v : AV), [some a, some b, some c, some e, none, none, none, none][i]? = some (some v) → [some a, some b, some c, some e, o1, o2, o3, o4][i]? = some (some v) := by
  intro i v h
  match i, h with
  | 0, h => exact h
  | 1, h => exact h
  | 2, h => exact h
  | 3, h => exact h
  | 4, h => cases h
  | 5, h => cases h
  | 6, h => cases h
  | 7, h => cases h
  | i + 8, h => cases h
theorem dr_in {b P B D : Nat} {z z1 n1 m1 i1 : Int} {Q : Option AV → gHp → Prop} (hX : KX X) (hbc : b ≠ c) (hP : P ≤ 3)
    (kk : ∀ h cap, dwG X c (fun l => l = b + 2) hz h → isSB X h b (drP z P).2 cap → gl X h c = some (rcC c s pa ia tb len none none at_ fa (drP z P).1) → h.1 + 16 ≤ B + cap → h.2.1 + 32 ≤ D + 2 * cap → G X fX0_draw 10 118 [some (vR (some c)), some (vI z1), some (vI n1), some (vI m1), some (vI i1), some (vI (P : Int)), some (vR (some b)), some (vI (P : Int))] [] h Q) :
    ∀ (m k : Nat) (h : gHp) (cap : Nat), k + m = P → dwG X c (fun l => l = b + 2) hz h → isSB X h b (drP z k).2 cap → gl X h c = some (rcC c s pa ia tb len none none at_ fa (drP z k).1) → h.1 + 16 ≤ B + cap → h.2.1 + 32 ≤ D + 2 * cap → G X fX0_draw 10 74 [some (vR (some c)), some (vI z1), some (vI n1), some (vI m1), some (vI i1), some (vI (P : Int)), some (vR (some b)), some (vI (k : Int))] [] h Q := by
  intro m
  induction m with
  | zero =>
    intro k h cap hk g1 g2 g3 g4 g5
    obtain rfl : k = P := by omega
    refine gs_ild7 (pc := 74) dX0_draw_74 ?_
    refine gs_ild5 (pc := 76) dX0_draw_76 ?_
    refine gs_ic_ge (pc := 78) (tgt := 118) dX0_draw_78 (by decide) (by omega) (fun _ => ?_) (fun hn => absurd (by omega) hn)
    exact kk h cap g1 g2 g3 g4 g5
  | succ m ih =>
    intro k h cap hk g1 g2 g3 g4 g5
    have hcb : ¬ c + 2 = b + 2 := by omega
    have hlen := drP_len z k
    have step : ∀ (sp : Nat) (t : List Int), isS X h sp t → t = (if k = 0 then [] else [32]) → G X fX0_draw 10 95 [some (vR (some c)), some (vI z1), some (vI n1), some (vI m1), some (vI i1), some (vI (P : Int)), some (vR (some b)), some (vI (k : Int))] [vR (some sp), vR (some b)] h Q := by
      intro sp t hsp ht
      have hl1 : t.length ≤ 1 := by rw [ht]; split <;> decide
      obtain ⟨bb, hcell⟩ := g2.cell
      refine gs_V1 (pc := 95) dX0_draw_95 kX0_188 hcell clJ4 (by decide) (Nat.le_of_ble_eq_true rfl) (c_sbS g2 hsp (by omega)) (fun v h1 hq => ?_)
      obtain ⟨rfl, cap1, a1, a2, a3, a4, a5⟩ := hq
      have c1 := a1.at g3 hcb
      refine gs_ald0 (pc := 98) dX0_draw_98 ?_
      refine gs_V0 (pc := 99) dX0_draw_99 kX0_440 c1 clX0 (by decide) (Nat.le_of_ble_eq_true rfl) (c_draws c1) (fun v h2 hq => ?_)
      obtain ⟨rfl, rfl⟩ := hq
      have horg := outD_rng (nxD (drP z k).1)
      refine gs_bipush (pc := 102) dX0_draw_102 rfl ?_
      refine gs_irem (pc := 104) dX0_draw_104 (by decide) (i_rem horg (by decide)) ?_
      obtain ⟨j, hj⟩ : ∃ j : Nat, outD (nxD (drP z k).1) % 16 = (j : Int) := ⟨(outD (nxD (drP z k).1) % 16).toNat, by omega⟩
      have hj16 : j < 16 := by omega
      rw [hj]
      refine gs_S1 (pc := 105) dX0_draw_105 kX0_443 (by decide) (Nat.le_of_ble_eq_true rfl) (c_piece hj16) (fun v h3 hq => ?_)
      obtain ⟨rfl, rfl⟩ := hq
      have c2 := gl_set_self (c := rcC c s pa ia tb len none none at_ fa (nxD (drP z k).1)) c1 (by omega)
      have sb2 : isSB X (hset h1 c (rcC c s pa ia tb len none none at_ fa (nxD (drP z k).1))) b ((drP z k).2 ++ t) cap1 := a5.fr (Fr1 (c := (rcC c s pa ia tb len none none at_ fa (nxD (drP z k).1)).2) c1 (by omega) ⟨rfl, rfl⟩) (by omega)
      have d2 := (g1.step (hp2 := h1) a1 (fun l hl => hl) (by omega)).own (e1 := [vR (some s), vR (some pa), vR (some ia), vR (some tb), vI (len : Int), vR none, vR none, vI at_, vI fa, vI (nxD (drP z k).1)]) c1
      have hz1 : (hset h1 c (rcC c s pa ia tb len none none at_ fa (nxD (drP z k).1))).1 = h1.1 ∧ (hset h1 c (rcC c s pa ia tb len none none at_ fa (nxD (drP z k).1))).2.1 = h1.2.1 := ⟨rfl, rfl⟩
      have d2 : dwG X c (fun l => l = b + 2) hz (hset h1 c (rcC c s pa ia tb len none none at_ fa (nxD (drP z k).1))) := d2
      generalize hset h1 c (rcC c s pa ia tb len none none at_ fa (nxD (drP z k).1)) = h2 at *
      have hks := hX.2.2.2.1 h2 (3 + j) (by omega)
      rw [skS_pcs j hj16] at hks
      have hpl := pcs_len j
      obtain ⟨bb2, hcell2⟩ := sb2.cell
      have hl2 : ((drP z k).2 ++ t).length = (drP z k).2.length + t.length := List.length_append
      refine gs_V1 (pc := 108) dX0_draw_108 kX0_188 hcell2 clJ4 (by decide) (Nat.le_of_ble_eq_true rfl) (c_sbS sb2 hks (by omega)) (fun v h3 hq => ?_)
      obtain ⟨rfl, cap2, a6, a7, a8, a9, a10⟩ := hq
      refine gs_pop (pc := 111) dX0_draw_111 rfl ?_
      refine gs_inc7 (pc := 112) dX0_draw_112 rfl ?_
      refine gs_goto (pc := 115) (tgt := 74) dX0_draw_115 (by decide) ?_
      have e : (k : Int) + 1 = ((k + 1 : Nat) : Int) := by omega
      rw [e]
      have ed : drP z (k + 1) = (nxD (drP z k).1, (drP z k).2 ++ t ++ pcs j) := by
        have hjj : (outD (nxD (drP z k).1) % 16).toNat = j := by omega
        simp only [drP, hjj, ht, List.append_assoc]
      refine ih (k + 1) h3 cap2 (by omega) (d2.step a6 (fun l hl => hl) (by omega)) ?_ ?_ (by omega) (by omega)
      · rw [ed]; exact a10
      · rw [ed]; exact a6.at c2 hcb
    by_cases hk0 : k = 0
    · refine gs_ild7 (pc := 74) dX0_draw_74 ?_
      refine gs_ild5 (pc := 76) dX0_draw_76 ?_
      refine gs_ic_ge (pc := 78) (tgt := 118) dX0_draw_78 (by decide) (by omega) (fun hn => absurd hn (by omega)) (fun _ => ?_)
      refine gs_ald6 (pc := 81) dX0_draw_81 ?_
      refine gs_ild7 (pc := 83) dX0_draw_83 ?_
      refine gs_if_le (pc := 85) (tgt := 93) dX0_draw_85 (by decide) (by omega) (fun _ => ?_) (fun hn => absurd (by omega) hn)
      refine gs_ldcS (pc := 93) 0 rfl dX0_draw_93 ?_
      exact step _ _ (hX.2.2.2.1 h 0 (by omega)) (by rw [if_pos hk0]; rfl)
    · refine gs_ild7 (pc := 74) dX0_draw_74 ?_
      refine gs_ild5 (pc := 76) dX0_draw_76 ?_
      refine gs_ic_ge (pc := 78) (tgt := 118) dX0_draw_78 (by decide) (by omega) (fun hn => absurd hn (by omega)) (fun _ => ?_)
      refine gs_ald6 (pc := 81) dX0_draw_81 ?_
      refine gs_ild7 (pc := 83) dX0_draw_83 ?_
      refine gs_if_le (pc := 85) (tgt := 93) dX0_draw_85 (by decide) (by omega) (fun hn => absurd hn (by omega)) (fun _ => ?_)
      refine gs_ldcS (pc := 88) 2 rfl dX0_draw_88 ?_
      refine gs_goto (pc := 90) (tgt := 95) dX0_draw_90 (by decide) ?_
      exact step _ _ (hX.2.2.2.1 h 2 (by omega)) (by rw [if_neg hk0]; rfl)
theorem lnA_app1 {L : List Ln} {R : (Nat → Option Rl) × Int × Int × Int} {l : Ln} : lnA (L ++ [l], R) j = if j < L.length then lnA (L, R) j else if j = L.length then l else (0, [], false) := by
  unfold lnA
  simp only [List.getD_eq_getElem?_getD]
  by_cases h : j < L.length
  · rw [if_pos h, List.getElem?_append_left h]
  · rw [if_neg h, List.getElem?_append_right (by omega)]
    by_cases h2 : j = L.length
    · subst h2; rw [if_pos rfl, Nat.sub_self]; rfl
    · rw [if_neg h2, List.getElem?_eq_none (by simp; omega)]; rfl
theorem drN_len (z : Int) : ∀ n, (drN z n).2.length = n
  | 0 => rfl
  | n + 1 => by simp only [drN, List.length_append, List.length_singleton, drN_len z n]
theorem c_draw {z n : Int} (hX : KX X) (hR : RC X hp c A) (hO : asOk A) (hz : i32 z) (hn : i32 n) : MV X yX0_draw fX0_draw 10 [vR (some c), vI z, vI n] hp (cPo X hp c (sp_draw A z n)) := by
  have hR' := hR
  obtain ⟨s, pa, ia, tb, w, ch, at_, fa, dr, ps, fI, fT, e1, e2, e3, -, -⟩ := hR
  have e2' := e2
  obtain ⟨xs0, cap0, ra0, f0, e2s⟩ := e2'
  refine MC.of pfX0_draw rfl (fun h => by cases h) 5 rfl rfl ?_
  unfold sp_draw
  refine gs_ild2 (pc := 0) dX0_draw_0 ?_
  refine gs_iconst (pc := 1) dX0_draw_1 ?_
  refine gs_bipush (pc := 2) dX0_draw_2 rfl ?_
  refine gs_S3 (pc := 4) dX0_draw_4 kX0_1 (by decide) (Nat.le_of_ble_eq_true rfl) (c_isIn hn (by decide) (by decide)) (fun v hp1 hq => ?_)
  obtain ⟨rfl, rfl⟩ := hq
  refine gs_bne (pc := 7) (tgt := 12) dX0_draw_7 (by decide) (fun h1 => ?_) (fun h1 => ?_)
  rotate_left
  · have h1 : ¬ (1 ≤ n ∧ n ≤ 12) := by simpa [inB] using h1
    rw [if_neg h1]
    refine gs_iconst (pc := 10) dX0_draw_10 ?_
    refine gs_iret (pc := 11) dX0_draw_11 rfl ?_
    exact ⟨_, rfl, rfl, same_po hR'⟩
  have h1 : 1 ≤ n ∧ n ≤ 12 := by simpa [inB] using h1
  rw [if_pos h1]
  obtain ⟨n1, n2, n3⟩ := bg_st ⟨_, _, e1⟩ e2 e3
  have hl20 : A.1.1.length ≤ 20 := hO.1.1
  have hnl : nL A.1 = A.1.1.length := rfl
  refine gs_ald0 (pc := 12) dX0_draw_12 ?_
  refine gs_V0v (pc := 13) dX0_draw_13 kX0_139 e1 clX0 (by decide) (Nat.le_of_ble_eq_true rfl) (c_begins hX hO e1 e2 e3) (fun hz hq => ?_)
  obtain ⟨ps', z1, z2, z3, z4, z5, z6⟩ := hq
  have es := e2s.fr hX z3 n3 n1 n2
  have es0 : isSta X hz s A.1 := ⟨_, _, _, _, es⟩
  have hcO : isO X hz c 0 := ⟨_, _, z1⟩
  have hclt := hcO.lt
  have hslt := es.lt
  have hcs := hcO.ne es.o.1 (by decide)
  have hcs1 := hcO.ne es.o.2 (by decide)
  have hcn : ¬ edF X hz s (c + 2) := by
    rintro (g | g | g)
    · omega
    · omega
    · unfold frs at g; omega
  obtain ⟨N, rfl⟩ : ∃ N : Nat, n = (N : Int) := ⟨n.toNat, by omega⟩
  rw [Int.toNat_natCast]
  have dwi : ∀ (h h' : gHp) (x1 x2 : Int), hset h c (rcC c s pa ia tb A.2.2.2.2.length none none at_ fa x1) = h' → dwG X c (edF X hz s) hz h → gl X h c = some (rcC c s pa ia tb A.2.2.2.2.length none none at_ fa x2) → dwG X c (edF X hz s) hz h' ∧ gl X h' c = some (rcC c s pa ia tb A.2.2.2.2.length none none at_ fa x1) ∧ h'.1 = h.1 ∧ h'.2.1 = h.2.1 ∧ ∀ T xs cap, stA X h s T xs cap ra0 f0 → stA X h' s T xs cap ra0 f0 := by
    intro h h' x1 x2 hh g1 g2
    subst hh
    refine ⟨g1.own g2, gl_set_self g2 (by omega), rfl, rfl, fun T xs cap g => g.fr hX (Fr1 (c := (rcC c s pa ia tb A.2.2.2.2.length none none at_ fa x1).2) g2 (by omega) ⟨rfl, rfl⟩) (fun l hl => by omega) (by omega) (by omega)⟩
  have loop : ∀ (m y : Nat) (h : gHp) (xs : List Nat) (cap : Nat), y + m = min N (20 - nL A.1) → dwG X c (edF X hz s) hz h → gl X h c = some (rcC c s pa ia tb A.2.2.2.2.length none none at_ fa (drN z y).1) → stA X h s (A.1.1 ++ (drN z y).2, A.1.2) xs cap ra0 f0 → (cap ≤ cap0 ∨ cap ≤ 2 * xs.length + 10) → h.1 ≤ hz.1 + 60 * y + cap → h.2.1 ≤ hz.2.1 + 200 * y + 4 * cap → G X fX0_draw 10 23 [some (vR (some c)), some (vI z), some (vI (N : Int)), some (vI (y : Int)), none, none, none, none] [] h (fun r hp' => ∃ u, r = some u ∧ cPo X hp c (((min N (20 - nL A.1) : Nat) : Int), chg A (A.1.1 ++ (drN z (min N (20 - nL A.1))).2, A.1.2)) u hp') := by
    intro m
    induction m with
    | zero =>
      intro y h xs cap hy g1 g2 g3 gc g4 g5
      have hyq : y = min N (20 - nL A.1) := by omega
      have hcap := g3.2.2.1
      have fin : G X fX0_draw 10 149 [some (vR (some c)), some (vI z), some (vI (N : Int)), some (vI (y : Int)), none, none, none, none] [] h (fun r hp' => ∃ u, r = some u ∧ cPo X hp c (((min N (20 - nL A.1) : Nat) : Int), chg A (A.1.1 ++ (drN z (min N (20 - nL A.1))).2, A.1.2)) u hp') := by
        refine gs_ild3 (pc := 149) dX0_draw_149 ?_
        refine gs_iret (pc := 150) dX0_draw_150 rfl ?_
        have hia := z2.2.2.2.1
        have htb := z2.2.2.2.2.2.2.1
        have ic : ia ≠ c := fun e => by rw [e, z1] at hia; cases hia
        have tc : tb ≠ c := fun e => by rw [e, z1] at htb; cases htb
        have hed := RC_edit2 (A := A) hX hcO g2 z2 es0 g1.1 (by rw [hia]; exact g1.2 _ _ ic hia) (by rw [htb]; exact g1.2 _ _ tc htb) ⟨_, _, _, _, g3⟩
        rw [← hyq]
        exact ⟨_, rfl, rfl, hed.1, z4.trans hed.2, by omega, by omega⟩
      refine gs_ild3 (pc := 23) dX0_draw_23 ?_
      refine gs_ild2 (pc := 24) dX0_draw_24 ?_
      refine gs_ic_ge (pc := 25) (tgt := 149) dX0_draw_25 (by decide) (by omega) (fun h2 => ?_) (fun h2 => ?_)
      · exact fin
      · obtain ⟨mc, e, lbe, ff, ea, -⟩ := g3.2.1
        have hxl := g3.2.2.2.1
        have hdl := drN_len z y
        have hxl : xs.length = A.1.1.length + y := by rw [hxl]; show (A.1.1 ++ (drN z y).2).length = _; rw [List.length_append, hdl]
        refine gs_ald0 (pc := 28) dX0_draw_28 ?_
        refine gs_getf (pc := 29) 0 dX0_draw_29 g2 clX0 in_X0 (by decide) q211 (Or.inl rfl) rfl ?_
        refine gs_getfN (pc := 32) 0 dX0_draw_32 g3.1 clX1 in_X1 (by decide) q185 (Or.inl rfl) rfl ?_
        refine gs_V0 (pc := 35) dX0_draw_35 kX0_44 ea clJ2 (by decide) (Nat.le_of_ble_eq_true rfl) (c_alSize g3.2.1) (fun v hp1 hq => ?_)
        obtain ⟨rfl, rfl⟩ := hq
        refine gs_bipush (pc := 38) dX0_draw_38 rfl ?_
        refine gs_ic_ge (pc := 40) (tgt := 149) dX0_draw_40 (by decide) (by omega) (fun _ => ?_) (fun hn => absurd (by omega) hn)
        exact fin
    | succ m ih =>
      intro y h xs cap hy g1 g2 g3 gc g4 g5
      have hcap := g3.2.2.1
      obtain ⟨mc, e, lbe, ff, ea, -⟩ := g3.2.1
      have hxl := g3.2.2.2.1
      have hdl := drN_len z y
      have hxl : xs.length = A.1.1.length + y := by rw [hxl]; show (A.1.1 ++ (drN z y).2).length = _; rw [List.length_append, hdl]
      refine gs_ild3 (pc := 23) dX0_draw_23 ?_
      refine gs_ild2 (pc := 24) dX0_draw_24 ?_
      refine gs_ic_ge (pc := 25) (tgt := 149) dX0_draw_25 (by decide) (by omega) (fun hn => absurd hn (by omega)) (fun _ => ?_)
      refine gs_ald0 (pc := 28) dX0_draw_28 ?_
      refine gs_getf (pc := 29) 0 dX0_draw_29 g2 clX0 in_X0 (by decide) q211 (Or.inl rfl) rfl ?_
      refine gs_getfN (pc := 32) 0 dX0_draw_32 g3.1 clX1 in_X1 (by decide) q185 (Or.inl rfl) rfl ?_
      refine gs_V0 (pc := 35) dX0_draw_35 kX0_44 ea clJ2 (by decide) (Nat.le_of_ble_eq_true rfl) (c_alSize g3.2.1) (fun v hp1 hq => ?_)
      obtain ⟨rfl, rfl⟩ := hq
      refine gs_bipush (pc := 38) dX0_draw_38 rfl ?_
      refine gs_ic_ge (pc := 40) (tgt := 149) dX0_draw_40 (by decide) (by omega) (fun hn => absurd hn (by omega)) (fun _ => ?_)
      refine gs_ald0 (pc := 43) dX0_draw_43 ?_
      refine gs_V0 (pc := 44) dX0_draw_44 kX0_440 g2 clX0 (by decide) (Nat.le_of_ble_eq_true rfl) (c_draws g2) (fun v h1 hq => ?_)
      obtain ⟨rfl, hh1⟩ := hq
      obtain ⟨b1, b2, b3, b4, b5⟩ := dwi h h1 _ _ hh1.symm g1 g2
      refine gs_bipush (pc := 47) dX0_draw_47 rfl ?_
      refine gs_irem (pc := 49) dX0_draw_49 (by decide) (i_rem (outD_rng _) (by decide)) ?_
      refine gs_ist4 (pc := 50) dX0_draw_50 rfl ?_
      refine gs_iconst (pc := 52) dX0_draw_52 ?_
      refine gs_ald0 (pc := 53) dX0_draw_53 ?_
      refine gs_V0 (pc := 54) dX0_draw_54 kX0_440 b2 clX0 (by decide) (Nat.le_of_ble_eq_true rfl) (c_draws b2) (fun v h2 hq => ?_)
      obtain ⟨rfl, hh2⟩ := hq
      obtain ⟨b6, b7, b8, b9, b10⟩ := dwi h1 h2 _ _ hh2.symm b1 b2
      refine gs_iconst (pc := 57) dX0_draw_57 ?_
      refine gs_irem (pc := 58) dX0_draw_58 (by decide) (i_rem (outD_rng _) (by decide)) ?_
      refine gs_iadd (pc := 59) dX0_draw_59 ?_
      refine gs_ist5 (pc := 60) dX0_draw_60 rfl ?_
      have hor2 := outD_rng (nxD (nxD (drN z y).1))
      obtain ⟨P, hP⟩ : ∃ P : Nat, 1 + outD (nxD (nxD (drN z y).1)) % 3 = (P : Int) := ⟨(1 + outD (nxD (nxD (drN z y).1)) % 3).toNat, by omega⟩
      have hP3 : P ≤ 3 := by omega
      rw [hP]
      have es2 := b10 _ _ _ (b5 _ _ _ g3)
      refine gs_new (pc := 62) (nx X h2 + 2) dfJ4 dX0_draw_62 clJ4 in_J4 tyJ4 tyJ4_ok q293 q294 q104 dfoJ4 ?_
      have k1 : gl X (hnew X h2 4 (nx X h2 + 2, .inr (10, dfJ4))) (nx X h2) = some (nx X h2 + 2, .inr (10, dfJ4)) := gl_new_self
      have k2 : Fr X (fun _ => False) h2 (hnew X h2 4 (nx X h2 + 2, .inr (10, dfJ4))) := Fr.new Fr.refl
      have k3 : (hnew X h2 4 (nx X h2 + 2, .inr (10, dfJ4))).1 = h2.1 + 1 ∧ (hnew X h2 4 (nx X h2 + 2, .inr (10, dfJ4))).2.1 = h2.2.1 + 4 := ⟨rfl, rfl⟩
      generalize hnew X h2 4 (nx X h2 + 2, Sum.inr (10, dfJ4)) = h3 at *
      have hb2 : nx X hz ≤ nx X h2 := b6.1.nx
      have hbc : nx X h2 ≠ c := by have := gl_lt b7; omega
      refine gs_dup (pc := 65) dX0_draw_65 rfl ?_
      refine gs_I0v (pc := 66) dX0_draw_66 kX0_117 (by decide) (Nat.le_of_ble_eq_true rfl) (c_sbInit k1) (fun h4 hq => ?_)
      obtain ⟨k4, k5, k6, k7⟩ := hq
      have F24 : Fr X (fun l => l = nx X h2 + 2) h2 h4 := (Fr.of0 k2).trans k4
      refine gs_ast6 (pc := 69) dX0_draw_69 rfl ?_
      refine gs_iconst (pc := 71) dX0_draw_71 ?_
      refine gs_ist7 (pc := 72) dX0_draw_72 rfl ?_
      have hbf : ∀ l, l = nx X h2 + 2 → edF X hz s l := fun l hl => Or.inr (Or.inr (by unfold frs; omega))
      have d4 := b6.step F24 hbf hcn
      refine dr_in (hz := h4) (B := h4.1) (D := h4.2.1) (z := nxD (nxD (drN z y).1)) (s := s) (pa := pa) (ia := ia) (tb := tb) (len := A.2.2.2.2.length) (at_ := at_) (fa := fa) hX hbc hP3 (fun h5 capS q1 q2 q3 q4 q5 => ?_) P 0 h4 16 (by omega) dwG.refl k7 (F24.at b7 (by omega)) (by omega) (by omega)
      have hSl := drP_len (nxD (nxD (drN z y).1)) P
      have hScap := isSB_cap q2
      have hss : ¬ (s + 2 = c + 2 ∨ s + 2 = nx X h2 + 2) ∧ ¬ (s + 3 = c + 2 ∨ s + 3 = nx X h2 + 2) := by have := es2.lt; omega
      have es4 : stA X h4 s (A.1.1 ++ (drN z y).2, A.1.2) xs cap ra0 f0 := es2.fr hX F24 (fun l hl => by omega) (by have := es2.lt; omega) (by have := es2.lt; omega)
      have es5 : stA X h5 s (A.1.1 ++ (drN z y).2, A.1.2) xs cap ra0 f0 := es4.fr hX q1.1 (fun l hl => by omega) hss.1 hss.2
      have d5 := d4.trans q1 hbf
      refine gs_ald0 (pc := 118) dX0_draw_118 ?_
      refine gs_getf (pc := 119) 0 dX0_draw_119 q3 clX0 in_X0 (by decide) q211 (Or.inl rfl) rfl ?_
      refine gs_getfN (pc := 122) 0 dX0_draw_122 es5.1 clX1 in_X1 (by decide) q185 (Or.inl rfl) rfl ?_
      refine gs_new (pc := 125) (s + 2) dfX3 dX0_draw_125 clX3 in_X3 tyX3 tyX3_ok q266 q267 q102 dfoX3 ?_
      have u1 : gl X (hnew X h5 3 (s + 2, .inr (3, dfX3))) (nx X h5) = some (s + 2, .inr (3, dfX3)) := gl_new_self
      have u2 : Fr X (fun _ => False) h5 (hnew X h5 3 (s + 2, .inr (3, dfX3))) := Fr.new Fr.refl
      have u3 : (hnew X h5 3 (s + 2, .inr (3, dfX3))).1 = h5.1 + 1 ∧ (hnew X h5 3 (s + 2, .inr (3, dfX3))).2.1 = h5.2.1 + 3 := ⟨rfl, rfl⟩
      generalize hnew X h5 3 (s + 2, Sum.inr (3, dfX3)) = h6 at *
      have sb6 := q2.fr u2 (fun h => h)
      obtain ⟨bb, hcell⟩ := sb6.cell
      refine gs_dup (pc := 128) dX0_draw_128 rfl ?_
      refine gs_ild4 (pc := 129) dX0_draw_129 ?_
      refine gs_ald6 (pc := 131) dX0_draw_131 ?_
      refine gs_V0 (pc := 133) dX0_draw_133 kX0_122 hcell clJ4 (by decide) (Nat.le_of_ble_eq_true rfl) (c_sbStr sb6 (by omega)) (fun v h7 hq => ?_)
      obtain ⟨r, rfl, ⟨t1, t2, t3, t4, t5⟩, t6⟩ := hq
      have u4 := t1.at u1 (fun h => h)
      refine gs_I2v (pc := 136) dX0_draw_136 kX0_128 (by decide) (Nat.le_of_ble_eq_true rfl) (c_lnInit (by omega) u4) (fun h8 hq => ?_)
      obtain ⟨i1, i2, i3, i4⟩ := hq
      have hx5 : nx X h5 ≤ nx X h5 := Nat.le_refl _
      have F58 : Fr X (fun _ => False) h5 h8 := Fr_ne1 (u2.trans t1) hx5 i1 i2 i4
      have hr5 : r ≠ nx X h5 := fun h => by obtain ⟨lb, b, hh, zz, hcl⟩ := t4.cell; rw [h, u4] at hcl; cases hcl
      have F78 := ln_fr u4 i1 i2 i3 i4
      have tS : isS X h8 r (drP (nxD (nxD (drN z y).1)) P).2 := t4.fr F78 (fun l hl => by omega)
      have tN : isN X h8 r := t5.fr F78 (fun l hl => by omega)
      have es8 : stA X h8 s (A.1.1 ++ (drN z y).2, A.1.2) xs cap ra0 f0 := es5.fr hX F58 (fun l hl => hl.elim) (fun h => h) (fun h => h)
      have hln8 : isLn X h8 (s + 2) (nx X h5) (drL (drN z y).1).2 := by
        have e : (drL (drN z y).1).2 = (outD (nxD (drN z y).1) % 12, (drP (nxD (nxD (drN z y).1)) P).2, false) := by
          unfold drL
          rw [show (1 + outD (nxD (nxD (drN z y).1)) % 3).toNat = P by omega]
        rw [e]
        exact ⟨r, i3, tS, fun _ => tN⟩
      have eal := es8.2.1
      obtain ⟨mc8, e8, lbe8, ff8, ea8, -⟩ := es8.2.1
      refine gs_V1 (pc := 139) dX0_draw_139 kX0_56 ea8 clJ2 (by decide) (Nat.le_of_ble_eq_true rfl) (c_alAdd hX eal (by omega) hln8.ok) (fun v h9 hq => ?_)
      obtain ⟨rfl, r1, capN, ⟨r2, r3, r4, r5⟩, r6⟩ := hq
      refine gs_pop (pc := 142) dX0_draw_142 rfl ?_
      refine gs_inc3 (pc := 143) dX0_draw_143 rfl ?_
      refine gs_goto (pc := 146) (tgt := 23) dX0_draw_146 (by decide) ?_
      have hxlt : ∀ v ∈ xs, v < nx X h5 := by
        intro v hv
        obtain ⟨k, hk, rfl⟩ := List.getElem_of_mem hv
        obtain ⟨cc, cl, -⟩ := es5.2.2.2.2.2.1 k hk
        have := gl_lt cl
        rw [List.getD_eq_getElem?_getD, List.getElem?_eq_getElem hk] at this
        exact this
      have hlen : (A.1.1 ++ (drN z y).2 ++ [(drL (drN z y).1).2]).length = xs.length + 1 := by rw [List.length_append, List.length_append, List.length_singleton, hdl]; omega
      have es9 := es8.list (L' := A.1.1 ++ (drN z y).2 ++ [(drL (drN z y).1).2]) r1 r6 (by have := e2s.2.2.1; omega) (by rw [hlen, List.length_append]; rfl) (by
        rw [List.nodup_append]
        refine ⟨es5.2.2.2.2.1, by simp, fun a ha b hb => ?_⟩
        rw [List.mem_singleton] at hb
        have := hxlt a ha
        omega) (fun i hi => by
        rw [List.length_append, List.length_singleton] at hi
        rw [getD_app1, lnA_app1]
        have hll : (A.1.1 ++ (drN z y).2).length = xs.length := by rw [List.length_append, hdl]; omega
        rw [hll]
        by_cases hi2 : i < xs.length
        · rw [if_pos hi2, if_pos hi2]
          exact es8.2.2.2.2.2.1 i hi2
        · rw [if_neg hi2, if_neg hi2, if_pos (by omega), if_pos (by omega)]
          exact hln8)
      have d9 := (d5.step F58 (fun l hl => hl.elim) hcn).step r1 (fun l hl => Or.inr (Or.inl hl)) hcn
      have c9 := r1.at (F58.at q3 (fun h => h)) (by omega)
      have ed : drN z (y + 1) = ((drP (nxD (nxD (drN z y).1)) P).1, (drN z y).2 ++ [(drL (drN z y).1).2]) := by
        simp only [drN]
        unfold drL
        rw [show (1 + outD (nxD (nxD (drN z y).1)) % 3).toNat = P by omega]
      rw [show (y : Int) + 1 = ((y + 1 : Nat) : Int) by omega]
      refine G.loc (L' := [some (vR (some c)), some (vI z), some (vI (N : Int)), some (vI ((y + 1 : Nat) : Int)), none, none, none, none]) (Nat.le_refl _) (loc8 _ _ _ _) ?_
      refine ih (y + 1) h9 (xs ++ [nx X h5]) capN (by omega) d9 (by rw [ed]; exact c9) (by rw [ed]; dsimp only; rw [← List.append_assoc]; exact es9) (by rw [List.length_append, List.length_singleton]; omega) (by omega) (by omega)
  refine gs_ald0 (pc := 16) dX0_draw_16 ?_
  refine gs_ild1 (pc := 17) dX0_draw_17 ?_
  refine gs_putf (pc := 18) 9 (rcC c s pa ia tb A.2.2.2.2.length none none at_ fa z).2 dX0_draw_18 z1 (by omega) clX0 in_X0 tyX0 tyX0_ok nmX0 (by decide) q220 (Or.inl rfl) rfl (fok_int _) (Nat.le_of_ble_eq_true rfl) rfl ?_
  obtain ⟨b1, b2, b3, b4, b5⟩ := dwi hz _ _ _ rfl dwG.refl z1
  have b1 : dwG X c (edF X hz s) hz (hset hz c (c + 2, (rcC c s pa ia tb A.2.2.2.2.length none none at_ fa z).2)) := b1
  have b3 : (hset hz c (c + 2, (rcC c s pa ia tb A.2.2.2.2.length none none at_ fa z).2)).1 = hz.1 := rfl
  have b4 : (hset hz c (c + 2, (rcC c s pa ia tb A.2.2.2.2.length none none at_ fa z).2)).2.1 = hz.2.1 := rfl
  refine gs_iconst (pc := 21) dX0_draw_21 ?_
  refine gs_ist3 (pc := 22) dX0_draw_22 rfl ?_
  exact loop (min N (20 - nL A.1)) 0 _ xs0 cap0 (by omega) b1 b2 (by show stA X _ s (A.1.1 ++ [], A.1.2) xs0 cap0 ra0 f0; rw [List.append_nil]; exact b5 _ _ _ es) (Or.inl (Nat.le_refl _)) (by omega) (by omega)
end CQ
