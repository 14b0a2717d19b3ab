/-! THE COMPONENT: findRules, the tokens. -/
section CW
variable {X : gCx} {hp hp1 hp2 hz h h3 h4 : gHp} {S0 : Nat → Prop} {S : SS} {a c s t n p q al tx nr fa pr B D capA capT capA' capT' x m len cap ra r : Nat} {u y : List Int} {xs us ts us' : List Nat} {tl tl' : List (List Int)} {T : Tok} {Tl : List Tok} {ff fp : Int → Int} {op wd so : Int} {txo : Option Nat} {f : Int → Option Nat} {R : Rl}
theorem ts_ne {ts : List Nat} {i j : Nat} (h : ts.Nodup) (hi : i < ts.length) (hj : j < ts.length) (hne : i ≠ j) : ts.getD i 0 ≠ ts.getD j 0 := by
  rw [List.getD_eq_getElem?_getD, List.getD_eq_getElem?_getD, List.getElem?_eq_getElem hi, List.getElem?_eq_getElem hj]
  have hpw := List.pairwise_iff_getElem.mp h
  rcases Nat.lt_or_gt_of_ne hne with g | g
  · exact hpw i j hi hj g
  · exact fun e => hpw j i hj hi g e.symm
theorem ts_mem {ts : List Nat} {i : Nat} (hi : i < ts.length) : ts.getD i 0 ∈ ts := by
  rw [List.getD_eq_getElem?_getD, List.getElem?_eq_getElem hi]
  exact List.getElem_mem hi
/-- while the tokens are gone through: the first k are done -/
def ftI (X : gCx) (h1 h : gHp) (t : Nat) (S : SS) (ts : List Nat) (Tl : List Tok) (tl : List (List Int)) (k : Nat) : Prop := h.1 = h1.1 ∧ h.2.1 = h1.2.1 ∧ Fr X (fun l => l = t + 2) h1 h ∧ (∀ b, b ∉ ts → gl X h b = gl X h1 b) ∧ (∀ j : Nat, j < k → isTokD X h (t + 2) (ts.getD j 0) S (Tl.getD j tkD) tl) ∧ ∀ j : Nat, k ≤ j → j < ts.length → isTok0 X h (t + 2) (ts.getD j 0) (Tl.getD j tkD) tl
theorem txW.to (h' : Fr X S0 hp hp1) (hS : ∀ l, S0 l → 2 ≤ l) (hs : txW X hp T tl txo wd) : txW X hp1 T tl txo wd := hs.fr h' hS (List.prefix_refl _)
/-- one token is done -/
theorem ftI.step {h1 h h' : gHp} {k : Nat} (hnd : ts.Nodup) (hk : k < ts.length) (hI : ftI X h1 h t S ts Tl tl k) (h0 : h'.1 = h.1) (h0' : h'.2.1 = h.2.1) (hF : Fr X (fun l => l = t + 2) h h') (hne : ∀ b, b ≠ ts.getD k 0 → gl X h' b = gl X h b) (hD : isTokD X h' (t + 2) (ts.getD k 0) S (Tl.getD k tkD) tl) : ftI X h1 h' t S ts Tl tl (k + 1) := by
  obtain ⟨i1, i2, i3, i4, i5, i6⟩ := hI
  have h2 : ∀ l, l = t + 2 → 2 ≤ l := fun l hl => by omega
  refine ⟨h0.trans i1, h0'.trans i2, i3.trans hF, fun b hb => ?_, fun j hj => ?_, fun j hj hjl => ?_⟩
  · rw [hne b (fun e => hb (by rw [e]; exact ts_mem hk)), i4 b hb]
  · by_cases e : j = k
    · rw [e]; exact hD
    · obtain ⟨a, b, g1, g2⟩ := i5 j (by omega)
      exact ⟨a, b, by rw [hne _ (ts_ne hnd (by omega) hk e)]; exact g1, g2.to hF h2⟩
  · obtain ⟨a, b, g1, g2⟩ := i6 j (by omega) hjl
    exact ⟨a, b, by rw [hne _ (ts_ne hnd hjl hk (by omega))]; exact g1, g2.to hF h2⟩
theorem ftI.tn {h1 h : gHp} {k : Nat} (ht : gl X h1 t = some (t + 2, tkC s al tx nr fa pr op)) (hI : ftI X h1 h t S ts Tl tl k) : t ∉ ts := by
  intro hm
  obtain ⟨i, hi, e⟩ := List.getElem_of_mem hm
  have ei : ts.getD i 0 = t := by rw [List.getD_eq_getElem?_getD, List.getElem?_eq_getElem hi]; exact e
  have g1 : isO X h t 6 := by
    by_cases hik : i < k
    · obtain ⟨a, b, g1, -⟩ := hI.2.2.2.2.1 i hik
      rw [ei] at g1
      exact ⟨_, _, g1⟩
    · obtain ⟨a, b, g1, -⟩ := hI.2.2.2.2.2 i (by omega) hi
      rw [ei] at g1
      exact ⟨_, _, g1⟩
  have g2 : isO X h t 5 := isO.fr hI.2.2.1 ⟨_, _, ht⟩
  exact g1.ne g2 (by decide) rfl
theorem fr_tokens {m1 m2 m3 hs mh n1 l1 n2 l2 n3 l3 n4 l4 : Nat} {h1 : gHp} {Q : Option AV → gHp → Prop} (hX : KX X) (hO : ssOk S) (ht : gl X h1 t = some (t + 2, tkC s al tx nr fa pr op)) (hal : isAL X h1 al ts capA) (hnd : ts.Nodup) (hlen : ts.length = Tl.length) (htn : tl.Nodup) (hnr : nr ≤ 24) (hrt : ∀ r R, r < 12 → S.2.1 r = some R → R.2.2.2.2.2.1 ∈ tl.take nr ∧ (R.1 = 1 → R.2.2.2.2.2.2 ∈ tl.take nr)) (hT : Tl.length ≤ 640) (hq : ∀ T ∈ Tl, ¬ T.2.2.2.1 < 2 → T.2.2.2.2 = []) (htl : tl.length ≤ 700)
    (i1 : mapV X h1 false m1 n1 l1 (rV S 1 tl 12)) (i2 : mapV X h1 false m2 n2 l2 (rV S 2 tl 12)) (i3 : mapV X h1 false m3 n3 l3 (rV S 3 tl 12)) (i4 : hsV X h1 hs mh n4 l4 (clW S tl 12))
    (kk : ∀ h l5 l6, ftI X h1 h t S ts Tl tl ts.length → G X fX5_findRules 10 239 [some (vR (some t)), some (vR (some m1)), some (vR (some m2)), some (vR (some m3)), some (vR (some hs)), l5, l6] [] h Q) :
    ∀ (m k : Nat) (h : gHp) (l6 : Option AV), k + m = ts.length → ftI X h1 h t S ts Tl tl k → G X fX5_findRules 10 129 [some (vR (some t)), some (vR (some m1)), some (vR (some m2)), some (vR (some m3)), some (vR (some hs)), some (vI (k : Int)), l6] [] h Q := by
  have htal : t ≠ al := isO.ne ⟨_, _, ht⟩ hal.o (by decide)
  obtain ⟨fs1, c1⟩ := i1.o
  obtain ⟨fs2, c2⟩ := i2.o
  obtain ⟨fs3, c3⟩ := i3.o
  obtain ⟨es4, ⟨-, -, -, vs4, tb4, eset4, mc4, th4, lf4, c4, -⟩, -⟩ := i4.2
  have d1 : t ≠ m1 := cls_ne ht c1 (by decide)
  have d2 : t ≠ m2 := cls_ne ht c2 (by decide)
  have d3 : t ≠ m3 := cls_ne ht c3 (by decide)
  have d4 : t ≠ mh := cls_ne ht c4 (by decide)
  have h2 : ∀ l, l = t + 2 → 2 ≤ l := fun l hl => by omega
  intro m
  induction m with
  | zero =>
    intro k h l6 hk hI
    obtain rfl : k = ts.length := by omega
    have tn := hI.tn ht
    have ht' := (hI.2.2.2.1 t tn).trans ht
    have hal' := hal.fr hX hI.2.2.1 (by omega)
    have hal2 := hal'
    obtain ⟨mc, e, lbe, ff, ea, -⟩ := hal2
    refine gs_ild5 (pc := 129) dX5_findRules_129 ?_
    refine gs_ald0 (pc := 131) dX5_findRules_131 ?_
    refine gs_getf (pc := 132) 1 dX5_findRules_132 ht' clX5 in_X5 (by decide) q1440 (Or.inl rfl) rfl ?_
    refine gs_V0 (pc := 135) dX5_findRules_135 kX5_56 ea clJ2 (by decide) (Nat.le_of_ble_eq_true rfl) (c_alSize hal') (fun v hp1 hq => ?_)
    obtain ⟨rfl, rfl⟩ := hq
    refine gs_ic_ge (pc := 138) (tgt := 239) dX5_findRules_138 (by decide) (by omega) (fun _ => ?_) (fun hn => absurd (by omega) hn)
    exact kk h _ _ hI
  | succ m ih =>
    intro k h l6 hk hI
    have hkl : k < ts.length := by omega
    obtain ⟨txo, wd, g1, g2⟩ := hI.2.2.2.2.2 k (Nat.le_refl _) hkl
    have tn := hI.tn ht
    have ht' := (hI.2.2.2.1 t tn).trans ht
    have hal' := hal.fr hX hI.2.2.1 (by omega)
    have hal2 := hal'
    obtain ⟨mc, e, lbe, ff, ea, -⟩ := hal2
    have fin : ∀ (h' : gHp) (l6 : Option AV), ftI X h1 h' t S ts Tl tl (k + 1) → G X fX5_findRules 10 233 [some (vR (some t)), some (vR (some m1)), some (vR (some m2)), some (vR (some m3)), some (vR (some hs)), some (vI (k : Int)), l6] [] h' Q := by
      intro h' l6 hI'
      refine gs_inc5 (pc := 233) dX5_findRules_233 rfl ?_
      refine gs_goto (pc := 236) (tgt := 129) dX5_findRules_236 (by decide) ?_
      rw [show (k : Int) + 1 = ((k + 1 : Nat) : Int) by omega]
      exact ih (k + 1) h' l6 (by omega) hI'
    have hTm : Tl.getD k tkD ∈ Tl := by
      rw [List.getD_eq_getElem?_getD, List.getElem?_eq_getElem (by omega)]
      exact List.getElem_mem _
    have hqk := hq _ hTm
    generalize hTk : Tl.getD k tkD = T at *
    have hwr : -9 ≤ wd ∧ wd ≤ 700 := by
      rcases g2 with ⟨-, -, w, q1, q2, -⟩ | ⟨-, -, q⟩
      · omega
      · omega
    refine gs_ild5 (pc := 129) dX5_findRules_129 ?_
    refine gs_ald0 (pc := 131) dX5_findRules_131 ?_
    refine gs_getf (pc := 132) 1 dX5_findRules_132 ht' clX5 in_X5 (by decide) q1440 (Or.inl rfl) rfl ?_
    refine gs_V0 (pc := 135) dX5_findRules_135 kX5_56 ea clJ2 (by decide) (Nat.le_of_ble_eq_true rfl) (c_alSize hal') (fun v hp1 hq => ?_)
    obtain ⟨rfl, rfl⟩ := hq
    refine gs_ic_ge (pc := 138) (tgt := 239) dX5_findRules_138 (by decide) (by omega) (fun hn => absurd hn (by omega)) (fun _ => ?_)
    refine gs_ald0 (pc := 141) dX5_findRules_141 ?_
    refine gs_getf (pc := 142) 1 dX5_findRules_142 ht' clX5 in_X5 (by decide) q1440 (Or.inl rfl) rfl ?_
    refine gs_ild5 (pc := 145) dX5_findRules_145 ?_
    refine gs_V1 (pc := 147) dX5_findRules_147 kX5_66 ea clJ2 (by decide) (Nat.le_of_ble_eq_true rfl) (c_alGet hal' hkl) (fun v hp1 hq => ?_)
    obtain ⟨rfl, rfl⟩ := hq
    refine gs_cast (pc := 150) dX5_findRules_150 q716 g1 clX6 (Or.inl rfl) ?_
    refine gs_ast6 (pc := 153) dX5_findRules_153 rfl ?_
    refine gs_ald6 (pc := 155) dX5_findRules_155 ?_
    refine gs_getfN (pc := 157) 5 dX5_findRules_157 g1 clX6 in_X6 (by decide) q735 (Or.inl rfl) rfl ?_
    refine gs_iconst (pc := 160) dX5_findRules_160 ?_
    refine gs_ald0 (pc := 161) dX5_findRules_161 ?_
    refine gs_getf (pc := 162) 3 dX5_findRules_162 ht' clX5 in_X5 (by decide) q1445 (Or.inl rfl) rfl ?_
    refine gs_iconst (pc := 165) dX5_findRules_165 ?_
    refine gs_isub (pc := 166) dX5_findRules_166 ?_
    refine gs_SN3 (pc := 167) dX5_findRules_167 kX5_162 (by decide) (Nat.le_of_ble_eq_true rfl) (c_isIn (by omega) (by omega) (by omega)) (fun v hp1 hq => ?_)
    obtain ⟨rfl, rfl⟩ := hq
    refine gs_beq (pc := 170) (tgt := 233) dX5_findRules_170 (by decide) (fun hin => ?_) (fun hin => ?_)
    · have hin : ¬ (0 ≤ wd ∧ wd ≤ (nr : Int) - 1) := by simpa [inB] using hin
      have hno : ∀ r R, r < 12 → S.2.1 r = some R → R.2.2.2.2.2.1 ≠ T.2.2.2.2 ∧ (R.1 = 1 → R.2.2.2.2.2.2 ≠ T.2.2.2.2) := by
        intro r R hr hR
        obtain ⟨q1, q2⟩ := hrt r R hr hR
        have hro := hO.2.2.1 r R hR
        rcases g2 with ⟨-, -, w, q3, q4, q5⟩ | ⟨q3, -, -⟩
        · refine ⟨fun e => ?_, fun h1 e => ?_⟩
          · have := nd_take htn q4 q5 (by rw [← e]; exact q1); omega
          · have := nd_take htn q4 q5 (by rw [← e]; exact q2 h1); omega
        · rw [hqk q3]
          refine ⟨fun e => ?_, fun h1 e => ?_⟩
          · have := hro.2.2.2.2.2.2.1.1; rw [e] at this; exact absurd this (by decide)
          · have := (hro.2.2.2.2.2.2.2 h1).1; rw [e] at this; exact absurd this (by decide)
      have r1 : ∀ so, rfor S so T.2.2.2.2 12 = -9 := fun so => rfor_no (fun r R hr hR => (hno r R hr hR).1)
      have r2 : clsT S T.2.2.2.2 = false := clN_no (fun r R hr hR => (hno r R hr hR).2)
      refine fin h _ (hI.step hnd hkl rfl rfl Fr.refl (fun b hb => rfl) ?_)
      rw [hTk]
      exact ⟨txo, wd, by rw [r1, r1, r1, r2]; exact g1, g2⟩
    · have hin : 0 ≤ wd ∧ wd ≤ (nr : Int) - 1 := by simpa [inB] using hin
      obtain ⟨w, rfl, q4, q5⟩ : ∃ w : Nat, wd = (w : Int) ∧ w < tl.length ∧ tl.getD w [] = T.2.2.2.2 := by
        rcases g2 with ⟨-, -, w, q3, q4, q5⟩ | ⟨-, -, q⟩
        · exact ⟨w, q3, q4, q5⟩
        · omega
      have fm : ∀ {h'}, Fr X (fun l => l = t + 2) h h' → mapV X h' false m1 n1 l1 (rV S 1 tl 12) ∧ mapV X h' false m2 n2 l2 (rV S 2 tl 12) ∧ mapV X h' false m3 n3 l3 (rV S 3 tl 12) ∧ hsV X h' hs mh n4 l4 (clW S tl 12) := fun g => ⟨i1.fr (hI.2.2.1.trans g) (by omega) h2, i2.fr (hI.2.2.1.trans g) (by omega) h2, i3.fr (hI.2.2.1.trans g) (by omega) h2, i4.fr (hI.2.2.1.trans g) (by omega) h2⟩
      obtain ⟨j1, -, -, -⟩ := fm (Fr.refl (hp := h))
      refine gs_ald6 (pc := 173) dX5_findRules_173 ?_
      refine gs_ald1 (pc := 175) dX5_findRules_175 ?_
      refine gs_ald6 (pc := 176) dX5_findRules_176 ?_
      refine gs_getfN (pc := 178) 5 dX5_findRules_178 g1 clX6 in_X6 (by decide) q735 (Or.inl rfl) rfl ?_
      refine gs_S2 (pc := 181) dX5_findRules_181 kX5_166 (by decide) (Nat.le_of_ble_eq_true rfl) (c_numberOf hX j1 (by omega)) (fun v hp1 hq => ?_)
      obtain ⟨rfl, rfl⟩ := hq
      rw [rV_get q4, q5]
      have f1 := Fr1 (c := tkCe T txo (w : Int) (rfor S 1 T.2.2.2.2 12) (-9) (-9) 0) g1 (by omega) ⟨rfl, rfl⟩
      have x1 := gl_set_self (c := (t + 2, tkCe T txo (w : Int) (rfor S 1 T.2.2.2.2 12) (-9) (-9) 0)) g1 (by omega)
      have y1 : ∀ b, b ≠ ts.getD k 0 → gl X (hset h (ts.getD k 0) (t + 2, tkCe T txo (w : Int) (rfor S 1 T.2.2.2.2 12) (-9) (-9) 0)) b = gl X h b := fun b hb => gl_set_ne hb
      have z1 : (hset h (ts.getD k 0) (t + 2, tkCe T txo (w : Int) (rfor S 1 T.2.2.2.2 12) (-9) (-9) 0)).1 = h.1 ∧ (hset h (ts.getD k 0) (t + 2, tkCe T txo (w : Int) (rfor S 1 T.2.2.2.2 12) (-9) (-9) 0)).2.1 = h.2.1 := ⟨rfl, rfl⟩
      refine gs_putfN (pc := 184) 6 (tkCe T txo (w : Int) (rfor S 1 T.2.2.2.2 12) (-9) (-9) 0) dX5_findRules_184 g1 (by omega) clX6 in_X6 tyX6 tyX6_ok nmX6 (by decide) q739 (Or.inl rfl) rfl (fok_int _) (Nat.le_of_ble_eq_true rfl) rfl ?_
      generalize hset h (ts.getD k 0) (t + 2, tkCe T txo (w : Int) (rfor S 1 T.2.2.2.2 12) (-9) (-9) 0) = ha at *
      obtain ⟨-, j2, -, -⟩ := fm f1
      refine gs_ald6 (pc := 187) dX5_findRules_187 ?_
      refine gs_ald2 (pc := 189) dX5_findRules_189 ?_
      refine gs_ald6 (pc := 190) dX5_findRules_190 ?_
      refine gs_getfN (pc := 192) 5 dX5_findRules_192 x1 clX6 in_X6 (by decide) q735 (Or.inl rfl) rfl ?_
      refine gs_S2 (pc := 195) dX5_findRules_195 kX5_166 (by decide) (Nat.le_of_ble_eq_true rfl) (c_numberOf hX j2 (by omega)) (fun v hp1 hq => ?_)
      obtain ⟨rfl, rfl⟩ := hq
      rw [rV_get q4, q5]
      have f2 := Fr1 (c := tkCe T txo (w : Int) (rfor S 1 T.2.2.2.2 12) (rfor S 2 T.2.2.2.2 12) (-9) 0) x1 (by omega) ⟨rfl, rfl⟩
      have x2 := gl_set_self (c := (t + 2, tkCe T txo (w : Int) (rfor S 1 T.2.2.2.2 12) (rfor S 2 T.2.2.2.2 12) (-9) 0)) x1 (by omega)
      have y2 : ∀ b, b ≠ ts.getD k 0 → gl X (hset ha (ts.getD k 0) (t + 2, tkCe T txo (w : Int) (rfor S 1 T.2.2.2.2 12) (rfor S 2 T.2.2.2.2 12) (-9) 0)) b = gl X ha b := fun b hb => gl_set_ne hb
      have z2 : (hset ha (ts.getD k 0) (t + 2, tkCe T txo (w : Int) (rfor S 1 T.2.2.2.2 12) (rfor S 2 T.2.2.2.2 12) (-9) 0)).1 = ha.1 ∧ (hset ha (ts.getD k 0) (t + 2, tkCe T txo (w : Int) (rfor S 1 T.2.2.2.2 12) (rfor S 2 T.2.2.2.2 12) (-9) 0)).2.1 = ha.2.1 := ⟨rfl, rfl⟩
      refine gs_putfN (pc := 198) 7 (tkCe T txo (w : Int) (rfor S 1 T.2.2.2.2 12) (rfor S 2 T.2.2.2.2 12) (-9) 0) dX5_findRules_198 x1 (by omega) clX6 in_X6 tyX6 tyX6_ok nmX6 (by decide) q742 (Or.inl rfl) rfl (fok_int _) (Nat.le_of_ble_eq_true rfl) rfl ?_
      generalize hset ha (ts.getD k 0) (t + 2, tkCe T txo (w : Int) (rfor S 1 T.2.2.2.2 12) (rfor S 2 T.2.2.2.2 12) (-9) 0) = hb at *
      obtain ⟨-, -, j3, -⟩ := fm (f1.trans f2)
      refine gs_ald6 (pc := 201) dX5_findRules_201 ?_
      refine gs_ald3 (pc := 203) dX5_findRules_203 ?_
      refine gs_ald6 (pc := 204) dX5_findRules_204 ?_
      refine gs_getfN (pc := 206) 5 dX5_findRules_206 x2 clX6 in_X6 (by decide) q735 (Or.inl rfl) rfl ?_
      refine gs_S2 (pc := 209) dX5_findRules_209 kX5_166 (by decide) (Nat.le_of_ble_eq_true rfl) (c_numberOf hX j3 (by omega)) (fun v hp1 hq => ?_)
      obtain ⟨rfl, rfl⟩ := hq
      rw [rV_get q4, q5]
      have f3 := Fr1 (c := tkCe T txo (w : Int) (rfor S 1 T.2.2.2.2 12) (rfor S 2 T.2.2.2.2 12) (rfor S 3 T.2.2.2.2 12) 0) x2 (by omega) ⟨rfl, rfl⟩
      have x3 := gl_set_self (c := (t + 2, tkCe T txo (w : Int) (rfor S 1 T.2.2.2.2 12) (rfor S 2 T.2.2.2.2 12) (rfor S 3 T.2.2.2.2 12) 0)) x2 (by omega)
      have y3 : ∀ b, b ≠ ts.getD k 0 → gl X (hset hb (ts.getD k 0) (t + 2, tkCe T txo (w : Int) (rfor S 1 T.2.2.2.2 12) (rfor S 2 T.2.2.2.2 12) (rfor S 3 T.2.2.2.2 12) 0)) b = gl X hb b := fun b hb => gl_set_ne hb
      have z3 : (hset hb (ts.getD k 0) (t + 2, tkCe T txo (w : Int) (rfor S 1 T.2.2.2.2 12) (rfor S 2 T.2.2.2.2 12) (rfor S 3 T.2.2.2.2 12) 0)).1 = hb.1 ∧ (hset hb (ts.getD k 0) (t + 2, tkCe T txo (w : Int) (rfor S 1 T.2.2.2.2 12) (rfor S 2 T.2.2.2.2 12) (rfor S 3 T.2.2.2.2 12) 0)).2.1 = hb.2.1 := ⟨rfl, rfl⟩
      refine gs_putfN (pc := 212) 8 (tkCe T txo (w : Int) (rfor S 1 T.2.2.2.2 12) (rfor S 2 T.2.2.2.2 12) (rfor S 3 T.2.2.2.2 12) 0) dX5_findRules_212 x2 (by omega) clX6 in_X6 tyX6 tyX6_ok nmX6 (by decide) q745 (Or.inl rfl) rfl (fok_int _) (Nat.le_of_ble_eq_true rfl) rfl ?_
      generalize hset hb (ts.getD k 0) (t + 2, tkCe T txo (w : Int) (rfor S 1 T.2.2.2.2 12) (rfor S 2 T.2.2.2.2 12) (rfor S 3 T.2.2.2.2 12) 0) = hc at *
      obtain ⟨-, -, -, j4⟩ := fm ((f1.trans f2).trans f3)
      refine gs_ald6 (pc := 215) dX5_findRules_215 ?_
      refine gs_ald4 (pc := 217) dX5_findRules_217 ?_
      refine gs_ald6 (pc := 219) dX5_findRules_219 ?_
      refine gs_getfN (pc := 221) 5 dX5_findRules_221 x3 clX6 in_X6 (by decide) q735 (Or.inl rfl) rfl ?_
      refine gs_S1 (pc := 224) dX5_findRules_224 kX5_152 (by decide) (Nat.le_of_ble_eq_true rfl) (c_valSmall hX (by omega)) (fun v hp1 hq => ?_)
      obtain ⟨⟨b, rfl, hbI⟩, rfl⟩ := hq
      refine gs_V1 (pc := 227) dX5_findRules_227 kX5_179 j4.1 clJ16 (by decide) (Nat.le_of_ble_eq_true rfl) (c_hsHas2 j4 (show isKey X hc false b (w : Int) from ⟨hbI, by omega⟩)) (fun v hp1 hq => ?_)
      obtain ⟨rfl, rfl⟩ := hq
      have ecl : clW S tl 12 (w : Int) = clsT S T.2.2.2.2 := by
        unfold clW
        rw [Int.toNat_natCast, q5, decide_eq_true (by omega)]
        rfl
      rw [ecl]
      have f4 := Fr1 (c := tkCe T txo (w : Int) (rfor S 1 T.2.2.2.2 12) (rfor S 2 T.2.2.2.2 12) (rfor S 3 T.2.2.2.2 12) (b2i (clsT S T.2.2.2.2))) x3 (by omega) ⟨rfl, rfl⟩
      have x4 := gl_set_self (c := (t + 2, tkCe T txo (w : Int) (rfor S 1 T.2.2.2.2 12) (rfor S 2 T.2.2.2.2 12) (rfor S 3 T.2.2.2.2 12) (b2i (clsT S T.2.2.2.2)))) x3 (by omega)
      refine gs_putfN (pc := 230) 9 (tkCe T txo (w : Int) (rfor S 1 T.2.2.2.2 12) (rfor S 2 T.2.2.2.2 12) (rfor S 3 T.2.2.2.2 12) (b2i (clsT S T.2.2.2.2))) dX5_findRules_230 x3 (by omega) clX6 in_X6 tyX6 tyX6_ok nmX6 (by decide) q748 (Or.inl rfl) rfl (fok_bool (b2i_01 _)) (Nat.le_of_ble_eq_true rfl) rfl ?_
      refine fin _ _ (hI.step hnd hkl (by show hc.1 = h.1; omega) (by show hc.2.1 = h.2.1; omega) (((f1.trans f2).trans f3).trans f4) (fun b hb => by rw [gl_set_ne hb, y3 b hb, y2 b hb, y1 b hb]) ?_)
      rw [hTk]
      exact ⟨txo, _, x4, g2.to (((f1.trans f2).trans f3).trans f4) h2⟩
end CW
