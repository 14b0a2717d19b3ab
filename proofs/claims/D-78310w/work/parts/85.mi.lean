/-! THE MODEL is made. Printed by tool/genmi.py. -/
section MI
/-- the fields when the first o arrays are laid in -/
def afo (a o : Nat) : List AV := [vR (if 0 < o then some (a + 1) else none), vI 0, vR (if 1 < o then some (a + 2) else none), vR (if 2 < o then some (a + 3) else none), vI 0, vR (if 3 < o then some (a + 4) else none), vR (if 4 < o then some (a + 5) else none), vR (if 5 < o then some (a + 6) else none), vR (if 6 < o then some (a + 7) else none), vR (if 7 < o then some (a + 8) else none), vR (if 8 < o then some (a + 9) else none), vR (if 9 < o then some (a + 10) else none), vI 0, vR (if 10 < o then some (a + 11) else none), vR (if 11 < o then some (a + 12) else none), vR (if 12 < o then some (a + 13) else none), vR (if 13 < o then some (a + 14) else none), vR (if 14 < o then some (a + 15) else none), vI 0, vI 0, vI 0, vR (if 15 < o then some (a + 16) else none), vI 0, vI 0, vI 0, vI 0, vI 0, vI 0, vI 0, vI 0, vR (if 16 < o then some (a + 17) else none), vR (if 17 < o then some (a + 18) else none), vI 0, vI 0, vI 0, vI 0, vI 0, vI 0, vR (if 18 < o then some (a + 19) else none), vR (if 19 < o then some (a + 20) else none), vL 0]
def slt : Nat → Nat
  | 0 => 0
  | k + 1 => slt k + mN k
/-- k arrays are made, o of them laid in -/
def pmA (hp : gHp) (a k o : Nat) (fs : Nat → Int → Int) : gHp := (hp.1 + k, hp.2.1 + slt k, fun b => if b = a then some (a + 2, .inr (2, afo a o)) else if a < b ∧ b ≤ a + k then some (a + 2, .inl (mT (b - a - 1), mN (b - a - 1), .inl (fs (b - a - 1)))) else hp.2.2 b)
def pok (X : gCx) (hp : gHp) (a : Nat) : Prop := cxz X ≤ a ∧ nx X hp = a + 1
def ups (fs : Nat → Int → Int) (j : Nat) (i v : Int) : Nat → Int → Int := fun c => if c = j then fup (fs j) i v else fs c
variable {X : gCx} {hp : gHp} {a k o : Nat} {fs : Nat → Int → Int} {fi : gFi} {d pc : Nat} {L : List (Option AV)} {st : List AV} {Q : Option AV → gHp → Prop}
theorem pm_nx (h : pok X hp a) : nx X (pmA hp a k o fs) = a + (k + 1) := by
  have := h.2
  unfold nx at *
  show cxz X + (hp.1 + k) = _
  omega
theorem pm_cell (h : pok X hp a) : gl X (pmA hp a k o fs) a = some (a + 2, .inr (2, afo a o)) := by
  have h1 := h.1
  unfold gl
  rw [if_neg (by omega), pm_nx h, if_pos (by omega)]
  exact if_pos rfl
theorem pm_arr (h : pok X hp a) (j : Nat) (hj : j < k) : gl X (pmA hp a k o fs) (a + (j + 1)) = some (a + 2, .inl (mT j, mN j, .inl (fs j))) := by
  have h1 := h.1
  unfold gl
  rw [if_neg (by omega), pm_nx h, if_pos (by omega)]
  show (if a + (j + 1) = a then _ else _) = _
  rw [if_neg (by omega), if_pos (by omega), show a + (j + 1) - a - 1 = j by omega]
theorem pm_new (h : pok X hp a) (hf : fs k = fun _ => 0) : hnew X (pmA hp a k o fs) (mN k) (a + 2, .inl (mT k, mN k, .inl (fun _ => 0))) = pmA hp a (k + 1) o fs := by
  unfold hnew
  rw [pm_nx h]
  unfold pmA
  refine Prod.ext rfl (Prod.ext (by dsimp only; rw [Nat.add_assoc]; rfl) (funext fun b => ?_))
  dsimp only
  by_cases h1 : b = a + (k + 1)
  · subst h1
    rw [if_pos rfl, if_neg (by omega), if_pos (by omega), show a + (k + 1) - a - 1 = k by omega, hf]
  · rw [if_neg h1]
    by_cases h2 : b = a
    · rw [if_pos h2, if_pos h2]
    · rw [if_neg h2, if_neg h2]
      by_cases h3 : a < b ∧ b ≤ a + k
      · rw [if_pos h3, if_pos (by omega)]
      · rw [if_neg h3, if_neg (by omega)]
theorem pm_set {o' : Nat} : hset (pmA hp a k o fs) a (a + 2, .inr (2, afo a o')) = pmA hp a k o' fs := by
  unfold hset pmA
  refine Prod.ext rfl (Prod.ext rfl (funext fun b => ?_))
  dsimp only
  by_cases h : b = a
  · rw [if_pos h, if_pos h]
  · rw [if_neg h, if_neg h, if_neg h]
theorem pm_ast {i v : Int} (j : Nat) (hj : j < k) : hset (pmA hp a k o fs) (a + (j + 1)) (a + 2, .inl (mT j, mN j, .inl (fup (fs j) i v))) = pmA hp a k o (ups fs j i v) := by
  unfold hset pmA ups
  refine Prod.ext rfl (Prod.ext rfl (funext fun b => ?_))
  dsimp only
  by_cases h1 : b = a + (j + 1)
  · subst h1
    rw [if_pos rfl, if_neg (by omega), if_pos (by omega), show a + (j + 1) - a - 1 = j by omega, if_pos rfl]
  · rw [if_neg h1]
    by_cases h2 : b = a
    · rw [if_pos h2, if_pos h2]
    · rw [if_neg h2, if_neg h2]
      by_cases h3 : a < b ∧ b ≤ a + k
      · rw [if_pos h3, if_pos h3, if_neg (by omega)]
      · rw [if_neg h3, if_neg h3]
theorem pr_new {z : Int} {atype : ArrayType} (k t N : Nat) (h : pok X hp a) (ht : mT k = t) (hNk : mN k = N) (ht3 : t < 3) (hty : newarray.typeOf atype = arT t) (hd : decode fi.2.1 pc = .ok (.newarray atype, 2)) (hq : Cond.arrayClass (arT t) ∈ lw_all) (hz : z = (N : Int)) (hN : N ≤ 1000000) (hf : fs k = fun _ => 0) (kk : G X fi d (pc + 2) L (vR (some (a + (k + 1))) :: st) (pmA hp a (k + 1) o fs) Q) : G X fi d pc L (vI z :: st) (pmA hp a k o fs) Q := by
  subst ht hNk
  refine gs_newa (mT k) (mN k) (a + 2) ht3 hty hd hq hz hN ?_
  rw [pm_nx h, pm_new h hf]
  exact kk
theorem pr_ast {i v : Int} (j N : Nat) (h : pok X hp a) (hj : j < k) (hT : mT j = 0) (hNj : mN j = N) (hd : decode fi.2.1 pc = .ok (.iastore, 1)) (hi : 0 ≤ i ∧ i < N) (hN : N ≤ 1000000) (kk : G X fi d (pc + 1) L st (pmA hp a k o (ups fs j i v)) Q) : G X fi d pc L (vI v :: vI i :: vR (some (a + (j + 1))) :: st) (pmA hp a k o fs) Q := by
  subst hNj
  have hc := pm_arr (o := o) (fs := fs) h j hj
  have e := pm_ast (hp := hp) (a := a) (k := k) (o := o) (fs := fs) (i := i) (v := v) j hj
  rw [hT] at hc e
  refine gs_iast hd hc (by omega) hi (by omega) ?_
  rw [e]
  exact kk
theorem pm_mH : pmA hp a 20 20 fs = mH (hp.1 + 20, hp.2.1 + slt 20, hp.2.2) a (fun _ => 0, fs, 0) := rfl
theorem m_init (h : pok X hp a) (hc : gl X hp a = some (a + 2, .inr (2, dfX2))) : M0 X yX2_init fX2_init 2 [vR (some a)] hp (fun hp' => ∃ M, hp' = mH (hp.1 + 20, hp.2.1 + 15745, hp.2.2) a M ∧ RM M as0) := by
  refine MC.of pfX2_init rfl (fun _ => rfl) 0 rfl rfl ?_
  have e0 : hp = pmA hp a 0 0 (fun _ _ => 0) := by
    unfold pmA
    refine Prod.ext rfl (Prod.ext rfl (funext fun b => ?_))
    dsimp only
    by_cases hb : b = a
    · subst hb
      rw [if_pos rfl]
      unfold gl at hc
      have := h.1
      rw [if_neg (by omega), h.2, if_pos (by omega)] at hc
      exact hc
    · rw [if_neg hb, if_neg (by omega)]
  have kk : G X fX2_init 2 0 [some (vR (some a))] [] (pmA hp a 0 0 (fun _ _ => 0)) (fun r hp' => r = none ∧ ∃ M, hp' = mH (hp.1 + 20, hp.2.1 + 15745, hp.2.2) a M ∧ RM M as0) := by
    refine gs_ald0 (pc := 0) dX2_init_0 ?_
    refine gs_objInit (pc := 1) dX2_init_1 q2225 q146 q147 (by decide) (Nat.le_of_ble_eq_true rfl) ?_
    refine gs_ald0 (pc := 4) dX2_init_4 ?_
    refine gs_sipush (pc := 5) dX2_init_5 rfl ?_
    refine pr_new (pc := 8) 0 0 10780 h rfl rfl (by decide) rfl dX2_init_8 q770 rfl (by decide) rfl ?_
    refine gs_putF (pc := 10) 0 (.inr (2, afo a 1)) dX2_init_10 (pm_cell h) (by omega) clX2 in_X2 tyX2 tyX2_ok nmX2 (by decide) q2226 (Or.inl rfl) rfl rfl rfl (fok_arr _ _) (Nat.le_of_ble_eq_true rfl) rfl ?_
    rw [pm_set]
    refine gs_ald0 (pc := 13) dX2_init_13 ?_
    refine gs_iconst (pc := 14) dX2_init_14 ?_
    refine pr_new (pc := 15) 1 1 2 h rfl rfl (by decide) rfl dX2_init_15 q771 rfl (by decide) rfl ?_
    refine gs_putF (pc := 17) 2 (.inr (2, afo a 2)) dX2_init_17 (pm_cell h) (by omega) clX2 in_X2 tyX2 tyX2_ok nmX2 (by decide) q2228 (Or.inl rfl) rfl rfl rfl (fok_arr _ _) (Nat.le_of_ble_eq_true rfl) rfl ?_
    rw [pm_set]
    refine gs_ald0 (pc := 20) dX2_init_20 ?_
    refine gs_bipush (pc := 21) dX2_init_21 rfl ?_
    refine pr_new (pc := 23) 2 0 72 h rfl rfl (by decide) rfl dX2_init_23 q770 rfl (by decide) rfl ?_
    refine gs_putF (pc := 25) 3 (.inr (2, afo a 3)) dX2_init_25 (pm_cell h) (by omega) clX2 in_X2 tyX2 tyX2_ok nmX2 (by decide) q2229 (Or.inl rfl) rfl rfl rfl (fok_arr _ _) (Nat.le_of_ble_eq_true rfl) rfl ?_
    rw [pm_set]
    refine gs_ald0 (pc := 28) dX2_init_28 ?_
    refine gs_sipush (pc := 29) dX2_init_29 rfl ?_
    refine pr_new (pc := 32) 3 0 641 h rfl rfl (by decide) rfl dX2_init_32 q770 rfl (by decide) rfl ?_
    refine gs_putF (pc := 34) 5 (.inr (2, afo a 4)) dX2_init_34 (pm_cell h) (by omega) clX2 in_X2 tyX2 tyX2_ok nmX2 (by decide) q2231 (Or.inl rfl) rfl rfl rfl (fok_arr _ _) (Nat.le_of_ble_eq_true rfl) rfl ?_
    rw [pm_set]
    refine gs_ald0 (pc := 37) dX2_init_37 ?_
    refine gs_sipush (pc := 38) dX2_init_38 rfl ?_
    refine pr_new (pc := 41) 4 0 641 h rfl rfl (by decide) rfl dX2_init_41 q770 rfl (by decide) rfl ?_
    refine gs_putF (pc := 43) 6 (.inr (2, afo a 5)) dX2_init_43 (pm_cell h) (by omega) clX2 in_X2 tyX2 tyX2_ok nmX2 (by decide) q2232 (Or.inl rfl) rfl rfl rfl (fok_arr _ _) (Nat.le_of_ble_eq_true rfl) rfl ?_
    rw [pm_set]
    refine gs_ald0 (pc := 46) dX2_init_46 ?_
    refine gs_sipush (pc := 47) dX2_init_47 rfl ?_
    refine pr_new (pc := 50) 5 0 641 h rfl rfl (by decide) rfl dX2_init_50 q770 rfl (by decide) rfl ?_
    refine gs_putF (pc := 52) 7 (.inr (2, afo a 6)) dX2_init_52 (pm_cell h) (by omega) clX2 in_X2 tyX2 tyX2_ok nmX2 (by decide) q2233 (Or.inl rfl) rfl rfl rfl (fok_arr _ _) (Nat.le_of_ble_eq_true rfl) rfl ?_
    rw [pm_set]
    refine gs_ald0 (pc := 55) dX2_init_55 ?_
    refine gs_sipush (pc := 56) dX2_init_56 rfl ?_
    refine pr_new (pc := 59) 6 0 641 h rfl rfl (by decide) rfl dX2_init_59 q770 rfl (by decide) rfl ?_
    refine gs_putF (pc := 61) 8 (.inr (2, afo a 7)) dX2_init_61 (pm_cell h) (by omega) clX2 in_X2 tyX2 tyX2_ok nmX2 (by decide) q2234 (Or.inl rfl) rfl rfl rfl (fok_arr _ _) (Nat.le_of_ble_eq_true rfl) rfl ?_
    rw [pm_set]
    refine gs_ald0 (pc := 64) dX2_init_64 ?_
    refine gs_sipush (pc := 65) dX2_init_65 rfl ?_
    refine pr_new (pc := 68) 7 0 641 h rfl rfl (by decide) rfl dX2_init_68 q770 rfl (by decide) rfl ?_
    refine gs_putF (pc := 70) 9 (.inr (2, afo a 8)) dX2_init_70 (pm_cell h) (by omega) clX2 in_X2 tyX2 tyX2_ok nmX2 (by decide) q2235 (Or.inl rfl) rfl rfl rfl (fok_arr _ _) (Nat.le_of_ble_eq_true rfl) rfl ?_
    rw [pm_set]
    refine gs_ald0 (pc := 73) dX2_init_73 ?_
    refine gs_sipush (pc := 74) dX2_init_74 rfl ?_
    refine pr_new (pc := 77) 8 0 641 h rfl rfl (by decide) rfl dX2_init_77 q770 rfl (by decide) rfl ?_
    refine gs_putF (pc := 79) 10 (.inr (2, afo a 9)) dX2_init_79 (pm_cell h) (by omega) clX2 in_X2 tyX2 tyX2_ok nmX2 (by decide) q2236 (Or.inl rfl) rfl rfl rfl (fok_arr _ _) (Nat.le_of_ble_eq_true rfl) rfl ?_
    rw [pm_set]
    refine gs_ald0 (pc := 82) dX2_init_82 ?_
    refine gs_sipush (pc := 83) dX2_init_83 rfl ?_
    refine pr_new (pc := 86) 9 0 641 h rfl rfl (by decide) rfl dX2_init_86 q770 rfl (by decide) rfl ?_
    refine gs_putF (pc := 88) 11 (.inr (2, afo a 10)) dX2_init_88 (pm_cell h) (by omega) clX2 in_X2 tyX2 tyX2_ok nmX2 (by decide) q2237 (Or.inl rfl) rfl rfl rfl (fok_arr _ _) (Nat.le_of_ble_eq_true rfl) rfl ?_
    rw [pm_set]
    refine gs_ald0 (pc := 91) dX2_init_91 ?_
    refine gs_bipush (pc := 92) dX2_init_92 rfl ?_
    refine pr_new (pc := 94) 10 0 21 h rfl rfl (by decide) rfl dX2_init_94 q770 rfl (by decide) rfl ?_
    refine gs_putF (pc := 96) 13 (.inr (2, afo a 11)) dX2_init_96 (pm_cell h) (by omega) clX2 in_X2 tyX2 tyX2_ok nmX2 (by decide) q2239 (Or.inl rfl) rfl rfl rfl (fok_arr _ _) (Nat.le_of_ble_eq_true rfl) rfl ?_
    rw [pm_set]
    refine gs_ald0 (pc := 99) dX2_init_99 ?_
    refine gs_bipush (pc := 100) dX2_init_100 rfl ?_
    refine pr_new (pc := 102) 11 1 20 h rfl rfl (by decide) rfl dX2_init_102 q771 rfl (by decide) rfl ?_
    refine gs_putF (pc := 104) 14 (.inr (2, afo a 12)) dX2_init_104 (pm_cell h) (by omega) clX2 in_X2 tyX2 tyX2_ok nmX2 (by decide) q2240 (Or.inl rfl) rfl rfl rfl (fok_arr _ _) (Nat.le_of_ble_eq_true rfl) rfl ?_
    rw [pm_set]
    refine gs_ald0 (pc := 107) dX2_init_107 ?_
    refine gs_bipush (pc := 108) dX2_init_108 rfl ?_
    refine pr_new (pc := 110) 12 0 21 h rfl rfl (by decide) rfl dX2_init_110 q770 rfl (by decide) rfl ?_
    refine gs_putF (pc := 112) 15 (.inr (2, afo a 13)) dX2_init_112 (pm_cell h) (by omega) clX2 in_X2 tyX2 tyX2_ok nmX2 (by decide) q2241 (Or.inl rfl) rfl rfl rfl (fok_arr _ _) (Nat.le_of_ble_eq_true rfl) rfl ?_
    rw [pm_set]
    refine gs_ald0 (pc := 115) dX2_init_115 ?_
    refine gs_sipush (pc := 116) dX2_init_116 rfl ?_
    refine pr_new (pc := 119) 13 0 252 h rfl rfl (by decide) rfl dX2_init_119 q770 rfl (by decide) rfl ?_
    refine gs_putF (pc := 121) 16 (.inr (2, afo a 14)) dX2_init_121 (pm_cell h) (by omega) clX2 in_X2 tyX2 tyX2_ok nmX2 (by decide) q2242 (Or.inl rfl) rfl rfl rfl (fok_arr _ _) (Nat.le_of_ble_eq_true rfl) rfl ?_
    rw [pm_set]
    refine gs_ald0 (pc := 124) dX2_init_124 ?_
    refine gs_bipush (pc := 125) dX2_init_125 rfl ?_
    refine pr_new (pc := 127) 14 0 12 h rfl rfl (by decide) rfl dX2_init_127 q770 rfl (by decide) rfl ?_
    refine gs_putF (pc := 129) 17 (.inr (2, afo a 15)) dX2_init_129 (pm_cell h) (by omega) clX2 in_X2 tyX2 tyX2_ok nmX2 (by decide) q2243 (Or.inl rfl) rfl rfl rfl (fok_arr _ _) (Nat.le_of_ble_eq_true rfl) rfl ?_
    rw [pm_set]
    refine gs_ald0 (pc := 132) dX2_init_132 ?_
    refine gs_bipush (pc := 133) dX2_init_133 rfl ?_
    refine pr_new (pc := 135) 15 0 20 h rfl rfl (by decide) rfl dX2_init_135 q770 rfl (by decide) rfl ?_
    refine gs_putF (pc := 137) 21 (.inr (2, afo a 16)) dX2_init_137 (pm_cell h) (by omega) clX2 in_X2 tyX2 tyX2_ok nmX2 (by decide) q2247 (Or.inl rfl) rfl rfl rfl (fok_arr _ _) (Nat.le_of_ble_eq_true rfl) rfl ?_
    rw [pm_set]
    refine gs_ald0 (pc := 140) dX2_init_140 ?_
    refine gs_iconst (pc := 141) dX2_init_141 ?_
    refine pr_new (pc := 142) 16 0 2 h rfl rfl (by decide) rfl dX2_init_142 q770 rfl (by decide) rfl ?_
    refine gs_putF (pc := 144) 30 (.inr (2, afo a 17)) dX2_init_144 (pm_cell h) (by omega) clX2 in_X2 tyX2 tyX2_ok nmX2 (by decide) q2256 (Or.inl rfl) rfl rfl rfl (fok_arr _ _) (Nat.le_of_ble_eq_true rfl) rfl ?_
    rw [pm_set]
    refine gs_ald0 (pc := 147) dX2_init_147 ?_
    refine gs_iconst (pc := 148) dX2_init_148 ?_
    refine pr_new (pc := 149) 17 0 2 h rfl rfl (by decide) rfl dX2_init_149 q770 rfl (by decide) rfl ?_
    refine gs_putF (pc := 151) 31 (.inr (2, afo a 18)) dX2_init_151 (pm_cell h) (by omega) clX2 in_X2 tyX2 tyX2_ok nmX2 (by decide) q2257 (Or.inl rfl) rfl rfl rfl (fok_arr _ _) (Nat.le_of_ble_eq_true rfl) rfl ?_
    rw [pm_set]
    refine gs_ald0 (pc := 154) dX2_init_154 ?_
    refine gs_bipush (pc := 155) dX2_init_155 rfl ?_
    refine pr_new (pc := 157) 18 0 17 h rfl rfl (by decide) rfl dX2_init_157 q770 rfl (by decide) rfl ?_
    refine gs_dup (pc := 159) dX2_init_159 rfl ?_
    refine gs_iconst (pc := 160) dX2_init_160 ?_
    refine gs_iconst (pc := 161) dX2_init_161 ?_
    refine pr_ast (pc := 162) 18 17 h (by decide) rfl rfl dX2_init_162 (by decide) (by decide) ?_
    refine gs_dup (pc := 163) dX2_init_163 rfl ?_
    refine gs_iconst (pc := 164) dX2_init_164 ?_
    refine gs_iconst (pc := 165) dX2_init_165 ?_
    refine pr_ast (pc := 166) 18 17 h (by decide) rfl rfl dX2_init_166 (by decide) (by decide) ?_
    refine gs_dup (pc := 167) dX2_init_167 rfl ?_
    refine gs_iconst (pc := 168) dX2_init_168 ?_
    refine gs_iconst (pc := 169) dX2_init_169 ?_
    refine pr_ast (pc := 170) 18 17 h (by decide) rfl rfl dX2_init_170 (by decide) (by decide) ?_
    refine gs_dup (pc := 171) dX2_init_171 rfl ?_
    refine gs_iconst (pc := 172) dX2_init_172 ?_
    refine gs_iconst (pc := 173) dX2_init_173 ?_
    refine pr_ast (pc := 174) 18 17 h (by decide) rfl rfl dX2_init_174 (by decide) (by decide) ?_
    refine gs_dup (pc := 175) dX2_init_175 rfl ?_
    refine gs_iconst (pc := 176) dX2_init_176 ?_
    refine gs_iconst (pc := 177) dX2_init_177 ?_
    refine pr_ast (pc := 178) 18 17 h (by decide) rfl rfl dX2_init_178 (by decide) (by decide) ?_
    refine gs_dup (pc := 179) dX2_init_179 rfl ?_
    refine gs_iconst (pc := 180) dX2_init_180 ?_
    refine gs_bipush (pc := 181) dX2_init_181 rfl ?_
    refine pr_ast (pc := 183) 18 17 h (by decide) rfl rfl dX2_init_183 (by decide) (by decide) ?_
    refine gs_dup (pc := 184) dX2_init_184 rfl ?_
    refine gs_bipush (pc := 185) dX2_init_185 rfl ?_
    refine gs_bipush (pc := 187) dX2_init_187 rfl ?_
    refine pr_ast (pc := 189) 18 17 h (by decide) rfl rfl dX2_init_189 (by decide) (by decide) ?_
    refine gs_dup (pc := 190) dX2_init_190 rfl ?_
    refine gs_bipush (pc := 191) dX2_init_191 rfl ?_
    refine gs_bipush (pc := 193) dX2_init_193 rfl ?_
    refine pr_ast (pc := 195) 18 17 h (by decide) rfl rfl dX2_init_195 (by decide) (by decide) ?_
    refine gs_dup (pc := 196) dX2_init_196 rfl ?_
    refine gs_bipush (pc := 197) dX2_init_197 rfl ?_
    refine gs_bipush (pc := 199) dX2_init_199 rfl ?_
    refine pr_ast (pc := 201) 18 17 h (by decide) rfl rfl dX2_init_201 (by decide) (by decide) ?_
    refine gs_dup (pc := 202) dX2_init_202 rfl ?_
    refine gs_bipush (pc := 203) dX2_init_203 rfl ?_
    refine gs_bipush (pc := 205) dX2_init_205 rfl ?_
    refine pr_ast (pc := 207) 18 17 h (by decide) rfl rfl dX2_init_207 (by decide) (by decide) ?_
    refine gs_dup (pc := 208) dX2_init_208 rfl ?_
    refine gs_bipush (pc := 209) dX2_init_209 rfl ?_
    refine gs_bipush (pc := 211) dX2_init_211 rfl ?_
    refine pr_ast (pc := 213) 18 17 h (by decide) rfl rfl dX2_init_213 (by decide) (by decide) ?_
    refine gs_dup (pc := 214) dX2_init_214 rfl ?_
    refine gs_bipush (pc := 215) dX2_init_215 rfl ?_
    refine gs_bipush (pc := 217) dX2_init_217 rfl ?_
    refine pr_ast (pc := 219) 18 17 h (by decide) rfl rfl dX2_init_219 (by decide) (by decide) ?_
    refine gs_dup (pc := 220) dX2_init_220 rfl ?_
    refine gs_bipush (pc := 221) dX2_init_221 rfl ?_
    refine gs_bipush (pc := 223) dX2_init_223 rfl ?_
    refine pr_ast (pc := 225) 18 17 h (by decide) rfl rfl dX2_init_225 (by decide) (by decide) ?_
    refine gs_dup (pc := 226) dX2_init_226 rfl ?_
    refine gs_bipush (pc := 227) dX2_init_227 rfl ?_
    refine gs_bipush (pc := 229) dX2_init_229 rfl ?_
    refine pr_ast (pc := 231) 18 17 h (by decide) rfl rfl dX2_init_231 (by decide) (by decide) ?_
    refine gs_dup (pc := 232) dX2_init_232 rfl ?_
    refine gs_bipush (pc := 233) dX2_init_233 rfl ?_
    refine gs_bipush (pc := 235) dX2_init_235 rfl ?_
    refine pr_ast (pc := 237) 18 17 h (by decide) rfl rfl dX2_init_237 (by decide) (by decide) ?_
    refine gs_dup (pc := 238) dX2_init_238 rfl ?_
    refine gs_bipush (pc := 239) dX2_init_239 rfl ?_
    refine gs_bipush (pc := 241) dX2_init_241 rfl ?_
    refine pr_ast (pc := 243) 18 17 h (by decide) rfl rfl dX2_init_243 (by decide) (by decide) ?_
    refine gs_dup (pc := 244) dX2_init_244 rfl ?_
    refine gs_bipush (pc := 245) dX2_init_245 rfl ?_
    refine gs_bipush (pc := 247) dX2_init_247 rfl ?_
    refine pr_ast (pc := 249) 18 17 h (by decide) rfl rfl dX2_init_249 (by decide) (by decide) ?_
    refine gs_putF (pc := 250) 38 (.inr (2, afo a 19)) dX2_init_250 (pm_cell h) (by omega) clX2 in_X2 tyX2 tyX2_ok nmX2 (by decide) q2264 (Or.inl rfl) rfl rfl rfl (fok_arr _ _) (Nat.le_of_ble_eq_true rfl) rfl ?_
    rw [pm_set]
    refine gs_ald0 (pc := 253) dX2_init_253 ?_
    refine gs_bipush (pc := 254) dX2_init_254 rfl ?_
    refine pr_new (pc := 256) 19 0 37 h rfl rfl (by decide) rfl dX2_init_256 q770 rfl (by decide) rfl ?_
    refine gs_dup (pc := 258) dX2_init_258 rfl ?_
    refine gs_iconst (pc := 259) dX2_init_259 ?_
    refine gs_bipush (pc := 260) dX2_init_260 rfl ?_
    refine pr_ast (pc := 262) 19 37 h (by decide) rfl rfl dX2_init_262 (by decide) (by decide) ?_
    refine gs_dup (pc := 263) dX2_init_263 rfl ?_
    refine gs_iconst (pc := 264) dX2_init_264 ?_
    refine gs_bipush (pc := 265) dX2_init_265 rfl ?_
    refine pr_ast (pc := 267) 19 37 h (by decide) rfl rfl dX2_init_267 (by decide) (by decide) ?_
    refine gs_dup (pc := 268) dX2_init_268 rfl ?_
    refine gs_iconst (pc := 269) dX2_init_269 ?_
    refine gs_bipush (pc := 270) dX2_init_270 rfl ?_
    refine pr_ast (pc := 272) 19 37 h (by decide) rfl rfl dX2_init_272 (by decide) (by decide) ?_
    refine gs_dup (pc := 273) dX2_init_273 rfl ?_
    refine gs_iconst (pc := 274) dX2_init_274 ?_
    refine gs_bipush (pc := 275) dX2_init_275 rfl ?_
    refine pr_ast (pc := 277) 19 37 h (by decide) rfl rfl dX2_init_277 (by decide) (by decide) ?_
    refine gs_dup (pc := 278) dX2_init_278 rfl ?_
    refine gs_iconst (pc := 279) dX2_init_279 ?_
    refine gs_bipush (pc := 280) dX2_init_280 rfl ?_
    refine pr_ast (pc := 282) 19 37 h (by decide) rfl rfl dX2_init_282 (by decide) (by decide) ?_
    refine gs_dup (pc := 283) dX2_init_283 rfl ?_
    refine gs_iconst (pc := 284) dX2_init_284 ?_
    refine gs_bipush (pc := 285) dX2_init_285 rfl ?_
    refine pr_ast (pc := 287) 19 37 h (by decide) rfl rfl dX2_init_287 (by decide) (by decide) ?_
    refine gs_dup (pc := 288) dX2_init_288 rfl ?_
    refine gs_bipush (pc := 289) dX2_init_289 rfl ?_
    refine gs_bipush (pc := 291) dX2_init_291 rfl ?_
    refine pr_ast (pc := 293) 19 37 h (by decide) rfl rfl dX2_init_293 (by decide) (by decide) ?_
    refine gs_dup (pc := 294) dX2_init_294 rfl ?_
    refine gs_bipush (pc := 295) dX2_init_295 rfl ?_
    refine gs_bipush (pc := 297) dX2_init_297 rfl ?_
    refine pr_ast (pc := 299) 19 37 h (by decide) rfl rfl dX2_init_299 (by decide) (by decide) ?_
    refine gs_dup (pc := 300) dX2_init_300 rfl ?_
    refine gs_bipush (pc := 301) dX2_init_301 rfl ?_
    refine gs_bipush (pc := 303) dX2_init_303 rfl ?_
    refine pr_ast (pc := 305) 19 37 h (by decide) rfl rfl dX2_init_305 (by decide) (by decide) ?_
    refine gs_dup (pc := 306) dX2_init_306 rfl ?_
    refine gs_bipush (pc := 307) dX2_init_307 rfl ?_
    refine gs_bipush (pc := 309) dX2_init_309 rfl ?_
    refine pr_ast (pc := 311) 19 37 h (by decide) rfl rfl dX2_init_311 (by decide) (by decide) ?_
    refine gs_dup (pc := 312) dX2_init_312 rfl ?_
    refine gs_bipush (pc := 313) dX2_init_313 rfl ?_
    refine gs_bipush (pc := 315) dX2_init_315 rfl ?_
    refine pr_ast (pc := 317) 19 37 h (by decide) rfl rfl dX2_init_317 (by decide) (by decide) ?_
    refine gs_dup (pc := 318) dX2_init_318 rfl ?_
    refine gs_bipush (pc := 319) dX2_init_319 rfl ?_
    refine gs_bipush (pc := 321) dX2_init_321 rfl ?_
    refine pr_ast (pc := 323) 19 37 h (by decide) rfl rfl dX2_init_323 (by decide) (by decide) ?_
    refine gs_dup (pc := 324) dX2_init_324 rfl ?_
    refine gs_bipush (pc := 325) dX2_init_325 rfl ?_
    refine gs_bipush (pc := 327) dX2_init_327 rfl ?_
    refine pr_ast (pc := 329) 19 37 h (by decide) rfl rfl dX2_init_329 (by decide) (by decide) ?_
    refine gs_dup (pc := 330) dX2_init_330 rfl ?_
    refine gs_bipush (pc := 331) dX2_init_331 rfl ?_
    refine gs_bipush (pc := 333) dX2_init_333 rfl ?_
    refine pr_ast (pc := 335) 19 37 h (by decide) rfl rfl dX2_init_335 (by decide) (by decide) ?_
    refine gs_dup (pc := 336) dX2_init_336 rfl ?_
    refine gs_bipush (pc := 337) dX2_init_337 rfl ?_
    refine gs_bipush (pc := 339) dX2_init_339 rfl ?_
    refine pr_ast (pc := 341) 19 37 h (by decide) rfl rfl dX2_init_341 (by decide) (by decide) ?_
    refine gs_dup (pc := 342) dX2_init_342 rfl ?_
    refine gs_bipush (pc := 343) dX2_init_343 rfl ?_
    refine gs_bipush (pc := 345) dX2_init_345 rfl ?_
    refine pr_ast (pc := 347) 19 37 h (by decide) rfl rfl dX2_init_347 (by decide) (by decide) ?_
    refine gs_dup (pc := 348) dX2_init_348 rfl ?_
    refine gs_bipush (pc := 349) dX2_init_349 rfl ?_
    refine gs_bipush (pc := 351) dX2_init_351 rfl ?_
    refine pr_ast (pc := 353) 19 37 h (by decide) rfl rfl dX2_init_353 (by decide) (by decide) ?_
    refine gs_dup (pc := 354) dX2_init_354 rfl ?_
    refine gs_bipush (pc := 355) dX2_init_355 rfl ?_
    refine gs_bipush (pc := 357) dX2_init_357 rfl ?_
    refine pr_ast (pc := 359) 19 37 h (by decide) rfl rfl dX2_init_359 (by decide) (by decide) ?_
    refine gs_dup (pc := 360) dX2_init_360 rfl ?_
    refine gs_bipush (pc := 361) dX2_init_361 rfl ?_
    refine gs_bipush (pc := 363) dX2_init_363 rfl ?_
    refine pr_ast (pc := 365) 19 37 h (by decide) rfl rfl dX2_init_365 (by decide) (by decide) ?_
    refine gs_dup (pc := 366) dX2_init_366 rfl ?_
    refine gs_bipush (pc := 367) dX2_init_367 rfl ?_
    refine gs_bipush (pc := 369) dX2_init_369 rfl ?_
    refine pr_ast (pc := 371) 19 37 h (by decide) rfl rfl dX2_init_371 (by decide) (by decide) ?_
    refine gs_dup (pc := 372) dX2_init_372 rfl ?_
    refine gs_bipush (pc := 373) dX2_init_373 rfl ?_
    refine gs_bipush (pc := 375) dX2_init_375 rfl ?_
    refine pr_ast (pc := 377) 19 37 h (by decide) rfl rfl dX2_init_377 (by decide) (by decide) ?_
    refine gs_dup (pc := 378) dX2_init_378 rfl ?_
    refine gs_bipush (pc := 379) dX2_init_379 rfl ?_
    refine gs_bipush (pc := 381) dX2_init_381 rfl ?_
    refine pr_ast (pc := 383) 19 37 h (by decide) rfl rfl dX2_init_383 (by decide) (by decide) ?_
    refine gs_dup (pc := 384) dX2_init_384 rfl ?_
    refine gs_bipush (pc := 385) dX2_init_385 rfl ?_
    refine gs_bipush (pc := 387) dX2_init_387 rfl ?_
    refine pr_ast (pc := 389) 19 37 h (by decide) rfl rfl dX2_init_389 (by decide) (by decide) ?_
    refine gs_dup (pc := 390) dX2_init_390 rfl ?_
    refine gs_bipush (pc := 391) dX2_init_391 rfl ?_
    refine gs_bipush (pc := 393) dX2_init_393 rfl ?_
    refine pr_ast (pc := 395) 19 37 h (by decide) rfl rfl dX2_init_395 (by decide) (by decide) ?_
    refine gs_dup (pc := 396) dX2_init_396 rfl ?_
    refine gs_bipush (pc := 397) dX2_init_397 rfl ?_
    refine gs_bipush (pc := 399) dX2_init_399 rfl ?_
    refine pr_ast (pc := 401) 19 37 h (by decide) rfl rfl dX2_init_401 (by decide) (by decide) ?_
    refine gs_dup (pc := 402) dX2_init_402 rfl ?_
    refine gs_bipush (pc := 403) dX2_init_403 rfl ?_
    refine gs_bipush (pc := 405) dX2_init_405 rfl ?_
    refine pr_ast (pc := 407) 19 37 h (by decide) rfl rfl dX2_init_407 (by decide) (by decide) ?_
    refine gs_dup (pc := 408) dX2_init_408 rfl ?_
    refine gs_bipush (pc := 409) dX2_init_409 rfl ?_
    refine gs_bipush (pc := 411) dX2_init_411 rfl ?_
    refine pr_ast (pc := 413) 19 37 h (by decide) rfl rfl dX2_init_413 (by decide) (by decide) ?_
    refine gs_dup (pc := 414) dX2_init_414 rfl ?_
    refine gs_bipush (pc := 415) dX2_init_415 rfl ?_
    refine gs_bipush (pc := 417) dX2_init_417 rfl ?_
    refine pr_ast (pc := 419) 19 37 h (by decide) rfl rfl dX2_init_419 (by decide) (by decide) ?_
    refine gs_dup (pc := 420) dX2_init_420 rfl ?_
    refine gs_bipush (pc := 421) dX2_init_421 rfl ?_
    refine gs_bipush (pc := 423) dX2_init_423 rfl ?_
    refine pr_ast (pc := 425) 19 37 h (by decide) rfl rfl dX2_init_425 (by decide) (by decide) ?_
    refine gs_dup (pc := 426) dX2_init_426 rfl ?_
    refine gs_bipush (pc := 427) dX2_init_427 rfl ?_
    refine gs_bipush (pc := 429) dX2_init_429 rfl ?_
    refine pr_ast (pc := 431) 19 37 h (by decide) rfl rfl dX2_init_431 (by decide) (by decide) ?_
    refine gs_dup (pc := 432) dX2_init_432 rfl ?_
    refine gs_bipush (pc := 433) dX2_init_433 rfl ?_
    refine gs_bipush (pc := 435) dX2_init_435 rfl ?_
    refine pr_ast (pc := 437) 19 37 h (by decide) rfl rfl dX2_init_437 (by decide) (by decide) ?_
    refine gs_dup (pc := 438) dX2_init_438 rfl ?_
    refine gs_bipush (pc := 439) dX2_init_439 rfl ?_
    refine gs_bipush (pc := 441) dX2_init_441 rfl ?_
    refine pr_ast (pc := 443) 19 37 h (by decide) rfl rfl dX2_init_443 (by decide) (by decide) ?_
    refine gs_dup (pc := 444) dX2_init_444 rfl ?_
    refine gs_bipush (pc := 445) dX2_init_445 rfl ?_
    refine gs_bipush (pc := 447) dX2_init_447 rfl ?_
    refine pr_ast (pc := 449) 19 37 h (by decide) rfl rfl dX2_init_449 (by decide) (by decide) ?_
    refine gs_dup (pc := 450) dX2_init_450 rfl ?_
    refine gs_bipush (pc := 451) dX2_init_451 rfl ?_
    refine gs_bipush (pc := 453) dX2_init_453 rfl ?_
    refine pr_ast (pc := 455) 19 37 h (by decide) rfl rfl dX2_init_455 (by decide) (by decide) ?_
    refine gs_dup (pc := 456) dX2_init_456 rfl ?_
    refine gs_bipush (pc := 457) dX2_init_457 rfl ?_
    refine gs_bipush (pc := 459) dX2_init_459 rfl ?_
    refine pr_ast (pc := 461) 19 37 h (by decide) rfl rfl dX2_init_461 (by decide) (by decide) ?_
    refine gs_dup (pc := 462) dX2_init_462 rfl ?_
    refine gs_bipush (pc := 463) dX2_init_463 rfl ?_
    refine gs_bipush (pc := 465) dX2_init_465 rfl ?_
    refine pr_ast (pc := 467) 19 37 h (by decide) rfl rfl dX2_init_467 (by decide) (by decide) ?_
    refine gs_dup (pc := 468) dX2_init_468 rfl ?_
    refine gs_bipush (pc := 469) dX2_init_469 rfl ?_
    refine gs_bipush (pc := 471) dX2_init_471 rfl ?_
    refine pr_ast (pc := 473) 19 37 h (by decide) rfl rfl dX2_init_473 (by decide) (by decide) ?_
    refine gs_putF (pc := 474) 39 (.inr (2, afo a 20)) dX2_init_474 (pm_cell h) (by omega) clX2 in_X2 tyX2 tyX2_ok nmX2 (by decide) q2265 (Or.inl rfl) rfl rfl rfl (fok_arr _ _) (Nat.le_of_ble_eq_true rfl) rfl ?_
    rw [pm_set]
    rw [pm_mH]
    have hA : mok X (hp.1 + 20, hp.2.1 + slt 20, hp.2.2) a := ⟨h.1, by have := h.2; unfold nx at *; show a + 20 < cxz X + (hp.1 + 20); omega⟩
    refine gs_ald0 (pc := 477) dX2_init_477 ?_
    refine gs_getf (pc := 478) 0 dX2_init_478 (mcell hA) clX2 in_X2 (by decide) q2226 (Or.inl rfl) rfl ?_
    refine gs_sipush (pc := 481) dX2_init_481 rfl ?_
    refine gs_iconst (pc := 484) dX2_init_484 ?_
    refine ms_page (pc := 485) hA dX2_init_485 (by omega) ?_
    refine gs_ald0 (pc := 486) dX2_init_486 ?_
    refine gs_getf (pc := 487) 0 dX2_init_487 (mcell hA) clX2 in_X2 (by decide) q2226 (Or.inl rfl) rfl ?_
    refine gs_sipush (pc := 490) dX2_init_490 rfl ?_
    refine gs_bipush (pc := 493) dX2_init_493 rfl ?_
    refine ms_page (pc := 495) hA dX2_init_495 (by omega) ?_
    refine gs_vret (pc := 496) dX2_init_496 rfl ?_
    refine ⟨rfl, _, rfl, ?_⟩
    refine ⟨⟨rfl, fun i hi => absurd hi (Nat.not_lt_zero _), fun r hr => ?_, rfl, rfl, rfl⟩, rfl, fun i hi => absurd hi (Nat.not_lt_zero _), ⟨rfl, rfl⟩, fun S hS => (by cases hS), fun S hS => (by cases hS), rfl, fun k hk => absurd hk (Nat.not_lt_zero _), ?_, ?_⟩
    · show fup (fup (fun _ => 0) 977 4) 979 35 (0 + 701 + 23 * (r : Int)) = 0
      rw [fup_ne (by omega), fup_ne (by omega)]
    · decide +kernel
    · decide +kernel
  rw [← e0] at kk
  exact kk
end MI
