/-! THE COMPONENT: a text of a rule is read. -/
section CG
variable {X : gCx} {hp hp1 hp2 hz : gHp} {S0 : Nat → Prop} {S S' T : SS} {A A' : AS} {a c s cap cap' ra pa ia tb n g j k len : Nat} {xs xs' ps : List Nat} {f fI : Int → Option Nat} {fT fT' : Int → Int} {w ch : Option Nat} {at_ fa dr d at' fa' : Int} {L : List Ln} {t : List Int}
def rtP (X : gCx) (hp : gHp) (c s pa ia tb : Nat) (t : List Int) (w ch : Option Nat) (dr : Int) (k : Nat) (v : AV) (hp' : gHp) : Prop := ∃ h1 at' fa', aF X hp h1 c s pa ia tb t.length w ch at' fa' dr ∧ FrN X h1 hp' ∧ hp'.1 ≤ hp.1 + 160 ∧ hp'.2.1 ≤ hp.2.1 + 400 ∧ ((∃ f : Nat, rdT t k = .inr f ∧ v = vR none ∧ fa' = (f : Int)) ∨ ∃ q : Nat × List Int, rdT t k = .inl q ∧ at' = (q.1 : Int) ∧ q.1 ≤ t.length ∧ ∃ r, v = vR (some r) ∧ isS X hp' r q.2 ∧ isN X hp' r)
theorem c_readText (e1 : gl X hp c = some (rcC c s pa ia tb t.length w ch (k : Int) fa dr)) (ht : txC X hp c tb fT t) (hk : k ≤ t.length) : MV X yX0_readText fX0_readText 8 [vR (some c)] hp (rtP X hp c s pa ia tb t w ch dr k) := by
  refine MC.of pfX0_readText rfl (fun h => by cases h) 2 rfl rfl ?_
  have h72 := ht.2.1
  have hld := lead_le (t := t.drop k)
  rw [List.length_drop] at hld
  have hco : isO X hp c 0 := ⟨_, _, e1⟩
  refine gs_ald0 (pc := 0) dX0_readText_0 ?_
  refine gs_V0v (pc := 1) dX0_readText_1 kX0_231 e1 clX0 (by decide) (Nat.le_of_ble_eq_true rfl) (c_skips e1 ht hk) (fun hq ha0 => ?_)
  have hrd : rdT t k = (if 8 < wrdS (t.drop (k + lead (t.drop k))) then .inr (k + lead (t.drop k) + 8) else if 0 < wrdS (t.drop (k + lead (t.drop k))) then .inl (k + lead (t.drop k) + wrdS (t.drop (k + lead (t.drop k))), (t.drop (k + lead (t.drop k))).take (wrdS (t.drop (k + lead (t.drop k))))) else if t.length ≤ k + lead (t.drop k) then .inr (k + lead (t.drop k)) else if t.getD (k + lead (t.drop k)) 0 = 34 then .inr (k + lead (t.drop k)) else .inl (k + lead (t.drop k) + 1, [t.getD (k + lead (t.drop k)) 0])) := rfl
  generalize hqq : k + lead (t.drop k) = q at *
  have hqt : q ≤ t.length := by omega
  have k147 : ∀ (p : Nat) (h : gHp) (L2 : Option AV), aF X hp h c s pa ia tb t.length w ch (p : Int) fa dr → rdT t k = .inr p → G X fX0_readText 8 147 [some (vR (some c)), some (vI (q : Int)), L2] [] h (fun r hp' => ∃ v, r = some v ∧ rtP X hp c s pa ia tb t w ch dr k v hp') := by
    intro p h L2 ha hr
    refine gs_ald0 (pc := 147) dX0_readText_147 ?_
    refine gs_ald0 (pc := 148) dX0_readText_148 ?_
    refine gs_getf (pc := 149) 7 dX0_readText_149 ha.1 clX0 in_X0 (by decide) q218 (Or.inl rfl) rfl ?_
    refine gs_putf (pc := 152) 8 (rcC c s pa ia tb t.length w ch (p : Int) (p : Int) dr).2 dX0_readText_152 ha.1 (by omega) clX0 in_X0 tyX0 tyX0_ok nmX0 (by decide) q219 (Or.inl rfl) rfl (fok_int _) (Nat.le_of_ble_eq_true rfl) rfl ?_
    have ha2 := ha.set (at' := (p : Int)) (fa' := (p : Int))
    refine gs_null (pc := 155) dX0_readText_155 ?_
    refine gs_aret (pc := 156) dX0_readText_156 rfl (Or.inl ⟨_, rfl⟩) ?_
    exact ⟨_, rfl, _, _, _, ha2, FrN.refl, Nat.le_trans (Nat.le_of_eq ha2.2.2.1) (by omega), Nat.le_trans (Nat.le_of_eq ha2.2.2.2) (by omega), Or.inl ⟨p, hr, rfl, rfl⟩⟩
  have k176 : ∀ (p e : Nat) (z : Int) (h : gHp) (L2 : Option AV), aF X hp h c s pa ia tb t.length w ch (p : Int) fa dr → z = (e : Int) → q ≤ e → e ≤ t.length → rdT t k = .inl (e, (t.drop q).take (e - q)) → G X fX0_readText 8 176 [some (vR (some c)), some (vI (q : Int)), L2] [vI z, vR (some c)] h (fun r hp' => ∃ v, r = some v ∧ rtP X hp c s pa ia tb t w ch dr k v hp') := by
    intro p e z h L2 ha hz h1 h2 hr
    subst hz
    refine gs_putf (pc := 176) 7 (rcC c s pa ia tb t.length w ch (e : Int) fa dr).2 dX0_readText_176 ha.1 (by omega) clX0 in_X0 tyX0 tyX0_ok nmX0 (by decide) q218 (Or.inl rfl) rfl (fok_int _) (Nat.le_of_ble_eq_true rfl) rfl ?_
    have ha2 := ha.set (at' := (e : Int)) (fa' := fa)
    have ht2 := ha2.tx hco ht
    refine gs_ald0 (pc := 179) dX0_readText_179 ?_
    refine gs_ild1 (pc := 180) dX0_readText_180 ?_
    refine gs_ald0 (pc := 181) dX0_readText_181 ?_
    refine gs_getf (pc := 182) 7 dX0_readText_182 ha2.1 clX0 in_X0 (by decide) q218 (Or.inl rfl) rfl ?_
    refine gs_V2 (pc := 185) dX0_readText_185 kX0_131 ha2.1 clX0 (by decide) (Nat.le_of_ble_eq_true rfl) (c_cut (lo := q) (hi := e) ha2.1 ht2 h1 h2) (fun v hw hq => ?_)
    obtain ⟨r, rfl, b1, b2, b3, b4, b5⟩ := hq
    refine gs_aret (pc := 188) dX0_readText_188 rfl (Or.inl ⟨_, rfl⟩) ?_
    have b4 : hw.1 ≤ h.1 + 160 := b4
    have b5 : hw.2.1 ≤ h.2.1 + 400 := b5
    exact ⟨_, rfl, _, _, _, ha2, b1, by have := ha.2.2.1; omega, by have := ha.2.2.2; omega, Or.inr ⟨(e, _), hr, rfl, h2, r, rfl, b2, b3⟩⟩
  have k106 : ∀ (p : Nat) (h : gHp) (L2 : Option AV), aF X hp h c s pa ia tb t.length w ch (p : Int) fa dr → q ≤ p → p ≤ q + 8 → p ≤ t.length → wrdS (t.drop q) = p - q → G X fX0_readText 8 106 [some (vR (some c)), some (vI (q : Int)), L2] [] h (fun r hp' => ∃ v, r = some v ∧ rtP X hp c s pa ia tb t w ch dr k v hp') := by
    intro p h L2 ha p1 p2 p3 p4
    have ht2 := ha.tx hco ht
    have k157 : p ≠ q → G X fX0_readText 8 125 [some (vR (some c)), some (vI (q : Int)), L2] [] h (fun r hp' => ∃ v, r = some v ∧ rtP X hp c s pa ia tb t w ch dr k v hp') := by
      intro hpq
      refine gs_ald0 (pc := 125) dX0_readText_125 ?_
      refine gs_getf (pc := 126) 7 dX0_readText_126 ha.1 clX0 in_X0 (by decide) q218 (Or.inl rfl) rfl ?_
      refine gs_ild1 (pc := 129) dX0_readText_129 ?_
      refine gs_ic_ne (pc := 130) (tgt := 157) dX0_readText_130 (by decide) (by omega) (fun _ => ?_) (fun hn => absurd hn (by omega))
      refine gs_ald0 (pc := 157) dX0_readText_157 ?_
      refine gs_dup (pc := 158) dX0_readText_158 rfl ?_
      refine gs_getf (pc := 159) 7 dX0_readText_159 ha.1 clX0 in_X0 (by decide) q218 (Or.inl rfl) rfl ?_
      refine gs_ald0 (pc := 162) dX0_readText_162 ?_
      refine gs_getf (pc := 163) 7 dX0_readText_163 ha.1 clX0 in_X0 (by decide) q218 (Or.inl rfl) rfl ?_
      refine gs_ild1 (pc := 166) dX0_readText_166 ?_
      refine gs_ic_ne (pc := 167) (tgt := 174) dX0_readText_167 (by decide) (by omega) (fun _ => ?_) (fun hn => absurd hn (by omega))
      refine gs_iconst (pc := 174) dX0_readText_174 ?_
      refine gs_iadd (pc := 175) dX0_readText_175 ?_
      exact k176 p p _ h L2 ha (by omega) p1 p3 (by rw [hrd, if_neg (by omega), if_pos (by omega), p4, show q + (p - q) = p by omega])
    refine gs_ald0 (pc := 106) dX0_readText_106 ?_
    refine gs_getf (pc := 107) 7 dX0_readText_107 ha.1 clX0 in_X0 (by decide) q218 (Or.inl rfl) rfl ?_
    refine gs_ald0 (pc := 110) dX0_readText_110 ?_
    refine gs_getf (pc := 111) 4 dX0_readText_111 ha.1 clX0 in_X0 (by decide) q215 (Or.inl rfl) rfl ?_
    refine gs_ic_ne (pc := 114) (tgt := 125) dX0_readText_114 (by decide) (by omega) (fun h1 => ?_) (fun h1 => ?_)
    rotate_left
    · have h1 : p = t.length := by omega
      refine gs_ald0 (pc := 117) dX0_readText_117 ?_
      refine gs_getf (pc := 118) 7 dX0_readText_118 ha.1 clX0 in_X0 (by decide) q218 (Or.inl rfl) rfl ?_
      refine gs_ild1 (pc := 121) dX0_readText_121 ?_
      refine gs_ic_eq (pc := 122) (tgt := 147) dX0_readText_122 (by decide) (by omega) (fun h2 => ?_) (fun h2 => ?_)
      · have h2 : p = q := by omega
        exact k147 p h L2 ha (by rw [hrd, if_neg (by omega), if_neg (by omega), if_pos (by omega), h2])
      · exact k157 (by omega)
    by_cases h2 : p = q
    · subst h2
      obtain ⟨k1, k2, k3⟩ := ht.at (show p < t.length by omega)
      have hg0 : t.getD p 0 = t.getD p (-9) := by rw [getD_in (by omega), getD_in (by omega)]
      refine gs_ald0 (pc := 125) dX0_readText_125 ?_
      refine gs_getf (pc := 126) 7 dX0_readText_126 ha.1 clX0 in_X0 (by decide) q218 (Or.inl rfl) rfl ?_
      refine gs_ild1 (pc := 129) dX0_readText_129 ?_
      refine gs_ic_ne (pc := 130) (tgt := 157) dX0_readText_130 (by decide) (by omega) (fun hn => absurd (by omega) hn) (fun _ => ?_)
      refine gs_ald0 (pc := 133) dX0_readText_133 ?_
      refine gs_getf (pc := 134) 3 dX0_readText_134 ha.1 clX0 in_X0 (by decide) q214 (Or.inl rfl) rfl ?_
      refine gs_ald0 (pc := 137) dX0_readText_137 ?_
      refine gs_getf (pc := 138) 7 dX0_readText_138 ha.1 clX0 in_X0 (by decide) q218 (Or.inl rfl) rfl ?_
      refine gs_bald (pc := 141) dX0_readText_141 ht2.1 (by omega) (by omega) ?_
      rw [k1]
      refine gs_bipush (pc := 142) dX0_readText_142 rfl ?_
      refine gs_ic_ne (pc := 144) (tgt := 157) dX0_readText_144 (by decide) (by omega) (fun h3 => ?_) (fun h3 => ?_)
      · refine gs_ald0 (pc := 157) dX0_readText_157 ?_
        refine gs_dup (pc := 158) dX0_readText_158 rfl ?_
        refine gs_getf (pc := 159) 7 dX0_readText_159 ha.1 clX0 in_X0 (by decide) q218 (Or.inl rfl) rfl ?_
        refine gs_ald0 (pc := 162) dX0_readText_162 ?_
        refine gs_getf (pc := 163) 7 dX0_readText_163 ha.1 clX0 in_X0 (by decide) q218 (Or.inl rfl) rfl ?_
        refine gs_ild1 (pc := 166) dX0_readText_166 ?_
        refine gs_ic_ne (pc := 167) (tgt := 174) dX0_readText_167 (by decide) (by omega) (fun hn => absurd (by omega) hn) (fun _ => ?_)
        refine gs_iconst (pc := 170) dX0_readText_170 ?_
        refine gs_goto (pc := 171) (tgt := 175) dX0_readText_171 (by decide) ?_
        refine gs_iadd (pc := 175) dX0_readText_175 ?_
        refine k176 p (p + 1) _ h L2 ha (by omega) (by omega) (by omega) ?_
        rw [hrd, if_neg (by omega), if_neg (by omega), if_neg (by omega), if_neg (by omega), sub_s (Nat.le_refl _) (by omega), Nat.sub_self, List.take_zero, hg0]
        rfl
      · exact k147 p h L2 ha (by rw [hrd, if_neg (by omega), if_neg (by omega), if_neg (by omega), if_pos (by omega)])
    · exact k157 h2
  have k59 : ∀ (p : Nat) (h : gHp), aF X hp h c s pa ia tb t.length w ch (p : Int) fa dr → q ≤ p → p ≤ q + 8 → p ≤ t.length → wrdS (t.drop q) = p - q + wrdS (t.drop p) → (wrdS (t.drop p) = 0 ∨ p = q + 8) → G X fX0_readText 8 59 [some (vR (some c)), some (vI (q : Int)), none] [] h (fun r hp' => ∃ v, r = some v ∧ rtP X hp c s pa ia tb t w ch dr k v hp') := by
    intro p h ha p1 p2 p3 p4 p5
    have ht2 := ha.tx hco ht
    have hwl := wrd_take (t := t) (k := p)
    have k100 : wrdS (t.drop p) = 0 → G X fX0_readText 8 100 [some (vR (some c)), some (vI (q : Int)), none] [] h (fun r hp' => ∃ v, r = some v ∧ rtP X hp c s pa ia tb t w ch dr k v hp') := by
      intro h0
      refine gs_iconst (pc := 100) dX0_readText_100 ?_
      refine gs_ist2 (pc := 101) dX0_readText_101 rfl ?_
      refine gs_ild2 (pc := 102) dX0_readText_102 ?_
      refine gs_if_ne (pc := 103) (tgt := 147) dX0_readText_103 (by decide) (by omega) (fun hn => absurd (by omega) hn) (fun _ => ?_)
      exact k106 p h _ ha p1 p2 p3 (by omega)
    refine gs_ald0 (pc := 59) dX0_readText_59 ?_
    refine gs_getf (pc := 60) 7 dX0_readText_60 ha.1 clX0 in_X0 (by decide) q218 (Or.inl rfl) rfl ?_
    refine gs_ald0 (pc := 63) dX0_readText_63 ?_
    refine gs_getf (pc := 64) 4 dX0_readText_64 ha.1 clX0 in_X0 (by decide) q215 (Or.inl rfl) rfl ?_
    refine gs_ic_ge (pc := 67) (tgt := 100) dX0_readText_67 (by decide) (by omega) (fun h1 => ?_) (fun h1 => ?_)
    · exact k100 (by omega)
    refine gs_ald0 (pc := 70) dX0_readText_70 ?_
    refine gs_getf (pc := 71) 7 dX0_readText_71 ha.1 clX0 in_X0 (by decide) q218 (Or.inl rfl) rfl ?_
    refine gs_ild1 (pc := 74) dX0_readText_74 ?_
    refine gs_isub (pc := 75) dX0_readText_75 ?_
    refine gs_bipush (pc := 76) dX0_readText_76 rfl ?_
    refine gs_ic_ne (pc := 78) (tgt := 100) dX0_readText_78 (by decide) (by omega) (fun h2 => ?_) (fun h2 => ?_)
    · exact k100 (by omega)
    obtain ⟨k1, k2, k3⟩ := ht.at (show p < t.length by omega)
    refine gs_ald0 (pc := 81) dX0_readText_81 ?_
    refine gs_getf (pc := 82) 3 dX0_readText_82 ha.1 clX0 in_X0 (by decide) q214 (Or.inl rfl) rfl ?_
    refine gs_ald0 (pc := 85) dX0_readText_85 ?_
    refine gs_getf (pc := 86) 7 dX0_readText_86 ha.1 clX0 in_X0 (by decide) q218 (Or.inl rfl) rfl ?_
    refine gs_bald (pc := 89) dX0_readText_89 ht2.1 (by omega) (by omega) ?_
    rw [k1]
    refine gs_S1 (pc := 90) dX0_readText_90 kX0_222 (by decide) (Nat.le_of_ble_eq_true rfl) (c_isWordByte (by omega)) (fun v hp1 hq => ?_)
    obtain ⟨rfl, rfl⟩ := hq
    refine gs_beq (pc := 93) (tgt := 100) dX0_readText_93 (by decide) (fun h3 => ?_) (fun h3 => ?_)
    · exact k100 (wrdS_end h3)
    · have := wrdS_next h3
      refine gs_iconst (pc := 96) dX0_readText_96 ?_
      refine gs_goto (pc := 97) (tgt := 101) dX0_readText_97 (by decide) ?_
      refine gs_ist2 (pc := 101) dX0_readText_101 rfl ?_
      refine gs_ild2 (pc := 102) dX0_readText_102 ?_
      refine gs_if_ne (pc := 103) (tgt := 147) dX0_readText_103 (by decide) (by omega) (fun _ => ?_) (fun hn => absurd hn (by omega))
      exact k147 p h _ ha (by rw [hrd, if_pos (by omega), show q + 8 = p by omega])
  have loop : ∀ (r p : Nat) (h : gHp), p + r = q + 8 → aF X hp h c s pa ia tb t.length w ch (p : Int) fa dr → q ≤ p → p ≤ t.length → wrdS (t.drop q) = p - q + wrdS (t.drop p) → G X fX0_readText 8 9 [some (vR (some c)), some (vI (q : Int)), none] [] h (fun r hp' => ∃ v, r = some v ∧ rtP X hp c s pa ia tb t w ch dr k v hp') := by
    intro r
    induction r with
    | zero =>
      intro p h hp8 ha p1 p3 p4
      have ht2 := ha.tx hco ht
      refine gs_ald0 (pc := 9) dX0_readText_9 ?_
      refine gs_getf (pc := 10) 7 dX0_readText_10 ha.1 clX0 in_X0 (by decide) q218 (Or.inl rfl) rfl ?_
      refine gs_ald0 (pc := 13) dX0_readText_13 ?_
      refine gs_getf (pc := 14) 4 dX0_readText_14 ha.1 clX0 in_X0 (by decide) q215 (Or.inl rfl) rfl ?_
      refine gs_ic_ge (pc := 17) (tgt := 59) dX0_readText_17 (by decide) (by omega) (fun h1 => ?_) (fun h1 => ?_)
      · exact k59 p h ha p1 (by omega) p3 p4 (Or.inr (by omega))
      obtain ⟨k1, k2, k3⟩ := ht.at (show p < t.length by omega)
      refine gs_ald0 (pc := 20) dX0_readText_20 ?_
      refine gs_getf (pc := 21) 3 dX0_readText_21 ha.1 clX0 in_X0 (by decide) q214 (Or.inl rfl) rfl ?_
      refine gs_ald0 (pc := 24) dX0_readText_24 ?_
      refine gs_getf (pc := 25) 7 dX0_readText_25 ha.1 clX0 in_X0 (by decide) q218 (Or.inl rfl) rfl ?_
      refine gs_bald (pc := 28) dX0_readText_28 ht2.1 (by omega) (by omega) ?_
      rw [k1]
      refine gs_S1 (pc := 29) dX0_readText_29 kX0_222 (by decide) (Nat.le_of_ble_eq_true rfl) (c_isWordByte (by omega)) (fun v hp1 hq => ?_)
      obtain ⟨rfl, rfl⟩ := hq
      refine gs_beq (pc := 32) (tgt := 59) dX0_readText_32 (by decide) (fun h3 => ?_) (fun h3 => ?_)
      · exact k59 p h ha p1 (by omega) p3 p4 (Or.inr (by omega))
      · refine gs_ald0 (pc := 35) dX0_readText_35 ?_
        refine gs_getf (pc := 36) 7 dX0_readText_36 ha.1 clX0 in_X0 (by decide) q218 (Or.inl rfl) rfl ?_
        refine gs_ild1 (pc := 39) dX0_readText_39 ?_
        refine gs_isub (pc := 40) dX0_readText_40 ?_
        refine gs_bipush (pc := 41) dX0_readText_41 rfl ?_
        refine gs_ic_ge (pc := 43) (tgt := 59) dX0_readText_43 (by decide) (by omega) (fun _ => ?_) (fun hn => absurd (by omega) hn)
        exact k59 p h ha p1 (by omega) p3 p4 (Or.inr (by omega))
    | succ r ih =>
      intro p h hp8 ha p1 p3 p4
      have ht2 := ha.tx hco ht
      have hwl := wrd_take (t := t) (k := p)
      refine gs_ald0 (pc := 9) dX0_readText_9 ?_
      refine gs_getf (pc := 10) 7 dX0_readText_10 ha.1 clX0 in_X0 (by decide) q218 (Or.inl rfl) rfl ?_
      refine gs_ald0 (pc := 13) dX0_readText_13 ?_
      refine gs_getf (pc := 14) 4 dX0_readText_14 ha.1 clX0 in_X0 (by decide) q215 (Or.inl rfl) rfl ?_
      refine gs_ic_ge (pc := 17) (tgt := 59) dX0_readText_17 (by decide) (by omega) (fun h1 => ?_) (fun h1 => ?_)
      · exact k59 p h ha p1 (by omega) p3 p4 (Or.inl (by omega))
      obtain ⟨k1, k2, k3⟩ := ht.at (show p < t.length by omega)
      refine gs_ald0 (pc := 20) dX0_readText_20 ?_
      refine gs_getf (pc := 21) 3 dX0_readText_21 ha.1 clX0 in_X0 (by decide) q214 (Or.inl rfl) rfl ?_
      refine gs_ald0 (pc := 24) dX0_readText_24 ?_
      refine gs_getf (pc := 25) 7 dX0_readText_25 ha.1 clX0 in_X0 (by decide) q218 (Or.inl rfl) rfl ?_
      refine gs_bald (pc := 28) dX0_readText_28 ht2.1 (by omega) (by omega) ?_
      rw [k1]
      refine gs_S1 (pc := 29) dX0_readText_29 kX0_222 (by decide) (Nat.le_of_ble_eq_true rfl) (c_isWordByte (by omega)) (fun v hp1 hq => ?_)
      obtain ⟨rfl, rfl⟩ := hq
      refine gs_beq (pc := 32) (tgt := 59) dX0_readText_32 (by decide) (fun h3 => ?_) (fun h3 => ?_)
      · exact k59 p h ha p1 (by omega) p3 p4 (Or.inl (wrdS_end h3))
      · have := wrdS_next h3
        refine gs_ald0 (pc := 35) dX0_readText_35 ?_
        refine gs_getf (pc := 36) 7 dX0_readText_36 ha.1 clX0 in_X0 (by decide) q218 (Or.inl rfl) rfl ?_
        refine gs_ild1 (pc := 39) dX0_readText_39 ?_
        refine gs_isub (pc := 40) dX0_readText_40 ?_
        refine gs_bipush (pc := 41) dX0_readText_41 rfl ?_
        refine gs_ic_ge (pc := 43) (tgt := 59) dX0_readText_43 (by decide) (by omega) (fun hn => absurd hn (by omega)) (fun _ => ?_)
        refine gs_ald0 (pc := 46) dX0_readText_46 ?_
        refine gs_dup (pc := 47) dX0_readText_47 rfl ?_
        refine gs_getf (pc := 48) 7 dX0_readText_48 ha.1 clX0 in_X0 (by decide) q218 (Or.inl rfl) rfl ?_
        refine gs_iconst (pc := 51) dX0_readText_51 ?_
        refine gs_iadd (pc := 52) dX0_readText_52 ?_
        refine gs_putf (pc := 53) 7 (rcC c s pa ia tb t.length w ch ((p + 1 : Nat) : Int) fa dr).2 dX0_readText_53 ha.1 (by omega) clX0 in_X0 tyX0 tyX0_ok nmX0 (by decide) q218 (Or.inl rfl) rfl (fok_int _) (Nat.le_of_ble_eq_true rfl) rfl ?_
        refine gs_goto (pc := 56) (tgt := 9) dX0_readText_56 (by decide) ?_
        exact ih (p + 1) _ (by omega) ha.set (by omega) (by omega) (by omega)
  refine gs_ald0 (pc := 4) dX0_readText_4 ?_
  refine gs_getf (pc := 5) 7 dX0_readText_5 ha0.1 clX0 in_X0 (by decide) q218 (Or.inl rfl) rfl ?_
  refine gs_ist1 (pc := 8) dX0_readText_8 rfl ?_
  exact loop 8 q hq rfl ha0 (Nat.le_refl _) hqt (by omega)
end CG
