/-! THE MODEL: lines joined, a line split. -/
section P4
variable {X : gCx} {hp : gHp} {a : Nat} {M M' : MS} {A : AS} {S S' : SS} {t s : List Int} {n k m lo i j : Nat} {p p' : Int → Int}
theorem mA_pw {q : Int → Int} {r1 x v : Int} : mA (mP (mW M 0 q) 1 r1) 0 x v = mP (mW M 0 (fup q x v)) 1 r1 := by
  rw [show mA (mP (mW M 0 q) 1 r1) 0 x v = mP (mA (mW M 0 q) 0 x v) 1 r1 from rfl, mA_mW]
theorem mW_pw {q q' : Int → Int} {r1 : Int} : mW (mP (mW M 0 q) 1 r1) 0 q' = mP (mW M 0 q') 1 r1 := by rw [mW_mP, mW_mW]
theorem m_joinLines {i : Int} (hA : mok X hp a) (hR : RM M A) (hO : asOk A) (hi : i32 i) : MV X yX2_joinLines fX2_joinLines 4 [vR (some a), vI i] (mH hp a M) (chP hp a (sp_join A i)) := by
  refine MC.of pfX2_joinLines rfl (fun h => by cases h) 4 rfl rfl ?_
  have hP := hR.PG hO
  have hc := hP.cnt
  unfold sp_join
  refine gs_ald0 (pc := 0) dX2_joinLines_0 ?_
  refine gs_ild1 (pc := 1) dX2_joinLines_1 ?_
  refine gs_V1 (pc := 2) dX2_joinLines_2 kX2_216 (mcell hA) clX2 (by decide) (Nat.le_of_ble_eq_true rfl) (m_isLine hA hi (hR.cnt hO).2) (fun v hp1 hq => ?_)
  obtain ⟨rfl, rfl⟩ := hq
  refine gs_beq (pc := 5) (tgt := 18) dX2_joinLines_5 (by decide) (fun h1 => ?_) (fun h1 => ?_)
  · rw [isL_inB hR] at h1
    rw [if_neg (by rw [h1]; simp)]
    refine gs_iconst (pc := 18) dX2_joinLines_18 ?_
    refine gs_iret (pc := 19) dX2_joinLines_19 rfl ?_
    exact ⟨_, rfl, rfl, M, rfl, hR⟩
  rw [isL_inB hR] at h1
  obtain ⟨n, rfl, hn⟩ := isL_nat h1
  refine gs_ald0 (pc := 8) dX2_joinLines_8 ?_
  refine gs_ild1 (pc := 9) dX2_joinLines_9 ?_
  refine gs_iconst (pc := 10) dX2_joinLines_10 ?_
  refine gs_iadd (pc := 11) dX2_joinLines_11 ?_
  refine gs_V1 (pc := 12) dX2_joinLines_12 kX2_216 (mcell hA) clX2 (by decide) (Nat.le_of_ble_eq_true rfl) (m_isLine hA (by omega) (hR.cnt hO).2) (fun v hp1 hq => ?_)
  obtain ⟨rfl, rfl⟩ := hq
  refine gs_bne (pc := 15) (tgt := 20) dX2_joinLines_15 (by decide) (fun h2 => ?_) (fun h2 => ?_)
  rotate_left
  · rw [isL_inB hR] at h2
    rw [if_neg (by rw [h2]; simp)]
    refine gs_iconst (pc := 18) dX2_joinLines_18 ?_
    refine gs_iret (pc := 19) dX2_joinLines_19 rfl ?_
    exact ⟨_, rfl, rfl, M, rfl, hR⟩
  rw [isL_inB hR] at h2
  have hn1 : n + 1 < nL A.1 := by
    have := isL_ok h2
    show n + 1 < A.1.1.length
    omega
  rw [if_pos ⟨h1, h2⟩, Int.toNat_natCast]
  dsimp only
  have hx := hP.ln hn
  have hy := hP.ln hn1
  have hxo := lnOk_at hO.1 hn
  have hyo := lnOk_at hO.1 hn1
  have ej : (if (lnA A.1 n).2.1 = [] then (lnA A.1 (n + 1)).2.1 else if (lnA A.1 (n + 1)).2.1 = [] then (lnA A.1 n).2.1 else (lnA A.1 n).2.1 ++ 32 :: (lnA A.1 (n + 1)).2.1) = joL (lnA A.1 n) (lnA A.1 (n + 1)) := rfl
  rw [ej]
  clear ej
  have hjo := jo_ok hxo hyo
  have hx1 := hx.2.2.2.1
  have hx2 := hx.2.1
  have hy1 := hy.2.2.2.1
  rw [show (21 : Int) + ((n + 1 : Nat) : Int) = 21 + (n : Int) + 1 by omega] at hy1
  have hy2 := hy.2.1
  have ejl : (joL (lnA A.1 n) (lnA A.1 (n + 1))).length = if 0 < (lnA A.1 n).2.1.length ∧ 0 < (lnA A.1 (n + 1)).2.1.length then (lnA A.1 n).2.1.length + 1 + (lnA A.1 (n + 1)).2.1.length else if 0 < (lnA A.1 (n + 1)).2.1.length then (lnA A.1 (n + 1)).2.1.length else (lnA A.1 n).2.1.length := by
    unfold joL
    cases e1 : (lnA A.1 n).2.1 with
    | nil =>
      rw [if_pos rfl, if_neg (by simp)]
      cases (lnA A.1 (n + 1)).2.1 with
      | nil => rfl
      | cons c t => simp
    | cons c t =>
      rw [if_neg (by simp)]
      cases e2 : (lnA A.1 (n + 1)).2.1 with
      | nil => simp
      | cons d u => rw [if_neg (by simp), if_pos (by simp), List.length_append]; simp; omega
  -- the new line
  generalize hl' : ((if (lnA A.1 n).2.1 = [] then (lnA A.1 (n + 1)).1 else (lnA A.1 n).1, joL (lnA A.1 n) (lnA A.1 (n + 1)), (lnA A.1 n).2.2) : Ln) = l' at hjo ⊢
  have hll : l'.2.1 = joL (lnA A.1 n) (lnA A.1 (n + 1)) := by rw [← hl']
  have k202 : (joL (lnA A.1 n) (lnA A.1 (n + 1))).length ≤ 32 → ∀ (p1 q : Int → Int) (r1 : Int) (L2 L3 L4 L5 : Option AV), RM (mP (mW M 0 p1) 1 r1) (chg A A.1) → q 0 = nL A.1 → (∀ j : Nat, j < nL A.1 → pgL q 0 j (if j = n then l' else lnA A.1 j)) → (∀ x : Int, 701 ≤ x → q x = p1 x) → G X fX2_joinLines 4 202 [some (vR (some a)), some (vI (n : Int)), L2, L3, L4, L5] [] (mH hp a (mP (mW M 0 q) 1 r1)) (fun r hp' => ∃ v, r = some v ∧ chP hp a ((((joL (lnA A.1 n) (lnA A.1 (n + 1))).length : Nat) : Int), chg A ((A.1.1.set n l').eraseIdx (n + 1), A.1.2)) v hp') := by
    intro h32 p1 q r1 L2 L3 L4 L5 z2 q0 q1 q2
    have hlo := hjo h32
    have hS1 : ssOk (A.1.1.set n l', A.1.2) := hO.1.set hlo
    have hnS1 : nL (A.1.1.set n l', A.1.2) = nL A.1 := by show (A.1.1.set n l').length = A.1.1.length; rw [List.length_set]
    have hlS1 : ∀ j, lnA (A.1.1.set n l', A.1.2) j = if j = n then l' else lnA A.1 j := fun j => lnA_set hn
    have q1' : ∀ j : Nat, j < nL (A.1.1.set n l', A.1.2) → pgL ((mP (mW M 0 q) 1 r1).2.1 0) 0 j (lnA (A.1.1.set n l', A.1.2) j) := by
      intro j hj
      rw [hlS1]
      exact q1 j (by omega)
    refine gs_ald0 (pc := 202) dX2_joinLines_202 ?_
    refine gs_ild1 (pc := 203) dX2_joinLines_203 ?_
    refine gs_iconst (pc := 204) dX2_joinLines_204 ?_
    refine gs_iadd (pc := 205) dX2_joinLines_205 ?_
    refine gs_V1v (pc := 206) dX2_joinLines_206 kX2_219 (mcell hA) clX2 (by decide) (Nat.le_of_ble_eq_true rfl) (m_drops (S := (A.1.1.set n l', A.1.2)) (i := n + 1) hA hS1 (by rw [hnS1]; exact q0) q1' (by omega)) (fun hp1 hq => ?_)
    obtain ⟨q', rfl, w0, w1, w2, w3⟩ := hq
    have hnl := w1 n (by omega)
    rw [hlS1, if_pos rfl] at hnl
    have e21 : q' (21 + (n : Int)) = (joL (lnA A.1 n) (lnA A.1 (n + 1))).length := by
      have := hnl.2.1
      rw [hll] at this
      rw [← this]
      exact congrArg q' (by omega)
    refine gs_ald0 (pc := 209) dX2_joinLines_209 ?_
    refine gs_getf (pc := 210) 0 dX2_joinLines_210 (mcell hA) clX2 in_X2 (by decide) q2226 (Or.inl rfl) rfl ?_
    refine gs_bipush (pc := 213) dX2_joinLines_213 rfl ?_
    refine gs_ild1 (pc := 215) dX2_joinLines_215 ?_
    refine gs_iadd (pc := 216) dX2_joinLines_216 ?_
    refine gs_iald (pc := 217) dX2_joinLines_217 (ma_page hA) (by omega) (by omega) ?_
    refine gs_iret (pc := 218) dX2_joinLines_218 rfl ?_
    refine ⟨_, rfl, congrArg vI e21, _, rfl, ?_⟩
    have hlen : ((A.1.1.set n l').eraseIdx (n + 1)).length = nL A.1 - 1 := by
      rw [List.length_eraseIdx, List.length_set]
      have : nL A.1 = A.1.1.length := rfl
      rw [if_pos (by omega)]; rfl
    have w3 : ∀ x : Int, 701 ≤ x → q' x = q x := w3
    refine RM.now (A := chg A A.1) z2 (chg_ok hO hO.1) rfl rfl (fun j hj => by rcases hj with rfl | rfl | rfl | rfl <;> rfl) (fun x hx => by show q' x = p1 x; rw [w3 x (by omega), q2 x (by omega)]) ?_
    show pgS q' 0 _
    refine pgS.lines hO.1 z2.1 rfl (fun x h1 h2 => by show q' x = p1 x; rw [w3 x h1, q2 x h1]) ?_ (fun j hj => ?_)
    · show q' 0 = (((A.1.1.set n l').eraseIdx (n + 1)).length : Nat)
      rw [hlen, w0, hnS1]; omega
    · have hj : j < ((A.1.1.set n l').eraseIdx (n + 1)).length := hj
      rw [hlen] at hj
      rw [lnA_era]
      by_cases hjn : j < n + 1
      · rw [if_pos hjn]; exact w1 j hjn
      · rw [if_neg hjn]; exact w2 j (by omega) (by omega)
  have k75 : (joL (lnA A.1 n) (lnA A.1 (n + 1))).length ≤ 32 → ∀ (B : Bool), B = decide (0 < (lnA A.1 n).2.1.length ∧ 0 < (lnA A.1 (n + 1)).2.1.length) → G X fX2_joinLines 4 75 [some (vR (some a)), some (vI (n : Int)), some (vI ((lnA A.1 n).2.1.length : Int)), some (vI ((lnA A.1 (n + 1)).2.1.length : Int)), some (vI (b2i B)), none] [] (mH hp a M) (fun r hp' => ∃ v, r = some v ∧ chP hp a ((((joL (lnA A.1 n) (lnA A.1 (n + 1))).length : Nat) : Int), chg A ((A.1.1.set n l').eraseIdx (n + 1), A.1.2)) v hp') := by
    intro h32 B hB
    refine gs_ald0 (pc := 75) dX2_joinLines_75 ?_
    refine gs_V0v (pc := 76) dX2_joinLines_76 kX2_207 (mcell hA) clX2 (by decide) (Nat.le_of_ble_eq_true rfl) (m_begins hA hR hO) (fun hp1 hq => ?_)
    obtain ⟨p1, r1, rfl, z1, z2⟩ := hq
    have hP2 := RM_pgn z2 hO
    have hlns : ∀ j : Nat, j < nL A.1 → pgL p1 0 j (lnA A.1 j) := hP2.1.2.1
    refine gs_ild4 (pc := 79) dX2_joinLines_79 ?_
    refine gs_beq (pc := 81) (tgt := 168) dX2_joinLines_81 (by decide) (fun hb => ?_) (fun hb => ?_)
    · rw [hb] at hB
      have hB := of_decide_eq_false hB.symm
      refine gs_ild3 (pc := 168) dX2_joinLines_168 ?_
      refine gs_if_le (pc := 169) (tgt := 202) dX2_joinLines_169 (by decide) (by omega) (fun hm => ?_) (fun hm => ?_)
      · -- the second line is blank
        refine k202 h32 p1 p1 r1 _ _ _ _ z2 z2.1.1 (fun j hj => ?_) (fun _ _ => rfl)
        by_cases hjn : j = n
        · rw [if_pos hjn, hjn]
          have hy0 : (lnA A.1 (n + 1)).2.1 = [] := List.length_eq_zero_iff.mp (by omega)
          have e : l' = lnA A.1 n := by
            rw [← hl']
            unfold joL
            by_cases hx0 : (lnA A.1 n).2.1 = []
            · rw [if_pos hx0, if_pos hx0, hy0, hyo.2.2.2.2.1 hy0, ← hxo.2.2.2.2.1 hx0]
              exact Prod.ext rfl (Prod.ext hx0.symm rfl)
            · rw [if_neg hx0, if_neg hx0, if_pos hy0]
          rw [e]
          exact hlns n hn
        · rw [if_neg hjn]; exact hlns j hj
      · have hx0 : (lnA A.1 n).2.1 = [] := List.length_eq_zero_iff.mp (by omega)
        have e : l' = ((lnA A.1 (n + 1)).1, (lnA A.1 (n + 1)).2.1, (lnA A.1 n).2.2) := by
          rw [← hl']
          unfold joL
          rw [if_pos hx0, if_pos hx0]
        have hpn := (hP2.pin hn).1
        refine gs_ald0 (pc := 172) dX2_joinLines_172 ?_
        refine gs_getf (pc := 173) 0 dX2_joinLines_173 (mcell hA) clX2 in_X2 (by decide) q2226 (Or.inl rfl) rfl ?_
        refine gs_bipush (pc := 176) dX2_joinLines_176 rfl ?_
        refine gs_ild1 (pc := 178) dX2_joinLines_178 ?_
        refine gs_iadd (pc := 179) dX2_joinLines_179 ?_
        refine gs_iald (pc := 180) dX2_joinLines_180 (ma_page hA) (by omega) (by omega) ?_
        rw [hpn]
        refine gs_ist5 (pc := 181) dX2_joinLines_181 rfl ?_
        refine gs_ald0 (pc := 183) dX2_joinLines_183 ?_
        refine gs_ild1 (pc := 184) dX2_joinLines_184 ?_
        refine gs_iconst (pc := 185) dX2_joinLines_185 ?_
        refine gs_iadd (pc := 186) dX2_joinLines_186 ?_
        refine gs_ild1 (pc := 187) dX2_joinLines_187 ?_
        refine gs_V2v (pc := 188) dX2_joinLines_188 kX2_200 (mcell hA) clX2 (by decide) (Nat.le_of_ble_eq_true rfl) (m_copiesLine (f := n + 1) (t := n) hA (by omega) (by omega) (by omega)) (fun hp1 hq => ?_)
        obtain ⟨rfl⟩ := hq
        rw [mW_pw]
        refine gs_ald0 (pc := 191) dX2_joinLines_191 ?_
        refine gs_getf (pc := 192) 0 dX2_joinLines_192 (mcell hA) clX2 in_X2 (by decide) q2226 (Or.inl rfl) rfl ?_
        refine gs_bipush (pc := 195) dX2_joinLines_195 rfl ?_
        refine gs_ild1 (pc := 197) dX2_joinLines_197 ?_
        refine gs_iadd (pc := 198) dX2_joinLines_198 ?_
        refine gs_ild5 (pc := 199) dX2_joinLines_199 ?_
        refine ms_page (pc := 201) hA dX2_joinLines_201 (by omega) ?_
        rw [mA_pw]
        refine k202 h32 p1 (fup (cpL p1 (n + 1) n) (41 + (n : Int)) (b2i (pinB A.1 n))) r1 _ _ _ _ z2 ?_ (fun j hj => ?_) (fun x hx => ?_)
        · rw [fup_ne (by omega), cpL_out (by omega)]; exact z2.1.1
        · by_cases hjn : j = n
          · rw [if_pos hjn, hjn, e]
            obtain ⟨g1, g2, g3, g4⟩ := cpL_to (t := n) (by omega) hyo.2.2.1 (hlns (n + 1) hn1)
            refine ⟨by rw [fup_ne (by omega)]; exact g1, by rw [fup_ne (by omega)]; exact g2, ?_, fun k hk => ?_⟩
            · rw [show (0 : Int) + 41 + n = 41 + n by omega]; exact fup_eq
            · dsimp only at hk
              rw [fup_ne (by omega)]; exact g4 k hk
          · rw [if_neg hjn]
            exact (cpL_ne (by omega) (by omega) hjn (lnl hO.1) (hlns j hj)).fr (lnl hO.1) (fun x hx => fup_ne (by omega))
        · rw [fup_ne (by omega), cpL_out (by omega)]
    · rw [hb] at hB
      have hB := of_decide_eq_true hB.symm
      rw [if_pos hB] at ejl
      rw [ejl] at h32
      have hxn : (lnA A.1 n).2.1 ≠ [] := fun h => by rw [h] at hB; simp at hB
      have hyn : (lnA A.1 (n + 1)).2.1 ≠ [] := fun h => by rw [h] at hB; simp at hB
      have e : l' = ((lnA A.1 n).1, (lnA A.1 n).2.1 ++ 32 :: (lnA A.1 (n + 1)).2.1, (lnA A.1 n).2.2) := by
        rw [← hl']
        unfold joL
        rw [if_neg hxn, if_neg hxn, if_neg hyn]
      have hlx := hlns n hn
      have hly := hlns (n + 1) hn1
      generalize hxl : (lnA A.1 n).2.1.length = xl at *
      generalize hyl : (lnA A.1 (n + 1)).2.1.length = yl at *
      have loop : ∀ (r k : Nat) (q : Int → Int), k + r = yl → (∀ z : Int, q z = if z = 61 + 32 * (n : Int) + xl then 32 else if 61 + 32 * (n : Int) + xl + 1 ≤ z ∧ z < 61 + 32 * (n : Int) + xl + 1 + k then p1 (z - xl - 1 + 32) else p1 z) → G X fX2_joinLines 4 103 [some (vR (some a)), some (vI (n : Int)), some (vI (xl : Int)), some (vI (yl : Int)), some (vI (b2i B)), some (vI (k : Int))] [] (mH hp a (mP (mW M 0 q) 1 r1)) (fun r hp' => ∃ v, r = some v ∧ chP hp a ((((joL (lnA A.1 n) (lnA A.1 (n + 1))).length : Nat) : Int), chg A ((A.1.1.set n l').eraseIdx (n + 1), A.1.2)) v hp') := by
        intro r
        induction r with
        | zero =>
          intro k q hk hq
          obtain rfl : k = yl := by omega
          refine gs_ild5 (pc := 103) dX2_joinLines_103 ?_
          refine gs_ild3 (pc := 105) dX2_joinLines_105 ?_
          refine gs_ic_ge (pc := 106) (tgt := 151) dX2_joinLines_106 (by decide) (by omega) (fun _ => ?_) (fun hn => absurd (by omega) hn)
          refine gs_ald0 (pc := 151) dX2_joinLines_151 ?_
          refine gs_getf (pc := 152) 0 dX2_joinLines_152 (mcell hA) clX2 in_X2 (by decide) q2226 (Or.inl rfl) rfl ?_
          refine gs_bipush (pc := 155) dX2_joinLines_155 rfl ?_
          refine gs_ild1 (pc := 157) dX2_joinLines_157 ?_
          refine gs_iadd (pc := 158) dX2_joinLines_158 ?_
          refine gs_ild2 (pc := 159) dX2_joinLines_159 ?_
          refine gs_iconst (pc := 160) dX2_joinLines_160 ?_
          refine gs_iadd (pc := 161) dX2_joinLines_161 ?_
          refine gs_ild3 (pc := 162) dX2_joinLines_162 ?_
          refine gs_iadd (pc := 163) dX2_joinLines_163 ?_
          refine ms_page (pc := 164) hA dX2_joinLines_164 (by omega) ?_
          refine gs_goto (pc := 165) (tgt := 202) dX2_joinLines_165 (by decide) ?_
          rw [show mA (mP (mW M 0 q) 1 r1) 0 (21 + (n : Int)) ((xl : Int) + 1 + k) = mP (mA (mW M 0 q) 0 (21 + (n : Int)) ((xl : Int) + 1 + k)) 1 r1 from rfl, mA_mW]
          have ho : ∀ z : Int, ¬ (61 + 32 * (n : Int) + xl ≤ z ∧ z < 61 + 32 * (n : Int) + 32) → z ≠ 21 + (n : Int) → fup q (21 + (n : Int)) ((xl : Int) + 1 + k) z = p1 z := by
            intro z hz hz2
            rw [fup_ne hz2, hq, if_neg (by omega), if_neg (by omega)]
          refine k202 (by rw [ejl]; omega) p1 _ r1 _ _ _ _ z2 ?_ (fun j hj => ?_) (fun x hx => ho x (by omega) (by omega))
          · rw [ho 0 (by omega) (by omega)]; exact z2.1.1
          · by_cases hjn : j = n
            · rw [if_pos hjn, hjn, e]
              obtain ⟨g1, g2, g3, g4⟩ := hlx
              obtain ⟨-, -, -, g4'⟩ := hly
              refine ⟨by rw [ho _ (by omega) (by omega)]; exact g1, ?_, by rw [ho _ (by omega) (by omega)]; exact g3, fun c hcl => ?_⟩
              · rw [show (0 : Int) + 21 + n = 21 + n by omega, fup_eq]
                dsimp only
                rw [List.length_append, List.length_cons, hxl, hyl]
                omega
              · dsimp only at hcl ⊢
                rw [List.length_append, List.length_cons, hxl, hyl] at hcl
                rw [fup_ne (by omega), hq, List.getD_eq_getElem?_getD]
                by_cases c1 : c < xl
                · rw [if_neg (by omega), if_neg (by omega), List.getElem?_append_left (by omega), ← List.getD_eq_getElem?_getD]
                  exact g4 c (by omega)
                · rw [List.getElem?_append_right (by omega), hxl]
                  by_cases c2 : c = xl
                  · rw [if_pos (by omega), c2, Nat.sub_self]; rfl
                  · rw [if_neg (by omega), if_pos (by omega), show c - xl = (c - xl - 1) + 1 by omega, List.getElem?_cons_succ, ← List.getD_eq_getElem?_getD, ← g4' (c - xl - 1) (by omega)]
                    exact congrArg p1 (by omega)
            · rw [if_neg hjn]
              exact (hlns j hj).fr (lnl hO.1) (fun x hx => ho x (by omega) (by omega))
        | succ r ih =>
          intro k q hk hq
          have ey : (mP (mW M 0 q) 1 r1).2.1 0 (61 + 32 * ((n : Int) + 1) + k) = p1 (61 + 32 * ((n : Int) + 1) + k) := by
            show q _ = _
            rw [hq, if_neg (by omega), if_neg (by omega)]
          refine gs_ild5 (pc := 103) dX2_joinLines_103 ?_
          refine gs_ild3 (pc := 105) dX2_joinLines_105 ?_
          refine gs_ic_ge (pc := 106) (tgt := 151) dX2_joinLines_106 (by decide) (by omega) (fun hn => absurd hn (by omega)) (fun _ => ?_)
          refine gs_ald0 (pc := 109) dX2_joinLines_109 ?_
          refine gs_getf (pc := 110) 0 dX2_joinLines_110 (mcell hA) clX2 in_X2 (by decide) q2226 (Or.inl rfl) rfl ?_
          refine gs_bipush (pc := 113) dX2_joinLines_113 rfl ?_
          refine gs_bipush (pc := 115) dX2_joinLines_115 rfl ?_
          refine gs_ild1 (pc := 117) dX2_joinLines_117 ?_
          refine gs_imul (pc := 118) dX2_joinLines_118 ?_
          refine gs_iadd (pc := 119) dX2_joinLines_119 ?_
          refine gs_ild2 (pc := 120) dX2_joinLines_120 ?_
          refine gs_iadd (pc := 121) dX2_joinLines_121 ?_
          refine gs_iconst (pc := 122) dX2_joinLines_122 ?_
          refine gs_iadd (pc := 123) dX2_joinLines_123 ?_
          refine gs_ild5 (pc := 124) dX2_joinLines_124 ?_
          refine gs_iadd (pc := 126) dX2_joinLines_126 ?_
          refine gs_ald0 (pc := 127) dX2_joinLines_127 ?_
          refine gs_getf (pc := 128) 0 dX2_joinLines_128 (mcell hA) clX2 in_X2 (by decide) q2226 (Or.inl rfl) rfl ?_
          refine gs_bipush (pc := 131) dX2_joinLines_131 rfl ?_
          refine gs_bipush (pc := 133) dX2_joinLines_133 rfl ?_
          refine gs_ild1 (pc := 135) dX2_joinLines_135 ?_
          refine gs_iconst (pc := 136) dX2_joinLines_136 ?_
          refine gs_iadd (pc := 137) dX2_joinLines_137 ?_
          refine gs_imul (pc := 138) dX2_joinLines_138 ?_
          refine gs_iadd (pc := 139) dX2_joinLines_139 ?_
          refine gs_ild5 (pc := 140) dX2_joinLines_140 ?_
          refine gs_iadd (pc := 142) dX2_joinLines_142 ?_
          refine gs_iald (pc := 143) dX2_joinLines_143 (ma_page hA) (by omega) (by omega) ?_
          rw [ey]
          refine ms_page (pc := 144) hA dX2_joinLines_144 (by omega) ?_
          refine gs_inc5 (pc := 145) dX2_joinLines_145 rfl ?_
          refine gs_goto (pc := 148) (tgt := 103) dX2_joinLines_148 (by decide) ?_
          rw [show ∀ x v, mA (mP (mW M 0 q) 1 r1) 0 x v = mP (mA (mW M 0 q) 0 x v) 1 r1 from fun _ _ => rfl, mA_mW]
          refine ih (k + 1) _ (by omega) (fun z => ?_)
          unfold fup
          by_cases hz : z = 61 + 32 * (n : Int) + xl + 1 + k
          · rw [if_pos hz, if_neg (by omega), if_pos (by omega), hz]
            exact congrArg p1 (by omega)
          · rw [if_neg hz, hq]
            by_cases hz1 : z = 61 + 32 * (n : Int) + xl
            · rw [if_pos hz1, if_pos hz1]
            · rw [if_neg hz1, if_neg hz1]
              by_cases hz2 : 61 + 32 * (n : Int) + xl + 1 ≤ z ∧ z < 61 + 32 * (n : Int) + xl + 1 + k
              · rw [if_pos hz2, if_pos (by omega)]
              · rw [if_neg hz2, if_neg (by omega)]
      refine gs_ald0 (pc := 84) dX2_joinLines_84 ?_
      refine gs_getf (pc := 85) 0 dX2_joinLines_85 (mcell hA) clX2 in_X2 (by decide) q2226 (Or.inl rfl) rfl ?_
      refine gs_bipush (pc := 88) dX2_joinLines_88 rfl ?_
      refine gs_bipush (pc := 90) dX2_joinLines_90 rfl ?_
      refine gs_ild1 (pc := 92) dX2_joinLines_92 ?_
      refine gs_imul (pc := 93) dX2_joinLines_93 ?_
      refine gs_iadd (pc := 94) dX2_joinLines_94 ?_
      refine gs_ild2 (pc := 95) dX2_joinLines_95 ?_
      refine gs_iadd (pc := 96) dX2_joinLines_96 ?_
      refine gs_bipush (pc := 97) dX2_joinLines_97 rfl ?_
      refine ms_page (pc := 99) hA dX2_joinLines_99 (by omega) ?_
      refine gs_iconst (pc := 100) dX2_joinLines_100 ?_
      refine gs_ist5 (pc := 101) dX2_joinLines_101 rfl ?_
      rw [mA_pw]
      refine loop yl 0 (fup p1 (61 + 32 * (n : Int) + xl) 32) (by omega) (fun z => ?_)
      unfold fup
      by_cases hz : z = 61 + 32 * (n : Int) + xl
      · rw [if_pos hz, if_pos hz]
      · rw [if_neg hz, if_neg hz, if_neg (by omega)]
  have k55 : ∀ B : Bool, B = decide (0 < (lnA A.1 n).2.1.length ∧ 0 < (lnA A.1 (n + 1)).2.1.length) → G X fX2_joinLines 4 55 [some (vR (some a)), some (vI (n : Int)), some (vI ((lnA A.1 n).2.1.length : Int)), some (vI ((lnA A.1 (n + 1)).2.1.length : Int)), none, none] [vI (b2i B)] (mH hp a M) (fun r hp' => ∃ v, r = some v ∧ chP hp a (if 32 < (joL (lnA A.1 n) (lnA A.1 (n + 1))).length then (-3, A) else ((((joL (lnA A.1 n) (lnA A.1 (n + 1))).length : Nat) : Int), chg A ((A.1.1.set n l').eraseIdx (n + 1), A.1.2))) v hp') := by
    intro B hB
    refine gs_ist4 (pc := 55) dX2_joinLines_55 rfl ?_
    refine gs_ild4 (pc := 57) dX2_joinLines_57 ?_
    refine gs_beq (pc := 59) (tgt := 75) dX2_joinLines_59 (by decide) (fun hb => ?_) (fun hb => ?_)
    · have hB' := hB
      rw [hb] at hB'
      have hB' := of_decide_eq_false hB'.symm
      rw [if_neg hB'] at ejl
      have h32 : (joL (lnA A.1 n) (lnA A.1 (n + 1))).length ≤ 32 := by
        rw [ejl]
        by_cases h : 0 < (lnA A.1 (n + 1)).2.1.length
        · rw [if_pos h]; exact hy2
        · rw [if_neg h]; exact hx2
      rw [if_neg (by omega)]
      exact k75 h32 B hB
    · have hB' := hB
      rw [hb] at hB'
      have hB' := of_decide_eq_true hB'.symm
      rw [if_pos hB'] at ejl
      refine gs_ild2 (pc := 62) dX2_joinLines_62 ?_
      refine gs_iconst (pc := 63) dX2_joinLines_63 ?_
      refine gs_iadd (pc := 64) dX2_joinLines_64 ?_
      refine gs_ild3 (pc := 65) dX2_joinLines_65 ?_
      refine gs_iadd (pc := 66) dX2_joinLines_66 ?_
      refine gs_bipush (pc := 67) dX2_joinLines_67 rfl ?_
      refine gs_ic_le (pc := 69) (tgt := 75) dX2_joinLines_69 (by decide) (by omega) (fun h5 => ?_) (fun h5 => ?_)
      · rw [if_neg (by omega)]
        exact k75 (by omega) B hB
      · rw [if_pos (by omega)]
        refine gs_bipush (pc := 72) dX2_joinLines_72 rfl ?_
        refine gs_iret (pc := 74) dX2_joinLines_74 rfl ?_
        exact ⟨_, rfl, rfl, M, rfl, hR⟩
  refine gs_ald0 (pc := 20) dX2_joinLines_20 ?_
  refine gs_getf (pc := 21) 0 dX2_joinLines_21 (mcell hA) clX2 in_X2 (by decide) q2226 (Or.inl rfl) rfl ?_
  refine gs_bipush (pc := 24) dX2_joinLines_24 rfl ?_
  refine gs_ild1 (pc := 26) dX2_joinLines_26 ?_
  refine gs_iadd (pc := 27) dX2_joinLines_27 ?_
  refine gs_iald (pc := 28) dX2_joinLines_28 (ma_page hA) (by omega) (by omega) ?_
  rw [hx1]
  refine gs_ist2 (pc := 29) dX2_joinLines_29 rfl ?_
  refine gs_ald0 (pc := 30) dX2_joinLines_30 ?_
  refine gs_getf (pc := 31) 0 dX2_joinLines_31 (mcell hA) clX2 in_X2 (by decide) q2226 (Or.inl rfl) rfl ?_
  refine gs_bipush (pc := 34) dX2_joinLines_34 rfl ?_
  refine gs_ild1 (pc := 36) dX2_joinLines_36 ?_
  refine gs_iadd (pc := 37) dX2_joinLines_37 ?_
  refine gs_iconst (pc := 38) dX2_joinLines_38 ?_
  refine gs_iadd (pc := 39) dX2_joinLines_39 ?_
  refine gs_iald (pc := 40) dX2_joinLines_40 (ma_page hA) (by omega) (by omega) ?_
  rw [hy1]
  refine gs_ist3 (pc := 41) dX2_joinLines_41 rfl ?_
  refine gs_ild2 (pc := 42) dX2_joinLines_42 ?_
  refine gs_if_le (pc := 43) (tgt := 54) dX2_joinLines_43 (by decide) (by omega) (fun h3 => ?_) (fun h3 => ?_)
  · refine gs_iconst (pc := 54) dX2_joinLines_54 ?_
    exact k55 false (decide_eq_false (by omega)).symm
  · refine gs_ild3 (pc := 46) dX2_joinLines_46 ?_
    refine gs_if_le (pc := 47) (tgt := 54) dX2_joinLines_47 (by decide) (by omega) (fun h4 => ?_) (fun h4 => ?_)
    · refine gs_iconst (pc := 54) dX2_joinLines_54 ?_
      exact k55 false (decide_eq_false (by omega)).symm
    · refine gs_iconst (pc := 50) dX2_joinLines_50 ?_
      refine gs_goto (pc := 51) (tgt := 55) dX2_joinLines_51 (by decide) ?_
      exact k55 true (decide_eq_true (by omega)).symm
end P4
