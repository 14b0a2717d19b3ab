/-! THE MODEL: a line is split. -/
section P5
variable {X : gCx} {hp : gHp} {a : Nat} {M M' : MS} {A : AS} {S S' : SS} {t s : List Int} {n k m lo i j : Nat} {p p' : Int → Int}
theorem rtr_id : ∀ s : List Int, s.getLast? ≠ some 32 → rtr s = s := by
  refine rev_ind ?_ (fun s c _ => ?_)
  · intro _; rfl
  · intro h
    rw [rtr_s, if_neg]
    intro hc
    rw [List.getLast?_append] at h
    exact h (by rw [hc]; rfl)
/-- the second half of a line -/
theorem bare_drop (h : s.getLast? ≠ some 32) : bare (s.drop k) = s.drop (k + lead (s.drop k)) := by
  rw [bare_rtr, drop_lead, drop_drop' rfl]
  refine rtr_id _ (fun h2 => h ?_)
  by_cases hk : k + lead (s.drop k) < s.length
  · rw [List.getLast?_drop, if_neg (by omega)] at h2; exact h2
  · rw [List.drop_eq_nil_of_le (by omega)] at h2; cases h2
/-- the first half of a line -/
theorem lead_take (h : s.head? ≠ some 32) : lead (s.take k) = 0 := by
  cases s with
  | nil => rw [List.take_nil]; rfl
  | cons c s =>
    cases k with
    | zero => rfl
    | succ k =>
      rw [List.take_succ_cons]
      unfold lead
      rw [List.takeWhile_cons_of_neg]
      · rfl
      · intro hc
        exact h (by rw [of_decide_eq_true hc]; rfl)
theorem lnA_spl (hi : i < nL S) : lnA (splS S i k) j = if j < i then lnA S j else if j = i then ((lnA S i).1, bare ((lnA S i).2.1.take k), (lnA S i).2.2) else if j = i + 1 then (0, bare ((lnA S i).2.1.drop k), false) else lnA S (j - 1) := by
  have hi : i < S.1.length := hi
  have hl : (S.1.take i).length = i := by rw [List.length_take]; omega
  unfold splS
  generalize ((lnA S i).1, bare ((lnA S i).2.1.take k), (lnA S i).2.2) = l1
  generalize ((0 : Int), bare ((lnA S i).2.1.drop k), false) = l2
  unfold lnA
  rw [List.getD_eq_getElem?_getD, List.getD_eq_getElem?_getD, List.getD_eq_getElem?_getD]
  dsimp only
  by_cases h1 : j < i
  · rw [if_pos h1, List.getElem?_append_left (by omega), List.getElem?_take_of_lt h1]
  · rw [if_neg h1, List.getElem?_append_right (by omega), hl]
    by_cases h2 : j = i
    · rw [if_pos h2, h2, Nat.sub_self]; rfl
    · rw [if_neg h2]
      by_cases h3 : j = i + 1
      · rw [if_pos h3, h3, show i + 1 - i = 0 + 1 by omega]; rfl
      · rw [if_neg h3, show j - i = (j - i - 2) + 1 + 1 by omega, List.getElem?_cons_succ, List.getElem?_cons_succ, List.getElem?_drop, show i + 1 + (j - i - 2) = j - 1 by omega]
theorem m_splitLine {i k : Int} (hA : mok X hp a) (hR : RM M A) (hO : asOk A) (hi : i32 i) (hk : i32 k) : MV X yX2_splitLine fX2_splitLine 8 [vR (some a), vI i, vI k] (mH hp a M) (chP hp a (sp_split A i k)) := by
  refine MC.of pfX2_splitLine rfl (fun h => by cases h) 3 rfl rfl ?_
  have hP := hR.PG hO
  have hc := hP.cnt
  unfold sp_split
  refine gs_ald0 (pc := 0) dX2_splitLine_0 ?_
  refine gs_ild1 (pc := 1) dX2_splitLine_1 ?_
  refine gs_V1 (pc := 2) dX2_splitLine_2 kX2_216 (mcell hA) clX2 (by decide) (Nat.le_of_ble_eq_true rfl) (m_isLine hA hi (hR.cnt hO).2) (fun v hp1 hq => ?_)
  obtain ⟨rfl, rfl⟩ := hq
  refine gs_beq (pc := 5) (tgt := 27) dX2_splitLine_5 (by decide) (fun h1 => ?_) (fun h1 => ?_)
  · rw [isL_inB hR] at h1
    rw [if_neg (by rw [h1]; simp)]
    refine gs_iconst (pc := 27) dX2_splitLine_27 ?_
    refine gs_iret (pc := 28) dX2_splitLine_28 rfl ?_
    exact ⟨_, rfl, rfl, M, rfl, hR⟩
  rw [isL_inB hR] at h1
  obtain ⟨n, rfl, hn⟩ := isL_nat h1
  have hx := hP.ln hn
  have hx1 := hx.2.2.2.1
  have hx2 := hx.2.1
  have hxo := lnOk_at hO.1 hn
  rw [Int.toNat_natCast]
  refine gs_ild2 (pc := 8) dX2_splitLine_8 ?_
  refine gs_iconst (pc := 9) dX2_splitLine_9 ?_
  refine gs_ald0 (pc := 10) dX2_splitLine_10 ?_
  refine gs_getf (pc := 11) 0 dX2_splitLine_11 (mcell hA) clX2 in_X2 (by decide) q2226 (Or.inl rfl) rfl ?_
  refine gs_bipush (pc := 14) dX2_splitLine_14 rfl ?_
  refine gs_ild1 (pc := 16) dX2_splitLine_16 ?_
  refine gs_iadd (pc := 17) dX2_splitLine_17 ?_
  refine gs_iald (pc := 18) dX2_splitLine_18 (ma_page hA) (by omega) (by omega) ?_
  rw [hx1]
  refine gs_iconst (pc := 19) dX2_splitLine_19 ?_
  refine gs_isub (pc := 20) dX2_splitLine_20 ?_
  refine gs_S3 (pc := 21) dX2_splitLine_21 kX2_79 (by decide) (Nat.le_of_ble_eq_true rfl) (m_in hk (by decide) (by omega)) (fun v hp1 hq => ?_)
  obtain ⟨rfl, rfl⟩ := hq
  refine gs_bne (pc := 24) (tgt := 29) dX2_splitLine_24 (by decide) (fun h2 => ?_) (fun h2 => ?_)
  rotate_left
  · have h2 : ¬ (1 ≤ k ∧ k ≤ ((lnA A.1 n).2.1.length : Int) - 1) := by simpa [inB] using h2
    rw [if_neg (fun h => h2 (by omega))]
    refine gs_iconst (pc := 27) dX2_splitLine_27 ?_
    refine gs_iret (pc := 28) dX2_splitLine_28 rfl ?_
    exact ⟨_, rfl, rfl, M, rfl, hR⟩
  have h2 : 1 ≤ k ∧ k ≤ ((lnA A.1 n).2.1.length : Int) - 1 := by simpa [inB] using h2
  obtain ⟨w, rfl⟩ : ∃ w : Nat, k = (w : Int) := ⟨k.toNat, by omega⟩
  rw [if_pos ⟨h1, by omega⟩, Int.toNat_natCast]
  refine gs_ald0 (pc := 29) dX2_splitLine_29 ?_
  refine gs_getf (pc := 30) 0 dX2_splitLine_30 (mcell hA) clX2 in_X2 (by decide) q2226 (Or.inl rfl) rfl ?_
  refine gs_iconst (pc := 33) dX2_splitLine_33 ?_
  refine gs_iald (pc := 34) dX2_splitLine_34 (ma_page hA) (by omega) (by omega) ?_
  refine gs_bipush (pc := 35) dX2_splitLine_35 rfl ?_
  refine gs_ic_ne (pc := 37) (tgt := 43) dX2_splitLine_37 (by decide) (by omega) (fun h3 => ?_) (fun h3 => ?_)
  rotate_left
  · rw [if_pos (by omega)]
    refine gs_bipush (pc := 40) dX2_splitLine_40 rfl ?_
    refine gs_iret (pc := 42) dX2_splitLine_42 rfl ?_
    exact ⟨_, rfl, rfl, M, rfl, hR⟩
  have h20 : nL A.1 < 20 := by omega
  rw [if_neg (by omega)]
  dsimp only
  have hS1 := spl_ok (k := w) hO.1 hn h20 (by omega)
  have hn1 : nL (splS A.1 n w) = nL A.1 + 1 := by
    show (A.1.1.take n ++ _ :: _ :: A.1.1.drop (n + 1)).length = A.1.1.length + 1
    have : nL A.1 = A.1.1.length := rfl
    rw [List.length_append, List.length_cons, List.length_cons, List.length_take, List.length_drop]; omega
  have hl1 := fun j => lnA_spl (k := w) (j := j) hn
  have hS12 : (splS A.1 n w).2 = A.1.2 := rfl
  have hbd := bare_drop (k := w) hxo.2.2.2.2.2.2
  have hbt := bare_len (t := (lnA A.1 n).2.1.take w)
  have hba := fun c h => bare_at (t := (lnA A.1 n).2.1.take w) (k := c) h
  rw [lead_take hxo.2.2.2.2.2.1] at hbt hba
  have htw : ((lnA A.1 n).2.1.take w).length = w := by rw [List.length_take]; omega
  rw [htw] at hbt
  have hld := lead_le (t := (lnA A.1 n).2.1.drop w)
  rw [List.length_drop] at hld
  have hxr := hxo.2.2.2.1
  have hx6 := hxo.2.2.2.2.2.1
  refine gs_ald0 (pc := 43) dX2_splitLine_43 ?_
  refine gs_V0v (pc := 44) dX2_splitLine_44 kX2_207 (mcell hA) clX2 (by decide) (Nat.le_of_ble_eq_true rfl) (m_begins hA hR hO) (fun hp1 hq => ?_)
  obtain ⟨p1, r1, rfl, z1, z2⟩ := hq
  have hP2 := RM_pgn z2 hO
  refine gs_ald0 (pc := 47) dX2_splitLine_47 ?_
  refine gs_ild1 (pc := 48) dX2_splitLine_48 ?_
  refine gs_iconst (pc := 49) dX2_splitLine_49 ?_
  refine gs_iadd (pc := 50) dX2_splitLine_50 ?_
  refine gs_V1v (pc := 51) dX2_splitLine_51 kX2_210 (mcell hA) clX2 (by decide) (Nat.le_of_ble_eq_true rfl) (m_parts (i := n + 1) hA hP2 (by omega) h20) (fun hp1 hq => ?_)
  obtain ⟨q, rfl, q0, q1, q2, q3, q4⟩ := hq
  rw [mW_pw]
  have hqx := q1 n (by omega)
  generalize hs : (lnA A.1 n).2.1 = s at *
  have q4 : ∀ x : Int, 701 ≤ x → q x = p1 x := q4
  -- the end: the new state S1 lies on the page
  have k207 : ∀ (w' : Int → Int) (L3 L4 L5 : Option AV), pgS w' 0 (splS A.1 n w) → (∀ x : Int, 980 ≤ x → w' x = p1 x) → G X fX2_splitLine 8 207 [some (vR (some a)), some (vI (n : Int)), some (vI (w : Int)), L3, L4, L5] [] (mH hp a (mP (mW M 0 w') 1 r1)) (fun r hp' => ∃ v, r = some v ∧ chP hp a (if freL (splS A.1 n w) (n + 1) = true then (dcS (splS A.1 n w) (splS A.1 n w).2.2.1 (splS A.1 n w).2.2.2.1 (n + 1)).1 else 0, chg A (upL (splS A.1 n w) (n + 1) (if freL (splS A.1 n w) (n + 1) = true then (dcS (splS A.1 n w) (splS A.1 n w).2.2.1 (splS A.1 n w).2.2.2.1 (n + 1)).1 else 0, (lnA (splS A.1 n w) (n + 1)).2))) v hp') := by
    intro w' L3 L4 L5 hw hw2
    have hP4 : PG (mP (mW M 0 w') 1 r1) (splS A.1 n w) := ⟨hw, hS1⟩
    obtain ⟨s1, s2, s3, s4⟩ := hP4.sb
    have hi0 : indS (splS A.1 n w) (n + 1) = 0 := by
      show (lnA (splS A.1 n w) (n + 1)).1 = 0
      rw [hl1, if_neg (by omega), if_neg (by omega), if_pos rfl]
    generalize splS A.1 n w = S1 at *
    refine gs_ald0 (pc := 207) dX2_splitLine_207 ?_
    refine gs_ald0 (pc := 208) dX2_splitLine_208 ?_
    refine gs_getf (pc := 209) 0 dX2_splitLine_209 (mcell hA) clX2 in_X2 (by decide) q2226 (Or.inl rfl) rfl ?_
    refine gs_sipush (pc := 212) dX2_splitLine_212 rfl ?_
    refine gs_iald (pc := 215) dX2_splitLine_215 (ma_page hA) (by omega) (by omega) ?_
    refine gs_ald0 (pc := 216) dX2_splitLine_216 ?_
    refine gs_getf (pc := 217) 0 dX2_splitLine_217 (mcell hA) clX2 in_X2 (by decide) q2226 (Or.inl rfl) rfl ?_
    refine gs_sipush (pc := 220) dX2_splitLine_220 rfl ?_
    refine gs_iald (pc := 223) dX2_splitLine_223 (ma_page hA) (by omega) (by omega) ?_
    rw [s1, s2]
    refine gs_V2v (pc := 224) dX2_splitLine_224 kX2_222 (mcell hA) clX2 (by decide) (Nat.le_of_ble_eq_true rfl) (m_uses hA hP4 s3 s4) (fun hp1 hq => ?_)
    obtain ⟨M2, rfl, f1, hU⟩ := hq
    refine gs_ald0 (pc := 227) dX2_splitLine_227 ?_
    refine gs_ild1 (pc := 228) dX2_splitLine_228 ?_
    refine gs_iconst (pc := 229) dX2_splitLine_229 ?_
    refine gs_iadd (pc := 230) dX2_splitLine_230 ?_
    refine gs_V1 (pc := 231) dX2_splitLine_231 kX2_185 (mcell hA) clX2 (by decide) (Nat.le_of_ble_eq_true rfl) (m_isFree (i := n + 1) hA hU.1 hU.2.1.1 (by omega)) (fun v hp1 hq => ?_)
    obtain ⟨rfl, rfl⟩ := hq
    have e0 : ∀ j, j = 0 ∨ j = 1 ∨ j = 2 ∨ j = 18 ∨ j = 19 → M2.2.1 j = (mP (mW M 0 w') 1 r1).2.1 j := fun j hj => f1.2.1 j (by omega)
    have hpg0 : M2.2.1 0 = w' := e0 0 (by omega)
    have e1 : M2.1 1 = r1 := f1.1 1 (by omega)
    have e4 : M2.1 4 = M.1 4 := f1.1 4 (by omega)
    cases hf : freL S1 (n + 1) with
    | false =>
      rw [if_neg (by decide)]
      have hid : upL S1 (n + 1) (0, (lnA S1 (n + 1)).2) = S1 := by
        unfold upL
        refine Prod.ext ?_ rfl
        refine List.ext_getElem? fun j => ?_
        dsimp only
        by_cases hj : j = n + 1
        · subst hj
          have hlt : n + 1 < S1.1.length := by show n + 1 < nL S1; omega
          rw [List.getElem?_set_self hlt, List.getElem?_eq_getElem hlt]
          have e : lnA S1 (n + 1) = S1.1[n + 1] := by unfold lnA; rw [List.getD_eq_getElem?_getD, List.getElem?_eq_getElem hlt]; rfl
          rw [← e]
          exact congrArg some (Prod.ext hi0.symm rfl)
        · rw [List.getElem?_set_ne (Ne.symm hj)]
      rw [hid]
      have hpn := (hU.1.pin (show n + 1 < nL S1 by omega)).2
      rw [hi0] at hpn
      refine gs_beq (pc := 234) (tgt := 258) dX2_splitLine_234 (by decide) (fun _ => ?_) (fun hn => absurd ((rfl : _ = false).symm.trans hn) (by decide))
      refine gs_ald0 (pc := 258) dX2_splitLine_258 ?_
      refine gs_getf (pc := 259) 0 dX2_splitLine_259 (mcell hA) clX2 in_X2 (by decide) q2226 (Or.inl rfl) rfl ?_
      refine gs_iconst (pc := 262) dX2_splitLine_262 ?_
      refine gs_ild1 (pc := 263) dX2_splitLine_263 ?_
      refine gs_iadd (pc := 264) dX2_splitLine_264 ?_
      refine gs_iconst (pc := 265) dX2_splitLine_265 ?_
      refine gs_iadd (pc := 266) dX2_splitLine_266 ?_
      refine gs_iald (pc := 267) dX2_splitLine_267 (ma_page hA) (by omega) (by omega) ?_
      rw [show M2.2.1 0 (1 + (n : Int) + 1) = 0 by rw [← hpn]; exact congrArg (M2.2.1 0) (by omega)]
      refine gs_iret (pc := 268) dX2_splitLine_268 rfl ?_
      refine ⟨_, rfl, rfl, M2, rfl, ?_⟩
      exact RM.now (A := chg A A.1) z2 (chg_ok hO hO.1) e1 e4 (fun j hj => by rw [e0 j (by omega)]; rcases hj with rfl | rfl | rfl | rfl <;> rfl) (fun x hx => by rw [hpg0]; exact hw2 x hx) (by rw [hpg0]; exact hw)
    | true =>
      rw [if_pos rfl]
      refine gs_beq (pc := 234) (tgt := 258) dX2_splitLine_234 (by decide) (fun hn => absurd ((rfl : _ = true).symm.trans hn) (by decide)) (fun _ => ?_)
      refine gs_ald0 (pc := 237) dX2_splitLine_237 ?_
      refine gs_ild1 (pc := 238) dX2_splitLine_238 ?_
      refine gs_iconst (pc := 239) dX2_splitLine_239 ?_
      refine gs_iadd (pc := 240) dX2_splitLine_240 ?_
      refine gs_V1v (pc := 241) dX2_splitLine_241 kX2_188 (mcell hA) clX2 (by decide) (Nat.le_of_ble_eq_true rfl) (m_decides (i := n + 1) hA hU (by omega)) (fun hp1 hq => ?_)
      obtain ⟨M3, rfl, d1, d2, -, -⟩ := hq
      have hpg3 : M3.2.1 0 = w' := by rw [d1.2]; exact hpg0
      rw [show (dcS S1 S1.2.2.1 S1.2.2.2.1 (n + 1)).1 = M3.1 24 from d2.symm]
      refine gs_ald0 (pc := 244) dX2_splitLine_244 ?_
      refine gs_getf (pc := 245) 0 dX2_splitLine_245 (mcell hA) clX2 in_X2 (by decide) q2226 (Or.inl rfl) rfl ?_
      refine gs_iconst (pc := 248) dX2_splitLine_248 ?_
      refine gs_ild1 (pc := 249) dX2_splitLine_249 ?_
      refine gs_iadd (pc := 250) dX2_splitLine_250 ?_
      refine gs_iconst (pc := 251) dX2_splitLine_251 ?_
      refine gs_iadd (pc := 252) dX2_splitLine_252 ?_
      refine gs_ald0 (pc := 253) dX2_splitLine_253 ?_
      refine gs_getf (pc := 254) 24 dX2_splitLine_254 (mcell hA) clX2 in_X2 (by decide) q2250 (Or.inl rfl) rfl ?_
      refine ms_page (pc := 257) hA dX2_splitLine_257 (by omega) ?_
      refine gs_ald0 (pc := 258) dX2_splitLine_258 ?_
      refine gs_getf (pc := 259) 0 dX2_splitLine_259 (mcell hA) clX2 in_X2 (by decide) q2226 (Or.inl rfl) rfl ?_
      refine gs_iconst (pc := 262) dX2_splitLine_262 ?_
      refine gs_ild1 (pc := 263) dX2_splitLine_263 ?_
      refine gs_iadd (pc := 264) dX2_splitLine_264 ?_
      refine gs_iconst (pc := 265) dX2_splitLine_265 ?_
      refine gs_iadd (pc := 266) dX2_splitLine_266 ?_
      refine gs_iald (pc := 267) dX2_splitLine_267 (ma_page hA) (by omega) (by omega) ?_
      refine gs_iret (pc := 268) dX2_splitLine_268 rfl ?_
      refine ⟨_, rfl, congrArg vI fup_eq, _, rfl, ?_⟩
      refine RM.now (A := chg A A.1) z2 (chg_ok hO hO.1) ((d1.1 1 (by omega)).trans e1) ((d1.1 4 (by omega)).trans e4) (fun j hj => ?_) (fun x hx => ?_) ?_
      · show (mA M3 0 (1 + (n : Int) + 1) (M3.1 24)).2.1 j = _
        rw [mA_ne (by omega), d1.2, e0 j (by omega)]
        rcases hj with rfl | rfl | rfl | rfl <;> rfl
      · show fup (M3.2.1 0) (1 + (n : Int) + 1) (M3.1 24) x = p1 x
        rw [fup_ne (by omega), hpg3]; exact hw2 x hx
      · show pgS (fup (M3.2.1 0) (1 + (n : Int) + 1) (M3.1 24)) 0 _
        rw [hpg3]
        refine pgS.lines hS1 hw rfl (fun x h1 h2 => fup_ne (by omega)) ?_ (fun j hj => ?_)
        · rw [fup_ne (by omega)]
          show w' 0 = ((S1.1.set (n + 1) _).length : Nat)
          rw [List.length_set]; exact hw.1
        · unfold upL at hj ⊢
          dsimp only at hj
          rw [List.length_set] at hj
          have hj20 : j < 20 := by have := hS1.1; omega
          rw [lnA_set (show n + 1 < S1.1.length by show n + 1 < nL S1; omega)]
          have hlj := hw.2.1 j hj
          have h32 := lnl (S := S1) (j := j) hS1
          by_cases hjn : j = n + 1
          · subst hjn
            rw [if_pos rfl]
            obtain ⟨g1, g2, g3, g4⟩ := hlj
            refine ⟨?_, by rw [fup_ne (by omega)]; exact g2, by rw [fup_ne (by omega)]; exact g3, fun c hcl => ?_⟩
            · rw [show (0 : Int) + 1 + ((n + 1 : Nat) : Int) = 1 + (n : Int) + 1 by omega]; exact fup_eq
            · dsimp only at hcl ⊢
              rw [fup_ne (by omega)]; exact g4 c hcl
          · rw [if_neg hjn]
            exact hlj.fr (lnl hS1) (fun x hx => fup_ne (by omega))
  -- the page when both halves are written, the first one m bytes long
  have loop3 : ∀ (L3 L4 L5 : Option AV) (q' : Int → Int), q' 0 = nL A.1 + 1 → (∀ j : Nat, j < n → pgL q' 0 j (lnA A.1 j)) → (∀ j : Nat, n + 1 < j → j ≤ nL A.1 → pgL q' 0 j (lnA A.1 (j - 1))) → pgL q' 0 (n + 1) (0, bare (s.drop w), false) → q' (1 + (n : Int)) = (lnA A.1 n).1 → q' (41 + (n : Int)) = b2i (lnA A.1 n).2.2 → (∀ c : Nat, c < s.length → q' (61 + 32 * (n : Int) + c) = s.getD c 0) → (∀ x : Int, 701 ≤ x → q' x = p1 x) → ∀ m : Nat, 1 ≤ m → m ≤ w → trN (s.take w) 0 w = trN (s.take w) 0 m → q' (21 + (n : Int)) = m → G X fX2_splitLine 8 170 [some (vR (some a)), some (vI (n : Int)), some (vI (w : Int)), L3, L4, L5] [] (mH hp a (mP (mW M 0 q') 1 r1)) (fun r hp' => ∃ v, r = some v ∧ chP hp a (if freL (splS A.1 n w) (n + 1) = true then (dcS (splS A.1 n w) (splS A.1 n w).2.2.1 (splS A.1 n w).2.2.2.1 (n + 1)).1 else 0, chg A (upL (splS A.1 n w) (n + 1) (if freL (splS A.1 n w) (n + 1) = true then (dcS (splS A.1 n w) (splS A.1 n w).2.2.1 (splS A.1 n w).2.2.2.1 (n + 1)).1 else 0, (lnA (splS A.1 n w) (n + 1)).2))) v hp') := by
    intro L3 L4 L5 q' a0 a1 a2 a3 a4 a5 a6 a7 m
    induction m generalizing q' with
    | zero => intro h; omega
    | succ m ih =>
      intro hm1 hmw htr ha
      have e21 : (mP (mW M 0 q') 1 r1).2.1 0 (21 + (n : Int)) = ((m + 1 : Nat) : Int) := ha
      have hsm := hxr s[m] (List.getElem_mem (by omega))
      have hcv : (if (m : Int) < (mP (mW M 0 q') 1 r1).2.1 0 (21 + (n : Int)) then (mP (mW M 0 q') 1 r1).2.1 0 (61 + 32 * (n : Int) + m) else -9) = s[m] := by
        rw [if_pos (by omega)]
        show q' _ = _
        rw [a6 m (by omega), getD_in]
      have etm : (s.take w).getD m (-9) = s[m] := by
        rw [List.getD_eq_getElem?_getD, List.getElem?_take_of_lt (by omega), List.getElem?_eq_getElem (by omega)]; rfl
      refine gs_ald0 (pc := 170) dX2_splitLine_170 ?_
      refine gs_ild1 (pc := 171) dX2_splitLine_171 ?_
      refine gs_ald0 (pc := 172) dX2_splitLine_172 ?_
      refine gs_getf (pc := 173) 0 dX2_splitLine_173 (mcell hA) clX2 in_X2 (by decide) q2226 (Or.inl rfl) rfl ?_
      refine gs_bipush (pc := 176) dX2_splitLine_176 rfl ?_
      refine gs_ild1 (pc := 178) dX2_splitLine_178 ?_
      refine gs_iadd (pc := 179) dX2_splitLine_179 ?_
      refine gs_iald (pc := 180) dX2_splitLine_180 (ma_page hA) (by omega) (by omega) ?_
      rw [e21]
      refine gs_iconst (pc := 181) dX2_splitLine_181 ?_
      refine gs_isub (pc := 182) dX2_splitLine_182 ?_
      rw [show ((m + 1 : Nat) : Int) - 1 = (m : Int) by omega]
      refine gs_V2 (pc := 183) dX2_splitLine_183 kX2_83 (mcell hA) clX2 (by decide) (Nat.le_of_ble_eq_true rfl) (m_contentAt hA (by omega) (by omega) (by omega)) (fun v hp1 hq => ?_)
      obtain ⟨rfl, rfl⟩ := hq
      rw [hcv]
      refine gs_bipush (pc := 186) dX2_splitLine_186 rfl ?_
      refine gs_ic_ne (pc := 188) (tgt := 207) dX2_splitLine_188 (by decide) (by omega) (fun h5 => ?_) (fun h5 => ?_)
      · have ht : trN (s.take w) 0 (m + 1) = m + 1 := if_neg (fun h => h5 (by rw [← etm]; exact h.2))
        rw [ht] at htr
        refine k207 q' _ _ _ ?_ (fun x hx => a7 x (by omega))
        refine pgS.lines (S := A.1) hO.1 z2.1 hS12 (fun x h1 h2 => a7 x h1) ?_ (fun j hj => ?_)
        · rw [a0, show ((splS A.1 n w).1.length) = nL A.1 + 1 from hn1]; rfl
        · have hj : j < nL (splS A.1 n w) := hj
          rw [hl1]
          by_cases j1 : j < n
          · rw [if_pos j1]; exact a1 j j1
          · rw [if_neg j1]
            by_cases j2 : j = n
            · rw [if_pos j2, j2]
              refine ⟨by rw [← a4]; exact congrArg q' (by omega), ?_, by rw [← a5]; exact congrArg q' (by omega), fun c hcl => ?_⟩
              · dsimp only
                rw [hbt, htr, show (0 : Int) + 21 + n = 21 + n by omega, ha]; rfl
              · dsimp only at hcl ⊢
                have hcl2 := hcl
                rw [hbt, htr] at hcl2
                rw [hba c hcl, Nat.zero_add, List.getD_eq_getElem?_getD, List.getElem?_take_of_lt (by omega), ← List.getD_eq_getElem?_getD, ← a6 c (by omega)]
                exact congrArg q' (by omega)
            · rw [if_neg j2]
              by_cases j3 : j = n + 1
              · rw [if_pos j3, j3]; exact a3
              · rw [if_neg j3]; exact a2 j (by omega) (by omega)
      · have h5 : s[m] = 32 := by omega
        have hm0 : m ≠ 0 := by
          intro h0
          subst h0
          cases s with
          | nil => simp at h2; omega
          | cons c s' => exact hx6 (by rw [show c = 32 from h5]; rfl)
        have ht : trN (s.take w) 0 (m + 1) = trN (s.take w) 0 m := if_pos ⟨by omega, by rw [etm]; exact h5⟩
        refine gs_ald0 (pc := 191) dX2_splitLine_191 ?_
        refine gs_getf (pc := 192) 0 dX2_splitLine_192 (mcell hA) clX2 in_X2 (by decide) q2226 (Or.inl rfl) rfl ?_
        refine gs_bipush (pc := 195) dX2_splitLine_195 rfl ?_
        refine gs_ild1 (pc := 197) dX2_splitLine_197 ?_
        refine gs_iadd (pc := 198) dX2_splitLine_198 ?_
        refine gs_dup2 (pc := 199) dX2_splitLine_199 rfl rfl ?_
        refine gs_iald (pc := 200) dX2_splitLine_200 (ma_page hA) (by omega) (by omega) ?_
        refine gs_iconst (pc := 201) dX2_splitLine_201 ?_
        refine gs_isub (pc := 202) dX2_splitLine_202 ?_
        refine ms_page (pc := 203) hA dX2_splitLine_203 (by omega) ?_
        refine gs_goto (pc := 204) (tgt := 170) dX2_splitLine_204 (by decide) ?_
        rw [e21, show ((m + 1 : Nat) : Int) - 1 = (m : Int) by omega, mA_pw]
        refine ih _ ?_ (fun j hj => (a1 j hj).fr (lnl hO.1) (fun x hx => fup_ne (by omega))) (fun j h1 h2 => (a2 j h1 h2).fr (lnl hO.1) (fun x hx => fup_ne (by omega))) (a3.fr (by dsimp only; rw [hbd, List.length_drop]; omega) (fun x hx => fup_ne (by omega))) ?_ ?_ (fun c hcl => ?_) (fun x hx => ?_) (by omega) (by omega) (by rw [htr, ht]) fup_eq
        · rw [fup_ne (by omega)]; exact a0
        · rw [fup_ne (by omega)]; exact a4
        · rw [fup_ne (by omega)]; exact a5
        · rw [fup_ne (by omega)]; exact a6 c hcl
        · rw [fup_ne (by omega)]; exact a7 x hx
  obtain ⟨hq1, hq2, hq3, hq4⟩ := hqx
  rw [hs] at hq2 hq4
  have hlM : lnM (mP (mW M 0 q) 1 r1) n s := by
    refine ⟨by omega, hx2, hxr, ?_, fun c hcl => ?_⟩
    · show q _ = _
      rw [← hq2]; exact congrArg q (by omega)
    · show q _ = _
      rw [← hq4 c hcl]; exact congrArg q (by omega)
  -- the bytes of the second half are copied
  have loop2 : ∀ (fr : Nat), fr = w + lead (s.drop w) → ∀ (r c : Nat) (q' : Int → Int), c + r = s.length - fr → (∀ x : Int, q' x = if 61 + 32 * ((n : Int) + 1) ≤ x ∧ x < 61 + 32 * ((n : Int) + 1) + c then q (x - 32 + fr) else q x) → G X fX2_splitLine 8 89 [some (vR (some a)), some (vI (n : Int)), some (vI (w : Int)), some (vI (fr : Int)), some (vI ((s.length - fr : Nat) : Int)), some (vI (c : Int))] [] (mH hp a (mP (mW M 0 q') 1 r1)) (fun r hp' => ∃ v, r = some v ∧ chP hp a (if freL (splS A.1 n w) (n + 1) = true then (dcS (splS A.1 n w) (splS A.1 n w).2.2.1 (splS A.1 n w).2.2.2.1 (n + 1)).1 else 0, chg A (upL (splS A.1 n w) (n + 1) (if freL (splS A.1 n w) (n + 1) = true then (dcS (splS A.1 n w) (splS A.1 n w).2.2.1 (splS A.1 n w).2.2.2.1 (n + 1)).1 else 0, (lnA (splS A.1 n w) (n + 1)).2))) v hp') := by
    intro fr hfr r
    induction r with
    | zero =>
      intro c q' hcr hq
      obtain rfl : c = s.length - fr := by omega
      refine gs_ild5 (pc := 89) dX2_splitLine_89 ?_
      refine gs_ild4 (pc := 91) dX2_splitLine_91 ?_
      refine gs_ic_ge (pc := 93) (tgt := 136) dX2_splitLine_93 (by decide) (by omega) (fun _ => ?_) (fun hn => absurd (by omega) hn)
      refine gs_ald0 (pc := 136) dX2_splitLine_136 ?_
      refine gs_getf (pc := 137) 0 dX2_splitLine_137 (mcell hA) clX2 in_X2 (by decide) q2226 (Or.inl rfl) rfl ?_
      refine gs_bipush (pc := 140) dX2_splitLine_140 rfl ?_
      refine gs_ild1 (pc := 142) dX2_splitLine_142 ?_
      refine gs_iadd (pc := 143) dX2_splitLine_143 ?_
      refine gs_iconst (pc := 144) dX2_splitLine_144 ?_
      refine gs_iadd (pc := 145) dX2_splitLine_145 ?_
      refine gs_ild4 (pc := 146) dX2_splitLine_146 ?_
      refine ms_page (pc := 148) hA dX2_splitLine_148 (by omega) ?_
      refine gs_ald0 (pc := 149) dX2_splitLine_149 ?_
      refine gs_getf (pc := 150) 0 dX2_splitLine_150 (mcell hA) clX2 in_X2 (by decide) q2226 (Or.inl rfl) rfl ?_
      refine gs_iconst (pc := 153) dX2_splitLine_153 ?_
      refine gs_ild1 (pc := 154) dX2_splitLine_154 ?_
      refine gs_iadd (pc := 155) dX2_splitLine_155 ?_
      refine gs_iconst (pc := 156) dX2_splitLine_156 ?_
      refine gs_iadd (pc := 157) dX2_splitLine_157 ?_
      refine gs_iconst (pc := 158) dX2_splitLine_158 ?_
      refine ms_page (pc := 159) hA dX2_splitLine_159 (by omega) ?_
      refine gs_ald0 (pc := 160) dX2_splitLine_160 ?_
      refine gs_getf (pc := 161) 0 dX2_splitLine_161 (mcell hA) clX2 in_X2 (by decide) q2226 (Or.inl rfl) rfl ?_
      refine gs_bipush (pc := 164) dX2_splitLine_164 rfl ?_
      refine gs_ild1 (pc := 166) dX2_splitLine_166 ?_
      refine gs_iadd (pc := 167) dX2_splitLine_167 ?_
      refine gs_ild2 (pc := 168) dX2_splitLine_168 ?_
      refine ms_page (pc := 169) hA dX2_splitLine_169 (by omega) ?_
      rw [mA_pw, mA_pw, mA_pw]
      have ho : ∀ x : Int, x ≠ 21 + (n : Int) + 1 → x ≠ 1 + (n : Int) + 1 → x ≠ 21 + (n : Int) → fup (fup (fup q' (21 + (n : Int) + 1) ((s.length - fr : Nat) : Int)) (1 + (n : Int) + 1) 0) (21 + (n : Int)) (w : Int) x = q' x := fun x g1 g2 g3 => by rw [fup_ne g3, fup_ne g2, fup_ne g1]
      have ho2 : ∀ x : Int, ¬ (61 + 32 * ((n : Int) + 1) ≤ x ∧ x < 61 + 32 * ((n : Int) + 1) + 32) → q' x = q x := fun x g => by rw [hq, if_neg (by omega)]
      refine loop3 _ _ _ _ ?_ (fun j hj => (q1 j (by omega)).fr (lnl hO.1) (fun x hx => ?_)) (fun j h1 h2 => (q2 j h1 h2).fr (lnl hO.1) (fun x hx => ?_)) ⟨?_, ?_, ?_, fun c hcl => ?_⟩ ?_ ?_ (fun c hcl => ?_) (fun x hx => ?_) w (by omega) (Nat.le_refl _) rfl fup_eq
      · rw [ho _ (by omega) (by omega) (by omega), ho2 _ (by omega)]; exact q0
      · rw [ho _ (by omega) (by omega) (by omega), ho2 _ (by omega)]
      · rw [ho _ (by omega) (by omega) (by omega), ho2 _ (by omega)]
      · rw [fup_ne (by omega), show (0 : Int) + 1 + ((n + 1 : Nat) : Int) = 1 + (n : Int) + 1 by omega]; exact fup_eq
      · rw [fup_ne (by omega), fup_ne (by omega), show (0 : Int) + 21 + ((n + 1 : Nat) : Int) = 21 + (n : Int) + 1 by omega, fup_eq]
        dsimp only
        rw [hbd, List.length_drop, ← hfr]
      · rw [ho _ (by omega) (by omega) (by omega), ho2 _ (by omega), show (0 : Int) + 41 + ((n + 1 : Nat) : Int) = 41 + ((n + 1 : Nat) : Int) by omega]; exact q3
      · dsimp only at hcl ⊢
        rw [hbd, List.length_drop, ← hfr] at hcl
        rw [hbd, ← hfr, drop_getD, ho _ (by omega) (by omega) (by omega), hq, if_pos (by omega), ← hq4 (fr + c) (by omega)]
        exact congrArg q (by omega)
      · rw [ho _ (by omega) (by omega) (by omega), ho2 _ (by omega), ← hq1]; exact congrArg q (by omega)
      · rw [ho _ (by omega) (by omega) (by omega), ho2 _ (by omega), ← hq3]; exact congrArg q (by omega)
      · rw [ho _ (by omega) (by omega) (by omega), ho2 _ (by omega), ← hq4 c hcl]; exact congrArg q (by omega)
      · rw [ho _ (by omega) (by omega) (by omega), ho2 _ (by omega)]; exact q4 x hx
    | succ r ih =>
      intro c q' hcr hq
      have ev : (mP (mW M 0 q') 1 r1).2.1 0 (61 + 32 * (n : Int) + fr + c) = q (61 + 32 * (n : Int) + fr + c) := by
        show q' _ = _
        rw [hq, if_neg (by omega)]
      refine gs_ild5 (pc := 89) dX2_splitLine_89 ?_
      refine gs_ild4 (pc := 91) dX2_splitLine_91 ?_
      refine gs_ic_ge (pc := 93) (tgt := 136) dX2_splitLine_93 (by decide) (by omega) (fun hn => absurd hn (by omega)) (fun _ => ?_)
      refine gs_ald0 (pc := 96) dX2_splitLine_96 ?_
      refine gs_getf (pc := 97) 0 dX2_splitLine_97 (mcell hA) clX2 in_X2 (by decide) q2226 (Or.inl rfl) rfl ?_
      refine gs_bipush (pc := 100) dX2_splitLine_100 rfl ?_
      refine gs_bipush (pc := 102) dX2_splitLine_102 rfl ?_
      refine gs_ild1 (pc := 104) dX2_splitLine_104 ?_
      refine gs_iconst (pc := 105) dX2_splitLine_105 ?_
      refine gs_iadd (pc := 106) dX2_splitLine_106 ?_
      refine gs_imul (pc := 107) dX2_splitLine_107 ?_
      refine gs_iadd (pc := 108) dX2_splitLine_108 ?_
      refine gs_ild5 (pc := 109) dX2_splitLine_109 ?_
      refine gs_iadd (pc := 111) dX2_splitLine_111 ?_
      refine gs_ald0 (pc := 112) dX2_splitLine_112 ?_
      refine gs_getf (pc := 113) 0 dX2_splitLine_113 (mcell hA) clX2 in_X2 (by decide) q2226 (Or.inl rfl) rfl ?_
      refine gs_bipush (pc := 116) dX2_splitLine_116 rfl ?_
      refine gs_bipush (pc := 118) dX2_splitLine_118 rfl ?_
      refine gs_ild1 (pc := 120) dX2_splitLine_120 ?_
      refine gs_imul (pc := 121) dX2_splitLine_121 ?_
      refine gs_iadd (pc := 122) dX2_splitLine_122 ?_
      refine gs_ild3 (pc := 123) dX2_splitLine_123 ?_
      refine gs_iadd (pc := 124) dX2_splitLine_124 ?_
      refine gs_ild5 (pc := 125) dX2_splitLine_125 ?_
      refine gs_iadd (pc := 127) dX2_splitLine_127 ?_
      refine gs_iald (pc := 128) dX2_splitLine_128 (ma_page hA) (by omega) (by omega) ?_
      rw [ev]
      refine ms_page (pc := 129) hA dX2_splitLine_129 (by omega) ?_
      rw [mA_pw]
      refine gs_inc5 (pc := 130) dX2_splitLine_130 rfl ?_
      refine gs_goto (pc := 133) (tgt := 89) dX2_splitLine_133 (by decide) ?_
      refine ih (c + 1) _ (by omega) (fun x => ?_)
      unfold fup
      by_cases hz : x = 61 + 32 * ((n : Int) + 1) + c
      · rw [if_pos hz, if_pos (by omega), hz]
        exact congrArg q (by omega)
      · rw [if_neg hz, hq]
        by_cases hz2 : 61 + 32 * ((n : Int) + 1) ≤ x ∧ x < 61 + 32 * ((n : Int) + 1) + c
        · rw [if_pos hz2, if_pos (by omega)]
        · rw [if_neg hz2, if_neg (by omega)]
  have loop1 : ∀ (r c : Nat), c + r = 40 → w ≤ c → w + lead (s.drop w) = c + lead (s.drop c) → G X fX2_splitLine 8 56 [some (vR (some a)), some (vI (n : Int)), some (vI (w : Int)), some (vI (c : Int)), none, none] [] (mH hp a (mP (mW M 0 q) 1 r1)) (fun r hp' => ∃ v, r = some v ∧ chP hp a (if freL (splS A.1 n w) (n + 1) = true then (dcS (splS A.1 n w) (splS A.1 n w).2.2.1 (splS A.1 n w).2.2.2.1 (n + 1)).1 else 0, chg A (upL (splS A.1 n w) (n + 1) (if freL (splS A.1 n w) (n + 1) = true then (dcS (splS A.1 n w) (splS A.1 n w).2.2.1 (splS A.1 n w).2.2.2.1 (n + 1)).1 else 0, (lnA (splS A.1 n w) (n + 1)).2))) v hp') := by
    intro r
    induction r with
    | zero =>
      intro c hcr hwc he
      omega
    | succ r ih =>
      intro c hcr hwc he
      have rs := getD_rng (k := c) hxr
      refine gs_ald0 (pc := 56) dX2_splitLine_56 ?_
      refine gs_ild1 (pc := 57) dX2_splitLine_57 ?_
      refine gs_ild3 (pc := 58) dX2_splitLine_58 ?_
      refine gs_V2 (pc := 59) dX2_splitLine_59 kX2_83 (mcell hA) clX2 (by decide) (Nat.le_of_ble_eq_true rfl) (m_cAt hA hlM (by omega)) (fun v hp1 hq => ?_)
      obtain ⟨rfl, rfl⟩ := hq
      refine gs_bipush (pc := 62) dX2_splitLine_62 rfl ?_
      refine gs_ic_ne (pc := 64) (tgt := 73) dX2_splitLine_64 (by decide) (by omega) (fun h5 => ?_) (fun h5 => ?_)
      · rw [lead_end h5] at he
        have e21 : (mP (mW M 0 q) 1 r1).2.1 0 (21 + (n : Int)) = s.length := hlM.2.2.2.1
        refine gs_ald0 (pc := 73) dX2_splitLine_73 ?_
        refine gs_getf (pc := 74) 0 dX2_splitLine_74 (mcell hA) clX2 in_X2 (by decide) q2226 (Or.inl rfl) rfl ?_
        refine gs_bipush (pc := 77) dX2_splitLine_77 rfl ?_
        refine gs_ild1 (pc := 79) dX2_splitLine_79 ?_
        refine gs_iadd (pc := 80) dX2_splitLine_80 ?_
        refine gs_iald (pc := 81) dX2_splitLine_81 (ma_page hA) (by omega) (by omega) ?_
        rw [e21]
        refine gs_ild3 (pc := 82) dX2_splitLine_82 ?_
        refine gs_isub (pc := 83) dX2_splitLine_83 ?_
        refine gs_ist4 (pc := 84) dX2_splitLine_84 rfl ?_
        refine gs_iconst (pc := 86) dX2_splitLine_86 ?_
        refine gs_ist5 (pc := 87) dX2_splitLine_87 rfl ?_
        have := loop2 c (by omega) (s.length - c) 0 q (by omega) (fun x => by rw [if_neg (by omega)])
        rw [show ((s.length - c : Nat) : Int) = (s.length : Int) - c by omega] at this
        exact this
      · rw [lead_next (t := s) (k := c) (by omega)] at he
        refine gs_inc3 (pc := 67) dX2_splitLine_67 rfl ?_
        refine gs_goto (pc := 70) (tgt := 56) dX2_splitLine_70 (by decide) ?_
        exact ih (c + 1) (by omega) (by omega) (by omega)
  refine gs_ild2 (pc := 54) dX2_splitLine_54 ?_
  refine gs_ist3 (pc := 55) dX2_splitLine_55 rfl ?_
  exact loop1 (40 - w) w (by omega) (Nat.le_refl _) rfl
end P5
