/-! THE MODEL: columns. -/
section N5
variable {X : gCx} {hp : gHp} {a : Nat} {M M' : MS} {A : AS} {S : SS} {s : List Int} {i p f t r n k : Nat} {W : Wk} {ind : Nat → Int} {stp bse : Int}
theorem mul_rng {x y : Int} (hx : -4 ≤ x ∧ x ≤ 4) (hy : 1 ≤ y ∧ y ≤ 8) : -32 ≤ x * y ∧ x * y ≤ 32 ∧ (0 ≤ x → 0 ≤ x * y) := by
  have : x = -4 ∨ x = -3 ∨ x = -2 ∨ x = -1 ∨ x = 0 ∨ x = 1 ∨ x = 2 ∨ x = 3 ∨ x = 4 := by omega
  rcases this with rfl | rfl | rfl | rfl | rfl | rfl | rfl | rfl | rfl <;> omega
/-- what uses leaves alone -/
def usF (M M' : MS) : Prop := (∀ k, k ≠ 12 ∧ k ≠ 18 ∧ k ≠ 19 ∧ k ≠ 20 ∧ k ≠ 22 ∧ k ≠ 23 → M'.1 k = M.1 k) ∧ (∀ j, j < 3 ∨ 15 < j → M'.2.1 j = M.2.1 j) ∧ M'.2.2 = M.2.2
theorem loF.us (h : loF M M') : usF M M' := ⟨fun k hk => h.1 k ⟨hk.1, hk.2.1, hk.2.2.1, hk.2.2.2.1⟩, fun j hj => h.2.1 j (by omega), h.2.2⟩
theorem usF.trans {M'' : MS} (h : usF M M') (h' : usF M' M'') : usF M M'' := ⟨fun k hk => (h'.1 k hk).trans (h.1 k hk), fun j hj => (h'.2.1 j hj).trans (h.2.1 j hj), h'.2.2.trans h.2.2⟩
/-- only arrays from 15 on, and scalars from 22 on, have changed -/
def hiF (M M' : MS) : Prop := (∀ k, k < 22 → M'.1 k = M.1 k) ∧ ∀ j, j < 15 → M'.2.1 j = M.2.1 j
theorem hiF.refl : hiF M M := ⟨fun _ _ => rfl, fun _ _ => rfl⟩
theorem hiF.trans {M'' : MS} (h : hiF M M') (h' : hiF M' M'') : hiF M M'' := ⟨fun k hk => (h'.1 k hk).trans (h.1 k hk), fun j hj => (h'.2 j hj).trans (h.2 j hj)⟩
theorem hiF.mP {j : Nat} {v : Int} (h : 22 ≤ j) : hiF M (mP M j v) := ⟨fun k hk => if_neg (by omega), fun _ _ => rfl⟩
theorem hiF.mA {j : Nat} {x v : Int} (h : 15 ≤ j) : hiF M (mA M j x v) := ⟨fun _ _ => rfl, fun k hk => if_neg (by omega)⟩
theorem hiF.mL {x : Int64} : hiF M (mL M x) := ⟨fun _ _ => rfl, fun _ _ => rfl⟩
theorem hiF.PG (h : hiF M M') (hP : PG M S) : PG M' S := hP.mv (h.2 0 (by decide))
theorem hiF.TK (h : hiF M M') (hT : TK M S) : TK M' S := by
  obtain ⟨h1, h2, h3, h4⟩ := hT
  refine ⟨by rw [h.2 10 (by decide)]; exact h1, by rw [h.2 11 (by decide)]; exact h2, by rw [h.1 12 (by decide)]; exact h3, fun t ht => ?_⟩
  obtain ⟨w1, w2, w3, w4⟩ := h4 t ht
  exact ⟨by rw [h.2 3 (by decide)]; exact w1, by rw [h.2 4 (by decide)]; exact w2, by rw [h.2 5 (by decide)]; exact w3, by rw [h.2 6 (by decide)]; exact w4⟩
theorem hiF.LO (h : hiF M M') (hL : LO M S) : LO M' S := by
  obtain ⟨hT, ⟨l1, l2, l3, l4, l5⟩, hN⟩ := hL
  refine ⟨h.TK hT, ⟨by rw [h.1 18 (by decide)]; exact l1, by rw [h.2 14 (by decide)]; exact l2, by rw [h.1 19 (by decide)]; exact l3, by rw [h.1 20 (by decide)]; exact l4, by rw [h.2 7 (by decide), h.2 8 (by decide), h.2 9 (by decide)]; exact l5⟩, ?_⟩
  unfold NT
  rw [h.2 12 (by decide), h.2 13 (by decide)]
  exact hN
/-- the Model's row of indentations, step and base -/
def US (M : MS) (S : SS) (ind : Nat → Int) (stp bse : Int) : Prop := PG M S ∧ LO M S ∧ (∀ i : Nat, i < nL S → M.2.1 15 i = ind i) ∧ M.1 22 = stp ∧ M.1 23 = bse ∧ (∀ i : Nat, i < nL S → 0 ≤ ind i ∧ ind i ≤ 40) ∧ (1 ≤ stp ∧ stp ≤ 8) ∧ 0 ≤ bse ∧ bse ≤ 20
theorem indS_ok (hS : ssOk S) (hi : i < nL S) : 0 ≤ indS S i ∧ indS S i ≤ 40 := by
  have := lnOk_at hS hi
  exact ⟨this.1, this.2.1⟩
theorem m_uses (hA : mok X hp a) (hP : PG M S) (hs : 1 ≤ stp ∧ stp ≤ 8) (hb : 0 ≤ bse ∧ bse ≤ 20) : M0 X yX2_uses fX2_uses 7 [vR (some a), vI stp, vI bse] (mH hp a M) (fun hp' => ∃ M', hp' = mH hp a M' ∧ usF M M' ∧ US M' S (indS S) stp bse) := by
  refine MC.of pfX2_uses rfl (fun h => by cases h) 1 rfl rfl ?_
  refine gs_ald0 (pc := 0) dX2_uses_0 ?_
  refine gs_V0v (pc := 1) dX2_uses_1 kX2_151 (mcell hA) clX2 (by decide) (Nat.le_of_ble_eq_true rfl) (m_looks hA hP) (fun hp1 hq => ?_)
  obtain ⟨M1, rfl, f1, hL⟩ := hq
  refine gs_iconst (pc := 4) dX2_uses_4 ?_
  refine gs_ist3 (pc := 5) dX2_uses_5 rfl ?_
  have hP1 : PG M1 S := hP.mv (f1.2.1 0 (by omega))
  have loop : ∀ (m i : Nat) (M2 : MS), i + m = nL S → hiF M1 M2 → usF M M2 → (∀ j : Nat, j < i → M2.2.1 15 j = indS S j) → G X fX2_uses 7 6 [some (vR (some a)), some (vI stp), some (vI bse), some (vI (i : Int))] [] (mH hp a M2) (fun r hp' => r = none ∧ ∃ M', hp' = mH hp a M' ∧ usF M M' ∧ US M' S (indS S) stp bse) := by
    intro m
    induction m with
    | zero =>
      intro i M2 hi h1 h2 h3
      have hc := (h1.PG hP1).cnt
      refine gs_ild3 (pc := 6) dX2_uses_6 ?_
      refine gs_ald0 (pc := 7) dX2_uses_7 ?_
      refine gs_getf (pc := 8) 0 dX2_uses_8 (mcell hA) clX2 in_X2 (by decide) q2226 (Or.inl rfl) rfl ?_
      refine gs_iconst (pc := 11) dX2_uses_11 ?_
      refine gs_iald (pc := 12) dX2_uses_12 (ma_page hA) (by omega) (by omega) ?_
      refine gs_ic_ge (pc := 13) (tgt := 36) dX2_uses_13 (by decide) (by omega) (fun _ => ?_) (fun hn => absurd (by omega) hn)
      refine gs_ald0 (pc := 36) dX2_uses_36 ?_
      refine gs_ild1 (pc := 37) dX2_uses_37 ?_
      refine mp_useStep (pc := 38) rfl hA dX2_uses_38 ?_
      refine gs_ald0 (pc := 41) dX2_uses_41 ?_
      refine gs_ild2 (pc := 42) dX2_uses_42 ?_
      refine mp_useBase (pc := 43) rfl hA dX2_uses_43 ?_
      refine gs_vret (pc := 46) dX2_uses_46 rfl ?_
      have h5 : hiF M1 (mP (mP M2 22 stp) 23 bse) := h1.trans ((hiF.mP (by omega)).trans (hiF.mP (by omega)))
      refine ⟨rfl, _, rfl, ⟨fun k hk => ?_, h2.2.1, h2.2.2⟩, h5.PG hP1, h5.LO hL, fun j hj => h3 j (by omega), rfl, rfl, fun j hj => indS_ok hP.2 hj, hs, hb⟩
      show (mP (mP M2 22 stp) 23 bse).1 k = _
      rw [← h2.1 k hk]
      show (if k = 23 then bse else if k = 22 then stp else M2.1 k) = _
      rw [if_neg hk.2.2.2.2.2, if_neg hk.2.2.2.2.1]
    | succ m ih =>
      intro i M2 hi h1 h2 h3
      have hP2 := h1.PG hP1
      have hc := hP2.cnt
      have hin := (hP2.1.2.1 i (show i < S.1.length by show i < nL S; omega)).1
      refine gs_ild3 (pc := 6) dX2_uses_6 ?_
      refine gs_ald0 (pc := 7) dX2_uses_7 ?_
      refine gs_getf (pc := 8) 0 dX2_uses_8 (mcell hA) clX2 in_X2 (by decide) q2226 (Or.inl rfl) rfl ?_
      refine gs_iconst (pc := 11) dX2_uses_11 ?_
      refine gs_iald (pc := 12) dX2_uses_12 (ma_page hA) (by omega) (by omega) ?_
      refine gs_ic_ge (pc := 13) (tgt := 36) dX2_uses_13 (by decide) (by omega) (fun hn => absurd hn (by omega)) (fun _ => ?_)
      refine gs_ald0 (pc := 16) dX2_uses_16 ?_
      refine gs_getf (pc := 17) 21 dX2_uses_17 (mcell hA) clX2 in_X2 (by decide) q2247 (Or.inl rfl) rfl ?_
      refine gs_ild3 (pc := 20) dX2_uses_20 ?_
      refine gs_ald0 (pc := 21) dX2_uses_21 ?_
      refine gs_getf (pc := 22) 0 dX2_uses_22 (mcell hA) clX2 in_X2 (by decide) q2226 (Or.inl rfl) rfl ?_
      refine gs_iconst (pc := 25) dX2_uses_25 ?_
      refine gs_ild3 (pc := 26) dX2_uses_26 ?_
      refine gs_iadd (pc := 27) dX2_uses_27 ?_
      refine gs_iald (pc := 28) dX2_uses_28 (ma_page hA) (by omega) (by omega) ?_
      refine ms_row (pc := 29) hA dX2_uses_29 (by omega) ?_
      refine gs_inc3 (pc := 30) dX2_uses_30 rfl ?_
      refine gs_goto (pc := 33) (tgt := 6) dX2_uses_33 (by decide) ?_
      refine ih (i + 1) _ (by omega) (h1.trans (hiF.mA (by omega))) ⟨h2.1, fun j hj => ?_, h2.2.2⟩ (fun j hj => ?_)
      · rw [mA_ne (by omega)]; exact h2.2.1 j hj
      · show fup (M2.2.1 15) i (M2.2.1 0 (1 + i)) j = _
        by_cases hji : j = i
        · subst hji
          rw [fup_eq, show (1 : Int) + j = 0 + 1 + j by omega, hin]; rfl
        · rw [fup_ne (by omega)]; exact h3 j (by omega)
  exact loop (nL S) 0 M1 (by omega) hiF.refl f1.us (fun j hj => absurd hj (by omega))
theorem m_columnOf (hA : mok X hp a) (hU : US M S ind stp bse) (ht : t < (toks S).length) : MV X yX2_columnOf fX2_columnOf 1 [vR (some a), vI (t : Int)] (mH hp a M) (fun v hp' => v = vI (ind (tA (toks S) t).1 + (tA (toks S) t).2.1) ∧ mH hp a M = hp') := by
  obtain ⟨hP, hL, u1, u2, u3, u4⟩ := hU
  have htle := toks_le hP.2
  obtain ⟨w1, w2, -, -⟩ := hL.1.2.2.2 t ht
  have hok := toks_ok ht
  have hc := hP.cnt
  have hok1 : (tA (toks S) t).1 < nL S := hok.1
  refine MC.of pfX2_columnOf rfl (fun h => by cases h) 0 rfl rfl ?_
  refine gs_ald0 (pc := 0) dX2_columnOf_0 ?_
  refine gs_getf (pc := 1) 21 dX2_columnOf_1 (mcell hA) clX2 in_X2 (by decide) q2247 (Or.inl rfl) rfl ?_
  refine gs_ald0 (pc := 4) dX2_columnOf_4 ?_
  refine gs_getf (pc := 5) 5 dX2_columnOf_5 (mcell hA) clX2 in_X2 (by decide) q2231 (Or.inl rfl) rfl ?_
  refine gs_ild1 (pc := 8) dX2_columnOf_8 ?_
  refine gs_iald (pc := 9) dX2_columnOf_9 (ma_tokenLine hA) (by omega) (by omega) ?_
  refine gs_iald (pc := 10) dX2_columnOf_10 (ma_row hA) (by omega) (by omega) ?_
  refine gs_ald0 (pc := 11) dX2_columnOf_11 ?_
  refine gs_getf (pc := 12) 6 dX2_columnOf_12 (mcell hA) clX2 in_X2 (by decide) q2232 (Or.inl rfl) rfl ?_
  refine gs_ild1 (pc := 15) dX2_columnOf_15 ?_
  refine gs_iald (pc := 16) dX2_columnOf_16 (ma_tokenSpot hA) (by omega) (by omega) ?_
  refine gs_iadd (pc := 17) dX2_columnOf_17 ?_
  refine gs_iret (pc := 18) dX2_columnOf_18 rfl ?_
  refine ⟨_, rfl, ?_, rfl⟩
  rw [w1, w2, u1 _ hok1]
/-- token k opens a block -/
def opM (M : MS) (S : SS) (k : Nat) : Prop := k < (toks S).length ∧ M.2.1 7 k = prT S (toks S) k ∧ prT S (toks S) k ≠ -9
theorem m_isAligned (hA : mok X hp a) (hP : PG M S) (hL : LO M S) (ho : opM M S k) : MV X yX2_isAligned fX2_isAligned 2 [vR (some a), vI (k : Int)] (mH hp a M) (fun v hp' => v = vI (b2i (alB S (toks S) k)) ∧ mH hp a M = hp') := by
  obtain ⟨ht, o1, o2⟩ := ho
  have htle := toks_le hP.2
  obtain ⟨w1, w2, -, -⟩ := hL.1.2.2.2 k ht
  have hok1 : (tA (toks S) k).1 < nL S := (toks_ok ht).1
  have hc := hP.cnt
  obtain ⟨r, R, e1, e2, e3, e4, e5⟩ := blk_ok o2
  have hrl := hP.rlS e2 e3
  have h10 : M.2.1 10 (((tA (toks S) k).1 : Int) + 1) = fstO S ((tA (toks S) k).1 + 1) := hL.1.1 ((tA (toks S) k).1 + 1) (by omega)
  have hfl := fstO_le (S := S) (i := (tA (toks S) k).1 + 1) (j := nL S) (by omega)
  rw [fstO_n] at hfl
  have hm := hrl.2.2.2.2.1
  have hmr := hrl.1.2.2.2.2.1
  refine MC.of pfX2_isAligned rfl (fun h => by cases h) 0 rfl rfl ?_
  unfold alB
  rw [e5]
  refine gs_ald0 (pc := 0) dX2_isAligned_0 ?_
  refine gs_ald0 (pc := 1) dX2_isAligned_1 ?_
  refine gs_getf (pc := 2) 9 dX2_isAligned_2 (mcell hA) clX2 in_X2 (by decide) q2235 (Or.inl rfl) rfl ?_
  refine gs_ild1 (pc := 5) dX2_isAligned_5 ?_
  refine gs_iald (pc := 6) dX2_isAligned_6 (ma_opens hA) (by omega) (by omega) ?_
  refine gs_iconst (pc := 7) dX2_isAligned_7 ?_
  rw [o1, e1]
  refine gs_V2 (pc := 8) dX2_isAligned_8 kX2_120 (mcell hA) clX2 (by decide) (Nat.le_of_ble_eq_true rfl) (m_ruleAt (w := 3) hA (by omega) (by decide)) (fun v hp1 hq => ?_)
  obtain ⟨rfl, rfl⟩ := hq
  rw [hm]
  refine gs_iconst (pc := 11) dX2_isAligned_11 ?_
  refine gs_ic_ne (pc := 12) (tgt := 38) dX2_isAligned_12 (by decide) (by omega) (fun h1 => ?_) (fun h1 => ?_)
  · refine gs_iconst (pc := 38) dX2_isAligned_38 ?_
    refine gs_zret (pc := 39) .boolean dX2_isAligned_39 rfl rfl ?_
    exact ⟨_, rfl, by rw [decide_eq_false (fun h => h1 h.1)]; rfl, rfl⟩
  · refine gs_ild1 (pc := 15) dX2_isAligned_15 ?_
    refine gs_iconst (pc := 16) dX2_isAligned_16 ?_
    refine gs_iadd (pc := 17) dX2_isAligned_17 ?_
    refine gs_ald0 (pc := 18) dX2_isAligned_18 ?_
    refine gs_getf (pc := 19) 13 dX2_isAligned_19 (mcell hA) clX2 in_X2 (by decide) q2239 (Or.inl rfl) rfl ?_
    refine gs_ald0 (pc := 22) dX2_isAligned_22 ?_
    refine gs_getf (pc := 23) 5 dX2_isAligned_23 (mcell hA) clX2 in_X2 (by decide) q2231 (Or.inl rfl) rfl ?_
    refine gs_ild1 (pc := 26) dX2_isAligned_26 ?_
    refine gs_iald (pc := 27) dX2_isAligned_27 (ma_tokenLine hA) (by omega) (by omega) ?_
    refine gs_iconst (pc := 28) dX2_isAligned_28 ?_
    refine gs_iadd (pc := 29) dX2_isAligned_29 ?_
    refine gs_iald (pc := 30) dX2_isAligned_30 (ma_firstOf hA) (by omega) (by omega) ?_
    rw [w1, h10]
    refine gs_ic_ge (pc := 31) (tgt := 38) dX2_isAligned_31 (by decide) (by omega) (fun h2 => ?_) (fun h2 => ?_)
    · refine gs_iconst (pc := 38) dX2_isAligned_38 ?_
      refine gs_zret (pc := 39) .boolean dX2_isAligned_39 rfl rfl ?_
      exact ⟨_, rfl, by rw [decide_eq_false (fun h => by omega)]; rfl, rfl⟩
    · refine gs_iconst (pc := 34) dX2_isAligned_34 ?_
      refine gs_goto (pc := 35) (tgt := 39) dX2_isAligned_35 (by decide) ?_
      refine gs_zret (pc := 39) .boolean dX2_isAligned_39 rfl rfl ?_
      exact ⟨_, rfl, by rw [decide_eq_true ⟨by omega, by omega⟩]; rfl, rfl⟩
theorem alB_next (ht : k < (toks S).length) (h : alB S (toks S) k = true) : k + 1 < (toks S).length ∧ (tA (toks S) (k + 1)).1 = (tA (toks S) k).1 := by
  have h2 := (of_decide_eq_true h).2
  have hok1 : (tA (toks S) k).1 < nL S := (toks_ok ht).1
  have hfl := fstO_le (S := S) (i := (tA (toks S) k).1 + 1) (j := nL S) (by omega)
  rw [fstO_n] at hfl
  have hl := tok_line ht
  exact ⟨by omega, tok_lineI (by omega) (by omega) h2⟩
theorem tok_at (hS : ssOk S) (ht : t < (toks S).length) : (tA (toks S) t).1 < nL S ∧ (tA (toks S) t).2.1 + (tA (toks S) t).2.2.1 ≤ 32 ∧ 1 ≤ (tA (toks S) t).2.2.1 := by
  obtain ⟨h1, h2, h3, -⟩ := toks_ok ht
  have := (lnOk_at hS h1).2.2.1
  exact ⟨h1, by omega, h2⟩
theorem colB_rng (hS : ssOk S) (hi : ∀ i : Nat, i < nL S → 0 ≤ ind i ∧ ind i ≤ 40) (ht : k < (toks S).length) : 0 ≤ colB S (toks S) ind stp k ∧ colB S (toks S) ind stp k ≤ 72 := by
  unfold colB
  have h1 := tok_at hS ht
  have h2 := hi _ h1.1
  by_cases h : alB S (toks S) k = true
  · rw [if_pos h]
    have := tok_at hS (alB_next ht h).1
    omega
  · rw [if_neg h]
    unfold held
    omega
theorem m_columnIn (hA : mok X hp a) (hU : US M S ind stp bse) (ho : opM M S k) : MV X yX2_columnIn fX2_columnIn 3 [vR (some a), vI (k : Int)] (mH hp a M) (fun v hp' => v = vI (colB S (toks S) ind stp k) ∧ mH hp a M = hp') := by
  have hU' := hU
  obtain ⟨hP, hL, u1, u2, u3, u4, u5, u6⟩ := hU'
  have htle := toks_le hP.2
  have hc := hP.cnt
  refine MC.of pfX2_columnIn rfl (fun h => by cases h) 0 rfl rfl ?_
  unfold colB
  refine gs_ald0 (pc := 0) dX2_columnIn_0 ?_
  refine gs_ild1 (pc := 1) dX2_columnIn_1 ?_
  refine gs_V1 (pc := 2) dX2_columnIn_2 kX2_160 (mcell hA) clX2 (by decide) (Nat.le_of_ble_eq_true rfl) (m_isAligned hA hP hL ho) (fun v hp1 hq => ?_)
  obtain ⟨rfl, rfl⟩ := hq
  refine gs_beq (pc := 5) (tgt := 18) dX2_columnIn_5 (by decide) (fun h1 => ?_) (fun h1 => ?_)
  · rw [if_neg (by rw [h1]; decide)]
    obtain ⟨ht, o1, o2⟩ := ho
    obtain ⟨w1, w2, -, -⟩ := hL.1.2.2.2 k ht
    have hok1 : (tA (toks S) k).1 < nL S := (toks_ok ht).1
    obtain ⟨r, R, e1, e2, e3, e4, e5⟩ := blk_ok o2
    have hrl := hP.rlS e2 e3
    have hst := hrl.1.2.2.1
    have hst0 := hrl.1.2.2.2.1 e4
    have hil := u4 _ hok1
    have hmu := mul_rng hst u5
    refine gs_bipush (pc := 18) dX2_columnIn_18 rfl ?_
    refine gs_ald0 (pc := 20) dX2_columnIn_20 ?_
    refine gs_getf (pc := 21) 21 dX2_columnIn_21 (mcell hA) clX2 in_X2 (by decide) q2247 (Or.inl rfl) rfl ?_
    refine gs_ald0 (pc := 24) dX2_columnIn_24 ?_
    refine gs_getf (pc := 25) 5 dX2_columnIn_25 (mcell hA) clX2 in_X2 (by decide) q2231 (Or.inl rfl) rfl ?_
    refine gs_ild1 (pc := 28) dX2_columnIn_28 ?_
    refine gs_iald (pc := 29) dX2_columnIn_29 (ma_tokenLine hA) (by omega) (by omega) ?_
    refine gs_iald (pc := 30) dX2_columnIn_30 (ma_row hA) (by omega) (by omega) ?_
    rw [w1, u1 _ hok1]
    refine gs_ald0 (pc := 31) dX2_columnIn_31 ?_
    refine gs_ald0 (pc := 32) dX2_columnIn_32 ?_
    refine gs_getf (pc := 33) 9 dX2_columnIn_33 (mcell hA) clX2 in_X2 (by decide) q2235 (Or.inl rfl) rfl ?_
    refine gs_ild1 (pc := 36) dX2_columnIn_36 ?_
    refine gs_iald (pc := 37) dX2_columnIn_37 (ma_opens hA) (by omega) (by omega) ?_
    refine gs_iconst (pc := 38) dX2_columnIn_38 ?_
    rw [o1, e1]
    refine gs_V2 (pc := 39) dX2_columnIn_39 kX2_120 (mcell hA) clX2 (by decide) (Nat.le_of_ble_eq_true rfl) (m_ruleAt (w := 2) hA (by omega) (by decide)) (fun v hp1 hq => ?_)
    obtain ⟨rfl, rfl⟩ := hq
    rw [hrl.2.2.2.1]
    refine gs_ald0 (pc := 42) dX2_columnIn_42 ?_
    refine gs_getf (pc := 43) 22 dX2_columnIn_43 (mcell hA) clX2 in_X2 (by decide) q2248 (Or.inl rfl) rfl ?_
    show G X fX2_columnIn 3 46 _ (vI (M.1 22) :: _) _ _
    rw [u2, e5]
    refine gs_imul (pc := 46) dX2_columnIn_46 ?_
    refine gs_iadd (pc := 47) dX2_columnIn_47 ?_
    refine gs_S2 (pc := 48) dX2_columnIn_48 kX2_91 (by decide) (Nat.le_of_ble_eq_true rfl) (m_least (by decide) (by omega)) (fun v hp1 hq => ?_)
    obtain ⟨rfl, rfl⟩ := hq
    refine gs_iret (pc := 51) dX2_columnIn_51 rfl ?_
    refine ⟨_, rfl, ?_, rfl⟩
    congr 1
    unfold held
    omega
  · rw [if_pos h1]
    obtain ⟨g1, g2⟩ := alB_next ho.1 h1
    refine gs_ald0 (pc := 8) dX2_columnIn_8 ?_
    refine gs_ild1 (pc := 9) dX2_columnIn_9 ?_
    refine gs_iconst (pc := 10) dX2_columnIn_10 ?_
    refine gs_iadd (pc := 11) dX2_columnIn_11 ?_
    refine gs_V1 (pc := 12) dX2_columnIn_12 kX2_163 (mcell hA) clX2 (by decide) (Nat.le_of_ble_eq_true rfl) (m_columnOf (t := k + 1) hA hU g1) (fun v hp1 hq => ?_)
    obtain ⟨rfl, rfl⟩ := hq
    refine gs_goto (pc := 15) (tgt := 51) dX2_columnIn_15 (by decide) ?_
    refine gs_iret (pc := 51) dX2_columnIn_51 rfl ?_
    exact ⟨_, rfl, by rw [g2], rfl⟩
def of1 (M : MS) (p c y b : Int) : MS := if M.1 27 < p then mP (mP (mP (mP M 27 p) 24 c) 25 y) 26 b else M
theorem m_offers {p c y b : Int} (hA : mok X hp a) (hp0 : i32 p) (hw : i32 (M.1 27)) : M0 X yX2_offers fX2_offers 1 [vR (some a), vI p, vI c, vI y, vI b] (mH hp a M) (fun hp' => hp' = mH hp a (of1 M p c y b)) := by
  refine MC.of pfX2_offers rfl (fun h => by cases h) 0 rfl rfl ?_
  unfold of1
  refine gs_ild1 (pc := 0) dX2_offers_0 ?_
  refine gs_ald0 (pc := 1) dX2_offers_1 ?_
  refine gs_getf (pc := 2) 27 dX2_offers_2 (mcell hA) clX2 in_X2 (by decide) q2253 (Or.inl rfl) rfl ?_
  refine gs_ic_le (pc := 5) (tgt := 29) dX2_offers_5 (by decide) (by omega) (fun h1 => ?_) (fun h1 => ?_)
  · refine gs_vret (pc := 29) dX2_offers_29 rfl ?_
    exact ⟨rfl, by rw [if_neg (by omega)]⟩
  · refine gs_ald0 (pc := 8) dX2_offers_8 ?_
    refine gs_ild1 (pc := 9) dX2_offers_9 ?_
    refine mp_weight (pc := 10) rfl hA dX2_offers_10 ?_
    refine gs_ald0 (pc := 13) dX2_offers_13 ?_
    refine gs_ild2 (pc := 14) dX2_offers_14 ?_
    refine mp_column (pc := 15) rfl hA dX2_offers_15 ?_
    refine gs_ald0 (pc := 18) dX2_offers_18 ?_
    refine gs_ild3 (pc := 19) dX2_offers_19 ?_
    refine mp_why (pc := 20) rfl hA dX2_offers_20 ?_
    refine gs_ald0 (pc := 23) dX2_offers_23 ?_
    refine gs_ild4 (pc := 24) dX2_offers_24 ?_
    refine mp_by (pc := 26) rfl hA dX2_offers_26 ?_
    refine gs_vret (pc := 29) dX2_offers_29 rfl ?_
    exact ⟨rfl, by rw [if_pos (by omega)]⟩
theorem m_isFree (hA : mok X hp a) (hP : PG M S) (hT : TK M S) (hi : i < nL S) : MV X yX2_isFree fX2_isFree 2 [vR (some a), vI (i : Int)] (mH hp a M) (fun v hp' => v = vI (b2i (freL S i)) ∧ mH hp a M = hp') := by
  have hc := hP.cnt
  have hl := hP.ln hi
  have hlen := hl.2.2.2.1
  have hl2 := hl.2.1
  have eb : blkL S i = decide (M.2.1 0 (21 + (i : Int)) = 0) := by
    show (lnA S i).2.1.isEmpty = _
    rw [hlen]
    cases (lnA S i).2.1 with
    | nil => rfl
    | cons c t => exact (decide_eq_false (by simp only [List.length_cons]; omega)).symm
  refine MC.of pfX2_isFree rfl (fun h => by cases h) 0 rfl rfl ?_
  unfold freL
  rw [eb]
  refine gs_ald0 (pc := 0) dX2_isFree_0 ?_
  refine gs_ild1 (pc := 1) dX2_isFree_1 ?_
  refine gs_V1 (pc := 2) dX2_isFree_2 kX2_114 (mcell hA) clX2 (by decide) (Nat.le_of_ble_eq_true rfl) (m_isBlank hA (by omega) (by omega)) (fun v hp1 hq => ?_)
  obtain ⟨rfl, rfl⟩ := hq
  refine gs_bne (pc := 5) (tgt := 21) dX2_isFree_5 (by decide) (fun h1 => ?_) (fun h1 => ?_)
  · refine gs_iconst (pc := 21) dX2_isFree_21 ?_
    refine gs_zret (pc := 22) .boolean dX2_isFree_22 rfl rfl ?_
    exact ⟨_, rfl, by rw [h1]; rfl, rfl⟩
  · refine gs_ald0 (pc := 8) dX2_isFree_8 ?_
    refine gs_getf (pc := 9) 14 dX2_isFree_9 (mcell hA) clX2 in_X2 (by decide) q2240 (Or.inl rfl) rfl ?_
    refine gs_ild1 (pc := 12) dX2_isFree_12 ?_
    refine gs_zald (pc := 13) dX2_isFree_13 (ma_isHeld hA) (by omega) (by omega) ?_
    rw [hT.2.1 i hi]
    refine gs_bne (pc := 14) (tgt := 21) dX2_isFree_14 (by decide) (fun h2 => ?_) (fun h2 => ?_)
    · refine gs_iconst (pc := 21) dX2_isFree_21 ?_
      refine gs_zret (pc := 22) .boolean dX2_isFree_22 rfl rfl ?_
      exact ⟨_, rfl, by rw [h1, h2]; rfl, rfl⟩
    · refine gs_iconst (pc := 17) dX2_isFree_17 ?_
      refine gs_goto (pc := 18) (tgt := 22) dX2_isFree_18 (by decide) ?_
      refine gs_zret (pc := 22) .boolean dX2_isFree_22 rfl rfl ?_
      exact ⟨_, rfl, by rw [h1, h2]; rfl, rfl⟩
end N5
