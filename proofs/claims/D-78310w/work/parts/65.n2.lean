/-! Tokens and their lines; THE MODEL: texts and rules. -/
section N2
variable {X : gCx} {hp : gHp} {a : Nat} {M M' : MS} {A : AS} {S : SS} {s : List Int} {i p f t r : Nat} {cm : Int}
def smT (R : List (List Tk × Bool)) (j : Nat) : Nat := ((R.take j).map (fun r => r.1.length)).sum
theorem smT_c {r : List Tk × Bool} {R : List (List Tk × Bool)} {j : Nat} : smT (r :: R) (j + 1) = r.1.length + smT R j := by
  unfold smT
  rw [List.take_succ_cons, List.map_cons, List.sum_cons]
theorem smT_0 {R : List (List Tk × Bool)} : smT R 0 = 0 := by simp [smT]
theorem smT_mono : ∀ (R : List (List Tk × Bool)) (j : Nat), smT R j ≤ smT R (j + 1) := by
  intro R
  induction R with
  | nil => intro j; simp [smT]
  | cons r R ih =>
    intro j
    cases j with
    | zero => rw [smT_0]; exact Nat.zero_le _
    | succ j => rw [smT_c, smT_c]; have := ih j; omega
theorem flt_line : ∀ (ls : List Ln) (i : Nat) (op : Bool), smT (tks cm op ls) ls.length = (flt i ls (tks cm op ls)).length ∧ (flt i ls (tks cm op ls)).length ≤ (ls.map (fun l => l.2.1.length)).sum ∧ ∀ j : Nat, j < (flt i ls (tks cm op ls)).length → i ≤ ((flt i ls (tks cm op ls)).getD j tkD).1 ∧ smT (tks cm op ls) (((flt i ls (tks cm op ls)).getD j tkD).1 - i) ≤ j ∧ j < smT (tks cm op ls) (((flt i ls (tks cm op ls)).getD j tkD).1 - i + 1) := by
  intro ls
  induction ls with
  | nil => intro i op; exact ⟨rfl, Nat.le_refl _, fun j hj => absurd hj (by simp [flt])⟩
  | cons l ls ih =>
    intro i op
    have et : tks cm op (l :: ls) = ((lt cm op l.2.1).1, op && !l.2.1.isEmpty) :: tks cm (lt cm op l.2.1).2 ls := rfl
    have hlo := (lt_ok (cm := cm) (op := op) (s := l.2.1)).1
    rw [et, flt_len]
    dsimp only
    obtain ⟨h1, h2, h3⟩ := ih (i + 1) (lt cm op l.2.1).2
    generalize tks cm (lt cm op l.2.1).2 ls = R at *
    generalize (lt cm op l.2.1).1 = ts at *
    generalize flt (i + 1) ls R = F at *
    refine ⟨?_, ?_, fun j hj => ?_⟩
    · rw [List.length_cons, smT_c, h1, List.length_append, List.length_map]
    · rw [List.length_append, List.length_map, List.map_cons, List.sum_cons]; omega
    · rw [List.length_append, List.length_map] at hj
      rw [List.getD_eq_getElem?_getD]
      by_cases hjt : j < ts.length
      · rw [List.getElem?_append_left (by rw [List.length_map]; exact hjt), List.getElem?_map, List.getElem?_eq_getElem hjt]
        show i ≤ i ∧ smT _ (i - i) ≤ j ∧ j < smT _ (i - i + 1)
        rw [Nat.sub_self, smT_0, smT_c, smT_0]
        dsimp only
        omega
      · rw [List.getElem?_append_right (by rw [List.length_map]; omega), List.length_map, ← List.getD_eq_getElem?_getD]
        obtain ⟨g1, g2, g3⟩ := h3 (j - ts.length) (by omega)
        refine ⟨by omega, ?_, ?_⟩
        · rw [show (F.getD (j - ts.length) tkD).1 - i = (F.getD (j - ts.length) tkD).1 - (i + 1) + 1 by omega, smT_c]
          dsimp only
          omega
        · rw [show (F.getD (j - ts.length) tkD).1 - i = (F.getD (j - ts.length) tkD).1 - (i + 1) + 1 by omega, smT_c]
          dsimp only
          omega
theorem fstO_sm : fstO S i = smT (tks S.2.2.2.2 false S.1) i := rfl
theorem fstO_0 : fstO S 0 = 0 := smT_0
theorem fstO_mono : fstO S i ≤ fstO S (i + 1) := smT_mono _ _
theorem fstO_le {j : Nat} (h : i ≤ j) : fstO S i ≤ fstO S j := by
  induction j with
  | zero => obtain rfl : i = 0 := by omega
            exact Nat.le_refl _
  | succ j ih =>
    by_cases hj : i ≤ j
    · exact Nat.le_trans (ih hj) fstO_mono
    · obtain rfl : i = j + 1 := by omega
      exact Nat.le_refl _
theorem fstO_n : fstO S (nL S) = (toks S).length := (flt_line (cm := S.2.2.2.2) S.1 0 false).1
theorem tok_line (ht : t < (toks S).length) : fstO S (tA (toks S) t).1 ≤ t ∧ t < fstO S ((tA (toks S) t).1 + 1) := by
  have := (flt_line (cm := S.2.2.2.2) S.1 0 false).2.2 t ht
  exact ⟨this.2.1, this.2.2⟩
theorem tok_lineI (ht : t < (toks S).length) (h1 : fstO S i ≤ t) (h2 : t < fstO S (i + 1)) : (tA (toks S) t).1 = i := by
  have := tok_line ht
  by_cases h : (tA (toks S) t).1 < i
  · have := fstO_le (S := S) (i := (tA (toks S) t).1 + 1) (j := i) (by omega)
    omega
  · by_cases h' : i < (tA (toks S) t).1
    · have := fstO_le (S := S) (i := i + 1) (j := (tA (toks S) t).1) (by omega)
      omega
    · omega
theorem sum_le : ∀ (ls : List Ln), (∀ l ∈ ls, lnOk l) → (ls.map (fun l => l.2.1.length)).sum ≤ 32 * ls.length := by
  intro ls
  induction ls with
  | nil => intro _; exact Nat.le_refl _
  | cons l ls ih =>
    intro h
    have h1 := (h l List.mem_cons_self).2.2.1
    have h2 := ih (fun x hx => h x (List.mem_cons_of_mem _ hx))
    rw [List.map_cons, List.sum_cons, List.length_cons]
    omega
theorem toks_le (hS : ssOk S) : (toks S).length ≤ 640 := by
  have h1 := (flt_line (cm := S.2.2.2.2) S.1 0 false).2.1
  have h2 := sum_le S.1 hS.2.1
  have h3 := hS.1
  show (flt 0 S.1 (tks S.2.2.2.2 false S.1)).length ≤ 640
  omega
/-! texts -/
theorem txt_iff {x y : List Int} {p l : Nat} (hl : p + l ≤ s.length) (hx : x = (s.drop p).take l) : x = y ↔ l = y.length ∧ ∀ j : Nat, j < y.length → s.getD (p + j) (-9) = y.getD j 0 := by
  have hxl : x.length = l := by rw [hx, List.length_take, List.length_drop]; omega
  have hxj : ∀ j : Nat, j < l → x[j]? = some (s.getD (p + j) (-9)) := by
    intro j hj
    rw [hx, List.getElem?_take_of_lt hj, List.getElem?_drop, getD_in (show p + j < s.length by omega), List.getElem?_eq_getElem (by omega)]
  constructor
  · rintro rfl
    refine ⟨hxl.symm, fun j hj => ?_⟩
    have := hxj j (by omega)
    exact (show x.getD j 0 = s.getD (p + j) (-9) by rw [List.getD_eq_getElem?_getD, this]; rfl).symm
  · rintro ⟨h1, h2⟩
    refine List.ext_getElem? fun j => ?_
    by_cases hj : j < l
    · rw [hxj j hj, h2 j (by omega), List.getD_eq_getElem?_getD, List.getElem?_eq_getElem (show j < y.length by omega)]; rfl
    · rw [List.getElem?_eq_none (by omega), List.getElem?_eq_none (by omega)]
/-- token t of the Model's rows -/
def tkAt (M : MS) (S : SS) (t : Nat) : Prop := t < (toks S).length ∧ tkW M t (tA (toks S) t)
theorem TK.at (h : TK M S) (ht : t < (toks S).length) : tkAt M S t := ⟨ht, h.2.2.2 t ht⟩
theorem m_hasText {r w : Int} {y : List Int} (hA : mok X hp a) (hP : PG M S) (ht : tkAt M S t) (hr : 0 ≤ r ∧ r < 12) (hw : w = 5 ∨ w = 14) (hy : pgT (M.2.1 0) (701 + 23 * r + w) y) (hyo : txOk y) : MV X yX2_hasText fX2_hasText 2 [vR (some a), vI (t : Int), vI r, vI w] (mH hp a M) (fun v hp' => v = vI (b2i (decide (y = (tA (toks S) t).2.2.2.2))) ∧ mH hp a M = hp') := by
  obtain ⟨htl, w1, w2, w3, w4⟩ := ht
  obtain ⟨k1, k2, k3, k4, k5⟩ := toks_ok htl
  have htle := toks_le hP.2
  have hll := hP.ln k1
  have hll2 := hll.2.1
  generalize hi : (tA (toks S) t).1 = i at *
  generalize hpp : (tA (toks S) t).2.1 = p at *
  generalize hln : (tA (toks S) t).2.2.1 = l at *
  generalize hq : (tA (toks S) t).2.2.2.1 = q at *
  generalize hx : (tA (toks S) t).2.2.2.2 = x at *
  generalize hs : (lnA S i).2.1 = s at *
  obtain ⟨y1, y2⟩ := hy
  obtain ⟨o1, o2, o3⟩ := hyo
  have key : q < 2 ∧ l = y.length ∧ (∀ j : Nat, j < y.length → s.getD (p + j) (-9) = y.getD j 0) ↔ y = x := by
    by_cases hq2 : q < 2
    · rw [if_pos hq2] at k5
      have := txt_iff (y := y) k3 k5
      constructor
      · rintro ⟨-, h⟩; exact (this.mpr h).symm
      · intro h; exact ⟨hq2, this.mp h.symm⟩
    · rw [if_neg hq2] at k5
      constructor
      · rintro ⟨h, -⟩; exact absurd h hq2
      · intro h; rw [h, k5] at o1; simp at o1
  refine MC.of pfX2_hasText rfl (fun h => by cases h) 3 rfl rfl ?_
  have loop : ∀ (n k : Nat) (B : Bool), k + n = y.length → (B = true ↔ q < 2 ∧ l = y.length ∧ ∀ j : Nat, j < k → s.getD (p + j) (-9) = y.getD j 0) → G X fX2_hasText 2 48 [some (vR (some a)), some (vI (t : Int)), some (vI r), some (vI w), some (vI (701 + 23 * r + w)), some (vI (b2i B)), some (vI (k : Int))] [] (mH hp a M) (fun r hp' => ∃ v, r = some v ∧ v = vI (b2i (decide (y = x))) ∧ mH hp a M = hp') := by
    intro n
    induction n with
    | zero =>
      intro k B hk hB
      obtain rfl : k = y.length := by omega
      refine gs_ild6 (pc := 48) dX2_hasText_48 ?_
      refine gs_ald0 (pc := 50) dX2_hasText_50 ?_
      refine gs_getf (pc := 51) 0 dX2_hasText_51 (mcell hA) clX2 in_X2 (by decide) q2226 (Or.inl rfl) rfl ?_
      refine gs_ild4 (pc := 54) dX2_hasText_54 ?_
      refine gs_iald (pc := 56) dX2_hasText_56 (ma_page hA) (by omega) (by omega) ?_
      refine gs_ic_ge (pc := 57) (tgt := 112) dX2_hasText_57 (by decide) (by omega) (fun _ => ?_) (fun hn => absurd (by omega) hn)
      refine gs_ild5 (pc := 112) dX2_hasText_112 ?_
      refine gs_zret (pc := 114) .boolean dX2_hasText_114 rfl (zb _) ?_
      refine ⟨_, rfl, ?_, rfl⟩
      congr 2
      rw [Bool.eq_iff_iff, hB, decide_eq_true_iff]
      exact key
    | succ n ih =>
      intro k B hk hB
      have ry : 33 ≤ y.getD k 0 ∧ y.getD k 0 ≤ 126 := by
        rw [getD_in (show k < y.length by omega)]
        exact o3 _ (List.getElem_mem _)
      have rs := getD_rng (k := p + k) hll.2.2.1
      refine gs_ild6 (pc := 48) dX2_hasText_48 ?_
      refine gs_ald0 (pc := 50) dX2_hasText_50 ?_
      refine gs_getf (pc := 51) 0 dX2_hasText_51 (mcell hA) clX2 in_X2 (by decide) q2226 (Or.inl rfl) rfl ?_
      refine gs_ild4 (pc := 54) dX2_hasText_54 ?_
      refine gs_iald (pc := 56) dX2_hasText_56 (ma_page hA) (by omega) (by omega) ?_
      refine gs_ic_ge (pc := 57) (tgt := 112) dX2_hasText_57 (by decide) (by omega) (fun hn => absurd hn (by omega)) (fun _ => ?_)
      refine gs_ild5 (pc := 60) dX2_hasText_60 ?_
      refine gs_beq (pc := 62) (tgt := 112) dX2_hasText_62 (by decide) (fun hb => ?_) (fun hb => ?_)
      · refine gs_ild5 (pc := 112) dX2_hasText_112 ?_
        refine gs_zret (pc := 114) .boolean dX2_hasText_114 rfl (zb _) ?_
        refine ⟨_, rfl, ?_, rfl⟩
        congr 2
        rw [hb]
        cases hd : decide (y = x) with
        | false => rfl
        | true =>
          have := key.mpr (of_decide_eq_true hd)
          have := hB.mpr ⟨this.1, this.2.1, fun j hj => this.2.2 j (by omega)⟩
          rw [hb] at this; cases this
      · refine gs_ald0 (pc := 65) dX2_hasText_65 ?_
        refine gs_ald0 (pc := 66) dX2_hasText_66 ?_
        refine gs_getf (pc := 67) 5 dX2_hasText_67 (mcell hA) clX2 in_X2 (by decide) q2231 (Or.inl rfl) rfl ?_
        refine gs_ild1 (pc := 70) dX2_hasText_70 ?_
        refine gs_iald (pc := 71) dX2_hasText_71 (ma_tokenLine hA) (by omega) (by omega) ?_
        refine gs_ald0 (pc := 72) dX2_hasText_72 ?_
        refine gs_getf (pc := 73) 6 dX2_hasText_73 (mcell hA) clX2 in_X2 (by decide) q2232 (Or.inl rfl) rfl ?_
        refine gs_ild1 (pc := 76) dX2_hasText_76 ?_
        refine gs_iald (pc := 77) dX2_hasText_77 (ma_tokenSpot hA) (by omega) (by omega) ?_
        refine gs_ild6 (pc := 78) dX2_hasText_78 ?_
        refine gs_iadd (pc := 80) dX2_hasText_80 ?_
        rw [w1, w2]
        refine gs_V2 (pc := 81) dX2_hasText_81 kX2_83 (mcell hA) clX2 (by decide) (Nat.le_of_ble_eq_true rfl) (m_cAt (k := p + k) hA hll (by omega)) (fun v hp1 hq => ?_)
        obtain ⟨rfl, rfl⟩ := hq
        refine gs_ald0 (pc := 84) dX2_hasText_84 ?_
        refine gs_getf (pc := 85) 0 dX2_hasText_85 (mcell hA) clX2 in_X2 (by decide) q2226 (Or.inl rfl) rfl ?_
        refine gs_ild4 (pc := 88) dX2_hasText_88 ?_
        refine gs_iconst (pc := 90) dX2_hasText_90 ?_
        refine gs_iadd (pc := 91) dX2_hasText_91 ?_
        refine gs_ild6 (pc := 92) dX2_hasText_92 ?_
        refine gs_iadd (pc := 94) dX2_hasText_94 ?_
        refine gs_iald (pc := 95) dX2_hasText_95 (ma_page hA) (by omega) (by omega) ?_
        have hyk := y2 k (by omega)
        rw [hyk]
        refine gs_ic_ne (pc := 96) (tgt := 103) dX2_hasText_96 (by decide) (by omega) (fun hc => ?_) (fun hc => ?_)
        · refine gs_iconst (pc := 103) dX2_hasText_103 ?_
          refine gs_ist5 (pc := 104) dX2_hasText_104 rfl ?_
          refine gs_inc6 (pc := 106) dX2_hasText_106 rfl ?_
          refine gs_goto (pc := 109) (tgt := 48) dX2_hasText_109 (by decide) ?_
          refine ih (k + 1) false (by omega) ?_
          constructor
          · intro h; cases h
          · rintro ⟨-, -, h⟩; exact absurd (h k (by omega)) hc
        · refine gs_iconst (pc := 99) dX2_hasText_99 ?_
          refine gs_goto (pc := 100) (tgt := 104) dX2_hasText_100 (by decide) ?_
          refine gs_ist5 (pc := 104) dX2_hasText_104 rfl ?_
          refine gs_inc6 (pc := 106) dX2_hasText_106 rfl ?_
          refine gs_goto (pc := 109) (tgt := 48) dX2_hasText_109 (by decide) ?_
          refine ih (k + 1) true (by omega) ?_
          have hb' := hB.mp hb
          constructor
          · intro _
            refine ⟨hb'.1, hb'.2.1, fun j hj => ?_⟩
            by_cases hjk : j = k
            · subst hjk; omega
            · exact hb'.2.2 j (by omega)
          · intro _; rfl
  have k43 : ∀ B : Bool, (B = true ↔ q < 2 ∧ l = y.length) → G X fX2_hasText 2 43 [some (vR (some a)), some (vI (t : Int)), some (vI r), some (vI w), some (vI (701 + 23 * r + w)), none, none] [vI (b2i B)] (mH hp a M) (fun r hp' => ∃ v, r = some v ∧ v = vI (b2i (decide (y = x))) ∧ mH hp a M = hp') := by
    intro B hB
    refine gs_ist5 (pc := 43) dX2_hasText_43 rfl ?_
    refine gs_iconst (pc := 45) dX2_hasText_45 ?_
    refine gs_ist6 (pc := 46) dX2_hasText_46 rfl ?_
    refine loop y.length 0 B (by omega) ?_
    rw [hB]
    constructor
    · rintro ⟨h1, h2⟩; exact ⟨h1, h2, fun j hj => absurd hj (by omega)⟩
    · rintro ⟨h1, h2, -⟩; exact ⟨h1, h2⟩
  refine gs_sipush (pc := 0) dX2_hasText_0 rfl ?_
  refine gs_bipush (pc := 3) dX2_hasText_3 rfl ?_
  refine gs_ild2 (pc := 5) dX2_hasText_5 ?_
  refine gs_imul (pc := 6) dX2_hasText_6 ?_
  refine gs_iadd (pc := 7) dX2_hasText_7 ?_
  refine gs_ild3 (pc := 8) dX2_hasText_8 ?_
  refine gs_iadd (pc := 9) dX2_hasText_9 ?_
  refine gs_ist4 (pc := 10) dX2_hasText_10 rfl ?_
  refine gs_ald0 (pc := 12) dX2_hasText_12 ?_
  refine gs_getf (pc := 13) 8 dX2_hasText_13 (mcell hA) clX2 in_X2 (by decide) q2234 (Or.inl rfl) rfl ?_
  refine gs_ild1 (pc := 16) dX2_hasText_16 ?_
  refine gs_iald (pc := 17) dX2_hasText_17 (ma_tokenSort hA) (by omega) (by omega) ?_
  refine gs_iconst (pc := 18) dX2_hasText_18 ?_
  refine gs_ic_ge (pc := 19) (tgt := 42) dX2_hasText_19 (by decide) (by omega) (fun h1 => ?_) (fun h1 => ?_)
  · refine gs_iconst (pc := 42) dX2_hasText_42 ?_
    refine k43 false ?_
    constructor
    · intro h; cases h
    · rintro ⟨h, -⟩; omega
  · refine gs_ald0 (pc := 22) dX2_hasText_22 ?_
    refine gs_getf (pc := 23) 7 dX2_hasText_23 (mcell hA) clX2 in_X2 (by decide) q2233 (Or.inl rfl) rfl ?_
    refine gs_ild1 (pc := 26) dX2_hasText_26 ?_
    refine gs_iald (pc := 27) dX2_hasText_27 (ma_tokenLong hA) (by omega) (by omega) ?_
    refine gs_ald0 (pc := 28) dX2_hasText_28 ?_
    refine gs_getf (pc := 29) 0 dX2_hasText_29 (mcell hA) clX2 in_X2 (by decide) q2226 (Or.inl rfl) rfl ?_
    refine gs_ild4 (pc := 32) dX2_hasText_32 ?_
    refine gs_iald (pc := 34) dX2_hasText_34 (ma_page hA) (by omega) (by omega) ?_
    refine gs_ic_ne (pc := 35) (tgt := 42) dX2_hasText_35 (by decide) (by omega) (fun h2 => ?_) (fun h2 => ?_)
    · refine gs_iconst (pc := 42) dX2_hasText_42 ?_
      refine k43 false ?_
      constructor
      · intro h; cases h
      · rintro ⟨-, h⟩; omega
    · refine gs_iconst (pc := 38) dX2_hasText_38 ?_
      refine gs_goto (pc := 39) (tgt := 43) dX2_hasText_39 (by decide) ?_
      refine k43 true ?_
      constructor
      · intro _; omega
      · intro _; rfl
theorem m_ruleAt {r w : Int} (hA : mok X hp a) (hr : 0 ≤ r ∧ r < 12) (hw : 0 ≤ w ∧ w < 23) : MV X yX2_ruleAt fX2_ruleAt 1 [vR (some a), vI r, vI w] (mH hp a M) (fun v hp' => v = vI (M.2.1 0 (701 + 23 * r + w)) ∧ mH hp a M = hp') := by
  refine MC.of pfX2_ruleAt rfl (fun h => by cases h) 0 rfl rfl ?_
  refine gs_ald0 (pc := 0) dX2_ruleAt_0 ?_
  refine gs_getf (pc := 1) 0 dX2_ruleAt_1 (mcell hA) clX2 in_X2 (by decide) q2226 (Or.inl rfl) rfl ?_
  refine gs_sipush (pc := 4) dX2_ruleAt_4 rfl ?_
  refine gs_bipush (pc := 7) dX2_ruleAt_7 rfl ?_
  refine gs_ild1 (pc := 9) dX2_ruleAt_9 ?_
  refine gs_imul (pc := 10) dX2_ruleAt_10 ?_
  refine gs_iadd (pc := 11) dX2_ruleAt_11 ?_
  refine gs_ild2 (pc := 12) dX2_ruleAt_12 ?_
  refine gs_iadd (pc := 13) dX2_ruleAt_13 ?_
  refine gs_iald (pc := 14) dX2_ruleAt_14 (ma_page hA) (by omega) (by omega) ?_
  refine gs_iret (pc := 15) dX2_ruleAt_15 rfl ?_
  exact ⟨_, rfl, rfl, rfl⟩
theorem PG.rl (h : PG M S) (hr : r < 12) : pgR (M.2.1 0) (701 + 23 * (r : Int)) (S.2.1 r) := by
  have := h.1.2.2.1 r hr
  rwa [show (0 : Int) + 701 + 23 * (r : Int) = 701 + 23 * r by omega] at this
theorem PG.rlS {R : Rl} (h : PG M S) (hr : r < 12) (hR : S.2.1 r = some R) : rlOk R ∧ M.2.1 0 (701 + 23 * (r : Int) + 0) = R.1 ∧ M.2.1 0 (701 + 23 * (r : Int) + 1) = R.2.1 ∧ M.2.1 0 (701 + 23 * (r : Int) + 2) = R.2.2.1 ∧ M.2.1 0 (701 + 23 * (r : Int) + 3) = R.2.2.2.1 ∧ M.2.1 0 (701 + 23 * (r : Int) + 4) = R.2.2.2.2.1 ∧ pgT (M.2.1 0) (701 + 23 * (r : Int) + 5) R.2.2.2.2.2.1 ∧ (R.1 = 1 → pgT (M.2.1 0) (701 + 23 * (r : Int) + 14) R.2.2.2.2.2.2) := by
  have h1 := h.rl hr
  rw [hR] at h1
  refine ⟨h.2.2.2.1 r R hR, ?_, h1.2⟩
  rw [show 701 + 23 * (r : Int) + 0 = 701 + 23 * (r : Int) by omega]
  exact h1.1
theorem PG.rlN (h : PG M S) (hr : r < 12) (hR : S.2.1 r = none) : M.2.1 0 (701 + 23 * (r : Int) + 0) = 0 := by
  have h1 := h.rl hr
  rw [hR] at h1
  rw [show 701 + 23 * (r : Int) + 0 = 701 + 23 * (r : Int) by omega]
  exact h1
/-- the rule that is used is there -/
theorem rfor_ok {so : Int} {x : List Int} : ∀ n : Nat, rfor S so x n = -9 ∨ ∃ (r : Nat) (R : Rl), rfor S so x n = r ∧ r < n ∧ S.2.1 r = some R ∧ R.1 = so ∧ R.2.2.2.2.2.1 = x := by
  intro n
  induction n with
  | zero => exact Or.inl rfl
  | succ n ih =>
    have ih' : rfor S so x n = -9 ∨ ∃ (r : Nat) (R : Rl), rfor S so x n = r ∧ r < n + 1 ∧ S.2.1 r = some R ∧ R.1 = so ∧ R.2.2.2.2.2.1 = x := by
      rcases ih with h | ⟨r, R, h1, h2, h3⟩
      · exact Or.inl h
      · exact Or.inr ⟨r, R, h1, by omega, h3⟩
    unfold rfor
    cases hR : S.2.1 n with
    | none => exact ih'
    | some R =>
      dsimp only
      by_cases hc : R.1 = so ∧ R.2.2.2.2.2.1 = x ∧ (rfor S so x n = -9 ∨ rPr S (rfor S so x n) < R.2.1)
      · rw [if_pos hc]
        exact Or.inr ⟨n, R, rfl, by omega, hR, hc.1, hc.2.1⟩
      · rw [if_neg hc]
        exact ih'
theorem m_ruleFor {so : Int} (hA : mok X hp a) (hP : PG M S) (ht : tkAt M S t) (hso : 1 ≤ so ∧ so ≤ 3) : MV X yX2_ruleFor fX2_ruleFor 3 [vR (some a), vI (t : Int), vI so] (mH hp a M) (fun v hp' => v = vI (rfor S so (tA (toks S) t).2.2.2.2 12) ∧ mH hp a M = hp') := by
  refine MC.of pfX2_ruleFor rfl (fun h => by cases h) 3 rfl rfl ?_
  generalize hx : (tA (toks S) t).2.2.2.2 = x
  have loop : ∀ (n r : Nat) (L5 : Option AV), r + n = 12 → G X fX2_ruleFor 3 6 [some (vR (some a)), some (vI (t : Int)), some (vI so), some (vI (rfor S so x r)), some (vI (r : Int)), L5] [] (mH hp a M) (fun v hp' => ∃ w, v = some w ∧ w = vI (rfor S so x 12) ∧ mH hp a M = hp') := by
    intro n
    induction n with
    | zero =>
      intro r L5 hr
      obtain rfl : r = 12 := by omega
      refine gs_ild4 (pc := 6) dX2_ruleFor_6 ?_
      refine gs_bipush (pc := 8) dX2_ruleFor_8 rfl ?_
      refine gs_ic_ge (pc := 10) (tgt := 82) dX2_ruleFor_10 (by decide) (by omega) (fun _ => ?_) (fun hn => absurd (by decide) hn)
      refine gs_ild3 (pc := 82) dX2_ruleFor_82 ?_
      refine gs_iret (pc := 83) dX2_ruleFor_83 rfl ?_
      exact ⟨_, rfl, rfl, rfl⟩
    | succ n ih =>
      intro r L5 hr
      have hb : True → _ := fun _ => rfor_ok (S := S) (so := so) (x := x) r
      have hbr : -9 ≤ rfor S so x r ∧ rfor S so x r < 12 := by
        rcases hb trivial with h | ⟨r', R', h, h', -⟩
        · omega
        · omega
      have kN : ∀ L5, rfor S so x (r + 1) = rfor S so x r → G X fX2_ruleFor 3 74 [some (vR (some a)), some (vI (t : Int)), some (vI so), some (vI (rfor S so x r)), some (vI (r : Int)), L5] [] (mH hp a M) (fun v hp' => ∃ w, v = some w ∧ w = vI (rfor S so x 12) ∧ mH hp a M = hp') := by
        intro L5 he
        refine gs_ild3 (pc := 74) dX2_ruleFor_74 ?_
        refine gs_ist3 (pc := 75) dX2_ruleFor_75 rfl ?_
        refine gs_inc4 (pc := 76) dX2_ruleFor_76 rfl ?_
        refine gs_goto (pc := 79) (tgt := 6) dX2_ruleFor_79 (by decide) ?_
        rw [← he]
        exact ih (r + 1) L5 (by omega)
      have kY : ∀ L5, rfor S so x (r + 1) = r → G X fX2_ruleFor 3 69 [some (vR (some a)), some (vI (t : Int)), some (vI so), some (vI (rfor S so x r)), some (vI (r : Int)), L5] [] (mH hp a M) (fun v hp' => ∃ w, v = some w ∧ w = vI (rfor S so x 12) ∧ mH hp a M = hp') := by
        intro L5 he
        have := ih (r + 1) L5 (by omega)
        rw [he] at this
        refine gs_ild4 (pc := 69) dX2_ruleFor_69 ?_
        refine gs_goto (pc := 71) (tgt := 75) dX2_ruleFor_71 (by decide) ?_
        refine gs_ist3 (pc := 75) dX2_ruleFor_75 rfl ?_
        refine gs_inc4 (pc := 76) dX2_ruleFor_76 rfl ?_
        refine gs_goto (pc := 79) (tgt := 6) dX2_ruleFor_79 (by decide) ?_
        exact this
      cases hR : S.2.1 r with
      | none =>
        have h0 := hP.rlN (show r < 12 by omega) hR
        refine gs_ild4 (pc := 6) dX2_ruleFor_6 ?_
        refine gs_bipush (pc := 8) dX2_ruleFor_8 rfl ?_
        refine gs_ic_ge (pc := 10) (tgt := 82) dX2_ruleFor_10 (by decide) (by omega) (fun hn => absurd hn (by omega)) (fun _ => ?_)
        refine gs_ald0 (pc := 13) dX2_ruleFor_13 ?_
        refine gs_ild4 (pc := 14) dX2_ruleFor_14 ?_
        refine gs_iconst (pc := 16) dX2_ruleFor_16 ?_
        refine gs_V2 (pc := 17) dX2_ruleFor_17 kX2_120 (mcell hA) clX2 (by decide) (Nat.le_of_ble_eq_true rfl) (m_ruleAt (w := 0) hA (by omega) (by decide)) (fun v hp1 hq => ?_)
        obtain ⟨rfl, rfl⟩ := hq
        rw [h0]
        refine gs_ild2 (pc := 20) dX2_ruleFor_20 ?_
        refine gs_ic_ne (pc := 21) (tgt := 39) dX2_ruleFor_21 (by decide) (by omega) (fun _ => ?_) (fun hn => absurd hn (by omega))
        refine gs_iconst (pc := 39) dX2_ruleFor_39 ?_
        refine gs_ist5 (pc := 40) dX2_ruleFor_40 rfl ?_
        refine gs_ild5 (pc := 42) dX2_ruleFor_42 ?_
        refine gs_if_eq (pc := 44) (tgt := 74) dX2_ruleFor_44 (by decide) (by omega) (fun _ => ?_) (fun hn => absurd (by decide) hn)
        exact kN _ (by show (match S.2.1 r with | some R => _ | none => _) = _; rw [hR])
      | some R =>
        obtain ⟨q0, q1, q2, -, -, -, q6, -⟩ := hP.rlS (show r < 12 by omega) hR
        have er : rfor S so x (r + 1) = if R.1 = so ∧ R.2.2.2.2.2.1 = x ∧ (rfor S so x r = -9 ∨ rPr S (rfor S so x r) < R.2.1) then (r : Int) else rfor S so x r := by
          show (match S.2.1 r with | some R => _ | none => _) = _
          rw [hR]
        have q01 := q0.1
        have q02 := q0.2.1
        refine gs_ild4 (pc := 6) dX2_ruleFor_6 ?_
        refine gs_bipush (pc := 8) dX2_ruleFor_8 rfl ?_
        refine gs_ic_ge (pc := 10) (tgt := 82) dX2_ruleFor_10 (by decide) (by omega) (fun hn => absurd hn (by omega)) (fun _ => ?_)
        refine gs_ald0 (pc := 13) dX2_ruleFor_13 ?_
        refine gs_ild4 (pc := 14) dX2_ruleFor_14 ?_
        refine gs_iconst (pc := 16) dX2_ruleFor_16 ?_
        refine gs_V2 (pc := 17) dX2_ruleFor_17 kX2_120 (mcell hA) clX2 (by decide) (Nat.le_of_ble_eq_true rfl) (m_ruleAt (w := 0) hA (by omega) (by decide)) (fun v hp1 hq => ?_)
        obtain ⟨rfl, rfl⟩ := hq
        rw [q1]
        refine gs_ild2 (pc := 20) dX2_ruleFor_20 ?_
        refine gs_ic_ne (pc := 21) (tgt := 39) dX2_ruleFor_21 (by decide) (by omega) (fun h1 => ?_) (fun h1 => ?_)
        · refine gs_iconst (pc := 39) dX2_ruleFor_39 ?_
          refine gs_ist5 (pc := 40) dX2_ruleFor_40 rfl ?_
          refine gs_ild5 (pc := 42) dX2_ruleFor_42 ?_
          refine gs_if_eq (pc := 44) (tgt := 74) dX2_ruleFor_44 (by decide) (by omega) (fun _ => ?_) (fun hn => absurd (by decide) hn)
          exact kN _ (by rw [er, if_neg (fun h => h1 h.1)])
        · refine gs_ald0 (pc := 24) dX2_ruleFor_24 ?_
          refine gs_ild1 (pc := 25) dX2_ruleFor_25 ?_
          refine gs_ild4 (pc := 26) dX2_ruleFor_26 ?_
          refine gs_iconst (pc := 28) dX2_ruleFor_28 ?_
          refine gs_V3 (pc := 29) dX2_ruleFor_29 kX2_123 (mcell hA) clX2 (by decide) (Nat.le_of_ble_eq_true rfl) (m_hasText (w := 5) hA hP ht (by omega) (Or.inl rfl) q6 q0.2.2.2.2.2.2.1) (fun v hp1 hq => ?_)
          obtain ⟨rfl, rfl⟩ := hq
          refine gs_beq (pc := 32) (tgt := 39) dX2_ruleFor_32 (by decide) (fun h2 => ?_) (fun h2 => ?_)
          · rw [hx] at h2
            refine gs_iconst (pc := 39) dX2_ruleFor_39 ?_
            refine gs_ist5 (pc := 40) dX2_ruleFor_40 rfl ?_
            refine gs_ild5 (pc := 42) dX2_ruleFor_42 ?_
            refine gs_if_eq (pc := 44) (tgt := 74) dX2_ruleFor_44 (by decide) (by omega) (fun _ => ?_) (fun hn => absurd (by decide) hn)
            exact kN _ (by rw [er, if_neg (fun h => by rw [decide_eq_true h.2.1] at h2; cases h2)])
          · rw [hx] at h2
            have h2 := of_decide_eq_true h2
            refine gs_iconst (pc := 35) dX2_ruleFor_35 ?_
            refine gs_goto (pc := 36) (tgt := 40) dX2_ruleFor_36 (by decide) ?_
            refine gs_ist5 (pc := 40) dX2_ruleFor_40 rfl ?_
            refine gs_ild5 (pc := 42) dX2_ruleFor_42 ?_
            refine gs_if_eq (pc := 44) (tgt := 74) dX2_ruleFor_44 (by decide) (by omega) (fun hn => absurd hn (by decide)) (fun _ => ?_)
            refine gs_ild3 (pc := 47) dX2_ruleFor_47 ?_
            refine gs_bipush (pc := 48) dX2_ruleFor_48 rfl ?_
            refine gs_ic_eq (pc := 50) (tgt := 69) dX2_ruleFor_50 (by decide) (by omega) (fun h3 => ?_) (fun h3 => ?_)
            · exact kY _ (by rw [er, if_pos ⟨by omega, h2, Or.inl h3⟩])
            · rcases hb trivial with hb | ⟨r', R', e1, e2, e3, e4, e5⟩
              · exact absurd hb h3
              · have hb2 := hP.rlS (show r' < 12 by omega) e3
                have hpr : rPr S (rfor S so x r) = R'.2.1 := by
                  unfold rPr
                  rw [e1, Int.toNat_natCast, e3]
                have q12 := hb2.1.2.1
                refine gs_ald0 (pc := 53) dX2_ruleFor_53 ?_
                refine gs_ild4 (pc := 54) dX2_ruleFor_54 ?_
                refine gs_iconst (pc := 56) dX2_ruleFor_56 ?_
                refine gs_V2 (pc := 57) dX2_ruleFor_57 kX2_120 (mcell hA) clX2 (by decide) (Nat.le_of_ble_eq_true rfl) (m_ruleAt (w := 1) hA (by omega) (by decide)) (fun v hp1 hq => ?_)
                obtain ⟨rfl, rfl⟩ := hq
                rw [q2]
                refine gs_ald0 (pc := 60) dX2_ruleFor_60 ?_
                refine gs_ild3 (pc := 61) dX2_ruleFor_61 ?_
                refine gs_iconst (pc := 62) dX2_ruleFor_62 ?_
                refine gs_V2 (pc := 63) dX2_ruleFor_63 kX2_120 (mcell hA) clX2 (by decide) (Nat.le_of_ble_eq_true rfl) (m_ruleAt (w := 1) hA (by omega) (by decide)) (fun v hp1 hq => ?_)
                obtain ⟨rfl, rfl⟩ := hq
                rw [e1, hb2.2.2.1]
                refine gs_ic_le (pc := 66) (tgt := 74) dX2_ruleFor_66 (by decide) (by omega) (fun h4 => ?_) (fun h4 => ?_)
                · have := kN (some (vI 1)) (by rw [er, if_neg (fun h => Or.elim h.2.2 (fun h => h3 h) (fun h => by rw [hpr] at h; omega))])
                  rw [e1] at this
                  exact this
                · have := kY (some (vI 1)) (by rw [er, if_pos ⟨by omega, h2, Or.inr (by rw [hpr]; omega)⟩])
                  rw [e1] at this
                  exact this
  refine gs_bipush (pc := 0) dX2_ruleFor_0 rfl ?_
  refine gs_ist3 (pc := 2) dX2_ruleFor_2 rfl ?_
  refine gs_iconst (pc := 3) dX2_ruleFor_3 ?_
  refine gs_ist4 (pc := 4) dX2_ruleFor_4 rfl ?_
  exact loop 12 0 none (by omega)
theorem m_isClosingText (hA : mok X hp a) (hP : PG M S) (ht : tkAt M S t) : MV X yX2_isClosingText fX2_isClosingText 3 [vR (some a), vI (t : Int)] (mH hp a M) (fun v hp' => v = vI (b2i (clsT S (tA (toks S) t).2.2.2.2)) ∧ mH hp a M = hp') := by
  refine MC.of pfX2_isClosingText rfl (fun h => by cases h) 2 rfl rfl ?_
  generalize hx : (tA (toks S) t).2.2.2.2 = x
  have loop : ∀ (n r : Nat), r + n = 12 → G X fX2_isClosingText 3 4 [some (vR (some a)), some (vI (t : Int)), some (vI (b2i ((List.range r).any (fun r => match S.2.1 r with
      | some R => decide (R.1 = 1 ∧ R.2.2.2.2.2.2 = x)
      | none => false)))), some (vI (r : Int))] [] (mH hp a M) (fun v hp' => ∃ w, v = some w ∧ w = vI (b2i (clsT S x)) ∧ mH hp a M = hp') := by
    intro n
    induction n with
    | zero =>
      intro r hr
      obtain rfl : r = 12 := by omega
      refine gs_ild3 (pc := 4) dX2_isClosingText_4 ?_
      refine gs_bipush (pc := 5) dX2_isClosingText_5 rfl ?_
      refine gs_ic_ge (pc := 7) (tgt := 47) dX2_isClosingText_7 (by decide) (by omega) (fun _ => ?_) (fun hn => absurd (by decide) hn)
      refine gs_ild2 (pc := 47) dX2_isClosingText_47 ?_
      refine gs_zret (pc := 48) .boolean dX2_isClosingText_48 rfl (zb _) ?_
      exact ⟨_, rfl, rfl, rfl⟩
    | succ n ih =>
      intro r hr
      have hi := ih (r + 1) (by omega)
      rw [List.range_succ, List.any_append] at hi
      generalize (List.range r).any (fun r => match S.2.1 r with
        | some R => decide (R.1 = 1 ∧ R.2.2.2.2.2.2 = x)
        | none => false) = B at hi ⊢
      have kN : ∀ v : Option AV, B = false → (match S.2.1 r with | some R => decide (R.1 = 1 ∧ R.2.2.2.2.2.2 = x) | none => false) = false → G X fX2_isClosingText 3 39 [some (vR (some a)), some (vI (t : Int)), v, some (vI (r : Int))] [] (mH hp a M) (fun v hp' => ∃ w, v = some w ∧ w = vI (b2i (clsT S x)) ∧ mH hp a M = hp') := by
        intro v h1 h2
        rw [h1] at hi
        refine gs_iconst (pc := 39) dX2_isClosingText_39 ?_
        refine gs_ist2 (pc := 40) dX2_isClosingText_40 rfl ?_
        refine gs_inc3 (pc := 41) dX2_isClosingText_41 rfl ?_
        refine gs_goto (pc := 44) (tgt := 4) dX2_isClosingText_44 (by decide) ?_
        simp only [List.any_cons, List.any_nil, Bool.or_false, Bool.false_or] at hi
        rw [h2] at hi
        exact hi
      have kY : ∀ v : Option AV, (B || (match S.2.1 r with | some R => decide (R.1 = 1 ∧ R.2.2.2.2.2.2 = x) | none => false)) = true → G X fX2_isClosingText 3 35 [some (vR (some a)), some (vI (t : Int)), v, some (vI (r : Int))] [] (mH hp a M) (fun v hp' => ∃ w, v = some w ∧ w = vI (b2i (clsT S x)) ∧ mH hp a M = hp') := by
        intro v h1
        refine gs_iconst (pc := 35) dX2_isClosingText_35 ?_
        refine gs_goto (pc := 36) (tgt := 40) dX2_isClosingText_36 (by decide) ?_
        refine gs_ist2 (pc := 40) dX2_isClosingText_40 rfl ?_
        refine gs_inc3 (pc := 41) dX2_isClosingText_41 rfl ?_
        refine gs_goto (pc := 44) (tgt := 4) dX2_isClosingText_44 (by decide) ?_
        simp only [List.any_cons, List.any_nil, Bool.or_false] at hi
        rw [h1] at hi
        exact hi
      refine gs_ild3 (pc := 4) dX2_isClosingText_4 ?_
      refine gs_bipush (pc := 5) dX2_isClosingText_5 rfl ?_
      refine gs_ic_ge (pc := 7) (tgt := 47) dX2_isClosingText_7 (by decide) (by omega) (fun hn => absurd hn (by omega)) (fun _ => ?_)
      refine gs_ild2 (pc := 10) dX2_isClosingText_10 ?_
      refine gs_bne (pc := 11) (tgt := 35) dX2_isClosingText_11 (by decide) (fun hB => ?_) (fun hB => ?_)
      · exact kY _ (by rw [hB]; rfl)
      · cases hR : S.2.1 r with
        | none =>
          have h0 := hP.rlN (show r < 12 by omega) hR
          refine gs_ald0 (pc := 14) dX2_isClosingText_14 ?_
          refine gs_ild3 (pc := 15) dX2_isClosingText_15 ?_
          refine gs_iconst (pc := 16) dX2_isClosingText_16 ?_
          refine gs_V2 (pc := 17) dX2_isClosingText_17 kX2_120 (mcell hA) clX2 (by decide) (Nat.le_of_ble_eq_true rfl) (m_ruleAt (w := 0) hA (by omega) (by decide)) (fun v hp1 hq => ?_)
          obtain ⟨rfl, rfl⟩ := hq
          rw [h0]
          refine gs_iconst (pc := 20) dX2_isClosingText_20 ?_
          refine gs_ic_ne (pc := 21) (tgt := 39) dX2_isClosingText_21 (by decide) (by omega) (fun _ => ?_) (fun hn => absurd hn (by decide))
          exact kN _ hB (by rw [hR])
        | some R =>
          obtain ⟨q0, q1, q2, -, -, -, -, q7⟩ := hP.rlS (show r < 12 by omega) hR
          have q01 := q0.1
          refine gs_ald0 (pc := 14) dX2_isClosingText_14 ?_
          refine gs_ild3 (pc := 15) dX2_isClosingText_15 ?_
          refine gs_iconst (pc := 16) dX2_isClosingText_16 ?_
          refine gs_V2 (pc := 17) dX2_isClosingText_17 kX2_120 (mcell hA) clX2 (by decide) (Nat.le_of_ble_eq_true rfl) (m_ruleAt (w := 0) hA (by omega) (by decide)) (fun v hp1 hq => ?_)
          obtain ⟨rfl, rfl⟩ := hq
          rw [q1]
          refine gs_iconst (pc := 20) dX2_isClosingText_20 ?_
          refine gs_ic_ne (pc := 21) (tgt := 39) dX2_isClosingText_21 (by decide) (by omega) (fun h1 => ?_) (fun h1 => ?_)
          · exact kN _ hB (by rw [hR]; exact decide_eq_false (fun h => h1 h.1))
          · have h1 : R.1 = 1 := by omega
            refine gs_ald0 (pc := 24) dX2_isClosingText_24 ?_
            refine gs_ild1 (pc := 25) dX2_isClosingText_25 ?_
            refine gs_ild3 (pc := 26) dX2_isClosingText_26 ?_
            refine gs_bipush (pc := 27) dX2_isClosingText_27 rfl ?_
            refine gs_V3 (pc := 29) dX2_isClosingText_29 kX2_123 (mcell hA) clX2 (by decide) (Nat.le_of_ble_eq_true rfl) (m_hasText (w := 14) hA hP ht (by omega) (Or.inr rfl) (q7 h1) (q0.2.2.2.2.2.2.2 h1)) (fun v hp1 hq => ?_)
            obtain ⟨rfl, rfl⟩ := hq
            refine gs_beq (pc := 32) (tgt := 39) dX2_isClosingText_32 (by decide) (fun h2 => ?_) (fun h2 => ?_)
            · rw [hx] at h2
              exact kN _ hB (by rw [hR]; exact decide_eq_false (fun h => by rw [decide_eq_true h.2] at h2; cases h2))
            · rw [hx] at h2
              exact kY _ (by rw [hR, hB, Bool.false_or]; exact decide_eq_true ⟨h1, of_decide_eq_true h2⟩)
  refine gs_iconst (pc := 0) dX2_isClosingText_0 ?_
  refine gs_ist2 (pc := 1) dX2_isClosingText_1 rfl ?_
  refine gs_iconst (pc := 2) dX2_isClosingText_2 ?_
  refine gs_ist3 (pc := 3) dX2_isClosingText_3 rfl ?_
  exact loop 12 0 (by omega)
end N2
