/-! THE MODEL, leaves. -/
section M1
variable {X : gCx} {hp : gHp} {a : Nat} {M : MS}
abbrev i32 (z : Int) : Prop := -2147483648 ≤ z ∧ z ≤ 2147483647
def b2i (b : Bool) : Int := if b then 1 else 0
def inB (v l h : Int) : Bool := decide (l ≤ v ∧ v ≤ h)
theorem inB_t {v l h : Int} (h1 : l ≤ v ∧ v ≤ h) : inB v l h = true := by simp [inB, h1]
theorem inB_f {v l h : Int} (h1 : ¬ (l ≤ v ∧ v ≤ h)) : inB v l h = false := by simp only [inB, h1, decide_false]
theorem gs_bne {fi : gFi} {d pc : Nat} {L : List (Option AV)} {st : List AV} {Q : Option AV → gHp → Prop} {B : Bool} {off : Int} {tgt : Nat} (hd : decode fi.2.1 pc = .ok (.ifCond .ne off, 3)) (ht : (pc : Int) + off = (tgt : Int)) (kt : B = true → G X fi d tgt L st hp Q) (kf : B = false → G X fi d (pc + 3) L st hp Q) : G X fi d pc L (vI (b2i B) :: st) hp Q := by
  cases B with
  | true => exact gs_if_ne hd ht (by decide) (fun _ => kt rfl) (fun h => absurd h (by decide))
  | false => exact gs_if_ne hd ht (by decide) (fun h => absurd rfl h) (fun _ => kf rfl)
theorem gs_beq {fi : gFi} {d pc : Nat} {L : List (Option AV)} {st : List AV} {Q : Option AV → gHp → Prop} {B : Bool} {off : Int} {tgt : Nat} (hd : decode fi.2.1 pc = .ok (.ifCond .eq off, 3)) (ht : (pc : Int) + off = (tgt : Int)) (kt : B = false → G X fi d tgt L st hp Q) (kf : B = true → G X fi d (pc + 3) L st hp Q) : G X fi d pc L (vI (b2i B) :: st) hp Q := by
  cases B with
  | true => exact gs_if_eq hd ht (by decide) (fun h => absurd h (by decide)) (fun _ => kf rfl)
  | false => exact gs_if_eq hd ht (by decide) (fun _ => kt rfl) (fun h => absurd rfl h)
theorem zb (B : Bool) : narrow .boolean (.int (Int32.ofInt (b2i B))) = .int (Int32.ofInt (b2i B)) := by cases B <;> rfl
theorem m_in {v l h : Int} (hv : i32 v) (hl : i32 l) (hh : i32 h) : MV X yX2_in fX2_in 1 [vI v, vI l, vI h] hp (fun r hp' => r = vI (b2i (inB v l h)) ∧ hp = hp') := by
  refine MC.of pfX2_in rfl (fun h => by cases h) 0 rfl rfl ?_
  refine gs_ild0 (pc := 0) dX2_in_0 ?_
  refine gs_ild1 (pc := 1) dX2_in_1 ?_
  refine gs_ic_lt (pc := 2) (tgt := 14) dX2_in_2 (by decide) (by omega) (fun h1 => ?_) (fun h1 => ?_)
  · refine gs_iconst (pc := 14) dX2_in_14 ?_
    refine gs_zret (pc := 15) .boolean dX2_in_15 rfl rfl ?_
    exact ⟨_, rfl, by rw [inB_f (by omega)]; rfl, rfl⟩
  · refine gs_ild0 (pc := 5) dX2_in_5 ?_
    refine gs_ild2 (pc := 6) dX2_in_6 ?_
    refine gs_ic_gt (pc := 7) (tgt := 14) dX2_in_7 (by decide) (by omega) (fun h2 => ?_) (fun h2 => ?_)
    · refine gs_iconst (pc := 14) dX2_in_14 ?_
      refine gs_zret (pc := 15) .boolean dX2_in_15 rfl rfl ?_
      exact ⟨_, rfl, by rw [inB_f (by omega)]; rfl, rfl⟩
    · refine gs_iconst (pc := 10) dX2_in_10 ?_
      refine gs_goto (pc := 11) (tgt := 15) dX2_in_11 (by decide) ?_
      refine gs_zret (pc := 15) .boolean dX2_in_15 rfl rfl ?_
      exact ⟨_, rfl, by rw [inB_t (by omega)]; rfl, rfl⟩
theorem m_least {x y : Int} (hx : i32 x) (hy : i32 y) : MV X yX2_least fX2_least 1 [vI x, vI y] hp (fun r hp' => r = vI (min x y) ∧ hp = hp') := by
  refine MC.of pfX2_least rfl (fun h => by cases h) 0 rfl rfl ?_
  refine gs_ild0 (pc := 0) dX2_least_0 ?_
  refine gs_ild1 (pc := 1) dX2_least_1 ?_
  refine gs_ic_ge (pc := 2) (tgt := 9) dX2_least_2 (by decide) (by omega) (fun h1 => ?_) (fun h1 => ?_)
  · refine gs_ild1 (pc := 9) dX2_least_9 ?_
    refine gs_iret (pc := 10) dX2_least_10 rfl ?_
    exact ⟨_, rfl, by rw [show min x y = y by omega], rfl⟩
  · refine gs_ild0 (pc := 5) dX2_least_5 ?_
    refine gs_goto (pc := 6) (tgt := 10) dX2_least_6 (by decide) ?_
    refine gs_iret (pc := 10) dX2_least_10 rfl ?_
    exact ⟨_, rfl, by rw [show min x y = x by omega], rfl⟩
def wordB (c : Int) : Bool := inB c 97 122 || inB c 65 90 || inB c 48 57 || decide (c = 95)
theorem b2i_or {x y : Bool} : (b2i x = 0 ∧ x = false) ∨ (b2i x = 1 ∧ x = true) := by cases x <;> simp [b2i]
theorem m_isWord {c : Int} (hc : i32 c) : MV X yX2_isWord fX2_isWord 2 [vI c] hp (fun r hp' => r = vI (b2i (wordB c)) ∧ hp = hp') := by
  refine MC.of pfX2_isWord rfl (fun h => by cases h) 0 rfl rfl ?_
  refine gs_ild0 (pc := 0) dX2_isWord_0 ?_
  refine gs_bipush (pc := 1) dX2_isWord_1 rfl ?_
  refine gs_bipush (pc := 3) dX2_isWord_3 rfl ?_
  refine gs_S3 (pc := 5) dX2_isWord_5 kX2_79 (by decide) (Nat.le_of_ble_eq_true rfl) (m_in hc (by decide) (by decide)) (fun v hp1 hq => ?_)
  obtain ⟨rfl, rfl⟩ := hq
  refine gs_bne (pc := 8) (tgt := 39) dX2_isWord_8 (by decide) (fun h1 => ?_) (fun h1 => ?_)
  · refine gs_iconst (pc := 39) dX2_isWord_39 ?_
    refine gs_goto (pc := 40) (tgt := 44) dX2_isWord_40 (by decide) ?_
    refine gs_zret (pc := 44) .boolean dX2_isWord_44 rfl rfl ?_
    exact ⟨_, rfl, by simp [wordB, h1, b2i], rfl⟩
  refine gs_ild0 (pc := 11) dX2_isWord_11 ?_
  refine gs_bipush (pc := 12) dX2_isWord_12 rfl ?_
  refine gs_bipush (pc := 14) dX2_isWord_14 rfl ?_
  refine gs_S3 (pc := 16) dX2_isWord_16 kX2_79 (by decide) (Nat.le_of_ble_eq_true rfl) (m_in hc (by decide) (by decide)) (fun v hp1 hq => ?_)
  obtain ⟨rfl, rfl⟩ := hq
  refine gs_bne (pc := 19) (tgt := 39) dX2_isWord_19 (by decide) (fun h2 => ?_) (fun h2 => ?_)
  · refine gs_iconst (pc := 39) dX2_isWord_39 ?_
    refine gs_goto (pc := 40) (tgt := 44) dX2_isWord_40 (by decide) ?_
    refine gs_zret (pc := 44) .boolean dX2_isWord_44 rfl rfl ?_
    exact ⟨_, rfl, by simp [wordB, h1, h2, b2i], rfl⟩
  refine gs_ild0 (pc := 22) dX2_isWord_22 ?_
  refine gs_bipush (pc := 23) dX2_isWord_23 rfl ?_
  refine gs_bipush (pc := 25) dX2_isWord_25 rfl ?_
  refine gs_S3 (pc := 27) dX2_isWord_27 kX2_79 (by decide) (Nat.le_of_ble_eq_true rfl) (m_in hc (by decide) (by decide)) (fun v hp1 hq => ?_)
  obtain ⟨rfl, rfl⟩ := hq
  refine gs_bne (pc := 30) (tgt := 39) dX2_isWord_30 (by decide) (fun h3 => ?_) (fun h3 => ?_)
  · refine gs_iconst (pc := 39) dX2_isWord_39 ?_
    refine gs_goto (pc := 40) (tgt := 44) dX2_isWord_40 (by decide) ?_
    refine gs_zret (pc := 44) .boolean dX2_isWord_44 rfl rfl ?_
    exact ⟨_, rfl, by simp [wordB, h1, h2, h3, b2i], rfl⟩
  refine gs_ild0 (pc := 33) dX2_isWord_33 ?_
  refine gs_bipush (pc := 34) dX2_isWord_34 rfl ?_
  refine gs_ic_ne (pc := 36) (tgt := 43) dX2_isWord_36 (by decide) (by omega) (fun h4 => ?_) (fun h4 => ?_)
  · refine gs_iconst (pc := 43) dX2_isWord_43 ?_
    refine gs_zret (pc := 44) .boolean dX2_isWord_44 rfl rfl ?_
    exact ⟨_, rfl, by simp [wordB, h1, h2, h3, h4, b2i], rfl⟩
  · refine gs_iconst (pc := 39) dX2_isWord_39 ?_
    refine gs_goto (pc := 40) (tgt := 44) dX2_isWord_40 (by decide) ?_
    refine gs_zret (pc := 44) .boolean dX2_isWord_44 rfl rfl ?_
    exact ⟨_, rfl, by simp [wordB, h1, h2, h3, h4, b2i], rfl⟩
theorem m_isLine {i : Int} (hA : mok X hp a) (hi : i32 i) (hn : 0 ≤ M.2.1 0 0 ∧ M.2.1 0 0 ≤ 20) : MV X yX2_isLine fX2_isLine 2 [vR (some a), vI i] (mH hp a M) (fun r hp' => r = vI (b2i (inB i 0 (M.2.1 0 0 - 1))) ∧ mH hp a M = hp') := by
  refine MC.of pfX2_isLine rfl (fun h => by cases h) 0 rfl rfl ?_
  refine gs_ild1 (pc := 0) dX2_isLine_0 ?_
  refine gs_iconst (pc := 1) dX2_isLine_1 ?_
  refine gs_ald0 (pc := 2) dX2_isLine_2 ?_
  refine gs_getf (pc := 3) 0 dX2_isLine_3 (mcell hA) clX2 in_X2 (by decide) q2226 (Or.inl rfl) rfl ?_
  refine gs_iconst (pc := 6) dX2_isLine_6 ?_
  refine gs_iald (pc := 7) dX2_isLine_7 (ma_page hA) (by omega) (by omega) ?_
  refine gs_iconst (pc := 8) dX2_isLine_8 ?_
  refine gs_isub (pc := 9) dX2_isLine_9 ?_
  refine gs_S3 (pc := 10) dX2_isLine_10 kX2_79 (by decide) (Nat.le_of_ble_eq_true rfl) (m_in hi (by decide) (by omega)) (fun v hp1 hq => ?_)
  obtain ⟨rfl, rfl⟩ := hq
  refine gs_zret (pc := 13) .boolean dX2_isLine_13 rfl (zb _) ?_
  exact ⟨_, rfl, rfl, rfl⟩
theorem m_isBlank {i : Int} (hA : mok X hp a) (hi : 0 ≤ i ∧ i < 20) (hn : i32 (M.2.1 0 (21 + i))) : MV X yX2_isBlank fX2_isBlank 1 [vR (some a), vI i] (mH hp a M) (fun r hp' => r = vI (b2i (decide (M.2.1 0 (21 + i) = 0))) ∧ mH hp a M = hp') := by
  refine MC.of pfX2_isBlank rfl (fun h => by cases h) 0 rfl rfl ?_
  refine gs_ald0 (pc := 0) dX2_isBlank_0 ?_
  refine gs_getf (pc := 1) 0 dX2_isBlank_1 (mcell hA) clX2 in_X2 (by decide) q2226 (Or.inl rfl) rfl ?_
  refine gs_bipush (pc := 4) dX2_isBlank_4 rfl ?_
  refine gs_ild1 (pc := 6) dX2_isBlank_6 ?_
  refine gs_iadd (pc := 7) dX2_isBlank_7 ?_
  refine gs_iald (pc := 8) dX2_isBlank_8 (ma_page hA) (by omega) (by omega) ?_
  refine gs_if_ne (pc := 9) (tgt := 16) dX2_isBlank_9 (by decide) (by omega) (fun h1 => ?_) (fun h1 => ?_)
  · refine gs_iconst (pc := 16) dX2_isBlank_16 ?_
    refine gs_zret (pc := 17) .boolean dX2_isBlank_17 rfl rfl ?_
    exact ⟨_, rfl, by simp [h1, b2i], rfl⟩
  · refine gs_iconst (pc := 12) dX2_isBlank_12 ?_
    refine gs_goto (pc := 13) (tgt := 17) dX2_isBlank_13 (by decide) ?_
    refine gs_zret (pc := 17) .boolean dX2_isBlank_17 rfl rfl ?_
    exact ⟨_, rfl, by simp [h1, b2i], rfl⟩
theorem m_contentAt {i k : Int} (hA : mok X hp a) (hi : 0 ≤ i ∧ i < 20) (hk : 0 ≤ k ∧ k ≤ 2147483647) (hn : 0 ≤ M.2.1 0 (21 + i) ∧ M.2.1 0 (21 + i) ≤ 32) : MV X yX2_contentAt fX2_contentAt 1 [vR (some a), vI i, vI k] (mH hp a M) (fun r hp' => r = vI (if k < M.2.1 0 (21 + i) then M.2.1 0 (61 + 32 * i + k) else -9) ∧ mH hp a M = hp') := by
  refine MC.of pfX2_contentAt rfl (fun h => by cases h) 0 rfl rfl ?_
  refine gs_ild2 (pc := 0) dX2_contentAt_0 ?_
  refine gs_ald0 (pc := 1) dX2_contentAt_1 ?_
  refine gs_getf (pc := 2) 0 dX2_contentAt_2 (mcell hA) clX2 in_X2 (by decide) q2226 (Or.inl rfl) rfl ?_
  refine gs_bipush (pc := 5) dX2_contentAt_5 rfl ?_
  refine gs_ild1 (pc := 7) dX2_contentAt_7 ?_
  refine gs_iadd (pc := 8) dX2_contentAt_8 ?_
  refine gs_iald (pc := 9) dX2_contentAt_9 (ma_page hA) (by omega) (by omega) ?_
  refine gs_ic_ge (pc := 10) (tgt := 30) dX2_contentAt_10 (by decide) (by omega) (fun h1 => ?_) (fun h1 => ?_)
  · refine gs_bipush (pc := 30) dX2_contentAt_30 rfl ?_
    refine gs_iret (pc := 32) dX2_contentAt_32 rfl ?_
    exact ⟨_, rfl, by rw [if_neg (by omega)], rfl⟩
  · refine gs_ald0 (pc := 13) dX2_contentAt_13 ?_
    refine gs_getf (pc := 14) 0 dX2_contentAt_14 (mcell hA) clX2 in_X2 (by decide) q2226 (Or.inl rfl) rfl ?_
    refine gs_bipush (pc := 17) dX2_contentAt_17 rfl ?_
    refine gs_bipush (pc := 19) dX2_contentAt_19 rfl ?_
    refine gs_ild1 (pc := 21) dX2_contentAt_21 ?_
    refine gs_imul (pc := 22) dX2_contentAt_22 ?_
    refine gs_iadd (pc := 23) dX2_contentAt_23 ?_
    refine gs_ild2 (pc := 24) dX2_contentAt_24 ?_
    refine gs_iadd (pc := 25) dX2_contentAt_25 ?_
    refine gs_iald (pc := 26) dX2_contentAt_26 (ma_page hA) (by omega) (by omega) ?_
    refine gs_goto (pc := 27) (tgt := 32) dX2_contentAt_27 (by decide) ?_
    refine gs_iret (pc := 32) dX2_contentAt_32 rfl ?_
    exact ⟨_, rfl, by rw [if_pos (by omega)], rfl⟩
end M1
