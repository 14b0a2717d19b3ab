/-! Texts without spaces at their ends; THE MODEL: the text buffer as a line, lines moved. -/
section P1
variable {X : gCx} {hp : gHp} {a : Nat} {M M' : MS} {A : AS} {S S' : SS} {t s : List Int} {n k m lo i j : Nat} {p p' : Int → Int}
def spB (c : Int) : Bool := decide (c = 32)
theorem drop_lead : ∀ t : List Int, t.dropWhile (fun c => decide (c = 32)) = t.drop (lead t) := by
  intro t
  induction t with
  | nil => rfl
  | cons c t ih =>
    unfold lead at *
    by_cases h : c = 32
    · rw [List.dropWhile_cons_of_pos (by rw [decide_eq_true h]), List.takeWhile_cons_of_pos (by rw [decide_eq_true h]), ih]
      rfl
    · rw [List.dropWhile_cons_of_neg (by rw [decide_eq_false h]; decide), List.takeWhile_cons_of_neg (by rw [decide_eq_false h]; decide)]
      rfl
theorem lead_le : lead t ≤ t.length := (List.takeWhile_sublist _).length_le
/-- how far the spaces at the beginning go, from k on -/
theorem lead_next (h : t.getD k (-9) = 32) : lead (t.drop k) = 1 + lead (t.drop (k + 1)) := by
  by_cases hk : k < t.length
  · rw [getD_in hk] at h
    unfold lead
    rw [List.drop_eq_getElem_cons hk, List.takeWhile_cons_of_pos (by rw [decide_eq_true h]), List.length_cons]
    omega
  · rw [getD_out (by omega)] at h; cases h
theorem lead_end (h : t.getD k (-9) ≠ 32) : lead (t.drop k) = 0 := by
  unfold lead
  by_cases hk : k < t.length
  · rw [getD_in hk] at h
    rw [List.drop_eq_getElem_cons hk, List.takeWhile_cons_of_neg (by rw [decide_eq_false h]; decide)]
    rfl
  · rw [List.drop_eq_nil_of_le (by omega)]; rfl
def trN (t : List Int) (lo : Nat) : Nat → Nat
  | 0 => 0
  | n + 1 => if lo < n + 1 ∧ t.getD n (-9) = 32 then trN t lo n else n + 1
theorem trN_rng : ∀ n, lo ≤ n → lo ≤ trN t lo n ∧ trN t lo n ≤ n := by
  intro n
  induction n with
  | zero => intro h; exact ⟨h, Nat.le_refl _⟩
  | succ n ih =>
    intro h
    unfold trN
    by_cases hc : lo < n + 1 ∧ t.getD n (-9) = 32
    · rw [if_pos hc]
      have := ih (by omega)
      omega
    · rw [if_neg hc]
      exact ⟨h, Nat.le_refl _⟩
def rtr (s : List Int) : List Int := (s.reverse.dropWhile (fun c => decide (c = 32))).reverse
theorem rtr_s {c : Int} : rtr (s ++ [c]) = if c = 32 then rtr s else s ++ [c] := by
  unfold rtr
  rw [List.reverse_append, List.reverse_singleton, List.singleton_append]
  by_cases h : c = 32
  · rw [if_pos h, List.dropWhile_cons_of_pos (by rw [decide_eq_true h])]
  · rw [if_neg h, List.dropWhile_cons_of_neg (by rw [decide_eq_false h]; decide), List.reverse_cons, List.reverse_reverse]
theorem rtr_trN : ∀ n, lo ≤ n → n ≤ t.length → rtr ((t.take n).drop lo) = (t.drop lo).take (trN t lo n - lo) := by
  intro n
  induction n with
  | zero => intro h _; rw [List.take_zero, List.drop_nil]; simp [rtr, trN]
  | succ n ih =>
    intro h hn
    unfold trN
    by_cases hl : lo < n + 1
    · rw [take_s t n (by omega), List.drop_append_of_le_length (by rw [List.length_take]; omega), rtr_s]
      have e : t.getD n (-9) = t[n] := getD_in (by omega)
      rw [e]
      by_cases hc : t[n] = 32
      · rw [if_pos hc, if_pos ⟨hl, hc⟩]
        exact ih (by omega) (by omega)
      · rw [if_neg hc, if_neg (fun h => hc h.2)]
        rw [← List.drop_append_of_le_length (by rw [List.length_take]; omega), ← take_s t n (by omega), List.drop_take]
    · rw [if_neg (fun h => hl h.1)]
      obtain rfl : lo = n + 1 := by omega
      rw [Nat.sub_self, List.take_zero, List.drop_eq_nil_of_le (by rw [List.length_take]; omega)]
      rfl
theorem bare_eq : bare t = (t.drop (lead t)).take (trN t (lead t) t.length - lead t) := by
  have h := rtr_trN (t := t) (lo := lead t) t.length lead_le (Nat.le_refl _)
  rw [List.take_length] at h
  rw [← h]
  unfold bare rtr
  rw [drop_lead t]
theorem bare_len : (bare t).length = trN t (lead t) t.length - lead t := by
  have := trN_rng (t := t) (lo := lead t) t.length lead_le
  rw [bare_eq, List.length_take, List.length_drop]
  omega
theorem bare_at (h : k < (bare t).length) : (bare t).getD k 0 = t.getD (lead t + k) 0 := by
  rw [bare_len] at h
  rw [bare_eq, List.getD_eq_getElem?_getD, List.getD_eq_getElem?_getD, List.getElem?_take_of_lt h, List.getElem?_drop]
/-- the text buffer's bytes -/
def txM (M : MS) (t : List Int) : Prop := M.1 4 = t.length ∧ t.length ≤ 72 ∧ (∀ c ∈ t, 32 ≤ c ∧ c ≤ 126) ∧ ∀ k : Nat, k < t.length → M.2.1 2 k = t.getD k 0
theorem RM.tx (h : RM M A) (hO : asOk A) : txM M A.2.2.2.2 := ⟨h.2.2.2.2.2.2.1, hO.2.2.2.2.1, hO.2.2.2.2.2, h.2.2.2.2.2.2.2.1⟩
theorem txM.at (h : txM M t) (hk : k < t.length) : M.2.1 2 k = t.getD k (-9) ∧ 32 ≤ t.getD k (-9) ∧ t.getD k (-9) ≤ 126 := by
  have h1 := h.2.2.2 k hk
  rw [getD_in hk] at h1 ⊢
  exact ⟨h1, h.2.2.1 _ (List.getElem_mem hk)⟩
theorem m_isLineText (hA : mok X hp a) (ht : txM M t) : MV X yX2_isLineText fX2_isLineText 1 [vR (some a)] (mH hp a M) (fun v hp' => v = vI (b2i (typL t).isSome) ∧ hp' = mH hp a (mP (mP M 28 (lead t)) 29 (trN t (lead t) t.length))) := by
  refine MC.of pfX2_isLineText rfl (fun h => by cases h) 0 rfl rfl ?_
  have h72 := ht.2.1
  have hll := lead_le (t := t)
  have htr := trN_rng (t := t) (lo := lead t) t.length lead_le
  have hbl := bare_len (t := t)
  have k91 : G X fX2_isLineText 1 91 [some (vR (some a))] [] (mH hp a (mP (mP M 28 (lead t)) 29 (trN t (lead t) t.length))) (fun r hp' => ∃ v, r = some v ∧ v = vI (b2i (typL t).isSome) ∧ hp' = mH hp a (mP (mP M 28 (lead t)) 29 (trN t (lead t) t.length))) := by
    have e28 : (mP (mP M 28 (lead t)) 29 (trN t (lead t) t.length)).1 28 = (lead t : Nat) := rfl
    have e29 : (mP (mP M 28 (lead t)) 29 (trN t (lead t) t.length)).1 29 = (trN t (lead t) t.length : Nat) := rfl
    generalize mP (mP M 28 (lead t)) 29 (trN t (lead t) t.length) = M1 at *
    unfold typL
    refine gs_ald0 (pc := 91) dX2_isLineText_91 ?_
    refine gs_getf (pc := 92) 29 dX2_isLineText_92 (mcell hA) clX2 in_X2 (by decide) q2255 (Or.inl rfl) rfl ?_
    refine gs_ald0 (pc := 95) dX2_isLineText_95 ?_
    refine gs_getf (pc := 96) 28 dX2_isLineText_96 (mcell hA) clX2 in_X2 (by decide) q2254 (Or.inl rfl) rfl ?_
    refine gs_ic_eq (pc := 99) (tgt := 125) dX2_isLineText_99 (by decide) (by omega) (fun h1 => ?_) (fun h1 => ?_)
    · refine gs_iconst (pc := 125) dX2_isLineText_125 ?_
      refine gs_goto (pc := 126) (tgt := 130) dX2_isLineText_126 (by decide) ?_
      refine gs_zret (pc := 130) .boolean dX2_isLineText_130 rfl rfl ?_
      have : bare t = [] := List.length_eq_zero_iff.mp (by omega)
      exact ⟨_, rfl, by rw [if_pos this]; rfl, rfl⟩
    · have hb : bare t ≠ [] := fun h => by rw [h] at hbl; simp at hbl; omega
      rw [if_neg hb]
      refine gs_ald0 (pc := 102) dX2_isLineText_102 ?_
      refine gs_getf (pc := 103) 28 dX2_isLineText_103 (mcell hA) clX2 in_X2 (by decide) q2254 (Or.inl rfl) rfl ?_
      refine gs_bipush (pc := 106) dX2_isLineText_106 rfl ?_
      refine gs_ic_gt (pc := 108) (tgt := 129) dX2_isLineText_108 (by decide) (by omega) (fun h2 => ?_) (fun h2 => ?_)
      · refine gs_iconst (pc := 129) dX2_isLineText_129 ?_
        refine gs_zret (pc := 130) .boolean dX2_isLineText_130 rfl rfl ?_
        exact ⟨_, rfl, by rw [if_pos (Or.inl (by omega))]; rfl, rfl⟩
      · refine gs_ald0 (pc := 111) dX2_isLineText_111 ?_
        refine gs_getf (pc := 112) 29 dX2_isLineText_112 (mcell hA) clX2 in_X2 (by decide) q2255 (Or.inl rfl) rfl ?_
        refine gs_ald0 (pc := 115) dX2_isLineText_115 ?_
        refine gs_getf (pc := 116) 28 dX2_isLineText_116 (mcell hA) clX2 in_X2 (by decide) q2254 (Or.inl rfl) rfl ?_
        refine gs_isub (pc := 119) dX2_isLineText_119 ?_
        refine gs_bipush (pc := 120) dX2_isLineText_120 rfl ?_
        refine gs_ic_gt (pc := 122) (tgt := 129) dX2_isLineText_122 (by decide) (by omega) (fun h3 => ?_) (fun h3 => ?_)
        · refine gs_iconst (pc := 129) dX2_isLineText_129 ?_
          refine gs_zret (pc := 130) .boolean dX2_isLineText_130 rfl rfl ?_
          exact ⟨_, rfl, by rw [if_pos (Or.inr (by omega))]; rfl, rfl⟩
        · refine gs_iconst (pc := 125) dX2_isLineText_125 ?_
          refine gs_goto (pc := 126) (tgt := 130) dX2_isLineText_126 (by decide) ?_
          refine gs_zret (pc := 130) .boolean dX2_isLineText_130 rfl rfl ?_
          exact ⟨_, rfl, by rw [if_neg (by omega)]; rfl, rfl⟩
  have loop2 : ∀ n : Nat, lead t ≤ n → n ≤ t.length → trN t (lead t) t.length = trN t (lead t) n → G X fX2_isLineText 1 51 [some (vR (some a))] [] (mH hp a (mP (mP M 28 (lead t)) 29 n)) (fun r hp' => ∃ v, r = some v ∧ v = vI (b2i (typL t).isSome) ∧ hp' = mH hp a (mP (mP M 28 (lead t)) 29 (trN t (lead t) t.length))) := by
    intro n
    induction n with
    | zero =>
      intro h1 h2 h3
      have e28 : (mP (mP M 28 (lead t)) 29 ((0 : Nat) : Int)).1 28 = (lead t : Nat) := rfl
      have e29 : (mP (mP M 28 (lead t)) 29 ((0 : Nat) : Int)).1 29 = ((0 : Nat) : Int) := rfl
      rw [h3] at k91 ⊢
      rw [show trN t (lead t) 0 = 0 from rfl] at k91 ⊢
      refine gs_ald0 (pc := 51) dX2_isLineText_51 ?_
      refine gs_getf (pc := 52) 29 dX2_isLineText_52 (mcell hA) clX2 in_X2 (by decide) q2255 (Or.inl rfl) rfl ?_
      refine gs_ald0 (pc := 55) dX2_isLineText_55 ?_
      refine gs_getf (pc := 56) 28 dX2_isLineText_56 (mcell hA) clX2 in_X2 (by decide) q2254 (Or.inl rfl) rfl ?_
      refine gs_ic_le (pc := 59) (tgt := 91) dX2_isLineText_59 (by decide) (by omega) (fun _ => ?_) (fun hn => absurd (by omega) hn)
      exact k91
    | succ n ih =>
      intro h1 h2 h3
      have e28 : (mP (mP M 28 (lead t)) 29 ((n + 1 : Nat) : Int)).1 28 = (lead t : Nat) := rfl
      have e29 : (mP (mP M 28 (lead t)) 29 ((n + 1 : Nat) : Int)).1 29 = ((n + 1 : Nat) : Int) := rfl
      have hta := ht.at (show n < t.length by omega)
      have hta2 : (mP (mP M 28 (lead t)) 29 ((n + 1 : Nat) : Int)).2.1 2 (((n + 1 : Nat) : Int) - 1) = t.getD n (-9) := by
        rw [show ((n + 1 : Nat) : Int) - 1 = (n : Int) by omega]; exact hta.1
      have hfin : ¬ (lead t < n + 1 ∧ t.getD n (-9) = 32) → G X fX2_isLineText 1 91 [some (vR (some a))] [] (mH hp a (mP (mP M 28 (lead t)) 29 ((n + 1 : Nat) : Int))) (fun r hp' => ∃ v, r = some v ∧ v = vI (b2i (typL t).isSome) ∧ hp' = mH hp a (mP (mP M 28 (lead t)) 29 (trN t (lead t) t.length))) := by
        intro hn
        have : trN t (lead t) (n + 1) = n + 1 := if_neg hn
        rw [h3, this] at k91 ⊢
        exact k91
      refine gs_ald0 (pc := 51) dX2_isLineText_51 ?_
      refine gs_getf (pc := 52) 29 dX2_isLineText_52 (mcell hA) clX2 in_X2 (by decide) q2255 (Or.inl rfl) rfl ?_
      refine gs_ald0 (pc := 55) dX2_isLineText_55 ?_
      refine gs_getf (pc := 56) 28 dX2_isLineText_56 (mcell hA) clX2 in_X2 (by decide) q2254 (Or.inl rfl) rfl ?_
      refine gs_ic_le (pc := 59) (tgt := 91) dX2_isLineText_59 (by decide) (by omega) (fun h4 => ?_) (fun h4 => ?_)
      · exact hfin (by omega)
      · refine gs_ald0 (pc := 62) dX2_isLineText_62 ?_
        refine gs_getf (pc := 63) 3 dX2_isLineText_63 (mcell hA) clX2 in_X2 (by decide) q2229 (Or.inl rfl) rfl ?_
        refine gs_ald0 (pc := 66) dX2_isLineText_66 ?_
        refine gs_getf (pc := 67) 29 dX2_isLineText_67 (mcell hA) clX2 in_X2 (by decide) q2255 (Or.inl rfl) rfl ?_
        show G X fX2_isLineText 1 70 _ (vI ((n + 1 : Nat) : Int) :: _) _ _
        refine gs_iconst (pc := 70) dX2_isLineText_70 ?_
        refine gs_isub (pc := 71) dX2_isLineText_71 ?_
        refine gs_iald (pc := 72) dX2_isLineText_72 (ma_text hA) (by omega) (by omega) ?_
        rw [hta2]
        refine gs_bipush (pc := 73) dX2_isLineText_73 rfl ?_
        refine gs_ic_ne (pc := 75) (tgt := 91) dX2_isLineText_75 (by decide) (by omega) (fun h5 => ?_) (fun h5 => ?_)
        · exact hfin (fun h => h5 h.2)
        · have h6 : lead t < n + 1 ∧ t.getD n (-9) = 32 := ⟨by omega, by omega⟩
          have : trN t (lead t) (n + 1) = trN t (lead t) n := if_pos h6
          refine gs_ald0 (pc := 78) dX2_isLineText_78 ?_
          refine gs_dup (pc := 79) dX2_isLineText_79 rfl ?_
          refine gs_getf (pc := 80) 29 dX2_isLineText_80 (mcell hA) clX2 in_X2 (by decide) q2255 (Or.inl rfl) rfl ?_
          refine gs_iconst (pc := 83) dX2_isLineText_83 ?_
          refine gs_isub (pc := 84) dX2_isLineText_84 ?_
          refine mp_lineTo (pc := 85) rfl hA dX2_isLineText_85 ?_
          refine gs_goto (pc := 88) (tgt := 51) dX2_isLineText_88 (by decide) ?_
          rw [show (mP (mP M 28 (lead t)) 29 ((n + 1 : Nat) : Int)).1 29 - 1 = (n : Int) by omega, mP_mP]
          exact ih (by omega) (by omega) (by rw [h3, this])
  have loop1 : ∀ (r k : Nat), k + r = t.length → lead t = k + lead (t.drop k) → G X fX2_isLineText 1 5 [some (vR (some a))] [] (mH hp a (mP M 28 k)) (fun r hp' => ∃ v, r = some v ∧ v = vI (b2i (typL t).isSome) ∧ hp' = mH hp a (mP (mP M 28 (lead t)) 29 (trN t (lead t) t.length))) := by
    intro r
    have k43 : G X fX2_isLineText 1 43 [some (vR (some a))] [] (mH hp a (mP M 28 (lead t))) (fun r hp' => ∃ v, r = some v ∧ v = vI (b2i (typL t).isSome) ∧ hp' = mH hp a (mP (mP M 28 (lead t)) 29 (trN t (lead t) t.length))) := by
      refine gs_ald0 (pc := 43) dX2_isLineText_43 ?_
      refine gs_ald0 (pc := 44) dX2_isLineText_44 ?_
      refine gs_getf (pc := 45) 4 dX2_isLineText_45 (mcell hA) clX2 in_X2 (by decide) q2230 (Or.inl rfl) rfl ?_
      refine mp_lineTo (pc := 48) rfl hA dX2_isLineText_48 ?_
      have := loop2 t.length hll (Nat.le_refl _) rfl
      rw [← ht.1] at this
      exact this
    induction r with
    | zero =>
      intro k hk he
      have e28 : (mP M 28 (k : Int)).1 28 = (k : Int) := rfl
      have e4 : (mP M 28 (k : Int)).1 4 = t.length := ht.1
      rw [List.drop_eq_nil_of_le (by omega)] at he
      have he : lead t = k := he
      rw [← he] at e28 e4 ⊢
      refine gs_ald0 (pc := 5) dX2_isLineText_5 ?_
      refine gs_getf (pc := 6) 28 dX2_isLineText_6 (mcell hA) clX2 in_X2 (by decide) q2254 (Or.inl rfl) rfl ?_
      refine gs_ald0 (pc := 9) dX2_isLineText_9 ?_
      refine gs_getf (pc := 10) 4 dX2_isLineText_10 (mcell hA) clX2 in_X2 (by decide) q2230 (Or.inl rfl) rfl ?_
      refine gs_ic_ge (pc := 13) (tgt := 43) dX2_isLineText_13 (by decide) (by omega) (fun _ => ?_) (fun hn => absurd (by omega) hn)
      exact k43
    | succ r ih =>
      intro k hk he
      have e28 : (mP M 28 (k : Int)).1 28 = (k : Int) := rfl
      have e4 : (mP M 28 (k : Int)).1 4 = t.length := ht.1
      have hta := ht.at (show k < t.length by omega)
      refine gs_ald0 (pc := 5) dX2_isLineText_5 ?_
      refine gs_getf (pc := 6) 28 dX2_isLineText_6 (mcell hA) clX2 in_X2 (by decide) q2254 (Or.inl rfl) rfl ?_
      refine gs_ald0 (pc := 9) dX2_isLineText_9 ?_
      refine gs_getf (pc := 10) 4 dX2_isLineText_10 (mcell hA) clX2 in_X2 (by decide) q2230 (Or.inl rfl) rfl ?_
      refine gs_ic_ge (pc := 13) (tgt := 43) dX2_isLineText_13 (by decide) (by omega) (fun hn => absurd hn (by omega)) (fun _ => ?_)
      refine gs_ald0 (pc := 16) dX2_isLineText_16 ?_
      refine gs_getf (pc := 17) 3 dX2_isLineText_17 (mcell hA) clX2 in_X2 (by decide) q2229 (Or.inl rfl) rfl ?_
      refine gs_ald0 (pc := 20) dX2_isLineText_20 ?_
      refine gs_getf (pc := 21) 28 dX2_isLineText_21 (mcell hA) clX2 in_X2 (by decide) q2254 (Or.inl rfl) rfl ?_
      show G X fX2_isLineText 1 24 _ (vI (k : Int) :: _) _ _
      refine gs_iald (pc := 24) dX2_isLineText_24 (ma_text hA) (by omega) (by omega) ?_
      rw [show (mP M 28 (k : Int)).2.1 2 (k : Int) = t.getD k (-9) from hta.1]
      refine gs_bipush (pc := 25) dX2_isLineText_25 rfl ?_
      refine gs_ic_ne (pc := 27) (tgt := 43) dX2_isLineText_27 (by decide) (by omega) (fun h1 => ?_) (fun h1 => ?_)
      · rw [lead_end h1] at he
        have he : lead t = k := by omega
        rw [← he]
        exact k43
      · rw [lead_next (by omega)] at he
        refine gs_ald0 (pc := 30) dX2_isLineText_30 ?_
        refine gs_dup (pc := 31) dX2_isLineText_31 rfl ?_
        refine gs_getf (pc := 32) 28 dX2_isLineText_32 (mcell hA) clX2 in_X2 (by decide) q2254 (Or.inl rfl) rfl ?_
        refine gs_iconst (pc := 35) dX2_isLineText_35 ?_
        refine gs_iadd (pc := 36) dX2_isLineText_36 ?_
        refine mp_lineFrom (pc := 37) rfl hA dX2_isLineText_37 ?_
        refine gs_goto (pc := 40) (tgt := 5) dX2_isLineText_40 (by decide) ?_
        rw [show (mP M 28 (k : Int)).1 28 + 1 = ((k + 1 : Nat) : Int) by omega, mP_mP]
        exact ih (k + 1) (by omega) (by omega)
  refine gs_ald0 (pc := 0) dX2_isLineText_0 ?_
  refine gs_iconst (pc := 1) dX2_isLineText_1 ?_
  refine mp_lineFrom (pc := 2) rfl hA dX2_isLineText_2 ?_
  exact loop1 t.length 0 (by omega) (by rw [List.drop_zero, Nat.zero_add])
/-! lines of the page -/
theorem pgL.fr {l : Ln} (hl : l.2.1.length ≤ 32) (h : ∀ x : Int, x = 1 + (j : Int) ∨ x = 21 + (j : Int) ∨ x = 41 + (j : Int) ∨ 61 + 32 * (j : Int) ≤ x ∧ x < 61 + 32 * (j : Int) + 32 → p' x = p x) (hs : pgL p 0 j l) : pgL p' 0 j l := by
  obtain ⟨g1, g2, g3, g4⟩ := hs
  refine ⟨?_, ?_, ?_, fun k hk => ?_⟩
  · rw [h _ (by omega)]; exact g1
  · rw [h _ (by omega)]; exact g2
  · rw [h _ (by omega)]; exact g3
  · rw [h _ (by omega)]; exact g4 k hk
theorem pgS.lines (hS : ssOk S) (hs : pgS p 0 S) (h2 : S'.2 = S.2) (hq : ∀ x : Int, 701 ≤ x → x < 980 → p' x = p x) (hn : p' 0 = S'.1.length) (hl : ∀ i : Nat, i < S'.1.length → pgL p' 0 i (lnA S' i)) : pgS p' 0 S' := by
  have hr := pgRs.mv (p' := p') hS (fun j h1 h2 => hq j h1 (by omega)) hs
  obtain ⟨-, -, -, s1, s2, s3⟩ := hs
  refine ⟨hn, hl, by rw [h2]; exact hr, ?_, ?_, ?_⟩
  · rw [h2, hq _ (by omega) (by omega)]; exact s1
  · rw [h2, hq _ (by omega) (by omega)]; exact s2
  · rw [h2, hq _ (by omega) (by omega)]; exact s3
/-- line f is copied to t -/
def cpL (p : Int → Int) (f t : Nat) : Int → Int := fun x => if x = 1 + (t : Int) then p (1 + f) else if x = 21 + (t : Int) then p (21 + f) else if x = 41 + (t : Int) then p (41 + f) else if 61 + 32 * (t : Int) ≤ x ∧ x < 61 + 32 * (t : Int) + 32 then p (x - 32 * t + 32 * f) else p x
theorem cpL_out {f t : Nat} {x : Int} (h : ¬ (x = 1 + (t : Int) ∨ x = 21 + (t : Int) ∨ x = 41 + (t : Int) ∨ 61 + 32 * (t : Int) ≤ x ∧ x < 61 + 32 * (t : Int) + 32)) : cpL p f t x = p x := by
  unfold cpL
  rw [if_neg (by omega), if_neg (by omega), if_neg (by omega), if_neg (by omega)]
theorem cpL_to {f t : Nat} {l : Ln} (ht : t < 20) (hl : l.2.1.length ≤ 32) (h : pgL p 0 f l) : pgL (cpL p f t) 0 t l := by
  obtain ⟨g1, g2, g3, g4⟩ := h
  unfold cpL
  refine ⟨?_, ?_, ?_, fun k hk => ?_⟩
  · dsimp only; rw [if_pos (by omega), ← g1]; exact congrArg p (by omega)
  · dsimp only; rw [if_neg (by omega), if_pos (by omega), ← g2]; exact congrArg p (by omega)
  · dsimp only; rw [if_neg (by omega), if_neg (by omega), if_pos (by omega), ← g3]; exact congrArg p (by omega)
  · dsimp only; rw [if_neg (by omega), if_neg (by omega), if_neg (by omega), if_pos (by omega), ← g4 k hk]; exact congrArg p (by omega)
theorem cpL_ne {f t : Nat} {l : Ln} (ht : t < 20) (hj : j < 20) (hjt : j ≠ t) (hl : l.2.1.length ≤ 32) (h : pgL p 0 j l) : pgL (cpL p f t) 0 j l := h.fr hl (fun x hx => cpL_out (by omega))
theorem m_copiesLine {f t : Nat} (hA : mok X hp a) (hf : f < 20) (ht : t < 20) (hft : f ≠ t) : M0 X yX2_copiesLine fX2_copiesLine 1 [vR (some a), vI (f : Int), vI (t : Int)] (mH hp a M) (fun hp' => hp' = mH hp a (mW M 0 (cpL (M.2.1 0) f t))) := by
  refine MC.of pfX2_copiesLine rfl (fun h => by cases h) 1 rfl rfl ?_
  have loop : ∀ (r k : Nat) (q : Int → Int), k + r = 32 → (∀ x, q x = if 61 + 32 * (t : Int) + k ≤ x ∧ x < 61 + 32 * (t : Int) + 32 then M.2.1 0 x else cpL (M.2.1 0) f t x) → G X fX2_copiesLine 1 54 [some (vR (some a)), some (vI (f : Int)), some (vI (t : Int)), some (vI (k : Int))] [] (mH hp a (mW M 0 q)) (fun r hp' => r = none ∧ hp' = mH hp a (mW M 0 (cpL (M.2.1 0) f t))) := by
    intro r
    induction r with
    | zero =>
      intro k q hk hq
      obtain rfl : k = 32 := by omega
      refine gs_ild3 (pc := 54) dX2_copiesLine_54 ?_
      refine gs_bipush (pc := 55) dX2_copiesLine_55 rfl ?_
      refine gs_ic_ge (pc := 57) (tgt := 94) dX2_copiesLine_57 (by decide) (by omega) (fun _ => ?_) (fun hn => absurd (by decide) hn)
      refine gs_vret (pc := 94) dX2_copiesLine_94 rfl ?_
      refine ⟨rfl, ?_⟩
      rw [show q = cpL (M.2.1 0) f t from funext fun x => by rw [hq x, if_neg (by omega)]]
    | succ r ih =>
      intro k q hk hq
      refine gs_ild3 (pc := 54) dX2_copiesLine_54 ?_
      refine gs_bipush (pc := 55) dX2_copiesLine_55 rfl ?_
      refine gs_ic_ge (pc := 57) (tgt := 94) dX2_copiesLine_57 (by decide) (by omega) (fun hn => absurd hn (by omega)) (fun _ => ?_)
      refine gs_ald0 (pc := 60) dX2_copiesLine_60 ?_
      refine gs_getf (pc := 61) 0 dX2_copiesLine_61 (mcell hA) clX2 in_X2 (by decide) q2226 (Or.inl rfl) rfl ?_
      refine gs_bipush (pc := 64) dX2_copiesLine_64 rfl ?_
      refine gs_bipush (pc := 66) dX2_copiesLine_66 rfl ?_
      refine gs_ild2 (pc := 68) dX2_copiesLine_68 ?_
      refine gs_imul (pc := 69) dX2_copiesLine_69 ?_
      refine gs_iadd (pc := 70) dX2_copiesLine_70 ?_
      refine gs_ild3 (pc := 71) dX2_copiesLine_71 ?_
      refine gs_iadd (pc := 72) dX2_copiesLine_72 ?_
      refine gs_ald0 (pc := 73) dX2_copiesLine_73 ?_
      refine gs_getf (pc := 74) 0 dX2_copiesLine_74 (mcell hA) clX2 in_X2 (by decide) q2226 (Or.inl rfl) rfl ?_
      refine gs_bipush (pc := 77) dX2_copiesLine_77 rfl ?_
      refine gs_bipush (pc := 79) dX2_copiesLine_79 rfl ?_
      refine gs_ild1 (pc := 81) dX2_copiesLine_81 ?_
      refine gs_imul (pc := 82) dX2_copiesLine_82 ?_
      refine gs_iadd (pc := 83) dX2_copiesLine_83 ?_
      refine gs_ild3 (pc := 84) dX2_copiesLine_84 ?_
      refine gs_iadd (pc := 85) dX2_copiesLine_85 ?_
      refine gs_iald (pc := 86) dX2_copiesLine_86 (ma_page hA) (by omega) (by omega) ?_
      refine ms_page (pc := 87) hA dX2_copiesLine_87 (by omega) ?_
      refine gs_inc3 (pc := 88) dX2_copiesLine_88 rfl ?_
      refine gs_goto (pc := 91) (tgt := 54) dX2_copiesLine_91 (by decide) ?_
      rw [mA_mW]
      refine ih (k + 1) _ (by omega) (fun x => ?_)
      show fup q (61 + 32 * (t : Int) + k) (q (61 + 32 * (f : Int) + k)) x = _
      unfold fup
      by_cases hx : x = 61 + 32 * (t : Int) + k
      · rw [if_pos hx, if_neg (by omega), hq, if_neg (by omega), cpL_out (by omega)]
        unfold cpL
        rw [if_neg (by omega), if_neg (by omega), if_neg (by omega), if_pos (by omega)]
        exact congrArg _ (by omega)
      · rw [if_neg hx, hq]
        by_cases hx2 : 61 + 32 * (t : Int) + k ≤ x ∧ x < 61 + 32 * (t : Int) + 32
        · rw [if_pos hx2, if_pos (by omega)]
        · rw [if_neg hx2, if_neg (by omega)]
  refine gs_ald0 (pc := 0) dX2_copiesLine_0 ?_
  refine gs_getf (pc := 1) 0 dX2_copiesLine_1 (mcell hA) clX2 in_X2 (by decide) q2226 (Or.inl rfl) rfl ?_
  refine gs_iconst (pc := 4) dX2_copiesLine_4 ?_
  refine gs_ild2 (pc := 5) dX2_copiesLine_5 ?_
  refine gs_iadd (pc := 6) dX2_copiesLine_6 ?_
  refine gs_ald0 (pc := 7) dX2_copiesLine_7 ?_
  refine gs_getf (pc := 8) 0 dX2_copiesLine_8 (mcell hA) clX2 in_X2 (by decide) q2226 (Or.inl rfl) rfl ?_
  refine gs_iconst (pc := 11) dX2_copiesLine_11 ?_
  refine gs_ild1 (pc := 12) dX2_copiesLine_12 ?_
  refine gs_iadd (pc := 13) dX2_copiesLine_13 ?_
  refine gs_iald (pc := 14) dX2_copiesLine_14 (ma_page hA) (by omega) (by omega) ?_
  refine ms_page (pc := 15) hA dX2_copiesLine_15 (by omega) ?_
  refine gs_ald0 (pc := 16) dX2_copiesLine_16 ?_
  refine gs_getf (pc := 17) 0 dX2_copiesLine_17 (mcell hA) clX2 in_X2 (by decide) q2226 (Or.inl rfl) rfl ?_
  refine gs_bipush (pc := 20) dX2_copiesLine_20 rfl ?_
  refine gs_ild2 (pc := 22) dX2_copiesLine_22 ?_
  refine gs_iadd (pc := 23) dX2_copiesLine_23 ?_
  refine gs_ald0 (pc := 24) dX2_copiesLine_24 ?_
  refine gs_getf (pc := 25) 0 dX2_copiesLine_25 (mcell hA) clX2 in_X2 (by decide) q2226 (Or.inl rfl) rfl ?_
  refine gs_bipush (pc := 28) dX2_copiesLine_28 rfl ?_
  refine gs_ild1 (pc := 30) dX2_copiesLine_30 ?_
  refine gs_iadd (pc := 31) dX2_copiesLine_31 ?_
  refine gs_iald (pc := 32) dX2_copiesLine_32 (ma_page hA) (by omega) (by omega) ?_
  refine ms_page (pc := 33) hA dX2_copiesLine_33 (by omega) ?_
  refine gs_ald0 (pc := 34) dX2_copiesLine_34 ?_
  refine gs_getf (pc := 35) 0 dX2_copiesLine_35 (mcell hA) clX2 in_X2 (by decide) q2226 (Or.inl rfl) rfl ?_
  refine gs_bipush (pc := 38) dX2_copiesLine_38 rfl ?_
  refine gs_ild2 (pc := 40) dX2_copiesLine_40 ?_
  refine gs_iadd (pc := 41) dX2_copiesLine_41 ?_
  refine gs_ald0 (pc := 42) dX2_copiesLine_42 ?_
  refine gs_getf (pc := 43) 0 dX2_copiesLine_43 (mcell hA) clX2 in_X2 (by decide) q2226 (Or.inl rfl) rfl ?_
  refine gs_bipush (pc := 46) dX2_copiesLine_46 rfl ?_
  refine gs_ild1 (pc := 48) dX2_copiesLine_48 ?_
  refine gs_iadd (pc := 49) dX2_copiesLine_49 ?_
  refine gs_iald (pc := 50) dX2_copiesLine_50 (ma_page hA) (by omega) (by omega) ?_
  refine ms_page (pc := 51) hA dX2_copiesLine_51 (by omega) ?_
  refine gs_iconst (pc := 52) dX2_copiesLine_52 ?_
  refine gs_ist3 (pc := 53) dX2_copiesLine_53 rfl ?_
  have e : ∀ (x1 v1 x2 v2 x3 v3 : Int), mA (mA (mA M 0 x1 v1) 0 x2 v2) 0 x3 v3 = mW M 0 (fup (fup (fup (M.2.1 0) x1 v1) x2 v2) x3 v3) := by
    intro x1 v1 x2 v2 x3 v3
    rw [show mA M 0 x1 v1 = mW M 0 (fup (M.2.1 0) x1 v1) from rfl, mA_mW, mA_mW]
  rw [e]
  refine loop 32 0 _ (by omega) (fun x => ?_)
  show fup (fup (fup (M.2.1 0) (1 + (t : Int)) (M.2.1 0 (1 + (f : Int)))) (21 + (t : Int)) (fup (M.2.1 0) (1 + (t : Int)) (M.2.1 0 (1 + (f : Int))) (21 + (f : Int)))) (41 + (t : Int)) (fup (fup (M.2.1 0) (1 + (t : Int)) (M.2.1 0 (1 + (f : Int)))) (21 + (t : Int)) (fup (M.2.1 0) (1 + (t : Int)) (M.2.1 0 (1 + (f : Int))) (21 + (f : Int))) (41 + (f : Int))) x = _
  rw [fup_ne (show (21 + (f : Int)) ≠ 1 + (t : Int) by omega), fup_ne (show (41 + (f : Int)) ≠ 21 + (t : Int) by omega), fup_ne (show (41 + (f : Int)) ≠ 1 + (t : Int) by omega)]
  unfold fup cpL
  by_cases h1 : x = 41 + (t : Int)
  · rw [if_pos h1, if_neg (by omega), if_neg (by omega), if_neg (by omega), if_pos h1]
  · rw [if_neg h1]
    by_cases h2 : x = 21 + (t : Int)
    · rw [if_pos h2, if_neg (by omega), if_neg (by omega), if_pos h2]
    · rw [if_neg h2]
      by_cases h3 : x = 1 + (t : Int)
      · rw [if_pos h3, if_neg (by omega), if_pos h3]
      · rw [if_neg h3]
        by_cases h4 : 61 + 32 * (t : Int) ≤ x ∧ x < 61 + 32 * (t : Int) + 32
        · rw [if_pos (by omega)]
        · rw [if_neg (by omega), if_neg h3, if_neg h2, if_neg h1, if_neg h4]
end P1
