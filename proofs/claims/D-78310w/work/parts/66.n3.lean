/-! THE MODEL: blocks are closed. -/
section N3
variable {X : gCx} {hp : gHp} {a : Nat} {M M' : MS} {A : AS} {S : SS} {s : List Int} {i p f t r n k : Nat} {W : Wk}
/-- the Model's rows of blocks: walk W, of the first n tokens -/
def LKW (M : MS) (S : SS) (W : Wk) (n : Nat) : Prop := M.1 18 = W.1.length ∧ (∀ b : Nat, b < W.1.length → M.2.1 14 b = opK W.1 b) ∧ M.1 19 = W.2.2.2.2.1 ∧ M.1 20 = W.2.2.2.2.2 ∧ ∀ t : Nat, t < n → M.2.1 7 t = (if W.2.2.2.1 t then prT S (toks S) t else -9) ∧ M.2.1 8 t = W.2.1 t ∧ M.2.1 9 t = W.2.2.1 t
/-- what always holds of a walk -/
def wkOk (S : SS) (W : Wk) (n : Nat) : Prop := W.1.length ≤ 12 ∧ (∀ b : Nat, b < W.1.length → opK W.1 b < n ∧ W.2.2.2.1 (opK W.1 b) = true ∧ prT S (toks S) (opK W.1 b) ≠ -9) ∧ (∀ t, n ≤ t → W.2.1 t = -9 ∧ W.2.2.1 t = -9 ∧ W.2.2.2.1 t = false) ∧ ∀ b c : Nat, b < c → c < W.1.length → opK W.1 b < opK W.1 c
theorem opK_take {st : List Nat} {b c : Nat} (h : c < b) : opK (st.take b) c = opK st c := by
  unfold opK
  rw [List.getD_eq_getElem?_getD, List.getD_eq_getElem?_getD, List.getElem?_take_of_lt h]
theorem opK_app {st : List Nat} {c : Nat} (h : c < st.length) : opK (st ++ [k]) c = opK st c := by
  unfold opK
  rw [List.getD_eq_getElem?_getD, List.getD_eq_getElem?_getD, List.getElem?_append_left h]
theorem opK_last {st : List Nat} : opK (st ++ [k]) st.length = k := by
  unfold opK
  rw [List.getD_eq_getElem?_getD, List.getElem?_append_right (Nat.le_refl _), Nat.sub_self]
  rfl
theorem topB_lt {p : Nat → Bool} {b : Nat} : ∀ n, topB p n = some b → b < n ∧ p b = true := by
  intro n
  induction n with
  | zero => intro h; cases h
  | succ n ih =>
    intro h
    unfold topB at h
    by_cases hp : p n = true
    · rw [if_pos hp] at h; cases h; exact ⟨Nat.lt_succ_self _, hp⟩
    · rw [if_neg hp] at h; have := ih h; exact ⟨by omega, this.2⟩
theorem cloB_lt {T : List Tok} {st : List Nat} {x : List Int} {b : Nat} (h : cloB S T st x n = some b) : b < n := by
  unfold cloB at h
  cases ht : topB (fun b => decide ((blR S T (opK st b)).2.2.2.2.2.2 = x)) n with
  | none => rw [ht] at h; cases h
  | some c =>
    rw [ht] at h
    dsimp only at h
    by_cases hc : (List.range n).all (fun d => decide (c < d → (blR S T (opK st d)).2.1 < (blR S T (opK st c)).2.1)) = true
    · rw [if_pos hc] at h; cases h; exact (topB_lt n ht).1
    · rw [if_neg hc] at h; cases h
theorem wkS1_ok (h : wkOk S W n) : wkOk S (wkS1 S (toks S) W n) (n + 1) := by
  obtain ⟨h1, h2, h3, h4⟩ := h
  unfold wkS1
  cases hc : cloB S (toks S) W.1 (tA (toks S) n).2.2.2.2 W.1.length with
  | none => exact ⟨h1, fun b hb => ⟨Nat.lt_succ_of_lt (h2 b hb).1, (h2 b hb).2⟩, fun t ht => h3 t (by omega), h4⟩
  | some b =>
    have hb := cloB_lt hc
    have e : (W.1.take b).length = b := by rw [List.length_take]; omega
    refine ⟨by dsimp only; omega, fun c hc => ?_, fun t ht => ⟨?_, ?_, (h3 t (by omega)).2.2⟩, fun c d hcd hd => ?_⟩
    · have hc : c < (W.1.take b).length := hc
      rw [e] at hc
      show opK (W.1.take b) c < n + 1 ∧ W.2.2.2.1 (opK (W.1.take b) c) = true ∧ prT S (toks S) (opK (W.1.take b) c) ≠ -9
      rw [opK_take hc]
      have := h2 c (by omega)
      exact ⟨by omega, this.2⟩
    · show nup W.2.1 n _ t = -9
      unfold nup
      rw [if_neg (by omega)]
      exact (h3 t (by omega)).1
    · show nup W.2.2.1 (opK W.1 b) _ t = -9
      unfold nup
      rw [if_neg (by have := (h2 b hb).1; omega)]
      exact (h3 t (by omega)).2.1
    · have hd : d < (W.1.take b).length := hd
      rw [e] at hd
      show opK (W.1.take b) c < opK (W.1.take b) d
      rw [opK_take hd, opK_take (by omega)]
      exact h4 c d hcd (by omega)
theorem wkO_ok {V : Wk} (h : wkOk S V (n + 1)) (hn : ∀ b : Nat, b < V.1.length → opK V.1 b < n) : wkOk S (wkO S (toks S) V n) (n + 1) := by
  obtain ⟨h1, h2, h3, h4⟩ := h
  have hop : ∀ t, n + 1 ≤ t → (wkO S (toks S) V n).2.1 t = -9 ∧ (wkO S (toks S) V n).2.2.1 t = -9 ∧ (wkO S (toks S) V n).2.2.2.1 t = false := fun t ht => ⟨(h3 t ht).1, (h3 t ht).2.1, by show (if t = n then _ else _) = _; rw [if_neg (by omega)]; exact (h3 t ht).2.2⟩
  by_cases ho : opnB S (toks S) n V.1.length = true
  · have ho' := of_decide_eq_true ho
    have e : (wkO S (toks S) V n).1 = V.1 ++ [n] := if_pos ho
    refine ⟨by rw [e, List.length_append, List.length_singleton]; omega, fun b hb => ?_, hop, fun c d hcd hd => ?_⟩
    · rw [e] at hb ⊢
      rw [List.length_append, List.length_singleton] at hb
      show _ < _ ∧ (if opK (V.1 ++ [n]) b = n then opnB S (toks S) n V.1.length else V.2.2.2.1 (opK (V.1 ++ [n]) b)) = true ∧ _
      by_cases hbl : b < V.1.length
      · rw [opK_app hbl, if_neg (by have := hn b hbl; omega)]
        exact h2 b hbl
      · obtain rfl : b = V.1.length := by omega
        rw [opK_last, if_pos rfl]
        exact ⟨by omega, ho, ho'.1⟩
    · rw [e] at hd ⊢
      rw [List.length_append, List.length_singleton] at hd
      rw [opK_app (show c < V.1.length by omega)]
      by_cases hdl : d < V.1.length
      · rw [opK_app hdl]; exact h4 c d hcd hdl
      · obtain rfl : d = V.1.length := by omega
        rw [opK_last]
        exact hn c (by omega)
  · have e : (wkO S (toks S) V n).1 = V.1 := if_neg ho
    refine ⟨by rw [e]; exact h1, fun b hb => ?_, hop, fun c d hcd hd => by rw [e] at hd ⊢; exact h4 c d hcd hd⟩
    rw [e] at hb ⊢
    show _ < _ ∧ (if opK V.1 b = n then opnB S (toks S) n V.1.length else V.2.2.2.1 (opK V.1 b)) = true ∧ _
    rw [if_neg (by have := hn b hb; omega)]
    exact h2 b hb
theorem wkS1_in (h : wkOk S W n) : ∀ b : Nat, b < (wkS1 S (toks S) W n).1.length → opK (wkS1 S (toks S) W n).1 b < n := by
  unfold wkS1
  cases hc : cloB S (toks S) W.1 (tA (toks S) n).2.2.2.2 W.1.length with
  | none => exact fun b hb => (h.2.1 b hb).1
  | some c =>
    intro b hb
    have hc := cloB_lt hc
    have hb : b < (W.1.take c).length := hb
    rw [List.length_take] at hb
    show opK (W.1.take c) b < n
    rw [opK_take (by omega)]
    exact (h.2.1 b (by omega)).1
theorem wkN_ok : ∀ n, wkOk S (wkN S (toks S) n) n := by
  intro n
  induction n with
  | zero => exact ⟨Nat.zero_le _, fun b hb => absurd hb (Nat.not_lt_zero _), fun t _ => ⟨rfl, rfl, rfl⟩, fun b c h1 h2 => absurd h2 (Nat.not_lt_zero _)⟩
  | succ n ih => exact wkO_ok (wkS1_ok ih) (wkS1_in ih)
/-- the rule of a block -/
theorem blk_ok {T : List Tok} (h : prT S T k ≠ -9) : ∃ (r : Nat) (R : Rl), prT S T k = r ∧ r < 12 ∧ S.2.1 r = some R ∧ R.1 = 1 ∧ blR S T k = R := by
  rcases rfor_ok (S := S) (so := 1) (x := (tA T k).2.2.2.2) 12 with h1 | ⟨r, R, h1, h2, h3, h4, h5⟩
  · exact absurd h1 h
  · have e : prT S T k = r := h1
    refine ⟨r, R, e, h2, h3, h4, ?_⟩
    unfold blR rlA
    rw [e, Int.toNat_natCast, h3]
    rfl
theorem fup_nup {g : Int → Int} {h : Nat → Int} {v : Int} {j : Nat} (e : g (j : Int) = h j) : fup g (k : Int) v (j : Int) = nup h k v j := by
  unfold fup nup
  by_cases hj : j = k
  · rw [if_pos hj, if_pos (by omega)]
  · rw [if_neg hj, if_neg (by omega)]; exact e
/-- what the blocks leave alone -/
def lkF (M M' : MS) : Prop := (∀ k, k ≠ 18 ∧ k ≠ 19 ∧ k ≠ 20 → M'.1 k = M.1 k) ∧ (∀ j, j ≠ 7 ∧ j ≠ 8 ∧ j ≠ 9 ∧ j ≠ 12 ∧ j ≠ 13 ∧ j ≠ 14 → M'.2.1 j = M.2.1 j) ∧ M'.2.2 = M.2.2
theorem lkF.refl : lkF M M := ⟨fun _ _ => rfl, fun _ _ => rfl, rfl⟩
theorem lkF.trans {M'' : MS} (h : lkF M M') (h' : lkF M' M'') : lkF M M'' := ⟨fun k hk => (h'.1 k hk).trans (h.1 k hk), fun j hj => (h'.2.1 j hj).trans (h.2.1 j hj), h'.2.2.trans h.2.2⟩
theorem lkF.mP {j : Nat} {v : Int} (h : j = 18 ∨ j = 19 ∨ j = 20) : lkF M (mP M j v) := ⟨fun k hk => if_neg (by omega), fun _ _ => rfl, rfl⟩
theorem lkF.mA {j : Nat} {x v : Int} (h : j = 7 ∨ j = 8 ∨ j = 9 ∨ j = 12 ∨ j = 13 ∨ j = 14) : lkF M (mA M j x v) := ⟨fun _ _ => rfl, fun k hk => if_neg (by omega), rfl⟩
theorem lkF.PG (h : lkF M M') (hP : PG M S) : PG M' S := hP.mv (h.2.1 0 (by decide))
theorem lkF.TK (h : lkF M M') (hT : TK M S) : TK M' S := by
  obtain ⟨h1, h2, h3, h4⟩ := hT
  refine ⟨by rw [h.2.1 10 (by decide)]; exact h1, by rw [h.2.1 11 (by decide)]; exact h2, by rw [h.1 12 (by decide)]; exact h3, fun t ht => ?_⟩
  obtain ⟨w1, w2, w3, w4⟩ := h4 t ht
  exact ⟨by rw [h.2.1 3 (by decide)]; exact w1, by rw [h.2.1 4 (by decide)]; exact w2, by rw [h.2.1 5 (by decide)]; exact w3, by rw [h.2.1 6 (by decide)]; exact w4⟩
theorem m_shuts (hA : mok X hp a) (hP : PG M S) (ht : tkAt M S t) (hL : LKW M S W (t + 1)) (hW : wkOk S W t) : M0 X yX2_shuts fX2_shuts 4 [vR (some a), vI (t : Int)] (mH hp a M) (fun hp' => ∃ M', hp' = mH hp a M' ∧ lkF M M' ∧ M'.2.1 7 = M.2.1 7 ∧ M'.2.1 12 = M.2.1 12 ∧ M'.2.1 13 = M.2.1 13 ∧ LKW M' S (wkS1 S (toks S) W t) (t + 1)) := by
  obtain ⟨l1, l2, l3, l4, l5⟩ := hL
  have hW1 := hW.1
  have htl := ht.1
  have htle := toks_le hP.2
  refine MC.of pfX2_shuts rfl (fun h => by cases h) 3 rfl rfl ?_
  generalize hx : (tA (toks S) t).2.2.2.2 = x
  -- the block b of the stack
  have hb : ∀ b : Nat, b < W.1.length → ∃ (r : Nat) (R : Rl), r < 12 ∧ S.2.1 r = some R ∧ R.1 = 1 ∧ blR S (toks S) (opK W.1 b) = R ∧ M.2.1 14 b = (opK W.1 b : Nat) ∧ opK W.1 b < t ∧ M.2.1 7 (opK W.1 b : Nat) = r := by
    intro b hb
    obtain ⟨q1, q2, q3⟩ := hW.2.1 b hb
    obtain ⟨r, R, e1, e2, e3, e4, e5⟩ := blk_ok q3
    refine ⟨r, R, e2, e3, e4, e5, l2 b hb, q1, ?_⟩
    rw [(l5 (opK W.1 b) (by omega)).1, if_pos q2, e1]
  have fin0 : ∀ L2 L4 : Option AV, cloB S (toks S) W.1 x W.1.length = none → G X fX2_shuts 4 114 [some (vR (some a)), some (vI (t : Int)), L2, some (vI (b2i false)), L4] [] (mH hp a M) (fun r hp' => r = none ∧ ∃ M', hp' = mH hp a M' ∧ lkF M M' ∧ M'.2.1 7 = M.2.1 7 ∧ M'.2.1 12 = M.2.1 12 ∧ M'.2.1 13 = M.2.1 13 ∧ LKW M' S (wkS1 S (toks S) W t) (t + 1)) := by
    intro L2 L4 hc
    have e : wkS1 S (toks S) W t = (W.1, W.2.1, W.2.2.1, W.2.2.2.1, W.2.2.2.2.1 + b2i (clsT S x), W.2.2.2.2.2) := by
      unfold wkS1
      rw [hx, hc]
    rw [e]
    refine gs_ild3 (pc := 114) dX2_shuts_114 ?_
    refine gs_beq (pc := 115) (tgt := 167) dX2_shuts_115 (by decide) (fun _ => ?_) (fun hn => absurd ((rfl : _ = false).symm.trans hn) (by decide))
    refine gs_ald0 (pc := 167) dX2_shuts_167 ?_
    refine gs_ild1 (pc := 168) dX2_shuts_168 ?_
    refine gs_V1 (pc := 169) dX2_shuts_169 kX2_132 (mcell hA) clX2 (by decide) (Nat.le_of_ble_eq_true rfl) (m_isClosingText hA hP ht) (fun v hp1 hq => ?_)
    obtain ⟨rfl, rfl⟩ := hq
    refine gs_beq (pc := 172) (tgt := 185) dX2_shuts_172 (by decide) (fun h1 => ?_) (fun h1 => ?_)
    · rw [hx] at h1
      refine gs_vret (pc := 185) dX2_shuts_185 rfl ?_
      refine ⟨rfl, M, rfl, lkF.refl, rfl, rfl, rfl, l1, l2, ?_, l4, l5⟩
      rw [h1]
      show M.1 19 = W.2.2.2.2.1 + 0
      omega
    · rw [hx] at h1
      refine gs_ald0 (pc := 175) dX2_shuts_175 ?_
      refine gs_dup (pc := 176) dX2_shuts_176 rfl ?_
      refine gs_getf (pc := 177) 19 dX2_shuts_177 (mcell hA) clX2 in_X2 (by decide) q2245 (Or.inl rfl) rfl ?_
      refine gs_iconst (pc := 180) dX2_shuts_180 ?_
      refine gs_iadd (pc := 181) dX2_shuts_181 ?_
      refine mp_stray (pc := 182) rfl hA dX2_shuts_182 ?_
      refine gs_vret (pc := 185) dX2_shuts_185 rfl ?_
      refine ⟨rfl, _, rfl, lkF.mP (by omega), rfl, rfl, rfl, l1, l2, ?_, l4, l5⟩
      rw [h1]
      show M.1 19 + 1 = W.2.2.2.2.1 + 1
      omega
  have fin1 : ∀ (b : Nat) (L4 : Option AV), b < W.1.length → cloB S (toks S) W.1 x W.1.length = some b → G X fX2_shuts 4 114 [some (vR (some a)), some (vI (t : Int)), some (vI (b : Int)), some (vI (b2i true)), L4] [] (mH hp a M) (fun r hp' => r = none ∧ ∃ M', hp' = mH hp a M' ∧ lkF M M' ∧ M'.2.1 7 = M.2.1 7 ∧ M'.2.1 12 = M.2.1 12 ∧ M'.2.1 13 = M.2.1 13 ∧ LKW M' S (wkS1 S (toks S) W t) (t + 1)) := by
    intro b L4 hbl hc
    have e : wkS1 S (toks S) W t = (W.1.take b, nup W.2.1 t (opK W.1 b), nup W.2.2.1 (opK W.1 b) t, W.2.2.2.1, W.2.2.2.2.1, W.2.2.2.2.2 + ((W.1.length : Int) - 1 - b)) := by
      unfold wkS1
      rw [hx, hc]
    obtain ⟨r, R, -, -, -, -, e14, elt, -⟩ := hb b hbl
    have et : (W.1.take b).length = b := by rw [List.length_take]; omega
    rw [e]
    refine gs_ild3 (pc := 114) dX2_shuts_114 ?_
    refine gs_beq (pc := 115) (tgt := 167) dX2_shuts_115 (by decide) (fun hn => absurd ((rfl : _ = true).symm.trans hn) (by decide)) (fun _ => ?_)
    refine gs_ald0 (pc := 118) dX2_shuts_118 ?_
    refine gs_getf (pc := 119) 10 dX2_shuts_119 (mcell hA) clX2 in_X2 (by decide) q2236 (Or.inl rfl) rfl ?_
    refine gs_ild1 (pc := 122) dX2_shuts_122 ?_
    refine gs_ald0 (pc := 123) dX2_shuts_123 ?_
    refine gs_getf (pc := 124) 17 dX2_shuts_124 (mcell hA) clX2 in_X2 (by decide) q2243 (Or.inl rfl) rfl ?_
    refine gs_ild2 (pc := 127) dX2_shuts_127 ?_
    refine gs_iald (pc := 128) dX2_shuts_128 (ma_stack hA) (by omega) (by omega) ?_
    rw [e14]
    refine ms_closes (pc := 129) hA dX2_shuts_129 (by omega) ?_
    refine gs_ald0 (pc := 130) dX2_shuts_130 ?_
    refine gs_getf (pc := 131) 11 dX2_shuts_131 (mcell hA) clX2 in_X2 (by decide) q2237 (Or.inl rfl) rfl ?_
    refine gs_ald0 (pc := 134) dX2_shuts_134 ?_
    refine gs_getf (pc := 135) 17 dX2_shuts_135 (mcell hA) clX2 in_X2 (by decide) q2243 (Or.inl rfl) rfl ?_
    refine gs_ild2 (pc := 138) dX2_shuts_138 ?_
    refine gs_iald (pc := 139) dX2_shuts_139 (ma_stack hA) (by omega) (by omega) ?_
    rw [show (mA M 8 (t : Int) ((opK W.1 b : Nat) : Int)).2.1 14 (b : Int) = ((opK W.1 b : Nat) : Int) from e14]
    refine gs_ild1 (pc := 140) dX2_shuts_140 ?_
    refine ms_closer (pc := 141) hA dX2_shuts_141 (by omega) ?_
    refine gs_ald0 (pc := 142) dX2_shuts_142 ?_
    refine gs_dup (pc := 143) dX2_shuts_143 rfl ?_
    refine gs_getf (pc := 144) 20 dX2_shuts_144 (mcell hA) clX2 in_X2 (by decide) q2246 (Or.inl rfl) rfl ?_
    refine gs_ald0 (pc := 147) dX2_shuts_147 ?_
    refine gs_getf (pc := 148) 18 dX2_shuts_148 (mcell hA) clX2 in_X2 (by decide) q2244 (Or.inl rfl) rfl ?_
    refine gs_iconst (pc := 151) dX2_shuts_151 ?_
    refine gs_isub (pc := 152) dX2_shuts_152 ?_
    refine gs_ild2 (pc := 153) dX2_shuts_153 ?_
    refine gs_isub (pc := 154) dX2_shuts_154 ?_
    refine gs_iadd (pc := 155) dX2_shuts_155 ?_
    refine mp_gone (pc := 156) rfl hA dX2_shuts_156 ?_
    refine gs_ald0 (pc := 159) dX2_shuts_159 ?_
    refine gs_ild2 (pc := 160) dX2_shuts_160 ?_
    refine mp_stacked (pc := 161) rfl hA dX2_shuts_161 ?_
    refine gs_goto (pc := 164) (tgt := 185) dX2_shuts_164 (by decide) ?_
    refine gs_vret (pc := 185) dX2_shuts_185 rfl ?_
    refine ⟨rfl, _, rfl, ((lkF.mA (by omega)).trans (lkF.mA (by omega))).trans ((lkF.mP (by omega)).trans (lkF.mP (by omega))), rfl, rfl, rfl, ?_, fun c hc => ?_, l3, ?_, fun j hj => ⟨(l5 j hj).1, ?_, ?_⟩⟩
    · show (b : Int) = ((W.1.take b).length : Nat)
      rw [et]
    · have hc : c < (W.1.take b).length := hc
      rw [et] at hc
      show M.2.1 14 c = ((opK (W.1.take b) c : Nat) : Int)
      rw [opK_take hc]
      exact l2 c (by omega)
    · show M.1 20 + (M.1 18 - 1 - b) = W.2.2.2.2.2 + ((W.1.length : Int) - 1 - b)
      rw [l4, l1]
    · exact fup_nup (l5 j hj).2.1
    · exact fup_nup (l5 j hj).2.2
  have hpr : ∀ b : Nat, (blR S (toks S) (opK W.1 b)).2.1 = (blR S (toks S) (opK W.1 b)).2.1 := fun _ => rfl
  have loop2 : ∀ (b : Nat), b < W.1.length → topB (fun b => decide ((blR S (toks S) (opK W.1 b)).2.2.2.2.2.2 = x)) W.1.length = some b → ∀ (m j : Nat) (B : Bool), j + m = W.1.length → b < j → (B = true ↔ ∀ c : Nat, b < c → c < j → (blR S (toks S) (opK W.1 c)).2.1 < (blR S (toks S) (opK W.1 b)).2.1) → G X fX2_shuts 4 53 [some (vR (some a)), some (vI (t : Int)), some (vI (b : Int)), some (vI (b2i B)), some (vI (j : Int))] [] (mH hp a M) (fun r hp' => r = none ∧ ∃ M', hp' = mH hp a M' ∧ lkF M M' ∧ M'.2.1 7 = M.2.1 7 ∧ M'.2.1 12 = M.2.1 12 ∧ M'.2.1 13 = M.2.1 13 ∧ LKW M' S (wkS1 S (toks S) W t) (t + 1)) := by
    intro b hbl htop
    have hno : ∀ c : Nat, b < c → c < W.1.length → ¬ (blR S (toks S) (opK W.1 c)).2.1 < (blR S (toks S) (opK W.1 b)).2.1 → cloB S (toks S) W.1 x W.1.length = none := by
      intro c h1 h2 h3
      unfold cloB
      rw [htop]
      dsimp only
      rw [if_neg]
      intro h
      exact h3 (of_decide_eq_true (List.all_eq_true.mp h c (List.mem_range.mpr h2)) h1)
    intro m
    induction m with
    | zero =>
      intro j B hj hbj hB
      refine gs_ild4 (pc := 53) dX2_shuts_53 ?_
      refine gs_ald0 (pc := 55) dX2_shuts_55 ?_
      refine gs_getf (pc := 56) 18 dX2_shuts_56 (mcell hA) clX2 in_X2 (by decide) q2244 (Or.inl rfl) rfl ?_
      refine gs_ic_ge (pc := 59) (tgt := 114) dX2_shuts_59 (by decide) (by omega) (fun _ => ?_) (fun hn => absurd (by omega) hn)
      cases B with
      | false =>
        have : ¬ ∀ c : Nat, b < c → c < j → (blR S (toks S) (opK W.1 c)).2.1 < (blR S (toks S) (opK W.1 b)).2.1 := fun h => by have := hB.mpr h; cases this
        have : ∃ c : Nat, b < c ∧ c < j ∧ ¬ (blR S (toks S) (opK W.1 c)).2.1 < (blR S (toks S) (opK W.1 b)).2.1 := by
          apply Classical.byContradiction
          intro h
          exact this (fun c h1 h2 => Classical.byContradiction fun h3 => h ⟨c, h1, h2, h3⟩)
        obtain ⟨c, c1, c2, c3⟩ := this
        exact fin0 _ _ (hno c c1 (by omega) c3)
      | true =>
        refine fin1 b _ hbl ?_
        unfold cloB
        rw [htop]
        dsimp only
        rw [if_pos]
        exact List.all_eq_true.mpr fun c hc => decide_eq_true fun h => hB.mp rfl c h (by have := List.mem_range.mp hc; omega)
    | succ m ih =>
      intro j B hj hbj hB
      refine gs_ild4 (pc := 53) dX2_shuts_53 ?_
      refine gs_ald0 (pc := 55) dX2_shuts_55 ?_
      refine gs_getf (pc := 56) 18 dX2_shuts_56 (mcell hA) clX2 in_X2 (by decide) q2244 (Or.inl rfl) rfl ?_
      refine gs_ic_ge (pc := 59) (tgt := 114) dX2_shuts_59 (by decide) (by omega) (fun hn => absurd hn (by omega)) (fun _ => ?_)
      refine gs_ild3 (pc := 62) dX2_shuts_62 ?_
      refine gs_beq (pc := 63) (tgt := 114) dX2_shuts_63 (by decide) (fun hb2 => ?_) (fun hb2 => ?_)
      · subst hb2
        have : ¬ ∀ c : Nat, b < c → c < j → (blR S (toks S) (opK W.1 c)).2.1 < (blR S (toks S) (opK W.1 b)).2.1 := fun h => by have := hB.mpr h; cases this
        have : ∃ c : Nat, b < c ∧ c < j ∧ ¬ (blR S (toks S) (opK W.1 c)).2.1 < (blR S (toks S) (opK W.1 b)).2.1 := by
          apply Classical.byContradiction
          intro h
          exact this (fun c h1 h2 => Classical.byContradiction fun h3 => h ⟨c, h1, h2, h3⟩)
        obtain ⟨c, c1, c2, c3⟩ := this
        exact fin0 _ _ (hno c c1 (by omega) c3)
      · obtain ⟨r, R, r1, r2, r3, r4, r5, r6, r7⟩ := hb j (by omega)
        obtain ⟨r', R', s1, s2, s3, s4, s5, s6, s7⟩ := hb b hbl
        have g1 := (hP.rlS r1 r2).2.2.1
        have g2 := (hP.rlS s1 s2).2.2.1
        have g3 := (hP.rlS r1 r2).1.2.1
        have g4 := (hP.rlS s1 s2).1.2.1
        refine gs_ald0 (pc := 66) dX2_shuts_66 ?_
        refine gs_ald0 (pc := 67) dX2_shuts_67 ?_
        refine gs_getf (pc := 68) 9 dX2_shuts_68 (mcell hA) clX2 in_X2 (by decide) q2235 (Or.inl rfl) rfl ?_
        refine gs_ald0 (pc := 71) dX2_shuts_71 ?_
        refine gs_getf (pc := 72) 17 dX2_shuts_72 (mcell hA) clX2 in_X2 (by decide) q2243 (Or.inl rfl) rfl ?_
        refine gs_ild4 (pc := 75) dX2_shuts_75 ?_
        refine gs_iald (pc := 77) dX2_shuts_77 (ma_stack hA) (by omega) (by omega) ?_
        refine gs_iald (pc := 78) dX2_shuts_78 (ma_opens hA) (by omega) (by omega) ?_
        refine gs_iconst (pc := 79) dX2_shuts_79 ?_
        rw [r5, r7]
        refine gs_V2 (pc := 80) dX2_shuts_80 kX2_120 (mcell hA) clX2 (by decide) (Nat.le_of_ble_eq_true rfl) (m_ruleAt (w := 1) hA (by omega) (by decide)) (fun v hp1 hq => ?_)
        obtain ⟨rfl, rfl⟩ := hq
        rw [g1]
        refine gs_ald0 (pc := 83) dX2_shuts_83 ?_
        refine gs_ald0 (pc := 84) dX2_shuts_84 ?_
        refine gs_getf (pc := 85) 9 dX2_shuts_85 (mcell hA) clX2 in_X2 (by decide) q2235 (Or.inl rfl) rfl ?_
        refine gs_ald0 (pc := 88) dX2_shuts_88 ?_
        refine gs_getf (pc := 89) 17 dX2_shuts_89 (mcell hA) clX2 in_X2 (by decide) q2243 (Or.inl rfl) rfl ?_
        refine gs_ild2 (pc := 92) dX2_shuts_92 ?_
        refine gs_iald (pc := 93) dX2_shuts_93 (ma_stack hA) (by omega) (by omega) ?_
        refine gs_iald (pc := 94) dX2_shuts_94 (ma_opens hA) (by omega) (by omega) ?_
        refine gs_iconst (pc := 95) dX2_shuts_95 ?_
        rw [s5, s7]
        refine gs_V2 (pc := 96) dX2_shuts_96 kX2_120 (mcell hA) clX2 (by decide) (Nat.le_of_ble_eq_true rfl) (m_ruleAt (w := 1) hA (by omega) (by decide)) (fun v hp1 hq => ?_)
        obtain ⟨rfl, rfl⟩ := hq
        rw [g2]
        refine gs_ic_ge (pc := 99) (tgt := 106) dX2_shuts_99 (by decide) (by omega) (fun hlt => ?_) (fun hlt => ?_)
        · refine gs_iconst (pc := 106) dX2_shuts_106 ?_
          refine gs_ist3 (pc := 107) dX2_shuts_107 rfl ?_
          refine gs_inc4 (pc := 108) dX2_shuts_108 rfl ?_
          refine gs_goto (pc := 111) (tgt := 53) dX2_shuts_111 (by decide) ?_
          refine ih (j + 1) false (by omega) (by omega) ?_
          constructor
          · intro h; cases h
          · intro h
            have := h j hbj (by omega)
            rw [r4, s4] at this
            omega
        · refine gs_iconst (pc := 102) dX2_shuts_102 ?_
          refine gs_goto (pc := 103) (tgt := 107) dX2_shuts_103 (by decide) ?_
          refine gs_ist3 (pc := 107) dX2_shuts_107 rfl ?_
          refine gs_inc4 (pc := 108) dX2_shuts_108 rfl ?_
          refine gs_goto (pc := 111) (tgt := 53) dX2_shuts_111 (by decide) ?_
          refine ih (j + 1) true (by omega) (by omega) ?_
          constructor
          · intro _ c h1 h2
            by_cases hcj : c = j
            · subst hcj; rw [r4, s4]; omega
            · exact hB.mp hb2 c h1 (by omega)
          · intro _; rfl
  have k38N : topB (fun b => decide ((blR S (toks S) (opK W.1 b)).2.2.2.2.2.2 = x)) W.1.length = none → G X fX2_shuts 4 38 [some (vR (some a)), some (vI (t : Int)), some (vI (-1)), none, none] [] (mH hp a M) (fun r hp' => r = none ∧ ∃ M', hp' = mH hp a M' ∧ lkF M M' ∧ M'.2.1 7 = M.2.1 7 ∧ M'.2.1 12 = M.2.1 12 ∧ M'.2.1 13 = M.2.1 13 ∧ LKW M' S (wkS1 S (toks S) W t) (t + 1)) := by
    intro htop
    have hcl : cloB S (toks S) W.1 x W.1.length = none := by unfold cloB; rw [htop]
    refine gs_ild2 (pc := 38) dX2_shuts_38 ?_
    refine gs_if_lt (pc := 39) (tgt := 46) dX2_shuts_39 (by decide) (by omega) (fun _ => ?_) (fun hn => absurd (by decide) hn)
    refine gs_iconst (pc := 46) dX2_shuts_46 ?_
    refine gs_ist3 (pc := 47) dX2_shuts_47 rfl ?_
    refine gs_ild2 (pc := 48) dX2_shuts_48 ?_
    refine gs_iconst (pc := 49) dX2_shuts_49 ?_
    refine gs_iadd (pc := 50) dX2_shuts_50 ?_
    refine gs_ist4 (pc := 51) dX2_shuts_51 rfl ?_
    refine gs_ild4 (pc := 53) dX2_shuts_53 ?_
    refine gs_ald0 (pc := 55) dX2_shuts_55 ?_
    refine gs_getf (pc := 56) 18 dX2_shuts_56 (mcell hA) clX2 in_X2 (by decide) q2244 (Or.inl rfl) rfl ?_
    refine gs_ic_ge (pc := 59) (tgt := 114) dX2_shuts_59 (by decide) (by omega) (fun hc => ?_) (fun hc => ?_)
    · exact fin0 _ _ hcl
    · refine gs_ild3 (pc := 62) dX2_shuts_62 ?_
      refine gs_if_eq (pc := 63) (tgt := 114) dX2_shuts_63 (by decide) (by omega) (fun _ => ?_) (fun hn => absurd (by decide) hn)
      exact fin0 _ _ hcl
  have k38S : ∀ b : Nat, b < W.1.length → topB (fun b => decide ((blR S (toks S) (opK W.1 b)).2.2.2.2.2.2 = x)) W.1.length = some b → G X fX2_shuts 4 38 [some (vR (some a)), some (vI (t : Int)), some (vI (b : Int)), none, none] [] (mH hp a M) (fun r hp' => r = none ∧ ∃ M', hp' = mH hp a M' ∧ lkF M M' ∧ M'.2.1 7 = M.2.1 7 ∧ M'.2.1 12 = M.2.1 12 ∧ M'.2.1 13 = M.2.1 13 ∧ LKW M' S (wkS1 S (toks S) W t) (t + 1)) := by
    intro b hbl htop
    refine gs_ild2 (pc := 38) dX2_shuts_38 ?_
    refine gs_if_lt (pc := 39) (tgt := 46) dX2_shuts_39 (by decide) (by omega) (fun hn => absurd hn (by omega)) (fun _ => ?_)
    refine gs_iconst (pc := 42) dX2_shuts_42 ?_
    refine gs_goto (pc := 43) (tgt := 47) dX2_shuts_43 (by decide) ?_
    refine gs_ist3 (pc := 47) dX2_shuts_47 rfl ?_
    refine gs_ild2 (pc := 48) dX2_shuts_48 ?_
    refine gs_iconst (pc := 49) dX2_shuts_49 ?_
    refine gs_iadd (pc := 50) dX2_shuts_50 ?_
    refine gs_ist4 (pc := 51) dX2_shuts_51 rfl ?_
    refine loop2 b hbl htop (W.1.length - (b + 1)) (b + 1) true (by omega) (by omega) ?_
    constructor
    · intro _ c h1 h2; omega
    · intro _; rfl
  have loop1 : ∀ k : Nat, k ≤ W.1.length → topB (fun b => decide ((blR S (toks S) (opK W.1 b)).2.2.2.2.2.2 = x)) W.1.length = topB (fun b => decide ((blR S (toks S) (opK W.1 b)).2.2.2.2.2.2 = x)) k → G X fX2_shuts 4 7 [some (vR (some a)), some (vI (t : Int)), some (vI ((k : Int) - 1)), none, none] [] (mH hp a M) (fun r hp' => r = none ∧ ∃ M', hp' = mH hp a M' ∧ lkF M M' ∧ M'.2.1 7 = M.2.1 7 ∧ M'.2.1 12 = M.2.1 12 ∧ M'.2.1 13 = M.2.1 13 ∧ LKW M' S (wkS1 S (toks S) W t) (t + 1)) := by
    intro k
    induction k with
    | zero =>
      intro hk htop
      refine gs_ild2 (pc := 7) dX2_shuts_7 ?_
      refine gs_if_lt (pc := 8) (tgt := 38) dX2_shuts_8 (by decide) (by omega) (fun _ => ?_) (fun hn => absurd (by decide) hn)
      exact k38N htop
    | succ k ih =>
      intro hk htop
      rw [show ((k + 1 : Nat) : Int) - 1 = (k : Int) by omega]
      obtain ⟨r, R, r1, r2, r3, r4, r5, r6, r7⟩ := hb k (by omega)
      have hrl := hP.rlS r1 r2
      refine gs_ild2 (pc := 7) dX2_shuts_7 ?_
      refine gs_if_lt (pc := 8) (tgt := 38) dX2_shuts_8 (by decide) (by omega) (fun hn => absurd hn (by omega)) (fun _ => ?_)
      refine gs_ald0 (pc := 11) dX2_shuts_11 ?_
      refine gs_ild1 (pc := 12) dX2_shuts_12 ?_
      refine gs_ald0 (pc := 13) dX2_shuts_13 ?_
      refine gs_getf (pc := 14) 9 dX2_shuts_14 (mcell hA) clX2 in_X2 (by decide) q2235 (Or.inl rfl) rfl ?_
      refine gs_ald0 (pc := 17) dX2_shuts_17 ?_
      refine gs_getf (pc := 18) 17 dX2_shuts_18 (mcell hA) clX2 in_X2 (by decide) q2243 (Or.inl rfl) rfl ?_
      refine gs_ild2 (pc := 21) dX2_shuts_21 ?_
      refine gs_iald (pc := 22) dX2_shuts_22 (ma_stack hA) (by omega) (by omega) ?_
      refine gs_iald (pc := 23) dX2_shuts_23 (ma_opens hA) (by omega) (by omega) ?_
      refine gs_bipush (pc := 24) dX2_shuts_24 rfl ?_
      rw [r5, r7]
      refine gs_V3 (pc := 26) dX2_shuts_26 kX2_123 (mcell hA) clX2 (by decide) (Nat.le_of_ble_eq_true rfl) (m_hasText (w := 14) hA hP ht (by omega) (Or.inr rfl) (hrl.2.2.2.2.2.2.2 r3) (hrl.1.2.2.2.2.2.2.2 r3)) (fun v hp1 hq => ?_)
      obtain ⟨rfl, rfl⟩ := hq
      refine gs_bne (pc := 29) (tgt := 38) dX2_shuts_29 (by decide) (fun h2 => ?_) (fun h2 => ?_)
      · rw [hx] at h2
        refine k38S k (by omega) ?_
        rw [htop]
        unfold topB
        rw [if_pos (by show decide ((blR S (toks S) (opK W.1 k)).2.2.2.2.2.2 = x) = true; rw [r4]; exact h2)]
      · rw [hx] at h2
        refine gs_inc2 (pc := 32) dX2_shuts_32 rfl ?_
        refine gs_goto (pc := 35) (tgt := 7) dX2_shuts_35 (by decide) ?_
        refine ih (by omega) ?_
        rw [htop]
        show (if _ then _ else _) = _
        rw [if_neg (by show ¬ decide ((blR S (toks S) (opK W.1 k)).2.2.2.2.2.2 = x) = true; rw [r4, h2]; decide)]
  refine gs_ald0 (pc := 0) dX2_shuts_0 ?_
  refine gs_getf (pc := 1) 18 dX2_shuts_1 (mcell hA) clX2 in_X2 (by decide) q2244 (Or.inl rfl) rfl ?_
  refine gs_iconst (pc := 4) dX2_shuts_4 ?_
  refine gs_isub (pc := 5) dX2_shuts_5 ?_
  refine gs_ist2 (pc := 6) dX2_shuts_6 rfl ?_
  rw [l1]
  exact loop1 W.1.length (Nat.le_refl _) rfl
end N3
