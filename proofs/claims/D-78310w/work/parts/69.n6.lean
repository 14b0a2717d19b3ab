/-! The walk and what is decided: plain facts. -/
section N6
variable {S : SS} {T : List Tok} {x : List Int} {i p f t r n k m lo : Nat} {W : Wk} {st : List Nat}
theorem wkS1_op : (wkS1 S T W k).2.2.2.1 = W.2.2.2.1 := by
  unfold wkS1
  cases cloB S T W.1 (tA T k).2.2.2.2 W.1.length <;> rfl
theorem wkS1_ob (h : t ≠ k) : (wkS1 S T W k).2.1 t = W.2.1 t := by
  unfold wkS1
  cases cloB S T W.1 (tA T k).2.2.2.2 W.1.length with
  | none => rfl
  | some b => exact if_neg h
theorem wk_stab (h : t < n) : ∀ m, n ≤ m → (wkN S T m).2.1 t = (wkN S T n).2.1 t ∧ (wkN S T m).2.2.2.1 t = (wkN S T n).2.2.2.1 t := by
  intro m
  induction m with
  | zero => intro hm; omega
  | succ m ih =>
    intro hm
    by_cases he : n = m + 1
    · subst he; exact ⟨rfl, rfl⟩
    · have hi := ih (by omega)
      refine ⟨?_, ?_⟩
      · show (wkS1 S T (wkN S T m) m).2.1 t = _
        rw [wkS1_ob (by omega)]; exact hi.1
      · show (if t = m then _ else (wkS1 S T (wkN S T m) m).2.2.2.1 t) = _
        rw [if_neg (by omega), wkS1_op]; exact hi.2
theorem wk_opened : ∀ n, (wkN S T n).2.2.2.1 t = true → prT S T t ≠ -9 := by
  intro n
  induction n with
  | zero => intro h; cases h
  | succ n ih =>
    intro h
    have h : (if t = n then opnB S T n (wkS1 S T (wkN S T n) n).1.length else (wkS1 S T (wkN S T n) n).2.2.2.1 t) = true := h
    by_cases ht : t = n
    · rw [if_pos ht] at h
      rw [ht]
      exact (of_decide_eq_true h).1
    · rw [if_neg ht, wkS1_op] at h
      exact ih h
theorem topB_congr {p q : Nat → Bool} : ∀ n, (∀ b, b < n → p b = q b) → topB p n = topB q n := by
  intro n
  induction n with
  | zero => intro _; rfl
  | succ n ih =>
    intro h
    show (if p n then some n else topB p n) = (if q n then some n else topB q n)
    rw [h n (by omega), ih (fun b hb => h b (by omega))]
theorem cloB_congr {st st' : List Nat} (h : ∀ b, b < n → opK st b = opK st' b) : cloB S T st x n = cloB S T st' x n := by
  unfold cloB
  have e : topB (fun b => decide ((blR S T (opK st b)).2.2.2.2.2.2 = x)) n = topB (fun b => decide ((blR S T (opK st' b)).2.2.2.2.2.2 = x)) n := topB_congr n (fun b hb => by rw [h b hb])
  rw [e]
  cases ht : topB (fun b => decide ((blR S T (opK st' b)).2.2.2.2.2.2 = x)) n with
  | none => rfl
  | some b =>
    dsimp only
    have hb := (topB_lt n ht).1
    have e2 : (List.range n).all (fun c => decide (b < c → (blR S T (opK st c)).2.1 < (blR S T (opK st b)).2.1)) = (List.range n).all (fun c => decide (b < c → (blR S T (opK st' c)).2.1 < (blR S T (opK st' b)).2.1)) := by
      rw [Bool.eq_iff_iff, List.all_eq_true, List.all_eq_true]
      constructor
      · intro g c hc
        have := g c hc
        rw [h b hb, h c (List.mem_range.mp hc)] at this
        exact this
      · intro g c hc
        have := g c hc
        rw [h b hb, h c (List.mem_range.mp hc)]
        exact this
    rw [e2]
theorem cloB_take (h : m ≤ st.length) : cloB S T (st.take m) x m = cloB S T st x m := cloB_congr fun b hb => opK_take hb
theorem dcL_s : dcL S T st lo (n + 1) = if (dcL S T st lo n).2.2 then (match cloB S T st (tA T (lo + n)).2.2.2.2 (dcL S T st lo n).1 with
    | some b => (b, some b, !opnB S T (lo + n) b)
    | none => ((dcL S T st lo n).1, (dcL S T st lo n).2.1, false)) else dcL S T st lo n := rfl
theorem dcL_le : ∀ n, (dcL S T st lo n).1 ≤ st.length ∧ (∀ b, (dcL S T st lo n).2.1 = some b → b < st.length) := by
  intro n
  induction n with
  | zero => exact ⟨Nat.le_refl _, fun b h => by cases h⟩
  | succ n ih =>
    rw [dcL_s]
    cases hg : (dcL S T st lo n).2.2 with
    | false => exact ih
    | true =>
      rw [if_pos rfl]
      cases hc : cloB S T st (tA T (lo + n)).2.2.2.2 (dcL S T st lo n).1 with
      | none => exact ih
      | some b =>
        have := cloB_lt hc
        refine ⟨by dsimp only; omega, fun c hcc => ?_⟩
        have hcc : some b = some c := hcc
        cases hcc
        omega
theorem dcL_stop (h : (dcL S T st lo n).2.2 = false) : ∀ m, n ≤ m → dcL S T st lo m = dcL S T st lo n := by
  intro m
  induction m with
  | zero => intro hm; obtain rfl : n = 0 := by omega
            rfl
  | succ m ih =>
    intro hm
    by_cases he : n = m + 1
    · rw [he]
    · rw [dcL_s, ih (by omega), if_neg (by rw [h]; decide)]
/-- while a line closes blocks, the walk has the rest of the stack -/
theorem dcL_wk : ∀ n, (dcL S T (wkN S T lo).1 lo n).2.2 = true → (wkN S T (lo + n)).1 = (wkN S T lo).1.take (dcL S T (wkN S T lo).1 lo n).1 := by
  intro n
  induction n with
  | zero => intro _; exact (List.take_length).symm
  | succ n ih =>
    intro h
    rw [dcL_s] at h ⊢
    cases hg : (dcL S T (wkN S T lo).1 lo n).2.2 with
    | false => rw [hg, if_neg (by decide)] at h; rw [hg] at h; cases h
    | true =>
      have hi := ih hg
      have hle := (dcL_le (S := S) (T := T) (st := (wkN S T lo).1) (lo := lo) n).1
      rw [hg, if_pos rfl] at h
      rw [if_pos rfl]
      generalize dcL S T (wkN S T lo).1 lo n = D at *
      have hlen : (wkN S T (lo + n)).1.length = D.1 := by rw [hi, List.length_take]; omega
      have hcc : cloB S T (wkN S T (lo + n)).1 (tA T (lo + n)).2.2.2.2 (wkN S T (lo + n)).1.length = cloB S T (wkN S T lo).1 (tA T (lo + n)).2.2.2.2 D.1 := by rw [hlen, hi, cloB_take hle]
      cases hc : cloB S T (wkN S T lo).1 (tA T (lo + n)).2.2.2.2 D.1 with
      | none => rw [hc] at h; cases h
      | some b =>
        rw [hc] at h hcc
        have hb := cloB_lt hc
        have ho : opnB S T (lo + n) b = false := by
          have h : (!opnB S T (lo + n) b) = true := h
          cases hh : opnB S T (lo + n) b with
          | false => rfl
          | true => rw [hh] at h; cases h
        have e1 : (wkS1 S T (wkN S T (lo + n)) (lo + n)).1 = (wkN S T lo).1.take b := by
          unfold wkS1
          rw [hcc]
          dsimp only
          rw [hi, List.take_take, Nat.min_eq_left (by omega)]
        show (if opnB S T (lo + n) (wkS1 S T (wkN S T (lo + n)) (lo + n)).1.length then _ else (wkS1 S T (wkN S T (lo + n)) (lo + n)).1) = _
        rw [e1, List.length_take, Nat.min_eq_left (by omega), ho, if_neg (by decide)]
/-- what the whole walk notes at the next token of such a line -/
theorem dcL_at (N : Nat) (hN : lo + n < N) (h : (dcL S (toks S) (wkN S (toks S) lo).1 lo n).2.2 = true) : (wkN S (toks S) N).2.1 (lo + n) = (match cloB S (toks S) (wkN S (toks S) lo).1 (tA (toks S) (lo + n)).2.2.2.2 (dcL S (toks S) (wkN S (toks S) lo).1 lo n).1 with
    | some b => (opK (wkN S (toks S) lo).1 b : Int)
    | none => -9) ∧ ∀ b, cloB S (toks S) (wkN S (toks S) lo).1 (tA (toks S) (lo + n)).2.2.2.2 (dcL S (toks S) (wkN S (toks S) lo).1 lo n).1 = some b → (wkN S (toks S) N).2.2.2.1 (lo + n) = opnB S (toks S) (lo + n) b := by
  have hi := dcL_wk n h
  have hle := (dcL_le (S := S) (T := toks S) (st := (wkN S (toks S) lo).1) (lo := lo) n).1
  have hst := wk_stab (S := S) (T := toks S) (t := lo + n) (n := lo + n + 1) (by omega) N (by omega)
  rw [hst.1, hst.2]
  have hdf := (wkN_ok (S := S) (lo + n)).2.2.1 (lo + n) (Nat.le_refl _)
  generalize dcL S (toks S) (wkN S (toks S) lo).1 lo n = D at *
  have hlen : (wkN S (toks S) (lo + n)).1.length = D.1 := by rw [hi, List.length_take]; omega
  have hcc : cloB S (toks S) (wkN S (toks S) (lo + n)).1 (tA (toks S) (lo + n)).2.2.2.2 (wkN S (toks S) (lo + n)).1.length = cloB S (toks S) (wkN S (toks S) lo).1 (tA (toks S) (lo + n)).2.2.2.2 D.1 := by rw [hlen, hi, cloB_take hle]
  have e1 : (wkN S (toks S) (lo + n + 1)).2.1 (lo + n) = (wkS1 S (toks S) (wkN S (toks S) (lo + n)) (lo + n)).2.1 (lo + n) := rfl
  have e2 : (wkN S (toks S) (lo + n + 1)).2.2.2.1 (lo + n) = opnB S (toks S) (lo + n) (wkS1 S (toks S) (wkN S (toks S) (lo + n)) (lo + n)).1.length := by
    show (if lo + n = lo + n then _ else _) = _
    rw [if_pos rfl]
  rw [e1, e2]
  unfold wkS1
  rw [hcc]
  cases hc : cloB S (toks S) (wkN S (toks S) lo).1 (tA (toks S) (lo + n)).2.2.2.2 D.1 with
  | none => exact ⟨hdf.1, fun b hb => by cases hb⟩
  | some b =>
    have hb := cloB_lt hc
    refine ⟨?_, fun c hcb => ?_⟩
    · show nup _ _ _ _ = _
      unfold nup
      rw [if_pos rfl, hi, opK_take hb]
    · cases hcb
      dsimp only
      rw [List.length_take, hlen, Nat.min_eq_left (by omega)]
end N6
