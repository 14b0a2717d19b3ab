/-! THE MODEL: all lines are divided; what its rows hold then. -/
section M9
variable {X : gCx} {hp : gHp} {a : Nat} {M M' : MS} {A : AS} {S : SS} {s : List Int} {i p f : Nat} {cm : Int}
/-- what tokens leave alone -/
def tkF (M M' : MS) : Prop := (∀ k, k ≠ 12 → M'.1 k = M.1 k) ∧ (∀ j, j ≠ 3 ∧ j ≠ 4 ∧ j ≠ 5 ∧ j ≠ 6 ∧ j ≠ 10 ∧ j ≠ 11 → M'.2.1 j = M.2.1 j) ∧ M'.2.2 = M.2.2
theorem tkF.refl : tkF M M := ⟨fun _ _ => rfl, fun _ _ => rfl, rfl⟩
theorem tkF.trans {M'' : MS} (h : tkF M M') (h' : tkF M' M'') : tkF M M'' := ⟨fun k hk => (h'.1 k hk).trans (h.1 k hk), fun j hj => (h'.2.1 j hj).trans (h.2.1 j hj), h'.2.2.trans h.2.2⟩
theorem mA_ne {j k : Nat} {x v : Int} (h : k ≠ j) : (mA M j x v).2.1 k = M.2.1 k := if_neg h
theorem mA_eqA {j : Nat} {x v : Int} : (mA M j x v).2.1 j = fup (M.2.1 j) x v := if_pos rfl
theorem tkF.ad1 {z p l q : Int} : tkF M (ad1 M z p l q) := by
  refine ⟨fun k hk => if_neg hk, fun j hj => ?_, rfl⟩
  show (mA (mA (mA (mA M 3 (M.1 12) z) 4 (M.1 12) p) 5 (M.1 12) l) 6 (M.1 12) q).2.1 j = _
  rw [mA_ne hj.2.2.2.1, mA_ne hj.2.2.1, mA_ne hj.2.1, mA_ne hj.1]
def tkV (M : MS) (x : Int) (z : Int) (t : Tk) : Prop := M.2.1 3 x = z ∧ M.2.1 4 x = t.1 ∧ M.2.1 5 x = t.2.1 ∧ M.2.1 6 x = t.2.2
def tkS (M M' : MS) (x : Int) : Prop := M'.2.1 3 x = M.2.1 3 x ∧ M'.2.1 4 x = M.2.1 4 x ∧ M'.2.1 5 x = M.2.1 5 x ∧ M'.2.1 6 x = M.2.1 6 x
theorem ad1_new {z : Int} {t : Tk} : tkV (ad1 M z t.1 t.2.1 t.2.2) (M.1 12) z t := ⟨fup_eq, fup_eq, fup_eq, fup_eq⟩
theorem ad1_old {z p l q x : Int} (h : x ≠ M.1 12) : tkS M (ad1 M z p l q) x := ⟨fup_ne h, fup_ne h, fup_ne h, fup_ne h⟩
theorem adN_spec : ∀ (ts : List Tk) (M : MS) (z : Int), tkF M (adN M z ts) ∧ (adN M z ts).2.1 10 = M.2.1 10 ∧ (adN M z ts).2.1 11 = M.2.1 11 ∧ (adN M z ts).1 12 = M.1 12 + ts.length ∧ (∀ x, x < M.1 12 → tkS M (adN M z ts) x) ∧ ∀ j : Nat, j < ts.length → tkV (adN M z ts) (M.1 12 + j) z (ts.getD j (0, 0, 0)) := by
  intro ts
  induction ts with
  | nil => intro M z; exact ⟨tkF.refl, rfl, rfl, by simp [adN], fun _ _ => ⟨rfl, rfl, rfl, rfl⟩, fun j hj => absurd hj (by simp)⟩
  | cons t ts ih =>
    intro M z
    obtain ⟨h1, h2, h3, h4, h5, h6⟩ := ih (ad1 M z t.1 t.2.1 t.2.2) z
    have e12 : (ad1 M z t.1 t.2.1 t.2.2).1 12 = M.1 12 + 1 := rfl
    rw [e12] at h4 h5 h6
    have ea : adN M z (t :: ts) = adN (ad1 M z t.1 t.2.1 t.2.2) z ts := rfl
    rw [ea]
    refine ⟨tkF.ad1.trans h1, h2, h3, by rw [h4, List.length_cons]; omega, fun x hx => ?_, fun j hj => ?_⟩
    · have q1 := h5 x (by omega)
      have q2 := ad1_old (M := M) (z := z) (p := t.1) (l := t.2.1) (q := t.2.2) (x := x) (by omega)
      exact ⟨q1.1.trans q2.1, q1.2.1.trans q2.2.1, q1.2.2.1.trans q2.2.2.1, q1.2.2.2.trans q2.2.2.2⟩
    · cases j with
      | zero =>
        have q1 := h5 (M.1 12) (by omega)
        have q2 := ad1_new (M := M) (z := z) (t := t)
        rw [show M.1 12 + ((0 : Nat) : Int) = M.1 12 by omega]
        exact ⟨q1.1.trans q2.1, q1.2.1.trans q2.2.1, q1.2.2.1.trans q2.2.2.1, q1.2.2.2.trans q2.2.2.2⟩
      | succ j =>
        have := h6 j (by simp at hj; omega)
        rw [show M.1 12 + ((j + 1 : Nat) : Int) = M.1 12 + 1 + j by omega]
        exact this
/-- all lines from i on -/
def tkz (cm : Int) : Nat → Bool → List Ln → MS → MS
  | i, _, [], M => mA M 10 i (M.1 12)
  | i, op, l :: ls, M => tkz cm (i + 1) (lt cm op l.2.1).2 ls (adN (mA (mA M 10 i (M.1 12)) 11 i (b2i (op && !l.2.1.isEmpty))) i (lt cm op l.2.1).1)
theorem mkT_1 {i : Nat} {s : List Int} {k : Tk} : (mkT i s k).1 = i ∧ (mkT i s k).2.1 = k.1 ∧ (mkT i s k).2.2.1 = k.2.1 ∧ (mkT i s k).2.2.2.1 = k.2.2 := ⟨rfl, rfl, rfl, rfl⟩
def tkW (M : MS) (x : Int) (t : Tok) : Prop := M.2.1 3 x = t.1 ∧ M.2.1 4 x = t.2.1 ∧ M.2.1 5 x = t.2.2.1 ∧ M.2.1 6 x = t.2.2.2.1
theorem flt_len {l : Ln} {ls : List Ln} {r : List Tk × Bool} {rs : List (List Tk × Bool)} : flt i (l :: ls) (r :: rs) = r.1.map (mkT i l.2.1) ++ flt (i + 1) ls rs := rfl
theorem tkz_spec : ∀ (ls : List Ln) (i : Nat) (op : Bool) (M : MS), tkF M (tkz cm i op ls M) ∧ (∀ x, x < (i : Int) → (tkz cm i op ls M).2.1 10 x = M.2.1 10 x ∧ (tkz cm i op ls M).2.1 11 x = M.2.1 11 x) ∧ (∀ j : Nat, j ≤ ls.length → (tkz cm i op ls M).2.1 10 ((i + j : Nat) : Int) = M.1 12 + ((((tks cm op ls).take j).map (fun r => r.1.length)).sum : Nat)) ∧ (∀ j : Nat, j < ls.length → (tkz cm i op ls M).2.1 11 ((i + j : Nat) : Int) = b2i ((tks cm op ls).getD j ([], false)).2) ∧ (tkz cm i op ls M).1 12 = M.1 12 + (flt i ls (tks cm op ls)).length ∧ (∀ x, x < M.1 12 → tkS M (tkz cm i op ls M) x) ∧ ∀ j : Nat, j < (flt i ls (tks cm op ls)).length → tkW (tkz cm i op ls M) (M.1 12 + j) ((flt i ls (tks cm op ls)).getD j tkD) := by
  intro ls
  induction ls with
  | nil =>
    intro i op M
    refine ⟨⟨fun _ _ => rfl, fun j hj => if_neg hj.2.2.2.2.1, rfl⟩, fun x hx => ⟨?_, rfl⟩, fun j hj => ?_, fun j hj => absurd hj (by simp), by simp [tkz, mA, flt], fun _ _ => ⟨rfl, rfl, rfl, rfl⟩, fun j hj => absurd hj (by simp [flt])⟩
    · show fup (M.2.1 10) i (M.1 12) x = _
      exact fup_ne (by omega)
    · obtain rfl : j = 0 := by simpa using hj
      show fup (M.2.1 10) i (M.1 12) ((i + 0 : Nat) : Int) = _
      rw [Nat.add_zero, fup_eq]
      simp
  | cons l ls ih =>
    intro i op M
    generalize hop : (lt cm op l.2.1).2 = op1
    have hN := adN_spec (lt cm op l.2.1).1 (mA (mA M 10 i (M.1 12)) 11 i (b2i (op && !l.2.1.isEmpty))) i
    have e : tkz cm i op (l :: ls) M = tkz cm (i + 1) op1 ls (adN (mA (mA M 10 i (M.1 12)) 11 i (b2i (op && !l.2.1.isEmpty))) i (lt cm op l.2.1).1) := by rw [← hop]; rfl
    have et : tks cm op (l :: ls) = ((lt cm op l.2.1).1, op && !l.2.1.isEmpty) :: tks cm op1 ls := by rw [← hop]; rfl
    rw [e, et, flt_len]
    dsimp only
    generalize (lt cm op l.2.1).1 = ts at hN ⊢
    obtain ⟨n1, n2, n3, n4, n5, n6⟩ := hN
    obtain ⟨k1, k2, k3, k4, k5, k6, k7⟩ := ih (i + 1) op1 (adN (mA (mA M 10 i (M.1 12)) 11 i (b2i (op && !l.2.1.isEmpty))) i ts)
    generalize adN (mA (mA M 10 i (M.1 12)) 11 i (b2i (op && !l.2.1.isEmpty))) i ts = M1 at *
    generalize tkz cm (i + 1) op1 ls M1 = M2 at *
    have e0 : (mA (mA M 10 i (M.1 12)) 11 i (b2i (op && !l.2.1.isEmpty))).1 12 = M.1 12 := rfl
    rw [e0] at n4 n5 n6
    have e10 : M1.2.1 10 = fup (M.2.1 10) i (M.1 12) := n2
    have e11 : M1.2.1 11 = fup (M.2.1 11) i (b2i (op && !l.2.1.isEmpty)) := n3
    refine ⟨⟨fun k hk => (k1.1 k hk).trans (n1.1 k hk), fun j hj => ?_, k1.2.2.trans n1.2.2⟩, fun x hx => ⟨?_, ?_⟩, fun j hj => ?_, fun j hj => ?_, ?_, fun x hx => ?_, fun j hj => ?_⟩
    · rw [k1.2.1 j hj, n1.2.1 j hj, mA_ne hj.2.2.2.2.2, mA_ne hj.2.2.2.2.1]
    · rw [(k2 x (by omega)).1, e10, fup_ne (by omega)]
    · rw [(k2 x (by omega)).2, e11, fup_ne (by omega)]
    · cases j with
      | zero => rw [Nat.add_zero, (k2 i (by omega)).1, e10, fup_eq]; simp
      | succ j =>
        have := k3 j (by simp at hj; omega)
        rw [show i + (j + 1) = i + 1 + j by omega, this, n4, List.take_succ_cons, List.map_cons, List.sum_cons]
        dsimp only
        omega
    · cases j with
      | zero => rw [Nat.add_zero, (k2 i (by omega)).2, e11, fup_eq]; rfl
      | succ j =>
        have := k4 j (by simp at hj; omega)
        rw [show i + (j + 1) = i + 1 + j by omega, this]
        rfl
    · rw [k5, n4, List.length_append, List.length_map]; omega
    · have q1 := k6 x (by omega)
      have q2 := n5 x (by omega)
      exact ⟨q1.1.trans q2.1, q1.2.1.trans q2.2.1, q1.2.2.1.trans q2.2.2.1, q1.2.2.2.trans q2.2.2.2⟩
    · rw [List.length_append, List.length_map] at hj
      rw [List.getD_eq_getElem?_getD]
      by_cases hjt : j < ts.length
      · rw [List.getElem?_append_left (by rw [List.length_map]; exact hjt), List.getElem?_map, List.getElem?_eq_getElem hjt]
        have q1 := k6 (M.1 12 + j) (by omega)
        have q2 := n6 j hjt
        rw [List.getD_eq_getElem?_getD, List.getElem?_eq_getElem hjt] at q2
        exact ⟨q1.1.trans q2.1, q1.2.1.trans q2.2.1, q1.2.2.1.trans q2.2.2.1, q1.2.2.2.trans q2.2.2.2⟩
      · rw [List.getElem?_append_right (by rw [List.length_map]; omega), List.length_map, ← List.getD_eq_getElem?_getD]
        have := k7 (j - ts.length) (by omega)
        rw [n4, show M.1 12 + (ts.length : Int) + ((j - ts.length : Nat) : Int) = M.1 12 + j by omega] at this
        exact this
/-- the Model's rows of tokens hold those of S -/
def TK (M : MS) (S : SS) : Prop := (∀ i : Nat, i ≤ nL S → M.2.1 10 i = fstO S i) ∧ (∀ i : Nat, i < nL S → M.2.1 11 i = b2i (prot S i)) ∧ M.1 12 = (toks S).length ∧ ∀ t : Nat, t < (toks S).length → tkW M t (tA (toks S) t)
theorem TK.of : TK (tkz S.2.2.2.2 0 false S.1 (mP M 12 0)) S := by
  obtain ⟨-, -, k3, k4, k5, -, k7⟩ := tkz_spec (cm := S.2.2.2.2) S.1 0 false (mP M 12 0)
  have e : (mP M 12 0).1 12 = 0 := rfl
  rw [e] at k3 k5 k7
  refine ⟨fun i hi => ?_, fun i hi => ?_, by rw [k5]; show (0 : Int) + _ = _; rw [Int.zero_add]; rfl, fun t ht => ?_⟩
  · have := k3 i hi
    rw [Nat.zero_add, Int.zero_add] at this
    exact this
  · have := k4 i hi
    rw [Nat.zero_add] at this
    exact this
  · have := k7 t ht
    rw [Int.zero_add] at this
    exact this
/-! tokens lie in their lines -/
theorem tk_ok : ∀ (f p : Nat) (s : List Int), (tk cm f p s).1.length ≤ s.length ∧ ∀ t ∈ (tk cm f p s).1, p ≤ t.1 ∧ 1 ≤ t.2.1 ∧ t.1 + t.2.1 ≤ p + s.length ∧ t.2.2 ≤ 2 := by
  intro f
  induction f with
  | zero => intro p s; exact ⟨Nat.zero_le _, fun t ht => by cases ht⟩
  | succ f ih =>
    intro p s
    cases s with
    | nil => exact ⟨Nat.zero_le _, fun t ht => by cases ht⟩
    | cons c t =>
      have hc : ∀ (n q : Nat), 1 ≤ n → n ≤ t.length + 1 → q ≤ 2 → ((p, n, q) :: (tk cm f (p + n) (t.drop (n - 1))).1).length ≤ (c :: t).length ∧ ∀ z ∈ (p, n, q) :: (tk cm f (p + n) (t.drop (n - 1))).1, p ≤ z.1 ∧ 1 ≤ z.2.1 ∧ z.1 + z.2.1 ≤ p + (c :: t).length ∧ z.2.2 ≤ 2 := by
        intro n q h1 h2 h3
        have hi := ih (p + n) (t.drop (n - 1))
        rw [List.length_drop] at hi
        refine ⟨by simp only [List.length_cons]; omega, fun z hz => ?_⟩
        rcases List.mem_cons.mp hz with rfl | hz
        · exact ⟨Nat.le_refl _, h1, by simp only [List.length_cons]; omega, h3⟩
        · have := hi.2 z hz
          simp only [List.length_cons]
          omega
      rw [tk_c]
      by_cases h1 : c = 32
      · rw [if_pos h1]
        have hi := ih (p + 1) t
        refine ⟨by simp only [List.length_cons]; omega, fun z hz => ?_⟩
        have := hi.2 z hz
        simp only [List.length_cons]
        omega
      rw [if_neg h1]
      by_cases h2 : c = cm
      · rw [if_pos h2]; exact ⟨Nat.zero_le _, fun t ht => by cases ht⟩
      rw [if_neg h2]
      by_cases h3 : trip (c :: t) = true
      · rw [if_pos h3]
        have h3l := trip_lt (s := c :: t) (k := 0) h3
        simp only [List.length_cons] at h3l
        cases h4 : litS (t.drop 2) with
        | none =>
          refine ⟨by simp, fun z hz => ?_⟩
          rcases List.mem_cons.mp hz with rfl | hz
          · simp only [List.length_cons]; omega
          · cases hz
        | some n =>
          have hn := litS_le _ _ h4
          rw [List.length_drop] at hn
          have := hc (3 + n) 2 (by omega) (by omega) (by omega)
          rw [show 3 + n - 1 = 2 + n by omega, show p + (3 + n) = p + 3 + n by omega] at this
          exact this
      rw [if_neg h3]
      by_cases h4 : c = 34
      · rw [if_pos h4]
        have hs := strS_le t.length t (Nat.le_refl _)
        have := hc (1 + strS t) 2 (by omega) (by omega) (by omega)
        rw [show 1 + strS t - 1 = strS t by omega, show p + (1 + strS t) = p + 1 + strS t by omega] at this
        exact this
      rw [if_neg h4]
      by_cases h5 : wordB c = true
      · rw [if_pos h5]
        have hs := wrdS_le t
        have := hc (1 + wrdS t) 0 (by omega) (by omega) (by omega)
        rw [show 1 + wrdS t - 1 = wrdS t by omega, show p + (1 + wrdS t) = p + 1 + wrdS t by omega] at this
        exact this
      rw [if_neg h5]
      exact hc 1 1 (by omega) (by omega) (by omega)
theorem lt_ok {op : Bool} : (lt cm op s).1.length ≤ s.length ∧ ∀ t ∈ (lt cm op s).1, 1 ≤ t.2.1 ∧ t.1 + t.2.1 ≤ s.length ∧ t.2.2 ≤ 2 := by
  unfold lt
  cases op with
  | false =>
    have := tk_ok (cm := cm) 33 0 s
    refine ⟨this.1, fun t ht => ?_⟩
    have := this.2 t ht
    omega
  | true =>
    cases h : litS s with
    | none => exact ⟨Nat.zero_le _, fun t ht => by cases ht⟩
    | some n =>
      have hn := litS_le _ _ h
      have := tk_ok (cm := cm) 33 n (s.drop n)
      rw [List.length_drop] at this
      refine ⟨Nat.le_trans this.1 (by omega), fun t ht => ?_⟩
      have := this.2 t ht
      omega
/-- a token of a state -/
def tokOk (S : SS) (t : Tok) : Prop := t.1 < nL S ∧ 1 ≤ t.2.2.1 ∧ t.2.1 + t.2.2.1 ≤ (lnA S t.1).2.1.length ∧ t.2.2.2.1 ≤ 2 ∧ t.2.2.2.2 = if t.2.2.2.1 < 2 then ((lnA S t.1).2.1.drop t.2.1).take t.2.2.1 else []
theorem flt_ok : ∀ (ls : List Ln) (i : Nat) (op : Bool), S.1.drop i = ls → ∀ t ∈ flt i ls (tks cm op ls), tokOk S t ∧ i ≤ t.1 := by
  intro ls
  induction ls with
  | nil => intro i op _ t ht; cases ht
  | cons l ls ih =>
    intro i op h t ht
    have hi : i < S.1.length := by
      by_cases hi : i < S.1.length
      · exact hi
      · rw [List.drop_eq_nil_of_le (by omega)] at h; cases h
    have hd := List.drop_eq_getElem_cons hi
    rw [h] at hd
    have hl : lnA S i = l := by
      unfold lnA
      rw [List.getD_eq_getElem?_getD, List.getElem?_eq_getElem hi]
      exact (List.cons.inj hd).1.symm
    have ht : t ∈ (lt cm op l.2.1).1.map (mkT i l.2.1) ++ flt (i + 1) ls (tks cm (lt cm op l.2.1).2 ls) := ht
    rcases List.mem_append.mp ht with ht | ht
    · obtain ⟨k, hk, rfl⟩ := List.mem_map.mp ht
      have := (lt_ok (cm := cm) (op := op) (s := l.2.1)).2 k hk
      refine ⟨⟨hi, this.1, ?_, this.2.2, ?_⟩, Nat.le_refl _⟩
      · show k.1 + k.2.1 ≤ (lnA S i).2.1.length
        rw [hl]; exact this.2.1
      · show _ = if k.2.2 < 2 then ((lnA S i).2.1.drop k.1).take k.2.1 else []
        rw [hl]; rfl
    · have := ih (i + 1) _ (List.cons.inj hd).2.symm t ht
      exact ⟨this.1, by omega⟩
theorem toks_ok {t : Nat} (ht : t < (toks S).length) : tokOk S (tA (toks S) t) := by
  refine (flt_ok (S := S) (cm := S.2.2.2.2) S.1 0 false rfl _ ?_).1
  unfold tA
  rw [List.getD_eq_getElem?_getD, List.getElem?_eq_getElem ht]
  exact List.getElem_mem ht
end M9
