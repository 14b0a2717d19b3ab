/-! THE SPECIFICATION: every call keeps what always holds. -/
section OK
variable {A : AS} {S : SS} {t s : List Int} {n k m i j : Nat} {l : Ln} {stp bse : Int}
theorem rtr_last : ∀ s : List Int, (rtr s).getLast? ≠ some 32 := by
  refine rev_ind ?_ (fun s c ih => ?_)
  · intro h; cases h
  · rw [rtr_s]
    by_cases hc : c = 32
    · rw [if_pos hc]; exact ih
    · rw [if_neg hc, List.getLast?_append]
      intro h
      exact hc (by simpa using h)
theorem rtr_nil : ∀ s : List Int, rtr s = [] → ∀ x ∈ s, x = 32 := by
  refine rev_ind ?_ (fun s c ih => ?_)
  · intro _ x hx; cases hx
  · rw [rtr_s]
    by_cases hc : c = 32
    · rw [if_pos hc]
      intro h x hx
      rcases List.mem_append.mp hx with hx | hx
      · exact ih h x hx
      · rw [List.mem_singleton.mp hx]; exact hc
    · rw [if_neg hc]
      intro h
      simp at h
theorem dropW_head : ∀ t : List Int, (t.dropWhile (fun c => decide (c = 32))).head? ≠ some 32 := by
  intro t
  induction t with
  | nil => intro h; cases h
  | cons c t ih =>
    by_cases hc : c = 32
    · rw [List.dropWhile_cons_of_pos (by rw [decide_eq_true hc])]; exact ih
    · rw [List.dropWhile_cons_of_neg (by rw [decide_eq_false hc]; decide)]
      intro h
      exact hc (by simpa using h)
theorem rtr_head : ∀ s : List Int, s.head? ≠ some 32 → (rtr s).head? ≠ some 32 := by
  refine rev_ind ?_ (fun s c ih => ?_)
  · intro h; exact h
  · intro h
    rw [rtr_s]
    by_cases hc : c = 32
    · rw [if_pos hc]
      refine ih (fun hs => h ?_)
      rw [List.head?_append, hs]; rfl
    · rw [if_neg hc]; exact h
theorem rtr_mem : ∀ s : List Int, ∀ x ∈ rtr s, x ∈ s := by
  intro s x hx
  unfold rtr at hx
  rw [List.mem_reverse] at hx
  exact List.mem_reverse.mp ((List.dropWhile_sublist _).subset hx)
theorem bare_rtr : bare t = rtr (t.dropWhile (fun c => decide (c = 32))) := rfl
theorem bare_ok (h : ∀ c ∈ t, 32 ≤ c ∧ c ≤ 126) : (∀ c ∈ bare t, 32 ≤ c ∧ c ≤ 126) ∧ (bare t).head? ≠ some 32 ∧ (bare t).getLast? ≠ some 32 := by
  rw [bare_rtr]
  exact ⟨fun c hc => h c ((List.dropWhile_sublist _).subset (rtr_mem _ c hc)), rtr_head _ (dropW_head t), rtr_last _⟩
theorem bare_ne {c : Int} (h : t.head? = some c) (hc : c ≠ 32) : bare t ≠ [] := by
  cases t with
  | nil => cases h
  | cons d t =>
    have hd : d = c := by simpa using h
    intro hb
    rw [bare_rtr, List.dropWhile_cons_of_neg (by rw [decide_eq_false (by rw [hd]; exact hc)]; decide)] at hb
    exact hc (by rw [← hd]; exact rtr_nil _ hb d List.mem_cons_self)
theorem bare_le : (bare t).length ≤ t.length := by
  have := trN_rng (t := t) (lo := lead t) t.length lead_le
  rw [bare_len]; omega
theorem typL_ln {q : Int × List Int} {b : Bool} (ht : ∀ c ∈ t, 32 ≤ c ∧ c ≤ 126) (h : typL t = some q) : lnOk (q.1, q.2, b) := by
  obtain ⟨t1, t2, t3, t4⟩ := typL_ok h
  have hb := bare_ok ht
  have hbl := bare_len (t := t)
  have htr := trN_rng (t := t) (lo := lead t) t.length lead_le
  refine ⟨?_, t4, t2, by rw [t1]; exact hb.1, ?_, by rw [t1]; exact hb.2.1, by rw [t1]; exact hb.2.2⟩
  · show 0 ≤ q.1
    rw [t3]
    by_cases h : trN t (lead t) t.length = lead t
    · rw [if_pos h]; omega
    · rw [if_neg h]; omega
  · show q.2 = [] → q.1 = 0
    intro h0
    rw [t1] at h0
    rw [h0] at hbl
    simp only [List.length_nil] at hbl
    rw [t3, if_pos (by omega)]
/-- lines are changed -/
theorem ssOk.ls {L : List Ln} (h : ssOk S) (h1 : L.length ≤ 20) (h2 : ∀ l ∈ L, lnOk l) : ssOk (L, S.2) := ⟨h1, h2, h.2.2.1, h.2.2.2⟩
theorem ssOk.set (h : ssOk S) (hl : lnOk l) : ssOk (S.1.set i l, S.2) := by
  refine h.ls (by rw [List.length_set]; exact h.1) (fun x hx => ?_)
  rcases List.mem_or_eq_of_mem_set hx with hx | hx
  · exact h.2.1 x hx
  · rw [hx]; exact hl
theorem ssOk.ins (h : ssOk S) (hn : nL S < 20) (hi : i ≤ nL S) (hl : lnOk l) : ssOk (S.1.take i ++ l :: S.1.drop i, S.2) := by
  have hnl : nL S = S.1.length := rfl
  refine h.ls ?_ (fun x hx => ?_)
  · rw [List.length_append, List.length_cons, List.length_take, List.length_drop]; omega
  · rcases List.mem_append.mp hx with hx | hx
    · exact h.2.1 x (List.mem_of_mem_take hx)
    · rcases List.mem_cons.mp hx with hx | hx
      · rw [hx]; exact hl
      · exact h.2.1 x (List.mem_of_mem_drop hx)
theorem ssOk.era (h : ssOk S) : ssOk (S.1.eraseIdx i, S.2) := by
  refine h.ls ?_ (fun x hx => h.2.1 x (List.mem_of_mem_eraseIdx hx))
  have := List.length_eraseIdx_le S.1 i
  have := h.1
  omega
theorem ssOk.map {f : Nat → Ln → Ln} (h : ssOk S) (hf : ∀ i, i < nL S → lnOk (f i (lnA S i))) : ssOk (S.1.mapIdx f, S.2) := by
  refine h.ls (by rw [List.length_mapIdx]; exact h.1) (fun x hx => ?_)
  obtain ⟨i, hi, rfl⟩ := List.mem_mapIdx.mp hx
  have := hf i hi
  unfold lnA at this
  rw [List.getD_eq_getElem?_getD, List.getElem?_eq_getElem hi] at this
  exact this
theorem isL_lt {i : Int} (h : isL A i = true) : i.toNat < nL A.1 := by
  have := isL_ok h
  show i.toNat < A.1.1.length
  omega
theorem ok_type {c : Int} (hO : asOk A) : asOk (sp_type A c).2 := by
  unfold sp_type
  by_cases h1 : 32 ≤ c ∧ c ≤ 126
  · rw [if_pos h1]
    by_cases h2 : A.2.2.2.2.length = 72
    · rw [if_pos h2]; exact hO
    · rw [if_neg h2]
      refine ⟨hO.1, hO.2.1, hO.2.2.1, hO.2.2.2.1, ?_, fun d hd => ?_⟩
      · have := hO.2.2.2.2.1
        rw [List.length_append, List.length_singleton]; omega
      · rcases List.mem_append.mp hd with hd | hd
        · exact hO.2.2.2.2.2 d hd
        · rw [List.mem_singleton.mp hd]; exact h1
  · rw [if_neg h1]; exact hO
theorem ok_clear (hO : asOk A) : asOk (sp_clear A).2 := ⟨hO.1, hO.2.1, hO.2.2.1, hO.2.2.2.1, Nat.zero_le _, fun c hc => by cases hc⟩
theorem ok_insert {i : Int} (hO : asOk A) : asOk (sp_insert A i).2 := by
  unfold sp_insert
  by_cases h1 : 0 ≤ i ∧ i ≤ nL A.1
  · rw [if_pos h1]
    cases hl : typL A.2.2.2.2 with
    | none => exact hO
    | some q =>
      dsimp only
      by_cases h2 : nL A.1 = 20
      · rw [if_pos h2]; exact hO
      · rw [if_neg h2]
        have h20 : nL A.1 ≤ 20 := hO.1.1
        exact chg_ok hO (hO.1.ins (by omega) (by omega) (typL_ln hO.2.2.2.2.2 hl))
  · rw [if_neg h1]; exact hO
theorem ok_replace {i : Int} (hO : asOk A) : asOk (sp_replace A i).2 := by
  unfold sp_replace
  by_cases h1 : isL A i = true
  · rw [if_pos h1]
    cases hl : typL A.2.2.2.2 with
    | none => exact hO
    | some q => exact chg_ok hO (hO.1.set (typL_ln hO.2.2.2.2.2 hl))
  · rw [if_neg h1]; exact hO
theorem ok_remove {i : Int} (hO : asOk A) : asOk (sp_remove A i).2 := by
  unfold sp_remove
  by_cases h1 : isL A i = true
  · rw [if_pos h1]; exact chg_ok hO hO.1.era
  · rw [if_neg h1]; exact hO
theorem spl_ok (h : ssOk S) (hi : i < nL S) (hn : nL S < 20) (hk : 1 ≤ k ∧ k < (lnA S i).2.1.length) : ssOk (splS S i k) := by
  have hnl : nL S = S.1.length := rfl
  obtain ⟨x1, x2, x3, x4, x5, x6, x7⟩ := lnOk_at h hi
  have b1 := bare_ok (t := (lnA S i).2.1.take k) (fun c hc => x4 c (List.mem_of_mem_take hc))
  have b2 := bare_ok (t := (lnA S i).2.1.drop k) (fun c hc => x4 c (List.mem_of_mem_drop hc))
  have l1 := bare_le (t := (lnA S i).2.1.take k)
  have l2 := bare_le (t := (lnA S i).2.1.drop k)
  rw [List.length_take] at l1
  rw [List.length_drop] at l2
  have hne : bare ((lnA S i).2.1.take k) ≠ [] := by
    cases hs : (lnA S i).2.1 with
    | nil => rw [hs] at hk; simp at hk
    | cons c s =>
      obtain ⟨k', rfl⟩ : ∃ k', k = k' + 1 := ⟨k - 1, by omega⟩
      rw [List.take_succ_cons]
      refine bare_ne (c := c) rfl ?_
      rw [hs] at x6
      intro hc
      exact x6 (by rw [hc]; rfl)
  refine h.ls ?_ (fun x hx => ?_)
  · rw [List.length_append, List.length_cons, List.length_cons, List.length_take, List.length_drop]; omega
  · rcases List.mem_append.mp hx with hx | hx
    · exact h.2.1 x (List.mem_of_mem_take hx)
    · rcases List.mem_cons.mp hx with hx | hx
      · rw [hx]; exact ⟨x1, x2, by dsimp only; omega, b1.1, fun h => absurd h hne, b1.2.1, b1.2.2⟩
      · rcases List.mem_cons.mp hx with hx | hx
        · rw [hx]; exact ⟨Int.le_refl _, (by decide : (0 : Int) ≤ 40), by dsimp only; omega, b2.1, fun _ => rfl, b2.2.1, b2.2.2⟩
        · exact h.2.1 x (List.mem_of_mem_drop hx)
theorem ok_split {i k : Int} (hO : asOk A) : asOk (sp_split A i k).2 := by
  unfold sp_split
  by_cases h1 : isL A i = true ∧ 1 ≤ k ∧ k < (lnA A.1 i.toNat).2.1.length
  · rw [if_pos h1]
    by_cases h2 : nL A.1 = 20
    · rw [if_pos h2]; exact hO
    · rw [if_neg h2]
      dsimp only
      have h20 : nL A.1 ≤ 20 := hO.1.1
      have hil := isL_lt h1.1
      have hS1 := spl_ok (k := k.toNat) hO.1 hil (by omega) (by omega)
      have hn1 : nL (splS A.1 i.toNat k.toNat) = nL A.1 + 1 := by
        show (A.1.1.take _ ++ _ :: _ :: A.1.1.drop _).length = A.1.1.length + 1
        have : nL A.1 = A.1.1.length := rfl
        rw [List.length_append, List.length_cons, List.length_cons, List.length_take, List.length_drop]; omega
      generalize splS A.1 i.toNat k.toNat = S1 at *
      have hl1 := lnOk_at hS1 (show i.toNat + 1 < S1.1.length by show i.toNat + 1 < nL S1; omega)
      refine chg_ok hO (hS1.set ?_)
      by_cases hf : freL S1 (i.toNat + 1) = true
      · rw [if_pos hf]
        have hd := dcd_rng (S := S1) (ind := indS S1) (stp := S1.2.2.1) (bse := S1.2.2.2.1) (i := i.toNat + 1)
        refine ⟨hd.1, hd.2, hl1.2.2.1, hl1.2.2.2.1, fun h0 => ?_, hl1.2.2.2.2.2⟩
        have hb : blkL S1 (i.toNat + 1) = true := by
          show (lnA S1 (i.toNat + 1)).2.1.isEmpty = true
          rw [show (lnA S1 (i.toNat + 1)).2.1 = [] from h0]; rfl
        unfold freL at hf
        rw [hb] at hf
        cases hf
      · rw [if_neg hf]
        exact ⟨Int.le_refl _, (by decide : (0 : Int) ≤ 40), hl1.2.2.1, hl1.2.2.2.1, fun _ => rfl, hl1.2.2.2.2.2⟩
  · rw [if_neg h1]; exact hO
/-- two lines joined -/
def joL (x y : Ln) : List Int := if x.2.1 = [] then y.2.1 else if y.2.1 = [] then x.2.1 else x.2.1 ++ 32 :: y.2.1
theorem jo_ok {x y : Ln} (hx : lnOk x) (hy : lnOk y) (h : (joL x y).length ≤ 32) : lnOk (if x.2.1 = [] then y.1 else x.1, joL x y, x.2.2) := by
  unfold joL at h ⊢
  by_cases h1 : x.2.1 = []
  · rw [if_pos h1, if_pos h1]
    exact ⟨hy.1, hy.2.1, hy.2.2.1, hy.2.2.2.1, hy.2.2.2.2⟩
  · rw [if_neg h1] at h ⊢
    rw [if_neg h1]
    by_cases h2 : y.2.1 = []
    · rw [if_pos h2]
      exact hx
    · rw [if_neg h2] at h ⊢
      refine ⟨hx.1, hx.2.1, h, fun c hc => ?_, fun h0 => ?_, ?_, ?_⟩
      · rcases List.mem_append.mp hc with hc | hc
        · exact hx.2.2.2.1 c hc
        · rcases List.mem_cons.mp hc with hc | hc
          · rw [hc]; decide
          · exact hy.2.2.2.1 c hc
      · exact absurd (List.append_eq_nil_iff.mp h0).1 h1
      · show (x.2.1 ++ 32 :: y.2.1).head? ≠ some 32
        have := hx.2.2.2.2.2.1
        cases hs : x.2.1 with
        | nil => exact absurd hs h1
        | cons c s => rw [hs] at this; exact this
      · show (x.2.1 ++ 32 :: y.2.1).getLast? ≠ some 32
        have := hy.2.2.2.2.2.2
        rw [List.getLast?_append, List.getLast?_cons]
        cases hs : y.2.1 with
        | nil => exact absurd hs h2
        | cons c s =>
          rw [hs] at this
          rw [List.getLast?_cons] at this ⊢
          simpa using this
theorem ok_join {i : Int} (hO : asOk A) : asOk (sp_join A i).2 := by
  unfold sp_join
  by_cases h1 : isL A i = true ∧ isL A (i + 1) = true
  · rw [if_pos h1]
    dsimp only
    have e : (if (lnA A.1 i.toNat).2.1 = [] then (lnA A.1 (i.toNat + 1)).2.1 else if (lnA A.1 (i.toNat + 1)).2.1 = [] then (lnA A.1 i.toNat).2.1 else (lnA A.1 i.toNat).2.1 ++ 32 :: (lnA A.1 (i.toNat + 1)).2.1) = joL (lnA A.1 i.toNat) (lnA A.1 (i.toNat + 1)) := rfl
    rw [e]
    by_cases h2 : 32 < (joL (lnA A.1 i.toNat) (lnA A.1 (i.toNat + 1))).length
    · rw [if_pos h2]; exact hO
    · rw [if_neg h2]
      have hb := isL_lt h1.2
      have ha := isL_ok h1.1
      refine chg_ok hO ((hO.1.set (jo_ok (lnOk_at hO.1 (isL_lt h1.1)) (lnOk_at hO.1 ?_) (by omega))).era)
      show i.toNat + 1 < nL A.1
      omega
  · rw [if_neg h1]; exact hO
theorem ok_shift {f t d : Int} (hO : asOk A) : asOk (sp_shift A f t d).2 := by
  unfold sp_shift
  by_cases h1 : rngB A f t = true ∧ -40 ≤ d ∧ d ≤ 40
  · rw [if_pos h1]
    dsimp only
    have hr := of_decide_eq_true h1.1
    by_cases h2 : ((List.range (t.toNat - f.toNat)).map (· + f.toNat)).all (fun i => blkL A.1 i || decide (0 ≤ (lnA A.1 i).1 + d ∧ (lnA A.1 i).1 + d ≤ 40)) = true
    · rw [if_pos h2]
      refine chg_ok hO (hO.1.map (fun i hi => ?_))
      have hl := lnOk_at hO.1 hi
      by_cases h3 : f ≤ (i : Int) ∧ (i : Int) < t ∧ (lnA A.1 i).2.1 ≠ []
      · rw [if_pos h3]
        have := List.all_eq_true.mp h2 i (List.mem_map.mpr ⟨i - f.toNat, List.mem_range.mpr (by omega), by omega⟩)
        have hb : blkL A.1 i = false := by
          show (lnA A.1 i).2.1.isEmpty = false
          cases hs : (lnA A.1 i).2.1 with
          | nil => exact absurd hs h3.2.2
          | cons c s => rfl
        rw [hb, Bool.false_or] at this
        have := of_decide_eq_true this
        exact ⟨this.1, this.2, hl.2.2.1, hl.2.2.2.1, fun h0 => absurd h0 h3.2.2, hl.2.2.2.2.2⟩
      · rw [if_neg h3]; exact hl
    · rw [if_neg h2]; exact hO
  · rw [if_neg h1]; exact hO
theorem ok_pin {i : Int} (hO : asOk A) : asOk (sp_pin A i).2 := by
  unfold sp_pin
  by_cases h1 : isL A i = true
  · rw [if_pos h1]
    exact chg_ok hO (hO.1.set (lnOk_at hO.1 (isL_lt h1)))
  · rw [if_neg h1]; exact hO
theorem rei_ok (hS : ssOk S) : ∀ n, ∀ j, j < nL S → (0 ≤ (rei S stp bse m n).1 j ∧ (rei S stp bse m n).1 j ≤ 40) ∧ (blkL S j = true → (rei S stp bse m n).1 j = indS S j) := by
  intro n
  induction n with
  | zero => intro j hj; exact ⟨indS_ok hS hj, fun _ => rfl⟩
  | succ n ih =>
    intro j hj
    rw [rei_s]
    unfold reS
    by_cases h : (freL S (m + n) && !pinB S (m + n)) = true
    · rw [if_pos h]
      have hd := dcd_rng (S := S) (ind := (rei S stp bse m n).1) (stp := stp) (bse := bse) (i := m + n)
      show (0 ≤ nup _ _ _ j ∧ nup _ _ _ j ≤ 40) ∧ (_ → nup _ _ _ j = _)
      unfold nup
      by_cases hj2 : j = m + n
      · rw [if_pos hj2]
        refine ⟨hd, fun hb => ?_⟩
        rw [← hj2] at h
        unfold freL at h
        rw [hb] at h
        cases h
      · rw [if_neg hj2]; exact ih j hj
    · rw [if_neg h]; exact ih j hj
theorem ok_reindent {f t : Int} (hO : asOk A) : asOk (sp_reindent A f t).2 := by
  unfold sp_reindent
  by_cases h1 : rngB A f t = true
  · rw [if_pos h1]
    dsimp only
    refine chg_ok hO (hO.1.map (fun i hi => ?_))
    have hl := lnOk_at hO.1 hi
    have hr := rei_ok (stp := A.1.2.2.1) (bse := A.1.2.2.2.1) (m := f.toNat) hO.1 (t.toNat - f.toNat) i hi
    by_cases h3 : f ≤ (i : Int) ∧ (i : Int) < t
    · rw [if_pos h3]
      refine ⟨hr.1.1, hr.1.2, hl.2.2.1, hl.2.2.2.1, fun h0 => ?_, hl.2.2.2.2.2⟩
      show (rei A.1 A.1.2.2.1 A.1.2.2.2.1 f.toNat (t.toNat - f.toNat)).1 i = 0
      rw [hr.2 (by show (lnA A.1 i).2.1.isEmpty = true; rw [show (lnA A.1 i).2.1 = [] from h0]; rfl)]
      exact hl.2.2.2.2.1 h0
    · rw [if_neg h3]; exact hl
  · rw [if_neg h1]; exact hO
theorem ok_setStep {v : Int} (hO : asOk A) : asOk (sp_setStep A v).2 := by
  unfold sp_setStep
  by_cases h : 1 ≤ v ∧ v ≤ 8
  · rw [if_pos h]; exact chg_ok hO ⟨hO.1.1, hO.1.2.1, hO.1.2.2.1, h, hO.1.2.2.2.2⟩
  · rw [if_neg h]; exact hO
theorem ok_setBase {v : Int} (hO : asOk A) : asOk (sp_setBase A v).2 := by
  unfold sp_setBase
  by_cases h : 0 ≤ v ∧ v ≤ 20
  · rw [if_pos h]; exact chg_ok hO ⟨hO.1.1, hO.1.2.1, hO.1.2.2.1, hO.1.2.2.2.1, h, hO.1.2.2.2.2.2⟩
  · rw [if_neg h]; exact hO
theorem ok_setComment {c : Int} (hO : asOk A) : asOk (sp_setComment A c).2 := by
  unfold sp_setComment
  by_cases h : cmOk c = true
  · rw [if_pos h]; exact chg_ok hO ⟨hO.1.1, hO.1.2.1, hO.1.2.2.1, hO.1.2.2.2.1, hO.1.2.2.2.2.1, h⟩
  · rw [if_neg h]; exact hO
theorem word_rng {c : Int} (h : wordB c = true) : 33 ≤ c ∧ c ≤ 126 := by
  unfold wordB inB at h
  simp only [Bool.or_eq_true, decide_eq_true_eq] at h
  omega
theorem tw_ok : ∀ s : List Int, ∀ c ∈ s.take (wrdS s), wordB c = true := by
  intro s
  induction s with
  | nil => intro c hc; simp at hc
  | cons d s ih =>
    intro c hc
    unfold wrdS at hc
    by_cases h : wordB d = true
    · rw [List.takeWhile_cons_of_pos h, List.length_cons, List.take_succ_cons] at hc
      rcases List.mem_cons.mp hc with hc | hc
      · rw [hc]; exact h
      · exact ih c hc
    · rw [List.takeWhile_cons_of_neg h] at hc
      simp at hc
theorem lead_stop : ∀ s : List Int, s.getD (lead s) (-9) ≠ 32 := by
  intro s
  induction s with
  | nil => intro h; cases h
  | cons d s ih =>
    unfold lead at *
    by_cases h : d = 32
    · rw [List.takeWhile_cons_of_pos (by rw [decide_eq_true h]), List.length_cons]; exact ih
    · rw [List.takeWhile_cons_of_neg (by rw [decide_eq_false h]; decide)]; exact h
theorem rdT_ok {p e : Nat} {x : List Int} (ht : ∀ c ∈ t, 32 ≤ c ∧ c ≤ 126) (h : rdT t p = .inl (e, x)) : txOk x := by
  unfold rdT at h
  dsimp only at h
  generalize hq : p + lead (t.drop p) = q at h
  have hw := wrdS_le (t.drop q)
  rw [List.length_drop] at hw
  by_cases h1 : 8 < wrdS (t.drop q)
  · rw [if_pos h1] at h; cases h
  · rw [if_neg h1] at h
    by_cases h2 : 0 < wrdS (t.drop q)
    · rw [if_pos h2] at h
      cases h
      refine ⟨by rw [List.length_take, List.length_drop]; omega, by rw [List.length_take, List.length_drop]; omega, fun c hc => ?_⟩
      exact word_rng (tw_ok _ c hc)
    · rw [if_neg h2] at h
      by_cases h3 : t.length ≤ q
      · rw [if_pos h3] at h; cases h
      · rw [if_neg h3] at h
        by_cases h4 : t.getD q 0 = 34
        · rw [if_pos h4] at h; cases h
        · rw [if_neg h4] at h
          cases h
          refine ⟨by simp, by simp, fun c hc => ?_⟩
          rw [List.mem_singleton.mp hc, getD_in (show q < t.length by omega)]
          have h5 := ht t[q] (List.getElem_mem _)
          have h6 : t[q] ≠ 32 := by
            have := lead_stop (t.drop p)
            rw [drop_getD, hq, getD_in (show q < t.length by omega)] at this
            exact this
          omega
theorem lay_ok {r : Int} {R : Rl} (hO : asOk A) (hR : rlOk R) : asOk (lay A r R).2 := by
  refine chg_ok hO ⟨hO.1.1, hO.1.2.1, fun k Q hQ => ?_, hO.1.2.2.2⟩
  have hQ : (if k = r.toNat then some R else A.1.2.1 k) = some Q := hQ
  by_cases h : k = r.toNat
  · rw [if_pos h] at hQ; cases hQ; exact hR
  · rw [if_neg h] at hQ; exact hO.1.2.2.1 k Q hQ
theorem inB_of {v a b : Int} (h : inB v a b = true) : a ≤ v ∧ v ≤ b := of_decide_eq_true h
theorem ok_pair {r p s m c : Int} (hO : asOk A) : asOk (sp_pair A r p s m c).2 := by
  unfold sp_pair
  by_cases h : (rlB r p && inB s 0 4 && inB m 0 1 && inB c 0 2) = true
  · rw [if_pos h]
    unfold rlB at h
    simp only [Bool.and_eq_true] at h
    obtain ⟨⟨⟨⟨-, h1⟩, h2⟩, h3⟩, h4⟩ := h
    have h1 := inB_of h1
    have h2 := inB_of h2
    have h3 := inB_of h3
    have h4 := inB_of h4
    cases e1 : rdT A.2.2.2.2 0 with
    | inr f => exact hO
    | inl x =>
      dsimp only
      cases e2 : rdT A.2.2.2.2 x.1 with
      | inr f => exact hO
      | inl y =>
        dsimp only
        cases e3 : rdE A.2.2.2.2 y.1 with
        | some f => exact hO
        | none => exact lay_ok hO ⟨⟨(by decide : (1 : Int) ≤ 1), (by decide : (1 : Int) ≤ 3)⟩, h1, ⟨by dsimp only; omega, h2.2⟩, fun _ => h2.1, h3, h4, rdT_ok (e := x.1) hO.2.2.2.2.2 e1, fun _ => rdT_ok (e := y.1) hO.2.2.2.2.2 e2⟩
  · rw [if_neg h]; exact hO
theorem ok_single {so r p s : Int} (hso : so = 2 ∨ so = 3) (hO : asOk A) : asOk (sp_single A so r p s).2 := by
  unfold sp_single
  by_cases h : (rlB r p && inB s (-4) 4) = true
  · rw [if_pos h]
    unfold rlB at h
    simp only [Bool.and_eq_true] at h
    obtain ⟨⟨-, h1⟩, h2⟩ := h
    have h1 := inB_of h1
    have h2 := inB_of h2
    cases e1 : rdT A.2.2.2.2 0 with
    | inr f => exact hO
    | inl x =>
      dsimp only
      cases e3 : rdE A.2.2.2.2 x.1 with
      | some f => exact hO
      | none => exact lay_ok hO ⟨⟨by dsimp only; omega, by dsimp only; omega⟩, h1, h2, fun h => by dsimp only at h; omega, ⟨Int.le_refl _, (by decide : (0 : Int) ≤ 1)⟩, ⟨Int.le_refl _, (by decide : (0 : Int) ≤ 2)⟩, rdT_ok (e := x.1) hO.2.2.2.2.2 e1, fun h => by dsimp only at h; omega⟩
  · rw [if_neg h]; exact hO
theorem ok_dropRule {r : Int} (hO : asOk A) : asOk (sp_dropRule A r).2 := by
  unfold sp_dropRule
  by_cases h : (inB r 0 11 && (A.1.2.1 r.toNat).isSome) = true
  · rw [if_pos h]
    refine chg_ok hO ⟨hO.1.1, hO.1.2.1, fun k Q hQ => ?_, hO.1.2.2.2⟩
    have hQ : (if k = r.toNat then none else A.1.2.1 k) = some Q := hQ
    by_cases h : k = r.toNat
    · rw [if_pos h] at hQ; cases hQ
    · rw [if_neg h] at hQ; exact hO.1.2.2.1 k Q hQ
  · rw [if_neg h]; exact hO
theorem ok_undo (hO : asOk A) : asOk (sp_undo A).2 := by
  unfold sp_undo
  cases h : A.2.1.getLast? with
  | none => exact hO
  | some S =>
    refine ⟨hO.2.1.2 S (List.mem_of_getLast? h), ⟨?_, fun Q hQ => hO.2.1.2 Q (List.dropLast_subset _ hQ)⟩, hO.2.2⟩
    have := hO.2.1.1
    show A.2.1.dropLast.length ≤ 8
    rw [List.length_dropLast]; omega
theorem ok_keep {k : Int} (hO : asOk A) : asOk (sp_keep A k).2 := by
  unfold sp_keep
  by_cases h0 : k = 0
  · rw [if_pos h0]; exact ⟨hO.1, hO.2.1, fun S hS => by cases hS; exact hO.1, hO.2.2.2⟩
  · rw [if_neg h0]
    by_cases h1 : k = 1
    · rw [if_pos h1]; exact ⟨hO.1, hO.2.1, hO.2.2.1, fun S hS => by cases hS; exact hO.1, hO.2.2.2.2⟩
    · rw [if_neg h1]; exact hO
theorem ok_back {k : Int} (hO : asOk A) : asOk (sp_back A k).2 := by
  unfold sp_back
  cases h : img A k with
  | none => exact hO
  | some S =>
    have hS : ssOk S := by
      unfold img at h
      by_cases h0 : k = 0
      · rw [if_pos h0] at h; exact hO.2.2.1 S h
      · rw [if_neg h0] at h
        by_cases h1 : k = 1
        · rw [if_pos h1] at h; exact hO.2.2.2.1 S h
        · rw [if_neg h1] at h; cases h
    exact ⟨hS, ⟨Nat.zero_le _, fun Q hQ => by cases hQ⟩, hO.2.2⟩
/-- pieces of drawn lines -/
def pcOk (x : List Int) : Prop := 1 ≤ x.length ∧ x.length ≤ 5 ∧ (∀ c ∈ x, 33 ≤ c ∧ c ≤ 126)
theorem pcs_ok (k : Nat) : pcOk (pcs k) := by
  unfold pcs pcOk
  split <;> decide
theorem drP_ok {z : Int} : ∀ n, (drP z n).2.length + 1 ≤ 6 * n + 1 ∧ (n = 0 → (drP z n).2 = []) ∧ (1 ≤ n → (drP z n).2.length + 1 ≤ 6 * n) ∧ (∀ c ∈ (drP z n).2, 32 ≤ c ∧ c ≤ 126) ∧ (1 ≤ n → (∃ c, (drP z n).2.head? = some c ∧ c ≠ 32) ∧ ∃ c, (drP z n).2.getLast? = some c ∧ c ≠ 32) := by
  intro n
  induction n with
  | zero => exact ⟨by simp [drP], fun _ => rfl, fun h => (by omega), fun c hc => (by cases hc), fun h => (by omega)⟩
  | succ n ih =>
    have hp := pcs_ok (outD (nxD (drP z n).1) % 16).toNat
    have e : (drP z (n + 1)).2 = (drP z n).2 ++ ((if n = 0 then [] else [32]) ++ pcs (outD (nxD (drP z n).1) % 16).toNat) := rfl
    rw [e]
    obtain ⟨i1, i2, i3, i4, i5⟩ := ih
    generalize (drP z n).2 = s at *
    generalize pcs (outD (nxD (drP z n).1) % 16).toNat = x at *
    obtain ⟨p1, p2, p3⟩ := hp
    have hxl : ∃ c, x.getLast? = some c ∧ c ≠ 32 := by
      cases x with
      | nil => simp at p1
      | cons d x =>
        refine ⟨(d :: x).getLast (by simp), List.getLast?_eq_some_getLast _, ?_⟩
        have := p3 _ (List.getLast_mem (l := d :: x) (by simp))
        omega
    obtain ⟨cl, hcl, hcl2⟩ := hxl
    have hlen : (s ++ ((if n = 0 then [] else [32]) ++ x)).length + 1 ≤ 6 * (n + 1) := by
      rw [List.length_append, List.length_append]
      by_cases h0 : n = 0
      · rw [if_pos h0, i2 h0]; simp; omega
      · rw [if_neg h0]; have := i3 (by omega); simp; omega
    refine ⟨by omega, fun h => by omega, fun _ => hlen, fun c hc => ?_, fun _ => ⟨?_, cl, ?_, hcl2⟩⟩
    · rcases List.mem_append.mp hc with hc | hc
      · exact i4 c hc
      · rcases List.mem_append.mp hc with hc | hc
        · by_cases h0 : n = 0
          · rw [if_pos h0] at hc; cases hc
          · rw [if_neg h0] at hc; rw [List.mem_singleton.mp hc]; decide
        · have := p3 c hc; omega
    · by_cases h0 : n = 0
      · rw [if_pos h0, i2 h0, List.nil_append, List.nil_append]
        cases x with
        | nil => simp at p1
        | cons d x => exact ⟨d, rfl, by have := p3 d List.mem_cons_self; omega⟩
      · obtain ⟨c, hc, hc2⟩ := (i5 (by omega)).1
        exact ⟨c, by rw [List.head?_append, hc]; rfl, hc2⟩
    · rw [List.getLast?_append, List.getLast?_append, hcl]; rfl
theorem drL_ok {z : Int} : lnOk (drL z).2 := by
  unfold drL
  dsimp only
  have ho : ∀ w, 0 ≤ outD w ∧ outD w < 32768 := fun w => by unfold outD; omega
  have h1 := ho (nxD z)
  have h2 := ho (nxD (nxD z))
  obtain ⟨n, hn, hn1⟩ : ∃ n : Nat, (1 + outD (nxD (nxD z)) % 3).toNat = n ∧ 1 ≤ n ∧ n ≤ 3 := ⟨_, rfl, by omega, by omega⟩
  rw [hn]
  obtain ⟨i1, i2, i3, i4, i5⟩ := drP_ok (z := nxD (nxD z)) n
  obtain ⟨⟨c, c1, c2⟩, d, d1, d2⟩ := i5 hn1.1
  have i3 := i3 hn1.1
  refine ⟨by dsimp only; omega, by dsimp only; omega, by dsimp only; omega, i4, fun h0 => ?_, ?_, ?_⟩
  · dsimp only at h0; rw [h0] at c1; cases c1
  · dsimp only; rw [c1]; intro h; cases h; exact c2 rfl
  · dsimp only; rw [d1]; intro h; cases h; exact d2 rfl
theorem drN_ok {z : Int} : ∀ n, (drN z n).2.length = n ∧ ∀ l ∈ (drN z n).2, lnOk l := by
  intro n
  induction n with
  | zero => exact ⟨rfl, fun l hl => by cases hl⟩
  | succ n ih =>
    have e : (drN z (n + 1)).2 = (drN z n).2 ++ [(drL (drN z n).1).2] := rfl
    rw [e]
    refine ⟨by rw [List.length_append, List.length_singleton, ih.1], fun l hl => ?_⟩
    rcases List.mem_append.mp hl with hl | hl
    · exact ih.2 l hl
    · rw [List.mem_singleton.mp hl]; exact drL_ok
theorem ok_draw {z n : Int} (hO : asOk A) : asOk (sp_draw A z n).2 := by
  unfold sp_draw
  by_cases h : 1 ≤ n ∧ n ≤ 12
  · rw [if_pos h]
    dsimp only
    have hd := drN_ok (z := z) (min n.toNat (20 - nL A.1))
    have h20 : nL A.1 ≤ 20 := hO.1.1
    have hn : nL A.1 = A.1.1.length := rfl
    refine chg_ok hO (hO.1.ls ?_ (fun l hl => ?_))
    · rw [List.length_append, hd.1]; omega
    · rcases List.mem_append.mp hl with hl | hl
      · exact hO.1.2.1 l hl
      · exact hd.2 l hl
  · rw [if_neg h]; exact hO
theorem ok_0 : asOk as0 := ⟨⟨Nat.zero_le _, fun l hl => (by cases hl), fun r R h => (by cases h), ⟨by decide, by decide⟩, ⟨by decide, by decide⟩, by decide⟩, ⟨Nat.zero_le _, fun S hS => (by cases hS)⟩, fun S hS => (by cases hS), fun S hS => (by cases hS), Nat.zero_le _, fun c hc => (by cases hc)⟩
end OK
