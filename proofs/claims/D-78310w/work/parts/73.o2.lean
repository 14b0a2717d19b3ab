/-! Texts of tokens and their counts; THE MODEL: vocabulary, commonest. -/
section O2
variable {X : gCx} {hp : gHp} {a : Nat} {M M' : MS} {A : AS} {S : SS} {t u n k m lo : Nat} {cm : Int} {T : List Tok}
theorem take_s {α : Type} : ∀ (T : List α) (n : Nat) (h : n < T.length), T.take (n + 1) = T.take n ++ [T[n]] := by
  intro T
  induction T with
  | nil => intro n h; simp at h
  | cons c T ih =>
    intro n h
    cases n with
    | zero => rfl
    | succ n =>
      have := ih n (by simp at h; omega)
      rw [List.take_succ_cons, this]
      rfl
theorem rev_ind {α : Type} {P : List α → Prop} (h0 : P []) (hs : ∀ (L : List α) (x : α), P L → P (L ++ [x])) (L : List α) : P L := by
  have : ∀ K : List α, P K.reverse := by
    intro K
    induction K with
    | nil => exact h0
    | cons x K ih => rw [List.reverse_cons]; exact hs _ _ ih
  have h := this L.reverse
  rwa [List.reverse_reverse] at h
theorem tk_kd : ∀ (f p : Nat) (s : List Int), ∀ t ∈ (tk cm f p s).1, (t.2.2 = 0 → wordB (s.getD (t.1 - p) (-9)) = true) ∧ (t.2.2 = 1 → wordB (s.getD (t.1 - p) (-9)) = false) := by
  intro f
  induction f with
  | zero => intro p s t ht; cases ht
  | succ f ih =>
    intro p s
    cases s with
    | nil => intro t ht; cases ht
    | cons c s =>
      have hrec : ∀ n : Nat, 1 ≤ n → ∀ t ∈ (tk cm f (p + n) (s.drop (n - 1))).1, (t.2.2 = 0 → wordB ((c :: s).getD (t.1 - p) (-9)) = true) ∧ (t.2.2 = 1 → wordB ((c :: s).getD (t.1 - p) (-9)) = false) := by
        intro n hn t ht
        have h1 := ih (p + n) (s.drop (n - 1)) t ht
        have h2 := (tk_ok (cm := cm) f (p + n) (s.drop (n - 1))).2 t ht
        rw [drop_getD] at h1
        have e : (c :: s).getD (t.1 - p) (-9) = s.getD (n - 1 + (t.1 - (p + n))) (-9) := by
          rw [show t.1 - p = (n - 1 + (t.1 - (p + n))) + 1 by omega]; rfl
        rw [e]
        exact h1
      have hc : ∀ (n q : Nat), 1 ≤ n → (q = 0 → wordB c = true) → (q = 1 → wordB c = false) → ∀ t ∈ (p, n, q) :: (tk cm f (p + n) (s.drop (n - 1))).1, (t.2.2 = 0 → wordB ((c :: s).getD (t.1 - p) (-9)) = true) ∧ (t.2.2 = 1 → wordB ((c :: s).getD (t.1 - p) (-9)) = false) := by
        intro n q hn h0 h1 t ht
        rcases List.mem_cons.mp ht with rfl | ht
        · show (q = 0 → wordB ((c :: s).getD (p - p) (-9)) = true) ∧ (q = 1 → wordB ((c :: s).getD (p - p) (-9)) = false)
          rw [Nat.sub_self]
          exact ⟨h0, h1⟩
        · exact hrec n hn t ht
      rw [tk_c]
      by_cases h1 : c = 32
      · rw [if_pos h1]; exact hrec 1 (by omega)
      rw [if_neg h1]
      by_cases h2 : c = cm
      · rw [if_pos h2]; intro t ht; cases ht
      rw [if_neg h2]
      by_cases h3 : trip (c :: s) = true
      · rw [if_pos h3]
        cases h4 : litS (s.drop 2) with
        | none =>
          intro t ht
          rcases List.mem_cons.mp ht with rfl | ht
          · exact ⟨fun h => absurd (show (2 : Nat) = 0 from h) (by decide), fun h => absurd (show (2 : Nat) = 1 from h) (by decide)⟩
          · cases ht
        | some n =>
          have := hc (3 + n) 2 (by omega) (fun h => absurd h (by decide)) (fun h => absurd h (by decide))
          rw [show 3 + n - 1 = 2 + n by omega, show p + (3 + n) = p + 3 + n by omega] at this
          exact this
      rw [if_neg h3]
      by_cases h4 : c = 34
      · rw [if_pos h4]
        have := hc (1 + strS s) 2 (by omega) (fun h => absurd h (by decide)) (fun h => absurd h (by decide))
        rw [show 1 + strS s - 1 = strS s by omega, show p + (1 + strS s) = p + 1 + strS s by omega] at this
        exact this
      rw [if_neg h4]
      by_cases h5 : wordB c = true
      · rw [if_pos h5]
        have := hc (1 + wrdS s) 0 (by omega) (fun _ => h5) (fun h => absurd h (by decide))
        rw [show 1 + wrdS s - 1 = wrdS s by omega, show p + (1 + wrdS s) = p + 1 + wrdS s by omega] at this
        exact this
      rw [if_neg h5]
      exact hc 1 1 (by omega) (fun h => absurd h (by decide)) (fun _ => by simpa using h5)
theorem lt_kd {op : Bool} {s : List Int} : ∀ t ∈ (lt cm op s).1, (t.2.2 = 0 → wordB (s.getD t.1 (-9)) = true) ∧ (t.2.2 = 1 → wordB (s.getD t.1 (-9)) = false) := by
  intro t ht
  unfold lt at ht
  cases op with
  | false => exact tk_kd 33 0 s t ht
  | true =>
    rw [if_pos rfl] at ht
    cases h : litS s with
    | none => rw [h] at ht; cases ht
    | some n =>
      rw [h] at ht
      have h1 := tk_kd 33 n (s.drop n) t ht
      have h2 := (tk_ok (cm := cm) 33 n (s.drop n)).2 t ht
      rw [drop_getD, show n + (t.1 - n) = t.1 by omega] at h1
      exact h1
theorem flt_kd : ∀ (ls : List Ln) (i : Nat) (op : Bool), S.1.drop i = ls → ∀ t ∈ flt i ls (tks cm op ls), (t.2.2.2.1 = 0 → wordB ((lnA S t.1).2.1.getD t.2.1 (-9)) = true) ∧ (t.2.2.2.1 = 1 → wordB ((lnA S t.1).2.1.getD t.2.1 (-9)) = false) := by
  intro ls
  induction ls with
  | nil => intro i op _ t ht; cases ht
  | cons l ls ih =>
    intro i op h t ht
    obtain ⟨hi, hl, hd⟩ := drop_cons' h
    have ht : t ∈ (lt cm op l.2.1).1.map (mkT i l.2.1) ++ flt (i + 1) ls (tks cm (lt cm op l.2.1).2 ls) := ht
    rcases List.mem_append.mp ht with ht | ht
    · obtain ⟨k, hk, rfl⟩ := List.mem_map.mp ht
      have := lt_kd (cm := cm) (op := op) (s := l.2.1) k hk
      rw [← hl] at this ⊢
      exact this
    · exact ih (i + 1) _ hd t ht
theorem tA_mem (ht : t < (toks S).length) : tA (toks S) t ∈ flt 0 S.1 (tks S.2.2.2.2 false S.1) := by
  unfold tA
  rw [List.getD_eq_getElem?_getD, List.getElem?_eq_getElem ht]
  exact List.getElem_mem ht
/-- a token's kind is told by its text -/
theorem tok_kd (ht : t < (toks S).length) (hk : (tA (toks S) t).2.2.2.1 < 2) : wordB ((tA (toks S) t).2.2.2.2.getD 0 (-9)) = decide ((tA (toks S) t).2.2.2.1 = 0) := by
  have h1 := flt_kd (S := S) (cm := S.2.2.2.2) S.1 0 false rfl _ (tA_mem ht)
  obtain ⟨o1, o2, o3, o4, o5⟩ := toks_ok ht
  rw [if_pos hk] at o5
  have e : (tA (toks S) t).2.2.2.2.getD 0 (-9) = (lnA S (tA (toks S) t).1).2.1.getD (tA (toks S) t).2.1 (-9) := by
    rw [o5, List.getD_eq_getElem?_getD, List.getElem?_take_of_lt (by omega), List.getElem?_drop, ← List.getD_eq_getElem?_getD, Nat.add_zero]
  rw [e]
  by_cases h0 : (tA (toks S) t).2.2.2.1 = 0
  · rw [h1.1 h0, decide_eq_true h0]
  · rw [h1.2 (by omega), decide_eq_false h0]
/-- the texts of the first n tokens -/
def txN (T : List Tok) (n : Nat) : List (List Int) := ((T.take n).filter (fun t => decide (t.2.2.2.1 < 2))).map (fun t => t.2.2.2.2)
theorem txN_s (h : n < T.length) : txN T (n + 1) = if (tA T n).2.2.2.1 < 2 then txN T n ++ [(tA T n).2.2.2.2] else txN T n := by
  have e : T[n] = tA T n := by unfold tA; rw [List.getD_eq_getElem?_getD, List.getElem?_eq_getElem h]; rfl
  unfold txN
  rw [take_s T n h, List.filter_append, List.map_append, e]
  by_cases hk : (tA T n).2.2.2.1 < 2
  · rw [if_pos hk, List.filter_cons_of_pos (by rw [decide_eq_true hk])]; rfl
  · rw [if_neg hk, List.filter_cons_of_neg (by rw [decide_eq_false hk]; decide)]; simp
theorem txN_n : txN (toks S) (toks S).length = txs S := by unfold txN txs; rw [List.take_length]
theorem txN_mem {x : List Int} : ∀ n, n ≤ T.length → (x ∈ txN T n ↔ ∃ u, u < n ∧ (tA T u).2.2.2.1 < 2 ∧ (tA T u).2.2.2.2 = x) := by
  intro n
  induction n with
  | zero =>
    intro _
    constructor
    · intro h; simp [txN] at h
    · rintro ⟨u, hu, -⟩; omega
  | succ n ih =>
    intro hn
    have hi := ih (by omega)
    rw [txN_s (by omega)]
    by_cases hk : (tA T n).2.2.2.1 < 2
    · rw [if_pos hk, List.mem_append, hi, List.mem_singleton]
      constructor
      · rintro (⟨u, h1, h2⟩ | h)
        · exact ⟨u, by omega, h2⟩
        · exact ⟨n, by omega, hk, h.symm⟩
      · rintro ⟨u, h1, h2, h3⟩
        by_cases hun : u = n
        · subst hun; exact Or.inr h3.symm
        · exact Or.inl ⟨u, by omega, h2, h3⟩
    · rw [if_neg hk, hi]
      constructor
      · rintro ⟨u, h1, h2⟩; exact ⟨u, by omega, h2⟩
      · rintro ⟨u, h1, h2, h3⟩
        by_cases hun : u = n
        · subst hun; exact absurd h2 hk
        · exact ⟨u, by omega, h2, h3⟩
theorem dst_s {L : List (List Int)} {x : List Int} : dst (L ++ [x]) = if x ∈ dst L then dst L else dst L ++ [x] := by
  unfold dst
  rw [List.foldl_append]
  rfl
theorem dst_len : ∀ L : List (List Int), (dst L).length ≤ L.length ∧ ∀ x, x ∈ dst L ↔ x ∈ L := by
  intro L
  refine rev_ind (P := fun L => (dst L).length ≤ L.length ∧ ∀ x, x ∈ dst L ↔ x ∈ L) ?_ (fun L y ih => ?_) L
  · exact ⟨Nat.le_refl _, fun x => Iff.rfl⟩
  · rw [dst_s]
    by_cases h : y ∈ dst L
    · rw [if_pos h]
      refine ⟨by rw [List.length_append]; have := ih.1; omega, fun x => ?_⟩
      rw [List.mem_append, List.mem_singleton, ih.2]
      constructor
      · exact Or.inl
      · rintro (h' | h')
        · exact h'
        · rw [h']; exact (ih.2 y).mp h
    · rw [if_neg h]
      refine ⟨by rw [List.length_append, List.length_append, List.length_singleton]; have := ih.1; simp; omega, fun x => ?_⟩
      rw [List.mem_append, List.mem_append, List.mem_singleton, ih.2]
theorem m_isSame (hA : mok X hp a) (hP : PG M S) (hT : TK M S) (ht : t < (toks S).length) (hu : u < (toks S).length) (hk : (tA (toks S) t).2.2.2.1 < 2) : MV X yX2_isSame fX2_isSame 2 [vR (some a), vI (t : Int), vI (u : Int)] (mH hp a M) (fun v hp' => v = vI (b2i (decide ((tA (toks S) u).2.2.2.1 < 2 ∧ (tA (toks S) u).2.2.2.2 = (tA (toks S) t).2.2.2.2))) ∧ mH hp a M = hp') := by
  have htle := toks_le hP.2
  have kdt := tok_kd ht hk
  have kdu := fun h => tok_kd (S := S) hu h
  obtain ⟨w1, w2, w3, w4⟩ := hT.2.2.2 t ht
  obtain ⟨k1, k2, k3, k4, k5⟩ := toks_ok ht
  obtain ⟨w1', w2', w3', w4'⟩ := hT.2.2.2 u hu
  obtain ⟨k1', k2', k3', k4', k5'⟩ := toks_ok hu
  have hll := hP.ln k1
  have hll2 := hll.2.1
  have hll' := hP.ln k1'
  have hll2' := hll'.2.1
  generalize (tA (toks S) t).1 = i at *
  generalize (tA (toks S) t).2.1 = p at *
  generalize (tA (toks S) t).2.2.1 = l at *
  generalize (tA (toks S) t).2.2.2.1 = q at *
  generalize (tA (toks S) t).2.2.2.2 = x at *
  generalize (lnA S i).2.1 = s at *
  generalize (tA (toks S) u).1 = i' at *
  generalize (tA (toks S) u).2.1 = p' at *
  generalize (tA (toks S) u).2.2.1 = l' at *
  generalize (tA (toks S) u).2.2.2.1 = q' at *
  generalize (tA (toks S) u).2.2.2.2 = x' at *
  generalize (lnA S i').2.1 = s' at *
  rw [if_pos hk] at k5
  have hxl : x.length = l := by rw [k5, List.length_take, List.length_drop]; omega
  have hxj : ∀ j : Nat, j < l → x.getD j 0 = s.getD (p + j) (-9) := by
    intro j hj
    rw [k5, List.getD_eq_getElem?_getD, List.getElem?_take_of_lt hj, List.getElem?_drop, List.getElem?_eq_getElem (by omega), getD_in (show p + j < s.length by omega)]
    rfl
  have key : (q = q' ∧ l = l' ∧ ∀ j : Nat, j < l → s.getD (p + j) (-9) = s'.getD (p' + j) (-9)) ↔ q' < 2 ∧ x' = x := by
    constructor
    · rintro ⟨h1, h2, h3⟩
      refine ⟨by omega, ?_⟩
      rw [if_pos (by omega)] at k5'
      refine (txt_iff k3' k5').mpr ⟨by omega, fun j hj => ?_⟩
      rw [hxj j (by omega), h3 j (by omega)]
    · rintro ⟨h1, h2⟩
      rw [if_pos h1] at k5'
      obtain ⟨h3, h4⟩ := (txt_iff k3' k5').mp h2
      refine ⟨?_, by omega, fun j hj => by rw [h4 j (by omega), hxj j hj]⟩
      have := kdu h1
      rw [h2, kdt] at this
      by_cases h0 : q = 0
      · rw [decide_eq_true h0] at this
        have := of_decide_eq_true this.symm
        omega
      · rw [decide_eq_false h0] at this
        have := of_decide_eq_false this.symm
        omega
  refine MC.of pfX2_isSame rfl (fun h => by cases h) 2 rfl rfl ?_
  have loop : ∀ (n k : Nat) (B : Bool), k + n = l → (B = true ↔ q = q' ∧ l = l' ∧ ∀ j : Nat, j < k → s.getD (p + j) (-9) = s'.getD (p' + j) (-9)) → G X fX2_isSame 2 39 [some (vR (some a)), some (vI (t : Int)), some (vI (u : Int)), some (vI (b2i B)), some (vI (k : Int))] [] (mH hp a M) (fun r hp' => ∃ v, r = some v ∧ v = vI (b2i (decide (q' < 2 ∧ x' = x))) ∧ mH hp a M = hp') := by
    intro n
    induction n with
    | zero =>
      intro k B hkl hB
      obtain rfl : k = l := by omega
      refine gs_ild4 (pc := 39) dX2_isSame_39 ?_
      refine gs_ald0 (pc := 41) dX2_isSame_41 ?_
      refine gs_getf (pc := 42) 7 dX2_isSame_42 (mcell hA) clX2 in_X2 (by decide) q2233 (Or.inl rfl) rfl ?_
      refine gs_ild1 (pc := 45) dX2_isSame_45 ?_
      refine gs_iald (pc := 46) dX2_isSame_46 (ma_tokenLong hA) (by omega) (by omega) ?_
      refine gs_ic_ge (pc := 47) (tgt := 107) dX2_isSame_47 (by decide) (by omega) (fun _ => ?_) (fun hn => absurd (by omega) hn)
      refine gs_ild3 (pc := 107) dX2_isSame_107 ?_
      refine gs_zret (pc := 108) .boolean dX2_isSame_108 rfl (zb _) ?_
      refine ⟨_, rfl, ?_, rfl⟩
      congr 2
      rw [Bool.eq_iff_iff, hB, decide_eq_true_iff]
      exact key
    | succ n ih =>
      intro k B hkl hB
      have rs := getD_rng (k := p + k) hll.2.2.1
      have rs' := getD_rng (k := p' + k) hll'.2.2.1
      refine gs_ild4 (pc := 39) dX2_isSame_39 ?_
      refine gs_ald0 (pc := 41) dX2_isSame_41 ?_
      refine gs_getf (pc := 42) 7 dX2_isSame_42 (mcell hA) clX2 in_X2 (by decide) q2233 (Or.inl rfl) rfl ?_
      refine gs_ild1 (pc := 45) dX2_isSame_45 ?_
      refine gs_iald (pc := 46) dX2_isSame_46 (ma_tokenLong hA) (by omega) (by omega) ?_
      refine gs_ic_ge (pc := 47) (tgt := 107) dX2_isSame_47 (by decide) (by omega) (fun hn => absurd hn (by omega)) (fun _ => ?_)
      refine gs_ild3 (pc := 50) dX2_isSame_50 ?_
      refine gs_beq (pc := 51) (tgt := 107) dX2_isSame_51 (by decide) (fun hb => ?_) (fun hb => ?_)
      · refine gs_ild3 (pc := 107) dX2_isSame_107 ?_
        refine gs_zret (pc := 108) .boolean dX2_isSame_108 rfl (zb _) ?_
        refine ⟨_, rfl, ?_, rfl⟩
        congr 2
        rw [hb]
        cases hd : decide (q' < 2 ∧ x' = x) with
        | false => rfl
        | true =>
          have h := key.mpr (of_decide_eq_true hd)
          have := hB.mpr ⟨h.1, h.2.1, fun j hj => h.2.2 j (by omega)⟩
          rw [hb] at this; cases this
      · have hb' := hB.mp hb
        refine gs_ald0 (pc := 54) dX2_isSame_54 ?_
        refine gs_ald0 (pc := 55) dX2_isSame_55 ?_
        refine gs_getf (pc := 56) 5 dX2_isSame_56 (mcell hA) clX2 in_X2 (by decide) q2231 (Or.inl rfl) rfl ?_
        refine gs_ild1 (pc := 59) dX2_isSame_59 ?_
        refine gs_iald (pc := 60) dX2_isSame_60 (ma_tokenLine hA) (by omega) (by omega) ?_
        refine gs_ald0 (pc := 61) dX2_isSame_61 ?_
        refine gs_getf (pc := 62) 6 dX2_isSame_62 (mcell hA) clX2 in_X2 (by decide) q2232 (Or.inl rfl) rfl ?_
        refine gs_ild1 (pc := 65) dX2_isSame_65 ?_
        refine gs_iald (pc := 66) dX2_isSame_66 (ma_tokenSpot hA) (by omega) (by omega) ?_
        refine gs_ild4 (pc := 67) dX2_isSame_67 ?_
        refine gs_iadd (pc := 69) dX2_isSame_69 ?_
        rw [w1, w2]
        refine gs_V2 (pc := 70) dX2_isSame_70 kX2_83 (mcell hA) clX2 (by decide) (Nat.le_of_ble_eq_true rfl) (m_cAt (k := p + k) hA hll (by omega)) (fun v hp1 hq => ?_)
        obtain ⟨rfl, rfl⟩ := hq
        refine gs_ald0 (pc := 73) dX2_isSame_73 ?_
        refine gs_ald0 (pc := 74) dX2_isSame_74 ?_
        refine gs_getf (pc := 75) 5 dX2_isSame_75 (mcell hA) clX2 in_X2 (by decide) q2231 (Or.inl rfl) rfl ?_
        refine gs_ild2 (pc := 78) dX2_isSame_78 ?_
        refine gs_iald (pc := 79) dX2_isSame_79 (ma_tokenLine hA) (by omega) (by omega) ?_
        refine gs_ald0 (pc := 80) dX2_isSame_80 ?_
        refine gs_getf (pc := 81) 6 dX2_isSame_81 (mcell hA) clX2 in_X2 (by decide) q2232 (Or.inl rfl) rfl ?_
        refine gs_ild2 (pc := 84) dX2_isSame_84 ?_
        refine gs_iald (pc := 85) dX2_isSame_85 (ma_tokenSpot hA) (by omega) (by omega) ?_
        refine gs_ild4 (pc := 86) dX2_isSame_86 ?_
        refine gs_iadd (pc := 88) dX2_isSame_88 ?_
        rw [w1', w2']
        refine gs_V2 (pc := 89) dX2_isSame_89 kX2_83 (mcell hA) clX2 (by decide) (Nat.le_of_ble_eq_true rfl) (m_cAt (k := p' + k) hA hll' (by omega)) (fun v hp1 hq => ?_)
        obtain ⟨rfl, rfl⟩ := hq
        refine gs_ic_ne (pc := 92) (tgt := 99) dX2_isSame_92 (by decide) (by omega) (fun hc => ?_) (fun hc => ?_)
        · refine gs_iconst (pc := 99) dX2_isSame_99 ?_
          refine gs_ist3 (pc := 100) dX2_isSame_100 rfl ?_
          refine gs_inc4 (pc := 101) dX2_isSame_101 rfl ?_
          refine gs_goto (pc := 104) (tgt := 39) dX2_isSame_104 (by decide) ?_
          refine ih (k + 1) false (by omega) ?_
          constructor
          · intro h; cases h
          · rintro ⟨-, -, h⟩; exact absurd (h k (by omega)) hc
        · refine gs_iconst (pc := 95) dX2_isSame_95 ?_
          refine gs_goto (pc := 96) (tgt := 100) dX2_isSame_96 (by decide) ?_
          refine gs_ist3 (pc := 100) dX2_isSame_100 rfl ?_
          refine gs_inc4 (pc := 101) dX2_isSame_101 rfl ?_
          refine gs_goto (pc := 104) (tgt := 39) dX2_isSame_104 (by decide) ?_
          refine ih (k + 1) true (by omega) ?_
          constructor
          · intro _
            refine ⟨hb'.1, hb'.2.1, fun j hj => ?_⟩
            by_cases hjk : j = k
            · subst hjk; omega
            · exact hb'.2.2 j (by omega)
          · intro _; rfl
  have k35 : ∀ B : Bool, (B = true ↔ q = q' ∧ l = l') → G X fX2_isSame 2 35 [some (vR (some a)), some (vI (t : Int)), some (vI (u : Int)), none, none] [vI (b2i B)] (mH hp a M) (fun r hp' => ∃ v, r = some v ∧ v = vI (b2i (decide (q' < 2 ∧ x' = x))) ∧ mH hp a M = hp') := by
    intro B hB
    refine gs_ist3 (pc := 35) dX2_isSame_35 rfl ?_
    refine gs_iconst (pc := 36) dX2_isSame_36 ?_
    refine gs_ist4 (pc := 37) dX2_isSame_37 rfl ?_
    refine loop l 0 B (by omega) ?_
    rw [hB]
    constructor
    · rintro ⟨h1, h2⟩; exact ⟨h1, h2, fun j hj => absurd hj (by omega)⟩
    · rintro ⟨h1, h2, -⟩; exact ⟨h1, h2⟩
  refine gs_ald0 (pc := 0) dX2_isSame_0 ?_
  refine gs_getf (pc := 1) 8 dX2_isSame_1 (mcell hA) clX2 in_X2 (by decide) q2234 (Or.inl rfl) rfl ?_
  refine gs_ild1 (pc := 4) dX2_isSame_4 ?_
  refine gs_iald (pc := 5) dX2_isSame_5 (ma_tokenSort hA) (by omega) (by omega) ?_
  refine gs_ald0 (pc := 6) dX2_isSame_6 ?_
  refine gs_getf (pc := 7) 8 dX2_isSame_7 (mcell hA) clX2 in_X2 (by decide) q2234 (Or.inl rfl) rfl ?_
  refine gs_ild2 (pc := 10) dX2_isSame_10 ?_
  refine gs_iald (pc := 11) dX2_isSame_11 (ma_tokenSort hA) (by omega) (by omega) ?_
  refine gs_ic_ne (pc := 12) (tgt := 34) dX2_isSame_12 (by decide) (by omega) (fun h1 => ?_) (fun h1 => ?_)
  · refine gs_iconst (pc := 34) dX2_isSame_34 ?_
    refine k35 false ?_
    constructor
    · intro h; cases h
    · rintro ⟨h, -⟩; omega
  · refine gs_ald0 (pc := 15) dX2_isSame_15 ?_
    refine gs_getf (pc := 16) 7 dX2_isSame_16 (mcell hA) clX2 in_X2 (by decide) q2233 (Or.inl rfl) rfl ?_
    refine gs_ild1 (pc := 19) dX2_isSame_19 ?_
    refine gs_iald (pc := 20) dX2_isSame_20 (ma_tokenLong hA) (by omega) (by omega) ?_
    refine gs_ald0 (pc := 21) dX2_isSame_21 ?_
    refine gs_getf (pc := 22) 7 dX2_isSame_22 (mcell hA) clX2 in_X2 (by decide) q2233 (Or.inl rfl) rfl ?_
    refine gs_ild2 (pc := 25) dX2_isSame_25 ?_
    refine gs_iald (pc := 26) dX2_isSame_26 (ma_tokenLong hA) (by omega) (by omega) ?_
    refine gs_ic_ne (pc := 27) (tgt := 34) dX2_isSame_27 (by decide) (by omega) (fun h2 => ?_) (fun h2 => ?_)
    · refine gs_iconst (pc := 34) dX2_isSame_34 ?_
      refine k35 false ?_
      constructor
      · intro h; cases h
      · rintro ⟨-, h⟩; omega
    · refine gs_iconst (pc := 30) dX2_isSame_30 ?_
      refine gs_goto (pc := 31) (tgt := 35) dX2_isSame_31 (by decide) ?_
      refine k35 true ?_
      constructor
      · intro _; omega
      · intro _; rfl
/-- token t has the first one of its texts -/
def fsT (T : List Tok) (t : Nat) : Bool := decide ((tA T t).2.2.2.1 < 2 ∧ (tA T t).2.2.2.2 ∉ txN T t)
theorem m_isFirst (hA : mok X hp a) (hP : PG M S) (hT : TK M S) (ht : t < (toks S).length) : MV X yX2_isFirst fX2_isFirst 3 [vR (some a), vI (t : Int)] (mH hp a M) (fun v hp' => v = vI (b2i (fsT (toks S) t)) ∧ mH hp a M = hp') := by
  have htle := toks_le hP.2
  have w4 := (hT.2.2.2 t ht).2.2.2
  have k4 := (toks_ok ht).2.2.2.1
  refine MC.of pfX2_isFirst rfl (fun h => by cases h) 2 rfl rfl ?_
  have loop : ∀ (n u : Nat) (B : Bool), u + n = t → (B = true ↔ (tA (toks S) t).2.2.2.1 < 2 ∧ (tA (toks S) t).2.2.2.2 ∉ txN (toks S) u) → G X fX2_isFirst 3 18 [some (vR (some a)), some (vI (t : Int)), some (vI (b2i B)), some (vI (u : Int))] [] (mH hp a M) (fun r hp' => ∃ v, r = some v ∧ v = vI (b2i (fsT (toks S) t)) ∧ mH hp a M = hp') := by
    intro n
    induction n with
    | zero =>
      intro u B hu hB
      obtain rfl : u = t := by omega
      refine gs_ild3 (pc := 18) dX2_isFirst_18 ?_
      refine gs_ild1 (pc := 19) dX2_isFirst_19 ?_
      refine gs_ic_ge (pc := 20) (tgt := 48) dX2_isFirst_20 (by decide) (by omega) (fun _ => ?_) (fun hn => absurd (by omega) hn)
      refine gs_ild2 (pc := 48) dX2_isFirst_48 ?_
      refine gs_zret (pc := 49) .boolean dX2_isFirst_49 rfl (zb _) ?_
      refine ⟨_, rfl, ?_, rfl⟩
      congr 2
      unfold fsT
      rw [Bool.eq_iff_iff, hB, decide_eq_true_iff]
    | succ n ih =>
      intro u B hu hB
      have hmem := txN_mem (T := toks S) (x := (tA (toks S) t).2.2.2.2)
      refine gs_ild3 (pc := 18) dX2_isFirst_18 ?_
      refine gs_ild1 (pc := 19) dX2_isFirst_19 ?_
      refine gs_ic_ge (pc := 20) (tgt := 48) dX2_isFirst_20 (by decide) (by omega) (fun hn => absurd hn (by omega)) (fun _ => ?_)
      refine gs_ild2 (pc := 23) dX2_isFirst_23 ?_
      refine gs_beq (pc := 24) (tgt := 48) dX2_isFirst_24 (by decide) (fun hb => ?_) (fun hb => ?_)
      · refine gs_ild2 (pc := 48) dX2_isFirst_48 ?_
        refine gs_zret (pc := 49) .boolean dX2_isFirst_49 rfl (zb _) ?_
        refine ⟨_, rfl, ?_, rfl⟩
        congr 2
        rw [hb]
        unfold fsT
        cases hd : decide ((tA (toks S) t).2.2.2.1 < 2 ∧ (tA (toks S) t).2.2.2.2 ∉ txN (toks S) t) with
        | false => rfl
        | true =>
          have h := of_decide_eq_true hd
          have := hB.mpr ⟨h.1, fun hm => h.2 ?_⟩
          · rw [hb] at this; cases this
          · obtain ⟨w, g1, g2⟩ := (hmem u (by omega)).mp hm
            exact (hmem t (by omega)).mpr ⟨w, by omega, g2⟩
      · have hb' := hB.mp hb
        have hs := txN_s (T := toks S) (n := u) (by omega)
        refine gs_ald0 (pc := 27) dX2_isFirst_27 ?_
        refine gs_ild1 (pc := 28) dX2_isFirst_28 ?_
        refine gs_ild3 (pc := 29) dX2_isFirst_29 ?_
        refine gs_V2 (pc := 30) dX2_isFirst_30 kX2_286 (mcell hA) clX2 (by decide) (Nat.le_of_ble_eq_true rfl) (m_isSame hA hP hT ht (by omega) hb'.1) (fun v hp1 hq => ?_)
        obtain ⟨rfl, rfl⟩ := hq
        refine gs_bne (pc := 33) (tgt := 40) dX2_isFirst_33 (by decide) (fun hsm => ?_) (fun hsm => ?_)
        · have hsm := of_decide_eq_true hsm
          refine gs_iconst (pc := 40) dX2_isFirst_40 ?_
          refine gs_ist2 (pc := 41) dX2_isFirst_41 rfl ?_
          refine gs_inc3 (pc := 42) dX2_isFirst_42 rfl ?_
          refine gs_goto (pc := 45) (tgt := 18) dX2_isFirst_45 (by decide) ?_
          refine ih (u + 1) false (by omega) ?_
          constructor
          · intro h; cases h
          · rintro ⟨-, h⟩
            rw [hs, if_pos hsm.1, hsm.2] at h
            exact absurd (List.mem_append_right _ (List.mem_singleton.mpr rfl)) h
        · have hsm := of_decide_eq_false hsm
          refine gs_iconst (pc := 36) dX2_isFirst_36 ?_
          refine gs_goto (pc := 37) (tgt := 41) dX2_isFirst_37 (by decide) ?_
          refine gs_ist2 (pc := 41) dX2_isFirst_41 rfl ?_
          refine gs_inc3 (pc := 42) dX2_isFirst_42 rfl ?_
          refine gs_goto (pc := 45) (tgt := 18) dX2_isFirst_45 (by decide) ?_
          refine ih (u + 1) true (by omega) ?_
          constructor
          · intro _
            refine ⟨hb'.1, fun h => ?_⟩
            rw [hs] at h
            by_cases hk : (tA (toks S) u).2.2.2.1 < 2
            · rw [if_pos hk] at h
              rcases List.mem_append.mp h with h | h
              · exact hb'.2 h
              · exact hsm ⟨hk, (List.mem_singleton.mp h).symm⟩
            · rw [if_neg hk] at h
              exact hb'.2 h
          · intro _; rfl
  have k15 : ∀ B : Bool, (B = true ↔ (tA (toks S) t).2.2.2.1 < 2) → G X fX2_isFirst 3 15 [some (vR (some a)), some (vI (t : Int)), none, none] [vI (b2i B)] (mH hp a M) (fun r hp' => ∃ v, r = some v ∧ v = vI (b2i (fsT (toks S) t)) ∧ mH hp a M = hp') := by
    intro B hB
    refine gs_ist2 (pc := 15) dX2_isFirst_15 rfl ?_
    refine gs_iconst (pc := 16) dX2_isFirst_16 ?_
    refine gs_ist3 (pc := 17) dX2_isFirst_17 rfl ?_
    refine loop t 0 B (by omega) ?_
    rw [hB]
    constructor
    · intro h; exact ⟨h, by simp [txN]⟩
    · rintro ⟨h, -⟩; exact h
  refine gs_ald0 (pc := 0) dX2_isFirst_0 ?_
  refine gs_getf (pc := 1) 8 dX2_isFirst_1 (mcell hA) clX2 in_X2 (by decide) q2234 (Or.inl rfl) rfl ?_
  refine gs_ild1 (pc := 4) dX2_isFirst_4 ?_
  refine gs_iald (pc := 5) dX2_isFirst_5 (ma_tokenSort hA) (by omega) (by omega) ?_
  refine gs_iconst (pc := 6) dX2_isFirst_6 ?_
  refine gs_ic_ge (pc := 7) (tgt := 14) dX2_isFirst_7 (by decide) (by omega) (fun h1 => ?_) (fun h1 => ?_)
  · refine gs_iconst (pc := 14) dX2_isFirst_14 ?_
    exact k15 false ⟨fun h => (by cases h), fun h => (by omega)⟩
  · refine gs_iconst (pc := 10) dX2_isFirst_10 ?_
    refine gs_goto (pc := 11) (tgt := 15) dX2_isFirst_11 (by decide) ?_
    exact k15 true ⟨fun _ => by omega, fun _ => rfl⟩
theorem m_vocabulary (hA : mok X hp a) (hR : RM M A) (hO : asOk A) : MV X yX2_vocabulary fX2_vocabulary 6 [vR (some a)] (mH hp a M) (roP hp a A (sp_vocabulary A)) := by
  have hP := hR.PG hO
  have htle := toks_le hO.1
  refine MC.of pfX2_vocabulary rfl (fun h => by cases h) 2 rfl rfl ?_
  refine gs_ald0 (pc := 0) dX2_vocabulary_0 ?_
  refine gs_V0v (pc := 1) dX2_vocabulary_1 kX2_138 (mcell hA) clX2 (by decide) (Nat.le_of_ble_eq_true rfl) (m_tokenizes hA hP) (fun hp1 hq => ?_)
  obtain ⟨rfl⟩ := hq
  have hT := TK.of (M := M) (S := A.1)
  have hkp := tkz_kp (M := M) (S := A.1)
  generalize tkz A.1.2.2.2.2 0 false A.1.1 (mP M 12 0) = M1 at *
  have hP1 := hkp.PG hP
  have h12 := hT.2.2.1
  have loop : ∀ (n t : Nat), t + n = (toks A.1).length → G X fX2_vocabulary 6 8 [some (vR (some a)), some (vI ((dst (txN (toks A.1) t)).length : Int)), some (vI (t : Int))] [] (mH hp a M1) (fun r hp' => ∃ v, r = some v ∧ roP hp a A (sp_vocabulary A) v hp') := by
    intro n
    induction n with
    | zero =>
      intro t htn
      obtain rfl : t = (toks A.1).length := by omega
      refine gs_ild2 (pc := 8) dX2_vocabulary_8 ?_
      refine gs_ald0 (pc := 9) dX2_vocabulary_9 ?_
      refine gs_getf (pc := 10) 12 dX2_vocabulary_10 (mcell hA) clX2 in_X2 (by decide) q2238 (Or.inl rfl) rfl ?_
      refine gs_ic_ge (pc := 13) (tgt := 38) dX2_vocabulary_13 (by decide) (by omega) (fun _ => ?_) (fun hn => absurd (by omega) hn)
      refine gs_ild1 (pc := 38) dX2_vocabulary_38 ?_
      refine gs_iret (pc := 39) dX2_vocabulary_39 rfl ?_
      exact ⟨_, rfl, by rw [txN_n]; rfl, M1, rfl, hR.kp hkp⟩
    | succ n ih =>
      intro t htn
      have hi := ih (t + 1) (by omega)
      rw [txN_s (by omega)] at hi
      refine gs_ild2 (pc := 8) dX2_vocabulary_8 ?_
      refine gs_ald0 (pc := 9) dX2_vocabulary_9 ?_
      refine gs_getf (pc := 10) 12 dX2_vocabulary_10 (mcell hA) clX2 in_X2 (by decide) q2238 (Or.inl rfl) rfl ?_
      refine gs_ic_ge (pc := 13) (tgt := 38) dX2_vocabulary_13 (by decide) (by omega) (fun hn => absurd hn (by omega)) (fun _ => ?_)
      refine gs_ild1 (pc := 16) dX2_vocabulary_16 ?_
      refine gs_ald0 (pc := 17) dX2_vocabulary_17 ?_
      refine gs_ild2 (pc := 18) dX2_vocabulary_18 ?_
      refine gs_V1 (pc := 19) dX2_vocabulary_19 kX2_289 (mcell hA) clX2 (by decide) (Nat.le_of_ble_eq_true rfl) (m_isFirst hA hP1 hT (by omega)) (fun v hp1 hq => ?_)
      obtain ⟨rfl, rfl⟩ := hq
      refine gs_beq (pc := 22) (tgt := 29) dX2_vocabulary_22 (by decide) (fun hf => ?_) (fun hf => ?_)
      · have hf := of_decide_eq_false hf
        have e : dst (if (tA (toks A.1) t).2.2.2.1 < 2 then txN (toks A.1) t ++ [(tA (toks A.1) t).2.2.2.2] else txN (toks A.1) t) = dst (txN (toks A.1) t) := by
          by_cases hk : (tA (toks A.1) t).2.2.2.1 < 2
          · rw [if_pos hk, dst_s, if_pos]
            rw [(dst_len _).2]
            exact Classical.byContradiction fun h => hf ⟨hk, h⟩
          · rw [if_neg hk]
        rw [e] at hi
        refine gs_iconst (pc := 29) dX2_vocabulary_29 ?_
        refine gs_iadd (pc := 30) dX2_vocabulary_30 ?_
        refine gs_ist1 (pc := 31) dX2_vocabulary_31 rfl ?_
        refine gs_inc2 (pc := 32) dX2_vocabulary_32 rfl ?_
        refine gs_goto (pc := 35) (tgt := 8) dX2_vocabulary_35 (by decide) ?_
        rw [Int.add_zero]
        exact hi
      · have hf := of_decide_eq_true hf
        rw [if_pos hf.1, dst_s, if_neg (by rw [(dst_len _).2]; exact hf.2), List.length_append, List.length_singleton] at hi
        refine gs_iconst (pc := 25) dX2_vocabulary_25 ?_
        refine gs_goto (pc := 26) (tgt := 30) dX2_vocabulary_26 (by decide) ?_
        refine gs_iadd (pc := 30) dX2_vocabulary_30 ?_
        refine gs_ist1 (pc := 31) dX2_vocabulary_31 rfl ?_
        refine gs_inc2 (pc := 32) dX2_vocabulary_32 rfl ?_
        refine gs_goto (pc := 35) (tgt := 8) dX2_vocabulary_35 (by decide) ?_
        exact hi
  refine gs_iconst (pc := 4) dX2_vocabulary_4 ?_
  refine gs_ist1 (pc := 5) dX2_vocabulary_5 rfl ?_
  refine gs_iconst (pc := 6) dX2_vocabulary_6 ?_
  refine gs_ist2 (pc := 7) dX2_vocabulary_7 rfl ?_
  exact loop (toks A.1).length 0 (by omega)
/-- the commonest so far -/
def cmF (L : List (List Int)) (q : Option (List Int) × Nat) (x : List Int) : Option (List Int) × Nat := if q.2 < L.count x then (some x, L.count x) else q
theorem cmn_eq (L : List (List Int)) : cmn L = (dst L).foldl (cmF L) (none, 0) := rfl
theorem cmF_le {L : List (List Int)} : ∀ (D : List (List Int)), (D.foldl (cmF L) (none, 0)).2 ≤ L.length ∧ ((D.foldl (cmF L) (none, 0)).1 = none → (D.foldl (cmF L) (none, 0)).2 = 0) := by
  intro D
  refine rev_ind (P := fun D => (D.foldl (cmF L) (none, 0)).2 ≤ L.length ∧ ((D.foldl (cmF L) (none, 0)).1 = none → (D.foldl (cmF L) (none, 0)).2 = 0)) ?_ (fun D y ih => ?_) D
  · exact ⟨Nat.zero_le _, fun _ => rfl⟩
  · rw [List.foldl_append, List.foldl_cons, List.foldl_nil]
    generalize D.foldl (cmF L) (none, 0) = q at *
    unfold cmF
    by_cases h : q.2 < L.count y
    · rw [if_pos h]
      exact ⟨List.count_le_length, fun h => by cases h⟩
    · rw [if_neg h]
      exact ih
theorem txs_len (hS : ssOk S) : (txs S).length ≤ 640 := by
  have h1 := toks_le hS
  unfold txs
  rw [List.length_map]
  have := List.length_filter_le (fun t : Tok => decide (t.2.2.2.1 < 2)) (toks S)
  omega
def cmM (S : SS) (o : Option (List Int)) (z : Int) : Prop := match o with
  | none => z = -9
  | some x => ∃ t : Nat, z = (t : Int) ∧ t < (toks S).length ∧ (tA (toks S) t).2.2.2.1 < 2 ∧ (tA (toks S) t).2.2.2.2 = x
theorem m_commonest (hA : mok X hp a) (hP : PG M S) : MV X yX2_commonest fX2_commonest 6 [vR (some a)] (mH hp a M) (fun v hp' => ∃ z, v = vI z ∧ cmM S (cmn (txs S)).1 z ∧ ∃ M', hp' = mH hp a M' ∧ kp M M' ∧ TK M' S ∧ M'.1 36 = (cmn (txs S)).2) := by
  have htle := toks_le hP.2
  have hxl := txs_len hP.2
  refine MC.of pfX2_commonest rfl (fun h => by cases h) 4 rfl rfl ?_
  refine gs_ald0 (pc := 0) dX2_commonest_0 ?_
  refine gs_V0v (pc := 1) dX2_commonest_1 kX2_138 (mcell hA) clX2 (by decide) (Nat.le_of_ble_eq_true rfl) (m_tokenizes hA hP) (fun hp1 hq => ?_)
  obtain ⟨rfl⟩ := hq
  have hT := TK.of (M := M) (S := S)
  have hkp := tkz_kp (M := M) (S := S)
  generalize tkz S.2.2.2.2 0 false S.1 (mP M 12 0) = M1 at *
  have inner : ∀ (t : Nat) (z1 : Int) (M2 : MS), PG M2 S → TK M2 S → t < (toks S).length → (tA (toks S) t).2.2.2.1 < 2 → (∀ (L4 : Option AV), G X fX2_commonest 6 68 [some (vR (some a)), some (vI z1), some (vI (t : Int)), some (vI ((((txs S).count (tA (toks S) t).2.2.2.2 : Nat) : Int) - ((txN (toks S) t).count (tA (toks S) t).2.2.2.2 : Nat))), L4] [] (mH hp a M2) (fun r hp' => ∃ v, r = some v ∧ ∃ z, v = vI z ∧ cmM S (cmn (txs S)).1 z ∧ ∃ M', hp' = mH hp a M' ∧ kp M M' ∧ TK M' S ∧ M'.1 36 = (cmn (txs S)).2)) → ∀ (n u : Nat), u + n = (toks S).length → G X fX2_commonest 6 35 [some (vR (some a)), some (vI z1), some (vI (t : Int)), some (vI ((((txN (toks S) u).count (tA (toks S) t).2.2.2.2 : Nat) : Int) - ((txN (toks S) t).count (tA (toks S) t).2.2.2.2 : Nat))), some (vI (u : Int))] [] (mH hp a M2) (fun r hp' => ∃ v, r = some v ∧ ∃ z, v = vI z ∧ cmM S (cmn (txs S)).1 z ∧ ∃ M', hp' = mH hp a M' ∧ kp M M' ∧ TK M' S ∧ M'.1 36 = (cmn (txs S)).2) := by
    intro t z1 M2 hP2 hT2 ht hk k68 n
    have h12 := hT2.2.2.1
    induction n with
    | zero =>
      intro u hu
      obtain rfl : u = (toks S).length := by omega
      rw [txN_n]
      refine gs_ild4 (pc := 35) dX2_commonest_35 ?_
      refine gs_ald0 (pc := 37) dX2_commonest_37 ?_
      refine gs_getf (pc := 38) 12 dX2_commonest_38 (mcell hA) clX2 in_X2 (by decide) q2238 (Or.inl rfl) rfl ?_
      refine gs_ic_ge (pc := 41) (tgt := 68) dX2_commonest_41 (by decide) (by omega) (fun _ => ?_) (fun hn => absurd (by omega) hn)
      exact k68 _
    | succ n ih =>
      intro u hu
      have hi := ih (u + 1) (by omega)
      rw [txN_s (by omega)] at hi
      refine gs_ild4 (pc := 35) dX2_commonest_35 ?_
      refine gs_ald0 (pc := 37) dX2_commonest_37 ?_
      refine gs_getf (pc := 38) 12 dX2_commonest_38 (mcell hA) clX2 in_X2 (by decide) q2238 (Or.inl rfl) rfl ?_
      refine gs_ic_ge (pc := 41) (tgt := 68) dX2_commonest_41 (by decide) (by omega) (fun hn => absurd hn (by omega)) (fun _ => ?_)
      refine gs_ild3 (pc := 44) dX2_commonest_44 ?_
      refine gs_ald0 (pc := 45) dX2_commonest_45 ?_
      refine gs_ild2 (pc := 46) dX2_commonest_46 ?_
      refine gs_ild4 (pc := 47) dX2_commonest_47 ?_
      refine gs_V2 (pc := 49) dX2_commonest_49 kX2_286 (mcell hA) clX2 (by decide) (Nat.le_of_ble_eq_true rfl) (m_isSame hA hP2 hT2 ht (by omega) hk) (fun v hp1 hq => ?_)
      obtain ⟨rfl, rfl⟩ := hq
      refine gs_beq (pc := 52) (tgt := 59) dX2_commonest_52 (by decide) (fun hs => ?_) (fun hs => ?_)
      · have hs := of_decide_eq_false hs
        have e : (if (tA (toks S) u).2.2.2.1 < 2 then txN (toks S) u ++ [(tA (toks S) u).2.2.2.2] else txN (toks S) u).count (tA (toks S) t).2.2.2.2 = (txN (toks S) u).count (tA (toks S) t).2.2.2.2 := by
          by_cases hku : (tA (toks S) u).2.2.2.1 < 2
          · rw [if_pos hku, List.count_append, List.count_cons_of_ne (fun h => hs ⟨hku, h⟩)]; simp
          · rw [if_neg hku]
        rw [e] at hi
        refine gs_iconst (pc := 59) dX2_commonest_59 ?_
        refine gs_iadd (pc := 60) dX2_commonest_60 ?_
        refine gs_ist3 (pc := 61) dX2_commonest_61 rfl ?_
        refine gs_inc4 (pc := 62) dX2_commonest_62 rfl ?_
        refine gs_goto (pc := 65) (tgt := 35) dX2_commonest_65 (by decide) ?_
        rw [Int.add_zero]
        exact hi
      · have hs := of_decide_eq_true hs
        rw [if_pos hs.1, List.count_append, hs.2, List.count_cons_self, List.count_nil] at hi
        refine gs_iconst (pc := 55) dX2_commonest_55 ?_
        refine gs_goto (pc := 56) (tgt := 60) dX2_commonest_56 (by decide) ?_
        refine gs_iadd (pc := 60) dX2_commonest_60 ?_
        refine gs_ist3 (pc := 61) dX2_commonest_61 rfl ?_
        refine gs_inc4 (pc := 62) dX2_commonest_62 rfl ?_
        refine gs_goto (pc := 65) (tgt := 35) dX2_commonest_65 (by decide) ?_
        rw [show ((((txN (toks S) u).count (tA (toks S) t).2.2.2.2 : Nat) : Int) - ((txN (toks S) t).count (tA (toks S) t).2.2.2.2 : Nat)) + 1 = ((((txN (toks S) u).count (tA (toks S) t).2.2.2.2 + (0 + 1) : Nat) : Int) - ((txN (toks S) t).count (tA (toks S) t).2.2.2.2 : Nat)) by omega]
        exact hi
  have loop : ∀ (n t : Nat) (z1 : Int) (M2 : MS) (L3 L4 : Option AV), t + n = (toks S).length → kp M M2 → TK M2 S → cmM S ((dst (txN (toks S) t)).foldl (cmF (txs S)) (none, 0)).1 z1 → M2.1 36 = ((dst (txN (toks S) t)).foldl (cmF (txs S)) (none, 0)).2 → G X fX2_commonest 6 14 [some (vR (some a)), some (vI z1), some (vI (t : Int)), L3, L4] [] (mH hp a M2) (fun r hp' => ∃ v, r = some v ∧ ∃ z, v = vI z ∧ cmM S (cmn (txs S)).1 z ∧ ∃ M', hp' = mH hp a M' ∧ kp M M' ∧ TK M' S ∧ M'.1 36 = (cmn (txs S)).2) := by
    intro n
    induction n with
    | zero =>
      intro t z1 M2 L3 L4 htn hk hT2 hc h36
      obtain rfl : t = (toks S).length := by omega
      have h12 := hT2.2.2.1
      rw [txN_n, ← cmn_eq] at hc h36
      refine gs_ild2 (pc := 14) dX2_commonest_14 ?_
      refine gs_ald0 (pc := 15) dX2_commonest_15 ?_
      refine gs_getf (pc := 16) 12 dX2_commonest_16 (mcell hA) clX2 in_X2 (by decide) q2238 (Or.inl rfl) rfl ?_
      refine gs_ic_ge (pc := 19) (tgt := 108) dX2_commonest_19 (by decide) (by omega) (fun _ => ?_) (fun hn => absurd (by omega) hn)
      refine gs_ild1 (pc := 108) dX2_commonest_108 ?_
      refine gs_iret (pc := 109) dX2_commonest_109 rfl ?_
      exact ⟨_, rfl, z1, rfl, hc, M2, rfl, hk, hT2, h36⟩
    | succ n ih =>
      intro t z1 M2 L3 L4 htn hk hT2 hc h36
      have h12 := hT2.2.2.1
      have hP2 := hk.PG hP
      have hle := cmF_le (L := txs S) (dst (txN (toks S) t))
      have hi := ih (t + 1)
      rw [txN_s (by omega)] at hi
      -- behind the counting: z3 is the count (0: not the first one)
      have k68 : ∀ (z3 : Int) (L4 : Option AV), (fsT (toks S) t = true ∧ z3 = ((txs S).count (tA (toks S) t).2.2.2.2 : Nat) ∨ fsT (toks S) t = false ∧ z3 = 0) → G X fX2_commonest 6 68 [some (vR (some a)), some (vI z1), some (vI (t : Int)), some (vI z3), L4] [] (mH hp a M2) (fun r hp' => ∃ v, r = some v ∧ ∃ z, v = vI z ∧ cmM S (cmn (txs S)).1 z ∧ ∃ M', hp' = mH hp a M' ∧ kp M M' ∧ TK M' S ∧ M'.1 36 = (cmn (txs S)).2) := by
        intro z3 L4 hz
        have hcl := List.count_le_length (a := (tA (toks S) t).2.2.2.2) (l := txs S)
        have hz3 : 0 ≤ z3 ∧ z3 ≤ 640 := by rcases hz with hz | hz <;> omega
        have hkk : ∀ v : Int, kp M (mP M2 36 v) ∧ TK (mP M2 36 v) S := fun v => ⟨hk.trans ⟨rfl, rfl, fun _ _ => rfl⟩, (hiF.mP (by omega)).TK hT2⟩
        rcases hz with ⟨hf, hz⟩ | ⟨hf, hz⟩
        · have hf := of_decide_eq_true hf
          rw [if_pos hf.1, dst_s, if_neg (by rw [(dst_len _).2]; exact hf.2), List.foldl_append] at hi
          generalize (dst (txN (toks S) t)).foldl (cmF (txs S)) (none, 0) = q at *
          rw [List.foldl_cons, List.foldl_nil] at hi
          unfold cmF at hi
          by_cases hq : q.2 < (txs S).count (tA (toks S) t).2.2.2.2
          · rw [if_pos hq] at hi
            refine gs_ild3 (pc := 68) dX2_commonest_68 ?_
            refine gs_ald0 (pc := 69) dX2_commonest_69 ?_
            refine gs_getf (pc := 70) 36 dX2_commonest_70 (mcell hA) clX2 in_X2 (by decide) q2262 (Or.inl rfl) rfl ?_
            refine gs_ic_le (pc := 73) (tgt := 80) dX2_commonest_73 (by decide) (by omega) (fun hn => absurd hn (by omega)) (fun _ => ?_)
            refine gs_ild2 (pc := 76) dX2_commonest_76 ?_
            refine gs_goto (pc := 77) (tgt := 81) dX2_commonest_77 (by decide) ?_
            refine gs_ist1 (pc := 81) dX2_commonest_81 rfl ?_
            refine gs_ald0 (pc := 82) dX2_commonest_82 ?_
            refine gs_ild3 (pc := 83) dX2_commonest_83 ?_
            refine gs_ald0 (pc := 84) dX2_commonest_84 ?_
            refine gs_getf (pc := 85) 36 dX2_commonest_85 (mcell hA) clX2 in_X2 (by decide) q2262 (Or.inl rfl) rfl ?_
            refine gs_ic_le (pc := 88) (tgt := 95) dX2_commonest_88 (by decide) (by omega) (fun hn => absurd hn (by omega)) (fun _ => ?_)
            refine gs_ild3 (pc := 91) dX2_commonest_91 ?_
            refine gs_goto (pc := 92) (tgt := 99) dX2_commonest_92 (by decide) ?_
            refine mp_often (pc := 99) rfl hA dX2_commonest_99 ?_
            refine gs_inc2 (pc := 102) dX2_commonest_102 rfl ?_
            refine gs_goto (pc := 105) (tgt := 14) dX2_commonest_105 (by decide) ?_
            exact hi _ (mP M2 36 z3) _ _ (by omega) (hkk _).1 (hkk _).2 ⟨t, rfl, by omega, hf.1, rfl⟩ hz
          · rw [if_neg hq] at hi
            refine gs_ild3 (pc := 68) dX2_commonest_68 ?_
            refine gs_ald0 (pc := 69) dX2_commonest_69 ?_
            refine gs_getf (pc := 70) 36 dX2_commonest_70 (mcell hA) clX2 in_X2 (by decide) q2262 (Or.inl rfl) rfl ?_
            refine gs_ic_le (pc := 73) (tgt := 80) dX2_commonest_73 (by decide) (by omega) (fun _ => ?_) (fun hn => absurd (by omega) hn)
            refine gs_ild1 (pc := 80) dX2_commonest_80 ?_
            refine gs_ist1 (pc := 81) dX2_commonest_81 rfl ?_
            refine gs_ald0 (pc := 82) dX2_commonest_82 ?_
            refine gs_ild3 (pc := 83) dX2_commonest_83 ?_
            refine gs_ald0 (pc := 84) dX2_commonest_84 ?_
            refine gs_getf (pc := 85) 36 dX2_commonest_85 (mcell hA) clX2 in_X2 (by decide) q2262 (Or.inl rfl) rfl ?_
            refine gs_ic_le (pc := 88) (tgt := 95) dX2_commonest_88 (by decide) (by omega) (fun _ => ?_) (fun hn => absurd (by omega) hn)
            refine gs_ald0 (pc := 95) dX2_commonest_95 ?_
            refine gs_getf (pc := 96) 36 dX2_commonest_96 (mcell hA) clX2 in_X2 (by decide) q2262 (Or.inl rfl) rfl ?_
            refine mp_often (pc := 99) rfl hA dX2_commonest_99 ?_
            refine gs_inc2 (pc := 102) dX2_commonest_102 rfl ?_
            refine gs_goto (pc := 105) (tgt := 14) dX2_commonest_105 (by decide) ?_
            exact hi _ (mP M2 36 (M2.1 36)) _ _ (by omega) (hkk _).1 (hkk _).2 hc h36
        · have hf := of_decide_eq_false hf
          have e : dst (if (tA (toks S) t).2.2.2.1 < 2 then txN (toks S) t ++ [(tA (toks S) t).2.2.2.2] else txN (toks S) t) = dst (txN (toks S) t) := by
            by_cases hk : (tA (toks S) t).2.2.2.1 < 2
            · rw [if_pos hk, dst_s, if_pos]
              rw [(dst_len _).2]
              exact Classical.byContradiction fun h => hf ⟨hk, h⟩
            · rw [if_neg hk]
          rw [e] at hi
          generalize (dst (txN (toks S) t)).foldl (cmF (txs S)) (none, 0) = q at *
          refine gs_ild3 (pc := 68) dX2_commonest_68 ?_
          refine gs_ald0 (pc := 69) dX2_commonest_69 ?_
          refine gs_getf (pc := 70) 36 dX2_commonest_70 (mcell hA) clX2 in_X2 (by decide) q2262 (Or.inl rfl) rfl ?_
          refine gs_ic_le (pc := 73) (tgt := 80) dX2_commonest_73 (by decide) (by omega) (fun _ => ?_) (fun hn => absurd (by omega) hn)
          refine gs_ild1 (pc := 80) dX2_commonest_80 ?_
          refine gs_ist1 (pc := 81) dX2_commonest_81 rfl ?_
          refine gs_ald0 (pc := 82) dX2_commonest_82 ?_
          refine gs_ild3 (pc := 83) dX2_commonest_83 ?_
          refine gs_ald0 (pc := 84) dX2_commonest_84 ?_
          refine gs_getf (pc := 85) 36 dX2_commonest_85 (mcell hA) clX2 in_X2 (by decide) q2262 (Or.inl rfl) rfl ?_
          refine gs_ic_le (pc := 88) (tgt := 95) dX2_commonest_88 (by decide) (by omega) (fun _ => ?_) (fun hn => absurd (by omega) hn)
          refine gs_ald0 (pc := 95) dX2_commonest_95 ?_
          refine gs_getf (pc := 96) 36 dX2_commonest_96 (mcell hA) clX2 in_X2 (by decide) q2262 (Or.inl rfl) rfl ?_
          refine mp_often (pc := 99) rfl hA dX2_commonest_99 ?_
          refine gs_inc2 (pc := 102) dX2_commonest_102 rfl ?_
          refine gs_goto (pc := 105) (tgt := 14) dX2_commonest_105 (by decide) ?_
          exact hi _ (mP M2 36 (M2.1 36)) _ _ (by omega) (hkk _).1 (hkk _).2 hc h36
      refine gs_ild2 (pc := 14) dX2_commonest_14 ?_
      refine gs_ald0 (pc := 15) dX2_commonest_15 ?_
      refine gs_getf (pc := 16) 12 dX2_commonest_16 (mcell hA) clX2 in_X2 (by decide) q2238 (Or.inl rfl) rfl ?_
      refine gs_ic_ge (pc := 19) (tgt := 108) dX2_commonest_19 (by decide) (by omega) (fun hn => absurd hn (by omega)) (fun _ => ?_)
      refine gs_iconst (pc := 22) dX2_commonest_22 ?_
      refine gs_ist3 (pc := 23) dX2_commonest_23 rfl ?_
      refine gs_ald0 (pc := 24) dX2_commonest_24 ?_
      refine gs_ild2 (pc := 25) dX2_commonest_25 ?_
      refine gs_V1 (pc := 26) dX2_commonest_26 kX2_289 (mcell hA) clX2 (by decide) (Nat.le_of_ble_eq_true rfl) (m_isFirst hA hP2 hT2 (by omega)) (fun v hp1 hq => ?_)
      obtain ⟨rfl, rfl⟩ := hq
      refine gs_beq (pc := 29) (tgt := 68) dX2_commonest_29 (by decide) (fun hf => ?_) (fun hf => ?_)
      · exact k68 0 _ (Or.inr ⟨hf, rfl⟩)
      · have hf' := of_decide_eq_true hf
        have h0 : (txN (toks S) t).count (tA (toks S) t).2.2.2.2 = 0 := List.count_eq_zero.mpr hf'.2
        refine gs_ild2 (pc := 32) dX2_commonest_32 ?_
        refine gs_ist4 (pc := 33) dX2_commonest_33 rfl ?_
        have := inner t z1 M2 hP2 hT2 (by omega) hf'.1 (fun L4 => k68 _ L4 (Or.inl ⟨hf, by rw [h0]; omega⟩)) (n + 1) t (by omega)
        rw [h0] at this
        exact this
  refine gs_bipush (pc := 4) dX2_commonest_4 rfl ?_
  refine gs_ist1 (pc := 6) dX2_commonest_6 rfl ?_
  refine gs_ald0 (pc := 7) dX2_commonest_7 ?_
  refine gs_iconst (pc := 8) dX2_commonest_8 ?_
  refine mp_often (pc := 9) rfl hA dX2_commonest_9 ?_
  refine gs_iconst (pc := 12) dX2_commonest_12 ?_
  refine gs_ist2 (pc := 13) dX2_commonest_13 rfl ?_
  exact loop (toks S).length 0 (-9) _ _ _ (by omega) (hkp.trans ⟨rfl, rfl, fun _ _ => rfl⟩) ((hiF.mP (by omega)).TK hT) rfl rfl
theorem m_commonestCount (hA : mok X hp a) (hR : RM M A) (hO : asOk A) : MV X yX2_commonestCount fX2_commonestCount 7 [vR (some a)] (mH hp a M) (roP hp a A (sp_commonestCount A)) := by
  have htle := toks_le hO.1
  refine MC.of pfX2_commonestCount rfl (fun h => by cases h) 0 rfl rfl ?_
  unfold sp_commonestCount
  refine gs_ald0 (pc := 0) dX2_commonestCount_0 ?_
  refine gs_V0 (pc := 1) dX2_commonestCount_1 kX2_295 (mcell hA) clX2 (by decide) (Nat.le_of_ble_eq_true rfl) (m_commonest hA (hR.PG hO)) (fun v hp1 hq => ?_)
  obtain ⟨z, rfl, hc, M1, rfl, k1, k2, k3⟩ := hq
  cases ho : (cmn (txs A.1)).1 with
  | none =>
    rw [ho] at hc
    have hc : z = -9 := hc
    subst hc
    rw [if_pos rfl]
    refine gs_bipush (pc := 4) dX2_commonestCount_4 rfl ?_
    refine gs_ic_ne (pc := 6) (tgt := 14) dX2_commonestCount_6 (by decide) (by omega) (fun hn => absurd (by decide) hn) (fun _ => ?_)
    refine gs_bipush (pc := 9) dX2_commonestCount_9 rfl ?_
    refine gs_goto (pc := 11) (tgt := 18) dX2_commonestCount_11 (by decide) ?_
    refine gs_iret (pc := 18) dX2_commonestCount_18 rfl ?_
    exact ⟨_, rfl, rfl, M1, rfl, hR.kp k1⟩
  | some x =>
    rw [ho] at hc
    obtain ⟨t, rfl, h1, -⟩ := hc
    rw [if_neg (by intro h; cases h)]
    refine gs_bipush (pc := 4) dX2_commonestCount_4 rfl ?_
    refine gs_ic_ne (pc := 6) (tgt := 14) dX2_commonestCount_6 (by decide) (by omega) (fun _ => ?_) (fun hn => absurd hn (by omega))
    refine gs_ald0 (pc := 14) dX2_commonestCount_14 ?_
    refine gs_getf (pc := 15) 36 dX2_commonestCount_15 (mcell hA) clX2 in_X2 (by decide) q2262 (Or.inl rfl) rfl ?_
    refine gs_iret (pc := 18) dX2_commonestCount_18 rfl ?_
    exact ⟨_, rfl, congrArg vI k3, M1, rfl, hR.kp k1⟩
theorem m_commonestByte {k : Int} (hA : mok X hp a) (hR : RM M A) (hO : asOk A) (hk : i32 k) : MV X yX2_commonestByte fX2_commonestByte 7 [vR (some a), vI k] (mH hp a M) (roP hp a A (sp_commonestByte A k)) := by
  have htle := toks_le hO.1
  refine MC.of pfX2_commonestByte rfl (fun h => by cases h) 1 rfl rfl ?_
  unfold sp_commonestByte
  refine gs_ild1 (pc := 0) dX2_commonestByte_0 ?_
  refine gs_if_ge (pc := 1) (tgt := 6) dX2_commonestByte_1 (by decide) (by omega) (fun h0 => ?_) (fun h0 => ?_)
  · rw [if_neg (by omega)]
    obtain ⟨j, rfl⟩ : ∃ j : Nat, k = (j : Int) := ⟨k.toNat, by omega⟩
    rw [Int.toNat_natCast]
    refine gs_ald0 (pc := 6) dX2_commonestByte_6 ?_
    refine gs_V0 (pc := 7) dX2_commonestByte_7 kX2_295 (mcell hA) clX2 (by decide) (Nat.le_of_ble_eq_true rfl) (m_commonest hA (hR.PG hO)) (fun v hp1 hq => ?_)
    obtain ⟨z, rfl, hc, M1, rfl, k1, k2, k3⟩ := hq
    cases ho : (cmn (txs A.1)).1 with
    | none =>
      rw [ho] at hc
      have hc : z = -9 := hc
      subst hc
      dsimp only
      refine gs_ist2 (pc := 10) dX2_commonestByte_10 rfl ?_
      refine gs_ild2 (pc := 11) dX2_commonestByte_11 ?_
      refine gs_bipush (pc := 12) dX2_commonestByte_12 rfl ?_
      refine gs_ic_eq (pc := 14) (tgt := 27) dX2_commonestByte_14 (by decide) (by omega) (fun _ => ?_) (fun hn => absurd (by decide) hn)
      refine gs_bipush (pc := 27) dX2_commonestByte_27 rfl ?_
      refine gs_goto (pc := 29) (tgt := 50) dX2_commonestByte_29 (by decide) ?_
      refine gs_iret (pc := 50) dX2_commonestByte_50 rfl ?_
      exact ⟨_, rfl, rfl, M1, rfl, hR.kp k1⟩
    | some x =>
      rw [ho] at hc
      obtain ⟨t, rfl, ht, hkd, hx⟩ := hc
      dsimp only
      obtain ⟨w1, w2, w3, w4⟩ := k2.2.2.2 t ht
      obtain ⟨o1, o2, o3, o4, o5⟩ := toks_ok ht
      rw [if_pos hkd, hx] at o5
      have hll := (k1.PG (hR.PG hO)).ln o1
      have hll2 := hll.2.1
      have hxl : x.length = (tA (toks A.1) t).2.2.1 := by rw [o5, List.length_take, List.length_drop]; omega
      refine gs_ist2 (pc := 10) dX2_commonestByte_10 rfl ?_
      refine gs_ild2 (pc := 11) dX2_commonestByte_11 ?_
      refine gs_bipush (pc := 12) dX2_commonestByte_12 rfl ?_
      refine gs_ic_eq (pc := 14) (tgt := 27) dX2_commonestByte_14 (by decide) (by omega) (fun hn => absurd hn (by omega)) (fun _ => ?_)
      refine gs_ild1 (pc := 17) dX2_commonestByte_17 ?_
      refine gs_ald0 (pc := 18) dX2_commonestByte_18 ?_
      refine gs_getf (pc := 19) 7 dX2_commonestByte_19 (mcell hA) clX2 in_X2 (by decide) q2233 (Or.inl rfl) rfl ?_
      refine gs_ild2 (pc := 22) dX2_commonestByte_22 ?_
      refine gs_iald (pc := 23) dX2_commonestByte_23 (ma_tokenLong hA) (by omega) (by omega) ?_
      refine gs_ic_lt (pc := 24) (tgt := 32) dX2_commonestByte_24 (by decide) (by omega) (fun hj => ?_) (fun hj => ?_)
      · refine gs_ald0 (pc := 32) dX2_commonestByte_32 ?_
        refine gs_ald0 (pc := 33) dX2_commonestByte_33 ?_
        refine gs_getf (pc := 34) 5 dX2_commonestByte_34 (mcell hA) clX2 in_X2 (by decide) q2231 (Or.inl rfl) rfl ?_
        refine gs_ild2 (pc := 37) dX2_commonestByte_37 ?_
        refine gs_iald (pc := 38) dX2_commonestByte_38 (ma_tokenLine hA) (by omega) (by omega) ?_
        refine gs_ald0 (pc := 39) dX2_commonestByte_39 ?_
        refine gs_getf (pc := 40) 6 dX2_commonestByte_40 (mcell hA) clX2 in_X2 (by decide) q2232 (Or.inl rfl) rfl ?_
        refine gs_ild2 (pc := 43) dX2_commonestByte_43 ?_
        refine gs_iald (pc := 44) dX2_commonestByte_44 (ma_tokenSpot hA) (by omega) (by omega) ?_
        refine gs_ild1 (pc := 45) dX2_commonestByte_45 ?_
        refine gs_iadd (pc := 46) dX2_commonestByte_46 ?_
        rw [w1, w2]
        refine gs_V2 (pc := 47) dX2_commonestByte_47 kX2_83 (mcell hA) clX2 (by decide) (Nat.le_of_ble_eq_true rfl) (m_cAt (k := (tA (toks A.1) t).2.1 + j) hA hll (by omega)) (fun v hp1 hq => ?_)
        obtain ⟨rfl, rfl⟩ := hq
        refine gs_iret (pc := 50) dX2_commonestByte_50 rfl ?_
        refine ⟨_, rfl, ?_, M1, rfl, hR.kp k1⟩
        congr 1
        rw [o5, List.getD_eq_getElem?_getD, List.getD_eq_getElem?_getD, List.getElem?_take_of_lt (by omega), List.getElem?_drop]
      · refine gs_bipush (pc := 27) dX2_commonestByte_27 rfl ?_
        refine gs_goto (pc := 29) (tgt := 50) dX2_commonestByte_29 (by decide) ?_
        refine gs_iret (pc := 50) dX2_commonestByte_50 rfl ?_
        refine ⟨_, rfl, ?_, M1, rfl, hR.kp k1⟩
        rw [getD_out (by omega)]
  · rw [if_pos (by omega)]
    refine gs_iconst (pc := 4) dX2_commonestByte_4 ?_
    refine gs_iret (pc := 5) dX2_commonestByte_5 rfl ?_
    exact ⟨_, rfl, rfl, M, rfl, hR⟩
end O2
