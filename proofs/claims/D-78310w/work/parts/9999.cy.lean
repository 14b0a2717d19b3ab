/-! THE COMPONENT: the tokens are made. -/
section CY
variable {X : gCx} {hp hp1 hp2 hz h h3 h4 : gHp} {S0 : Nat → Prop} {S : SS} {a c s t n p q al tx nr fa pr B D capA capT capA' capT' x m len cap ra r : Nat} {u y : List Int} {xs us ts us' : List Nat} {tl tl' : List (List Int)} {T : Tok} {Tl : List Tok} {ff fp : Int → Int} {op wd so : Int} {txo : Option Nat} {f : Int → Option Nat} {R : Rl}
theorem flt_q : ∀ (ls : List Ln) (i : Nat) (rs : List (List Tk × Bool)), ∀ T ∈ flt i ls rs, ¬ T.2.2.2.1 < 2 → T.2.2.2.2 = []
  | [], i, rs, T, h => by unfold flt at h; cases h
  | l :: ls, i, [], T, h => by unfold flt at h; cases h
  | l :: ls, i, r :: rs, T, h => by
    intro hT
    unfold flt at h
    rcases List.mem_append.mp h with h | h
    · obtain ⟨k, -, rfl⟩ := List.mem_map.mp h
      unfold mkT at hT ⊢
      exact if_neg hT
    · exact flt_q ls (i + 1) rs T h hT
/-- behind wordOf -/
theorem tkP.word {w : Nat} {h' : gHp} (hX : KX X) (hk : tkP X h t s al tx nr fa pr op ts us tl Tl capA capT ff fp B D) (hw : woP X h h' tx us tl capT y w) (hl : tl.length < 24 + (dst (txN Tl Tl.length)).length) (hT : Tl.length = 0) : ∃ us' tl' capT', tkP X h' t s al tx nr fa pr op ts us' tl' Tl capA capT' ff fp B D ∧ tl <+: tl' ∧ tl'.length ≤ tl.length + 1 ∧ y ∈ tl' ∧ Fr X (tkL t al tx) h h' := by
  obtain ⟨us', tl', cap', v1, v2, v3, v4, v5, v6, v7, v8, v9, -, -⟩ := hw
  obtain ⟨n1, n2⟩ := hk.ne
  obtain ⟨e1, e2, e3, e4, e5, e6, e7, e8, e9, e10, e13, e11, e12⟩ := hk
  have h2 : ∀ l, l = tx + 2 → 2 ≤ l := fun l hl => by omega
  refine ⟨us', tl', cap', ⟨v6.at e1 (by omega), e2.fr hX v6 (by omega), e3, fun k hk => (e4 k hk).fr v6 h2 (by omega) v2, e5, e6, v1, v6.at e8 (by omega), v6.at e9 (by omega), e10, ⟨?_, e13.2.word v2 (by omega)⟩, by omega, by omega⟩, v2, v3, ?_, v6.mono (fun l hl => Or.inr (Or.inr hl))⟩
  · obtain rfl : Tl = [] := List.length_eq_zero_iff.mp hT
    have hl : tl.length < 24 := hl
    show tl'.length ≤ 24 + 0
    omega
  · rw [← v5, List.getD_eq_getElem?_getD, List.getElem?_eq_getElem v4]
    exact List.getElem_mem v4
theorem ftI.an {h1 h : gHp} {k lb x : Nat} {q : Nat × Nat × ((Int → Int) ⊕ (Int → Option Nat))} (ht : gl X h1 x = some (lb, .inl q)) (hI : ftI X h1 h t S ts Tl tl k) : x ∉ ts := by
  intro hm
  obtain ⟨i, hi, e⟩ := List.getElem_of_mem hm
  have ei : ts.getD i 0 = x := by rw [List.getD_eq_getElem?_getD, List.getElem?_eq_getElem hi]; exact e
  have g1 : isO X h x 6 := by
    by_cases hik : i < k
    · obtain ⟨a, b, g1, -⟩ := hI.2.2.2.2.1 i hik
      rw [ei] at g1
      exact ⟨_, _, g1⟩
    · obtain ⟨a, b, g1, -⟩ := hI.2.2.2.2.2 i (by omega) hi
      rw [ei] at g1
      exact ⟨_, _, g1⟩
  obtain ⟨lb', fs, g1⟩ := g1
  obtain ⟨⟨l', q' | o⟩, e4, e5⟩ := (hI.2.2.1.2.2 x _ ht).2
  · rw [g1] at e4; cases e4
  · exact e5.2
/-- while the lines are gone through -/
def lnI (S : SS) (i : Nat) (opn : Bool) (Tl : List Tok) (ff fp : Int → Int) : Prop := ∃ P, P.length = i ∧ tks S.2.2.2.2 false S.1 = P ++ tks S.2.2.2.2 opn (S.1.drop i) ∧ toks S = Tl ++ flt i (S.1.drop i) (tks S.2.2.2.2 opn (S.1.drop i)) ∧ Tl.length = fstO S i ∧ (∀ j : Nat, j ≤ i → ff j = fstO S j) ∧ (∀ j : Nat, j < i → fp j = b2i (prot S j)) ∧ Tl.length ≤ 32 * i
theorem lnI.step {i : Nat} {opn : Bool} (hO : ssOk S) (hi : i < nL S) (h : lnI S i opn Tl ff fp) : lnI S (i + 1) (lt S.2.2.2.2 opn (lnA S i).2.1).2 (Tl ++ (lt S.2.2.2.2 opn (lnA S i).2.1).1.map (mkT i (lnA S i).2.1)) (fup ff ((i : Int) + 1) ((Tl ++ (lt S.2.2.2.2 opn (lnA S i).2.1).1.map (mkT i (lnA S i).2.1)).length : Int)) (fup fp i (b2i (opn && !(lnA S i).2.1.isEmpty))) := by
  obtain ⟨P, p1, p2, p3, p4, p5, p6, p7⟩ := h
  have hi' : i < S.1.length := hi
  have hd : S.1.drop i = lnA S i :: S.1.drop (i + 1) := by
    rw [List.drop_eq_getElem_cons hi']
    unfold lnA
    rw [List.getD_eq_getElem?_getD, List.getElem?_eq_getElem hi']
    rfl
  have ht : tks S.2.2.2.2 opn (S.1.drop i) = ((lt S.2.2.2.2 opn (lnA S i).2.1).1, opn && !(lnA S i).2.1.isEmpty) :: tks S.2.2.2.2 (lt S.2.2.2.2 opn (lnA S i).2.1).2 (S.1.drop (i + 1)) := by rw [hd, tks]
  have hlen : (Tl ++ (lt S.2.2.2.2 opn (lnA S i).2.1).1.map (mkT i (lnA S i).2.1)).length = Tl.length + (lt S.2.2.2.2 opn (lnA S i).2.1).1.length := by rw [List.length_append, List.length_map]
  have hf : fstO S (i + 1) = fstO S i + (lt S.2.2.2.2 opn (lnA S i).2.1).1.length := by
    have e1 : ∀ Z : List (List Tk × Bool), (P ++ Z).take i = P := fun Z => List.take_left' p1
    have e2 : ∀ (z : List Tk × Bool) (Z : List (List Tk × Bool)), (P ++ z :: Z).take (i + 1) = P ++ [z] := fun z Z => by
      rw [show P ++ z :: Z = (P ++ [z]) ++ Z by rw [List.append_assoc]; rfl]
      exact List.take_left' (by rw [List.length_append, List.length_singleton, p1])
    unfold fstO
    rw [p2, ht, e1, e2, List.map_append, List.sum_append]
    simp
  have hpr : prot S i = (opn && !(lnA S i).2.1.isEmpty) := by
    unfold prot
    rw [p2, ht, List.getD_eq_getElem?_getD, List.getElem?_append_right (by omega), show i - P.length = 0 by omega]
    rfl
  have hl32 : (lnA S i).2.1.length ≤ 32 := by
    have : lnA S i ∈ S.1 := by
      unfold lnA
      rw [List.getD_eq_getElem?_getD, List.getElem?_eq_getElem hi']
      exact List.getElem_mem hi'
    exact (hO.2.1 _ this).2.2.1
  have hlt := (lt_ok (cm := S.2.2.2.2) (op := opn) (s := (lnA S i).2.1)).1
  refine ⟨P ++ [((lt S.2.2.2.2 opn (lnA S i).2.1).1, opn && !(lnA S i).2.1.isEmpty)], by rw [List.length_append, List.length_singleton, p1], by rw [p2, ht, List.append_assoc]; rfl, ?_, by rw [hlen, hf, p4], fun j hj => ?_, fun j hj => ?_, by rw [hlen]; omega⟩
  · rw [p3, ht, hd, flt_len, List.append_assoc]
  · by_cases e : j = i + 1
    · subst e
      rw [show ((i + 1 : Nat) : Int) = (i : Int) + 1 by omega, fup_eq, hlen, hf, p4]
    · rw [fup_ne (by omega)]
      exact p5 j (by omega)
  · by_cases e : j = i
    · subst e
      rw [fup_eq, hpr]
    · rw [fup_ne (by omega)]
      exact p6 j (by omega)
end CY
