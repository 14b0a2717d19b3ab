/-! THE MODEL: what it holds; begins. -/
section M3
variable {X : gCx} {hp : gHp} {a : Nat} {M : MS}
theorem pgT.mv {p p' : Int → Int} {o o' : Int} {x : List Int} (hx : x.length ≤ 8) (h : ∀ i : Int, 0 ≤ i → i < 9 → p' (o' + i) = p (o + i)) (hs : pgT p o x) : pgT p' o' x := by
  refine ⟨?_, fun k hk => ?_⟩
  · have := h 0 (by omega) (by omega)
    rw [show o' + 0 = o' by omega, show o + 0 = o by omega] at this
    rw [this]; exact hs.1
  · rw [show o' + 1 + (k : Int) = o' + (1 + k) by omega, h (1 + k) (by omega) (by omega), show o + (1 + (k : Int)) = o + 1 + k by omega]
    exact hs.2 k hk
theorem pgS.mv {p p' : Int → Int} {o o' : Int} {S : SS} (hS : ssOk S) (h : ∀ i : Int, 0 ≤ i → i < 980 → p' (o' + i) = p (o + i)) (hs : pgS p o S) : pgS p' o' S := by
  obtain ⟨h1, h2, h3, h4, h5, h6⟩ := hs
  have hh : ∀ i : Int, 0 ≤ i → i < 980 → ∀ x y, x = o' + i → y = o + i → p' x = p y := fun i q1 q2 x y e1 e2 => by rw [e1, e2]; exact h i q1 q2
  have hl := hS.1
  refine ⟨by rw [hh 0 (by omega) (by omega) o' o (by omega) (by omega)]; exact h1, fun i hi => ?_, fun r hr => ?_, by rw [h 977 (by omega) (by omega)]; exact h4, by rw [h 978 (by omega) (by omega)]; exact h5, by rw [h 979 (by omega) (by omega)]; exact h6⟩
  · obtain ⟨g1, g2, g3, g4⟩ := h2 i hi
    have hln : lnOk (lnA S i) := by
      refine hS.2.1 _ ?_
      unfold lnA
      rw [List.getD_eq_getElem?_getD, List.getElem?_eq_getElem hi]
      exact List.getElem_mem hi
    have hcl := hln.2.2.1
    refine ⟨?_, ?_, ?_, fun k hk => ?_⟩
    · rw [hh (1 + i) (by omega) (by omega) _ (o + 1 + i) (by omega) (by omega)]; exact g1
    · rw [hh (21 + i) (by omega) (by omega) _ (o + 21 + i) (by omega) (by omega)]; exact g2
    · rw [hh (41 + i) (by omega) (by omega) _ (o + 41 + i) (by omega) (by omega)]; exact g3
    · rw [hh (61 + 32 * i + k) (by omega) (by omega) _ (o + 61 + 32 * i + k) (by omega) (by omega)]; exact g4 k hk
  · have h3r := h3 r hr
    cases hR : S.2.1 r with
    | none =>
      rw [hR] at h3r
      show p' _ = 0
      rw [hh (701 + 23 * r) (by omega) (by omega) _ (o + 701 + 23 * r) (by omega) (by omega)]; exact h3r
    | some R =>
      rw [hR] at h3r
      obtain ⟨g1, g2, g3, g4, g5, g6, g7⟩ := h3r
      have hro := hS.2.2.1 r R hR
      refine ⟨?_, ?_, ?_, ?_, ?_, ?_, fun hq => ?_⟩
      · rw [hh (701 + 23 * r) (by omega) (by omega) _ (o + 701 + 23 * r) (by omega) (by omega)]; exact g1
      · rw [hh (702 + 23 * r) (by omega) (by omega) _ (o + 701 + 23 * r + 1) (by omega) (by omega)]; exact g2
      · rw [hh (703 + 23 * r) (by omega) (by omega) _ (o + 701 + 23 * r + 2) (by omega) (by omega)]; exact g3
      · rw [hh (704 + 23 * r) (by omega) (by omega) _ (o + 701 + 23 * r + 3) (by omega) (by omega)]; exact g4
      · rw [hh (705 + 23 * r) (by omega) (by omega) _ (o + 701 + 23 * r + 4) (by omega) (by omega)]; exact g5
      · exact g6.mv hro.2.2.2.2.2.2.1.2.1 (fun i q1 q2 => hh (706 + 23 * r + i) (by omega) (by omega) _ _ (by omega) (by omega))
      · exact (g7 hq).mv (hro.2.2.2.2.2.2.2 hq).2.1 (fun i q1 q2 => hh (715 + 23 * r + i) (by omega) (by omega) _ _ (by omega) (by omega))
def ssD : SS := ([], fun _ => none, 4, 0, 35)
def pcE : List Int := [0, 2, 3, 4, 5, 8, 9, 14, 17, 21, 24, 26, 28, 31, 32, 36, 37]
def pcB : List Int := [97, 40, 41, 123, 125, 91, 120, 44, 93, 98, 101, 103, 105, 110, 101, 110, 100, 99, 97, 115, 101, 34, 115, 34, 35, 99, 121, 43, 34, 34, 34, 122, 102, 40, 98, 44, 59]
/-- the Model holds A -/
def RM (M : MS) (A : AS) : Prop := pgS (M.2.1 0) 0 A.1 ∧ M.1 1 = A.2.1.length ∧ (∀ i : Nat, i < A.2.1.length → pgS (M.2.1 0) (980 * (1 + i)) (A.2.1.getD i ssD)) ∧ (M.2.1 1 0 = b2i A.2.2.1.isSome ∧ M.2.1 1 1 = b2i A.2.2.2.1.isSome) ∧ (∀ S, A.2.2.1 = some S → pgS (M.2.1 0) 8820 S) ∧ (∀ S, A.2.2.2.1 = some S → pgS (M.2.1 0) 9800 S) ∧ M.1 4 = A.2.2.2.2.length ∧ (∀ k : Nat, k < A.2.2.2.2.length → M.2.1 2 k = A.2.2.2.2.getD k 0) ∧ (∀ k : Nat, k < 17 → M.2.1 18 k = pcE.getD k 0) ∧ ∀ k : Nat, k < 37 → M.2.1 19 k = pcB.getD k 0
end M3
