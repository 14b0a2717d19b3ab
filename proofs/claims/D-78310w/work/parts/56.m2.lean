/-! THE MODEL: what its page holds; copies, begins. -/
section M2
variable {X : gCx} {hp : gHp} {a : Nat} {M : MS}
/-- a text at a place: its length, then its bytes -/
def pgT (p : Int → Int) (o : Int) (x : List Int) : Prop := p o = x.length ∧ ∀ k : Nat, k < x.length → p (o + 1 + k) = x.getD k 0
def pgL (p : Int → Int) (o : Int) (i : Nat) (l : Ln) : Prop := p (o + 1 + i) = l.1 ∧ p (o + 21 + i) = l.2.1.length ∧ p (o + 41 + i) = b2i l.2.2 ∧ ∀ k : Nat, k < l.2.1.length → p (o + 61 + 32 * i + k) = l.2.1.getD k 0
def pgR (p : Int → Int) (o : Int) (R : Option Rl) : Prop := match R with
  | none => p o = 0
  | some R => p o = R.1 ∧ p (o + 1) = R.2.1 ∧ p (o + 2) = R.2.2.1 ∧ p (o + 3) = R.2.2.2.1 ∧ p (o + 4) = R.2.2.2.2.1 ∧ pgT p (o + 5) R.2.2.2.2.2.1 ∧ (R.1 = 1 → pgT p (o + 14) R.2.2.2.2.2.2)
/-- the state S lies on the page from o on -/
def pgS (p : Int → Int) (o : Int) (S : SS) : Prop := p o = S.1.length ∧ (∀ i : Nat, i < S.1.length → pgL p o i (lnA S i)) ∧ (∀ r : Nat, r < 12 → pgR p (o + 701 + 23 * r) (S.2.1 r)) ∧ p (o + 977) = S.2.2.1 ∧ p (o + 978) = S.2.2.2.1 ∧ p (o + 979) = S.2.2.2.2
/-- c cells are copied -/
def cpN (p : Int → Int) (f t : Int) (n : Nat) : Int → Int := fun i => if t ≤ i ∧ i < t + n then p (i - t + f) else p i
theorem cpN_0 {p : Int → Int} {f t : Int} : cpN p f t 0 = p := by
  funext i; unfold cpN; rw [if_neg (by omega)]
theorem cpN_s {p : Int → Int} {f t : Int} {n : Nat} (h : f + 980 ≤ t ∨ t + 980 ≤ f) (hn : n < 980) : fup (cpN p f t n) (t + n) (cpN p f t n (f + n)) = cpN p f t (n + 1) := by
  funext i
  unfold fup cpN
  by_cases h1 : i = t + n
  · rw [if_pos h1, if_neg (by omega), if_pos (by omega), h1]; congr 1; omega
  · rw [if_neg h1]
    by_cases h2 : t ≤ i ∧ i < t + n
    · rw [if_pos h2, if_pos (by omega)]
    · rw [if_neg h2, if_neg (by omega)]
theorem mA_eq {M : MS} {j : Nat} {f : Int → Int} {i v : Int} : mA (M.1, fun k => if k = j then f else M.2.1 k, M.2.2) j i v = (M.1, fun k => if k = j then fup f i v else M.2.1 k, M.2.2) := by
  unfold mA
  refine Prod.ext rfl (Prod.ext (funext fun k => ?_) rfl)
  dsimp only
  by_cases h : k = j
  · rw [if_pos h, if_pos h, if_pos rfl]
  · rw [if_neg h, if_neg h, if_neg h]
/-- the array j is f -/
def mW (M : MS) (j : Nat) (f : Int → Int) : MS := (M.1, fun k => if k = j then f else M.2.1 k, M.2.2)
theorem mW_self {j : Nat} : mW M j (M.2.1 j) = M := by
  unfold mW
  refine Prod.ext rfl (Prod.ext (funext fun k => ?_) rfl)
  dsimp only
  by_cases h : k = j
  · rw [if_pos h, h]
  · rw [if_neg h]
theorem mA_mW {j : Nat} {f : Int → Int} {i v : Int} : mA (mW M j f) j i v = mW M j (fup f i v) := mA_eq
theorem m_copies {f t : Int} (hA : mok X hp a) (hf : 0 ≤ f ∧ f ≤ 10) (ht : 0 ≤ t ∧ t ≤ 10) (hft : f ≠ t) : M0 X yX2_copies fX2_copies 1 [vR (some a), vI f, vI t] (mH hp a M) (fun hp' => hp' = mH hp a (mW M 0 (cpN (M.2.1 0) (980 * f) (980 * t) 980))) := by
  refine MC.of pfX2_copies rfl (fun h => by cases h) 1 rfl rfl ?_
  have loop : ∀ (r n : Nat), n + r = 980 → G X fX2_copies 1 2 [some (vR (some a)), some (vI f), some (vI t), some (vI (n : Int))] [] (mH hp a (mW M 0 (cpN (M.2.1 0) (980 * f) (980 * t) n))) (fun r hp' => r = none ∧ hp' = mH hp a (mW M 0 (cpN (M.2.1 0) (980 * f) (980 * t) 980))) := by
    intro r
    induction r with
    | zero =>
      intro n hn
      obtain rfl : n = 980 := by omega
      refine gs_ild3 (pc := 2) dX2_copies_2 ?_
      refine gs_sipush (pc := 3) dX2_copies_3 rfl ?_
      refine gs_ic_ge (pc := 6) (tgt := 39) dX2_copies_6 (by decide) (by omega) (fun _ => ?_) (fun hn => absurd (by decide) hn)
      refine gs_vret (pc := 39) dX2_copies_39 rfl ?_
      exact ⟨rfl, rfl⟩
    | succ r ih =>
      intro n hn
      refine gs_ild3 (pc := 2) dX2_copies_2 ?_
      refine gs_sipush (pc := 3) dX2_copies_3 rfl ?_
      refine gs_ic_ge (pc := 6) (tgt := 39) dX2_copies_6 (by decide) (by omega) (fun hn => absurd hn (by omega)) (fun _ => ?_)
      refine gs_ald0 (pc := 9) dX2_copies_9 ?_
      refine gs_getf (pc := 10) 0 dX2_copies_10 (mcell hA) clX2 in_X2 (by decide) q2226 (Or.inl rfl) rfl ?_
      refine gs_sipush (pc := 13) dX2_copies_13 rfl ?_
      refine gs_ild2 (pc := 16) dX2_copies_16 ?_
      refine gs_imul (pc := 17) dX2_copies_17 ?_
      refine gs_ild3 (pc := 18) dX2_copies_18 ?_
      refine gs_iadd (pc := 19) dX2_copies_19 ?_
      refine gs_ald0 (pc := 20) dX2_copies_20 ?_
      refine gs_getf (pc := 21) 0 dX2_copies_21 (mcell hA) clX2 in_X2 (by decide) q2226 (Or.inl rfl) rfl ?_
      refine gs_sipush (pc := 24) dX2_copies_24 rfl ?_
      refine gs_ild1 (pc := 27) dX2_copies_27 ?_
      refine gs_imul (pc := 28) dX2_copies_28 ?_
      refine gs_ild3 (pc := 29) dX2_copies_29 ?_
      refine gs_iadd (pc := 30) dX2_copies_30 ?_
      refine gs_iald (pc := 31) dX2_copies_31 (ma_page hA) (by omega) (by omega) ?_
      refine ms_page (pc := 32) hA dX2_copies_32 (by omega) ?_
      have := ih (n + 1) (by omega)
      rw [← cpN_s (by omega) (by omega), ← mA_mW] at this
      refine gs_inc3 (pc := 33) dX2_copies_33 rfl ?_
      refine gs_goto (pc := 36) (tgt := 2) dX2_copies_36 (by decide) ?_
      exact this
  refine gs_iconst (pc := 0) dX2_copies_0 ?_
  refine gs_ist3 (pc := 1) dX2_copies_1 rfl ?_
  have := loop 980 0 (by omega)
  rw [cpN_0, mW_self] at this
  exact this
end M2
