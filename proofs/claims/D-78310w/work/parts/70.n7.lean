/-! THE MODEL: decides. -/
section N7
variable {X : gCx} {hp : gHp} {a : Nat} {M M' : MS} {A : AS} {S : SS} {i p f t r n k : Nat} {W : Wk} {ind : Nat → Int} {stp bse : Int}
/-- only what is decided has changed -/
def decF (M M' : MS) : Prop := (∀ k, k < 24 ∨ 27 < k → M'.1 k = M.1 k) ∧ M'.2 = M.2
theorem decF.refl : decF M M := ⟨fun _ _ => rfl, rfl⟩
theorem decF.trans {M'' : MS} (h : decF M M') (h' : decF M' M'') : decF M M'' := ⟨fun k hk => (h'.1 k hk).trans (h.1 k hk), h'.2.trans h.2⟩
theorem decF.mP {j : Nat} {v : Int} (h : 24 ≤ j ∧ j ≤ 27) : decF M (mP M j v) := ⟨fun k hk => if_neg (by omega), rfl⟩
theorem decF_of1 {p c y b : Int} : decF M (of1 M p c y b) := by
  unfold of1
  by_cases h : M.1 27 < p
  · rw [if_pos h]; exact (((decF.mP (by omega)).trans (decF.mP (by omega))).trans (decF.mP (by omega))).trans (decF.mP (by omega))
  · rw [if_neg h]; exact decF.refl
theorem decF.hi (h : decF M M') : hiF M M' := ⟨fun k hk => h.1 k (by omega), fun j _ => by rw [h.2]⟩
theorem decF.US (h : decF M M') (hU : US M S ind stp bse) : US M' S ind stp bse := by
  obtain ⟨hP, hL, u1, u2, u3, u4⟩ := hU
  exact ⟨h.hi.PG hP, h.hi.LO hL, by rw [h.2]; exact u1, by rw [h.1 22 (by omega)]; exact u2, by rw [h.1 23 (by omega)]; exact u3, u4⟩
theorem US.op (hU : US M S ind stp bse) (hn : n ≤ (toks S).length) {b : Nat} (hb : b < (wkN S (toks S) n).1.length) : opM M S (opK (wkN S (toks S) n).1 b) := by
  obtain ⟨q1, q2, q3⟩ := (wkN_ok (S := S) n).2.1 b hb
  refine ⟨by omega, ?_, q3⟩
  have := (hU.2.1.2.1.2.2.2.2 (opK (wkN S (toks S) n).1 b) (by omega)).1
  rw [this, (wk_stab (S := S) (T := toks S) q1 (toks S).length hn).2, if_pos q2]
/-- the rule of a sort that is used -/
theorem rl_of {so : Int} {x : List Int} (h : rfor S so x 12 ≠ -9) : ∃ (r : Nat) (R : Rl), rfor S so x 12 = r ∧ r < 12 ∧ S.2.1 r = some R ∧ rlA S (rfor S so x 12) = R := by
  rcases rfor_ok (S := S) (so := so) (x := x) 12 with h1 | ⟨r, R, h1, h2, h3, -⟩
  · exact absurd h1 h
  · refine ⟨r, R, h1, h2, h3, ?_⟩
    unfold rlA
    rw [h1, Int.toNat_natCast, h3]
    rfl
/-- what is decided so far: by the Model's scalars; d0: the ground's decision, offered last -/
def dR (M0 M : MS) (d0 : Dc) (q : Int × Dc) : Prop := decF M0 M ∧ (-1 ≤ q.1 ∧ q.1 ≤ 9) ∧ (-1000 ≤ q.2.1 ∧ q.2.1 ≤ 1000) ∧ (M.1 27 = q.1 ∧ 0 ≤ q.1 ∧ M.1 24 = q.2.1 ∧ M.1 25 = q.2.2.1 ∧ M.1 26 = q.2.2.2 ∨ M.1 27 = -2 ∧ q = (-1, d0))
theorem dR.w {M0 : MS} {d0 : Dc} {q : Int × Dc} (h : dR M0 M d0 q) : i32 (M.1 27) := by
  obtain ⟨-, h1, -, h2 | h2⟩ := h <;> omega
theorem dR.of {M0 : MS} {d0 : Dc} {q : Int × Dc} {p c y b : Int} (h : dR M0 M d0 q) (hp : 0 ≤ p ∧ p ≤ 9) (hc : -1000 ≤ c ∧ c ≤ 1000) : dR M0 (of1 M p c y b) d0 (if q.1 < p then (p, (c, y, b)) else q) := by
  obtain ⟨h1, h2, h3, h4⟩ := h
  by_cases hq : q.1 < p
  · rw [if_pos hq]
    have hw : M.1 27 < p := by rcases h4 with h4 | h4 <;> omega
    refine ⟨h1.trans decF_of1, by dsimp only; omega, hc, Or.inl ?_⟩
    unfold of1
    rw [if_pos hw]
    exact ⟨rfl, hp.1, rfl, rfl, rfl⟩
  · rw [if_neg hq]
    have hw : ¬ M.1 27 < p := by
      rcases h4 with h4 | ⟨-, h4⟩
      · omega
      · rw [h4] at hq; dsimp only at hq; omega
    refine ⟨h1.trans decF_of1, h2, h3, ?_⟩
    unfold of1
    rw [if_neg hw]
    exact h4
abbrev dcPost (hp : gHp) (a : Nat) (M : MS) (d : Dc) : Option AV → gHp → Prop := fun r hp' => r = none ∧ ∃ M', hp' = mH hp a M' ∧ decF M M' ∧ M'.1 24 = d.1 ∧ M'.1 25 = d.2.1 ∧ M'.1 26 = d.2.2
def clV (st : List Nat) (o : Option Nat) : Int := match o with
  | some b => (opK st b : Int)
  | none => -9
theorem m_decides (hA : mok X hp a) (hU : US M S ind stp bse) (hi : i < nL S) : M0 X yX2_decides fX2_decides 4 [vR (some a), vI (i : Int)] (mH hp a M) (fun hp' => ∃ M', hp' = mH hp a M' ∧ decF M M' ∧ M'.1 24 = (dcd S (toks S) ind stp bse i).1 ∧ M'.1 25 = (dcd S (toks S) ind stp bse i).2.1 ∧ M'.1 26 = (dcd S (toks S) ind stp bse i).2.2) := by
  refine MC.of pfX2_decides rfl (fun h => by cases h) 9 rfl rfl ?_
  have hU0 := hU
  obtain ⟨hP, hL, u1, u2, u3, u4, u5, u6⟩ := hU
  have htle := toks_le hP.2
  have hc := hP.cnt
  have h10 : M.2.1 10 (i : Int) = fstO S i := hL.1.1 i (by omega)
  have h10' : M.2.1 10 ((i : Int) + 1) = fstO S (i + 1) := hL.1.1 (i + 1) (by omega)
  have hmono := fstO_mono (S := S) (i := i)
  have hfl := fstO_le (S := S) (i := i + 1) (j := nL S) (by omega)
  rw [fstO_n] at hfl
  obtain ⟨n12, n13⟩ := hL.2.2 i (by omega)
  have n12 : M.2.1 12 (i : Int) = (wkN S (toks S) (fstO S i)).1.length := n12
  have n13 : ∀ k : Nat, k < (wkN S (toks S) (fstO S i)).1.length → M.2.1 13 (12 * (i : Int) + k) = opK (wkN S (toks S) (fstO S i)).1 k := n13
  have hWk := wkN_ok (S := S) (fstO S i)
  have hop : ∀ b : Nat, b < (wkN S (toks S) (fstO S i)).1.length → opM M S (opK (wkN S (toks S) (fstO S i)).1 b) := fun b hb => hU0.op (by omega) hb
  have hlk := hL.2.1.2.2.2.2
  have hD := fun n => dcL_at (S := S) (lo := fstO S i) (n := n) (toks S).length
  have hDle := fun n => dcL_le (S := S) (T := toks S) (st := (wkN S (toks S) (fstO S i)).1) (lo := fstO S i) n
  have hstop := fun n h m hm => dcL_stop (S := S) (T := toks S) (st := (wkN S (toks S) (fstO S i)).1) (lo := fstO S i) (n := n) h m hm
  have edc : dcd S (toks S) ind stp bse i = (let q := dcL S (toks S) (wkN S (toks S) (fstO S i)).1 (fstO S i) (fstO S (i + 1) - fstO S i)
    let d0 := dc0 S (toks S) ind stp bse (wkN S (toks S) (fstO S i)).1 q.1
    let d1 : Int × Dc := match q.2.1 with
      | some b => ((blR S (toks S) (opK (wkN S (toks S) (fstO S i)).1 b)).2.1, (dcC S (toks S) ind stp (opK (wkN S (toks S) (fstO S i)).1 b), 3, prT S (toks S) (opK (wkN S (toks S) (fstO S i)).1 b)))
      | none => (-1, d0)
    let d2 := dcT S d0.1 stp 4 (if fstO S i < fstO S (i + 1) then rfor S 2 (tA (toks S) (fstO S i)).2.2.2.2 12 else -9) d1
    let d3 := dcT S d0.1 stp 5 (if fstO S i < fstO S (i + 1) ∧ 0 < fstO S i ∧ (wkN S (toks S) (fstO S i)).2.2.2.1 (fstO S i - 1) = false then rfor S 3 (tA (toks S) (fstO S i - 1)).2.2.2.2 12 else -9) d2
    (held d3.2.1, d3.2.2.1, d3.2.2.2)) := rfl
  rw [edc]
  clear edc
  dsimp only
  have hjo : 0 < fstO S i → ((wkN S (toks S) (fstO S i)).2.2.2.1 (fstO S i - 1) = false ∧ M.2.1 7 ((fstO S i : Int) - 1) = -9 ∨ (wkN S (toks S) (fstO S i)).2.2.2.1 (fstO S i - 1) = true ∧ M.2.1 7 ((fstO S i : Int) - 1) ≠ -9 ∧ 0 ≤ M.2.1 7 ((fstO S i : Int) - 1) ∧ M.2.1 7 ((fstO S i : Int) - 1) < 12) := by
    intro h0
    have h1 := (hlk (fstO S i - 1) (by omega)).1
    rw [show ((fstO S i - 1 : Nat) : Int) = (fstO S i : Int) - 1 by omega, (wk_stab (S := S) (T := toks S) (t := fstO S i - 1) (n := fstO S i) (by omega) (toks S).length (by omega)).2] at h1
    rw [h1]
    cases ho : (wkN S (toks S) (fstO S i)).2.2.2.1 (fstO S i - 1) with
    | false => exact Or.inl ⟨rfl, rfl⟩
    | true =>
      obtain ⟨r, R, e1, e2, -⟩ := blk_ok (wk_opened _ ho)
      rw [if_pos rfl, e1]
      exact Or.inr ⟨rfl, by omega, by omega, by omega⟩
  generalize hW : (wkN S (toks S) (fstO S i)).1 = st at *
  have hst12 : st.length ≤ 12 := by rw [← hW]; exact hWk.1
  have hinc : ∀ b c : Nat, b < c → c < st.length → opK st b < opK st c := by rw [← hW]; exact hWk.2.2.2
  generalize (wkN S (toks S) (fstO S i)).2.2.2.1 (fstO S i - 1) = lop at *
  clear hWk hW
  generalize hlo : fstO S i = lo at *
  generalize hhi : fstO S (i + 1) = hi' at *
  generalize hDD : dcL S (toks S) st lo (hi' - lo) = D
  have hDl := hDle (hi' - lo)
  rw [hDD] at hDl
  generalize hd0 : dc0 S (toks S) ind stp bse st D.1 = d0
  have hd0r : 0 ≤ d0.1 ∧ d0.1 ≤ 72 := by
    rw [← hd0]
    unfold dc0
    by_cases h : D.1 = 0
    · rw [if_pos h]; dsimp only; omega
    · rw [if_neg h]
      exact colB_rng hP.2 u4 (hop _ (by omega)).1
  generalize hd1 : (match D.2.1 with
      | some b => ((blR S (toks S) (opK st b)).2.1, (dcC S (toks S) ind stp (opK st b), 3, prT S (toks S) (opK st b)))
      | none => (-1, d0) : Int × Dc) = d1
  generalize hd2 : dcT S d0.1 stp 4 (if lo < hi' then rfor S 2 (tA (toks S) lo).2.2.2.2 12 else -9) d1 = d2
  generalize hd3 : dcT S d0.1 stp 5 (if lo < hi' ∧ 0 < lo ∧ lop = false then rfor S 3 (tA (toks S) (lo - 1)).2.2.2.2 12 else -9) d2 = d3
  -- the end
  have k467 : ∀ (Mx : MS) (L2 L3 L4 L5 L6 L7 L8 L9 L10 : Option AV), decF M Mx → Mx.1 24 = d3.2.1 → Mx.1 25 = d3.2.2.1 → Mx.1 26 = d3.2.2.2 → (-1000 ≤ d3.2.1 ∧ d3.2.1 ≤ 1000) → G X fX2_decides 4 467 [some (vR (some a)), some (vI (i : Int)), L2, L3, L4, L5, L6, L7, L8, L9, L10] [] (mH hp a Mx) (dcPost hp a M (held d3.2.1, d3.2.2.1, d3.2.2.2)) := by
    intro Mx L2 L3 L4 L5 L6 L7 L8 L9 L10 h1 h2 h3 h4 h5
    refine gs_ald0 (pc := 467) dX2_decides_467 ?_
    refine gs_ald0 (pc := 468) dX2_decides_468 ?_
    refine gs_getf (pc := 469) 24 dX2_decides_469 (mcell hA) clX2 in_X2 (by decide) q2250 (Or.inl rfl) rfl ?_
    refine gs_if_ge (pc := 472) (tgt := 479) dX2_decides_472 (by decide) (by omega) (fun hcc => ?_) (fun hcc => ?_)
    · refine gs_ald0 (pc := 479) dX2_decides_479 ?_
      refine gs_getf (pc := 480) 24 dX2_decides_480 (mcell hA) clX2 in_X2 (by decide) q2250 (Or.inl rfl) rfl ?_
      refine gs_bipush (pc := 483) dX2_decides_483 rfl ?_
      refine gs_S2 (pc := 485) dX2_decides_485 kX2_91 (by decide) (Nat.le_of_ble_eq_true rfl) (m_least (by omega) (by decide)) (fun v hp1 hq => ?_)
      obtain ⟨rfl, rfl⟩ := hq
      refine mp_column (pc := 488) rfl hA dX2_decides_488 ?_
      refine gs_vret (pc := 491) dX2_decides_491 rfl ?_
      refine ⟨rfl, _, rfl, h1.trans (decF.mP (by omega)), ?_, h3, h4⟩
      show min (Mx.1 24) 40 = held d3.2.1
      unfold held
      omega
    · refine gs_iconst (pc := 475) dX2_decides_475 ?_
      refine gs_goto (pc := 476) (tgt := 488) dX2_decides_476 (by decide) ?_
      refine mp_column (pc := 488) rfl hA dX2_decides_488 ?_
      refine gs_vret (pc := 491) dX2_decides_491 rfl ?_
      refine ⟨rfl, _, rfl, h1.trans (decF.mP (by omega)), ?_, h3, h4⟩
      show (0 : Int) = held d3.2.1
      unfold held
      omega
  have k416 : ∀ (Mx : MS) (L2 L3 L4 L7 L8 L9 L10 : Option AV) (bv : Int), (D.1 = 0 ∧ bv = -9 ∨ 0 < D.1 ∧ bv = (opK st (D.1 - 1) : Nat)) → dR M Mx d0 d3 → G X fX2_decides 4 416 [some (vR (some a)), some (vI (i : Int)), L2, L3, L4, some (vI bv), some (vI d0.1), L7, L8, L9, L10] [] (mH hp a Mx) (dcPost hp a M (held d3.2.1, d3.2.2.1, d3.2.2.2)) := by
    intro Mx L2 L3 L4 L7 L8 L9 L10 bv hbv hR
    have hUx := hR.1.US hU0
    have hfin : ∀ y b : Int, y = d0.2.1 → b = d0.2.2 → G X fX2_decides 4 464 [some (vR (some a)), some (vI (i : Int)), L2, L3, L4, some (vI bv), some (vI d0.1), L7, L8, L9, L10] [vI b, vI y, vI d0.1, vI (-1), vR (some a)] (mH hp a Mx) (dcPost hp a M (held d3.2.1, d3.2.2.1, d3.2.2.2)) := by
      intro y b hy hb
      refine gs_V4v (pc := 464) dX2_decides_464 kX2_182 (mcell hA) clX2 (by decide) (Nat.le_of_ble_eq_true rfl) (m_offers hA (by decide) hR.w) (fun hp1 hq => ?_)
      obtain ⟨rfl⟩ := hq
      obtain ⟨q1, q2, q3, q4⟩ := hR
      rcases q4 with ⟨q4, q5, q6, q7, q8⟩ | ⟨q4, q5⟩
      · have e : of1 Mx (-1) d0.1 y b = Mx := by unfold of1; rw [if_neg (by omega)]
        rw [e]
        exact k467 Mx _ _ _ _ _ _ _ _ _ q1 q6 q7 q8 q3
      · have e : of1 Mx (-1) d0.1 y b = mP (mP (mP (mP Mx 27 (-1)) 24 d0.1) 25 y) 26 b := by unfold of1; rw [if_pos (by omega)]
        have hF : decF M (of1 Mx (-1) d0.1 y b) := q1.trans decF_of1
        rw [e] at hF ⊢
        refine k467 _ _ _ _ _ _ _ _ _ _ hF ?_ ?_ ?_ q3
        · rw [q5]; rfl
        · rw [q5]; exact hy
        · rw [q5]; exact hb
    rcases hbv with ⟨hz, rfl⟩ | ⟨hz, rfl⟩
    · have e0 : d0 = (bse, 0, -9) := by rw [← hd0]; unfold dc0; rw [if_pos hz]
      refine gs_ald0 (pc := 416) dX2_decides_416 ?_
      refine gs_iconst (pc := 417) dX2_decides_417 ?_
      refine gs_ild6 (pc := 418) dX2_decides_418 ?_
      refine gs_ild5 (pc := 420) dX2_decides_420 ?_
      refine gs_bipush (pc := 422) dX2_decides_422 rfl ?_
      refine gs_ic_ne (pc := 424) (tgt := 431) dX2_decides_424 (by decide) (by omega) (fun hn => absurd (by decide) hn) (fun _ => ?_)
      refine gs_iconst (pc := 427) dX2_decides_427 ?_
      refine gs_goto (pc := 428) (tgt := 445) dX2_decides_428 (by decide) ?_
      refine gs_ild5 (pc := 445) dX2_decides_445 ?_
      refine gs_bipush (pc := 447) dX2_decides_447 rfl ?_
      refine gs_ic_ne (pc := 449) (tgt := 457) dX2_decides_449 (by decide) (by omega) (fun hn => absurd (by decide) hn) (fun _ => ?_)
      refine gs_bipush (pc := 452) dX2_decides_452 rfl ?_
      refine gs_goto (pc := 454) (tgt := 464) dX2_decides_454 (by decide) ?_
      exact hfin 0 (-9) (by rw [e0]) (by rw [e0])
    · have hob := hop (D.1 - 1) (by omega)
      have hobx : opM Mx S (opK st (D.1 - 1)) := ⟨hob.1, by rw [hR.1.2]; exact hob.2.1, hob.2.2⟩
      have e0 : d0 = (colB S (toks S) ind stp (opK st (D.1 - 1)), if alB S (toks S) (opK st (D.1 - 1)) then 2 else 1, prT S (toks S) (opK st (D.1 - 1))) := by rw [← hd0]; unfold dc0; rw [if_neg (by omega)]
      have hob1 := hob.1
      refine gs_ald0 (pc := 416) dX2_decides_416 ?_
      refine gs_iconst (pc := 417) dX2_decides_417 ?_
      refine gs_ild6 (pc := 418) dX2_decides_418 ?_
      refine gs_ild5 (pc := 420) dX2_decides_420 ?_
      refine gs_bipush (pc := 422) dX2_decides_422 rfl ?_
      refine gs_ic_ne (pc := 424) (tgt := 431) dX2_decides_424 (by decide) (by omega) (fun _ => ?_) (fun hn => absurd hn (by omega))
      refine gs_ald0 (pc := 431) dX2_decides_431 ?_
      refine gs_ild5 (pc := 432) dX2_decides_432 ?_
      refine gs_V1 (pc := 434) dX2_decides_434 kX2_160 (mcell hA) clX2 (by decide) (Nat.le_of_ble_eq_true rfl) (m_isAligned hA hUx.1 hUx.2.1 hobx) (fun v hp1 hq => ?_)
      obtain ⟨rfl, rfl⟩ := hq
      refine gs_beq (pc := 437) (tgt := 444) dX2_decides_437 (by decide) (fun hal => ?_) (fun hal => ?_)
      · refine gs_iconst (pc := 444) dX2_decides_444 ?_
        refine gs_ild5 (pc := 445) dX2_decides_445 ?_
        refine gs_bipush (pc := 447) dX2_decides_447 rfl ?_
        refine gs_ic_ne (pc := 449) (tgt := 457) dX2_decides_449 (by decide) (by omega) (fun _ => ?_) (fun hn => absurd hn (by omega))
        refine gs_ald0 (pc := 457) dX2_decides_457 ?_
        refine gs_getf (pc := 458) 9 dX2_decides_458 (mcell hA) clX2 in_X2 (by decide) q2235 (Or.inl rfl) rfl ?_
        refine gs_ild5 (pc := 461) dX2_decides_461 ?_
        refine gs_iald (pc := 463) dX2_decides_463 (ma_opens hA) (by omega) (by omega) ?_
        rw [hobx.2.1]
        exact hfin 1 _ (by rw [e0, hal]; rfl) (by rw [e0])
      · refine gs_iconst (pc := 440) dX2_decides_440 ?_
        refine gs_goto (pc := 441) (tgt := 445) dX2_decides_441 (by decide) ?_
        refine gs_ild5 (pc := 445) dX2_decides_445 ?_
        refine gs_bipush (pc := 447) dX2_decides_447 rfl ?_
        refine gs_ic_ne (pc := 449) (tgt := 457) dX2_decides_449 (by decide) (by omega) (fun _ => ?_) (fun hn => absurd hn (by omega))
        refine gs_ald0 (pc := 457) dX2_decides_457 ?_
        refine gs_getf (pc := 458) 9 dX2_decides_458 (mcell hA) clX2 in_X2 (by decide) q2235 (Or.inl rfl) rfl ?_
        refine gs_ild5 (pc := 461) dX2_decides_461 ?_
        refine gs_iald (pc := 463) dX2_decides_463 (ma_opens hA) (by omega) (by omega) ?_
        rw [hobx.2.1]
        exact hfin 2 _ (by rw [e0, hal]; rfl) (by rw [e0])
  -- a rule takes
  have krule : ∀ {so : Int} {x : List Int} {y : Int} {q : Int × Dc} {Mx : MS}, rfor S so x 12 ≠ -9 → dR M Mx d0 q → ∃ (r : Nat) (R : Rl), rfor S so x 12 = r ∧ r < 12 ∧ (0 ≤ R.2.1 ∧ R.2.1 ≤ 9) ∧ Mx.2.1 0 (701 + 23 * (r : Int) + 1) = R.2.1 ∧ Mx.2.1 0 (701 + 23 * (r : Int) + 2) = R.2.2.1 ∧ (∀ Mx, dR M Mx d0 q → dR M (of1 Mx R.2.1 (d0.1 + R.2.2.1 * stp) y r) d0 (dcT S d0.1 stp y (rfor S so x 12) q)) := by
    intro so x y q Mx hn hR
    obtain ⟨r, R, e1, e2, e3, e4⟩ := rl_of hn
    have hrl := (hR.1.US hU0).1.rlS e2 e3
    have hp1 := hrl.1.2.1
    have hmu := mul_rng hrl.1.2.2.1 u5
    refine ⟨r, R, e1, e2, hp1, hrl.2.2.1, hrl.2.2.2.1, fun Mx hR => ?_⟩
    have hof := hR.of (p := R.2.1) (c := d0.1 + R.2.2.1 * stp) (y := y) (b := r) hp1 (by omega)
    unfold dcT
    rw [e4]
    by_cases hq : q.1 < R.2.1
    · rw [if_pos hq] at hof
      rw [if_pos ⟨hn, hq⟩, e1]
      exact hof
    · rw [if_neg hq] at hof
      rw [if_neg (fun h => hq h.2)]
      exact hof
  have dcT_9 : ∀ {y : Int} {q : Int × Dc}, dcT S d0.1 stp y (-9) q = q := by
    intro y q
    unfold dcT
    rw [if_neg (fun h => h.1 rfl)]
  have k340 : ∀ (Mx : MS) (L2 L3 L4 L10 : Option AV) (z9 bv : Int), (D.1 = 0 ∧ bv = -9 ∨ 0 < D.1 ∧ bv = (opK st (D.1 - 1) : Nat)) → dR M Mx d0 d2 → G X fX2_decides 4 340 [some (vR (some a)), some (vI (i : Int)), L2, L3, L4, some (vI bv), some (vI d0.1), some (vI (lo : Int)), some (vI (b2i (decide (lo < hi')))), some (vI z9), L10] [] (mH hp a Mx) (dcPost hp a M (held d3.2.1, d3.2.2.1, d3.2.2.2)) := by
    intro Mx L2 L3 L4 L10 z9 bv hbv hR
    have kno : ¬ (lo < hi' ∧ 0 < lo ∧ lop = false) → G X fX2_decides 4 376 [some (vR (some a)), some (vI (i : Int)), L2, L3, L4, some (vI bv), some (vI d0.1), some (vI (lo : Int)), some (vI (b2i (decide (lo < hi')))), some (vI z9), L10] [] (mH hp a Mx) (dcPost hp a M (held d3.2.1, d3.2.2.1, d3.2.2.2)) := by
      intro hn
      rw [if_neg hn, dcT_9] at hd3
      rw [hd3] at hR
      refine gs_bipush (pc := 376) dX2_decides_376 rfl ?_
      refine gs_ist10 (pc := 378) dX2_decides_378 rfl ?_
      refine gs_ild10 (pc := 380) dX2_decides_380 ?_
      refine gs_bipush (pc := 382) dX2_decides_382 rfl ?_
      refine gs_ic_eq (pc := 384) (tgt := 416) dX2_decides_384 (by decide) (by omega) (fun _ => ?_) (fun hn => absurd (by decide) hn)
      exact k416 Mx _ _ _ _ _ _ _ bv hbv hR
    have hUx := hR.1.US hU0
    refine gs_ild8 (pc := 340) dX2_decides_340 ?_
    refine gs_beq (pc := 342) (tgt := 376) dX2_decides_342 (by decide) (fun hh => ?_) (fun hh => ?_)
    · exact kno (fun h => by rw [decide_eq_true h.1] at hh; cases hh)
    · have hh := of_decide_eq_true hh
      refine gs_ild7 (pc := 345) dX2_decides_345 ?_
      refine gs_if_le (pc := 347) (tgt := 376) dX2_decides_347 (by decide) (by omega) (fun h0 => ?_) (fun h0 => ?_)
      · exact kno (fun h => by omega)
      · have h0 : 0 < lo := by omega
        have hj := hjo h0
        have e7 : Mx.2.1 7 ((lo : Int) - 1) = M.2.1 7 ((lo : Int) - 1) := by rw [hR.1.2]
        refine gs_ald0 (pc := 350) dX2_decides_350 ?_
        refine gs_getf (pc := 351) 9 dX2_decides_351 (mcell hA) clX2 in_X2 (by decide) q2235 (Or.inl rfl) rfl ?_
        refine gs_ild7 (pc := 354) dX2_decides_354 ?_
        refine gs_iconst (pc := 356) dX2_decides_356 ?_
        refine gs_isub (pc := 357) dX2_decides_357 ?_
        refine gs_iald (pc := 358) dX2_decides_358 (ma_opens hA) (by omega) (by omega) ?_
        rw [e7]
        refine gs_bipush (pc := 359) dX2_decides_359 rfl ?_
        refine gs_ic_ne (pc := 361) (tgt := 376) dX2_decides_361 (by decide) (by omega) (fun h1 => ?_) (fun h1 => ?_)
        · exact kno (fun h => Or.elim hj (fun hj => h1 hj.2) (fun hj => by rw [hj.1] at h; exact absurd h.2.2 (by decide)))
        · have hl : lop = false := by
            rcases hj with hj | hj
            · exact hj.1
            · omega
          rw [if_pos ⟨hh, h0, hl⟩] at hd3
          refine gs_ald0 (pc := 364) dX2_decides_364 ?_
          refine gs_ild7 (pc := 365) dX2_decides_365 ?_
          refine gs_iconst (pc := 367) dX2_decides_367 ?_
          refine gs_isub (pc := 368) dX2_decides_368 ?_
          refine gs_iconst (pc := 369) dX2_decides_369 ?_
          rw [show (lo : Int) - 1 = ((lo - 1 : Nat) : Int) by omega]
          refine gs_V2 (pc := 370) dX2_decides_370 kX2_148 (mcell hA) clX2 (by decide) (Nat.le_of_ble_eq_true rfl) (m_ruleFor (so := 3) hA hUx.1 (hUx.2.1.1.at (by omega)) (by decide)) (fun v hp1 hq => ?_)
          obtain ⟨rfl, rfl⟩ := hq
          refine gs_goto (pc := 373) (tgt := 378) dX2_decides_373 (by decide) ?_
          by_cases hr9 : rfor S 3 (tA (toks S) (lo - 1)).2.2.2.2 12 = -9
          · rw [hr9, dcT_9] at hd3
            rw [hd3] at hR
            rw [hr9]
            refine gs_ist10 (pc := 378) dX2_decides_378 rfl ?_
            refine gs_ild10 (pc := 380) dX2_decides_380 ?_
            refine gs_bipush (pc := 382) dX2_decides_382 rfl ?_
            refine gs_ic_eq (pc := 384) (tgt := 416) dX2_decides_384 (by decide) (by omega) (fun _ => ?_) (fun hn => absurd (by decide) hn)
            exact k416 Mx _ _ _ _ _ _ _ bv hbv hR
          · obtain ⟨r, R, e1, e2, e3, e4, e5, e6⟩ := krule (y := 5) hr9 hR
            have hq := e6 Mx hR
            rw [hd3] at hq
            rw [e1]
            have eus : Mx.1 22 = stp := hUx.2.2.2.1
            refine gs_ist10 (pc := 378) dX2_decides_378 rfl ?_
            refine gs_ild10 (pc := 380) dX2_decides_380 ?_
            refine gs_bipush (pc := 382) dX2_decides_382 rfl ?_
            refine gs_ic_eq (pc := 384) (tgt := 416) dX2_decides_384 (by decide) (by omega) (fun hn => absurd hn (by omega)) (fun _ => ?_)
            refine gs_ald0 (pc := 387) dX2_decides_387 ?_
            refine gs_ald0 (pc := 388) dX2_decides_388 ?_
            refine gs_ild10 (pc := 389) dX2_decides_389 ?_
            refine gs_iconst (pc := 391) dX2_decides_391 ?_
            refine gs_V2 (pc := 392) dX2_decides_392 kX2_120 (mcell hA) clX2 (by decide) (Nat.le_of_ble_eq_true rfl) (m_ruleAt (w := 1) hA (by omega) (by decide)) (fun v hp1 hq => ?_)
            obtain ⟨rfl, rfl⟩ := hq
            rw [e4]
            refine gs_ild6 (pc := 395) dX2_decides_395 ?_
            refine gs_ald0 (pc := 397) dX2_decides_397 ?_
            refine gs_ild10 (pc := 398) dX2_decides_398 ?_
            refine gs_iconst (pc := 400) dX2_decides_400 ?_
            refine gs_V2 (pc := 401) dX2_decides_401 kX2_120 (mcell hA) clX2 (by decide) (Nat.le_of_ble_eq_true rfl) (m_ruleAt (w := 2) hA (by omega) (by decide)) (fun v hp1 hq => ?_)
            obtain ⟨rfl, rfl⟩ := hq
            rw [e5]
            refine gs_ald0 (pc := 404) dX2_decides_404 ?_
            refine gs_getf (pc := 405) 22 dX2_decides_405 (mcell hA) clX2 in_X2 (by decide) q2248 (Or.inl rfl) rfl ?_
            show G X fX2_decides 4 408 _ (vI (Mx.1 22) :: _) _ _
            rw [eus]
            refine gs_imul (pc := 408) dX2_decides_408 ?_
            refine gs_iadd (pc := 409) dX2_decides_409 ?_
            refine gs_iconst (pc := 410) dX2_decides_410 ?_
            refine gs_ild10 (pc := 411) dX2_decides_411 ?_
            refine gs_V4v (pc := 413) dX2_decides_413 kX2_182 (mcell hA) clX2 (by decide) (Nat.le_of_ble_eq_true rfl) (m_offers hA (by omega) hR.w) (fun hp1 hq => ?_)
            obtain ⟨rfl⟩ := hq
            exact k416 _ _ _ _ _ _ _ _ bv hbv hq
  have k257 : ∀ (Mx : MS) (L2 L3 L4 L7 L8 L9 L10 : Option AV) (bv : Int), (D.1 = 0 ∧ bv = -9 ∨ 0 < D.1 ∧ bv = (opK st (D.1 - 1) : Nat)) → dR M Mx d0 d1 → G X fX2_decides 4 257 [some (vR (some a)), some (vI (i : Int)), L2, L3, L4, some (vI bv), some (vI d0.1), L7, L8, L9, L10] [] (mH hp a Mx) (dcPost hp a M (held d3.2.1, d3.2.2.1, d3.2.2.2)) := by
    intro Mx L2 L3 L4 L7 L8 L9 L10 bv hbv hR
    have hUx := hR.1.US hU0
    have e10 : Mx.2.1 10 (i : Int) = lo := by rw [hR.1.2]; exact h10
    have e10' : Mx.2.1 10 ((i : Int) + 1) = hi' := by rw [hR.1.2]; exact h10'
    refine gs_ald0 (pc := 257) dX2_decides_257 ?_
    refine gs_getf (pc := 258) 13 dX2_decides_258 (mcell hA) clX2 in_X2 (by decide) q2239 (Or.inl rfl) rfl ?_
    refine gs_ild1 (pc := 261) dX2_decides_261 ?_
    refine gs_iald (pc := 262) dX2_decides_262 (ma_firstOf hA) (by omega) (by omega) ?_
    rw [e10]
    refine gs_ist7 (pc := 263) dX2_decides_263 rfl ?_
    refine gs_ild7 (pc := 265) dX2_decides_265 ?_
    refine gs_ald0 (pc := 267) dX2_decides_267 ?_
    refine gs_getf (pc := 268) 13 dX2_decides_268 (mcell hA) clX2 in_X2 (by decide) q2239 (Or.inl rfl) rfl ?_
    refine gs_ild1 (pc := 271) dX2_decides_271 ?_
    refine gs_iconst (pc := 272) dX2_decides_272 ?_
    refine gs_iadd (pc := 273) dX2_decides_273 ?_
    refine gs_iald (pc := 274) dX2_decides_274 (ma_firstOf hA) (by omega) (by omega) ?_
    rw [e10']
    refine gs_ic_ge (pc := 275) (tgt := 282) dX2_decides_275 (by decide) (by omega) (fun hh => ?_) (fun hh => ?_)
    · have hh : ¬ lo < hi' := by omega
      rw [if_neg hh, dcT_9] at hd2
      rw [hd2] at hR
      refine gs_iconst (pc := 282) dX2_decides_282 ?_
      refine gs_ist8 (pc := 283) dX2_decides_283 rfl ?_
      refine gs_ild8 (pc := 285) dX2_decides_285 ?_
      refine gs_if_eq (pc := 287) (tgt := 300) dX2_decides_287 (by decide) (by omega) (fun _ => ?_) (fun hn => absurd (by decide) hn)
      refine gs_bipush (pc := 300) dX2_decides_300 rfl ?_
      refine gs_ist9 (pc := 302) dX2_decides_302 rfl ?_
      refine gs_ild9 (pc := 304) dX2_decides_304 ?_
      refine gs_bipush (pc := 306) dX2_decides_306 rfl ?_
      refine gs_ic_eq (pc := 308) (tgt := 340) dX2_decides_308 (by decide) (by omega) (fun _ => ?_) (fun hn => absurd (by decide) hn)
      have := k340 Mx L2 L3 L4 L10 (-9) bv hbv hR
      rw [decide_eq_false hh] at this
      exact this
    · have hh : lo < hi' := by omega
      rw [if_pos hh] at hd2
      refine gs_iconst (pc := 278) dX2_decides_278 ?_
      refine gs_goto (pc := 279) (tgt := 283) dX2_decides_279 (by decide) ?_
      refine gs_ist8 (pc := 283) dX2_decides_283 rfl ?_
      refine gs_ild8 (pc := 285) dX2_decides_285 ?_
      refine gs_if_eq (pc := 287) (tgt := 300) dX2_decides_287 (by decide) (by omega) (fun hn => absurd hn (by decide)) (fun _ => ?_)
      refine gs_ald0 (pc := 290) dX2_decides_290 ?_
      refine gs_ild7 (pc := 291) dX2_decides_291 ?_
      refine gs_iconst (pc := 293) dX2_decides_293 ?_
      refine gs_V2 (pc := 294) dX2_decides_294 kX2_148 (mcell hA) clX2 (by decide) (Nat.le_of_ble_eq_true rfl) (m_ruleFor (so := 2) hA hUx.1 (hUx.2.1.1.at (by omega)) (by decide)) (fun v hp1 hq => ?_)
      obtain ⟨rfl, rfl⟩ := hq
      have k340' := fun Mx z9 hR => k340 Mx L2 L3 L4 L10 z9 bv hbv hR
      rw [decide_eq_true hh] at k340'
      by_cases hr9 : rfor S 2 (tA (toks S) lo).2.2.2.2 12 = -9
      · rw [hr9, dcT_9] at hd2
        rw [hd2] at hR
        rw [hr9]
        refine gs_goto (pc := 297) (tgt := 302) dX2_decides_297 (by decide) ?_
        refine gs_ist9 (pc := 302) dX2_decides_302 rfl ?_
        refine gs_ild9 (pc := 304) dX2_decides_304 ?_
        refine gs_bipush (pc := 306) dX2_decides_306 rfl ?_
        refine gs_ic_eq (pc := 308) (tgt := 340) dX2_decides_308 (by decide) (by omega) (fun _ => ?_) (fun hn => absurd (by decide) hn)
        exact k340' Mx _ hR
      · obtain ⟨r, R, e1, e2, e3, e4, e5, e6⟩ := krule (y := 4) hr9 hR
        have hq := e6 Mx hR
        rw [hd2] at hq
        rw [e1]
        have eus : Mx.1 22 = stp := hUx.2.2.2.1
        refine gs_goto (pc := 297) (tgt := 302) dX2_decides_297 (by decide) ?_
        refine gs_ist9 (pc := 302) dX2_decides_302 rfl ?_
        refine gs_ild9 (pc := 304) dX2_decides_304 ?_
        refine gs_bipush (pc := 306) dX2_decides_306 rfl ?_
        refine gs_ic_eq (pc := 308) (tgt := 340) dX2_decides_308 (by decide) (by omega) (fun hn => absurd hn (by omega)) (fun _ => ?_)
        refine gs_ald0 (pc := 311) dX2_decides_311 ?_
        refine gs_ald0 (pc := 312) dX2_decides_312 ?_
        refine gs_ild9 (pc := 313) dX2_decides_313 ?_
        refine gs_iconst (pc := 315) dX2_decides_315 ?_
        refine gs_V2 (pc := 316) dX2_decides_316 kX2_120 (mcell hA) clX2 (by decide) (Nat.le_of_ble_eq_true rfl) (m_ruleAt (w := 1) hA (by omega) (by decide)) (fun v hp1 hq => ?_)
        obtain ⟨rfl, rfl⟩ := hq
        rw [e4]
        refine gs_ild6 (pc := 319) dX2_decides_319 ?_
        refine gs_ald0 (pc := 321) dX2_decides_321 ?_
        refine gs_ild9 (pc := 322) dX2_decides_322 ?_
        refine gs_iconst (pc := 324) dX2_decides_324 ?_
        refine gs_V2 (pc := 325) dX2_decides_325 kX2_120 (mcell hA) clX2 (by decide) (Nat.le_of_ble_eq_true rfl) (m_ruleAt (w := 2) hA (by omega) (by decide)) (fun v hp1 hq => ?_)
        obtain ⟨rfl, rfl⟩ := hq
        rw [e5]
        refine gs_ald0 (pc := 328) dX2_decides_328 ?_
        refine gs_getf (pc := 329) 22 dX2_decides_329 (mcell hA) clX2 in_X2 (by decide) q2248 (Or.inl rfl) rfl ?_
        show G X fX2_decides 4 332 _ (vI (Mx.1 22) :: _) _ _
        rw [eus]
        refine gs_imul (pc := 332) dX2_decides_332 ?_
        refine gs_iadd (pc := 333) dX2_decides_333 ?_
        refine gs_iconst (pc := 334) dX2_decides_334 ?_
        refine gs_ild9 (pc := 335) dX2_decides_335 ?_
        refine gs_V4v (pc := 337) dX2_decides_337 kX2_182 (mcell hA) clX2 (by decide) (Nat.le_of_ble_eq_true rfl) (m_offers hA (by omega) hR.w) (fun hp1 hq => ?_)
        obtain ⟨rfl⟩ := hq
        exact k340' _ _ hq
  have k168 : ∀ (L4 L7 L8 L9 L10 : Option AV) (bv : Int), (D.1 = 0 ∧ bv = -9 ∨ 0 < D.1 ∧ bv = (opK st (D.1 - 1) : Nat)) → G X fX2_decides 4 168 [some (vR (some a)), some (vI (i : Int)), some (vI (D.1 : Int)), some (vI (clV st D.2.1)), L4, some (vI bv), some (vI d0.1), L7, L8, L9, L10] [] (mH hp a M) (dcPost hp a M (held d3.2.1, d3.2.2.1, d3.2.2.2)) := by
    intro L4 L7 L8 L9 L10 bv hbv
    have hF : decF M (mP M 27 (-2)) := decF.mP (by omega)
    have hUx := hF.US hU0
    cases hcl : D.2.1 with
    | none =>
      rw [hcl] at hd1
      dsimp only at hd1
      rw [show clV st none = (-9 : Int) from rfl]
      refine gs_ald0 (pc := 168) dX2_decides_168 ?_
      refine gs_bipush (pc := 169) dX2_decides_169 rfl ?_
      refine mp_weight (pc := 171) rfl hA dX2_decides_171 ?_
      refine gs_ild3 (pc := 174) dX2_decides_174 ?_
      refine gs_bipush (pc := 175) dX2_decides_175 rfl ?_
      refine gs_ic_eq (pc := 177) (tgt := 257) dX2_decides_177 (by decide) (by omega) (fun _ => ?_) (fun hn => absurd (by decide) hn)
      refine k257 (mP M 27 (-2)) _ _ _ _ _ _ _ bv hbv ⟨hF, ?_, ?_, Or.inr ⟨rfl, hd1.symm⟩⟩
      · rw [← hd1]; show (-1 : Int) ≤ -1 ∧ (-1 : Int) ≤ 9; decide
      · rw [← hd1]; dsimp only; omega
    | some b =>
      rw [hcl] at hd1
      dsimp only at hd1
      have hbl := hDl.2 b hcl
      have hob := hop b hbl
      have hob1 := hob.1
      obtain ⟨r, R, e1, e2, e3, e4, e5⟩ := blk_ok hob.2.2
      have hrl := hUx.1.rlS e2 e3
      have hta := tok_at hP.2 hob.1
      have hil := u4 _ hta.1
      have hcr := colB_rng (stp := stp) hP.2 u4 hob.1
      have hw := hUx.2.1.1.2.2.2 _ hob.1
      have hmode := hrl.1.2.2.2.2.2.1
      have hprec := hrl.1.2.1
      have hop7 : (mP M 27 (-2)).2.1 7 ((opK st b : Nat) : Int) = r := by rw [← e1]; exact hob.2.1
      have kat : ∀ (at_ z7 : Int), at_ = dcC S (toks S) ind stp (opK st b) → G X fX2_decides 4 231 [some (vR (some a)), some (vI (i : Int)), some (vI (D.1 : Int)), some (vI ((opK st b : Nat) : Int)), L4, some (vI bv), some (vI d0.1), some (vI z7), L8, L9, L10] [vI at_] (mH hp a (mP M 27 (-2))) (dcPost hp a M (held d3.2.1, d3.2.2.1, d3.2.2.2)) := by
        intro at_ z7 hat
        refine gs_ist8 (pc := 231) dX2_decides_231 rfl ?_
        refine gs_ald0 (pc := 233) dX2_decides_233 ?_
        refine gs_ald0 (pc := 234) dX2_decides_234 ?_
        refine gs_ald0 (pc := 235) dX2_decides_235 ?_
        refine gs_getf (pc := 236) 9 dX2_decides_236 (mcell hA) clX2 in_X2 (by decide) q2235 (Or.inl rfl) rfl ?_
        refine gs_ild3 (pc := 239) dX2_decides_239 ?_
        refine gs_iald (pc := 240) dX2_decides_240 (ma_opens hA) (by omega) (by omega) ?_
        refine gs_iconst (pc := 241) dX2_decides_241 ?_
        rw [hop7]
        refine gs_V2 (pc := 242) dX2_decides_242 kX2_120 (mcell hA) clX2 (by decide) (Nat.le_of_ble_eq_true rfl) (m_ruleAt (w := 1) hA (by omega) (by decide)) (fun v hp1 hq => ?_)
        obtain ⟨rfl, rfl⟩ := hq
        rw [hrl.2.2.1]
        refine gs_ild8 (pc := 245) dX2_decides_245 ?_
        refine gs_iconst (pc := 247) dX2_decides_247 ?_
        refine gs_ald0 (pc := 248) dX2_decides_248 ?_
        refine gs_getf (pc := 249) 9 dX2_decides_249 (mcell hA) clX2 in_X2 (by decide) q2235 (Or.inl rfl) rfl ?_
        refine gs_ild3 (pc := 252) dX2_decides_252 ?_
        refine gs_iald (pc := 253) dX2_decides_253 (ma_opens hA) (by omega) (by omega) ?_
        rw [hop7]
        refine gs_V4v (pc := 254) dX2_decides_254 kX2_182 (mcell hA) clX2 (by decide) (Nat.le_of_ble_eq_true rfl) (m_offers hA (by omega) (by show i32 (-2); decide)) (fun hp1 hq => ?_)
        obtain ⟨rfl⟩ := hq
        refine k257 _ _ _ _ _ _ _ _ bv hbv ⟨hF.trans decF_of1, ?_, ?_, Or.inl ?_⟩
        · rw [← hd1, e5]; dsimp only; omega
        · rw [← hd1]
          dsimp only
          unfold dcC
          by_cases c1 : (blR S (toks S) (opK st b)).2.2.2.2.1 = 0
          · rw [if_pos c1]; omega
          · rw [if_neg c1]
            by_cases c2 : (blR S (toks S) (opK st b)).2.2.2.2.1 = 1
            · rw [if_pos c2]; omega
            · rw [if_neg c2]; omega
        · have e : of1 (mP M 27 (-2)) R.2.1 at_ 3 r = mP (mP (mP (mP (mP M 27 (-2)) 27 R.2.1) 24 at_) 25 3) 26 r := by
            unfold of1
            rw [if_pos (by show (-2 : Int) < R.2.1; omega)]
          rw [e, ← hd1, e5, e1]
          exact ⟨rfl, hprec.1, hat, rfl, rfl⟩
      rw [show clV st (some b) = ((opK st b : Nat) : Int) from rfl]
      refine gs_ald0 (pc := 168) dX2_decides_168 ?_
      refine gs_bipush (pc := 169) dX2_decides_169 rfl ?_
      refine mp_weight (pc := 171) rfl hA dX2_decides_171 ?_
      refine gs_ild3 (pc := 174) dX2_decides_174 ?_
      refine gs_bipush (pc := 175) dX2_decides_175 rfl ?_
      refine gs_ic_eq (pc := 177) (tgt := 257) dX2_decides_177 (by decide) (by omega) (fun hn => absurd hn (by omega)) (fun _ => ?_)
      refine gs_ald0 (pc := 180) dX2_decides_180 ?_
      refine gs_ald0 (pc := 181) dX2_decides_181 ?_
      refine gs_getf (pc := 182) 9 dX2_decides_182 (mcell hA) clX2 in_X2 (by decide) q2235 (Or.inl rfl) rfl ?_
      refine gs_ild3 (pc := 185) dX2_decides_185 ?_
      refine gs_iald (pc := 186) dX2_decides_186 (ma_opens hA) (by omega) (by omega) ?_
      refine gs_iconst (pc := 187) dX2_decides_187 ?_
      rw [hop7]
      refine gs_V2 (pc := 188) dX2_decides_188 kX2_120 (mcell hA) clX2 (by decide) (Nat.le_of_ble_eq_true rfl) (m_ruleAt (w := 4) hA (by omega) (by decide)) (fun v hp1 hq => ?_)
      obtain ⟨rfl, rfl⟩ := hq
      rw [hrl.2.2.2.2.2.1]
      refine gs_ist7 (pc := 191) dX2_decides_191 rfl ?_
      refine gs_ild7 (pc := 193) dX2_decides_193 ?_
      refine gs_if_ne (pc := 195) (tgt := 212) dX2_decides_195 (by decide) (by omega) (fun hm0 => ?_) (fun hm0 => ?_)
      · refine gs_ild7 (pc := 212) dX2_decides_212 ?_
        refine gs_iconst (pc := 214) dX2_decides_214 ?_
        refine gs_ic_ne (pc := 215) (tgt := 226) dX2_decides_215 (by decide) (by omega) (fun hm1 => ?_) (fun hm1 => ?_)
        · refine gs_ald0 (pc := 226) dX2_decides_226 ?_
          refine gs_ild3 (pc := 227) dX2_decides_227 ?_
          refine gs_V1 (pc := 228) dX2_decides_228 kX2_163 (mcell hA) clX2 (by decide) (Nat.le_of_ble_eq_true rfl) (m_columnOf hA hUx hob.1) (fun v hp1 hq => ?_)
          obtain ⟨rfl, rfl⟩ := hq
          refine kat _ _ ?_
          unfold dcC
          rw [e5, if_neg (by omega), if_neg (by omega)]
        · refine gs_ald0 (pc := 218) dX2_decides_218 ?_
          refine gs_ild3 (pc := 219) dX2_decides_219 ?_
          refine gs_V1 (pc := 220) dX2_decides_220 kX2_179 (mcell hA) clX2 (by decide) (Nat.le_of_ble_eq_true rfl) (m_columnIn hA hUx hob) (fun v hp1 hq => ?_)
          obtain ⟨rfl, rfl⟩ := hq
          refine gs_goto (pc := 223) (tgt := 231) dX2_decides_223 (by decide) ?_
          refine kat _ _ ?_
          unfold dcC
          rw [e5, if_neg (by omega), if_pos (by omega)]
      · have e3 : (mP M 27 (-2)).2.1 3 ((opK st b : Nat) : Int) = (tA (toks S) (opK st b)).1 := hw.1
        refine gs_ald0 (pc := 198) dX2_decides_198 ?_
        refine gs_getf (pc := 199) 21 dX2_decides_199 (mcell hA) clX2 in_X2 (by decide) q2247 (Or.inl rfl) rfl ?_
        refine gs_ald0 (pc := 202) dX2_decides_202 ?_
        refine gs_getf (pc := 203) 5 dX2_decides_203 (mcell hA) clX2 in_X2 (by decide) q2231 (Or.inl rfl) rfl ?_
        refine gs_ild3 (pc := 206) dX2_decides_206 ?_
        refine gs_iald (pc := 207) dX2_decides_207 (ma_tokenLine hA) (by omega) (by omega) ?_
        refine gs_iald (pc := 208) dX2_decides_208 (ma_row hA) (by omega) (by omega) ?_
        rw [e3]
        refine gs_goto (pc := 209) (tgt := 231) dX2_decides_209 (by decide) ?_
        refine kat _ _ ?_
        unfold dcC
        rw [e5, if_pos (by omega)]
        exact u1 _ hta.1
  have k122 : ∀ (L4 L5 : Option AV), nolg L4 = true → G X fX2_decides 4 122 [some (vR (some a)), some (vI (i : Int)), some (vI (D.1 : Int)), some (vI (clV st D.2.1)), L4, L5, none, none, none, none, none] [] (mH hp a M) (dcPost hp a M (held d3.2.1, d3.2.2.1, d3.2.2.2)) := by
    intro L4 L5 hg
    have hDl1 := hDl.1
    have hDe : ∀ j : Nat, j = D.1 → D.1 ≤ 12 := fun _ _ => by omega
    have hD12 := hDe D.1 rfl
    refine gs_ild2 (pc := 122) dX2_decides_122 ?_
    refine gs_if_le (pc := 123) (tgt := 142) dX2_decides_123 (by decide) (by omega) (fun hz => ?_) (fun hz => ?_)
    · have hz : D.1 = 0 := by omega
      have e0 : d0 = (bse, 0, -9) := by rw [← hd0]; unfold dc0; rw [if_pos hz]
      refine gs_bipush (pc := 142) dX2_decides_142 rfl ?_
      refine gs_ist5 (pc := 144) dX2_decides_144 hg ?_
      refine gs_ild5 (pc := 146) dX2_decides_146 ?_
      refine gs_bipush (pc := 148) dX2_decides_148 rfl ?_
      refine gs_ic_ne (pc := 150) (tgt := 160) dX2_decides_150 (by decide) (by omega) (fun hn => absurd (by decide) hn) (fun _ => ?_)
      refine gs_ald0 (pc := 153) dX2_decides_153 ?_
      refine gs_getf (pc := 154) 23 dX2_decides_154 (mcell hA) clX2 in_X2 (by decide) q2249 (Or.inl rfl) rfl ?_
      show G X fX2_decides 4 157 _ (vI (M.1 23) :: _) _ _
      rw [u3]
      refine gs_goto (pc := 157) (tgt := 166) dX2_decides_157 (by decide) ?_
      refine gs_ist6 (pc := 166) dX2_decides_166 rfl ?_
      have := k168 L4 none none none none (-9) (Or.inl ⟨hz, rfl⟩)
      rw [e0] at this
      exact this
    · have hob := hop (D.1 - 1) (by omega)
      have hob1 := hob.1
      have e13 : M.2.1 13 (12 * (i : Int) + D.1 - 1) = (opK st (D.1 - 1) : Nat) := by
        have := n13 (D.1 - 1) (by omega)
        rw [← this]
        exact congrArg (M.2.1 13) (by omega)
      have e0 : d0.1 = colB S (toks S) ind stp (opK st (D.1 - 1)) := by rw [← hd0]; unfold dc0; rw [if_neg (by omega)]
      refine gs_ald0 (pc := 126) dX2_decides_126 ?_
      refine gs_getf (pc := 127) 16 dX2_decides_127 (mcell hA) clX2 in_X2 (by decide) q2242 (Or.inl rfl) rfl ?_
      refine gs_bipush (pc := 130) dX2_decides_130 rfl ?_
      refine gs_ild1 (pc := 132) dX2_decides_132 ?_
      refine gs_imul (pc := 133) dX2_decides_133 ?_
      refine gs_ild2 (pc := 134) dX2_decides_134 ?_
      refine gs_iadd (pc := 135) dX2_decides_135 ?_
      refine gs_iconst (pc := 136) dX2_decides_136 ?_
      refine gs_isub (pc := 137) dX2_decides_137 ?_
      refine gs_iald (pc := 138) dX2_decides_138 (ma_stacks hA) (by omega) (by omega) ?_
      rw [e13]
      refine gs_goto (pc := 139) (tgt := 144) dX2_decides_139 (by decide) ?_
      refine gs_ist5 (pc := 144) dX2_decides_144 hg ?_
      refine gs_ild5 (pc := 146) dX2_decides_146 ?_
      refine gs_bipush (pc := 148) dX2_decides_148 rfl ?_
      refine gs_ic_ne (pc := 150) (tgt := 160) dX2_decides_150 (by decide) (by omega) (fun _ => ?_) (fun hn => absurd hn (by omega))
      refine gs_ald0 (pc := 160) dX2_decides_160 ?_
      refine gs_ild5 (pc := 161) dX2_decides_161 ?_
      refine gs_V1 (pc := 163) dX2_decides_163 kX2_179 (mcell hA) clX2 (by decide) (Nat.le_of_ble_eq_true rfl) (m_columnIn hA hU0 hob) (fun v hp1 hq => ?_)
      obtain ⟨rfl, rfl⟩ := hq
      refine gs_ist6 (pc := 166) dX2_decides_166 rfl ?_
      rw [← e0]
      exact k168 L4 none none none none _ (Or.inr ⟨by omega, rfl⟩)
  have loop : ∀ (q n : Nat), lo + n + q = hi' → G X fX2_decides 4 21 [some (vR (some a)), some (vI (i : Int)), some (vI ((dcL S (toks S) st lo n).1 : Int)), some (vI (clV st (dcL S (toks S) st lo n).2.1)), some (vI (b2i (dcL S (toks S) st lo n).2.2)), some (vI ((lo + n : Nat) : Int)), none, none, none, none, none] [] (mH hp a M) (dcPost hp a M (held d3.2.1, d3.2.2.1, d3.2.2.2)) := by
    intro q
    induction q with
    | zero =>
      intro n hn
      obtain rfl : n = hi' - lo := by omega
      rw [hDD]
      refine gs_ild5 (pc := 21) dX2_decides_21 ?_
      refine gs_ald0 (pc := 23) dX2_decides_23 ?_
      refine gs_getf (pc := 24) 13 dX2_decides_24 (mcell hA) clX2 in_X2 (by decide) q2239 (Or.inl rfl) rfl ?_
      refine gs_ild1 (pc := 27) dX2_decides_27 ?_
      refine gs_iconst (pc := 28) dX2_decides_28 ?_
      refine gs_iadd (pc := 29) dX2_decides_29 ?_
      refine gs_iald (pc := 30) dX2_decides_30 (ma_firstOf hA) (by omega) (by omega) ?_
      rw [h10']
      refine gs_ic_ge (pc := 31) (tgt := 122) dX2_decides_31 (by decide) (by omega) (fun _ => ?_) (fun hn => absurd (by omega) hn)
      exact k122 _ _ rfl
    | succ q ih =>
      intro n hn
      have hi1 := ih (n + 1) (by omega)
      rw [dcL_s] at hi1
      have hDn := hD n (by omega)
      have hle := hDle n
      have hsn := fun h => hstop n h (hi' - lo) (by omega)
      rw [hDD] at hsn
      generalize dcL S (toks S) st lo n = E at *
      obtain ⟨m, o, g⟩ := E
      dsimp only at *
      refine gs_ild5 (pc := 21) dX2_decides_21 ?_
      refine gs_ald0 (pc := 23) dX2_decides_23 ?_
      refine gs_getf (pc := 24) 13 dX2_decides_24 (mcell hA) clX2 in_X2 (by decide) q2239 (Or.inl rfl) rfl ?_
      refine gs_ild1 (pc := 27) dX2_decides_27 ?_
      refine gs_iconst (pc := 28) dX2_decides_28 ?_
      refine gs_iadd (pc := 29) dX2_decides_29 ?_
      refine gs_iald (pc := 30) dX2_decides_30 (ma_firstOf hA) (by omega) (by omega) ?_
      rw [h10']
      cases g with
      | false =>
        refine gs_ic_ge (pc := 31) (tgt := 122) dX2_decides_31 (by decide) (by omega) (fun hn => absurd hn (by omega)) (fun _ => ?_)
        refine gs_ild4 (pc := 34) dX2_decides_34 ?_
        refine gs_beq (pc := 36) (tgt := 122) dX2_decides_36 (by decide) (fun _ => ?_) (fun hn => absurd ((rfl : _ = false).symm.trans hn) (by decide))
        have := hsn rfl
        rw [this] at k122
        exact k122 _ _ rfl
      | true =>
        obtain ⟨c1, c2⟩ := hDn rfl
        rw [if_pos rfl] at hi1
        have hle1 : m ≤ st.length := hle.1
        have e8 : M.2.1 8 ((lo + n : Nat) : Int) = (wkN S (toks S) (toks S).length).2.1 (lo + n) := (hlk (lo + n) (by omega)).2.1
        rw [c1] at e8
        refine gs_ic_ge (pc := 31) (tgt := 122) dX2_decides_31 (by decide) (by omega) (fun hn => absurd hn (by omega)) (fun _ => ?_)
        refine gs_ild4 (pc := 34) dX2_decides_34 ?_
        refine gs_beq (pc := 36) (tgt := 122) dX2_decides_36 (by decide) (fun hn => absurd ((rfl : _ = true).symm.trans hn) (by decide)) (fun _ => ?_)
        refine gs_ald0 (pc := 39) dX2_decides_39 ?_
        refine gs_getf (pc := 40) 10 dX2_decides_40 (mcell hA) clX2 in_X2 (by decide) q2236 (Or.inl rfl) rfl ?_
        refine gs_ild5 (pc := 43) dX2_decides_43 ?_
        refine gs_iald (pc := 45) dX2_decides_45 (ma_closes hA) (by omega) (by omega) ?_
        rw [e8]
        cases hcl : cloB S (toks S) st (tA (toks S) (lo + n)).2.2.2.2 m with
        | none =>
          rw [hcl] at hi1
          dsimp only
          refine gs_bipush (pc := 46) dX2_decides_46 rfl ?_
          refine gs_ic_eq (pc := 48) (tgt := 55) dX2_decides_48 (by decide) (by omega) (fun _ => ?_) (fun hn => absurd (by decide) hn)
          refine gs_iconst (pc := 55) dX2_decides_55 ?_
          refine gs_ist4 (pc := 56) dX2_decides_56 rfl ?_
          refine gs_ild4 (pc := 58) dX2_decides_58 ?_
          refine gs_if_eq (pc := 60) (tgt := 116) dX2_decides_60 (by decide) (by omega) (fun _ => ?_) (fun hn => absurd (by decide) hn)
          refine gs_inc5 (pc := 116) dX2_decides_116 rfl ?_
          refine gs_goto (pc := 119) (tgt := 21) dX2_decides_119 (by decide) ?_
          exact hi1
        | some b =>
          have hbm := cloB_lt hcl
          have c3 := c2 b hcl
          rw [hcl] at hi1 e8
          dsimp only at *
          have hob := hop b (by omega)
          have hob1 := hob.1
          have hb0 : (0 : Int) ≤ ((opK st b : Nat) : Int) := Int.natCast_nonneg _
          have k94 : G X fX2_decides 4 94 [some (vR (some a)), some (vI (i : Int)), some (vI ((b : Int) + 1)), some (vI ((opK st b : Nat) : Int)), some (vI 1), some (vI ((lo + n : Nat) : Int)), none, none, none, none, none] [] (mH hp a M) (dcPost hp a M (held d3.2.1, d3.2.2.1, d3.2.2.2)) := by
            have e7 := (hlk (lo + n) (by omega)).1
            rw [c3] at e7
            refine gs_inc2 (pc := 94) dX2_decides_94 rfl ?_
            refine gs_ald0 (pc := 97) dX2_decides_97 ?_
            refine gs_getf (pc := 98) 9 dX2_decides_98 (mcell hA) clX2 in_X2 (by decide) q2235 (Or.inl rfl) rfl ?_
            refine gs_ild5 (pc := 101) dX2_decides_101 ?_
            refine gs_iald (pc := 103) dX2_decides_103 (ma_opens hA) (by omega) (by omega) ?_
            rw [show (b : Int) + 1 + -1 = (b : Int) by omega, e7]
            cases ho : opnB S (toks S) (lo + n) b with
            | false =>
              rw [ho] at hi1
              rw [if_neg (by decide)]
              refine gs_bipush (pc := 104) dX2_decides_104 rfl ?_
              refine gs_ic_ne (pc := 106) (tgt := 113) dX2_decides_106 (by decide) (by omega) (fun hn => absurd (by decide) hn) (fun _ => ?_)
              refine gs_iconst (pc := 109) dX2_decides_109 ?_
              refine gs_goto (pc := 110) (tgt := 114) dX2_decides_110 (by decide) ?_
              refine gs_ist4 (pc := 114) dX2_decides_114 rfl ?_
              refine gs_inc5 (pc := 116) dX2_decides_116 rfl ?_
              refine gs_goto (pc := 119) (tgt := 21) dX2_decides_119 (by decide) ?_
              exact hi1
            | true =>
              rw [ho] at hi1
              rw [if_pos rfl]
              obtain ⟨r, R, e1, e2, -⟩ := blk_ok (of_decide_eq_true ho).1
              rw [e1]
              refine gs_bipush (pc := 104) dX2_decides_104 rfl ?_
              refine gs_ic_ne (pc := 106) (tgt := 113) dX2_decides_106 (by decide) (by omega) (fun _ => ?_) (fun hn => absurd hn (by omega))
              refine gs_iconst (pc := 113) dX2_decides_113 ?_
              refine gs_ist4 (pc := 114) dX2_decides_114 rfl ?_
              refine gs_inc5 (pc := 116) dX2_decides_116 rfl ?_
              refine gs_goto (pc := 119) (tgt := 21) dX2_decides_119 (by decide) ?_
              exact hi1
          have inner : ∀ d : Nat, b + 1 + d ≤ m → G X fX2_decides 4 71 [some (vR (some a)), some (vI (i : Int)), some (vI ((b + 1 + d : Nat) : Int)), some (vI ((opK st b : Nat) : Int)), some (vI 1), some (vI ((lo + n : Nat) : Int)), none, none, none, none, none] [] (mH hp a M) (dcPost hp a M (held d3.2.1, d3.2.2.1, d3.2.2.2)) := by
            intro d
            induction d with
            | zero =>
              intro hd
              have e13 : M.2.1 13 (12 * (i : Int) + ((b + 1 + 0 : Nat) : Int) - 1) = (opK st b : Nat) := by
                have := n13 b (by omega)
                rw [← this]
                exact congrArg (M.2.1 13) (by omega)
              refine gs_ald0 (pc := 71) dX2_decides_71 ?_
              refine gs_getf (pc := 72) 16 dX2_decides_72 (mcell hA) clX2 in_X2 (by decide) q2242 (Or.inl rfl) rfl ?_
              refine gs_bipush (pc := 75) dX2_decides_75 rfl ?_
              refine gs_ild1 (pc := 77) dX2_decides_77 ?_
              refine gs_imul (pc := 78) dX2_decides_78 ?_
              refine gs_ild2 (pc := 79) dX2_decides_79 ?_
              refine gs_iadd (pc := 80) dX2_decides_80 ?_
              refine gs_iconst (pc := 81) dX2_decides_81 ?_
              refine gs_isub (pc := 82) dX2_decides_82 ?_
              refine gs_iald (pc := 83) dX2_decides_83 (ma_stacks hA) (by omega) (by omega) ?_
              rw [e13]
              clear e13
              refine gs_ild3 (pc := 84) dX2_decides_84 ?_
              refine gs_ic_eq (pc := 85) (tgt := 94) dX2_decides_85 (by decide) (by omega) (fun _ => ?_) (fun hn => absurd rfl hn)
              exact k94
            | succ d ihd =>
              intro hd
              have e13 : M.2.1 13 (12 * (i : Int) + ((b + 1 + (d + 1) : Nat) : Int) - 1) = (opK st (b + 1 + d) : Nat) := by
                have := n13 (b + 1 + d) (by omega)
                rw [← this]
                exact congrArg (M.2.1 13) (by omega)
              have hlt := hinc b (b + 1 + d) (by omega) (by omega)
              have hob2 := (hop (b + 1 + d) (by omega)).1
              refine gs_ald0 (pc := 71) dX2_decides_71 ?_
              refine gs_getf (pc := 72) 16 dX2_decides_72 (mcell hA) clX2 in_X2 (by decide) q2242 (Or.inl rfl) rfl ?_
              refine gs_bipush (pc := 75) dX2_decides_75 rfl ?_
              refine gs_ild1 (pc := 77) dX2_decides_77 ?_
              refine gs_imul (pc := 78) dX2_decides_78 ?_
              refine gs_ild2 (pc := 79) dX2_decides_79 ?_
              refine gs_iadd (pc := 80) dX2_decides_80 ?_
              refine gs_iconst (pc := 81) dX2_decides_81 ?_
              refine gs_isub (pc := 82) dX2_decides_82 ?_
              refine gs_iald (pc := 83) dX2_decides_83 (ma_stacks hA) (by omega) (by omega) ?_
              rw [e13]
              clear e13
              refine gs_ild3 (pc := 84) dX2_decides_84 ?_
              refine gs_ic_eq (pc := 85) (tgt := 94) dX2_decides_85 (by decide) (by omega) (fun hn => absurd hn (by omega)) (fun _ => ?_)
              refine gs_inc2 (pc := 88) dX2_decides_88 rfl ?_
              refine gs_goto (pc := 91) (tgt := 71) dX2_decides_91 (by decide) ?_
              rw [show ((b + 1 + (d + 1) : Nat) : Int) + -1 = ((b + 1 + d : Nat) : Int) by omega]
              exact ihd (by omega)
          refine gs_bipush (pc := 46) dX2_decides_46 rfl ?_
          refine gs_ic_eq (pc := 48) (tgt := 55) dX2_decides_48 (by decide) (by omega) (fun hn => absurd hn (by omega)) (fun _ => ?_)
          refine gs_iconst (pc := 51) dX2_decides_51 ?_
          refine gs_goto (pc := 52) (tgt := 56) dX2_decides_52 (by decide) ?_
          refine gs_ist4 (pc := 56) dX2_decides_56 rfl ?_
          refine gs_ild4 (pc := 58) dX2_decides_58 ?_
          refine gs_if_eq (pc := 60) (tgt := 116) dX2_decides_60 (by decide) (by omega) (fun hn => absurd hn (by decide)) (fun _ => ?_)
          refine gs_ald0 (pc := 63) dX2_decides_63 ?_
          refine gs_getf (pc := 64) 10 dX2_decides_64 (mcell hA) clX2 in_X2 (by decide) q2236 (Or.inl rfl) rfl ?_
          refine gs_ild5 (pc := 67) dX2_decides_67 ?_
          refine gs_iald (pc := 69) dX2_decides_69 (ma_closes hA) (by omega) (by omega) ?_
          rw [e8]
          refine gs_ist3 (pc := 70) dX2_decides_70 rfl ?_
          have := inner (m - (b + 1)) (by omega)
          rw [show b + 1 + (m - (b + 1)) = m by omega] at this
          exact this
  refine gs_ald0 (pc := 0) dX2_decides_0 ?_
  refine gs_getf (pc := 1) 15 dX2_decides_1 (mcell hA) clX2 in_X2 (by decide) q2241 (Or.inl rfl) rfl ?_
  refine gs_ild1 (pc := 4) dX2_decides_4 ?_
  refine gs_iald (pc := 5) dX2_decides_5 (ma_depths hA) (by omega) (by omega) ?_
  rw [n12]
  refine gs_ist2 (pc := 6) dX2_decides_6 rfl ?_
  refine gs_bipush (pc := 7) dX2_decides_7 rfl ?_
  refine gs_ist3 (pc := 9) dX2_decides_9 rfl ?_
  refine gs_iconst (pc := 10) dX2_decides_10 ?_
  refine gs_ist4 (pc := 11) dX2_decides_11 rfl ?_
  refine gs_ald0 (pc := 13) dX2_decides_13 ?_
  refine gs_getf (pc := 14) 13 dX2_decides_14 (mcell hA) clX2 in_X2 (by decide) q2239 (Or.inl rfl) rfl ?_
  refine gs_ild1 (pc := 17) dX2_decides_17 ?_
  refine gs_iald (pc := 18) dX2_decides_18 (ma_firstOf hA) (by omega) (by omega) ?_
  rw [h10]
  refine gs_ist5 (pc := 19) dX2_decides_19 rfl ?_
  exact loop (hi' - lo) 0 (by omega)
end N7
