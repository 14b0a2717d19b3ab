/-! Sets of lines; THE MODEL: settles, bits. -/
section N8
variable {X : gCx} {hp : gHp} {a : Nat} {M M' : MS} {A : AS} {S : SS} {i p t r n k m lo : Nat} {ind : Nat → Int} {stp bse : Int} {f g : Nat → Bool}
theorem setN_s : setN f (n + 1) = setN f n + (if f n then 2 ^ n else 0) := rfl
theorem cntN_s : cntN f (n + 1) = cntN f n + (if f n then 1 else 0) := rfl
theorem setN_lt : ∀ n, setN f n < 2 ^ n := by
  intro n
  induction n with
  | zero => exact Nat.zero_lt_one
  | succ n ih =>
    rw [setN_s, Nat.pow_succ]
    by_cases h : f n = true
    · rw [if_pos h]; omega
    · rw [if_neg h]; omega
theorem setN_bit : ∀ n, k < n → setN f n / 2 ^ k % 2 = if f k then 1 else 0 := by
  intro n
  induction n with
  | zero => intro h; omega
  | succ n ih =>
    intro h
    rw [setN_s]
    by_cases hk : k = n
    · subst hk
      have hlt := setN_lt (f := f) k
      have hpos : 0 < 2 ^ k := Nat.two_pow_pos k
      by_cases hf : f k = true
      · rw [if_pos hf, if_pos hf, Nat.add_div_right _ hpos, Nat.div_eq_of_lt hlt]
      · rw [if_neg hf, if_neg hf, Nat.add_zero, Nat.div_eq_of_lt hlt]
    · rw [← ih (by omega)]
      by_cases hf : f n = true
      · rw [if_pos hf]
        have e : 2 ^ n = 2 ^ k * (2 * 2 ^ (n - k - 1)) := by
          rw [← Nat.mul_assoc, ← Nat.pow_succ, ← Nat.pow_add]
          congr 1
          omega
        rw [e, Nat.add_mul_div_left _ _ (Nat.two_pow_pos k)]
        omega
      · rw [if_neg hf, Nat.add_zero]
theorem setN_ext (h : ∀ i, n ≤ i → f i = false) : ∀ m, n ≤ m → setN f m = setN f n ∧ cntN f m = cntN f n := by
  intro m
  induction m with
  | zero => intro hm; obtain rfl : n = 0 := by omega
            exact ⟨rfl, rfl⟩
  | succ m ih =>
    intro hm
    by_cases he : n = m + 1
    · rw [he]; exact ⟨rfl, rfl⟩
    · rw [setN_s, cntN_s, h m (by omega)]
      exact ih (by omega)
theorem setN_congr : ∀ n, (∀ i, i < n → f i = g i) → setN f n = setN g n ∧ cntN f n = cntN g n := by
  intro n
  induction n with
  | zero => intro _; exact ⟨rfl, rfl⟩
  | succ n ih =>
    intro h
    have hi := ih (fun i hi => h i (by omega))
    rw [setN_s, setN_s, cntN_s, cntN_s, hi.1, hi.2, h n (by omega)]
    exact ⟨rfl, rfl⟩
theorem cntN_le : ∀ n, cntN f n ≤ n := by
  intro n
  induction n with
  | zero => exact Nat.le_refl _
  | succ n ih =>
    rw [cntN_s]
    by_cases h : f n = true
    · rw [if_pos h]; omega
    · rw [if_neg h]; omega
theorem i_or2 {x i : Nat} (hx : x < 2 ^ i) : Int32.ofInt (x : Int) ||| Int32.ofInt ((2 ^ i : Nat) : Int) = Int32.ofInt ((x + 2 ^ i : Nat) : Int) := by
  apply Int32.toBitVec_inj.mp
  show BitVec.ofNat 32 x ||| BitVec.ofNat 32 (2 ^ i) = BitVec.ofNat 32 (x + 2 ^ i)
  have h := Nat.two_pow_add_eq_or_of_lt hx 1
  rw [Nat.mul_one] at h
  rw [← BitVec.ofNat_or, Nat.or_comm, ← h, Nat.add_comm]
theorem i_or0 {x : Int} : Int32.ofInt x ||| Int32.ofInt 0 = Int32.ofInt x := by
  apply Int32.toBitVec_inj.mp
  show BitVec.ofInt 32 x ||| 0#32 = BitVec.ofInt 32 x
  exact BitVec.or_zero
theorem i_shlP : ∀ i : Nat, i < 20 → Int32.ofInt 1 <<< (Int32.ofInt (i : Int) &&& 31) = Int32.ofInt ((2 ^ i : Nat) : Int) := by decide
theorem i_sm : ∀ i : Nat, i < 20 → ((Int32.ofInt (i : Int) &&& 31).toBitVec.smod 32).toNat = i := by decide
theorem i_bit {x i : Nat} (hx : x < 2 ^ 20) (hi : i < 20) : Int32.ofInt (x : Int) >>> (Int32.ofInt (i : Int) &&& 31) = Int32.ofInt ((x / 2 ^ i : Nat) : Int) := by
  have := pk_shrN (n := x) (by omega) (Int32.ofInt (i : Int) &&& 31) i (i_sm i hi)
  exact this
theorem i_and1 {x : Nat} (hx : x < 2 ^ 20) : Int32.ofInt (x : Int) &&& Int32.ofInt 1 = Int32.ofInt ((x % 2 : Nat) : Int) := by
  have := pk_andN (n := x) (by omega) (m := Int32.ofInt 1) 1 (by decide)
  exact this
theorem m_bits : MV X yX2_bits fX2_bits 1 [vI ((setN f 20 : Nat) : Int)] hp (fun v hp' => v = vI ((cntN f 20 : Nat) : Int) ∧ hp = hp') := by
  refine MC.of pfX2_bits rfl (fun h => by cases h) 2 rfl rfl ?_
  have hlt := setN_lt (f := f) 20
  have loop : ∀ (m k : Nat), k + m = 20 → G X fX2_bits 1 4 [some (vI ((setN f 20 : Nat) : Int)), some (vI ((cntN f k : Nat) : Int)), some (vI (k : Int))] [] hp (fun v hp' => ∃ w, v = some w ∧ w = vI ((cntN f 20 : Nat) : Int) ∧ hp = hp') := by
    intro m
    induction m with
    | zero =>
      intro k hk
      obtain rfl : k = 20 := by omega
      refine gs_ild2 (pc := 4) dX2_bits_4 ?_
      refine gs_bipush (pc := 5) dX2_bits_5 rfl ?_
      refine gs_ic_ge (pc := 7) (tgt := 24) dX2_bits_7 (by decide) (by omega) (fun _ => ?_) (fun hn => absurd (by decide) hn)
      refine gs_ild1 (pc := 24) dX2_bits_24 ?_
      refine gs_iret (pc := 25) dX2_bits_25 rfl ?_
      exact ⟨_, rfl, rfl, rfl⟩
    | succ m ih =>
      intro k hk
      have hi := ih (k + 1) (by omega)
      have hd : setN f 20 / 2 ^ k < 2 ^ 20 := Nat.lt_of_le_of_lt (Nat.div_le_self _ _) hlt
      rw [cntN_s, ← setN_bit (f := f) (k := k) 20 (by omega)] at hi
      refine gs_ild2 (pc := 4) dX2_bits_4 ?_
      refine gs_bipush (pc := 5) dX2_bits_5 rfl ?_
      refine gs_ic_ge (pc := 7) (tgt := 24) dX2_bits_7 (by decide) (by omega) (fun hn => absurd hn (by omega)) (fun _ => ?_)
      refine gs_ild1 (pc := 10) dX2_bits_10 ?_
      refine gs_ild0 (pc := 11) dX2_bits_11 ?_
      refine gs_ild2 (pc := 12) dX2_bits_12 ?_
      refine gs_ishr (pc := 13) dX2_bits_13 (i_bit hlt (by omega)) ?_
      refine gs_iconst (pc := 14) dX2_bits_14 ?_
      refine gs_iand (pc := 15) dX2_bits_15 (i_and1 hd) ?_
      refine gs_iadd (pc := 16) dX2_bits_16 ?_
      refine gs_ist1 (pc := 17) dX2_bits_17 rfl ?_
      refine gs_inc2 (pc := 18) dX2_bits_18 rfl ?_
      refine gs_goto (pc := 21) (tgt := 4) dX2_bits_21 (by decide) ?_
      exact hi
  refine gs_iconst (pc := 0) dX2_bits_0 ?_
  refine gs_ist1 (pc := 1) dX2_bits_1 rfl ?_
  refine gs_iconst (pc := 2) dX2_bits_2 ?_
  refine gs_ist2 (pc := 3) dX2_bits_3 rfl ?_
  exact loop 20 0 (by omega)
theorem dcd_rng : 0 ≤ (dcd S (toks S) ind stp bse i).1 ∧ (dcd S (toks S) ind stp bse i).1 ≤ 40 := by
  have : ∀ z, 0 ≤ held z ∧ held z ≤ 40 := fun z => by unfold held; omega
  exact this _
theorem rei_s : rei S stp bse lo (n + 1) = reS S stp bse (lo + n) (rei S stp bse lo n) := rfl
theorem rei_out : ∀ n, (∀ j, j < lo ∨ lo + n ≤ j → (rei S stp bse lo n).1 j = indS S j ∧ (rei S stp bse lo n).2 j = false) := by
  intro n
  induction n with
  | zero => intro j _; exact ⟨rfl, rfl⟩
  | succ n ih =>
    intro j hj
    rw [rei_s]
    unfold reS
    by_cases h : (freL S (lo + n) && !pinB S (lo + n)) = true
    · rw [if_pos h]
      have := ih j (by omega)
      refine ⟨?_, ?_⟩
      · show nup _ _ _ _ = _
        unfold nup
        rw [if_neg (by omega)]; exact this.1
      · show (if j = lo + n then _ else _) = _
        rw [if_neg (by omega)]; exact this.2
    · rw [if_neg h]; exact ih j (by omega)
/-- what settles leaves alone -/
def stF (M M' : MS) : Prop := (∀ k, k < 24 ∨ 27 < k → M'.1 k = M.1 k) ∧ (∀ j, j ≠ 15 → M'.2.1 j = M.2.1 j) ∧ M'.2.2 = M.2.2
theorem stF.refl : stF M M := ⟨fun _ _ => rfl, fun _ _ => rfl, rfl⟩
theorem stF.trans {M'' : MS} (h : stF M M') (h' : stF M' M'') : stF M M'' := ⟨fun k hk => (h'.1 k hk).trans (h.1 k hk), fun j hj => (h'.2.1 j hj).trans (h.2.1 j hj), h'.2.2.trans h.2.2⟩
theorem decF.st (h : decF M M') : stF M M' := ⟨h.1, fun j _ => by rw [h.2], by rw [h.2]⟩
theorem stF.row {x v : Int} : stF M (mA M 15 x v) := ⟨fun _ _ => rfl, fun j hj => if_neg hj, rfl⟩
theorem US.row (hU : US M S ind stp bse) {c : Int} (hc : 0 ≤ c ∧ c ≤ 40) : US (mA M 15 i c) S (nup ind i c) stp bse := by
  obtain ⟨hP, hL, u1, u2, u3, u4, u5, u6⟩ := hU
  have hF : hiF M (mA M 15 i c) := hiF.mA (by omega)
  refine ⟨hF.PG hP, hF.LO hL, fun j hj => fup_nup (u1 j hj), u2, u3, fun j hj => ?_, u5, u6⟩
  unfold nup
  by_cases h : j = i
  · rw [if_pos h]; exact hc
  · rw [if_neg h]; exact u4 j hj
theorem PG.pin (h : PG M S) (hi : i < nL S) : M.2.1 0 (41 + (i : Int)) = b2i (pinB S i) ∧ M.2.1 0 (1 + (i : Int)) = indS S i := by
  obtain ⟨g1, g2, g3, g4⟩ := h.1.2.1 i hi
  rw [show (0 : Int) + 41 + i = 41 + i by omega] at g3
  rw [show (0 : Int) + 1 + i = 1 + i by omega] at g1
  exact ⟨g3, g1⟩
theorem m_settles {h : Nat} (hA : mok X hp a) (hU : US M S (indS S) stp bse) (h1 : lo ≤ h) (h2 : h ≤ nL S) : MV X yX2_settles fX2_settles 5 [vR (some a), vI (lo : Int), vI (h : Int)] (mH hp a M) (fun v hp' => v = vI ((setN (rei S stp bse lo (h - lo)).2 20 : Nat) : Int) ∧ ∃ M', hp' = mH hp a M' ∧ stF M M' ∧ US M' S (rei S stp bse lo (h - lo)).1 stp bse) := by
  refine MC.of pfX2_settles rfl (fun h => by cases h) 2 rfl rfl ?_
  have hc := hU.1.cnt
  have loop : ∀ (m n : Nat) (M1 : MS), lo + n + m = h → stF M M1 → US M1 S (rei S stp bse lo n).1 stp bse → G X fX2_settles 5 5 [some (vR (some a)), some (vI (lo : Int)), some (vI (h : Int)), some (vI ((setN (rei S stp bse lo n).2 (lo + n) : Nat) : Int)), some (vI ((lo + n : Nat) : Int))] [] (mH hp a M1) (fun v hp' => ∃ w, v = some w ∧ w = vI ((setN (rei S stp bse lo (h - lo)).2 20 : Nat) : Int) ∧ ∃ M', hp' = mH hp a M' ∧ stF M M' ∧ US M' S (rei S stp bse lo (h - lo)).1 stp bse) := by
    intro m
    induction m with
    | zero =>
      intro n M1 hm hF hU1
      obtain rfl : n = h - lo := by omega
      refine gs_ild4 (pc := 5) dX2_settles_5 ?_
      refine gs_ild2 (pc := 7) dX2_settles_7 ?_
      refine gs_ic_ge (pc := 8) (tgt := 83) dX2_settles_8 (by decide) (by omega) (fun _ => ?_) (fun hn => absurd (by omega) hn)
      refine gs_ild3 (pc := 83) dX2_settles_83 ?_
      refine gs_iret (pc := 84) dX2_settles_84 rfl ?_
      refine ⟨_, rfl, ?_, M1, rfl, hF, hU1⟩
      rw [(setN_ext (f := (rei S stp bse lo (h - lo)).2) (n := lo + (h - lo)) (fun i hi => (rei_out (h - lo) i (by omega)).2) 20 (by omega)).1]
    | succ m ih =>
      intro n M1 hm hF hU1
      have hout := rei_out (S := S) (stp := stp) (bse := bse) (lo := lo) n
      have hi1 := ih (n + 1)
      rw [rei_s] at hi1
      generalize rei S stp bse lo n = q at *
      have hpin := hU1.1.pin (show lo + n < nL S by omega)
      have hin := indS_ok hU.1.2 (show lo + n < nL S by omega)
      have kno : (freL S (lo + n) && !pinB S (lo + n)) = false → G X fX2_settles 5 77 [some (vR (some a)), some (vI (lo : Int)), some (vI (h : Int)), some (vI ((setN q.2 (lo + n) : Nat) : Int)), some (vI ((lo + n : Nat) : Int))] [] (mH hp a M1) (fun v hp' => ∃ w, v = some w ∧ w = vI ((setN (rei S stp bse lo (h - lo)).2 20 : Nat) : Int) ∧ ∃ M', hp' = mH hp a M' ∧ stF M M' ∧ US M' S (rei S stp bse lo (h - lo)).1 stp bse) := by
        intro hn
        have e : reS S stp bse (lo + n) q = q := by unfold reS; rw [if_neg (by rw [hn]; decide)]
        have := hi1 M1 (by omega) hF (by rw [e]; exact hU1)
        rw [e, show lo + (n + 1) = lo + n + 1 by omega, setN_s, (hout (lo + n) (by omega)).2] at this
        refine gs_inc4 (pc := 77) dX2_settles_77 rfl ?_
        refine gs_goto (pc := 80) (tgt := 5) dX2_settles_80 (by decide) ?_
        exact this
      refine gs_ild4 (pc := 5) dX2_settles_5 ?_
      refine gs_ild2 (pc := 7) dX2_settles_7 ?_
      refine gs_ic_ge (pc := 8) (tgt := 83) dX2_settles_8 (by decide) (by omega) (fun hn => absurd hn (by omega)) (fun _ => ?_)
      refine gs_ald0 (pc := 11) dX2_settles_11 ?_
      refine gs_ild4 (pc := 12) dX2_settles_12 ?_
      refine gs_V1 (pc := 14) dX2_settles_14 kX2_185 (mcell hA) clX2 (by decide) (Nat.le_of_ble_eq_true rfl) (m_isFree hA hU1.1 hU1.2.1.1 (by omega)) (fun v hp1 hq => ?_)
      obtain ⟨rfl, rfl⟩ := hq
      refine gs_beq (pc := 17) (tgt := 77) dX2_settles_17 (by decide) (fun hfr => ?_) (fun hfr => ?_)
      · exact kno (by rw [hfr]; rfl)
      · refine gs_ald0 (pc := 20) dX2_settles_20 ?_
        refine gs_getf (pc := 21) 0 dX2_settles_21 (mcell hA) clX2 in_X2 (by decide) q2226 (Or.inl rfl) rfl ?_
        refine gs_bipush (pc := 24) dX2_settles_24 rfl ?_
        refine gs_ild4 (pc := 26) dX2_settles_26 ?_
        refine gs_iadd (pc := 28) dX2_settles_28 ?_
        refine gs_iald (pc := 29) dX2_settles_29 (ma_page hA) (by omega) (by omega) ?_
        rw [hpin.1]
        refine gs_bne (pc := 30) (tgt := 77) dX2_settles_30 (by decide) (fun hpi => ?_) (fun hpi => ?_)
        · exact kno (by rw [hfr, hpi]; rfl)
        · have e : reS S stp bse (lo + n) q = (nup q.1 (lo + n) (dcd S (toks S) q.1 stp bse (lo + n)).1, fun j => if j = lo + n then decide (q.1 (lo + n) ≠ (dcd S (toks S) q.1 stp bse (lo + n)).1) else q.2 j) := by unfold reS; rw [if_pos (by rw [hfr, hpi]; rfl)]
          have hdr := dcd_rng (S := S) (ind := q.1) (stp := stp) (bse := bse) (i := lo + n)
          refine gs_ald0 (pc := 33) dX2_settles_33 ?_
          refine gs_ild4 (pc := 34) dX2_settles_34 ?_
          refine gs_V1v (pc := 36) dX2_settles_36 kX2_188 (mcell hA) clX2 (by decide) (Nat.le_of_ble_eq_true rfl) (m_decides hA hU1 (by omega)) (fun hp1 hq => ?_)
          obtain ⟨M2, rfl, d1, d2, -, -⟩ := hq
          have hU2 := d1.US hU1
          rw [← d2] at hdr e
          have hU3 := hU2.row (i := lo + n) hdr
          have hp3 := (hU3.1.pin (show lo + n < nL S by omega)).2
          have hnx := hi1 (mA M2 15 ((lo + n : Nat) : Int) (M2.1 24)) (by omega) ((hF.trans d1.st).trans stF.row) (by rw [e]; exact hU3)
          rw [e] at hnx
          dsimp only at hnx
          have hfn : (fun j => if j = lo + n then decide (q.1 (lo + n) ≠ M2.1 24) else q.2 j) (lo + n) = decide (indS S (lo + n) ≠ M2.1 24) := by
            dsimp only
            rw [if_pos rfl, (hout (lo + n) (by omega)).1]
          have hs2 := (setN_congr (f := fun j => if j = lo + n then decide (q.1 (lo + n) ≠ M2.1 24) else q.2 j) (g := q.2) (lo + n) (fun j hj => if_neg (by omega))).1
          generalize (fun j => if j = lo + n then decide (q.1 (lo + n) ≠ M2.1 24) else q.2 j) = ff at hnx hfn hs2
          rw [show lo + (n + 1) = lo + n + 1 by omega, setN_s, hs2, hfn] at hnx
          have hlt := setN_lt (f := q.2) (lo + n)
          refine gs_ald0 (pc := 39) dX2_settles_39 ?_
          refine gs_getf (pc := 40) 21 dX2_settles_40 (mcell hA) clX2 in_X2 (by decide) q2247 (Or.inl rfl) rfl ?_
          refine gs_ild4 (pc := 43) dX2_settles_43 ?_
          refine gs_ald0 (pc := 45) dX2_settles_45 ?_
          refine gs_getf (pc := 46) 24 dX2_settles_46 (mcell hA) clX2 in_X2 (by decide) q2250 (Or.inl rfl) rfl ?_
          refine ms_row (pc := 49) hA dX2_settles_49 (by omega) ?_
          refine gs_ild3 (pc := 50) dX2_settles_50 ?_
          refine gs_ald0 (pc := 51) dX2_settles_51 ?_
          refine gs_getf (pc := 52) 24 dX2_settles_52 (mcell hA) clX2 in_X2 (by decide) q2250 (Or.inl rfl) rfl ?_
          show G X fX2_settles 5 55 _ (vI (M2.1 24) :: _) _ _
          refine gs_ald0 (pc := 55) dX2_settles_55 ?_
          refine gs_getf (pc := 56) 0 dX2_settles_56 (mcell hA) clX2 in_X2 (by decide) q2226 (Or.inl rfl) rfl ?_
          refine gs_iconst (pc := 59) dX2_settles_59 ?_
          refine gs_ild4 (pc := 60) dX2_settles_60 ?_
          refine gs_iadd (pc := 62) dX2_settles_62 ?_
          refine gs_iald (pc := 63) dX2_settles_63 (ma_page hA) (by omega) (by omega) ?_
          rw [hp3]
          refine gs_ic_ne (pc := 64) (tgt := 71) dX2_settles_64 (by decide) (by omega) (fun hne => ?_) (fun hne => ?_)
          · rw [decide_eq_true (show indS S (lo + n) ≠ M2.1 24 by omega), if_pos rfl] at hnx
            refine gs_iconst (pc := 71) dX2_settles_71 ?_
            refine gs_ild4 (pc := 72) dX2_settles_72 ?_
            refine gs_ishl (pc := 74) dX2_settles_74 (i_shlP (lo + n) (by omega)) ?_
            refine gs_ior (pc := 75) dX2_settles_75 (i_or2 hlt) ?_
            refine gs_ist3 (pc := 76) dX2_settles_76 rfl ?_
            refine gs_inc4 (pc := 77) dX2_settles_77 rfl ?_
            refine gs_goto (pc := 80) (tgt := 5) dX2_settles_80 (by decide) ?_
            exact hnx
          · rw [decide_eq_false (show ¬ indS S (lo + n) ≠ M2.1 24 by omega), if_neg (by decide)] at hnx
            refine gs_iconst (pc := 67) dX2_settles_67 ?_
            refine gs_goto (pc := 68) (tgt := 75) dX2_settles_68 (by decide) ?_
            refine gs_ior (pc := 75) dX2_settles_75 i_or0 ?_
            refine gs_ist3 (pc := 76) dX2_settles_76 rfl ?_
            refine gs_inc4 (pc := 77) dX2_settles_77 rfl ?_
            refine gs_goto (pc := 80) (tgt := 5) dX2_settles_80 (by decide) ?_
            exact hnx
  refine gs_iconst (pc := 0) dX2_settles_0 ?_
  refine gs_ist3 (pc := 1) dX2_settles_1 rfl ?_
  refine gs_ild1 (pc := 2) dX2_settles_2 ?_
  refine gs_ist4 (pc := 3) dX2_settles_3 rfl ?_
  have := loop (h - lo) 0 M (by omega) stF.refl hU
  have e0 : setN (rei S stp bse lo 0).2 (lo + 0) = 0 := (setN_ext (f := fun _ => false) (n := 0) (fun _ _ => rfl) lo (by omega)).1
  rw [e0] at this
  exact this
end N8
