/-! THE MODEL: lines are drawn. -/
section R2
variable {X : gCx} {hp : gHp} {a : Nat} {M M' : MS} {A : AS} {S S' : SS} {n k m lo i j r w : Nat} {p p' : Int → Int} {z : Int}
theorem ofInt_mod (z : Int) : Int32.ofInt z = Int32.ofInt (((z % 4294967296).toNat : Nat) : Int) := by
  have h : z = (((z % 4294967296).toNat : Nat) : Int) + 4294967296 * (z / 4294967296) := by omega
  have e : Int32.ofInt z = Int32.ofInt ((((z % 4294967296).toNat : Nat) : Int) + 4294967296 * (z / 4294967296)) := by rw [← h]
  rw [e, Int32.ofInt_add, Int32.ofInt_mul, show Int32.ofInt 4294967296 = 0 from rfl, Int32.zero_mul, Int32.add_zero]
theorem i_d16 (z : Int) : ((Int32.ofInt z).toUInt32 >>> ((Int32.ofInt 16).toUInt32 &&& Int32.toUInt32 31)).toInt32 = Int32.ofInt (((z % 4294967296).toNat / 65536 : Nat) : Int) := by
  rw [ofInt_mod z]
  exact pk_ushrN (n := (z % 4294967296).toNat) (by omega) (Int32.ofInt 16) 16 (by decide)
theorem i_d15 {n : Nat} (h : n < 65536) : Int32.ofInt (n : Int) &&& Int32.ofInt 32767 = Int32.ofInt ((n % 32768 : Nat) : Int) := pk_andN (n := n) (by omega) (m := Int32.ofInt 32767) 15 (by decide)
theorem outD_eq (z : Int) : (((z % 4294967296).toNat / 65536 % 32768 : Nat) : Int) = outD z := by unfold outD; omega
theorem outD_rng (z : Int) : 0 ≤ outD z ∧ outD z < 32768 := by unfold outD; omega
theorem i_rem {x d : Int} (hx : 0 ≤ x ∧ x < 32768) (hd : 0 < d ∧ d < 100) : Int32.ofInt x - Int32.ofInt x / Int32.ofInt d * Int32.ofInt d = Int32.ofInt (x % d) := by
  obtain ⟨a, rfl⟩ : ∃ a : Nat, x = (a : Int) := ⟨x.toNat, by omega⟩
  obtain ⟨b, rfl⟩ : ∃ b : Nat, d = (b : Int) := ⟨d.toNat, by omega⟩
  exact pk_rem (a := a) (d := b) (by omega) (by omega) (by omega)
theorem m_draws (hA : mok X hp a) : MV X yX2_draws fX2_draws 1 [vR (some a)] (mH hp a M) (fun v hp' => v = vI (outD (nxD (M.1 37))) ∧ hp' = mH hp a (mP M 37 (nxD (M.1 37)))) := by
  refine MC.of pfX2_draws rfl (fun h => by cases h) 0 rfl rfl ?_
  refine gs_ald0 (pc := 0) dX2_draws_0 ?_
  refine gs_ald0 (pc := 1) dX2_draws_1 ?_
  refine gs_getf (pc := 2) 37 dX2_draws_2 (mcell hA) clX2 in_X2 (by decide) q2263 (Or.inl rfl) rfl ?_
  refine gs_ldcw (pc := 5) (z := 1103515245) dX2_draws_5 q2765 ?_
  refine gs_imul (pc := 8) dX2_draws_8 ?_
  refine gs_sipush (pc := 9) dX2_draws_9 rfl ?_
  refine gs_iadd (pc := 12) dX2_draws_12 ?_
  refine mp_drawn (pc := 13) rfl hA dX2_draws_13 ?_
  refine gs_ald0 (pc := 16) dX2_draws_16 ?_
  refine gs_getf (pc := 17) 37 dX2_draws_17 (mcell hA) clX2 in_X2 (by decide) q2263 (Or.inl rfl) rfl ?_
  show G X fX2_draws 1 20 _ (vI (nxD (M.1 37)) :: _) (mH hp a (mP M 37 (nxD (M.1 37)))) _
  refine gs_bipush (pc := 20) dX2_draws_20 rfl ?_
  refine gs_iushr (pc := 22) dX2_draws_22 (i_d16 _) ?_
  refine gs_sipush (pc := 23) dX2_draws_23 rfl ?_
  refine gs_iand (pc := 26) dX2_draws_26 (i_d15 (by omega)) ?_
  refine gs_iret (pc := 27) dX2_draws_27 rfl ?_
  exact ⟨_, rfl, by rw [outD_eq], rfl⟩
theorem pcs_tab : ∀ w : Nat, w < 16 → pcE.getD (w + 1) 0 = pcE.getD w 0 + (pcs w).length ∧ 0 ≤ pcE.getD w 0 ∧ pcE.getD w 0 + (pcs w).length ≤ 37 ∧ ∀ j : Nat, j < (pcs w).length → pcB.getD ((pcE.getD w 0).toNat + j) 0 = (pcs w).getD j 0 := by decide
def dwF (M M' : MS) : Prop := (∀ k, k ≠ 37 → M'.1 k = M.1 k) ∧ (∀ j, j ≠ 0 → M'.2.1 j = M.2.1 j) ∧ (∀ x : Int, 980 ≤ x → M'.2.1 0 x = M.2.1 0 x)
theorem m_drawsLine (hA : mok X hp a) (hP : PG M S) (hn : nL S < 20) (h18 : ∀ k : Nat, k < 17 → M.2.1 18 k = pcE.getD k 0) (h19 : ∀ k : Nat, k < 37 → M.2.1 19 k = pcB.getD k 0) (hz : M.1 37 = z) : M0 X yX2_drawsLine fX2_drawsLine 2 [vR (some a)] (mH hp a M) (fun hp' => ∃ M', hp' = mH hp a M' ∧ dwF M M' ∧ M'.1 37 = (drL z).1 ∧ pgS (M'.2.1 0) 0 (S.1 ++ [(drL z).2], S.2)) := by
  refine MC.of pfX2_drawsLine rfl (fun h => by cases h) 6 rfl rfl ?_
  have hc := hP.cnt
  have hdl := drL_ok (z := z)
  generalize hi : nL S = i at *
  generalize hz2 : nxD (nxD z) = z2
  generalize hnp : (1 + outD z2 % 3).toNat = np
  have ho2 := outD_rng z2
  have hnp3 : 1 ≤ np ∧ np ≤ 3 := by omega
  have edl : drL z = ((drP z2 np).1, (outD (nxD z) % 12, (drP z2 np).2, false)) := by
    unfold drL
    rw [hz2, hnp]
  rw [edl] at hdl ⊢
  dsimp only
  have hdp := fun c => drP_ok (z := z2) c
  -- the page: q holds the new line's first bytes s
  have kend : ∀ (q : Int → Int) (L2 L4 L5 L6 : Option AV), (∀ x : Int, ¬ (x = 0 ∨ x = 41 + (i : Int) ∨ x = 1 + (i : Int) ∨ 61 + 32 * (i : Int) ≤ x ∧ x < 61 + 32 * (i : Int) + 32) → q x = M.2.1 0 x) → q 0 = i + 1 → q (41 + (i : Int)) = 0 → q (1 + (i : Int)) = outD (nxD z) % 12 → (∀ j : Nat, j < (drP z2 np).2.length → q (61 + 32 * (i : Int) + j) = (drP z2 np).2.getD j 0) → G X fX2_drawsLine 2 154 [some (vR (some a)), some (vI (i : Int)), L2, some (vI ((drP z2 np).2.length : Int)), L4, L5, L6] [] (mH hp a (mP (mW M 0 q) 37 (drP z2 np).1)) (fun r hp' => r = none ∧ ∃ M', hp' = mH hp a M' ∧ dwF M M' ∧ M'.1 37 = (drP z2 np).1 ∧ pgS (M'.2.1 0) 0 (S.1 ++ [(outD (nxD z) % 12, (drP z2 np).2, false)], S.2)) := by
    intro q L2 L4 L5 L6 q0 q1 q2 q3 q4
    have hlen := (hdp np).2.2.1 hnp3.1
    refine gs_ald0 (pc := 154) dX2_drawsLine_154 ?_
    refine gs_getf (pc := 155) 0 dX2_drawsLine_155 (mcell hA) clX2 in_X2 (by decide) q2226 (Or.inl rfl) rfl ?_
    refine gs_bipush (pc := 158) dX2_drawsLine_158 rfl ?_
    refine gs_ild1 (pc := 160) dX2_drawsLine_160 ?_
    refine gs_iadd (pc := 161) dX2_drawsLine_161 ?_
    refine gs_ild3 (pc := 162) dX2_drawsLine_162 ?_
    refine ms_page (pc := 163) hA dX2_drawsLine_163 (by omega) ?_
    refine gs_vret (pc := 164) dX2_drawsLine_164 rfl ?_
    refine ⟨rfl, _, rfl, ⟨fun k hk => if_neg hk, fun j hj => ?_, fun x hx => ?_⟩, rfl, ?_⟩
    · show (mA (mP (mW M 0 q) 37 (drP z2 np).1) 0 _ _).2.1 j = _
      rw [mA_ne hj]
      exact if_neg hj
    · show fup q _ _ x = _
      rw [fup_ne (by omega)]; exact q0 x (by omega)
    · show pgS (fup q (21 + (i : Int)) ((drP z2 np).2.length : Int)) 0 _
      have hl : (S.1 ++ [(outD (nxD z) % 12, (drP z2 np).2, false)]).length = i + 1 := by rw [List.length_append, List.length_singleton]; show nL S + 1 = _; rw [hi]
      refine pgS.lines hP.2 hP.1 rfl (fun x h1 h2 => ?_) ?_ (fun j hj => ?_)
      · rw [fup_ne (by omega)]; exact q0 x (by omega)
      · rw [fup_ne (by omega), q1]
        dsimp only
        rw [hl]; rfl
      · dsimp only at hj
        rw [hl] at hj
        by_cases hji : j = i
        · subst hji
          have : lnA (S.1 ++ [(outD (nxD z) % 12, (drP z2 np).2, false)], S.2) j = (outD (nxD z) % 12, (drP z2 np).2, false) := by
            unfold lnA
            rw [List.getD_eq_getElem?_getD, List.getElem?_append_right (by show nL S ≤ j; omega), show j - S.1.length = 0 by show j - nL S = 0; omega]
            rfl
          rw [this]
          refine ⟨?_, ?_, ?_, fun c hcl => ?_⟩
          · rw [fup_ne (by omega), ← q3]; exact congrArg q (by omega)
          · rw [show (0 : Int) + 21 + j = 21 + j by omega]; exact fup_eq
          · rw [fup_ne (by omega), show (0 : Int) + 41 + j = 41 + j by omega, q2]; rfl
          · dsimp only at hcl ⊢
            rw [fup_ne (by omega), ← q4 c hcl]; exact congrArg q (by omega)
        · have hjn : j < S.1.length := by show j < nL S; omega
          have : lnA (S.1 ++ [(outD (nxD z) % 12, (drP z2 np).2, false)], S.2) j = lnA S j := by
            unfold lnA
            rw [List.getD_eq_getElem?_getD, List.getD_eq_getElem?_getD, List.getElem?_append_left hjn]
          rw [this]
          refine (hP.1.2.1 j hjn).fr (lnl hP.2) (fun x hx => ?_)
          rw [fup_ne (by omega)]; exact q0 x (by omega)
  have outer : ∀ (r c : Nat) (q : Int → Int) (L5 L6 : Option AV), c + r = np → nolg L5 = true → (∀ x : Int, ¬ (x = 0 ∨ x = 41 + (i : Int) ∨ x = 1 + (i : Int) ∨ 61 + 32 * (i : Int) ≤ x ∧ x < 61 + 32 * (i : Int) + 32) → q x = M.2.1 0 x) → q 0 = i + 1 → q (41 + (i : Int)) = 0 → q (1 + (i : Int)) = outD (nxD z) % 12 → (∀ j : Nat, j < (drP z2 c).2.length → q (61 + 32 * (i : Int) + j) = (drP z2 c).2.getD j 0) → G X fX2_drawsLine 2 56 [some (vR (some a)), some (vI (i : Int)), some (vI (np : Int)), some (vI ((drP z2 c).2.length : Int)), some (vI (c : Int)), L5, L6] [] (mH hp a (mP (mW M 0 q) 37 (drP z2 c).1)) (fun r hp' => r = none ∧ ∃ M', hp' = mH hp a M' ∧ dwF M M' ∧ M'.1 37 = (drP z2 np).1 ∧ pgS (M'.2.1 0) 0 (S.1 ++ [(outD (nxD z) % 12, (drP z2 np).2, false)], S.2)) := by
    intro r
    induction r with
    | zero =>
      intro c q L5 L6 hcr hg q0 q1 q2 q3 q4
      obtain rfl : c = np := by omega
      refine gs_ild4 (pc := 56) dX2_drawsLine_56 ?_
      refine gs_ild2 (pc := 58) dX2_drawsLine_58 ?_
      refine gs_ic_ge (pc := 59) (tgt := 154) dX2_drawsLine_59 (by decide) (by omega) (fun _ => ?_) (fun hn => absurd (by omega) hn)
      exact kend q _ _ _ _ q0 q1 q2 q3 q4
    | succ r ih =>
      intro c q L5 L6 hcr hg q0 q1 q2 q3 q4
      have hlen := (hdp c).1
      have hlen1 := (hdp (c + 1)).2.2.1 (by omega)
      have ep : drP z2 (c + 1) = (nxD (drP z2 c).1, (drP z2 c).2 ++ ((if c = 0 then [] else [32]) ++ pcs (outD (nxD (drP z2 c).1) % 16).toNat)) := rfl
      have hih := ih (c + 1)
      have hor := outD_rng (nxD (drP z2 c).1)
      rw [ep] at hih hlen1
      dsimp only at hih hlen1
      generalize (drP z2 c).2 = s at *
      generalize (drP z2 c).1 = zc at *
      obtain ⟨w, hw, hw16⟩ : ∃ w : Nat, outD (nxD zc) % 16 = (w : Int) ∧ w < 16 := ⟨(outD (nxD zc) % 16).toNat, by omega, by omega⟩
      rw [hw, Int.toNat_natCast] at hih hlen1
      obtain ⟨t1, t2, t3, t4⟩ := pcs_tab w hw16
      rw [List.length_append, List.length_append] at hlen1
      refine gs_ild4 (pc := 56) dX2_drawsLine_56 ?_
      refine gs_ild2 (pc := 58) dX2_drawsLine_58 ?_
      refine gs_ic_ge (pc := 59) (tgt := 154) dX2_drawsLine_59 (by decide) (by omega) (fun hn => absurd hn (by omega)) (fun _ => ?_)
      refine gs_ald0 (pc := 62) dX2_drawsLine_62 ?_
      refine gs_V0 (pc := 63) dX2_drawsLine_63 kX2_303 (mcell hA) clX2 (by decide) (Nat.le_of_ble_eq_true rfl) (m_draws hA) (fun v hp1 hq => ?_)
      obtain ⟨rfl, rfl⟩ := hq
      show G X fX2_drawsLine 2 66 _ (vI (outD (nxD zc)) :: _) (mH hp a (mP (mP (mW M 0 q) 37 zc) 37 (nxD zc))) _
      rw [mP_mP]
      refine gs_bipush (pc := 66) dX2_drawsLine_66 rfl ?_
      refine gs_irem (pc := 68) dX2_drawsLine_68 (by decide) (i_rem hor (by decide)) ?_
      refine gs_ist5 (pc := 69) dX2_drawsLine_69 rfl ?_
      rw [hw]
      -- the piece is copied; s' what lies there already
      have piece : ∀ (s' : List Int) (L6 : Option AV) (q : Int → Int), s'.length + (pcs w).length < 32 → s ++ ((if c = 0 then [] else [32]) ++ pcs w) = s' ++ pcs w → (∀ x : Int, ¬ (x = 0 ∨ x = 41 + (i : Int) ∨ x = 1 + (i : Int) ∨ 61 + 32 * (i : Int) ≤ x ∧ x < 61 + 32 * (i : Int) + 32) → q x = M.2.1 0 x) → q 0 = i + 1 → q (41 + (i : Int)) = 0 → q (1 + (i : Int)) = outD (nxD z) % 12 → (∀ j : Nat, j < s'.length → q (61 + 32 * (i : Int) + j) = s'.getD j 0) → G X fX2_drawsLine 2 95 [some (vR (some a)), some (vI (i : Int)), some (vI (np : Int)), some (vI (s'.length : Int)), some (vI (c : Int)), some (vI (w : Int)), L6] [] (mH hp a (mP (mW M 0 q) 37 (nxD zc))) (fun r hp' => r = none ∧ ∃ M', hp' = mH hp a M' ∧ dwF M M' ∧ M'.1 37 = (drP z2 np).1 ∧ pgS (M'.2.1 0) 0 (S.1 ++ [(outD (nxD z) % 12, (drP z2 np).2, false)], S.2)) := by
        intro s' L6 q hl32 hse q0 q1 q2 q3 q4
        have e18 : ∀ k : Nat, k < 17 → (mP (mW M 0 q) 37 (nxD zc)).2.1 18 k = pcE.getD k 0 := h18
        have inner : ∀ (r d : Nat) (q : Int → Int), d + r = (pcs w).length → (∀ x : Int, ¬ (x = 0 ∨ x = 41 + (i : Int) ∨ x = 1 + (i : Int) ∨ 61 + 32 * (i : Int) ≤ x ∧ x < 61 + 32 * (i : Int) + 32) → q x = M.2.1 0 x) → q 0 = i + 1 → q (41 + (i : Int)) = 0 → q (1 + (i : Int)) = outD (nxD z) % 12 → (∀ j : Nat, j < s'.length + d → q (61 + 32 * (i : Int) + j) = (s' ++ pcs w).getD j 0) → G X fX2_drawsLine 2 104 [some (vR (some a)), some (vI (i : Int)), some (vI (np : Int)), some (vI ((s'.length + d : Nat) : Int)), some (vI (c : Int)), some (vI (w : Int)), some (vI (pcE.getD w 0 + d))] [] (mH hp a (mP (mW M 0 q) 37 (nxD zc))) (fun r hp' => r = none ∧ ∃ M', hp' = mH hp a M' ∧ dwF M M' ∧ M'.1 37 = (drP z2 np).1 ∧ pgS (M'.2.1 0) 0 (S.1 ++ [(outD (nxD z) % 12, (drP z2 np).2, false)], S.2)) := by
          intro r
          induction r with
          | zero =>
            intro d q hd q0 q1 q2 q3 q4
            obtain rfl : d = (pcs w).length := by omega
            have e18 : (mP (mW M 0 q) 37 (nxD zc)).2.1 18 ((w : Int) + 1) = pcE.getD (w + 1) 0 := h18 (w + 1) (by omega)
            rw [hse, List.length_append] at hih
            refine gs_ild6 (pc := 104) dX2_drawsLine_104 ?_
            refine gs_ald0 (pc := 106) dX2_drawsLine_106 ?_
            refine gs_getf (pc := 107) 38 dX2_drawsLine_107 (mcell hA) clX2 in_X2 (by decide) q2264 (Or.inl rfl) rfl ?_
            refine gs_ild5 (pc := 110) dX2_drawsLine_110 ?_
            refine gs_iconst (pc := 112) dX2_drawsLine_112 ?_
            refine gs_iadd (pc := 113) dX2_drawsLine_113 ?_
            refine gs_iald (pc := 114) dX2_drawsLine_114 (ma_pieceEnds hA) (by omega) (by omega) ?_
            rw [e18, t1]
            refine gs_ic_ge (pc := 115) (tgt := 148) dX2_drawsLine_115 (by decide) (by omega) (fun _ => ?_) (fun hn => absurd (by omega) hn)
            refine gs_inc4 (pc := 148) dX2_drawsLine_148 rfl ?_
            refine gs_goto (pc := 151) (tgt := 56) dX2_drawsLine_151 (by decide) ?_
            exact hih q _ _ (by omega) rfl q0 q1 q2 q3 q4
          | succ r ihr =>
            intro d q hd q0 q1 q2 q3 q4
            have e18 : (mP (mW M 0 q) 37 (nxD zc)).2.1 18 ((w : Int) + 1) = pcE.getD (w + 1) 0 := h18 (w + 1) (by omega)
            have e19 : (mP (mW M 0 q) 37 (nxD zc)).2.1 19 (pcE.getD w 0 + d) = (pcs w).getD d 0 := by
              rw [← t4 d (by omega)]
              have := h19 ((pcE.getD w 0).toNat + d) (by omega)
              rw [← this]
              show M.2.1 19 _ = _
              exact congrArg _ (by omega)
            refine gs_ild6 (pc := 104) dX2_drawsLine_104 ?_
            refine gs_ald0 (pc := 106) dX2_drawsLine_106 ?_
            refine gs_getf (pc := 107) 38 dX2_drawsLine_107 (mcell hA) clX2 in_X2 (by decide) q2264 (Or.inl rfl) rfl ?_
            refine gs_ild5 (pc := 110) dX2_drawsLine_110 ?_
            refine gs_iconst (pc := 112) dX2_drawsLine_112 ?_
            refine gs_iadd (pc := 113) dX2_drawsLine_113 ?_
            refine gs_iald (pc := 114) dX2_drawsLine_114 (ma_pieceEnds hA) (by omega) (by omega) ?_
            rw [e18, t1]
            refine gs_ic_ge (pc := 115) (tgt := 148) dX2_drawsLine_115 (by decide) (by omega) (fun hn => absurd hn (by omega)) (fun _ => ?_)
            refine gs_ald0 (pc := 118) dX2_drawsLine_118 ?_
            refine gs_getf (pc := 119) 0 dX2_drawsLine_119 (mcell hA) clX2 in_X2 (by decide) q2226 (Or.inl rfl) rfl ?_
            refine gs_bipush (pc := 122) dX2_drawsLine_122 rfl ?_
            refine gs_bipush (pc := 124) dX2_drawsLine_124 rfl ?_
            refine gs_ild1 (pc := 126) dX2_drawsLine_126 ?_
            refine gs_imul (pc := 127) dX2_drawsLine_127 ?_
            refine gs_iadd (pc := 128) dX2_drawsLine_128 ?_
            refine gs_ild3 (pc := 129) dX2_drawsLine_129 ?_
            refine gs_iadd (pc := 130) dX2_drawsLine_130 ?_
            refine gs_ald0 (pc := 131) dX2_drawsLine_131 ?_
            refine gs_getf (pc := 132) 39 dX2_drawsLine_132 (mcell hA) clX2 in_X2 (by decide) q2265 (Or.inl rfl) rfl ?_
            refine gs_ild6 (pc := 135) dX2_drawsLine_135 ?_
            refine gs_iald (pc := 137) dX2_drawsLine_137 (ma_pieces hA) (by omega) (by omega) ?_
            rw [e19]
            refine ms_page (pc := 138) hA dX2_drawsLine_138 (by omega) ?_
            rw [show ∀ x v, mA (mP (mW M 0 q) 37 (nxD zc)) 0 x v = mP (mA (mW M 0 q) 0 x v) 37 (nxD zc) from fun _ _ => rfl, mA_mW]
            refine gs_inc3 (pc := 139) dX2_drawsLine_139 rfl ?_
            refine gs_inc6 (pc := 142) dX2_drawsLine_142 rfl ?_
            refine gs_goto (pc := 145) (tgt := 104) dX2_drawsLine_145 (by decide) ?_
            rw [show pcE.getD w 0 + (d : Int) + 1 = pcE.getD w 0 + ((d + 1 : Nat) : Int) by omega]
            refine ihr (d + 1) _ (by omega) (fun x hx => ?_) ?_ ?_ ?_ (fun j hj => ?_)
            · rw [fup_ne (by omega)]; exact q0 x hx
            · rw [fup_ne (by omega)]; exact q1
            · rw [fup_ne (by omega)]; exact q2
            · rw [fup_ne (by omega)]; exact q3
            · by_cases hjd : j = s'.length + d
              · rw [hjd, fup_eq, List.getD_eq_getElem?_getD, List.getD_eq_getElem?_getD, List.getElem?_append_right (by omega), Nat.add_sub_cancel_left]
              · rw [fup_ne (by omega)]; exact q4 j (by omega)
        refine gs_ald0 (pc := 95) dX2_drawsLine_95 ?_
        refine gs_getf (pc := 96) 38 dX2_drawsLine_96 (mcell hA) clX2 in_X2 (by decide) q2264 (Or.inl rfl) rfl ?_
        refine gs_ild5 (pc := 99) dX2_drawsLine_99 ?_
        refine gs_iald (pc := 101) dX2_drawsLine_101 (ma_pieceEnds hA) (by omega) (by omega) ?_
        rw [e18 w (by omega)]
        refine gs_ist6 (pc := 102) dX2_drawsLine_102 rfl ?_
        have := inner (pcs w).length 0 q (by omega) q0 q1 q2 q3 (fun j hj => by rw [List.getD_eq_getElem?_getD, List.getElem?_append_left (by omega), ← List.getD_eq_getElem?_getD]; exact q4 j (by omega))
        rw [show pcE.getD w 0 + ((0 : Nat) : Int) = pcE.getD w 0 by omega] at this
        exact this
      refine gs_ild4 (pc := 71) dX2_drawsLine_71 ?_
      refine gs_if_le (pc := 73) (tgt := 95) dX2_drawsLine_73 (by decide) (by omega) (fun h0 => ?_) (fun h0 => ?_)
      · have hc0 : c = 0 := by omega
        rw [if_pos hc0] at hlen1
        exact piece s _ q (by simp at hlen1; omega) (by rw [if_pos hc0]; rfl) q0 q1 q2 q3 q4
      · have hc0 : c ≠ 0 := by omega
        rw [if_neg hc0, List.length_singleton] at hlen1
        refine gs_ald0 (pc := 76) dX2_drawsLine_76 ?_
        refine gs_getf (pc := 77) 0 dX2_drawsLine_77 (mcell hA) clX2 in_X2 (by decide) q2226 (Or.inl rfl) rfl ?_
        refine gs_bipush (pc := 80) dX2_drawsLine_80 rfl ?_
        refine gs_bipush (pc := 82) dX2_drawsLine_82 rfl ?_
        refine gs_ild1 (pc := 84) dX2_drawsLine_84 ?_
        refine gs_imul (pc := 85) dX2_drawsLine_85 ?_
        refine gs_iadd (pc := 86) dX2_drawsLine_86 ?_
        refine gs_ild3 (pc := 87) dX2_drawsLine_87 ?_
        refine gs_iadd (pc := 88) dX2_drawsLine_88 ?_
        refine gs_bipush (pc := 89) dX2_drawsLine_89 rfl ?_
        refine ms_page (pc := 91) hA dX2_drawsLine_91 (by omega) ?_
        refine gs_inc3 (pc := 92) dX2_drawsLine_92 rfl ?_
        rw [show ∀ x v, mA (mP (mW M 0 q) 37 (nxD zc)) 0 x v = mP (mA (mW M 0 q) 0 x v) 37 (nxD zc) from fun _ _ => rfl, mA_mW]
        have := piece (s ++ [32]) L6 (fup q (61 + 32 * (i : Int) + s.length) 32) (by rw [List.length_append, List.length_singleton]; omega) (by rw [if_neg hc0, List.append_assoc]) (fun x hx => by rw [fup_ne (by omega)]; exact q0 x hx) (by rw [fup_ne (by omega)]; exact q1) (by rw [fup_ne (by omega)]; exact q2) (by rw [fup_ne (by omega)]; exact q3) (fun j hj => ?_)
        · rw [List.length_append, List.length_singleton] at this
          exact this
        · rw [List.length_append, List.length_singleton] at hj
          rw [List.getD_eq_getElem?_getD]
          by_cases hjs : j = s.length
          · rw [hjs, fup_eq, List.getElem?_append_right (Nat.le_refl _), Nat.sub_self]; rfl
          · rw [fup_ne (by omega), List.getElem?_append_left (by omega), ← List.getD_eq_getElem?_getD]; exact q4 j (by omega)
  refine gs_ald0 (pc := 0) dX2_drawsLine_0 ?_
  refine gs_getf (pc := 1) 0 dX2_drawsLine_1 (mcell hA) clX2 in_X2 (by decide) q2226 (Or.inl rfl) rfl ?_
  refine gs_iconst (pc := 4) dX2_drawsLine_4 ?_
  refine gs_iald (pc := 5) dX2_drawsLine_5 (ma_page hA) (by omega) (by omega) ?_
  rw [hc.1]
  refine gs_ist1 (pc := 6) dX2_drawsLine_6 rfl ?_
  refine gs_ald0 (pc := 7) dX2_drawsLine_7 ?_
  refine gs_getf (pc := 8) 0 dX2_drawsLine_8 (mcell hA) clX2 in_X2 (by decide) q2226 (Or.inl rfl) rfl ?_
  refine gs_iconst (pc := 11) dX2_drawsLine_11 ?_
  refine gs_dup2 (pc := 12) dX2_drawsLine_12 rfl rfl ?_
  refine gs_iald (pc := 13) dX2_drawsLine_13 (ma_page hA) (by omega) (by omega) ?_
  rw [hc.1]
  refine gs_iconst (pc := 14) dX2_drawsLine_14 ?_
  refine gs_iadd (pc := 15) dX2_drawsLine_15 ?_
  refine ms_page (pc := 16) hA dX2_drawsLine_16 (by omega) ?_
  refine gs_ald0 (pc := 17) dX2_drawsLine_17 ?_
  refine gs_getf (pc := 18) 0 dX2_drawsLine_18 (mcell hA) clX2 in_X2 (by decide) q2226 (Or.inl rfl) rfl ?_
  refine gs_bipush (pc := 21) dX2_drawsLine_21 rfl ?_
  refine gs_ild1 (pc := 23) dX2_drawsLine_23 ?_
  refine gs_iadd (pc := 24) dX2_drawsLine_24 ?_
  refine gs_iconst (pc := 25) dX2_drawsLine_25 ?_
  refine ms_page (pc := 26) hA dX2_drawsLine_26 (by omega) ?_
  refine gs_ald0 (pc := 27) dX2_drawsLine_27 ?_
  refine gs_getf (pc := 28) 0 dX2_drawsLine_28 (mcell hA) clX2 in_X2 (by decide) q2226 (Or.inl rfl) rfl ?_
  refine gs_iconst (pc := 31) dX2_drawsLine_31 ?_
  refine gs_ild1 (pc := 32) dX2_drawsLine_32 ?_
  refine gs_iadd (pc := 33) dX2_drawsLine_33 ?_
  have hz3 : (mA (mA M 0 0 ((i : Int) + 1)) 0 (41 + (i : Int)) 0).1 37 = z := hz
  refine gs_ald0 (pc := 34) dX2_drawsLine_34 ?_
  refine gs_V0 (pc := 35) dX2_drawsLine_35 kX2_303 (mcell hA) clX2 (by decide) (Nat.le_of_ble_eq_true rfl) (m_draws hA) (fun v hp1 hq => ?_)
  obtain ⟨rfl, rfl⟩ := hq
  rw [hz3]
  refine gs_bipush (pc := 38) dX2_drawsLine_38 rfl ?_
  refine gs_irem (pc := 40) dX2_drawsLine_40 (by decide) (i_rem (outD_rng _) (by decide)) ?_
  refine ms_page (pc := 41) hA dX2_drawsLine_41 (by omega) ?_
  refine gs_iconst (pc := 42) dX2_drawsLine_42 ?_
  refine gs_ald0 (pc := 43) dX2_drawsLine_43 ?_
  refine gs_V0 (pc := 44) dX2_drawsLine_44 kX2_303 (mcell hA) clX2 (by decide) (Nat.le_of_ble_eq_true rfl) (m_draws hA) (fun v hp1 hq => ?_)
  obtain ⟨rfl, rfl⟩ := hq
  show G X fX2_drawsLine 2 47 _ (vI (outD (nxD (nxD z))) :: _) (mH hp a (mP (mA (mP (mA (mA M 0 0 ((i : Int) + 1)) 0 (41 + (i : Int)) 0) 37 (nxD z)) 0 (1 + (i : Int)) (outD (nxD z) % 12)) 37 (nxD (nxD z)))) _
  rw [hz2]
  refine gs_iconst (pc := 47) dX2_drawsLine_47 ?_
  refine gs_irem (pc := 48) dX2_drawsLine_48 (by decide) (i_rem ho2 (by decide)) ?_
  refine gs_iadd (pc := 49) dX2_drawsLine_49 ?_
  refine gs_ist2 (pc := 50) dX2_drawsLine_50 rfl ?_
  refine gs_iconst (pc := 51) dX2_drawsLine_51 ?_
  refine gs_ist3 (pc := 52) dX2_drawsLine_52 rfl ?_
  refine gs_iconst (pc := 53) dX2_drawsLine_53 ?_
  refine gs_ist4 (pc := 54) dX2_drawsLine_54 rfl ?_
  rw [show mP (mA (mP (mA (mA M 0 0 ((i : Int) + 1)) 0 (41 + (i : Int)) 0) 37 (nxD z)) 0 (1 + (i : Int)) (outD (nxD z) % 12)) 37 z2 = mP (mP (mA (mA (mA M 0 0 ((i : Int) + 1)) 0 (41 + (i : Int)) 0) 0 (1 + (i : Int)) (outD (nxD z) % 12)) 37 (nxD z)) 37 z2 from rfl, mP_mP, show mA M 0 0 ((i : Int) + 1) = mW M 0 (fup (M.2.1 0) 0 ((i : Int) + 1)) from rfl, mA_mW, mA_mW, show 1 + outD z2 % 3 = (np : Int) by omega]
  refine outer np 0 _ _ _ (by omega) rfl (fun x hx => ?_) ?_ ?_ fup_eq (fun j hj => absurd hj (Nat.not_lt_zero _))
  · rw [fup_ne (by omega), fup_ne (by omega), fup_ne (by omega)]
  · rw [fup_ne (by omega), fup_ne (by omega), fup_eq]
  · rw [fup_ne (by omega), fup_eq]
theorem dwF.trans {M'' : MS} (h : dwF M M') (h' : dwF M' M'') : dwF M M'' := ⟨fun k hk => (h'.1 k hk).trans (h.1 k hk), fun j hj => (h'.2.1 j hj).trans (h.2.1 j hj), fun x hx => (h'.2.2 x hx).trans (h.2.2 x hx)⟩
theorem m_draw {z n : Int} (hA : mok X hp a) (hR : RM M A) (hO : asOk A) (hz : i32 z) (hn : i32 n) : MV X yX2_draw fX2_draw 4 [vR (some a), vI z, vI n] (mH hp a M) (chP hp a (sp_draw A z n)) := by
  refine MC.of pfX2_draw rfl (fun h => by cases h) 1 rfl rfl ?_
  unfold sp_draw
  refine gs_ild2 (pc := 0) dX2_draw_0 ?_
  refine gs_iconst (pc := 1) dX2_draw_1 ?_
  refine gs_bipush (pc := 2) dX2_draw_2 rfl ?_
  refine gs_S3 (pc := 4) dX2_draw_4 kX2_79 (by decide) (Nat.le_of_ble_eq_true rfl) (m_in hn (by decide) (by decide)) (fun v hp1 hq => ?_)
  obtain ⟨rfl, rfl⟩ := hq
  refine gs_bne (pc := 7) (tgt := 12) dX2_draw_7 (by decide) (fun h1 => ?_) (fun h1 => ?_)
  rotate_left
  · have h1 : ¬ (1 ≤ n ∧ n ≤ 12) := by simpa [inB] using h1
    rw [if_neg h1]
    refine gs_iconst (pc := 10) dX2_draw_10 ?_
    refine gs_iret (pc := 11) dX2_draw_11 rfl ?_
    exact ⟨_, rfl, rfl, M, rfl, hR⟩
  have h1 : 1 ≤ n ∧ n ≤ 12 := by simpa [inB] using h1
  rw [if_pos h1]
  dsimp only
  obtain ⟨u, rfl⟩ : ∃ u : Nat, n = (u : Int) := ⟨n.toNat, by omega⟩
  rw [Int.toNat_natCast]
  have h20 : nL A.1 ≤ 20 := hO.1.1
  refine gs_ald0 (pc := 12) dX2_draw_12 ?_
  refine gs_V0v (pc := 13) dX2_draw_13 kX2_207 (mcell hA) clX2 (by decide) (Nat.le_of_ble_eq_true rfl) (m_begins hA hR hO) (fun hp1 hq => ?_)
  obtain ⟨p1, r1, rfl, z1, z2⟩ := hq
  refine gs_ald0 (pc := 16) dX2_draw_16 ?_
  refine gs_ild1 (pc := 17) dX2_draw_17 ?_
  refine mp_drawn (pc := 18) rfl hA dX2_draw_18 ?_
  have hn9 : ∀ k : Nat, k < 17 → M.2.1 18 k = pcE.getD k 0 := hR.2.2.2.2.2.2.2.2.1
  have hn10 : ∀ k : Nat, k < 37 → M.2.1 19 k = pcB.getD k 0 := hR.2.2.2.2.2.2.2.2.2
  have loop : ∀ (r d : Nat) (M1 : MS), d + r = min u (20 - nL A.1) → dwF (mP (mW M 0 p1) 1 r1) M1 → M1.1 37 = (drN z d).1 → pgS (M1.2.1 0) 0 (A.1.1 ++ (drN z d).2, A.1.2) → G X fX2_draw 4 23 [some (vR (some a)), some (vI z), some (vI (u : Int)), some (vI (d : Int))] [] (mH hp a M1) (fun v hp' => ∃ w, v = some w ∧ chP hp a (((min u (20 - nL A.1) : Nat) : Int), chg A (A.1.1 ++ (drN z (min u (20 - nL A.1))).2, A.1.2)) w hp') := by
    intro r
    induction r with
    | zero =>
      intro d M1 hd hF h37 hs
      have hdn := drN_ok (z := z) d
      have e0 : M1.2.1 0 0 = nL A.1 + d := by
        rw [hs.1]
        dsimp only
        rw [List.length_append, hdn.1]; rfl
      have hRM : RM M1 (chg A (A.1.1 ++ (drN z d).2, A.1.2)) := RM.now (A := chg A A.1) z2 (chg_ok hO hO.1) (hF.1 1 (by decide)) (hF.1 4 (by decide)) (fun j hj => hF.2.1 j (by omega)) (fun x hx => hF.2.2 x hx) hs
      have hd' : d = min u (20 - nL A.1) := by omega
      rw [← hd']
      refine gs_ild3 (pc := 23) dX2_draw_23 ?_
      refine gs_ild2 (pc := 24) dX2_draw_24 ?_
      refine gs_ic_ge (pc := 25) (tgt := 49) dX2_draw_25 (by decide) (by omega) (fun h2 => ?_) (fun h2 => ?_)
      · refine gs_ild3 (pc := 49) dX2_draw_49 ?_
        refine gs_iret (pc := 50) dX2_draw_50 rfl ?_
        exact ⟨_, rfl, rfl, M1, rfl, hRM⟩
      · refine gs_ald0 (pc := 28) dX2_draw_28 ?_
        refine gs_getf (pc := 29) 0 dX2_draw_29 (mcell hA) clX2 in_X2 (by decide) q2226 (Or.inl rfl) rfl ?_
        refine gs_iconst (pc := 32) dX2_draw_32 ?_
        refine gs_iald (pc := 33) dX2_draw_33 (ma_page hA) (by omega) (by omega) ?_
        refine gs_bipush (pc := 34) dX2_draw_34 rfl ?_
        refine gs_ic_ge (pc := 36) (tgt := 49) dX2_draw_36 (by decide) (by omega) (fun _ => ?_) (fun hn => absurd (by omega) hn)
        refine gs_ild3 (pc := 49) dX2_draw_49 ?_
        refine gs_iret (pc := 50) dX2_draw_50 rfl ?_
        exact ⟨_, rfl, rfl, M1, rfl, hRM⟩
    | succ r ih =>
      intro d M1 hd hF h37 hs
      have hdn := drN_ok (z := z) d
      have hlen : (A.1.1 ++ (drN z d).2).length = nL A.1 + d := by rw [List.length_append, hdn.1]; rfl
      have e0 : M1.2.1 0 0 = nL A.1 + d := by
        rw [hs.1]
        dsimp only
        rw [hlen]; rfl
      have hSd : ssOk (A.1.1 ++ (drN z d).2, A.1.2) := by
        refine hO.1.ls (by rw [hlen]; omega) (fun l hl => ?_)
        rcases List.mem_append.mp hl with hl | hl
        · exact hO.1.2.1 l hl
        · exact hdn.2 l hl
      have hnS : nL (A.1.1 ++ (drN z d).2, A.1.2) < 20 := by show (A.1.1 ++ (drN z d).2).length < 20; omega
      refine gs_ild3 (pc := 23) dX2_draw_23 ?_
      refine gs_ild2 (pc := 24) dX2_draw_24 ?_
      refine gs_ic_ge (pc := 25) (tgt := 49) dX2_draw_25 (by decide) (by omega) (fun hn => absurd hn (by omega)) (fun _ => ?_)
      refine gs_ald0 (pc := 28) dX2_draw_28 ?_
      refine gs_getf (pc := 29) 0 dX2_draw_29 (mcell hA) clX2 in_X2 (by decide) q2226 (Or.inl rfl) rfl ?_
      refine gs_iconst (pc := 32) dX2_draw_32 ?_
      refine gs_iald (pc := 33) dX2_draw_33 (ma_page hA) (by omega) (by omega) ?_
      refine gs_bipush (pc := 34) dX2_draw_34 rfl ?_
      refine gs_ic_ge (pc := 36) (tgt := 49) dX2_draw_36 (by decide) (by omega) (fun hn => absurd hn (by omega)) (fun _ => ?_)
      refine gs_ald0 (pc := 39) dX2_draw_39 ?_
      refine gs_V0v (pc := 40) dX2_draw_40 kX2_306 (mcell hA) clX2 (by decide) (Nat.le_of_ble_eq_true rfl) (m_drawsLine (S := (A.1.1 ++ (drN z d).2, A.1.2)) hA ⟨hs, hSd⟩ hnS (by rw [hF.2.1 18 (by decide)]; exact hn9) (by rw [hF.2.1 19 (by decide)]; exact hn10) h37) (fun hp1 hq => ?_)
      obtain ⟨M2, rfl, g1, g2, g3⟩ := hq
      refine gs_inc3 (pc := 43) dX2_draw_43 rfl ?_
      refine gs_goto (pc := 46) (tgt := 23) dX2_draw_46 (by decide) ?_
      refine ih (d + 1) M2 (by omega) (hF.trans g1) g2 ?_
      rw [show (drN z (d + 1)).2 = (drN z d).2 ++ [(drL (drN z d).1).2] from rfl, ← List.append_assoc]
      exact g3
  refine gs_iconst (pc := 21) dX2_draw_21 ?_
  refine gs_ist3 (pc := 22) dX2_draw_22 rfl ?_
  refine loop (min u (20 - nL A.1)) 0 (mP (mP (mW M 0 p1) 1 r1) 37 z) (by omega) ⟨fun k hk => if_neg hk, fun _ _ => rfl, fun _ _ => rfl⟩ rfl ?_
  show pgS p1 0 (A.1.1 ++ [], A.1.2)
  rw [List.append_nil]
  exact z2.1
end R2
