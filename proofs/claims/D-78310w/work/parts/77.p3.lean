/-! THE MODEL: ranges; lines joined and split. -/
section P3
variable {X : gCx} {hp : gHp} {a : Nat} {M M' : MS} {A : AS} {S S' : SS} {t s : List Int} {n k m lo i j : Nat} {p p' : Int → Int}
theorem m_isRange {f t : Int} (hA : mok X hp a) (hR : RM M A) (hO : asOk A) (hf : i32 f) (ht : i32 t) : MV X yX2_isRange fX2_isRange 2 [vR (some a), vI f, vI t] (mH hp a M) (fun v hp' => v = vI (b2i (rngB A f t)) ∧ mH hp a M = hp') := by
  have hc := (hR.PG hO).cnt
  refine MC.of pfX2_isRange rfl (fun h => by cases h) 0 rfl rfl ?_
  unfold rngB
  refine gs_ild1 (pc := 0) dX2_isRange_0 ?_
  refine gs_iconst (pc := 1) dX2_isRange_1 ?_
  refine gs_ald0 (pc := 2) dX2_isRange_2 ?_
  refine gs_getf (pc := 3) 0 dX2_isRange_3 (mcell hA) clX2 in_X2 (by decide) q2226 (Or.inl rfl) rfl ?_
  refine gs_iconst (pc := 6) dX2_isRange_6 ?_
  refine gs_iald (pc := 7) dX2_isRange_7 (ma_page hA) (by omega) (by omega) ?_
  refine gs_S3 (pc := 8) dX2_isRange_8 kX2_79 (by decide) (Nat.le_of_ble_eq_true rfl) (m_in hf (by decide) (by omega)) (fun v hp1 hq => ?_)
  obtain ⟨rfl, rfl⟩ := hq
  refine gs_beq (pc := 11) (tgt := 32) dX2_isRange_11 (by decide) (fun h1 => ?_) (fun h1 => ?_)
  · have h1 : ¬ (0 ≤ f ∧ f ≤ M.2.1 0 0) := by simpa [inB] using h1
    refine gs_iconst (pc := 32) dX2_isRange_32 ?_
    refine gs_zret (pc := 33) .boolean dX2_isRange_33 rfl rfl ?_
    exact ⟨_, rfl, by rw [decide_eq_false (by omega)]; rfl, rfl⟩
  · have h1 : 0 ≤ f ∧ f ≤ M.2.1 0 0 := by simpa [inB] using h1
    refine gs_ild2 (pc := 14) dX2_isRange_14 ?_
    refine gs_ild1 (pc := 15) dX2_isRange_15 ?_
    refine gs_ald0 (pc := 16) dX2_isRange_16 ?_
    refine gs_getf (pc := 17) 0 dX2_isRange_17 (mcell hA) clX2 in_X2 (by decide) q2226 (Or.inl rfl) rfl ?_
    refine gs_iconst (pc := 20) dX2_isRange_20 ?_
    refine gs_iald (pc := 21) dX2_isRange_21 (ma_page hA) (by omega) (by omega) ?_
    refine gs_S3 (pc := 22) dX2_isRange_22 kX2_79 (by decide) (Nat.le_of_ble_eq_true rfl) (m_in ht hf (by omega)) (fun v hp1 hq => ?_)
    obtain ⟨rfl, rfl⟩ := hq
    refine gs_beq (pc := 25) (tgt := 32) dX2_isRange_25 (by decide) (fun h2 => ?_) (fun h2 => ?_)
    · have h2 : ¬ (f ≤ t ∧ t ≤ M.2.1 0 0) := by simpa [inB] using h2
      refine gs_iconst (pc := 32) dX2_isRange_32 ?_
      refine gs_zret (pc := 33) .boolean dX2_isRange_33 rfl rfl ?_
      exact ⟨_, rfl, by rw [decide_eq_false (by omega)]; rfl, rfl⟩
    · have h2 : f ≤ t ∧ t ≤ M.2.1 0 0 := by simpa [inB] using h2
      refine gs_iconst (pc := 28) dX2_isRange_28 ?_
      refine gs_goto (pc := 29) (tgt := 33) dX2_isRange_29 (by decide) ?_
      refine gs_zret (pc := 33) .boolean dX2_isRange_33 rfl rfl ?_
      exact ⟨_, rfl, by rw [decide_eq_true (by omega)]; rfl, rfl⟩
theorem rngB_nat {f t : Int} (h : rngB A f t = true) : ∃ g u : Nat, f = (g : Int) ∧ t = (u : Int) ∧ g ≤ u ∧ u ≤ nL A.1 := by
  have := of_decide_eq_true h
  exact ⟨f.toNat, t.toNat, by omega, by omega, by omega, by omega⟩
theorem lnA_map {f : Nat → Ln → Ln} {R : (Nat → Option Rl) × Int × Int × Int} (hj : j < nL S) : lnA (S.1.mapIdx f, R) j = f j (lnA S j) := by
  have hj : j < S.1.length := hj
  unfold lnA
  rw [List.getD_eq_getElem?_getD, List.getD_eq_getElem?_getD]
  dsimp only
  rw [List.getElem?_mapIdx, List.getElem?_eq_getElem hj]
  rfl
theorem blk_iff (h : PG M S) (hi : i < nL S) : blkL S i = decide (M.2.1 0 (21 + (i : Int)) = 0) := by
  have hlen := (h.ln hi).2.2.2.1
  show (lnA S i).2.1.isEmpty = _
  rw [hlen]
  cases (lnA S i).2.1 with
  | nil => rfl
  | cons c t => exact (decide_eq_false (by simp only [List.length_cons]; omega)).symm
theorem m_blank (hA : mok X hp a) (hP : PG M S) (hi : i < nL S) : MV X yX2_isBlank fX2_isBlank 1 [vR (some a), vI (i : Int)] (mH hp a M) (fun r hp' => r = vI (b2i (blkL S i)) ∧ mH hp a M = hp') := by
  have hc := hP.cnt
  have hl := hP.ln hi
  have h1 := hl.2.2.2.1
  have h2 := hl.2.1
  rw [blk_iff hP hi]
  exact m_isBlank hA (by omega) (by omega)
theorem m_shift {f t d : Int} (hA : mok X hp a) (hR : RM M A) (hO : asOk A) (hf : i32 f) (ht : i32 t) (hd : i32 d) : MV X yX2_shift fX2_shift 4 [vR (some a), vI f, vI t, vI d] (mH hp a M) (chP hp a (sp_shift A f t d)) := by
  refine MC.of pfX2_shift rfl (fun h => by cases h) 2 rfl rfl ?_
  have hP := hR.PG hO
  have hc := hP.cnt
  unfold sp_shift
  refine gs_ald0 (pc := 0) dX2_shift_0 ?_
  refine gs_ild1 (pc := 1) dX2_shift_1 ?_
  refine gs_ild2 (pc := 2) dX2_shift_2 ?_
  refine gs_V2 (pc := 3) dX2_shift_3 kX2_225 (mcell hA) clX2 (by decide) (Nat.le_of_ble_eq_true rfl) (m_isRange hA hR hO hf ht) (fun v hp1 hq => ?_)
  obtain ⟨rfl, rfl⟩ := hq
  refine gs_beq (pc := 6) (tgt := 20) dX2_shift_6 (by decide) (fun h1 => ?_) (fun h1 => ?_)
  · rw [if_neg (by rw [h1]; simp)]
    refine gs_iconst (pc := 20) dX2_shift_20 ?_
    refine gs_iret (pc := 21) dX2_shift_21 rfl ?_
    exact ⟨_, rfl, rfl, M, rfl, hR⟩
  refine gs_ild3 (pc := 9) dX2_shift_9 ?_
  refine gs_bipush (pc := 10) dX2_shift_10 rfl ?_
  refine gs_bipush (pc := 12) dX2_shift_12 rfl ?_
  refine gs_S3 (pc := 14) dX2_shift_14 kX2_79 (by decide) (Nat.le_of_ble_eq_true rfl) (m_in hd (by decide) (by decide)) (fun v hp1 hq => ?_)
  obtain ⟨rfl, rfl⟩ := hq
  refine gs_bne (pc := 17) (tgt := 22) dX2_shift_17 (by decide) (fun h2 => ?_) (fun h2 => ?_)
  rotate_left
  · have h2 : ¬ (-40 ≤ d ∧ d ≤ 40) := by simpa [inB] using h2
    rw [if_neg (fun h => h2 h.2)]
    refine gs_iconst (pc := 20) dX2_shift_20 ?_
    refine gs_iret (pc := 21) dX2_shift_21 rfl ?_
    exact ⟨_, rfl, rfl, M, rfl, hR⟩
  have h2 : -40 ≤ d ∧ d ≤ 40 := by simpa [inB] using h2
  rw [if_pos ⟨h1, h2⟩]
  obtain ⟨g, u, rfl, rfl, hgu, hun⟩ := rngB_nat h1
  rw [Int.toNat_natCast, Int.toNat_natCast]
  dsimp only
  have hin : ∀ x : Nat, x < nL A.1 → 0 ≤ M.2.1 0 (1 + (x : Int)) ∧ M.2.1 0 (1 + (x : Int)) ≤ 40 ∧ M.2.1 0 (1 + (x : Int)) = (lnA A.1 x).1 := by
    intro x hx
    have h3 := (hP.pin hx).2
    have h4 := indS_ok hO.1 hx
    rw [h3]
    exact ⟨h4.1, h4.2, rfl⟩
  have k75 : ((List.range (u - g)).map (· + g)).all (fun i => blkL A.1 i || decide (0 ≤ (lnA A.1 i).1 + d ∧ (lnA A.1 i).1 + d ≤ 40)) = true → ∀ L5, G X fX2_shift 4 75 [some (vR (some a)), some (vI (g : Int)), some (vI (u : Int)), some (vI d), some (vI ((((List.range (u - g)).map (· + g)).filter (fun i => !blkL A.1 i)).length : Int)), L5] [] (mH hp a M) (fun r hp' => ∃ v, r = some v ∧ chP hp a ((((List.range (u - g)).map (· + g)).filter (fun i => !blkL A.1 i)).length, chg A (A.1.1.mapIdx (fun i l => if (g : Int) ≤ i ∧ (i : Int) < u ∧ l.2.1 ≠ [] then (l.1 + d, l.2) else l), A.1.2)) v hp') := by
    intro hall L5
    refine gs_ald0 (pc := 75) dX2_shift_75 ?_
    refine gs_V0v (pc := 76) dX2_shift_76 kX2_207 (mcell hA) clX2 (by decide) (Nat.le_of_ble_eq_true rfl) (m_begins hA hR hO) (fun hp1 hq => ?_)
    obtain ⟨p1, r1, rfl, z1, z2⟩ := hq
    have hP2 := RM_pgn z2 hO
    generalize (((List.range (u - g)).map (· + g)).filter (fun i => !blkL A.1 i)).length = cnt
    have loop : ∀ (r j : Nat) (q : Int → Int), j + r = u → g ≤ j → (∀ x : Nat, x < nL A.1 → q (1 + (x : Int)) = if g ≤ x ∧ x < j ∧ blkL A.1 x = false then (lnA A.1 x).1 + d else (lnA A.1 x).1) → (∀ x : Int, ¬ (1 ≤ x ∧ x ≤ 20) → q x = p1 x) → G X fX2_shift 4 82 [some (vR (some a)), some (vI (g : Int)), some (vI (u : Int)), some (vI d), some (vI (cnt : Int)), some (vI (j : Int))] [] (mH hp a (mP (mW M 0 q) 1 r1)) (fun r hp' => ∃ v, r = some v ∧ chP hp a (cnt, chg A (A.1.1.mapIdx (fun i l => if (g : Int) ≤ i ∧ (i : Int) < u ∧ l.2.1 ≠ [] then (l.1 + d, l.2) else l), A.1.2)) v hp') := by
      intro r
      induction r with
      | zero =>
        intro j q hj hgj q1 q2
        obtain rfl : j = u := by omega
        refine gs_ild5 (pc := 82) dX2_shift_82 ?_
        refine gs_ild2 (pc := 84) dX2_shift_84 ?_
        refine gs_ic_ge (pc := 85) (tgt := 120) dX2_shift_85 (by decide) (by omega) (fun _ => ?_) (fun hn => absurd (by omega) hn)
        refine gs_ild4 (pc := 120) dX2_shift_120 ?_
        refine gs_iret (pc := 122) dX2_shift_122 rfl ?_
        refine ⟨_, rfl, rfl, _, rfl, ?_⟩
        refine RM.now (A := chg A A.1) z2 (chg_ok hO hO.1) rfl rfl (fun j hj => by rcases hj with rfl | rfl | rfl | rfl <;> rfl) (fun x hx => q2 x (by omega)) ?_
        show pgS q 0 _
        refine pgS.lines hO.1 z2.1 rfl (fun x h1 h2 => q2 x (by omega)) ?_ (fun x hx => ?_)
        · rw [q2 _ (by omega)]
          show p1 0 = ((A.1.1.mapIdx _).length : Nat)
          rw [List.length_mapIdx]; exact z2.1.1
        · have hx : x < (A.1.1.mapIdx _).length := hx
          rw [List.length_mapIdx] at hx
          have hx : x < nL A.1 := hx
          rw [lnA_map hx]
          obtain ⟨l1, l2, l3, l4⟩ := hP2.1.2.1 x hx
          have h32 := lnl (S := A.1) (j := x) hO.1
          have e1 := q1 x hx
          have hb : blkL A.1 x = false ↔ (lnA A.1 x).2.1 ≠ [] := by
            show (lnA A.1 x).2.1.isEmpty = false ↔ _
            cases (lnA A.1 x).2.1 with
            | nil => simp
            | cons c t => simp
          have e2 : (if (g : Int) ≤ x ∧ (x : Int) < j ∧ (lnA A.1 x).2.1 ≠ [] then ((lnA A.1 x).1 + d, (lnA A.1 x).2) else lnA A.1 x) = (q (1 + (x : Int)), (lnA A.1 x).2) := by
            rw [e1]
            by_cases hh : g ≤ x ∧ x < j ∧ blkL A.1 x = false
            · rw [if_pos hh, if_pos ⟨by omega, by omega, hb.mp hh.2.2⟩]
            · rw [if_neg hh, if_neg (fun h => hh ⟨by omega, by omega, hb.mpr h.2.2⟩)]
          rw [e2]
          refine ⟨congrArg q (by omega), ?_, ?_, fun k hk => ?_⟩
          · rw [q2 _ (by omega)]; exact l2
          · rw [q2 _ (by omega)]; exact l3
          · dsimp only at hk ⊢
            rw [q2 _ (by omega)]; exact l4 k hk
      | succ r ih =>
        intro j q hj hgj q1 q2
        have hjn : j < nL A.1 := by omega
        have hP3 : PG (mP (mW M 0 q) 1 r1) A.1 → True := fun _ => trivial
        have hb21 : (mP (mW M 0 q) 1 r1).2.1 0 (21 + (j : Int)) = (mP (mW M 0 p1) 1 r1).2.1 0 (21 + (j : Int)) := q2 _ (by omega)
        have hl := hP2.ln hjn
        have hl1 := hl.2.2.2.1
        have hl2 := hl.2.1
        have eb : blkL A.1 j = decide ((mP (mW M 0 q) 1 r1).2.1 0 (21 + (j : Int)) = 0) := by rw [hb21]; exact blk_iff hP2 hjn
        have e1 := q1 j hjn
        rw [if_neg (by omega)] at e1
        have e1' : (mP (mW M 0 q) 1 r1).2.1 0 (1 + (j : Int)) = (lnA A.1 j).1 := e1
        have kk : ∀ z : Int, z = (if blkL A.1 j = false then (lnA A.1 j).1 + d else (lnA A.1 j).1) → G X fX2_shift 4 113 [some (vR (some a)), some (vI (g : Int)), some (vI (u : Int)), some (vI d), some (vI (cnt : Int)), some (vI (j : Int))] [vI z, vI (1 + (j : Int)), vR (some (a + 1))] (mH hp a (mP (mW M 0 q) 1 r1)) (fun r hp' => ∃ v, r = some v ∧ chP hp a (cnt, chg A (A.1.1.mapIdx (fun i l => if (g : Int) ≤ i ∧ (i : Int) < u ∧ l.2.1 ≠ [] then (l.1 + d, l.2) else l), A.1.2)) v hp') := by
          intro z hz
          refine ms_page (pc := 113) hA dX2_shift_113 (by omega) ?_
          rw [show mA (mP (mW M 0 q) 1 r1) 0 (1 + (j : Int)) z = mP (mA (mW M 0 q) 0 (1 + (j : Int)) z) 1 r1 from rfl, mA_mW]
          refine gs_inc5 (pc := 114) dX2_shift_114 rfl ?_
          refine gs_goto (pc := 117) (tgt := 82) dX2_shift_117 (by decide) ?_
          refine ih (j + 1) (fup q (1 + (j : Int)) z) (by omega) (by omega) (fun x hx => ?_) (fun x hx => ?_)
          · by_cases hxj : x = j
            · subst hxj
              rw [fup_eq, hz]
              by_cases hb : blkL A.1 x = false
              · rw [if_pos hb, if_pos ⟨hgj, by omega, hb⟩]
              · rw [if_neg hb, if_neg (fun h => hb h.2.2)]
            · rw [fup_ne (by omega), q1 x hx]
              by_cases hh : g ≤ x ∧ x < j ∧ blkL A.1 x = false
              · rw [if_pos hh, if_pos ⟨hh.1, by omega, hh.2.2⟩]
              · rw [if_neg hh, if_neg (fun h => hh ⟨h.1, by omega, h.2.2⟩)]
          · rw [fup_ne (by omega)]; exact q2 x hx
        refine gs_ild5 (pc := 82) dX2_shift_82 ?_
        refine gs_ild2 (pc := 84) dX2_shift_84 ?_
        refine gs_ic_ge (pc := 85) (tgt := 120) dX2_shift_85 (by decide) (by omega) (fun hn => absurd hn (by omega)) (fun _ => ?_)
        refine gs_ald0 (pc := 88) dX2_shift_88 ?_
        refine gs_getf (pc := 89) 0 dX2_shift_89 (mcell hA) clX2 in_X2 (by decide) q2226 (Or.inl rfl) rfl ?_
        refine gs_iconst (pc := 92) dX2_shift_92 ?_
        refine gs_ild5 (pc := 93) dX2_shift_93 ?_
        refine gs_iadd (pc := 95) dX2_shift_95 ?_
        refine gs_dup2 (pc := 96) dX2_shift_96 rfl rfl ?_
        refine gs_iald (pc := 97) dX2_shift_97 (ma_page hA) (by omega) (by omega) ?_
        rw [e1']
        refine gs_ald0 (pc := 98) dX2_shift_98 ?_
        refine gs_ild5 (pc := 99) dX2_shift_99 ?_
        refine gs_V1 (pc := 101) dX2_shift_101 kX2_114 (mcell hA) clX2 (by decide) (Nat.le_of_ble_eq_true rfl) (m_isBlank hA (by omega) (by rw [hb21]; omega)) (fun v hp1 hq => ?_)
        obtain ⟨rfl, rfl⟩ := hq
        refine gs_beq (pc := 104) (tgt := 111) dX2_shift_104 (by decide) (fun hbl => ?_) (fun hbl => ?_)
        · rw [← eb] at hbl
          refine gs_ild3 (pc := 111) dX2_shift_111 ?_
          refine gs_iadd (pc := 112) dX2_shift_112 ?_
          exact kk _ (by rw [if_pos hbl])
        · rw [← eb] at hbl
          refine gs_iconst (pc := 107) dX2_shift_107 ?_
          refine gs_goto (pc := 108) (tgt := 112) dX2_shift_108 (by decide) ?_
          refine gs_iadd (pc := 112) dX2_shift_112 ?_
          exact kk _ (by rw [if_neg (by rw [hbl]; decide)]; omega)
    refine gs_ild1 (pc := 79) dX2_shift_79 ?_
    refine gs_ist5 (pc := 80) dX2_shift_80 rfl ?_
    exact loop (u - g) g p1 (by omega) (Nat.le_refl _) (fun x hx => by rw [if_neg (by omega)]; exact (hP2.pin hx).2) (fun _ _ => rfl)
  have loop1 : ∀ (r j : Nat), g + j + r = u → ((List.range j).map (· + g)).all (fun i => blkL A.1 i || decide (0 ≤ (lnA A.1 i).1 + d ∧ (lnA A.1 i).1 + d ≤ 40)) = true → G X fX2_shift 4 28 [some (vR (some a)), some (vI (g : Int)), some (vI (u : Int)), some (vI d), some (vI ((((List.range j).map (· + g)).filter (fun i => !blkL A.1 i)).length : Int)), some (vI ((g + j : Nat) : Int))] [] (mH hp a M) (fun r hp' => ∃ v, r = some v ∧ chP hp a (if ((List.range (u - g)).map (· + g)).all (fun i => blkL A.1 i || decide (0 ≤ (lnA A.1 i).1 + d ∧ (lnA A.1 i).1 + d ≤ 40)) = true then ((((List.range (u - g)).map (· + g)).filter (fun i => !blkL A.1 i)).length, chg A (A.1.1.mapIdx (fun i l => if (g : Int) ≤ i ∧ (i : Int) < u ∧ l.2.1 ≠ [] then (l.1 + d, l.2) else l), A.1.2)) else (-2, A)) v hp') := by
    intro r
    induction r with
    | zero =>
      intro j hj hall
      obtain rfl : j = u - g := by omega
      rw [if_pos hall]
      refine gs_ild5 (pc := 28) dX2_shift_28 ?_
      refine gs_ild2 (pc := 30) dX2_shift_30 ?_
      refine gs_ic_ge (pc := 31) (tgt := 75) dX2_shift_31 (by decide) (by omega) (fun _ => ?_) (fun hn => absurd (by omega) hn)
      exact k75 hall _
    | succ r ih =>
      intro j hj hall
      have hi := ih (j + 1) (by omega)
      rw [List.range_succ, List.map_append, List.all_append, List.filter_append, List.length_append, hall, Bool.true_and] at hi
      have h3 := hin (g + j) (by omega)
      refine gs_ild5 (pc := 28) dX2_shift_28 ?_
      refine gs_ild2 (pc := 30) dX2_shift_30 ?_
      refine gs_ic_ge (pc := 31) (tgt := 75) dX2_shift_31 (by decide) (by omega) (fun hn => absurd hn (by omega)) (fun _ => ?_)
      refine gs_ald0 (pc := 34) dX2_shift_34 ?_
      refine gs_ild5 (pc := 35) dX2_shift_35 ?_
      refine gs_V1 (pc := 37) dX2_shift_37 kX2_114 (mcell hA) clX2 (by decide) (Nat.le_of_ble_eq_true rfl) (m_blank hA hP (show g + j < nL A.1 by omega)) (fun v hp1 hq => ?_)
      obtain ⟨rfl, rfl⟩ := hq
      refine gs_bne (pc := 40) (tgt := 69) dX2_shift_40 (by decide) (fun hb => ?_) (fun hb => ?_)
      · have hb' : blkL A.1 (j + g) = true := by rw [Nat.add_comm]; exact hb
        have hi := hi (by simp [hb'])
        rw [show (List.filter (fun i => !blkL A.1 i) (List.map (· + g) [j])).length = 0 by simp [hb']] at hi
        refine gs_inc5 (pc := 69) dX2_shift_69 rfl ?_
        refine gs_goto (pc := 72) (tgt := 28) dX2_shift_72 (by decide) ?_
        exact hi
      · have hb' : blkL A.1 (j + g) = false := by rw [Nat.add_comm]; exact hb
        rw [show (List.filter (fun i => !blkL A.1 i) (List.map (· + g) [j])).length = 1 by simp [hb']] at hi
        refine gs_inc4 (pc := 43) dX2_shift_43 rfl ?_
        refine gs_ald0 (pc := 46) dX2_shift_46 ?_
        refine gs_getf (pc := 47) 0 dX2_shift_47 (mcell hA) clX2 in_X2 (by decide) q2226 (Or.inl rfl) rfl ?_
        refine gs_iconst (pc := 50) dX2_shift_50 ?_
        refine gs_ild5 (pc := 51) dX2_shift_51 ?_
        refine gs_iadd (pc := 53) dX2_shift_53 ?_
        refine gs_iald (pc := 54) dX2_shift_54 (ma_page hA) (by omega) (by omega) ?_
        rw [h3.2.2]
        rw [h3.2.2] at h3
        refine gs_ild3 (pc := 55) dX2_shift_55 ?_
        refine gs_iadd (pc := 56) dX2_shift_56 ?_
        refine gs_iconst (pc := 57) dX2_shift_57 ?_
        refine gs_bipush (pc := 58) dX2_shift_58 rfl ?_
        refine gs_S3 (pc := 60) dX2_shift_60 kX2_79 (by decide) (Nat.le_of_ble_eq_true rfl) (m_in (by omega) (by decide) (by decide)) (fun v hp1 hq => ?_)
        obtain ⟨rfl, rfl⟩ := hq
        refine gs_bne (pc := 63) (tgt := 69) dX2_shift_63 (by decide) (fun hr => ?_) (fun hr => ?_)
        · have hr : 0 ≤ (lnA A.1 (g + j)).1 + d ∧ (lnA A.1 (g + j)).1 + d ≤ 40 := by simpa [inB] using hr
          have hi := hi (by simp only [List.map_cons, List.map_nil, List.all_cons, List.all_nil, Bool.and_true, hb', Bool.false_or]; rw [Nat.add_comm j g]; exact decide_eq_true hr)
          refine gs_inc5 (pc := 69) dX2_shift_69 rfl ?_
          refine gs_goto (pc := 72) (tgt := 28) dX2_shift_72 (by decide) ?_
          exact hi
        · have hr : ¬ (0 ≤ (lnA A.1 (g + j)).1 + d ∧ (lnA A.1 (g + j)).1 + d ≤ 40) := by simpa [inB] using hr
          rw [if_neg (fun h => hr ?_)]
          · refine gs_bipush (pc := 66) dX2_shift_66 rfl ?_
            refine gs_iret (pc := 68) dX2_shift_68 rfl ?_
            exact ⟨_, rfl, rfl, M, rfl, hR⟩
          · have := List.all_eq_true.mp h (g + j) (List.mem_map.mpr ⟨j, List.mem_range.mpr (by omega), by omega⟩)
            rw [hb, Bool.false_or] at this
            exact of_decide_eq_true this
  refine gs_iconst (pc := 22) dX2_shift_22 ?_
  refine gs_ist4 (pc := 23) dX2_shift_23 rfl ?_
  refine gs_ild1 (pc := 25) dX2_shift_25 ?_
  refine gs_ist5 (pc := 26) dX2_shift_26 rfl ?_
  exact loop1 (u - g) 0 (by omega) rfl
theorem m_reindent {f t : Int} (hA : mok X hp a) (hR : RM M A) (hO : asOk A) (hf : i32 f) (ht : i32 t) : MV X yX2_reindent fX2_reindent 8 [vR (some a), vI f, vI t] (mH hp a M) (chP hp a (sp_reindent A f t)) := by
  refine MC.of pfX2_reindent rfl (fun h => by cases h) 2 rfl rfl ?_
  have hP := hR.PG hO
  have hc := hP.cnt
  unfold sp_reindent
  refine gs_ald0 (pc := 0) dX2_reindent_0 ?_
  refine gs_ild1 (pc := 1) dX2_reindent_1 ?_
  refine gs_ild2 (pc := 2) dX2_reindent_2 ?_
  refine gs_V2 (pc := 3) dX2_reindent_3 kX2_225 (mcell hA) clX2 (by decide) (Nat.le_of_ble_eq_true rfl) (m_isRange hA hR hO hf ht) (fun v hp1 hq => ?_)
  obtain ⟨rfl, rfl⟩ := hq
  refine gs_bne (pc := 6) (tgt := 11) dX2_reindent_6 (by decide) (fun h1 => ?_) (fun h1 => ?_)
  rotate_left
  · rw [if_neg (by rw [h1]; decide)]
    refine gs_iconst (pc := 9) dX2_reindent_9 ?_
    refine gs_iret (pc := 10) dX2_reindent_10 rfl ?_
    exact ⟨_, rfl, rfl, M, rfl, hR⟩
  rw [if_pos h1]
  obtain ⟨g, u, rfl, rfl, hgu, hun⟩ := rngB_nat h1
  rw [Int.toNat_natCast, Int.toNat_natCast]
  dsimp only
  refine gs_ald0 (pc := 11) dX2_reindent_11 ?_
  refine gs_V0v (pc := 12) dX2_reindent_12 kX2_207 (mcell hA) clX2 (by decide) (Nat.le_of_ble_eq_true rfl) (m_begins hA hR hO) (fun hp1 hq => ?_)
  obtain ⟨p1, r1, rfl, z1, z2⟩ := hq
  have hP1 := RM_pgn z2 hO
  obtain ⟨s1, s2, s3, s4⟩ := hP1.sb
  refine gs_ald0 (pc := 15) dX2_reindent_15 ?_
  refine gs_ald0 (pc := 16) dX2_reindent_16 ?_
  refine gs_getf (pc := 17) 0 dX2_reindent_17 (mcell hA) clX2 in_X2 (by decide) q2226 (Or.inl rfl) rfl ?_
  refine gs_sipush (pc := 20) dX2_reindent_20 rfl ?_
  refine gs_iald (pc := 23) dX2_reindent_23 (ma_page hA) (by omega) (by omega) ?_
  refine gs_ald0 (pc := 24) dX2_reindent_24 ?_
  refine gs_getf (pc := 25) 0 dX2_reindent_25 (mcell hA) clX2 in_X2 (by decide) q2226 (Or.inl rfl) rfl ?_
  refine gs_sipush (pc := 28) dX2_reindent_28 rfl ?_
  refine gs_iald (pc := 31) dX2_reindent_31 (ma_page hA) (by omega) (by omega) ?_
  rw [s1, s2]
  refine gs_V2v (pc := 32) dX2_reindent_32 kX2_222 (mcell hA) clX2 (by decide) (Nat.le_of_ble_eq_true rfl) (m_uses hA hP1 s3 s4) (fun hp1 hq => ?_)
  obtain ⟨M2, rfl, f1, hU⟩ := hq
  refine gs_ald0 (pc := 35) dX2_reindent_35 ?_
  refine gs_ild1 (pc := 36) dX2_reindent_36 ?_
  refine gs_ild2 (pc := 37) dX2_reindent_37 ?_
  refine gs_V2 (pc := 38) dX2_reindent_38 kX2_228 (mcell hA) clX2 (by decide) (Nat.le_of_ble_eq_true rfl) (m_settles (lo := g) (h := u) hA hU hgu hun) (fun v hp1 hq => ?_)
  obtain ⟨rfl, M3, rfl, f2, hU3⟩ := hq
  have hout := rei_out (S := A.1) (stp := A.1.2.2.1) (bse := A.1.2.2.2.1) (lo := g) (u - g)
  generalize rei A.1 A.1.2.2.1 A.1.2.2.2.1 g (u - g) = q at *
  have e0 : ∀ j, j = 0 ∨ j = 1 ∨ j = 2 ∨ j = 18 ∨ j = 19 → M3.2.1 j = (mP (mW M 0 p1) 1 r1).2.1 j := fun j hj => (f2.2.1 j (by omega)).trans (f1.2.1 j (by omega))
  have e1 : M3.1 1 = (mP (mW M 0 p1) 1 r1).1 1 := (f2.1 1 (by omega)).trans (f1.1 1 (by omega))
  have e4 : M3.1 4 = (mP (mW M 0 p1) 1 r1).1 4 := (f2.1 4 (by omega)).trans (f1.1 4 (by omega))
  obtain ⟨hP3, -, u1, -, -, u4, -⟩ := hU3
  have loop : ∀ (r j : Nat) (w : Int → Int), j + r = nL A.1 → (∀ x : Nat, x < nL A.1 → w (1 + (x : Int)) = if x < j then q.1 x else (lnA A.1 x).1) → (∀ x : Int, ¬ (1 ≤ x ∧ x ≤ 20) → w x = p1 x) → G X fX2_reindent 8 45 [some (vR (some a)), some (vI (g : Int)), some (vI (u : Int)), some (vI ((setN q.2 20 : Nat) : Int)), some (vI (j : Int))] [] (mH hp a (mW M3 0 w)) (fun r hp' => ∃ v, r = some v ∧ chP hp a ((cntN q.2 (nL A.1) : Int), chg A (A.1.1.mapIdx (fun i l => if (g : Int) ≤ i ∧ (i : Int) < u then (q.1 i, l.2) else l), A.1.2)) v hp') := by
    intro r
    induction r with
    | zero =>
      intro j w hj w1 w2
      obtain rfl : j = nL A.1 := by omega
      have ew : (mW M3 0 w).2.1 0 0 = nL A.1 := (w2 0 (by omega)).trans z2.1.1
      refine gs_ild4 (pc := 45) dX2_reindent_45 ?_
      refine gs_ald0 (pc := 47) dX2_reindent_47 ?_
      refine gs_getf (pc := 48) 0 dX2_reindent_48 (mcell hA) clX2 in_X2 (by decide) q2226 (Or.inl rfl) rfl ?_
      refine gs_iconst (pc := 51) dX2_reindent_51 ?_
      refine gs_iald (pc := 52) dX2_reindent_52 (ma_page hA) (by omega) (by omega) ?_
      refine gs_ic_ge (pc := 53) (tgt := 78) dX2_reindent_53 (by decide) (by omega) (fun _ => ?_) (fun hn => absurd (by omega) hn)
      refine gs_ild3 (pc := 78) dX2_reindent_78 ?_
      refine gs_S1 (pc := 79) dX2_reindent_79 kX2_231 (by decide) (Nat.le_of_ble_eq_true rfl) (m_bits) (fun v hp1 hq => ?_)
      obtain ⟨rfl, rfl⟩ := hq
      refine gs_iret (pc := 82) dX2_reindent_82 rfl ?_
      refine ⟨_, rfl, ?_, _, rfl, ?_⟩
      · rw [(setN_ext (f := q.2) (n := nL A.1) (fun i hi => (hout i (by omega)).2) 20 (by omega)).2]
      · refine RM.now (A := chg A A.1) z2 (chg_ok hO hO.1) e1 e4 (fun j hj => ?_) (fun x hx => w2 x (by omega)) ?_
        · have := e0 j (by omega)
          rw [← this]
          rcases hj with rfl | rfl | rfl | rfl <;> rfl
        · show pgS w 0 _
          refine pgS.lines hO.1 z2.1 rfl (fun x h1 h2 => w2 x (by omega)) ?_ (fun x hx => ?_)
          · rw [w2 _ (by omega)]
            show p1 0 = ((A.1.1.mapIdx _).length : Nat)
            rw [List.length_mapIdx]; exact z2.1.1
          · have hx : x < (A.1.1.mapIdx _).length := hx
            rw [List.length_mapIdx] at hx
            have hx : x < nL A.1 := hx
            rw [lnA_map hx]
            obtain ⟨l1, l2, l3, l4⟩ := hP1.1.2.1 x hx
            have h32 := lnl (S := A.1) (j := x) hO.1
            have e1 := w1 x hx
            rw [if_pos hx] at e1
            have e2 : (if (g : Int) ≤ x ∧ (x : Int) < u then (q.1 x, (lnA A.1 x).2) else lnA A.1 x) = (w (1 + (x : Int)), (lnA A.1 x).2) := by
              rw [e1]
              by_cases hh : (g : Int) ≤ x ∧ (x : Int) < u
              · rw [if_pos hh]
              · rw [if_neg hh, (hout x (by omega)).1]; rfl
            rw [e2]
            refine ⟨congrArg w (by omega), ?_, ?_, fun k hk => ?_⟩
            · rw [w2 _ (by omega)]; exact l2
            · rw [w2 _ (by omega)]; exact l3
            · dsimp only at hk ⊢
              rw [w2 _ (by omega)]; exact l4 k hk
    | succ r ih =>
      intro j w hj w1 w2
      have ew : (mW M3 0 w).2.1 0 0 = nL A.1 := (w2 0 (by omega)).trans z2.1.1
      have er : (mW M3 0 w).2.1 15 (j : Int) = q.1 j := u1 j (by omega)
      refine gs_ild4 (pc := 45) dX2_reindent_45 ?_
      refine gs_ald0 (pc := 47) dX2_reindent_47 ?_
      refine gs_getf (pc := 48) 0 dX2_reindent_48 (mcell hA) clX2 in_X2 (by decide) q2226 (Or.inl rfl) rfl ?_
      refine gs_iconst (pc := 51) dX2_reindent_51 ?_
      refine gs_iald (pc := 52) dX2_reindent_52 (ma_page hA) (by omega) (by omega) ?_
      refine gs_ic_ge (pc := 53) (tgt := 78) dX2_reindent_53 (by decide) (by omega) (fun hn => absurd hn (by omega)) (fun _ => ?_)
      refine gs_ald0 (pc := 56) dX2_reindent_56 ?_
      refine gs_getf (pc := 57) 0 dX2_reindent_57 (mcell hA) clX2 in_X2 (by decide) q2226 (Or.inl rfl) rfl ?_
      refine gs_iconst (pc := 60) dX2_reindent_60 ?_
      refine gs_ild4 (pc := 61) dX2_reindent_61 ?_
      refine gs_iadd (pc := 63) dX2_reindent_63 ?_
      refine gs_ald0 (pc := 64) dX2_reindent_64 ?_
      refine gs_getf (pc := 65) 21 dX2_reindent_65 (mcell hA) clX2 in_X2 (by decide) q2247 (Or.inl rfl) rfl ?_
      refine gs_ild4 (pc := 68) dX2_reindent_68 ?_
      refine gs_iald (pc := 70) dX2_reindent_70 (ma_row hA) (by omega) (by omega) ?_
      rw [er]
      refine ms_page (pc := 71) hA dX2_reindent_71 (by omega) ?_
      rw [mA_mW]
      refine gs_inc4 (pc := 72) dX2_reindent_72 rfl ?_
      refine gs_goto (pc := 75) (tgt := 45) dX2_reindent_75 (by decide) ?_
      refine ih (j + 1) _ (by omega) (fun x hx => ?_) (fun x hx => ?_)
      · by_cases hxj : x = j
        · subst hxj; rw [fup_eq, if_pos (by omega)]
        · rw [fup_ne (by omega), w1 x hx]
          by_cases hh : x < j
          · rw [if_pos hh, if_pos (by omega)]
          · rw [if_neg hh, if_neg (by omega)]
      · rw [fup_ne (by omega)]; exact w2 x hx
  refine gs_ist3 (pc := 41) dX2_reindent_41 rfl ?_
  refine gs_iconst (pc := 42) dX2_reindent_42 ?_
  refine gs_ist4 (pc := 43) dX2_reindent_43 rfl ?_
  have hw := loop (nL A.1) 0 (M3.2.1 0) (by omega) (fun x hx => by rw [if_neg (by omega)]; exact (hP3.pin hx).2) (fun x _ => by rw [e0 0 (by omega)]; rfl)
  rw [mW_self] at hw
  exact hw
end P3
