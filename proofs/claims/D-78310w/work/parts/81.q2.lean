/-! THE MODEL: rules are laid and dropped. -/
section Q2
variable {X : gCx} {hp : gHp} {a : Nat} {M M' : MS} {A : AS} {S S' : SS} {t s x y : List Int} {n k m lo i j r w : Nat} {p p' : Int → Int}
theorem pgS.rule {o : Option Rl} (hS : ssOk S) (hs : pgS p 0 S) (hr : r < 12) (hR : pgR p' (701 + 23 * (r : Int)) o) (ho : ∀ z : Int, z < 980 → ¬ (701 + 23 * (r : Int) ≤ z ∧ z < 701 + 23 * (r : Int) + 23) → p' z = p z) : pgS p' 0 (S.1, (fun k => if k = r then o else S.2.1 k), S.2.2) := by
  have hl := pgLs.mv (p' := p') hS (fun j h1 h2 => ho j (by omega) (by omega)) hs
  obtain ⟨-, -, h3, s1, s2, s3⟩ := hs
  refine ⟨hl.1, hl.2, fun k hk => ?_, ?_, ?_, ?_⟩
  · by_cases hkr : k = r
    · subst hkr
      dsimp only
      rw [if_pos rfl, show (0 : Int) + 701 + 23 * (k : Int) = 701 + 23 * k by omega]
      exact hR
    · dsimp only
      rw [if_neg hkr]
      refine (h3 k hk).mv (fun Q hQ => hS.2.2.1 k Q hQ) (fun j h1 h2 => ho _ (by omega) (by omega))
  · rw [ho _ (by omega) (by omega)]; exact s1
  · rw [ho _ (by omega) (by omega)]; exact s2
  · rw [ho _ (by omega) (by omega)]; exact s3
theorem rl_had (hP : PG M S) (hr : r < 12) : (M.2.1 0 (701 + 23 * (r : Int) + 0) = 0 ∧ (S.2.1 r).isSome = false) ∨ (1 ≤ M.2.1 0 (701 + 23 * (r : Int) + 0) ∧ M.2.1 0 (701 + 23 * (r : Int) + 0) ≤ 3 ∧ (S.2.1 r).isSome = true) := by
  cases h : S.2.1 r with
  | none => exact Or.inl ⟨hP.rlN hr h, rfl⟩
  | some R =>
    obtain ⟨h1, h2, -⟩ := hP.rlS hr h
    rw [h2]
    exact Or.inr ⟨h1.1.1, h1.1.2, rfl⟩
theorem rdT_e {q : Nat × List Int} (hk : k ≤ t.length) (h : rdT t k = .inl q) : q.1 ≤ t.length := by
  have hld := lead_le (t := t.drop k)
  rw [List.length_drop] at hld
  unfold rdT at h
  dsimp only at h
  have hq72 : k + lead (t.drop k) ≤ t.length := by omega
  generalize k + lead (t.drop k) = c at h hq72
  have hw := wrd_take (t := t) (k := c)
  by_cases h1 : 8 < wrdS (t.drop c)
  · rw [if_pos h1] at h; cases h
  · rw [if_neg h1] at h
    by_cases h2 : 0 < wrdS (t.drop c)
    · rw [if_pos h2] at h; cases h; dsimp only; omega
    · rw [if_neg h2] at h
      by_cases h3 : t.length ≤ c
      · rw [if_pos h3] at h; cases h
      · rw [if_neg h3] at h
        by_cases h4 : t.getD c 0 = 34
        · rw [if_pos h4] at h; cases h
        · rw [if_neg h4] at h; cases h; dsimp only; omega
theorem rdE_f {f : Nat} (h72 : t.length ≤ 72) (hk : k ≤ t.length) (h : rdE t k = some f) : f ≤ 100 := by
  have hld := lead_le (t := t.drop k)
  rw [List.length_drop] at hld
  unfold rdE at h
  by_cases h1 : t.length ≤ k + lead (t.drop k)
  · rw [if_pos h1] at h; cases h
  · rw [if_neg h1] at h; cases h; omega
theorem m_makes' {so pr st md cl : Int} (hA : mok X hp a) (hR : RM M A) (hO : asOk A) (hr : r < 12) (hso : 1 ≤ so ∧ so ≤ 3) (hx : txA M 0 x A.2.2.2.2) (hxo : txOk x) (hy : so = 1 → txA M 1 y A.2.2.2.2 ∧ txOk y) (z7 : Int) : G X fX2_makes 5 29 [some (vR (some a)), some (vI (r : Int)), some (vI so), some (vI pr), some (vI st), some (vI md), some (vI cl), some (vI z7), none, none] [] (mH hp a M) (fun v hp' => ∃ w, v = some w ∧ chP hp a (lay A (r : Int) (so, pr, st, md, cl, x, y)) w hp') := by
  refine gs_ald0 (pc := 29) dX2_makes_29 ?_
  refine gs_V0v (pc := 30) dX2_makes_30 kX2_207 (mcell hA) clX2 (by decide) (Nat.le_of_ble_eq_true rfl) (m_begins hA hR hO) (fun hp1 hq => ?_)
  obtain ⟨p1, r1, rfl, z1, z2⟩ := hq
  have hP2 := RM_pgn z2 hO
  have hht := rl_had hP2 hr
  have hx2 : txA (mP (mW M 0 p1) 1 r1) 0 x A.2.2.2.2 := hx
  have hy2 : so = 1 → txA (mP (mW M 0 p1) 1 r1) 1 y A.2.2.2.2 ∧ txOk y := hy
  have ht2 : txM (mP (mW M 0 p1) 1 r1) A.2.2.2.2 := hR.tx hO
  have k60 : ∀ B : Bool, B = (A.1.2.1 r).isSome → G X fX2_makes 5 60 [some (vR (some a)), some (vI (r : Int)), some (vI so), some (vI pr), some (vI st), some (vI md), some (vI cl), some (vI z7), some (vI (701 + 23 * (r : Int))), none] [vI (b2i B)] (mH hp a (mP (mW M 0 p1) 1 r1)) (fun v hp' => ∃ w, v = some w ∧ chP hp a (lay A (r : Int) (so, pr, st, md, cl, x, y)) w hp') := by
    intro B hB
    refine gs_ist9 (pc := 60) dX2_makes_60 rfl ?_
    refine gs_ald0 (pc := 62) dX2_makes_62 ?_
    refine gs_getf (pc := 63) 0 dX2_makes_63 (mcell hA) clX2 in_X2 (by decide) q2226 (Or.inl rfl) rfl ?_
    refine gs_ild8 (pc := 66) dX2_makes_66 ?_
    refine gs_iconst (pc := 68) dX2_makes_68 ?_
    refine gs_iadd (pc := 69) dX2_makes_69 ?_
    refine gs_ild2 (pc := 70) dX2_makes_70 ?_
    refine ms_page (pc := 71) hA dX2_makes_71 (by omega) ?_
    refine gs_ald0 (pc := 72) dX2_makes_72 ?_
    refine gs_getf (pc := 73) 0 dX2_makes_73 (mcell hA) clX2 in_X2 (by decide) q2226 (Or.inl rfl) rfl ?_
    refine gs_ild8 (pc := 76) dX2_makes_76 ?_
    refine gs_iconst (pc := 78) dX2_makes_78 ?_
    refine gs_iadd (pc := 79) dX2_makes_79 ?_
    refine gs_ild3 (pc := 80) dX2_makes_80 ?_
    refine ms_page (pc := 81) hA dX2_makes_81 (by omega) ?_
    refine gs_ald0 (pc := 82) dX2_makes_82 ?_
    refine gs_getf (pc := 83) 0 dX2_makes_83 (mcell hA) clX2 in_X2 (by decide) q2226 (Or.inl rfl) rfl ?_
    refine gs_ild8 (pc := 86) dX2_makes_86 ?_
    refine gs_iconst (pc := 88) dX2_makes_88 ?_
    refine gs_iadd (pc := 89) dX2_makes_89 ?_
    refine gs_ild4 (pc := 90) dX2_makes_90 ?_
    refine ms_page (pc := 92) hA dX2_makes_92 (by omega) ?_
    refine gs_ald0 (pc := 93) dX2_makes_93 ?_
    refine gs_getf (pc := 94) 0 dX2_makes_94 (mcell hA) clX2 in_X2 (by decide) q2226 (Or.inl rfl) rfl ?_
    refine gs_ild8 (pc := 97) dX2_makes_97 ?_
    refine gs_iconst (pc := 99) dX2_makes_99 ?_
    refine gs_iadd (pc := 100) dX2_makes_100 ?_
    refine gs_ild5 (pc := 101) dX2_makes_101 ?_
    refine ms_page (pc := 103) hA dX2_makes_103 (by omega) ?_
    refine gs_ald0 (pc := 104) dX2_makes_104 ?_
    refine gs_getf (pc := 105) 0 dX2_makes_105 (mcell hA) clX2 in_X2 (by decide) q2226 (Or.inl rfl) rfl ?_
    refine gs_ild8 (pc := 108) dX2_makes_108 ?_
    refine gs_iconst (pc := 110) dX2_makes_110 ?_
    refine gs_iadd (pc := 111) dX2_makes_111 ?_
    refine gs_ild6 (pc := 112) dX2_makes_112 ?_
    refine ms_page (pc := 114) hA dX2_makes_114 (by omega) ?_
    rw [mA_pw, mA_pw, mA_pw, mA_pw, mA_pw]
    generalize hf : fup (fup (fup (fup (fup p1 (701 + 23 * (r : Int) + 0) so) (701 + 23 * (r : Int) + 1) pr) (701 + 23 * (r : Int) + 2) st) (701 + 23 * (r : Int) + 3) md) (701 + 23 * (r : Int) + 4) cl = f
    have f0 : f (701 + 23 * (r : Int) + 0) = so := by rw [← hf, fup_ne (by omega), fup_ne (by omega), fup_ne (by omega), fup_ne (by omega), fup_eq]
    have f0 : f (701 + 23 * (r : Int)) = so := by rw [← f0]; exact congrArg f (by omega)
    have f1 : f (701 + 23 * (r : Int) + 1) = pr := by rw [← hf, fup_ne (by omega), fup_ne (by omega), fup_ne (by omega), fup_eq]
    have f2 : f (701 + 23 * (r : Int) + 2) = st := by rw [← hf, fup_ne (by omega), fup_ne (by omega), fup_eq]
    have f3 : f (701 + 23 * (r : Int) + 3) = md := by rw [← hf, fup_ne (by omega), fup_eq]
    have f4 : f (701 + 23 * (r : Int) + 4) = cl := by rw [← hf, fup_eq]
    have f5 : ∀ z : Int, ¬ (701 + 23 * (r : Int) ≤ z ∧ z < 701 + 23 * (r : Int) + 5) → f z = p1 z := by
      intro z hz
      rw [← hf, fup_ne (by omega), fup_ne (by omega), fup_ne (by omega), fup_ne (by omega), fup_ne (by omega)]
    clear hf
    have hend : ∀ (q : Int → Int) (M2 : MS), M2 = mP (mW M 0 q) 1 r1 → (∀ z : Int, ¬ (701 + 23 * (r : Int) + 5 ≤ z ∧ z < 701 + 23 * (r : Int) + 23) → q z = f z) → pgT q (701 + 23 * (r : Int) + 5) x → (so = 1 → pgT q (701 + 23 * (r : Int) + 14) y) → RM M2 (lay A (r : Int) (so, pr, st, md, cl, x, y)).2 := by
      rintro q M2 rfl hq hqx hqy
      refine RM.now (A := chg A A.1) z2 (chg_ok hO hO.1) rfl rfl (fun j hj => by rcases hj with rfl | rfl | rfl | rfl <;> rfl) (fun z hz => by show q z = p1 z; rw [hq z (by omega), f5 z (by omega)]) ?_
      show pgS q 0 (A.1.1, (fun k => if k = (r : Int).toNat then some (so, pr, st, md, cl, x, y) else A.1.2.1 k), A.1.2.2)
      rw [Int.toNat_natCast]
      refine pgS.rule hO.1 z2.1 hr ?_ (fun z h1 h2 => ?_)
      · refine ⟨by rw [hq _ (by omega)]; exact f0, by rw [hq _ (by omega)]; exact f1, by rw [hq _ (by omega)]; exact f2, by rw [hq _ (by omega)]; exact f3, by rw [hq _ (by omega)]; exact f4, hqx, hqy⟩
      · show q z = p1 z
        rw [hq z (by omega), f5 z (by omega)]
    refine gs_ald0 (pc := 115) dX2_makes_115 ?_
    refine gs_ild8 (pc := 116) dX2_makes_116 ?_
    refine gs_iconst (pc := 118) dX2_makes_118 ?_
    refine gs_iadd (pc := 119) dX2_makes_119 ?_
    refine gs_iconst (pc := 120) dX2_makes_120 ?_
    refine gs_V2v (pc := 121) dX2_makes_121 kX2_249 (mcell hA) clX2 (by decide) (Nat.le_of_ble_eq_true rfl) (m_writesText (w := 0) hA (show txM (mP (mW M 0 f) 1 r1) A.2.2.2.2 from ht2) (show txA (mP (mW M 0 f) 1 r1) 0 x A.2.2.2.2 from hx2) hxo.2.1 (by omega) (by decide)) (fun hp1 hq => ?_)
    obtain ⟨q, rfl, q1, q2⟩ := hq
    rw [mW_pw]
    have q2 : ∀ z : Int, ¬ (701 + 23 * (r : Int) + 5 ≤ z ∧ z < 701 + 23 * (r : Int) + 5 + 9) → q z = f z := q2
    refine gs_ild2 (pc := 124) dX2_makes_124 ?_
    refine gs_iconst (pc := 125) dX2_makes_125 ?_
    refine gs_ic_ne (pc := 126) (tgt := 139) dX2_makes_126 (by decide) (by omega) (fun h1 => ?_) (fun h1 => ?_)
    · refine gs_ild9 (pc := 139) dX2_makes_139 ?_
      refine gs_iret (pc := 141) dX2_makes_141 rfl ?_
      refine ⟨_, rfl, by rw [hB]; rfl, _, rfl, hend q _ rfl (fun z hz => q2 z (by omega)) q1 (fun h => absurd h h1)⟩
    · have h1 : so = 1 := by omega
      refine gs_ald0 (pc := 129) dX2_makes_129 ?_
      refine gs_ild8 (pc := 130) dX2_makes_130 ?_
      refine gs_bipush (pc := 132) dX2_makes_132 rfl ?_
      refine gs_iadd (pc := 134) dX2_makes_134 ?_
      refine gs_iconst (pc := 135) dX2_makes_135 ?_
      refine gs_V2v (pc := 136) dX2_makes_136 kX2_249 (mcell hA) clX2 (by decide) (Nat.le_of_ble_eq_true rfl) (m_writesText (w := 1) hA (show txM (mP (mW M 0 q) 1 r1) A.2.2.2.2 from ht2) (show txA (mP (mW M 0 q) 1 r1) 1 y A.2.2.2.2 from (hy2 h1).1) (hy2 h1).2.2.1 (by omega) (by decide)) (fun hp1 hq => ?_)
      obtain ⟨q', rfl, w1, w2⟩ := hq
      rw [mW_pw]
      have w2 : ∀ z : Int, ¬ (701 + 23 * (r : Int) + 14 ≤ z ∧ z < 701 + 23 * (r : Int) + 14 + 9) → q' z = q z := w2
      refine gs_ild9 (pc := 139) dX2_makes_139 ?_
      refine gs_iret (pc := 141) dX2_makes_141 rfl ?_
      refine ⟨_, rfl, by rw [hB]; rfl, _, rfl, hend q' _ rfl (fun z hz => by rw [w2 z (by omega), q2 z (by omega)]) (q1.mv hxo.2.1 (fun z h1 h2 => w2 _ (by omega))) (fun _ => w1)⟩
  refine gs_sipush (pc := 33) dX2_makes_33 rfl ?_
  refine gs_bipush (pc := 36) dX2_makes_36 rfl ?_
  refine gs_ild1 (pc := 38) dX2_makes_38 ?_
  refine gs_imul (pc := 39) dX2_makes_39 ?_
  refine gs_iadd (pc := 40) dX2_makes_40 ?_
  refine gs_ist8 (pc := 41) dX2_makes_41 rfl ?_
  refine gs_ald0 (pc := 43) dX2_makes_43 ?_
  refine gs_getf (pc := 44) 0 dX2_makes_44 (mcell hA) clX2 in_X2 (by decide) q2226 (Or.inl rfl) rfl ?_
  refine gs_ild8 (pc := 47) dX2_makes_47 ?_
  refine gs_iconst (pc := 49) dX2_makes_49 ?_
  refine gs_iadd (pc := 50) dX2_makes_50 ?_
  refine gs_iald (pc := 51) dX2_makes_51 (ma_page hA) (by omega) (by omega) ?_
  rcases hht with ⟨h1, h2⟩ | ⟨h1, h1', h2⟩
  · refine gs_if_le (pc := 52) (tgt := 59) dX2_makes_52 (by decide) (by omega) (fun _ => ?_) (fun hn => absurd (by omega) hn)
    refine gs_iconst (pc := 59) dX2_makes_59 ?_
    exact k60 false h2.symm
  · refine gs_if_le (pc := 52) (tgt := 59) dX2_makes_52 (by decide) (by omega) (fun hn => absurd hn (by omega)) (fun _ => ?_)
    refine gs_iconst (pc := 55) dX2_makes_55 ?_
    refine gs_goto (pc := 56) (tgt := 60) dX2_makes_56 (by decide) ?_
    exact k60 true h2.symm
theorem m_makes1 {pr st md cl : Int} (hA : mok X hp a) (hR : RM M A) (hO : asOk A) (hr : r < 12) : MV X yX2_makes fX2_makes 5 [vR (some a), vI (r : Int), vI 1, vI pr, vI st, vI md, vI cl] (mH hp a M) (chP hp a (match rdT A.2.2.2.2 0 with
    | .inr f => (-10 - (f : Int), A)
    | .inl x => (match rdT A.2.2.2.2 x.1 with
      | .inr f => (-10 - (f : Int), A)
      | .inl y => (match rdE A.2.2.2.2 y.1 with
        | some f => (-10 - (f : Int), A)
        | none => lay A (r : Int) (1, pr, st, md, cl, x.2, y.2))))) := by
  have ht := hR.tx hO
  have h72 := ht.2.1
  refine MC.of pfX2_makes rfl (fun h => by cases h) 3 rfl rfl ?_
  refine gs_ald0 (pc := 0) dX2_makes_0 ?_
  refine gs_ild2 (pc := 1) dX2_makes_1 ?_
  refine gs_iconst (pc := 2) dX2_makes_2 ?_
  refine gs_ic_ne (pc := 3) (tgt := 10) dX2_makes_3 (by decide) (by omega) (fun hn => absurd (by decide) hn) (fun _ => ?_)
  refine gs_iconst (pc := 6) dX2_makes_6 ?_
  refine gs_goto (pc := 7) (tgt := 11) dX2_makes_7 (by decide) ?_
  refine gs_V1 (pc := 11) dX2_makes_11 kX2_246 (mcell hA) clX2 (by decide) (Nat.le_of_ble_eq_true rfl) (m_readsTexts2 hA ht) (fun v hp1 hq => ?_)
  obtain ⟨M1, rfl, f1, f2⟩ := hq
  have hR1 := hR.kp f1.kp
  have kf : ∀ f : Nat, f ≤ 100 → G X fX2_makes 5 14 [some (vR (some a)), some (vI (r : Int)), some (vI 1), some (vI pr), some (vI st), some (vI md), some (vI cl), none, none, none] [vI (f : Int)] (mH hp a M1) (fun v hp' => ∃ w, v = some w ∧ chP hp a (-10 - (f : Int), A) w hp') := by
    intro f hf
    refine gs_ist7 (pc := 14) dX2_makes_14 rfl ?_
    refine gs_ild7 (pc := 16) dX2_makes_16 ?_
    refine gs_bipush (pc := 18) dX2_makes_18 rfl ?_
    refine gs_ic_eq (pc := 20) (tgt := 29) dX2_makes_20 (by decide) (by omega) (fun hn => absurd hn (by omega)) (fun _ => ?_)
    refine gs_bipush (pc := 23) dX2_makes_23 rfl ?_
    refine gs_ild7 (pc := 25) dX2_makes_25 ?_
    refine gs_isub (pc := 27) dX2_makes_27 ?_
    refine gs_iret (pc := 28) dX2_makes_28 rfl ?_
    exact ⟨_, rfl, rfl, M1, rfl, hR1⟩
  cases h1 : rdT A.2.2.2.2 0 with
  | inr f =>
    rw [h1] at f2
    have f2 : v = vI (f : Int) := f2
    subst f2
    exact kf f (rdT_f h72 (by omega) h1)
  | inl q =>
    rw [h1] at f2
    dsimp only at f2 ⊢
    have ho1 := rdT_ok (e := q.1) (x := q.2) hO.2.2.2.2.2 h1
    cases h2 : rdT A.2.2.2.2 q.1 with
    | inr f =>
      rw [h2] at f2
      have f2 : v = vI (f : Int) := f2
      subst f2
      exact kf f (rdT_f h72 (rdT_e (by omega) h1) h2)
    | inl z =>
      rw [h2] at f2
      dsimp only at f2 ⊢
      have ho2 := rdT_ok (e := z.1) (x := z.2) hO.2.2.2.2.2 h2
      cases h3 : rdE A.2.2.2.2 z.1 with
      | some f =>
        rw [h3] at f2
        have f2 : v = vI (f : Int) := f2
        subst f2
        exact kf f (rdE_f h72 (rdT_e (rdT_e (by omega) h1) h2) h3)
      | none =>
        rw [h3] at f2
        obtain ⟨rfl, f3, f4⟩ := f2
        refine gs_ist7 (pc := 14) dX2_makes_14 rfl ?_
        refine gs_ild7 (pc := 16) dX2_makes_16 ?_
        refine gs_bipush (pc := 18) dX2_makes_18 rfl ?_
        refine gs_ic_eq (pc := 20) (tgt := 29) dX2_makes_20 (by decide) (by omega) (fun _ => ?_) (fun hn => absurd (by decide) hn)
        exact m_makes' hA hR1 hO hr (by decide) f3 ho1 (fun _ => ⟨f4, ho2⟩) _
theorem m_makes2 {so pr st : Int} (hso : so = 2 ∨ so = 3) (hA : mok X hp a) (hR : RM M A) (hO : asOk A) (hr : r < 12) : MV X yX2_makes fX2_makes 5 [vR (some a), vI (r : Int), vI so, vI pr, vI st, vI 0, vI 0] (mH hp a M) (chP hp a (match rdT A.2.2.2.2 0 with
    | .inr f => (-10 - (f : Int), A)
    | .inl x => (match rdE A.2.2.2.2 x.1 with
      | some f => (-10 - (f : Int), A)
      | none => lay A (r : Int) (so, pr, st, 0, 0, x.2, [])))) := by
  have ht := hR.tx hO
  have h72 := ht.2.1
  refine MC.of pfX2_makes rfl (fun h => by cases h) 3 rfl rfl ?_
  refine gs_ald0 (pc := 0) dX2_makes_0 ?_
  refine gs_ild2 (pc := 1) dX2_makes_1 ?_
  refine gs_iconst (pc := 2) dX2_makes_2 ?_
  refine gs_ic_ne (pc := 3) (tgt := 10) dX2_makes_3 (by decide) (by omega) (fun _ => ?_) (fun hn => absurd hn (by omega))
  refine gs_iconst (pc := 10) dX2_makes_10 ?_
  refine gs_V1 (pc := 11) dX2_makes_11 kX2_246 (mcell hA) clX2 (by decide) (Nat.le_of_ble_eq_true rfl) (m_readsTexts1 hA ht) (fun v hp1 hq => ?_)
  obtain ⟨M1, rfl, f1, f2⟩ := hq
  have hR1 := hR.kp f1.kp
  have kf : ∀ f : Nat, f ≤ 100 → G X fX2_makes 5 14 [some (vR (some a)), some (vI (r : Int)), some (vI so), some (vI pr), some (vI st), some (vI 0), some (vI 0), none, none, none] [vI (f : Int)] (mH hp a M1) (fun v hp' => ∃ w, v = some w ∧ chP hp a (-10 - (f : Int), A) w hp') := by
    intro f hf
    refine gs_ist7 (pc := 14) dX2_makes_14 rfl ?_
    refine gs_ild7 (pc := 16) dX2_makes_16 ?_
    refine gs_bipush (pc := 18) dX2_makes_18 rfl ?_
    refine gs_ic_eq (pc := 20) (tgt := 29) dX2_makes_20 (by decide) (by omega) (fun hn => absurd hn (by omega)) (fun _ => ?_)
    refine gs_bipush (pc := 23) dX2_makes_23 rfl ?_
    refine gs_ild7 (pc := 25) dX2_makes_25 ?_
    refine gs_isub (pc := 27) dX2_makes_27 ?_
    refine gs_iret (pc := 28) dX2_makes_28 rfl ?_
    exact ⟨_, rfl, rfl, M1, rfl, hR1⟩
  cases h1 : rdT A.2.2.2.2 0 with
  | inr f =>
    rw [h1] at f2
    have f2 : v = vI (f : Int) := f2
    subst f2
    exact kf f (rdT_f h72 (by omega) h1)
  | inl q =>
    rw [h1] at f2
    dsimp only at f2 ⊢
    have ho1 := rdT_ok (e := q.1) (x := q.2) hO.2.2.2.2.2 h1
    cases h3 : rdE A.2.2.2.2 q.1 with
    | some f =>
      rw [h3] at f2
      have f2 : v = vI (f : Int) := f2
      subst f2
      exact kf f (rdE_f h72 (rdT_e (by omega) h1) h3)
    | none =>
      rw [h3] at f2
      obtain ⟨rfl, f3⟩ := f2
      refine gs_ist7 (pc := 14) dX2_makes_14 rfl ?_
      refine gs_ild7 (pc := 16) dX2_makes_16 ?_
      refine gs_bipush (pc := 18) dX2_makes_18 rfl ?_
      refine gs_ic_eq (pc := 20) (tgt := 29) dX2_makes_20 (by decide) (by omega) (fun _ => ?_) (fun hn => absurd (by decide) hn)
      exact m_makes' hA hR1 hO hr (by omega) f3 ho1 (fun h => by omega) _
theorem m_isRule {r q : Int} (hr : i32 r) (hq : i32 q) : MV X yX2_isRule fX2_isRule 2 [vI r, vI q] hp (fun v hp' => v = vI (b2i (rlB r q)) ∧ hp = hp') := by
  refine MC.of pfX2_isRule rfl (fun h => by cases h) 0 rfl rfl ?_
  unfold rlB
  refine gs_ild0 (pc := 0) dX2_isRule_0 ?_
  refine gs_iconst (pc := 1) dX2_isRule_1 ?_
  refine gs_bipush (pc := 2) dX2_isRule_2 rfl ?_
  refine gs_S3 (pc := 4) dX2_isRule_4 kX2_79 (by decide) (Nat.le_of_ble_eq_true rfl) (m_in hr (by decide) (by decide)) (fun v hp1 hq => ?_)
  obtain ⟨rfl, rfl⟩ := hq
  refine gs_beq (pc := 7) (tgt := 24) dX2_isRule_7 (by decide) (fun h1 => ?_) (fun h1 => ?_)
  · refine gs_iconst (pc := 24) dX2_isRule_24 ?_
    refine gs_zret (pc := 25) .boolean dX2_isRule_25 rfl rfl ?_
    exact ⟨_, rfl, by rw [h1]; rfl, rfl⟩
  · refine gs_ild1 (pc := 10) dX2_isRule_10 ?_
    refine gs_iconst (pc := 11) dX2_isRule_11 ?_
    refine gs_bipush (pc := 12) dX2_isRule_12 rfl ?_
    refine gs_S3 (pc := 14) dX2_isRule_14 kX2_79 (by decide) (Nat.le_of_ble_eq_true rfl) (m_in hq (by decide) (by decide)) (fun v hp1 hq => ?_)
    obtain ⟨rfl, rfl⟩ := hq
    refine gs_beq (pc := 17) (tgt := 24) dX2_isRule_17 (by decide) (fun h2 => ?_) (fun h2 => ?_)
    · refine gs_iconst (pc := 24) dX2_isRule_24 ?_
      refine gs_zret (pc := 25) .boolean dX2_isRule_25 rfl rfl ?_
      exact ⟨_, rfl, by rw [h1, h2]; rfl, rfl⟩
    · refine gs_iconst (pc := 20) dX2_isRule_20 ?_
      refine gs_goto (pc := 21) (tgt := 25) dX2_isRule_21 (by decide) ?_
      refine gs_zret (pc := 25) .boolean dX2_isRule_25 rfl rfl ?_
      exact ⟨_, rfl, by rw [h1, h2]; rfl, rfl⟩
theorem rlB_r {r q : Int} (h : rlB r q = true) : ∃ n : Nat, r = (n : Int) ∧ n < 12 := by
  unfold rlB at h
  rw [Bool.and_eq_true] at h
  have := inB_of h.1
  exact ⟨r.toNat, by omega, by omega⟩
theorem m_pair {r q s m c : Int} (hA : mok X hp a) (hR : RM M A) (hO : asOk A) (hr : i32 r) (hq : i32 q) (hs : i32 s) (hm : i32 m) (hc : i32 c) : MV X yX2_pair fX2_pair 6 [vR (some a), vI r, vI q, vI s, vI m, vI c] (mH hp a M) (chP hp a (sp_pair A r q s m c)) := by
  refine MC.of pfX2_pair rfl (fun h => by cases h) 1 rfl rfl ?_
  unfold sp_pair
  have kno : (rlB r q && inB s 0 4 && inB m 0 1 && inB c 0 2) = false → G X fX2_pair 6 41 [some (vR (some a)), some (vI r), some (vI q), some (vI s), some (vI m), some (vI c), none] [] (mH hp a M) (fun v hp' => ∃ w, v = some w ∧ chP hp a (if (rlB r q && inB s 0 4 && inB m 0 1 && inB c 0 2) = true then (match rdT A.2.2.2.2 0 with
      | .inr f => (-10 - (f : Int), A)
      | .inl x => (match rdT A.2.2.2.2 x.1 with
        | .inr f => (-10 - (f : Int), A)
        | .inl y => (match rdE A.2.2.2.2 y.1 with
          | some f => (-10 - (f : Int), A)
          | none => lay A r (1, q, s, m, c, x.2, y.2)))) else (-1, A)) w hp') := by
    intro h
    rw [if_neg (by rw [h]; decide)]
    refine gs_iconst (pc := 41) dX2_pair_41 ?_
    refine gs_ist6 (pc := 42) dX2_pair_42 rfl ?_
    refine gs_ild6 (pc := 44) dX2_pair_44 ?_
    refine gs_if_eq (pc := 46) (tgt := 64) dX2_pair_46 (by decide) (by omega) (fun _ => ?_) (fun hn => absurd (by decide) hn)
    refine gs_iconst (pc := 64) dX2_pair_64 ?_
    refine gs_iret (pc := 65) dX2_pair_65 rfl ?_
    exact ⟨_, rfl, rfl, M, rfl, hR⟩
  refine gs_ild1 (pc := 0) dX2_pair_0 ?_
  refine gs_ild2 (pc := 1) dX2_pair_1 ?_
  refine gs_S2 (pc := 2) dX2_pair_2 kX2_252 (by decide) (Nat.le_of_ble_eq_true rfl) (m_isRule hr hq) (fun v hp1 hq => ?_)
  obtain ⟨rfl, rfl⟩ := hq
  refine gs_beq (pc := 5) (tgt := 41) dX2_pair_5 (by decide) (fun h1 => ?_) (fun h1 => ?_)
  · exact kno (by rw [h1]; rfl)
  refine gs_ild3 (pc := 8) dX2_pair_8 ?_
  refine gs_iconst (pc := 9) dX2_pair_9 ?_
  refine gs_iconst (pc := 10) dX2_pair_10 ?_
  refine gs_S3 (pc := 11) dX2_pair_11 kX2_79 (by decide) (Nat.le_of_ble_eq_true rfl) (m_in hs (by decide) (by decide)) (fun v hp1 hq => ?_)
  obtain ⟨rfl, rfl⟩ := hq
  refine gs_beq (pc := 14) (tgt := 41) dX2_pair_14 (by decide) (fun h2 => ?_) (fun h2 => ?_)
  · exact kno (by rw [h1, h2]; rfl)
  refine gs_ild4 (pc := 17) dX2_pair_17 ?_
  refine gs_iconst (pc := 19) dX2_pair_19 ?_
  refine gs_iconst (pc := 20) dX2_pair_20 ?_
  refine gs_S3 (pc := 21) dX2_pair_21 kX2_79 (by decide) (Nat.le_of_ble_eq_true rfl) (m_in hm (by decide) (by decide)) (fun v hp1 hq => ?_)
  obtain ⟨rfl, rfl⟩ := hq
  refine gs_beq (pc := 24) (tgt := 41) dX2_pair_24 (by decide) (fun h3 => ?_) (fun h3 => ?_)
  · exact kno (by rw [h1, h2, h3]; rfl)
  refine gs_ild5 (pc := 27) dX2_pair_27 ?_
  refine gs_iconst (pc := 29) dX2_pair_29 ?_
  refine gs_iconst (pc := 30) dX2_pair_30 ?_
  refine gs_S3 (pc := 31) dX2_pair_31 kX2_79 (by decide) (Nat.le_of_ble_eq_true rfl) (m_in hc (by decide) (by decide)) (fun v hp1 hq => ?_)
  obtain ⟨rfl, rfl⟩ := hq
  refine gs_beq (pc := 34) (tgt := 41) dX2_pair_34 (by decide) (fun h4 => ?_) (fun h4 => ?_)
  · exact kno (by rw [h1, h2, h3, h4]; rfl)
  obtain ⟨n, rfl, hn⟩ := rlB_r h1
  rw [if_pos (by rw [h1, h2, h3, h4]; rfl)]
  refine gs_iconst (pc := 37) dX2_pair_37 ?_
  refine gs_goto (pc := 38) (tgt := 42) dX2_pair_38 (by decide) ?_
  refine gs_ist6 (pc := 42) dX2_pair_42 rfl ?_
  refine gs_ild6 (pc := 44) dX2_pair_44 ?_
  refine gs_if_eq (pc := 46) (tgt := 64) dX2_pair_46 (by decide) (by omega) (fun hn => absurd hn (by decide)) (fun _ => ?_)
  refine gs_ald0 (pc := 49) dX2_pair_49 ?_
  refine gs_ild1 (pc := 50) dX2_pair_50 ?_
  refine gs_iconst (pc := 51) dX2_pair_51 ?_
  refine gs_ild2 (pc := 52) dX2_pair_52 ?_
  refine gs_ild3 (pc := 53) dX2_pair_53 ?_
  refine gs_ild4 (pc := 54) dX2_pair_54 ?_
  refine gs_ild5 (pc := 56) dX2_pair_56 ?_
  refine gs_V6 (pc := 58) dX2_pair_58 kX2_255 (mcell hA) clX2 (by decide) (Nat.le_of_ble_eq_true rfl) (m_makes1 hA hR hO hn) (fun v hp1 hq => ?_)
  obtain ⟨rfl, M1, rfl, r1⟩ := hq
  refine gs_goto (pc := 61) (tgt := 65) dX2_pair_61 (by decide) ?_
  refine gs_iret (pc := 65) dX2_pair_65 rfl ?_
  exact ⟨_, rfl, rfl, M1, rfl, r1⟩
theorem m_starter {r q s : Int} (hA : mok X hp a) (hR : RM M A) (hO : asOk A) (hr : i32 r) (hq : i32 q) (hs : i32 s) : MV X yX2_starter fX2_starter 6 [vR (some a), vI r, vI q, vI s] (mH hp a M) (chP hp a (sp_single A 2 r q s)) := by
  refine MC.of pfX2_starter rfl (fun h => by cases h) 0 rfl rfl ?_
  unfold sp_single
  refine gs_ild1 (pc := 0) dX2_starter_0 ?_
  refine gs_ild2 (pc := 1) dX2_starter_1 ?_
  refine gs_S2 (pc := 2) dX2_starter_2 kX2_252 (by decide) (Nat.le_of_ble_eq_true rfl) (m_isRule hr hq) (fun v hp1 hq => ?_)
  obtain ⟨rfl, rfl⟩ := hq
  refine gs_beq (pc := 5) (tgt := 31) dX2_starter_5 (by decide) (fun h1 => ?_) (fun h1 => ?_)
  · rw [if_neg (by rw [h1]; simp)]
    refine gs_iconst (pc := 31) dX2_starter_31 ?_
    refine gs_iret (pc := 32) dX2_starter_32 rfl ?_
    exact ⟨_, rfl, rfl, M, rfl, hR⟩
  refine gs_ild3 (pc := 8) dX2_starter_8 ?_
  refine gs_bipush (pc := 9) dX2_starter_9 rfl ?_
  refine gs_iconst (pc := 11) dX2_starter_11 ?_
  refine gs_S3 (pc := 12) dX2_starter_12 kX2_79 (by decide) (Nat.le_of_ble_eq_true rfl) (m_in hs (by decide) (by decide)) (fun v hp1 hq => ?_)
  obtain ⟨rfl, rfl⟩ := hq
  refine gs_beq (pc := 15) (tgt := 31) dX2_starter_15 (by decide) (fun h2 => ?_) (fun h2 => ?_)
  · rw [if_neg (by rw [h1, h2]; simp)]
    refine gs_iconst (pc := 31) dX2_starter_31 ?_
    refine gs_iret (pc := 32) dX2_starter_32 rfl ?_
    exact ⟨_, rfl, rfl, M, rfl, hR⟩
  obtain ⟨n, rfl, hn⟩ := rlB_r h1
  rw [if_pos (by rw [h1, h2]; rfl)]
  refine gs_ald0 (pc := 18) dX2_starter_18 ?_
  refine gs_ild1 (pc := 19) dX2_starter_19 ?_
  refine gs_iconst (pc := 20) dX2_starter_20 ?_
  refine gs_ild2 (pc := 21) dX2_starter_21 ?_
  refine gs_ild3 (pc := 22) dX2_starter_22 ?_
  refine gs_iconst (pc := 23) dX2_starter_23 ?_
  refine gs_iconst (pc := 24) dX2_starter_24 ?_
  refine gs_V6 (pc := 25) dX2_starter_25 kX2_255 (mcell hA) clX2 (by decide) (Nat.le_of_ble_eq_true rfl) (m_makes2 (Or.inl rfl) hA hR hO hn) (fun v hp1 hq => ?_)
  obtain ⟨rfl, M1, rfl, r1⟩ := hq
  refine gs_goto (pc := 28) (tgt := 32) dX2_starter_28 (by decide) ?_
  refine gs_iret (pc := 32) dX2_starter_32 rfl ?_
  exact ⟨_, rfl, rfl, M1, rfl, r1⟩
theorem m_joiner {r q s : Int} (hA : mok X hp a) (hR : RM M A) (hO : asOk A) (hr : i32 r) (hq : i32 q) (hs : i32 s) : MV X yX2_joiner fX2_joiner 6 [vR (some a), vI r, vI q, vI s] (mH hp a M) (chP hp a (sp_single A 3 r q s)) := by
  refine MC.of pfX2_joiner rfl (fun h => by cases h) 0 rfl rfl ?_
  unfold sp_single
  refine gs_ild1 (pc := 0) dX2_joiner_0 ?_
  refine gs_ild2 (pc := 1) dX2_joiner_1 ?_
  refine gs_S2 (pc := 2) dX2_joiner_2 kX2_252 (by decide) (Nat.le_of_ble_eq_true rfl) (m_isRule hr hq) (fun v hp1 hq => ?_)
  obtain ⟨rfl, rfl⟩ := hq
  refine gs_beq (pc := 5) (tgt := 31) dX2_joiner_5 (by decide) (fun h1 => ?_) (fun h1 => ?_)
  · rw [if_neg (by rw [h1]; simp)]
    refine gs_iconst (pc := 31) dX2_joiner_31 ?_
    refine gs_iret (pc := 32) dX2_joiner_32 rfl ?_
    exact ⟨_, rfl, rfl, M, rfl, hR⟩
  refine gs_ild3 (pc := 8) dX2_joiner_8 ?_
  refine gs_bipush (pc := 9) dX2_joiner_9 rfl ?_
  refine gs_iconst (pc := 11) dX2_joiner_11 ?_
  refine gs_S3 (pc := 12) dX2_joiner_12 kX2_79 (by decide) (Nat.le_of_ble_eq_true rfl) (m_in hs (by decide) (by decide)) (fun v hp1 hq => ?_)
  obtain ⟨rfl, rfl⟩ := hq
  refine gs_beq (pc := 15) (tgt := 31) dX2_joiner_15 (by decide) (fun h2 => ?_) (fun h2 => ?_)
  · rw [if_neg (by rw [h1, h2]; simp)]
    refine gs_iconst (pc := 31) dX2_joiner_31 ?_
    refine gs_iret (pc := 32) dX2_joiner_32 rfl ?_
    exact ⟨_, rfl, rfl, M, rfl, hR⟩
  obtain ⟨n, rfl, hn⟩ := rlB_r h1
  rw [if_pos (by rw [h1, h2]; rfl)]
  refine gs_ald0 (pc := 18) dX2_joiner_18 ?_
  refine gs_ild1 (pc := 19) dX2_joiner_19 ?_
  refine gs_iconst (pc := 20) dX2_joiner_20 ?_
  refine gs_ild2 (pc := 21) dX2_joiner_21 ?_
  refine gs_ild3 (pc := 22) dX2_joiner_22 ?_
  refine gs_iconst (pc := 23) dX2_joiner_23 ?_
  refine gs_iconst (pc := 24) dX2_joiner_24 ?_
  refine gs_V6 (pc := 25) dX2_joiner_25 kX2_255 (mcell hA) clX2 (by decide) (Nat.le_of_ble_eq_true rfl) (m_makes2 (Or.inr rfl) hA hR hO hn) (fun v hp1 hq => ?_)
  obtain ⟨rfl, M1, rfl, r1⟩ := hq
  refine gs_goto (pc := 28) (tgt := 32) dX2_joiner_28 (by decide) ?_
  refine gs_iret (pc := 32) dX2_joiner_32 rfl ?_
  exact ⟨_, rfl, rfl, M1, rfl, r1⟩
theorem m_dropRule {r : Int} (hA : mok X hp a) (hR : RM M A) (hO : asOk A) (hr : i32 r) : MV X yX2_dropRule fX2_dropRule 4 [vR (some a), vI r] (mH hp a M) (chP hp a (sp_dropRule A r)) := by
  have hP := hR.PG hO
  refine MC.of pfX2_dropRule rfl (fun h => by cases h) 2 rfl rfl ?_
  unfold sp_dropRule
  refine gs_ild1 (pc := 0) dX2_dropRule_0 ?_
  refine gs_iconst (pc := 1) dX2_dropRule_1 ?_
  refine gs_bipush (pc := 2) dX2_dropRule_2 rfl ?_
  refine gs_S3 (pc := 4) dX2_dropRule_4 kX2_79 (by decide) (Nat.le_of_ble_eq_true rfl) (m_in hr (by decide) (by decide)) (fun v hp1 hq => ?_)
  obtain ⟨rfl, rfl⟩ := hq
  refine gs_beq (pc := 7) (tgt := 19) dX2_dropRule_7 (by decide) (fun h1 => ?_) (fun h1 => ?_)
  · rw [if_neg (by rw [h1]; simp)]
    refine gs_iconst (pc := 19) dX2_dropRule_19 ?_
    refine gs_iret (pc := 20) dX2_dropRule_20 rfl ?_
    exact ⟨_, rfl, rfl, M, rfl, hR⟩
  have h1' := inB_of h1
  obtain ⟨n, rfl⟩ : ∃ n : Nat, r = (n : Int) := ⟨r.toNat, by omega⟩
  have hn : n < 12 := by omega
  rw [h1, Int.toNat_natCast, Bool.true_and]
  refine gs_ald0 (pc := 10) dX2_dropRule_10 ?_
  refine gs_ild1 (pc := 11) dX2_dropRule_11 ?_
  refine gs_iconst (pc := 12) dX2_dropRule_12 ?_
  refine gs_V2 (pc := 13) dX2_dropRule_13 kX2_120 (mcell hA) clX2 (by decide) (Nat.le_of_ble_eq_true rfl) (m_ruleAt (w := 0) hA (by omega) (by decide)) (fun v hp1 hq => ?_)
  obtain ⟨rfl, rfl⟩ := hq
  rcases rl_had hP hn with ⟨g1, g2⟩ | ⟨g1, g1', g2⟩
  · rw [g2, if_neg (by decide)]
    refine gs_if_ne (pc := 16) (tgt := 21) dX2_dropRule_16 (by decide) (by omega) (fun hn => absurd (by omega) hn) (fun _ => ?_)
    refine gs_iconst (pc := 19) dX2_dropRule_19 ?_
    refine gs_iret (pc := 20) dX2_dropRule_20 rfl ?_
    exact ⟨_, rfl, rfl, M, rfl, hR⟩
  rw [g2, if_pos rfl]
  refine gs_if_ne (pc := 16) (tgt := 21) dX2_dropRule_16 (by decide) (by omega) (fun _ => ?_) (fun hn => absurd hn (by omega))
  refine gs_ald0 (pc := 21) dX2_dropRule_21 ?_
  refine gs_V0v (pc := 22) dX2_dropRule_22 kX2_207 (mcell hA) clX2 (by decide) (Nat.le_of_ble_eq_true rfl) (m_begins hA hR hO) (fun hp1 hq => ?_)
  obtain ⟨p1, r1, rfl, z1, z2⟩ := hq
  refine gs_ald0 (pc := 25) dX2_dropRule_25 ?_
  refine gs_getf (pc := 26) 0 dX2_dropRule_26 (mcell hA) clX2 in_X2 (by decide) q2226 (Or.inl rfl) rfl ?_
  refine gs_sipush (pc := 29) dX2_dropRule_29 rfl ?_
  refine gs_bipush (pc := 32) dX2_dropRule_32 rfl ?_
  refine gs_ild1 (pc := 34) dX2_dropRule_34 ?_
  refine gs_imul (pc := 35) dX2_dropRule_35 ?_
  refine gs_iadd (pc := 36) dX2_dropRule_36 ?_
  refine gs_iconst (pc := 37) dX2_dropRule_37 ?_
  refine gs_iadd (pc := 38) dX2_dropRule_38 ?_
  refine gs_iconst (pc := 39) dX2_dropRule_39 ?_
  refine ms_page (pc := 40) hA dX2_dropRule_40 (by omega) ?_
  rw [mA_pw]
  have hs' : pgS (fup p1 (701 + 23 * (n : Int) + 0) 0) 0 (A.1.1, (fun k => if k = n then none else A.1.2.1 k), A.1.2.2) := by
    refine pgS.rule hO.1 z2.1 hn ?_ (fun z h1 h2 => fup_ne (by omega))
    show fup p1 (701 + 23 * (n : Int) + 0) 0 (701 + 23 * (n : Int)) = 0
    rw [show 701 + 23 * (n : Int) = 701 + 23 * (n : Int) + 0 by omega]; exact fup_eq
  have hS' : ssOk (A.1.1, (fun k => if k = n then none else A.1.2.1 k), A.1.2.2) := by
    have := (ok_dropRule (A := A) (r := (n : Int)) hO).1
    unfold sp_dropRule at this
    rw [h1, Int.toNat_natCast, g2, Bool.true_and, if_pos rfl] at this
    exact this
  have hRM : RM (mP (mW M 0 (fup p1 (701 + 23 * (n : Int) + 0) 0)) 1 r1) (chg A (A.1.1, (fun k => if k = n then none else A.1.2.1 k), A.1.2.2)) := RM.now (A := chg A A.1) z2 (chg_ok hO hO.1) rfl rfl (fun j hj => by rcases hj with rfl | rfl | rfl | rfl <;> rfl) (fun z hz => fup_ne (by omega)) hs'
  have hP3 : PG (mP (mW M 0 (fup p1 (701 + 23 * (n : Int) + 0) 0)) 1 r1) (A.1.1, (fun k => if k = n then none else A.1.2.1 k), A.1.2.2) := ⟨hs', hS'⟩
  generalize mP (mW M 0 (fup p1 (701 + 23 * (n : Int) + 0) 0)) 1 r1 = M2 at *
  have loop : ∀ (q k : Nat), k + q = 12 → G X fX2_dropRule 4 45 [some (vR (some a)), some (vI (n : Int)), some (vI ((((List.range k).filter (fun k => decide (k ≠ n) && (A.1.2.1 k).isSome)).length : Nat) : Int)), some (vI (k : Int))] [] (mH hp a M2) (fun v hp' => ∃ w, v = some w ∧ chP hp a ((((List.range 12).filter (fun k => decide (k ≠ n) && (A.1.2.1 k).isSome)).length : Int), chg A (A.1.1, (fun k => if k = n then none else A.1.2.1 k), A.1.2.2)) w hp') := by
    intro q
    induction q with
    | zero =>
      intro k hk
      obtain rfl : k = 12 := by omega
      refine gs_ild3 (pc := 45) dX2_dropRule_45 ?_
      refine gs_bipush (pc := 46) dX2_dropRule_46 rfl ?_
      refine gs_ic_ge (pc := 48) (tgt := 74) dX2_dropRule_48 (by decide) (by omega) (fun _ => ?_) (fun hn => absurd (by decide) hn)
      refine gs_ild2 (pc := 74) dX2_dropRule_74 ?_
      refine gs_iret (pc := 75) dX2_dropRule_75 rfl ?_
      exact ⟨_, rfl, rfl, M2, rfl, hRM⟩
    | succ q ih =>
      intro k hk
      have hi := ih (k + 1) (by omega)
      rw [List.range_succ, List.filter_append, List.length_append] at hi
      have e : (if k = n then none else A.1.2.1 k : Option Rl).isSome = (decide (k ≠ n) && (A.1.2.1 k).isSome) := by
        by_cases h : k = n
        · rw [if_pos h, decide_eq_false (fun g => g h)]; rfl
        · rw [if_neg h, decide_eq_true h]; rfl
      refine gs_ild3 (pc := 45) dX2_dropRule_45 ?_
      refine gs_bipush (pc := 46) dX2_dropRule_46 rfl ?_
      refine gs_ic_ge (pc := 48) (tgt := 74) dX2_dropRule_48 (by decide) (by omega) (fun hn => absurd hn (by omega)) (fun _ => ?_)
      refine gs_ild2 (pc := 51) dX2_dropRule_51 ?_
      refine gs_ald0 (pc := 52) dX2_dropRule_52 ?_
      refine gs_ild3 (pc := 53) dX2_dropRule_53 ?_
      refine gs_iconst (pc := 54) dX2_dropRule_54 ?_
      refine gs_V2 (pc := 55) dX2_dropRule_55 kX2_120 (mcell hA) clX2 (by decide) (Nat.le_of_ble_eq_true rfl) (m_ruleAt (w := 0) hA (by omega) (by decide)) (fun v hp1 hq => ?_)
      obtain ⟨rfl, rfl⟩ := hq
      rcases rl_had hP3 (show k < 12 by omega) with ⟨c1, c2⟩ | ⟨c1, c1', c2⟩
      · have c2 : (if k = n then none else A.1.2.1 k : Option Rl).isSome = false := c2
        rw [e] at c2
        rw [show (List.filter (fun k => decide (k ≠ n) && (A.1.2.1 k).isSome) [k]).length = 0 by rw [List.filter_cons_of_neg (by rw [c2]; decide)]; rfl] at hi
        refine gs_if_le (pc := 58) (tgt := 65) dX2_dropRule_58 (by decide) (by omega) (fun _ => ?_) (fun hn => absurd (by omega) hn)
        refine gs_iconst (pc := 65) dX2_dropRule_65 ?_
        refine gs_iadd (pc := 66) dX2_dropRule_66 ?_
        refine gs_ist2 (pc := 67) dX2_dropRule_67 rfl ?_
        refine gs_inc3 (pc := 68) dX2_dropRule_68 rfl ?_
        refine gs_goto (pc := 71) (tgt := 45) dX2_dropRule_71 (by decide) ?_
        exact hi
      · have c2 : (if k = n then none else A.1.2.1 k : Option Rl).isSome = true := c2
        rw [e] at c2
        rw [show (List.filter (fun k => decide (k ≠ n) && (A.1.2.1 k).isSome) [k]).length = 1 by rw [List.filter_cons_of_pos (by rw [c2])]; rfl] at hi
        refine gs_if_le (pc := 58) (tgt := 65) dX2_dropRule_58 (by decide) (by omega) (fun hn => absurd hn (by omega)) (fun _ => ?_)
        refine gs_iconst (pc := 61) dX2_dropRule_61 ?_
        refine gs_goto (pc := 62) (tgt := 66) dX2_dropRule_62 (by decide) ?_
        refine gs_iadd (pc := 66) dX2_dropRule_66 ?_
        refine gs_ist2 (pc := 67) dX2_dropRule_67 rfl ?_
        refine gs_inc3 (pc := 68) dX2_dropRule_68 rfl ?_
        refine gs_goto (pc := 71) (tgt := 45) dX2_dropRule_71 (by decide) ?_
        exact hi
  refine gs_iconst (pc := 41) dX2_dropRule_41 ?_
  refine gs_ist2 (pc := 42) dX2_dropRule_42 rfl ?_
  refine gs_iconst (pc := 43) dX2_dropRule_43 ?_
  refine gs_ist3 (pc := 44) dX2_dropRule_44 rfl ?_
  exact loop 12 0 (by omega)
end Q2
