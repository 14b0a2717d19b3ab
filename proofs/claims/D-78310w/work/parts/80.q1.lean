/-! THE MODEL: texts of rules are read; rules. -/
section Q1
variable {X : gCx} {hp : gHp} {a : Nat} {M M' : MS} {A : AS} {S S' : SS} {t s x y : List Int} {n k m lo i j r w : Nat} {p p' : Int → Int}
/-- only what is read has changed -/
def rdF (M M' : MS) : Prop := (∀ k, k ≠ 32 → M'.1 k = M.1 k) ∧ (∀ j, j ≠ 16 ∧ j ≠ 17 → M'.2.1 j = M.2.1 j) ∧ M'.2.2 = M.2.2
theorem rdF.refl : rdF M M := ⟨fun _ _ => rfl, fun _ _ => rfl, rfl⟩
theorem rdF.trans {M'' : MS} (h : rdF M M') (h' : rdF M' M'') : rdF M M'' := ⟨fun k hk => (h'.1 k hk).trans (h.1 k hk), fun j hj => (h'.2.1 j hj).trans (h.2.1 j hj), h'.2.2.trans h.2.2⟩
theorem rdF.sp {v : Int} : rdF M (mP M 32 v) := ⟨fun k hk => if_neg hk, fun _ _ => rfl, rfl⟩
theorem rdF.ar {j : Nat} {z v : Int} (h : j = 16 ∨ j = 17) : rdF M (mA M j z v) := ⟨fun _ _ => rfl, fun k hk => if_neg (by omega), rfl⟩
theorem rdF.tx (h : rdF M M') (ht : txM M t) : txM M' t := by
  unfold txM
  rw [h.1 4 (by decide), h.2.1 2 (by decide)]
  exact ht
theorem rdF.kp (h : rdF M M') : kp M M' := ⟨h.1 1 (by decide), h.1 4 (by decide), fun j hj => h.2.1 j (by omega)⟩
theorem mP_self {k : Nat} {v : Int} (h : M.1 k = v) : mP M k v = M := by
  subst h
  unfold mP
  refine Prod.ext (funext fun i => ?_) rfl
  dsimp only
  by_cases h : i = k
  · rw [if_pos h, h]
  · rw [if_neg h]
theorem m_skips (hA : mok X hp a) (ht : txM M t) (h32 : M.1 32 = k) (hk : k ≤ t.length) : M0 X yX2_skips fX2_skips 1 [vR (some a)] (mH hp a M) (fun hp' => hp' = mH hp a (mP M 32 ((k + lead (t.drop k) : Nat) : Int))) := by
  refine MC.of pfX2_skips rfl (fun h => by cases h) 0 rfl rfl ?_
  have h72 := ht.2.1
  have loop : ∀ (r c : Nat), c + r = t.length → k + lead (t.drop k) = c + lead (t.drop c) → G X fX2_skips 1 0 [some (vR (some a))] [] (mH hp a (mP M 32 c)) (fun r hp' => r = none ∧ hp' = mH hp a (mP M 32 ((k + lead (t.drop k) : Nat) : Int))) := by
    intro r
    induction r with
    | zero =>
      intro c hc he
      have e32 : (mP M 32 (c : Int)).1 32 = (c : Int) := rfl
      have e4 : (mP M 32 (c : Int)).1 4 = t.length := ht.1
      rw [List.drop_eq_nil_of_le (show t.length ≤ c by omega)] at he
      have he : k + lead (t.drop k) = c := he
      rw [he]
      refine gs_ald0 (pc := 0) dX2_skips_0 ?_
      refine gs_getf (pc := 1) 32 dX2_skips_1 (mcell hA) clX2 in_X2 (by decide) q2258 (Or.inl rfl) rfl ?_
      refine gs_ald0 (pc := 4) dX2_skips_4 ?_
      refine gs_getf (pc := 5) 4 dX2_skips_5 (mcell hA) clX2 in_X2 (by decide) q2230 (Or.inl rfl) rfl ?_
      refine gs_ic_ge (pc := 8) (tgt := 38) dX2_skips_8 (by decide) (by omega) (fun _ => ?_) (fun hn => absurd (by omega) hn)
      refine gs_vret (pc := 38) dX2_skips_38 rfl ?_
      exact ⟨rfl, rfl⟩
    | succ r ih =>
      intro c hc he
      have e32 : (mP M 32 (c : Int)).1 32 = (c : Int) := rfl
      have e4 : (mP M 32 (c : Int)).1 4 = t.length := ht.1
      have hta := ht.at (show c < t.length by omega)
      refine gs_ald0 (pc := 0) dX2_skips_0 ?_
      refine gs_getf (pc := 1) 32 dX2_skips_1 (mcell hA) clX2 in_X2 (by decide) q2258 (Or.inl rfl) rfl ?_
      refine gs_ald0 (pc := 4) dX2_skips_4 ?_
      refine gs_getf (pc := 5) 4 dX2_skips_5 (mcell hA) clX2 in_X2 (by decide) q2230 (Or.inl rfl) rfl ?_
      refine gs_ic_ge (pc := 8) (tgt := 38) dX2_skips_8 (by decide) (by omega) (fun hn => absurd hn (by omega)) (fun _ => ?_)
      refine gs_ald0 (pc := 11) dX2_skips_11 ?_
      refine gs_getf (pc := 12) 3 dX2_skips_12 (mcell hA) clX2 in_X2 (by decide) q2229 (Or.inl rfl) rfl ?_
      refine gs_ald0 (pc := 15) dX2_skips_15 ?_
      refine gs_getf (pc := 16) 32 dX2_skips_16 (mcell hA) clX2 in_X2 (by decide) q2258 (Or.inl rfl) rfl ?_
      show G X fX2_skips 1 19 _ (vI (c : Int) :: _) _ _
      refine gs_iald (pc := 19) dX2_skips_19 (ma_text hA) (by omega) (by omega) ?_
      rw [show (mP M 32 (c : Int)).2.1 2 (c : Int) = t.getD c (-9) from hta.1]
      refine gs_bipush (pc := 20) dX2_skips_20 rfl ?_
      refine gs_ic_ne (pc := 22) (tgt := 38) dX2_skips_22 (by decide) (by omega) (fun h1 => ?_) (fun h1 => ?_)
      · rw [lead_end h1] at he
        rw [he]
        refine gs_vret (pc := 38) dX2_skips_38 rfl ?_
        exact ⟨rfl, rfl⟩
      · rw [lead_next (t := t) (k := c) (by omega)] at he
        refine gs_ald0 (pc := 25) dX2_skips_25 ?_
        refine gs_dup (pc := 26) dX2_skips_26 rfl ?_
        refine gs_getf (pc := 27) 32 dX2_skips_27 (mcell hA) clX2 in_X2 (by decide) q2258 (Or.inl rfl) rfl ?_
        refine gs_iconst (pc := 30) dX2_skips_30 ?_
        refine gs_iadd (pc := 31) dX2_skips_31 ?_
        refine mp_spot (pc := 32) rfl hA dX2_skips_32 ?_
        refine gs_goto (pc := 35) (tgt := 0) dX2_skips_35 (by decide) ?_
        rw [show (mP M 32 (c : Int)).1 32 + 1 = ((c + 1 : Nat) : Int) by omega, mP_mP]
        exact ih (c + 1) (by omega) (by omega)
  have := loop (t.length - k) k (by omega) rfl
  rw [mP_self h32] at this
  exact this
/-- the text x of the buffer t is the w-th one read -/
def txA (M : MS) (w : Nat) (x t : List Int) : Prop := ∃ q : Nat, M.2.1 16 w = q ∧ M.2.1 17 w = q + x.length ∧ q + x.length ≤ t.length ∧ ∀ k : Nat, k < x.length → t.getD (q + k) 0 = x.getD k 0
theorem wrd_take : wrdS (t.drop k) ≤ t.length - k := by
  have := wrdS_le (t.drop k)
  rwa [List.length_drop] at this
theorem m_readsOne (hA : mok X hp a) (ht : txM M t) (h32 : M.1 32 = k) (hk : k ≤ t.length) (hw : w < 2) : MV X yX2_readsOne fX2_readsOne 3 [vR (some a), vI (w : Int)] (mH hp a M) (fun v hp' => ∃ M', hp' = mH hp a M' ∧ rdF M M' ∧ (∀ j : Nat, j ≠ w → M'.2.1 16 j = M.2.1 16 j ∧ M'.2.1 17 j = M.2.1 17 j) ∧ match rdT t k with
    | .inr f => v = vI (f : Int)
    | .inl q => v = vI (-9) ∧ M'.1 32 = q.1 ∧ q.1 ≤ t.length ∧ txA M' w q.2 t) := by
  refine MC.of pfX2_readsOne rfl (fun h => by cases h) 1 rfl rfl ?_
  have h72 := ht.2.1
  have hld := lead_le (t := t.drop k)
  rw [List.length_drop] at hld
  unfold rdT
  refine gs_ald0 (pc := 0) dX2_readsOne_0 ?_
  refine gs_V0v (pc := 1) dX2_readsOne_1 kX2_240 (mcell hA) clX2 (by decide) (Nat.le_of_ble_eq_true rfl) (m_skips hA ht h32 hk) (fun hp1 hq => ?_)
  obtain ⟨rfl⟩ := hq
  dsimp only
  generalize hq : k + lead (t.drop k) = q
  have hqt : q ≤ t.length := by omega
  have hF1 : rdF M (mP M 32 (q : Int)) := rdF.sp
  have e32 : (mP M 32 (q : Int)).1 32 = (q : Int) := rfl
  have ht1 := hF1.tx ht
  have h16 : (mP M 32 (q : Int)).2.1 = M.2.1 := rfl
  generalize mP M 32 (q : Int) = M1 at *
  have e4 := ht1.1
  have hwl := wrd_take (t := t) (k := q)
  refine gs_ald0 (pc := 4) dX2_readsOne_4 ?_
  refine gs_getf (pc := 5) 32 dX2_readsOne_5 (mcell hA) clX2 in_X2 (by decide) q2258 (Or.inl rfl) rfl ?_
  refine gs_ald0 (pc := 8) dX2_readsOne_8 ?_
  refine gs_getf (pc := 9) 4 dX2_readsOne_9 (mcell hA) clX2 in_X2 (by decide) q2230 (Or.inl rfl) rfl ?_
  refine gs_ic_eq (pc := 12) (tgt := 29) dX2_readsOne_12 (by decide) (by omega) (fun h1 => ?_) (fun h1 => ?_)
  · have hn : wrdS (t.drop q) = 0 := by omega
    rw [hn, if_neg (by decide), if_neg (by decide), if_pos (by omega)]
    refine gs_ald0 (pc := 29) dX2_readsOne_29 ?_
    refine gs_getf (pc := 30) 32 dX2_readsOne_30 (mcell hA) clX2 in_X2 (by decide) q2258 (Or.inl rfl) rfl ?_
    show G X fX2_readsOne 3 33 _ (vI (M1.1 32) :: _) _ _
    rw [e32]
    refine gs_iret (pc := 33) dX2_readsOne_33 rfl ?_
    exact ⟨_, rfl, M1, rfl, hF1, fun j _ => by rw [h16]; exact ⟨rfl, rfl⟩, rfl⟩
  · have hql : q < t.length := by omega
    have hta := ht1.at hql
    have hg0 : t.getD q 0 = t.getD q (-9) := by rw [getD_in hql, getD_in hql]
    refine gs_ald0 (pc := 15) dX2_readsOne_15 ?_
    refine gs_getf (pc := 16) 3 dX2_readsOne_16 (mcell hA) clX2 in_X2 (by decide) q2229 (Or.inl rfl) rfl ?_
    refine gs_ald0 (pc := 19) dX2_readsOne_19 ?_
    refine gs_getf (pc := 20) 32 dX2_readsOne_20 (mcell hA) clX2 in_X2 (by decide) q2258 (Or.inl rfl) rfl ?_
    show G X fX2_readsOne 3 23 _ (vI (M1.1 32) :: _) _ _
    rw [e32]
    refine gs_iald (pc := 23) dX2_readsOne_23 (ma_text hA) (by omega) (by omega) ?_
    rw [hta.1]
    refine gs_bipush (pc := 24) dX2_readsOne_24 rfl ?_
    refine gs_ic_ne (pc := 26) (tgt := 34) dX2_readsOne_26 (by decide) (by omega) (fun h2 => ?_) (fun h2 => ?_)
    rotate_left
    · have h2 : t.getD q (-9) = 34 := by omega
      have hn : wrdS (t.drop q) = 0 := wrdS_end (by rw [h2]; decide)
      rw [hn, if_neg (by decide), if_neg (by decide), if_neg (by omega), if_pos (by omega)]
      refine gs_ald0 (pc := 29) dX2_readsOne_29 ?_
      refine gs_getf (pc := 30) 32 dX2_readsOne_30 (mcell hA) clX2 in_X2 (by decide) q2258 (Or.inl rfl) rfl ?_
      show G X fX2_readsOne 3 33 _ (vI (M1.1 32) :: _) _ _
      rw [e32]
      refine gs_iret (pc := 33) dX2_readsOne_33 rfl ?_
      exact ⟨_, rfl, M1, rfl, hF1, fun j _ => by rw [h16]; exact ⟨rfl, rfl⟩, rfl⟩
    · refine gs_ald0 (pc := 34) dX2_readsOne_34 ?_
      refine gs_getf (pc := 35) 30 dX2_readsOne_35 (mcell hA) clX2 in_X2 (by decide) q2256 (Or.inl rfl) rfl ?_
      refine gs_ild1 (pc := 38) dX2_readsOne_38 ?_
      refine gs_ald0 (pc := 39) dX2_readsOne_39 ?_
      refine gs_getf (pc := 40) 32 dX2_readsOne_40 (mcell hA) clX2 in_X2 (by decide) q2258 (Or.inl rfl) rfl ?_
      show G X fX2_readsOne 3 43 _ (vI (M1.1 32) :: _) _ _
      rw [e32]
      refine ms_textFrom (pc := 43) hA dX2_readsOne_43 (by omega) ?_
      have hF2 : rdF M (mA M1 16 (w : Int) (q : Int)) := hF1.trans (rdF.ar (by omega))
      have e32' : (mA M1 16 (w : Int) (q : Int)).1 32 = (q : Int) := e32
      have e16 : (mA M1 16 (w : Int) (q : Int)).2.1 16 (w : Int) = (q : Int) := fup_eq
      have eo : ∀ j : Nat, j ≠ w → (mA M1 16 (w : Int) (q : Int)).2.1 16 j = M.2.1 16 j ∧ (mA M1 16 (w : Int) (q : Int)).2.1 17 j = M.2.1 17 j := by
        intro j hj
        refine ⟨?_, by rw [← h16]; rfl⟩
        show fup (M1.2.1 16) _ _ _ = _
        rw [fup_ne (by omega), h16]
      have ht2 := hF2.tx ht
      generalize mA M1 16 (w : Int) (q : Int) = M2 at *
      have hta2 := ht2.at hql
      -- the end: the text goes up to c
      have k131 : ∀ (c : Nat) (L2 : Option AV) (Q : Option AV → gHp → Prop), q < c → c ≤ t.length → (∀ M', rdF M M' → (∀ j : Nat, j ≠ w → M'.2.1 16 j = M.2.1 16 j ∧ M'.2.1 17 j = M.2.1 17 j) → M'.1 32 = c → M'.2.1 16 w = q → M'.2.1 17 w = c → Q (some (vI (-9))) (mH hp a M')) → G X fX2_readsOne 3 131 [some (vR (some a)), some (vI (w : Int)), L2] [] (mH hp a (mP M2 32 (c : Int))) Q := by
        intro c L2 Q h1 h2 hQ
        refine gs_ald0 (pc := 131) dX2_readsOne_131 ?_
        refine gs_getf (pc := 132) 31 dX2_readsOne_132 (mcell hA) clX2 in_X2 (by decide) q2257 (Or.inl rfl) rfl ?_
        refine gs_ild1 (pc := 135) dX2_readsOne_135 ?_
        refine gs_ald0 (pc := 136) dX2_readsOne_136 ?_
        refine gs_getf (pc := 137) 32 dX2_readsOne_137 (mcell hA) clX2 in_X2 (by decide) q2258 (Or.inl rfl) rfl ?_
        refine ms_textTo (pc := 140) hA dX2_readsOne_140 (by omega) ?_
        refine gs_bipush (pc := 141) dX2_readsOne_141 rfl ?_
        refine gs_iret (pc := 143) dX2_readsOne_143 rfl ?_
        refine hQ _ ((hF2.trans rdF.sp).trans (rdF.ar (by omega))) (fun j hj => ⟨(eo j hj).1, ?_⟩) rfl e16 fup_eq
        show fup (M2.2.1 17) _ _ _ = _
        rw [fup_ne (by omega)]; exact (eo j hj).2
      refine gs_ald0 (pc := 44) dX2_readsOne_44 ?_
      refine gs_getf (pc := 45) 3 dX2_readsOne_45 (mcell hA) clX2 in_X2 (by decide) q2229 (Or.inl rfl) rfl ?_
      refine gs_ald0 (pc := 48) dX2_readsOne_48 ?_
      refine gs_getf (pc := 49) 32 dX2_readsOne_49 (mcell hA) clX2 in_X2 (by decide) q2258 (Or.inl rfl) rfl ?_
      show G X fX2_readsOne 3 52 _ (vI (M2.1 32) :: _) _ _
      rw [e32']
      refine gs_iald (pc := 52) dX2_readsOne_52 (ma_text hA) (by omega) (by omega) ?_
      rw [hta2.1]
      refine gs_S1 (pc := 53) dX2_readsOne_53 kX2_94 (by decide) (Nat.le_of_ble_eq_true rfl) (m_isWord (by omega)) (fun v hp1 hq => ?_)
      obtain ⟨rfl, rfl⟩ := hq
      refine gs_ist2 (pc := 56) dX2_readsOne_56 rfl ?_
      refine gs_ald0 (pc := 57) dX2_readsOne_57 ?_
      refine gs_dup (pc := 58) dX2_readsOne_58 rfl ?_
      refine gs_getf (pc := 59) 32 dX2_readsOne_59 (mcell hA) clX2 in_X2 (by decide) q2258 (Or.inl rfl) rfl ?_
      refine gs_iconst (pc := 62) dX2_readsOne_62 ?_
      refine gs_iadd (pc := 63) dX2_readsOne_63 ?_
      refine mp_spot (pc := 64) rfl hA dX2_readsOne_64 ?_
      rw [e32', show (q : Int) + 1 = ((q + 1 : Nat) : Int) by omega]
      cases hwd : wordB (t.getD q (-9)) with
      | false =>
        have hn : wrdS (t.drop q) = 0 := wrdS_end hwd
        rw [hn, if_neg (by decide), if_neg (by decide), if_neg (by omega), if_neg (by omega)]
        dsimp only
        refine gs_ild2 (pc := 67) dX2_readsOne_67 ?_
        refine gs_beq (pc := 68) (tgt := 131) dX2_readsOne_68 (by decide) (fun _ => ?_) (fun hn => absurd ((rfl : _ = false).symm.trans hn) (by decide))
        refine k131 (q + 1) _ _ (by omega) (by omega) (fun M' f1 f2 f3 f4 f5 => ?_)
        refine ⟨_, rfl, M', rfl, f1, f2, rfl, f3, by omega, q, f4, f5, by simp; omega, fun c hc => ?_⟩
        obtain rfl : c = 0 := by simpa using hc
        rfl
      | true =>
        have hn1 := wrdS_next hwd
        have loop : ∀ (r c : Nat), c + r = q + 8 → q < c → c ≤ t.length → wrdS (t.drop q) = (c - q) + wrdS (t.drop c) → G X fX2_readsOne 3 67 [some (vR (some a)), some (vI (w : Int)), some (vI (b2i true))] [] (mH hp a (mP M2 32 (c : Int))) (fun r hp' => ∃ v, r = some v ∧ ∃ M', hp' = mH hp a M' ∧ rdF M M' ∧ (∀ j : Nat, j ≠ w → M'.2.1 16 j = M.2.1 16 j ∧ M'.2.1 17 j = M.2.1 17 j) ∧ match (if 8 < wrdS (t.drop q) then .inr (q + 8) else if 0 < wrdS (t.drop q) then .inl (q + wrdS (t.drop q), (t.drop q).take (wrdS (t.drop q))) else if t.length ≤ q then .inr q else if t.getD q 0 = 34 then .inr q else .inl (q + 1, [t.getD q 0]) : (Nat × List Int) ⊕ Nat) with
            | .inr f => v = vI (f : Int)
            | .inl q => v = vI (-9) ∧ M'.1 32 = q.1 ∧ q.1 ≤ t.length ∧ txA M' w q.2 t) := by
          intro r
          induction r using Nat.strongRecOn with
          | ind r ih =>
            intro c h1 h2 h3 h4
            have ec : (mP M2 32 (c : Int)).1 32 = (c : Int) := rfl
            have ec4 : (mP M2 32 (c : Int)).1 4 = t.length := ht2.1
            have kend : wrdS (t.drop c) = 0 → G X fX2_readsOne 3 131 [some (vR (some a)), some (vI (w : Int)), some (vI (b2i true))] [] (mH hp a (mP M2 32 (c : Int))) (fun r hp' => ∃ v, r = some v ∧ ∃ M', hp' = mH hp a M' ∧ rdF M M' ∧ (∀ j : Nat, j ≠ w → M'.2.1 16 j = M.2.1 16 j ∧ M'.2.1 17 j = M.2.1 17 j) ∧ match (if 8 < wrdS (t.drop q) then .inr (q + 8) else if 0 < wrdS (t.drop q) then .inl (q + wrdS (t.drop q), (t.drop q).take (wrdS (t.drop q))) else if t.length ≤ q then .inr q else if t.getD q 0 = 34 then .inr q else .inl (q + 1, [t.getD q 0]) : (Nat × List Int) ⊕ Nat) with
                | .inr f => v = vI (f : Int)
                | .inl q => v = vI (-9) ∧ M'.1 32 = q.1 ∧ q.1 ≤ t.length ∧ txA M' w q.2 t) := by
              intro h0
              rw [if_neg (by omega), if_pos (by omega)]
              dsimp only
              refine k131 c _ _ h2 h3 (fun M' f1 f2 f3 f4 f5 => ?_)
              have hl : ((t.drop q).take (wrdS (t.drop q))).length = wrdS (t.drop q) := by rw [List.length_take, List.length_drop]; omega
              refine ⟨_, rfl, M', rfl, f1, f2, rfl, by rw [f3]; omega, by omega, q, f4, by rw [f5, hl]; omega, by rw [hl]; omega, fun d hd => ?_⟩
              rw [hl] at hd
              rw [List.getD_eq_getElem?_getD, List.getD_eq_getElem?_getD, List.getElem?_take_of_lt hd, List.getElem?_drop]
            refine gs_ild2 (pc := 67) dX2_readsOne_67 ?_
            refine gs_beq (pc := 68) (tgt := 131) dX2_readsOne_68 (by decide) (fun hn => absurd ((rfl : _ = true).symm.trans hn) (by decide)) (fun _ => ?_)
            refine gs_ald0 (pc := 71) dX2_readsOne_71 ?_
            refine gs_getf (pc := 72) 32 dX2_readsOne_72 (mcell hA) clX2 in_X2 (by decide) q2258 (Or.inl rfl) rfl ?_
            refine gs_ald0 (pc := 75) dX2_readsOne_75 ?_
            refine gs_getf (pc := 76) 4 dX2_readsOne_76 (mcell hA) clX2 in_X2 (by decide) q2230 (Or.inl rfl) rfl ?_
            refine gs_ic_ge (pc := 79) (tgt := 131) dX2_readsOne_79 (by decide) (by omega) (fun h5 => ?_) (fun h5 => ?_)
            · exact kend (by have := wrd_take (t := t) (k := c); omega)
            · have hcl : c < t.length := by omega
              have htc := ht2.at hcl
              refine gs_ald0 (pc := 82) dX2_readsOne_82 ?_
              refine gs_getf (pc := 83) 3 dX2_readsOne_83 (mcell hA) clX2 in_X2 (by decide) q2229 (Or.inl rfl) rfl ?_
              refine gs_ald0 (pc := 86) dX2_readsOne_86 ?_
              refine gs_getf (pc := 87) 32 dX2_readsOne_87 (mcell hA) clX2 in_X2 (by decide) q2258 (Or.inl rfl) rfl ?_
              show G X fX2_readsOne 3 90 _ (vI (c : Int) :: _) _ _
              refine gs_iald (pc := 90) dX2_readsOne_90 (ma_text hA) (by omega) (by omega) ?_
              rw [show (mP M2 32 (c : Int)).2.1 2 (c : Int) = t.getD c (-9) from htc.1]
              refine gs_S1 (pc := 91) dX2_readsOne_91 kX2_94 (by decide) (Nat.le_of_ble_eq_true rfl) (m_isWord (by omega)) (fun v hp1 hq => ?_)
              obtain ⟨rfl, rfl⟩ := hq
              refine gs_beq (pc := 94) (tgt := 131) dX2_readsOne_94 (by decide) (fun h6 => ?_) (fun h6 => ?_)
              · exact kend (wrdS_end h6)
              · have hnx := wrdS_next h6
                refine gs_ald0 (pc := 97) dX2_readsOne_97 ?_
                refine gs_getf (pc := 98) 32 dX2_readsOne_98 (mcell hA) clX2 in_X2 (by decide) q2258 (Or.inl rfl) rfl ?_
                refine gs_ald0 (pc := 101) dX2_readsOne_101 ?_
                refine gs_getf (pc := 102) 30 dX2_readsOne_102 (mcell hA) clX2 in_X2 (by decide) q2256 (Or.inl rfl) rfl ?_
                refine gs_ild1 (pc := 105) dX2_readsOne_105 ?_
                refine gs_iald (pc := 106) dX2_readsOne_106 (ma_textFrom hA) (by omega) (by omega) ?_
                show G X fX2_readsOne 3 107 _ (vI (M2.2.1 16 (w : Int)) :: vI (c : Int) :: _) _ _
                rw [e16]
                refine gs_isub (pc := 107) dX2_readsOne_107 ?_
                refine gs_bipush (pc := 108) dX2_readsOne_108 rfl ?_
                refine gs_ic_ne (pc := 110) (tgt := 118) dX2_readsOne_110 (by decide) (by omega) (fun h7 => ?_) (fun h7 => ?_)
                · refine gs_ald0 (pc := 118) dX2_readsOne_118 ?_
                  refine gs_dup (pc := 119) dX2_readsOne_119 rfl ?_
                  refine gs_getf (pc := 120) 32 dX2_readsOne_120 (mcell hA) clX2 in_X2 (by decide) q2258 (Or.inl rfl) rfl ?_
                  refine gs_iconst (pc := 123) dX2_readsOne_123 ?_
                  refine gs_iadd (pc := 124) dX2_readsOne_124 ?_
                  refine mp_spot (pc := 125) rfl hA dX2_readsOne_125 ?_
                  refine gs_goto (pc := 128) (tgt := 67) dX2_readsOne_128 (by decide) ?_
                  rw [ec, show (c : Int) + 1 = ((c + 1 : Nat) : Int) by omega, mP_mP]
                  exact ih (r - 1) (by omega) (c + 1) (by omega) (by omega) (by omega) (by omega)
                · rw [if_pos (by omega)]
                  dsimp only
                  refine gs_ald0 (pc := 113) dX2_readsOne_113 ?_
                  refine gs_getf (pc := 114) 32 dX2_readsOne_114 (mcell hA) clX2 in_X2 (by decide) q2258 (Or.inl rfl) rfl ?_
                  show G X fX2_readsOne 3 117 _ (vI (c : Int) :: _) _ _
                  refine gs_iret (pc := 117) dX2_readsOne_117 rfl ?_
                  exact ⟨_, rfl, _, rfl, hF2.trans rdF.sp, eo, by rw [show (c : Int) = ((q + 8 : Nat) : Int) by omega]⟩
        exact loop 7 (q + 1) (by omega) (by omega) (by omega) (by omega)
theorem rdT_f {f : Nat} (h72 : t.length ≤ 72) (hk : k ≤ t.length) (h : rdT t k = .inr f) : f ≤ 100 := by
  have hld := lead_le (t := t.drop k)
  rw [List.length_drop] at hld
  unfold rdT at h
  dsimp only at h
  have hq72 : k + lead (t.drop k) ≤ 72 := by omega
  generalize k + lead (t.drop k) = q at h hq72
  by_cases h1 : 8 < wrdS (t.drop q)
  · rw [if_pos h1] at h; cases h; omega
  · rw [if_neg h1] at h
    by_cases h2 : 0 < wrdS (t.drop q)
    · rw [if_pos h2] at h; cases h
    · rw [if_neg h2] at h
      by_cases h3 : t.length ≤ q
      · rw [if_pos h3] at h; cases h; omega
      · rw [if_neg h3] at h
        by_cases h4 : t.getD q 0 = 34
        · rw [if_pos h4] at h; cases h; omega
        · rw [if_neg h4] at h; cases h
theorem m_readsTexts1 (hA : mok X hp a) (ht : txM M t) : MV X yX2_readsTexts fX2_readsTexts 4 [vR (some a), vI 1] (mH hp a M) (fun v hp' => ∃ M', hp' = mH hp a M' ∧ rdF M M' ∧ match rdT t 0 with
    | .inr f => v = vI (f : Int)
    | .inl q => match rdE t q.1 with
      | some f => v = vI (f : Int)
      | none => v = vI (-9) ∧ txA M' 0 q.2 t) := by
  refine MC.of pfX2_readsTexts rfl (fun h => by cases h) 2 rfl rfl ?_
  have h72 := ht.2.1
  have hF0 : rdF M (mP M 32 0) := rdF.sp
  refine gs_ald0 (pc := 0) dX2_readsTexts_0 ?_
  refine gs_iconst (pc := 1) dX2_readsTexts_1 ?_
  refine mp_spot (pc := 2) rfl hA dX2_readsTexts_2 ?_
  refine gs_iconst (pc := 5) dX2_readsTexts_5 ?_
  refine gs_ist2 (pc := 6) dX2_readsTexts_6 rfl ?_
  refine gs_ild2 (pc := 7) dX2_readsTexts_7 ?_
  refine gs_ild1 (pc := 8) dX2_readsTexts_8 ?_
  refine gs_ic_ge (pc := 9) (tgt := 32) dX2_readsTexts_9 (by decide) (by omega) (fun hn => absurd hn (by decide)) (fun _ => ?_)
  refine gs_ald0 (pc := 12) dX2_readsTexts_12 ?_
  refine gs_ild2 (pc := 13) dX2_readsTexts_13 ?_
  refine gs_V1 (pc := 14) dX2_readsTexts_14 kX2_243 (mcell hA) clX2 (by decide) (Nat.le_of_ble_eq_true rfl) (m_readsOne (w := 0) (k := 0) hA (hF0.tx ht) rfl (by omega) (by decide)) (fun v hp1 hq => ?_)
  obtain ⟨M1, rfl, f1, -, f2⟩ := hq
  cases h1 : rdT t 0 with
  | inr f =>
    rw [h1] at f2
    have f2 : v = vI (f : Int) := f2
    subst f2
    dsimp only
    have hfr : f ≤ 100 := rdT_f h72 (by omega) h1
    refine gs_ist3 (pc := 17) dX2_readsTexts_17 rfl ?_
    refine gs_ild3 (pc := 18) dX2_readsTexts_18 ?_
    refine gs_bipush (pc := 19) dX2_readsTexts_19 rfl ?_
    refine gs_ic_eq (pc := 21) (tgt := 26) dX2_readsTexts_21 (by decide) (by omega) (fun hn => absurd hn (by omega)) (fun _ => ?_)
    refine gs_ild3 (pc := 24) dX2_readsTexts_24 ?_
    refine gs_iret (pc := 25) dX2_readsTexts_25 rfl ?_
    exact ⟨_, rfl, M1, rfl, hF0.trans f1, rfl⟩
  | inl q =>
    rw [h1] at f2
    obtain ⟨rfl, f3, f4, f5⟩ := f2
    dsimp only
    have ht1 := (hF0.trans f1).tx ht
    have hld := lead_le (t := t.drop q.1)
    rw [List.length_drop] at hld
    refine gs_ist3 (pc := 17) dX2_readsTexts_17 rfl ?_
    refine gs_ild3 (pc := 18) dX2_readsTexts_18 ?_
    refine gs_bipush (pc := 19) dX2_readsTexts_19 rfl ?_
    refine gs_ic_eq (pc := 21) (tgt := 26) dX2_readsTexts_21 (by decide) (by omega) (fun _ => ?_) (fun hn => absurd (by decide) hn)
    refine gs_inc2 (pc := 26) dX2_readsTexts_26 rfl ?_
    refine gs_goto (pc := 29) (tgt := 7) dX2_readsTexts_29 (by decide) ?_
    refine gs_ild2 (pc := 7) dX2_readsTexts_7 ?_
    refine gs_ild1 (pc := 8) dX2_readsTexts_8 ?_
    refine gs_ic_ge (pc := 9) (tgt := 32) dX2_readsTexts_9 (by decide) (by omega) (fun _ => ?_) (fun hn => absurd (by decide) hn)
    refine gs_ald0 (pc := 32) dX2_readsTexts_32 ?_
    refine gs_V0v (pc := 33) dX2_readsTexts_33 kX2_240 (mcell hA) clX2 (by decide) (Nat.le_of_ble_eq_true rfl) (m_skips hA ht1 f3 f4) (fun hp1 hq => ?_)
    obtain ⟨rfl⟩ := hq
    have e32 : (mP M1 32 ((q.1 + lead (t.drop q.1) : Nat) : Int)).1 32 = ((q.1 + lead (t.drop q.1) : Nat) : Int) := rfl
    have e4 : (mP M1 32 ((q.1 + lead (t.drop q.1) : Nat) : Int)).1 4 = t.length := ht1.1
    unfold rdE
    refine gs_ald0 (pc := 36) dX2_readsTexts_36 ?_
    refine gs_getf (pc := 37) 32 dX2_readsTexts_37 (mcell hA) clX2 in_X2 (by decide) q2258 (Or.inl rfl) rfl ?_
    refine gs_ald0 (pc := 40) dX2_readsTexts_40 ?_
    refine gs_getf (pc := 41) 4 dX2_readsTexts_41 (mcell hA) clX2 in_X2 (by decide) q2230 (Or.inl rfl) rfl ?_
    refine gs_ic_ge (pc := 44) (tgt := 54) dX2_readsTexts_44 (by decide) (by omega) (fun h2 => ?_) (fun h2 => ?_)
    · rw [if_pos (by omega)]
      refine gs_bipush (pc := 54) dX2_readsTexts_54 rfl ?_
      refine gs_iret (pc := 56) dX2_readsTexts_56 rfl ?_
      exact ⟨_, rfl, _, rfl, (hF0.trans f1).trans rdF.sp, rfl, f5⟩
    · rw [if_neg (by omega)]
      refine gs_ald0 (pc := 47) dX2_readsTexts_47 ?_
      refine gs_getf (pc := 48) 32 dX2_readsTexts_48 (mcell hA) clX2 in_X2 (by decide) q2258 (Or.inl rfl) rfl ?_
      refine gs_goto (pc := 51) (tgt := 56) dX2_readsTexts_51 (by decide) ?_
      refine gs_iret (pc := 56) dX2_readsTexts_56 rfl ?_
      exact ⟨_, rfl, _, rfl, (hF0.trans f1).trans rdF.sp, rfl⟩
theorem m_readsTexts2 (hA : mok X hp a) (ht : txM M t) : MV X yX2_readsTexts fX2_readsTexts 4 [vR (some a), vI 2] (mH hp a M) (fun v hp' => ∃ M', hp' = mH hp a M' ∧ rdF M M' ∧ match rdT t 0 with
    | .inr f => v = vI (f : Int)
    | .inl q => match rdT t q.1 with
      | .inr f => v = vI (f : Int)
      | .inl z => match rdE t z.1 with
        | some f => v = vI (f : Int)
        | none => v = vI (-9) ∧ txA M' 0 q.2 t ∧ txA M' 1 z.2 t) := by
  refine MC.of pfX2_readsTexts rfl (fun h => by cases h) 2 rfl rfl ?_
  have h72 := ht.2.1
  have hF0 : rdF M (mP M 32 0) := rdF.sp
  refine gs_ald0 (pc := 0) dX2_readsTexts_0 ?_
  refine gs_iconst (pc := 1) dX2_readsTexts_1 ?_
  refine mp_spot (pc := 2) rfl hA dX2_readsTexts_2 ?_
  refine gs_iconst (pc := 5) dX2_readsTexts_5 ?_
  refine gs_ist2 (pc := 6) dX2_readsTexts_6 rfl ?_
  refine gs_ild2 (pc := 7) dX2_readsTexts_7 ?_
  refine gs_ild1 (pc := 8) dX2_readsTexts_8 ?_
  refine gs_ic_ge (pc := 9) (tgt := 32) dX2_readsTexts_9 (by decide) (by omega) (fun hn => absurd hn (by decide)) (fun _ => ?_)
  refine gs_ald0 (pc := 12) dX2_readsTexts_12 ?_
  refine gs_ild2 (pc := 13) dX2_readsTexts_13 ?_
  refine gs_V1 (pc := 14) dX2_readsTexts_14 kX2_243 (mcell hA) clX2 (by decide) (Nat.le_of_ble_eq_true rfl) (m_readsOne (w := 0) (k := 0) hA (hF0.tx ht) rfl (by omega) (by decide)) (fun v hp1 hq => ?_)
  obtain ⟨M1, rfl, f1, -, f2⟩ := hq
  cases h1 : rdT t 0 with
  | inr f =>
    rw [h1] at f2
    have f2 : v = vI (f : Int) := f2
    subst f2
    dsimp only
    have hfr : f ≤ 100 := rdT_f h72 (by omega) h1
    refine gs_ist3 (pc := 17) dX2_readsTexts_17 rfl ?_
    refine gs_ild3 (pc := 18) dX2_readsTexts_18 ?_
    refine gs_bipush (pc := 19) dX2_readsTexts_19 rfl ?_
    refine gs_ic_eq (pc := 21) (tgt := 26) dX2_readsTexts_21 (by decide) (by omega) (fun hn => absurd hn (by omega)) (fun _ => ?_)
    refine gs_ild3 (pc := 24) dX2_readsTexts_24 ?_
    refine gs_iret (pc := 25) dX2_readsTexts_25 rfl ?_
    exact ⟨_, rfl, M1, rfl, hF0.trans f1, rfl⟩
  | inl q =>
    rw [h1] at f2
    obtain ⟨rfl, f3, f4, f5⟩ := f2
    dsimp only
    have ht1 := (hF0.trans f1).tx ht
    refine gs_ist3 (pc := 17) dX2_readsTexts_17 rfl ?_
    refine gs_ild3 (pc := 18) dX2_readsTexts_18 ?_
    refine gs_bipush (pc := 19) dX2_readsTexts_19 rfl ?_
    refine gs_ic_eq (pc := 21) (tgt := 26) dX2_readsTexts_21 (by decide) (by omega) (fun _ => ?_) (fun hn => absurd (by decide) hn)
    refine gs_inc2 (pc := 26) dX2_readsTexts_26 rfl ?_
    refine gs_goto (pc := 29) (tgt := 7) dX2_readsTexts_29 (by decide) ?_
    refine gs_ild2 (pc := 7) dX2_readsTexts_7 ?_
    refine gs_ild1 (pc := 8) dX2_readsTexts_8 ?_
    refine gs_ic_ge (pc := 9) (tgt := 32) dX2_readsTexts_9 (by decide) (by omega) (fun hn => absurd hn (by decide)) (fun _ => ?_)
    refine gs_ald0 (pc := 12) dX2_readsTexts_12 ?_
    refine gs_ild2 (pc := 13) dX2_readsTexts_13 ?_
    refine gs_V1 (pc := 14) dX2_readsTexts_14 kX2_243 (mcell hA) clX2 (by decide) (Nat.le_of_ble_eq_true rfl) (m_readsOne (w := 1) (k := q.1) hA ht1 f3 f4 (by decide)) (fun v hp1 hq => ?_)
    obtain ⟨M2, rfl, g1, g0, g2⟩ := hq
    cases h3 : rdT t q.1 with
    | inr f =>
      rw [h3] at g2
      have g2 : v = vI (f : Int) := g2
      subst g2
      dsimp only
      have hfr : f ≤ 100 := rdT_f h72 f4 h3
      refine gs_ist3 (pc := 17) dX2_readsTexts_17 rfl ?_
      refine gs_ild3 (pc := 18) dX2_readsTexts_18 ?_
      refine gs_bipush (pc := 19) dX2_readsTexts_19 rfl ?_
      refine gs_ic_eq (pc := 21) (tgt := 26) dX2_readsTexts_21 (by decide) (by omega) (fun hn => absurd hn (by omega)) (fun _ => ?_)
      refine gs_ild3 (pc := 24) dX2_readsTexts_24 ?_
      refine gs_iret (pc := 25) dX2_readsTexts_25 rfl ?_
      exact ⟨_, rfl, M2, rfl, (hF0.trans f1).trans g1, rfl⟩
    | inl z =>
      rw [h3] at g2
      obtain ⟨rfl, g3, g4, g5⟩ := g2
      dsimp only
      have ht2 := ((hF0.trans f1).trans g1).tx ht
      have hld := lead_le (t := t.drop z.1)
      rw [List.length_drop] at hld
      have f6 : txA M2 0 q.2 t := by
        obtain ⟨c, c1, c2, c3⟩ := f5
        exact ⟨c, by rw [← c1]; exact (g0 0 (by decide)).1, by rw [← c2]; exact (g0 0 (by decide)).2, c3⟩
      refine gs_ist3 (pc := 17) dX2_readsTexts_17 rfl ?_
      refine gs_ild3 (pc := 18) dX2_readsTexts_18 ?_
      refine gs_bipush (pc := 19) dX2_readsTexts_19 rfl ?_
      refine gs_ic_eq (pc := 21) (tgt := 26) dX2_readsTexts_21 (by decide) (by omega) (fun _ => ?_) (fun hn => absurd (by decide) hn)
      refine gs_inc2 (pc := 26) dX2_readsTexts_26 rfl ?_
      refine gs_goto (pc := 29) (tgt := 7) dX2_readsTexts_29 (by decide) ?_
      refine gs_ild2 (pc := 7) dX2_readsTexts_7 ?_
      refine gs_ild1 (pc := 8) dX2_readsTexts_8 ?_
      refine gs_ic_ge (pc := 9) (tgt := 32) dX2_readsTexts_9 (by decide) (by omega) (fun _ => ?_) (fun hn => absurd (by decide) hn)
      refine gs_ald0 (pc := 32) dX2_readsTexts_32 ?_
      refine gs_V0v (pc := 33) dX2_readsTexts_33 kX2_240 (mcell hA) clX2 (by decide) (Nat.le_of_ble_eq_true rfl) (m_skips hA ht2 g3 g4) (fun hp1 hq => ?_)
      obtain ⟨rfl⟩ := hq
      have e32 : (mP M2 32 ((z.1 + lead (t.drop z.1) : Nat) : Int)).1 32 = ((z.1 + lead (t.drop z.1) : Nat) : Int) := rfl
      have e4 : (mP M2 32 ((z.1 + lead (t.drop z.1) : Nat) : Int)).1 4 = t.length := ht2.1
      unfold rdE
      refine gs_ald0 (pc := 36) dX2_readsTexts_36 ?_
      refine gs_getf (pc := 37) 32 dX2_readsTexts_37 (mcell hA) clX2 in_X2 (by decide) q2258 (Or.inl rfl) rfl ?_
      refine gs_ald0 (pc := 40) dX2_readsTexts_40 ?_
      refine gs_getf (pc := 41) 4 dX2_readsTexts_41 (mcell hA) clX2 in_X2 (by decide) q2230 (Or.inl rfl) rfl ?_
      refine gs_ic_ge (pc := 44) (tgt := 54) dX2_readsTexts_44 (by decide) (by omega) (fun h2 => ?_) (fun h2 => ?_)
      · rw [if_pos (by omega)]
        refine gs_bipush (pc := 54) dX2_readsTexts_54 rfl ?_
        refine gs_iret (pc := 56) dX2_readsTexts_56 rfl ?_
        exact ⟨_, rfl, _, rfl, ((hF0.trans f1).trans g1).trans rdF.sp, rfl, f6, g5⟩
      · rw [if_neg (by omega)]
        refine gs_ald0 (pc := 47) dX2_readsTexts_47 ?_
        refine gs_getf (pc := 48) 32 dX2_readsTexts_48 (mcell hA) clX2 in_X2 (by decide) q2258 (Or.inl rfl) rfl ?_
        refine gs_goto (pc := 51) (tgt := 56) dX2_readsTexts_51 (by decide) ?_
        refine gs_iret (pc := 56) dX2_readsTexts_56 rfl ?_
        exact ⟨_, rfl, _, rfl, ((hF0.trans f1).trans g1).trans rdF.sp, rfl⟩
theorem m_writesText {o : Int} (hA : mok X hp a) (ht : txM M t) (hx : txA M w x t) (hxl : x.length ≤ 8) (ho : 0 ≤ o ∧ o + 9 ≤ 980) (hw : w < 2) : M0 X yX2_writesText fX2_writesText 1 [vR (some a), vI o, vI (w : Int)] (mH hp a M) (fun hp' => ∃ q, hp' = mH hp a (mW M 0 q) ∧ pgT q o x ∧ ∀ z : Int, ¬ (o ≤ z ∧ z < o + 9) → q z = M.2.1 0 z) := by
  refine MC.of pfX2_writesText rfl (fun h => by cases h) 1 rfl rfl ?_
  obtain ⟨c, c1, c2, c3, c4⟩ := hx
  have h72 := ht.2.1
  have loop : ∀ (r k : Nat) (q : Int → Int), k + r = x.length → q o = x.length → (∀ j : Nat, j < k → q (o + 1 + j) = x.getD j 0) → (∀ z : Int, ¬ (o ≤ z ∧ z < o + 9) → q z = M.2.1 0 z) → G X fX2_writesText 1 21 [some (vR (some a)), some (vI o), some (vI (w : Int)), some (vI (k : Int))] [] (mH hp a (mW M 0 q)) (fun r hp' => r = none ∧ ∃ q, hp' = mH hp a (mW M 0 q) ∧ pgT q o x ∧ ∀ z : Int, ¬ (o ≤ z ∧ z < o + 9) → q z = M.2.1 0 z) := by
    intro r
    induction r with
    | zero =>
      intro k q hk q0 q1 q2
      have e0 : (mW M 0 q).2.1 0 o = x.length := q0
      refine gs_ild3 (pc := 21) dX2_writesText_21 ?_
      refine gs_ald0 (pc := 22) dX2_writesText_22 ?_
      refine gs_getf (pc := 23) 0 dX2_writesText_23 (mcell hA) clX2 in_X2 (by decide) q2226 (Or.inl rfl) rfl ?_
      refine gs_ild1 (pc := 26) dX2_writesText_26 ?_
      refine gs_iald (pc := 27) dX2_writesText_27 (ma_page hA) (by omega) (by omega) ?_
      refine gs_ic_ge (pc := 28) (tgt := 60) dX2_writesText_28 (by decide) (by omega) (fun _ => ?_) (fun hn => absurd (by omega) hn)
      refine gs_vret (pc := 60) dX2_writesText_60 rfl ?_
      exact ⟨rfl, q, rfl, ⟨q0, fun j hj => q1 j (by omega)⟩, q2⟩
    | succ r ih =>
      intro k q hk q0 q1 q2
      have e0 : (mW M 0 q).2.1 0 o = x.length := q0
      have ev : (mW M 0 q).2.1 2 ((c : Int) + k) = x.getD k 0 := by
        rw [← c4 k (by omega)]
        exact ht.2.2.2 (c + k) (by omega)
      refine gs_ild3 (pc := 21) dX2_writesText_21 ?_
      refine gs_ald0 (pc := 22) dX2_writesText_22 ?_
      refine gs_getf (pc := 23) 0 dX2_writesText_23 (mcell hA) clX2 in_X2 (by decide) q2226 (Or.inl rfl) rfl ?_
      refine gs_ild1 (pc := 26) dX2_writesText_26 ?_
      refine gs_iald (pc := 27) dX2_writesText_27 (ma_page hA) (by omega) (by omega) ?_
      refine gs_ic_ge (pc := 28) (tgt := 60) dX2_writesText_28 (by decide) (by omega) (fun hn => absurd hn (by omega)) (fun _ => ?_)
      refine gs_ald0 (pc := 31) dX2_writesText_31 ?_
      refine gs_getf (pc := 32) 0 dX2_writesText_32 (mcell hA) clX2 in_X2 (by decide) q2226 (Or.inl rfl) rfl ?_
      refine gs_ild1 (pc := 35) dX2_writesText_35 ?_
      refine gs_iconst (pc := 36) dX2_writesText_36 ?_
      refine gs_iadd (pc := 37) dX2_writesText_37 ?_
      refine gs_ild3 (pc := 38) dX2_writesText_38 ?_
      refine gs_iadd (pc := 39) dX2_writesText_39 ?_
      refine gs_ald0 (pc := 40) dX2_writesText_40 ?_
      refine gs_getf (pc := 41) 3 dX2_writesText_41 (mcell hA) clX2 in_X2 (by decide) q2229 (Or.inl rfl) rfl ?_
      refine gs_ald0 (pc := 44) dX2_writesText_44 ?_
      refine gs_getf (pc := 45) 30 dX2_writesText_45 (mcell hA) clX2 in_X2 (by decide) q2256 (Or.inl rfl) rfl ?_
      refine gs_ild2 (pc := 48) dX2_writesText_48 ?_
      refine gs_iald (pc := 49) dX2_writesText_49 (ma_textFrom hA) (by omega) (by omega) ?_
      show G X fX2_writesText 1 50 _ (vI (M.2.1 16 (w : Int)) :: _) _ _
      rw [c1]
      refine gs_ild3 (pc := 50) dX2_writesText_50 ?_
      refine gs_iadd (pc := 51) dX2_writesText_51 ?_
      refine gs_iald (pc := 52) dX2_writesText_52 (ma_text hA) (by omega) (by omega) ?_
      rw [ev]
      refine ms_page (pc := 53) hA dX2_writesText_53 (by omega) ?_
      rw [mA_mW]
      refine gs_inc3 (pc := 54) dX2_writesText_54 rfl ?_
      refine gs_goto (pc := 57) (tgt := 21) dX2_writesText_57 (by decide) ?_
      refine ih (k + 1) _ (by omega) ?_ (fun j hj => ?_) (fun z hz => ?_)
      · rw [fup_ne (by omega)]; exact q0
      · by_cases hjk : j = k
        · subst hjk; exact fup_eq
        · rw [fup_ne (by omega)]; exact q1 j (by omega)
      · rw [fup_ne (by omega)]; exact q2 z hz
  refine gs_ald0 (pc := 0) dX2_writesText_0 ?_
  refine gs_getf (pc := 1) 0 dX2_writesText_1 (mcell hA) clX2 in_X2 (by decide) q2226 (Or.inl rfl) rfl ?_
  refine gs_ild1 (pc := 4) dX2_writesText_4 ?_
  refine gs_ald0 (pc := 5) dX2_writesText_5 ?_
  refine gs_getf (pc := 6) 31 dX2_writesText_6 (mcell hA) clX2 in_X2 (by decide) q2257 (Or.inl rfl) rfl ?_
  refine gs_ild2 (pc := 9) dX2_writesText_9 ?_
  refine gs_iald (pc := 10) dX2_writesText_10 (ma_textTo hA) (by omega) (by omega) ?_
  refine gs_ald0 (pc := 11) dX2_writesText_11 ?_
  refine gs_getf (pc := 12) 30 dX2_writesText_12 (mcell hA) clX2 in_X2 (by decide) q2256 (Or.inl rfl) rfl ?_
  refine gs_ild2 (pc := 15) dX2_writesText_15 ?_
  refine gs_iald (pc := 16) dX2_writesText_16 (ma_textFrom hA) (by omega) (by omega) ?_
  rw [c1, c2]
  refine gs_isub (pc := 17) dX2_writesText_17 ?_
  rw [show ((c : Int) + (x.length : Int)) - (c : Int) = (x.length : Int) by omega]
  refine ms_page (pc := 18) hA dX2_writesText_18 (by omega) ?_
  refine gs_iconst (pc := 19) dX2_writesText_19 ?_
  refine gs_ist3 (pc := 20) dX2_writesText_20 rfl ?_
  exact loop x.length 0 (fup (M.2.1 0) o x.length) (by omega) fup_eq (fun j hj => absurd hj (by omega)) (fun z hz => fup_ne (by omega))
end Q1
