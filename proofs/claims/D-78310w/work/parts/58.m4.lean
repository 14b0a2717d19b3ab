/-! THE MODEL: begins. -/
section M4
variable {X : gCx} {hp : gHp} {a : Nat} {M : MS} {A : AS}
theorem cpN_seg {p : Int → Int} {f t j i : Int} (hi : 0 ≤ i ∧ i < 980) : cpN p (980 * f) (980 * t) 980 (980 * j + i) = if j = t then p (980 * f + i) else p (980 * j + i) := by
  unfold cpN
  by_cases h : j = t
  · rw [if_pos h, if_pos (by subst h; omega), h]; congr 1; omega
  · rw [if_neg h, if_neg (by omega)]
theorem mW_mW {j : Nat} {f g : Int → Int} : mW (mW M j f) j g = mW M j g := by
  unfold mW
  refine Prod.ext rfl (Prod.ext (funext fun k => ?_) rfl)
  dsimp only
  by_cases h : k = j
  · rw [if_pos h, if_pos h]
  · rw [if_neg h, if_neg h, if_neg h]
theorem mW_at {j : Nat} {f : Int → Int} : (mW M j f).2.1 j = f := if_pos rfl
theorem mW_mP {j k : Nat} {f : Int → Int} {v : Int} : mW (mP M k v) j f = mP (mW M j f) k v := rfl
theorem mP_mP {k : Nat} {v w : Int} : mP (mP M k v) k w = mP M k w := by
  unfold mP
  refine Prod.ext (funext fun i => ?_) rfl
  dsimp only
  by_cases h : i = k
  · rw [if_pos h, if_pos h]
  · rw [if_neg h, if_neg h, if_neg h]
theorem m_begins (hA : mok X hp a) (hR : RM M A) (hO : asOk A) : M0 X yX2_begins fX2_begins 2 [vR (some a)] (mH hp a M) (fun hp' => ∃ p1 r1, hp' = mH hp a (mP (mW M 0 p1) 1 r1) ∧ (∀ i : Int, 0 ≤ i → i < 980 → p1 i = M.2.1 0 i) ∧ RM (mP (mW M 0 p1) 1 r1) (chg A A.1)) := by
  obtain ⟨r1, r2, r3, r4, r5, r6, r7, r8, r9, r10⟩ := hR
  obtain ⟨o1, ⟨o2, o2b⟩, o3, o4, -⟩ := hO
  refine MC.of pfX2_begins rfl (fun h => by cases h) 1 rfl rfl ?_
  have fin : ∀ (pg : Int → Int) (n : Nat) (L1 : Option AV) (Ps : List SS), n = Ps.length → n ≤ 7 → (∀ i : Int, 0 ≤ i → i < 980 → pg i = M.2.1 0 i ∧ pg (8820 + i) = M.2.1 0 (8820 + i) ∧ pg (9800 + i) = M.2.1 0 (9800 + i)) → (∀ i : Nat, i < Ps.length → pgS pg (980 * (1 + i)) (Ps.getD i ssD)) → (chg A A.1).2.1 = Ps ++ [A.1] → G X fX2_begins 2 41 [some (vR (some a)), L1] [] (mH hp a (mP (mW M 0 pg) 1 n)) (fun r hp' => r = none ∧ ∃ p1 r1, hp' = mH hp a (mP (mW M 0 p1) 1 r1) ∧ (∀ i : Int, 0 ≤ i → i < 980 → p1 i = M.2.1 0 i) ∧ RM (mP (mW M 0 p1) 1 r1) (chg A A.1)) := by
    intro pg n L1 Ps hn hn7 hpg hps hch
    refine gs_ald0 (pc := 41) dX2_begins_41 ?_
    refine gs_iconst (pc := 42) dX2_begins_42 ?_
    refine gs_iconst (pc := 43) dX2_begins_43 ?_
    refine gs_ald0 (pc := 44) dX2_begins_44 ?_
    refine gs_getf (pc := 45) 1 dX2_begins_45 (mcell hA) clX2 in_X2 (by decide) q2227 (Or.inl rfl) rfl ?_
    refine gs_iadd (pc := 48) dX2_begins_48 ?_
    refine gs_V2v (pc := 49) dX2_begins_49 kX2_75 (mcell hA) clX2 (by decide) (Nat.le_of_ble_eq_true rfl) (m_copies hA (by omega) (by show 0 ≤ 1 + (n : Int) ∧ 1 + (n : Int) ≤ 10; omega) (by show (0 : Int) ≠ 1 + (n : Int); omega)) (fun hp1 hq => ?_)
    obtain ⟨rfl⟩ := hq
    have e : mW (mP (mW M 0 pg) 1 (n : Int)) 0 (cpN ((mP (mW M 0 pg) 1 (n : Int)).2.1 0) (980 * 0) (980 * (1 + (mP (mW M 0 pg) 1 (n : Int)).1 1)) 980) = mP (mW M 0 (cpN pg (980 * 0) (980 * (1 + (n : Int))) 980)) 1 n := by
      rw [mW_mP, mW_mW]; rfl
    rw [e]
    have hseg : ∀ j i : Int, 0 ≤ i → i < 980 → cpN pg (980 * 0) (980 * (1 + (n : Int))) 980 (980 * j + i) = if j = 1 + (n : Int) then pg i else pg (980 * j + i) := fun j i h1 h2 => by
      rw [cpN_seg ⟨h1, h2⟩, show (980 * 0 + i : Int) = i by omega]
    generalize cpN pg (980 * 0) (980 * (1 + (n : Int))) 980 = p1 at hseg ⊢
    refine gs_ald0 (pc := 52) dX2_begins_52 ?_
    refine gs_dup (pc := 53) dX2_begins_53 rfl ?_
    refine gs_getf (pc := 54) 1 dX2_begins_54 (mcell hA) clX2 in_X2 (by decide) q2227 (Or.inl rfl) rfl ?_
    refine gs_iconst (pc := 57) dX2_begins_57 ?_
    refine gs_iadd (pc := 58) dX2_begins_58 ?_
    refine mp_remembered (pc := 59) rfl hA dX2_begins_59 ?_
    refine gs_vret (pc := 62) dX2_begins_62 rfl ?_
    rw [mP_mP]
    have q0 : ∀ i : Int, 0 ≤ i → i < 980 → p1 i = M.2.1 0 i := fun i h1 h2 => by
      have := hseg 0 i h1 h2
      rw [if_neg (by omega), show (980 * 0 + i : Int) = i by omega] at this
      rw [this]; exact (hpg i h1 h2).1
    refine ⟨rfl, p1, (n : Int) + 1, rfl, q0, ?_, ?_, fun i hi => ?_, r4, fun S hS => ?_, fun S hS => ?_, r7, r8, r9, r10⟩
    · exact r1.mv o1 (fun i h1 h2 => by rw [show (0 : Int) + i = i by omega]; exact q0 i h1 h2)
    · rw [hch, List.length_append, List.length_singleton, ← hn]; rfl
    · rw [hch] at hi ⊢
      rw [List.length_append, List.length_singleton] at hi
      by_cases hin : i < Ps.length
      · rw [show (Ps ++ [A.1]).getD i ssD = Ps.getD i ssD by rw [List.getD_eq_getElem?_getD, List.getD_eq_getElem?_getD, List.getElem?_append_left hin]]
        have hps' := hps i hin
        refine hps'.mv ?_ (fun j h1 h2 => ?_)
        · have hmem : Ps.getD i ssD ∈ (chg A A.1).2.1 := by
            rw [hch, List.getD_eq_getElem?_getD, List.getElem?_eq_getElem hin]
            exact List.mem_append_left _ (List.getElem_mem hin)
          have : (chg A A.1).2.1 = (if A.2.1.length = 8 then A.2.1.drop 1 else A.2.1) ++ [A.1] := rfl
          rw [this] at hmem
          rcases List.mem_append.mp hmem with h | h
          · by_cases h8 : A.2.1.length = 8
            · rw [if_pos h8] at h; exact o2b _ (List.mem_of_mem_drop h)
            · rw [if_neg h8] at h; exact o2b _ h
          · rw [List.mem_singleton.mp h]; exact o1
        · have := hseg (1 + i) j h1 h2
          rw [if_neg (by omega)] at this
          exact this
      · obtain rfl : i = Ps.length := by omega
        rw [show (Ps ++ [A.1]).getD Ps.length ssD = A.1 by rw [List.getD_eq_getElem?_getD, List.getElem?_append_right (Nat.le_refl _), Nat.sub_self]; rfl]
        refine r1.mv o1 (fun j h1 h2 => ?_)
        have := hseg (1 + (Ps.length : Int)) j h1 h2
        rw [if_pos (by omega)] at this
        show p1 _ = _
        rw [this, show (0 : Int) + j = j by omega]
        exact (hpg j h1 h2).1
    · refine (r5 S hS).mv (o3 S hS) (fun j h1 h2 => ?_)
      have := hseg 9 j h1 h2
      rw [if_neg (by omega)] at this
      exact this.trans (hpg j h1 h2).2.1
    · refine (r6 S hS).mv (o4 S hS) (fun j h1 h2 => ?_)
      have := hseg 10 j h1 h2
      rw [if_neg (by omega)] at this
      exact this.trans (hpg j h1 h2).2.2
  have hch0 : (chg A A.1).2.1 = (if A.2.1.length = 8 then A.2.1.drop 1 else A.2.1) ++ [A.1] := rfl
  refine gs_ald0 (pc := 0) dX2_begins_0 ?_
  refine gs_getf (pc := 1) 1 dX2_begins_1 (mcell hA) clX2 in_X2 (by decide) q2227 (Or.inl rfl) rfl ?_
  refine gs_bipush (pc := 4) dX2_begins_4 rfl ?_
  refine gs_ic_ne (pc := 6) (tgt := 41) dX2_begins_6 (by decide) (by omega) (fun hc => ?_) (fun hc => ?_)
  · have h8 : A.2.1.length ≠ 8 := by omega
    have hid : mP (mW M 0 (M.2.1 0)) 1 (A.2.1.length : Int) = M := by
      rw [mW_self, ← r2]
      unfold mP
      refine Prod.ext (funext fun i => ?_) rfl
      dsimp only
      by_cases h : i = 1
      · rw [if_pos h, h]
      · rw [if_neg h]
    have := fin (M.2.1 0) A.2.1.length none A.2.1 rfl (by omega) (fun i _ _ => ⟨rfl, rfl, rfl⟩) r3 (by rw [hch0, if_neg h8])
    rw [hid] at this
    exact this
  · have h8 : A.2.1.length = 8 := by omega
    have loop : ∀ (r k : Nat) (pg : Int → Int), k + r = 8 → 1 ≤ k → (∀ j i : Int, 0 ≤ j → 0 ≤ i → i < 980 → pg (980 * j + i) = if 1 ≤ j ∧ j < k then M.2.1 0 (980 * (j + 1) + i) else M.2.1 0 (980 * j + i)) → G X fX2_begins 2 11 [some (vR (some a)), some (vI (k : Int))] [] (mH hp a (mW M 0 pg)) (fun r hp' => r = none ∧ ∃ p1 r1, hp' = mH hp a (mP (mW M 0 p1) 1 r1) ∧ (∀ i : Int, 0 ≤ i → i < 980 → p1 i = M.2.1 0 i) ∧ RM (mP (mW M 0 p1) 1 r1) (chg A A.1)) := by
      intro r
      induction r with
      | zero =>
        intro k pg hk hk1 hpg
        obtain rfl : k = 8 := by omega
        refine gs_ild1 (pc := 11) dX2_begins_11 ?_
        refine gs_bipush (pc := 12) dX2_begins_12 rfl ?_
        refine gs_ic_ge (pc := 14) (tgt := 31) dX2_begins_14 (by decide) (by omega) (fun _ => ?_) (fun hn => absurd (by decide) hn)
        refine gs_ald0 (pc := 31) dX2_begins_31 ?_
        refine gs_dup (pc := 32) dX2_begins_32 rfl ?_
        refine gs_getf (pc := 33) 1 dX2_begins_33 (mcell hA) clX2 in_X2 (by decide) q2227 (Or.inl rfl) rfl ?_
        refine gs_iconst (pc := 36) dX2_begins_36 ?_
        refine gs_isub (pc := 37) dX2_begins_37 ?_
        refine mp_remembered (pc := 38) rfl hA dX2_begins_38 ?_
        have e7 : (mW M 0 pg).1 1 - 1 = ((7 : Nat) : Int) := by show M.1 1 - 1 = _; omega
        rw [e7]
        refine fin pg 7 _ (A.2.1.drop 1) (by rw [List.length_drop]; omega) (by omega) (fun i h1 h2 => ⟨?_, ?_, ?_⟩) (fun i hi => ?_) (by rw [hch0, if_pos h8])
        · have := hpg 0 i (by omega) h1 h2
          rw [if_neg (by omega), show (980 * 0 + i : Int) = i by omega] at this
          exact this
        · have := hpg 9 i (by omega) h1 h2
          rw [if_neg (by omega)] at this
          exact this
        · have := hpg 10 i (by omega) h1 h2
          rw [if_neg (by omega)] at this
          exact this
        · rw [List.length_drop] at hi
          rw [show (A.2.1.drop 1).getD i ssD = A.2.1.getD (i + 1) ssD by rw [List.getD_eq_getElem?_getD, List.getD_eq_getElem?_getD, List.getElem?_drop, Nat.add_comm]]
          refine (r3 (i + 1) (by omega)).mv (o2b _ ?_) (fun j h1 h2 => ?_)
          · rw [List.getD_eq_getElem?_getD, List.getElem?_eq_getElem (by omega)]
            exact List.getElem_mem _
          · have := hpg (1 + i) j (by omega) h1 h2
            rw [if_pos (by omega)] at this
            rw [this]; congr 1
      | succ r ih =>
        intro k pg hk hk1 hpg
        refine gs_ild1 (pc := 11) dX2_begins_11 ?_
        refine gs_bipush (pc := 12) dX2_begins_12 rfl ?_
        refine gs_ic_ge (pc := 14) (tgt := 31) dX2_begins_14 (by decide) (by omega) (fun hn => absurd hn (by omega)) (fun _ => ?_)
        refine gs_ald0 (pc := 17) dX2_begins_17 ?_
        refine gs_ild1 (pc := 18) dX2_begins_18 ?_
        refine gs_iconst (pc := 19) dX2_begins_19 ?_
        refine gs_iadd (pc := 20) dX2_begins_20 ?_
        refine gs_ild1 (pc := 21) dX2_begins_21 ?_
        refine gs_V2v (pc := 22) dX2_begins_22 kX2_75 (mcell hA) clX2 (by decide) (Nat.le_of_ble_eq_true rfl) (m_copies hA (by omega) (by omega) (by omega)) (fun hp1 hq => ?_)
        obtain ⟨rfl⟩ := hq
        rw [mW_mW, mW_at]
        refine gs_inc1 (pc := 25) dX2_begins_25 rfl ?_
        refine gs_goto (pc := 28) (tgt := 11) dX2_begins_28 (by decide) ?_
        have := ih (k + 1) (cpN pg (980 * ((k : Int) + 1)) (980 * (k : Int)) 980) (by omega) (by omega) (fun j i hj h1 h2 => by
          rw [cpN_seg ⟨h1, h2⟩]
          by_cases hjk : j = k
          · rw [if_pos hjk, if_pos (by omega), hpg _ _ (by omega) h1 h2, if_neg (by omega), hjk]
          · rw [if_neg hjk, hpg _ _ hj h1 h2]
            by_cases hj2 : 1 ≤ j ∧ j < k
            · rw [if_pos hj2, if_pos (by omega)]
            · rw [if_neg hj2, if_neg (by omega)])
        exact this
    refine gs_iconst (pc := 9) dX2_begins_9 ?_
    refine gs_ist1 (pc := 10) dX2_begins_10 rfl ?_
    have := loop 7 1 (M.2.1 0) (by omega) (by omega) (fun j i hj h1 h2 => by rw [if_neg (by omega)])
    rw [mW_self] at this
    exact this
end M4
