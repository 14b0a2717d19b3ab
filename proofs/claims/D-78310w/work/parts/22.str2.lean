/-! CONTRACTS: copies of byte arrays, substring. -/
section STR3
variable {X : gCx} {hp : gHp}
/-- a new array of bytes b with the contents s since hp -/
def newB (X : gCx) (hp hp' : gHp) (l b : Nat) (s : List Int) : Prop := Fr X (fun _ => False) hp hp' ∧ hp'.1 = hp.1 + 1 ∧ hp'.2.1 = hp.2.1 + s.length ∧ b = nx X hp ∧ ∃ f, gl X hp' b = some (l, .inl (2, s.length, .inl f)) ∧ ∀ i : Nat, i < s.length → f (i : Int) = s.getD i 0
theorem c_chkLen {i n : Int} (hi : -1000000 ≤ i ∧ i ≤ n) (hn : n ≤ 1000000) : M0 X yJ9_checkLength fJ9_checkLength 1 [vI i, vI n] hp (fun hp' => hp = hp') := by
  refine MC.of pfJ9_checkLength rfl (fun h => by cases h) 0 rfl rfl ?_
  refine gs_ild1 (pc := 0) dJ9_checkLength_0 ?_
  refine gs_ild0 (pc := 1) dJ9_checkLength_1 ?_
  refine gs_ic_ge (pc := 2) (tgt := 37) dJ9_checkLength_2 (by decide) (by omega) (fun _ => ?_) (fun hn => absurd (by omega) hn)
  refine gs_vret (pc := 37) dJ9_checkLength_37 rfl ?_
  exact ⟨rfl, rfl⟩
theorem getD_drop {s : List Int} {i j k : Nat} (h : j < k) : ((s.drop i).take k).getD j 0 = s.getD (i + j) 0 := by
  rw [List.getD_eq_getElem?_getD, List.getD_eq_getElem?_getD, List.getElem?_take, if_pos h, List.getElem?_drop]
theorem c_copyRB (l : Nat) (hl : l ≠ 0) {a lb m : Nat} {f : Int → Int} {s : List Int} {i k : Nat} (ha : gl X hp a = some (lb, .inl (2, m, .inl f))) (hm : m ≤ 100000) (hk : i + k ≤ s.length) (hsm : s.length ≤ m) (hf : ∀ j : Nat, j < s.length → f (j : Int) = s.getD j 0) (hs : sok s) : MV X yJ9_copyOfRangeByte fJ9_copyOfRangeByte 2 [vR (some a), vI (i : Int), vI ((i + k : Nat) : Int)] hp (fun v hp' => ∃ b, v = vR (some b) ∧ newB X hp hp' l b ((s.drop i).take k)) := by
  refine MC.of pfJ9_copyOfRangeByte rfl (fun h => by cases h) 2 rfl rfl ?_
  have hlen : ((s.drop i).take k).length = k := by rw [List.length_take, List.length_drop]; omega
  refine gs_ild1 (pc := 0) dJ9_copyOfRangeByte_0 ?_
  refine gs_ild2 (pc := 1) dJ9_copyOfRangeByte_1 ?_
  refine gs_S2v (pc := 2) dJ9_copyOfRangeByte_2 kJ9_343 (by decide) (Nat.le_of_ble_eq_true rfl) (c_chkLen ⟨by omega, by omega⟩ (by omega)) (fun hp1 hq => ?_)
  obtain ⟨rfl⟩ := hq
  refine gs_ild2 (pc := 5) dJ9_copyOfRangeByte_5 ?_
  refine gs_ild1 (pc := 6) dJ9_copyOfRangeByte_6 ?_
  refine gs_isub (pc := 7) dJ9_copyOfRangeByte_7 ?_
  refine gs_ist3 (pc := 8) dJ9_copyOfRangeByte_8 rfl ?_
  refine gs_ild3 (pc := 9) dJ9_copyOfRangeByte_9 ?_
  refine gs_newa (pc := 10) 2 (k) l (by decide) rfl dJ9_copyOfRangeByte_10 q242 (by first | rfl | omega) (by omega) ?_
  have h1 : gl X (hnew X hp k (l, Sum.inl (2, k, Sum.inl fun _ => 0))) (nx X hp) = some (l, .inl (2, k, .inl fun _ => 0)) := gl_new_self
  have h0 := gl_new_of (n := k) (c := (l, Sum.inl (2, k, Sum.inl fun _ => 0))) ha
  have hF : Fr X (fun _ => False) hp (hnew X hp k (l, Sum.inl (2, k, Sum.inl fun _ => 0))) := Fr.new Fr.refl
  generalize hh : hnew X hp k (l, Sum.inl (2, k, Sum.inl fun _ => 0)) = hp1 at h0 h1 hF ⊢
  have hc1 : hp1.1 = hp.1 + 1 := by rw [← hh]; rfl
  have hc2 : hp1.2.1 = hp.2.1 + k := by rw [← hh]; rfl
  refine gs_ast4 (pc := 12) dJ9_copyOfRangeByte_12 rfl ?_
  refine gs_ald0 (pc := 14) dJ9_copyOfRangeByte_14 ?_
  refine gs_ild1 (pc := 15) dJ9_copyOfRangeByte_15 ?_
  refine gs_ald4 (pc := 16) dJ9_copyOfRangeByte_16 ?_
  refine gs_iconst (pc := 18) dJ9_copyOfRangeByte_18 ?_
  refine gs_ald0 (pc := 19) dJ9_copyOfRangeByte_19 ?_
  refine gs_alen (pc := 20) dJ9_copyOfRangeByte_20 h0 ?_
  refine gs_ild1 (pc := 21) dJ9_copyOfRangeByte_21 ?_
  refine gs_isub (pc := 22) dJ9_copyOfRangeByte_22 ?_
  refine gs_ild3 (pc := 23) dJ9_copyOfRangeByte_23 ?_
  refine gs_S2 (pc := 24) dJ9_copyOfRangeByte_24 kJ9_304 (by decide) (Nat.le_of_ble_eq_true rfl) (c_min _ _ _ ⟨by omega, by omega⟩ ⟨by omega, by omega⟩) (fun v hp2 hq => ?_)
  obtain ⟨rfl, rfl⟩ := hq
  refine gs_copyI (pc := 27) 2 (by decide) dJ9_copyOfRangeByte_27 q363 q365 q364 q110 h0 h1 hl (by omega) (by omega) (by omega) (fun x h1 h2 => by obtain ⟨y, rfl⟩ : ∃ y : Nat, x = (y : Int) := ⟨x.toNat, by omega⟩; rw [hf y (by omega)]; exact i_fb (hs.at y)) (by decide) (Nat.le_of_ble_eq_true rfl) ?_
  refine gs_ald4 (pc := 30) dJ9_copyOfRangeByte_30 ?_
  refine gs_aret (pc := 32) dJ9_copyOfRangeByte_32 rfl (Or.inr ⟨_, rfl⟩) ?_
  refine ⟨_, rfl, _, rfl, hF.setN (Nat.le_refl _), hc1, by rw [hlen]; exact hc2, rfl, _, by rw [hlen]; exact gl_set_self h1 hl, fun j hj => ?_⟩
  rw [hlen] at hj
  rw [getD_drop hj]
  show cpy f _ _ _ _ _ = _
  unfold cpy
  rw [if_pos (by omega), show (i : Int) + ((j : Int) - 0) = ((i + j : Nat) : Int) by omega, hf _ (by omega)]
theorem c_copyR (l : Nat) (hl : l ≠ 0) {a lb m : Nat} {f : Int → Int} {s : List Int} {i k : Nat} (ha : gl X hp a = some (lb, .inl (2, m, .inl f))) (hlb : lb ≠ 0) (hm : m ≤ 100000) (hk : i + k ≤ s.length) (hsm : s.length ≤ m) (hf : ∀ j : Nat, j < s.length → f (j : Int) = s.getD j 0) (hs : sok s) : MV X yJ9_copyOfRange fJ9_copyOfRange 3 [vR (some a), vI (i : Int), vI ((i + k : Nat) : Int)] hp (fun v hp' => ∃ b, v = vR (some b) ∧ newB X hp hp' l b ((s.drop i).take k)) := by
  refine MC.of pfJ9_copyOfRange rfl (fun h => by cases h) 0 rfl rfl ?_
  have k1 : G X fJ9_copyOfRange 3 10 [some (vR (some a)), some (vI (i : Int)), some (vI ((i + k : Nat) : Int))] [] hp (fun r hp' => ∃ v, r = some v ∧ ∃ b, v = vR (some b) ∧ newB X hp hp' l b ((s.drop i).take k)) := by
    refine gs_ald0 (pc := 10) dJ9_copyOfRange_10 ?_
    refine gs_ild1 (pc := 11) dJ9_copyOfRange_11 ?_
    refine gs_ild2 (pc := 12) dJ9_copyOfRange_12 ?_
    refine gs_S3 (pc := 13) dJ9_copyOfRange_13 kJ9_339 (by decide) (Nat.le_of_ble_eq_true rfl) (c_copyRB l hl ha hm hk hsm hf hs) (fun v hp1 hq => ?_)
    obtain ⟨b, rfl, hq⟩ := hq
    refine gs_aret (pc := 16) dJ9_copyOfRange_16 rfl (Or.inr ⟨_, rfl⟩) ?_
    exact ⟨_, rfl, b, rfl, hq⟩
  refine gs_ild1 (pc := 0) dJ9_copyOfRange_0 ?_
  refine gs_if_ne (pc := 1) (tgt := 10) dJ9_copyOfRange_1 (by decide) (by omega) (fun hc => ?_) (fun hc => ?_)
  · exact k1
  · refine gs_ild2 (pc := 4) dJ9_copyOfRange_4 ?_
    refine gs_ald0 (pc := 5) dJ9_copyOfRange_5 ?_
    refine gs_alen (pc := 6) dJ9_copyOfRange_6 ha ?_
    refine gs_ic_eq (pc := 7) (tgt := 17) dJ9_copyOfRange_7 (by decide) (by omega) (fun hc => ?_) (fun hc => ?_)
    · have hlen : ((s.drop i).take k).length = k := by rw [List.length_take, List.length_drop]; omega
      have hmk : m = k := by omega
      have hi0 : i = 0 := by omega
      subst hmk
      refine gs_ald0 (pc := 17) dJ9_copyOfRange_17 ?_
      refine gs_cloneB (pc := 18) l dJ9_copyOfRange_18 q353 q354 q355 q356 q357 q358 ha hlb (fun x hx => by rw [hf x (by omega)]; exact i_fb (hs.at x)) (by decide) (Nat.le_of_ble_eq_true rfl) ?_
      refine gs_castA (pc := 21) 2 (by decide) dJ9_copyOfRange_21 q359 (gl_new_self) (by decide) ?_
      refine gs_aret (pc := 24) dJ9_copyOfRange_24 rfl (Or.inr ⟨_, rfl⟩) ?_
      refine ⟨_, rfl, _, rfl, Fr.new Fr.refl, rfl, by rw [hlen]; rfl, rfl, f, by rw [hlen]; exact gl_new_self, fun j hj => ?_⟩
      rw [hlen] at hj
      rw [getD_drop hj, hf j (by omega), hi0, Nat.zero_add]
    · exact k1
theorem c_sinit3 {a b : Nat} (ha : gl X hp a = some (1, .inr (11, [vR none, vI 0, vI 0, vI 0]))) : M0 X yJ5_init_3 fJ5_init_3 1 [vR (some a), vR (some b), vI 0] hp (fun hp' => hp' = hset (hset hp a (1, .inr (11, [vR (some b), vI 0, vI 0, vI 0]))) a (1, .inr (11, [vR (some b), vI 0, vI 0, vI 0]))) := by
  refine MC.of pfJ5_init_3 rfl (fun _ => rfl) 0 rfl rfl ?_
  refine gs_ald0 (pc := 0) dJ5_init_3_0 ?_
  refine gs_objInit (pc := 1) dJ5_init_3_1 q431 q146 q147 (by decide) (Nat.le_of_ble_eq_true rfl) ?_
  refine gs_ald0 (pc := 4) dJ5_init_3_4 ?_
  refine gs_ald1 (pc := 5) dJ5_init_3_5 ?_
  refine gs_putF (pc := 6) 0 (.inr (11, [vR (some b), vI 0, vI 0, vI 0])) dJ5_init_3_6 ha (by decide) clJ5 in_J5 tyJ5 tyJ5_ok nmJ5 (by decide) q469 (Or.inl rfl) rfl rfl rfl (fok_arr _ _) (Nat.le_of_ble_eq_true rfl) rfl ?_
  refine gs_ald0 (pc := 9) dJ5_init_3_9 ?_
  refine gs_ild2 (pc := 10) dJ5_init_3_10 ?_
  refine gs_putF (pc := 11) 1 (.inr (11, [vR (some b), vI 0, vI 0, vI 0])) dJ5_init_3_11 (gl_set_self ha (by decide)) (by decide) clJ5 in_J5 tyJ5 tyJ5_ok nmJ5 (by decide) q470 (Or.inl rfl) rfl rfl rfl fok_b0 (Nat.le_of_ble_eq_true rfl) rfl ?_
  refine gs_vret (pc := 14) dJ5_init_3_14 rfl ?_
  exact ⟨rfl, rfl⟩
theorem getD_take_drop_len {s : List Int} {i k : Nat} (h : i + k ≤ s.length) : ((s.drop i).take k).length = k := by rw [List.length_take, List.length_drop]; omega
theorem sok_sub {s : List Int} (h : sok s) (i k : Nat) : sok ((s.drop i).take k) := fun c hc => h c (List.mem_of_mem_drop (List.mem_of_mem_take hc))
/-- a text that is no constant -/
def isN (X : gCx) (hp : gHp) (a : Nat) : Prop := ∃ b h z c2, gl X hp a = some (1, .inr (11, [vR (some b), vI 0, vI h, vI z])) ∧ gl X hp b = some (1, c2)
theorem isN.fr {X : gCx} {S : Nat → Prop} {hp hp1 : gHp} {a : Nat} (h : Fr X S hp hp1) (hS : ∀ l, S l → 2 ≤ l) (hs : isN X hp a) : isN X hp1 a := by
  obtain ⟨b, x, z, c2, e1, e2⟩ := hs
  exact ⟨b, x, z, c2, h.at e1 (fun q => by have := hS _ q; omega), h.at e2 (fun q => by have := hS _ q; omega)⟩
/-- a text a made since hp, of at most c cells and w slots -/
def newS (X : gCx) (hp hp' : gHp) (a c w : Nat) (s : List Int) : Prop := Fr X (fun _ => False) hp hp' ∧ hp'.1 ≤ hp.1 + c ∧ hp'.2.1 ≤ hp.2.1 + w ∧ isS X hp' a s ∧ isN X hp' a
theorem c_newStr {a lb : Nat} {f : Int → Int} {s : List Int} {i k : Nat} (ha : gl X hp a = some (lb, .inl (2, s.length, .inl f))) (hlb : lb ≠ 0) (hm : s.length ≤ 1000) (hk : i + k ≤ s.length) (hk0 : 0 < k) (hf : ∀ j : Nat, j < s.length → f (j : Int) = s.getD j 0) (hs : sok s) : MV X yJ10_newString fJ10_newString 4 [vR (some a), vI (i : Int), vI (k : Int)] hp (fun v hp' => ∃ r, v = vR (some r) ∧ newS X hp hp' r 2 (k + 4) ((s.drop i).take k)) := by
  refine MC.of pfJ10_newString rfl (fun h => by cases h) 0 rfl rfl ?_
  have hlen := getD_take_drop_len hk
  refine gs_ild2 (pc := 0) dJ10_newString_0 ?_
  refine gs_if_ne (pc := 1) (tgt := 7) dJ10_newString_1 (by decide) (by omega) (fun _ => ?_) (fun hn => absurd hn (by omega))
  refine gs_new (pc := 7) 1 dfJ5 dJ10_newString_7 clJ5 in_J5 tyJ5 tyJ5_ok q636 q424 q105 dfoJ5 ?_
  have hF : Fr X (fun _ => False) hp (hnew X hp 4 (1, Sum.inr (11, dfJ5))) := Fr.new Fr.refl
  have h1 : gl X (hnew X hp 4 (1, Sum.inr (11, dfJ5))) (nx X hp) = some (1, Sum.inr (11, dfJ5)) := gl_new_self
  have h0 := gl_new_of (n := 4) (c := (1, Sum.inr (11, dfJ5))) ha
  generalize hh : hnew X hp 4 (1, Sum.inr (11, dfJ5)) = hp1 at h0 h1 hF ⊢
  have hc1 : hp1.1 = hp.1 + 1 := by rw [← hh]; rfl
  have hc2 : hp1.2.1 = hp.2.1 + 4 := by rw [← hh]; rfl
  refine gs_dup (pc := 10) dJ10_newString_10 rfl ?_
  refine gs_ald0 (pc := 11) dJ10_newString_11 ?_
  refine gs_ild1 (pc := 12) dJ10_newString_12 ?_
  refine gs_ild1 (pc := 13) dJ10_newString_13 ?_
  refine gs_ild2 (pc := 14) dJ10_newString_14 ?_
  refine gs_iadd (pc := 15) dJ10_newString_15 ?_
  rw [show (i : Int) + (k : Int) = ((i + k : Nat) : Int) by omega]
  refine gs_S3 (pc := 16) dJ10_newString_16 kJ10_232 (by decide) (Nat.le_of_ble_eq_true rfl) (c_copyR 1 (by decide) h0 hlb (by omega) hk (Nat.le_refl _) hf hs) (fun v hp2 hq => ?_)
  obtain ⟨b, rfl, q1, q2, q3, q4, g, q5, q6⟩ := hq
  have h2 := q1.at h1 (fun h => h)
  refine gs_iconst (pc := 19) dJ10_newString_19 ?_
  refine gs_I2v (pc := 20) dJ10_newString_20 kJ10_112 (by decide) (Nat.le_of_ble_eq_true rfl) (c_sinit3 h2) (fun hp3 hq => ?_)
  obtain ⟨rfl⟩ := hq
  have h3 := gl_set_self (c := (1, Sum.inr (11, [vR (some b), vI 0, vI 0, vI 0]))) h2 (by decide)
  have h4 := gl_set_self (c := (1, Sum.inr (11, [vR (some b), vI 0, vI 0, vI 0]))) h3 (by decide)
  have hne : b ≠ nx X hp := by have := gl_lt h1; omega
  refine gs_aret (pc := 23) dJ10_newString_23 rfl (Or.inl ⟨_, rfl⟩) ?_
  refine ⟨_, rfl, _, rfl, ((hF.trans q1).setN (Nat.le_refl _)).setN (Nat.le_refl _), ?_, ?_, ⟨sok_sub hs i k, by omega, 1, b, 0, 0, Nat.le_refl _, h4, 1, g, Nat.le_refl _, ?_, q6⟩, b, 0, 0, .inl (2, ((s.drop i).take k).length, .inl g), h4, ?_⟩
  · show hp2.1 ≤ _; omega
  · show hp2.2.1 ≤ _; omega
  · rw [gl_set_ne hne, gl_set_ne hne]; exact q5
  · rw [gl_set_ne hne, gl_set_ne hne]; exact q5
theorem c_pft {i j n : Int} {r : Option Nat} (hi : 0 ≤ i ∧ i ≤ j ∧ j ≤ n) (hn : n ≤ 2147483647) : MV X yJ11_checkFromToIndex fJ11_checkFromToIndex 1 [vI i, vI j, vI n, vR r] hp (fun v hp' => v = vI i ∧ hp = hp') := by
  refine MC.of pfJ11_checkFromToIndex rfl (fun h => by cases h) 0 rfl rfl ?_
  refine gs_ild0 (pc := 0) dJ11_checkFromToIndex_0 ?_
  refine gs_if_lt (pc := 1) (tgt := 14) dJ11_checkFromToIndex_1 (by decide) (by omega) (fun hn => absurd hn (by omega)) (fun _ => ?_)
  refine gs_ild0 (pc := 4) dJ11_checkFromToIndex_4 ?_
  refine gs_ild1 (pc := 5) dJ11_checkFromToIndex_5 ?_
  refine gs_ic_gt (pc := 6) (tgt := 14) dJ11_checkFromToIndex_6 (by decide) (by omega) (fun hn => absurd hn (by omega)) (fun _ => ?_)
  refine gs_ild1 (pc := 9) dJ11_checkFromToIndex_9 ?_
  refine gs_ild2 (pc := 10) dJ11_checkFromToIndex_10 ?_
  refine gs_ic_le (pc := 11) (tgt := 22) dJ11_checkFromToIndex_11 (by decide) (by omega) (fun _ => ?_) (fun hn => absurd (by omega) hn)
  refine gs_ild0 (pc := 22) dJ11_checkFromToIndex_22 ?_
  refine gs_iret (pc := 23) dJ11_checkFromToIndex_23 rfl ?_
  exact ⟨_, rfl, rfl, rfl⟩
theorem c_sbe {i j n : Int} (hi : 0 ≤ i ∧ i ≤ j ∧ j ≤ n) (hn : n ≤ 2147483647) : M0 X yJ5_checkBoundsBeginEnd fJ5_checkBoundsBeginEnd 2 [vI i, vI j, vI n] hp (fun hp' => hp = hp') := by
  refine MC.of pfJ5_checkBoundsBeginEnd rfl (fun h => by cases h) 0 rfl rfl ?_
  refine gs_ild0 (pc := 0) dJ5_checkBoundsBeginEnd_0 ?_
  refine gs_ild1 (pc := 1) dJ5_checkBoundsBeginEnd_1 ?_
  refine gs_ild2 (pc := 2) dJ5_checkBoundsBeginEnd_2 ?_
  refine gs_gets (pc := 3) 5 (by decide) dJ5_checkBoundsBeginEnd_3 q393 (Or.inl rfl) ?_
  refine gs_S4 (pc := 6) dJ5_checkBoundsBeginEnd_6 kJ5_1062 (by decide) (Nat.le_of_ble_eq_true rfl) (c_pft hi hn) (fun v hp1 hq => ?_)
  obtain ⟨rfl, rfl⟩ := hq
  refine gs_pop (pc := 9) dJ5_checkBoundsBeginEnd_9 rfl ?_
  refine gs_vret (pc := 10) dJ5_checkBoundsBeginEnd_10 rfl ?_
  exact ⟨rfl, rfl⟩
/-- substring: not of a constant -/
theorem c_sub {a : Nat} {s : List Int} {i j : Nat} (ha : isS X hp a s) (hnc : isN X hp a) (hi : i < j) (hj : j ≤ s.length) : MV X yJ5_substring fJ5_substring 5 [vR (some a), vI (i : Int), vI (j : Int)] hp (fun v hp' => ∃ r, v = vR (some r) ∧ newS X hp hp' r 2 (j - i + 4) ((s.drop i).take (j - i))) := by
  have ha' := ha
  obtain ⟨h1, h2, lb, b, x, z, e1, e2, lb2, f, e3, e4, e5⟩ := ha
  have hnc' := hnc
  obtain ⟨b', x', z', c2', n3, n4⟩ := hnc
  have hbb : b = b' ∧ lb2 = 1 := by
    rw [e2] at n3
    simp only [Option.some.injEq, Prod.mk.injEq, Sum.inr.injEq, List.cons.injEq, Sum.inl.injEq] at n3
    obtain ⟨-, -, rfl, -⟩ := n3
    rw [e4] at n4
    simp only [Option.some.injEq, Prod.mk.injEq] at n4
    exact ⟨rfl, n4.1⟩
  obtain ⟨rfl, hl1⟩ := hbb
  have n2 : lb2 ≠ 0 := by omega
  refine MC.of pfJ5_substring rfl (fun h => by cases h) 2 rfl rfl ?_
  refine gs_ald0 (pc := 0) dJ5_substring_0 ?_
  refine gs_V0 (pc := 1) dJ5_substring_1 kJ5_505 e2 clJ5 (by decide) (Nat.le_of_ble_eq_true rfl) (c_slen ha') (fun v hp1 hq => ?_)
  obtain ⟨rfl, rfl⟩ := hq
  refine gs_ist3 (pc := 4) dJ5_substring_4 rfl ?_
  refine gs_ild1 (pc := 5) dJ5_substring_5 ?_
  refine gs_ild2 (pc := 6) dJ5_substring_6 ?_
  refine gs_ild3 (pc := 7) dJ5_substring_7 ?_
  refine gs_S3v (pc := 8) dJ5_substring_8 kJ5_521 (by decide) (Nat.le_of_ble_eq_true rfl) (c_sbe ⟨by omega, by omega, by omega⟩ (by omega)) (fun hp1 hq => ?_)
  obtain ⟨rfl⟩ := hq
  have k1 : G X fJ5_substring 5 22 [some (vR (some a)), some (vI (i : Int)), some (vI (j : Int)), some (vI (s.length : Int)), none] [] hp (fun r hp' => ∃ v, r = some v ∧ ∃ r, v = vR (some r) ∧ newS X hp hp' r 2 (j - i + 4) ((s.drop i).take (j - i))) := by
    refine gs_ild2 (pc := 22) dJ5_substring_22 ?_
    refine gs_ild1 (pc := 23) dJ5_substring_23 ?_
    refine gs_isub (pc := 24) dJ5_substring_24 ?_
    rw [show (j : Int) - (i : Int) = ((j - i : Nat) : Int) by omega]
    refine gs_ist4 (pc := 25) dJ5_substring_25 rfl ?_
    refine gs_ald0 (pc := 27) dJ5_substring_27 ?_
    refine gs_V0 (pc := 28) dJ5_substring_28 kJ5_492 e2 clJ5 (by decide) (Nat.le_of_ble_eq_true rfl) (c_sIsLatin1 e2) (fun v hp1 hq => ?_)
    obtain ⟨rfl, rfl⟩ := hq
    refine gs_if_eq (pc := 31) (tgt := 47) dJ5_substring_31 (by decide) (by omega) (fun hn => absurd hn (by decide)) (fun _ => ?_)
    refine gs_ald0 (pc := 34) dJ5_substring_34 ?_
    refine gs_getf (pc := 35) 0 dJ5_substring_35 e2 clJ5 in_J5 (by decide) q469 (Or.inl rfl) rfl ?_
    refine gs_ild1 (pc := 38) dJ5_substring_38 ?_
    refine gs_ild4 (pc := 39) dJ5_substring_39 ?_
    refine gs_S3 (pc := 41) dJ5_substring_41 kJ5_685 (by decide) (Nat.le_of_ble_eq_true rfl) (c_newStr e4 n2 h2 (by omega) (by omega) e5 h1) (fun v hp1 hq => ?_)
    obtain ⟨r, rfl, hq⟩ := hq
    refine gs_goto (pc := 44) (tgt := 57) dJ5_substring_44 (by decide) ?_
    refine gs_aret (pc := 57) dJ5_substring_57 rfl (Or.inl ⟨_, rfl⟩) ?_
    exact ⟨_, rfl, r, rfl, hq⟩
  refine gs_ild1 (pc := 11) dJ5_substring_11 ?_
  refine gs_if_ne (pc := 12) (tgt := 22) dJ5_substring_12 (by decide) (by omega) (fun hc => ?_) (fun hc => ?_)
  · exact k1
  · refine gs_ild2 (pc := 15) dJ5_substring_15 ?_
    refine gs_ild3 (pc := 16) dJ5_substring_16 ?_
    refine gs_ic_ne (pc := 17) (tgt := 22) dJ5_substring_17 (by decide) (by omega) (fun hc => ?_) (fun hc => ?_)
    · exact k1
    · refine gs_ald0 (pc := 20) dJ5_substring_20 ?_
      refine gs_aret (pc := 21) dJ5_substring_21 rfl (Or.inl ⟨_, rfl⟩) ?_
      have hi0 : i = 0 := by omega
      have hj0 : j = s.length := by omega
      refine ⟨_, rfl, a, rfl, Fr.refl, by omega, by omega, ?_, hnc'⟩
      subst hi0
      subst hj0
      rw [List.drop_zero, Nat.sub_zero, List.take_length]
      exact ha'
end STR3
