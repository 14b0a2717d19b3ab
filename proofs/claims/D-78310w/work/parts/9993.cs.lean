/-! THE COMPONENT: a line is divided into tokens. -/
section WB
variable {tl tl' : List (List Int)} {Tl : List Tok} {T : Tok}
/-- the texts' numbers do not run ahead of the different texts that have occurred -/
def wB (tl : List (List Int)) (Tl : List Tok) : Prop := tl.length ≤ 24 + (dst (txN Tl Tl.length)).length ∧ ∀ k : Nat, k < Tl.length → (Tl.getD k tkD).2.2.2.1 < 2 → (Tl.getD k tkD).2.2.2.2 ∈ tl.take (24 + (dst (txN Tl (k + 1))).length)
theorem pre_take {m : Nat} {x : List Int} (h : tl <+: tl') (hx : x ∈ tl.take m) : x ∈ tl'.take m := by
  obtain ⟨e, rfl⟩ := h
  rw [List.take_append]
  exact List.mem_append_left _ hx
theorem wB.word (h : wB tl Tl) (hpre : tl <+: tl') (hl : tl'.length ≤ 24 + (dst (txN Tl Tl.length)).length) : wB tl' Tl := ⟨hl, fun k hk h2 => pre_take hpre (h.2 k hk h2)⟩
theorem txN_app {n : Nat} (h : n ≤ Tl.length) : txN (Tl ++ [T]) n = txN Tl n := by
  unfold txN
  rw [List.take_append_of_le_length h]
theorem tA_app {k : Nat} (h : k < Tl.length) : (Tl ++ [T]).getD k tkD = Tl.getD k tkD := by
  rw [List.getD_eq_getElem?_getD, List.getD_eq_getElem?_getD, List.getElem?_append_left h]
theorem tA_lst : (Tl ++ [T]).getD Tl.length tkD = T := by
  rw [List.getD_eq_getElem?_getD, List.getElem?_append_right (Nat.le_refl _), Nat.sub_self]
  rfl
theorem wB.app (h : wB tl Tl) (hpre : tl <+: tl') (hn : tl' = tl ∨ T.2.2.2.1 < 2 ∧ T.2.2.2.2 ∉ tl ∧ tl'.length ≤ tl.length + 1) (hm : T.2.2.2.1 < 2 → T.2.2.2.2 ∈ tl') : wB tl' (Tl ++ [T]) := by
  have hl : (Tl ++ [T]).length = Tl.length + 1 := by rw [List.length_append, List.length_singleton]
  have e1 : txN (Tl ++ [T]) (Tl.length + 1) = if T.2.2.2.1 < 2 then txN Tl Tl.length ++ [T.2.2.2.2] else txN Tl Tl.length := by
    have := txN_s (T := Tl ++ [T]) (n := Tl.length) (by omega)
    unfold tA at this
    rw [tA_lst, txN_app (Nat.le_refl _)] at this
    exact this
  have h1 : tl'.length ≤ 24 + (dst (txN (Tl ++ [T]) (Tl.length + 1))).length := by
    rw [e1]
    by_cases hk : T.2.2.2.1 < 2
    · rw [if_pos hk, dst_s]
      rcases hn with rfl | ⟨-, h2, h3⟩
      · have := h.1
        by_cases hd : T.2.2.2.2 ∈ dst (txN Tl Tl.length)
        · rw [if_pos hd]; exact this
        · rw [if_neg hd, List.length_append]; omega
      · have hnd : T.2.2.2.2 ∉ dst (txN Tl Tl.length) := by
          rw [(dst_len _).2, txN_mem _ (Nat.le_refl _)]
          rintro ⟨u, g1, g2, g3⟩
          have := h.2 u g1 g2
          unfold tA at g3
          rw [g3] at this
          exact h2 (List.mem_of_mem_take this)
        rw [if_neg hnd, List.length_append, List.length_singleton]
        have := h.1
        omega
    · rw [if_neg hk]
      rcases hn with rfl | ⟨h2, -⟩
      · exact h.1
      · exact absurd h2 hk
  refine ⟨by rw [hl]; exact h1, fun k hk h2 => ?_⟩
  by_cases hkn : k < Tl.length
  · rw [tA_app hkn] at h2 ⊢
    rw [txN_app (by omega)]
    exact pre_take hpre (h.2 k hkn h2)
  · obtain rfl : k = Tl.length := by omega
    rw [tA_lst] at h2 ⊢
    rw [List.take_of_length_le h1]
    exact hm h2
theorem wB0 (h : tl.length ≤ 24) : wB tl [] := ⟨h, fun k hk => absurd hk (Nat.not_lt_zero _)⟩
end WB
section CS
variable {X : gCx} {hp hp1 hp2 hz h h3 h4 : gHp} {S0 : Nat → Prop} {S : SS} {a c s t n p q al tx nr fa pr B D capA capT capA' capT' x : Nat} {u y : List Int} {xs us ts us' : List Nat} {tl tl' : List (List Int)} {T : Tok} {Tl : List Tok} {ff fp : Int → Int} {op wd : Int} {txo : Option Nat}
def tkCe (T : Tok) (tx : Option Nat) (wd pr st jo cl : Int) : gCe := .inr (6, [vI (T.1 : Int), vI (T.2.1 : Int), vI (T.2.2.1 : Int), vI (T.2.2.2.1 : Int), vR tx, vI wd, vI pr, vI st, vI jo, vI cl])
theorem c_tokInit {a lb : Nat} {T : Tok} {w0 : Int} {tx : Option Nat} (hl : lb ≠ 0) (ha : gl X hp a = some (lb, .inr (6, dfX6))) : M0 X yX6_init fX6_init 2 [vR (some a), vI (T.1 : Int), vI (T.2.1 : Int), vI (T.2.2.1 : Int), vI (T.2.2.2.1 : Int), vR tx, vI w0] hp (fun hp' => hp'.1 = hp.1 ∧ hp'.2.1 = hp.2.1 ∧ gl X hp' a = some (lb, tkCe T tx w0 (-9) (-9) (-9) 0) ∧ ∀ b, b ≠ a → gl X hp' b = gl X hp b) := by
  refine MC.of pfX6_init rfl (fun _ => rfl) 0 rfl rfl ?_
  have g0 := ha
  refine gs_ald0 (pc := 0) dX6_init_0 ?_
  refine gs_objInit (pc := 1) dX6_init_1 q721 q146 q147 (by decide) (Nat.le_of_ble_eq_true rfl) ?_
  refine gs_ald0 (pc := 4) dX6_init_4 ?_
  refine gs_bipush (pc := 5) dX6_init_5 rfl ?_
  refine gs_putf (pc := 7) 6 (.inr (6, [vI 0, vI 0, vI 0, vI 0, vR none, vI 0, vI (-9), vI 0, vI 0, vI 0])) dX6_init_7 g0 hl clX6 in_X6 tyX6 tyX6_ok nmX6 (by decide) q737 (Or.inl rfl) rfl (fok_int _) (Nat.le_of_ble_eq_true rfl) rfl ?_
  have g1 := gl_set_self (c := (lb, .inr (6, [vI 0, vI 0, vI 0, vI 0, vR none, vI 0, vI (-9), vI 0, vI 0, vI 0]))) g0 hl
  refine gs_ald0 (pc := 10) dX6_init_10 ?_
  refine gs_bipush (pc := 11) dX6_init_11 rfl ?_
  refine gs_putf (pc := 13) 7 (.inr (6, [vI 0, vI 0, vI 0, vI 0, vR none, vI 0, vI (-9), vI (-9), vI 0, vI 0])) dX6_init_13 g1 hl clX6 in_X6 tyX6 tyX6_ok nmX6 (by decide) q741 (Or.inl rfl) rfl (fok_int _) (Nat.le_of_ble_eq_true rfl) rfl ?_
  have g2 := gl_set_self (c := (lb, .inr (6, [vI 0, vI 0, vI 0, vI 0, vR none, vI 0, vI (-9), vI (-9), vI 0, vI 0]))) g1 hl
  refine gs_ald0 (pc := 16) dX6_init_16 ?_
  refine gs_bipush (pc := 17) dX6_init_17 rfl ?_
  refine gs_putf (pc := 19) 8 (.inr (6, [vI 0, vI 0, vI 0, vI 0, vR none, vI 0, vI (-9), vI (-9), vI (-9), vI 0])) dX6_init_19 g2 hl clX6 in_X6 tyX6 tyX6_ok nmX6 (by decide) q744 (Or.inl rfl) rfl (fok_int _) (Nat.le_of_ble_eq_true rfl) rfl ?_
  have g3 := gl_set_self (c := (lb, .inr (6, [vI 0, vI 0, vI 0, vI 0, vR none, vI 0, vI (-9), vI (-9), vI (-9), vI 0]))) g2 hl
  refine gs_ald0 (pc := 22) dX6_init_22 ?_
  refine gs_ild1 (pc := 23) dX6_init_23 ?_
  refine gs_putF (pc := 24) 0 (.inr (6, [vI (T.1 : Int), vI 0, vI 0, vI 0, vR none, vI 0, vI (-9), vI (-9), vI (-9), vI 0])) dX6_init_24 g3 hl clX6 in_X6 tyX6 tyX6_ok nmX6 (by decide) q722 (Or.inl rfl) rfl rfl rfl (fok_int _) (Nat.le_of_ble_eq_true rfl) rfl ?_
  have g4 := gl_set_self (c := (lb, .inr (6, [vI (T.1 : Int), vI 0, vI 0, vI 0, vR none, vI 0, vI (-9), vI (-9), vI (-9), vI 0]))) g3 hl
  refine gs_ald0 (pc := 27) dX6_init_27 ?_
  refine gs_ild2 (pc := 28) dX6_init_28 ?_
  refine gs_putF (pc := 29) 1 (.inr (6, [vI (T.1 : Int), vI (T.2.1 : Int), vI 0, vI 0, vR none, vI 0, vI (-9), vI (-9), vI (-9), vI 0])) dX6_init_29 g4 hl clX6 in_X6 tyX6 tyX6_ok nmX6 (by decide) q725 (Or.inl rfl) rfl rfl rfl (fok_int _) (Nat.le_of_ble_eq_true rfl) rfl ?_
  have g5 := gl_set_self (c := (lb, .inr (6, [vI (T.1 : Int), vI (T.2.1 : Int), vI 0, vI 0, vR none, vI 0, vI (-9), vI (-9), vI (-9), vI 0]))) g4 hl
  refine gs_ald0 (pc := 32) dX6_init_32 ?_
  refine gs_ild3 (pc := 33) dX6_init_33 ?_
  refine gs_putF (pc := 34) 2 (.inr (6, [vI (T.1 : Int), vI (T.2.1 : Int), vI (T.2.2.1 : Int), vI 0, vR none, vI 0, vI (-9), vI (-9), vI (-9), vI 0])) dX6_init_34 g5 hl clX6 in_X6 tyX6 tyX6_ok nmX6 (by decide) q728 (Or.inl rfl) rfl rfl rfl (fok_int _) (Nat.le_of_ble_eq_true rfl) rfl ?_
  have g6 := gl_set_self (c := (lb, .inr (6, [vI (T.1 : Int), vI (T.2.1 : Int), vI (T.2.2.1 : Int), vI 0, vR none, vI 0, vI (-9), vI (-9), vI (-9), vI 0]))) g5 hl
  refine gs_ald0 (pc := 37) dX6_init_37 ?_
  refine gs_ild4 (pc := 38) dX6_init_38 ?_
  refine gs_putF (pc := 40) 3 (.inr (6, [vI (T.1 : Int), vI (T.2.1 : Int), vI (T.2.2.1 : Int), vI (T.2.2.2.1 : Int), vR none, vI 0, vI (-9), vI (-9), vI (-9), vI 0])) dX6_init_40 g6 hl clX6 in_X6 tyX6 tyX6_ok nmX6 (by decide) q730 (Or.inl rfl) rfl rfl rfl (fok_int _) (Nat.le_of_ble_eq_true rfl) rfl ?_
  have g7 := gl_set_self (c := (lb, .inr (6, [vI (T.1 : Int), vI (T.2.1 : Int), vI (T.2.2.1 : Int), vI (T.2.2.2.1 : Int), vR none, vI 0, vI (-9), vI (-9), vI (-9), vI 0]))) g6 hl
  refine gs_ald0 (pc := 43) dX6_init_43 ?_
  refine gs_ald5 (pc := 44) dX6_init_44 ?_
  refine gs_putF (pc := 46) 4 (.inr (6, [vI (T.1 : Int), vI (T.2.1 : Int), vI (T.2.2.1 : Int), vI (T.2.2.2.1 : Int), vR tx, vI 0, vI (-9), vI (-9), vI (-9), vI 0])) dX6_init_46 g7 hl clX6 in_X6 tyX6 tyX6_ok nmX6 (by decide) q732 (Or.inl rfl) rfl rfl rfl (fok_obj _ _) (Nat.le_of_ble_eq_true rfl) rfl ?_
  have g8 := gl_set_self (c := (lb, .inr (6, [vI (T.1 : Int), vI (T.2.1 : Int), vI (T.2.2.1 : Int), vI (T.2.2.2.1 : Int), vR tx, vI 0, vI (-9), vI (-9), vI (-9), vI 0]))) g7 hl
  refine gs_ald0 (pc := 49) dX6_init_49 ?_
  refine gs_ild6 (pc := 50) dX6_init_50 ?_
  refine gs_putF (pc := 52) 5 (.inr (6, [vI (T.1 : Int), vI (T.2.1 : Int), vI (T.2.2.1 : Int), vI (T.2.2.2.1 : Int), vR tx, vI w0, vI (-9), vI (-9), vI (-9), vI 0])) dX6_init_52 g8 hl clX6 in_X6 tyX6 tyX6_ok nmX6 (by decide) q734 (Or.inl rfl) rfl rfl rfl (fok_int _) (Nat.le_of_ble_eq_true rfl) rfl ?_
  have g9 := gl_set_self (c := (lb, .inr (6, [vI (T.1 : Int), vI (T.2.1 : Int), vI (T.2.2.1 : Int), vI (T.2.2.2.1 : Int), vR tx, vI w0, vI (-9), vI (-9), vI (-9), vI 0]))) g8 hl
  refine gs_vret (pc := 55) dX6_init_55 rfl ?_
  exact ⟨rfl, rfl, rfl, g9, fun b hb => by rw [gl_set_ne hb, gl_set_ne hb, gl_set_ne hb, gl_set_ne hb, gl_set_ne hb, gl_set_ne hb, gl_set_ne hb, gl_set_ne hb, gl_set_ne hb]⟩
/-- a token's text and its number -/
def txW (X : gCx) (hp : gHp) (T : Tok) (tl : List (List Int)) (tx : Option Nat) (wd : Int) : Prop := T.2.2.2.1 < 2 ∧ (∃ c, tx = some c ∧ isS X hp c T.2.2.2.2) ∧ (∃ w : Nat, wd = (w : Int) ∧ w < tl.length ∧ tl.getD w [] = T.2.2.2.2) ∨ ¬ T.2.2.2.1 < 2 ∧ tx = none ∧ wd = -9
theorem txW.fr (h : Fr X S0 hp hp1) (hS : ∀ l, S0 l → 2 ≤ l) (hpre : tl <+: tl') (hs : txW X hp T tl txo wd) : txW X hp1 T tl' txo wd := by
  rcases hs with ⟨g1, ⟨c, g2, g3⟩, w, g4, g5, g6⟩ | g
  · obtain ⟨r, rfl⟩ := hpre
    exact Or.inl ⟨g1, ⟨c, g2, g3.fr h hS⟩, w, g4, by rw [List.length_append]; omega, by rw [getL_lo g5]; exact g6⟩
  · exact Or.inr g
def isTok0 (X : gCx) (hp : gHp) (lb x : Nat) (T : Tok) (tl : List (List Int)) : Prop := ∃ tx wd, gl X hp x = some (lb, tkCe T tx wd (-9) (-9) (-9) 0) ∧ txW X hp T tl tx wd
theorem isTok0.fr {lb : Nat} (h : Fr X S0 hp hp1) (hS : ∀ l, S0 l → 2 ≤ l) (hl : ¬ S0 lb) (hpre : tl <+: tl') (hs : isTok0 X hp lb x T tl) : isTok0 X hp1 lb x T tl' := by
  obtain ⟨tx, wd, e1, e2⟩ := hs
  exact ⟨tx, wd, h.at e1 hl, e2.fr h hS hpre⟩
theorem getT_lo {L M : List Tok} {i : Nat} (h : i < L.length) : (L ++ M).getD i tkD = L.getD i tkD := by
  rw [List.getD_eq_getElem?_getD, List.getElem?_append_left h, ← List.getD_eq_getElem?_getD]
theorem getT_at {L : List Tok} {z : Tok} : (L ++ [z]).getD L.length tkD = z := by
  rw [List.getD_eq_getElem?_getD, List.getElem?_append_right (Nat.le_refl _), Nat.sub_self]
  rfl
/-- the tokens while they are found -/
def tkP (X : gCx) (hp : gHp) (t s al tx nr fa pr : Nat) (op : Int) (ts us : List Nat) (tl : List (List Int)) (Tl : List Tok) (capA capT : Nat) (ff fp : Int → Int) (B D : Nat) : Prop := gl X hp t = some (t + 2, tkC s al tx nr fa pr op) ∧ isAL X hp al ts capA ∧ ts.length = Tl.length ∧ (∀ k : Nat, k < ts.length → isTok0 X hp (t + 2) (ts.getD k 0) (Tl.getD k tkD) tl) ∧ ts.Nodup ∧ capA ≤ 2 * ts.length + 10 ∧ txP X hp tx us tl capT ∧ gl X hp fa = some (t + 2, .inl (0, 21, .inl ff)) ∧ gl X hp pr = some (t + 2, .inl (1, 20, .inl fp)) ∧ al ≠ tx ∧ (tl.length ≤ 24 + Tl.length ∧ wB tl Tl) ∧ hp.1 ≤ B + 3 * Tl.length + capA + capT ∧ hp.2.1 ≤ D + 60 * Tl.length + 4 * capA + 4 * capT
def tkL (t al tx : Nat) (l : Nat) : Prop := l = t + 2 ∨ l = al + 2 ∨ l = tx + 2
theorem tkP.ne (hk : tkP X hp t s al tx nr fa pr op ts us tl Tl capA capT ff fp B D) : t ≠ al ∧ t ≠ tx := ⟨isO.ne ⟨_, _, hk.1⟩ hk.2.1.o (by decide), isO.ne ⟨_, _, hk.1⟩ hk.2.2.2.2.2.2.1.1.o (by decide)⟩
/-- a token is added -/
theorem tkP.add (hX : KX X) (hk : tkP X h t s al tx nr fa pr op ts us tl Tl capA capT ff fp B D) (hF : Fr X (fun l => l = tx + 2) h h3) (hx : txP X h3 tx us' tl' capT') (hpre : tl <+: tl') (hle : tl'.length ≤ tl.length + 1) (hc : gl X h3 x = some (t + 2, tkCe T txo wd (-9) (-9) (-9) 0)) (hw : txW X h3 T tl' txo wd) (hnx : nx X h ≤ x) (hcT : capT ≤ capT') (r1 : h3.1 ≤ h.1 + 3 + (capT' - capT)) (r2 : h3.2.1 ≤ h.2.1 + 60 + 4 * (capT' - capT)) (F4 : Fr X (fun l => l = al + 2) h3 h4) (hal : isAL X h4 al (ts ++ [x]) capA') (hg : alG h3 h4 ts.length capA capA') (hnw : tl' = tl ∨ T.2.2.2.1 < 2 ∧ T.2.2.2.2 ∉ tl) : tkP X h4 t s al tx nr fa pr op (ts ++ [x]) us' tl' (Tl ++ [T]) capA' capT' ff fp B D := by
  obtain ⟨n1, n2⟩ := hk.ne
  obtain ⟨e1, e2, e3, e4, e5, e6, e7, e8, e9, e10, e13, e11, e12⟩ := hk
  obtain ⟨g1, g2, g3, g4⟩ := hg
  have hFF : Fr X (fun l => l = tx + 2 ∨ l = al + 2) h h4 := (hF.mono (fun l hl => Or.inl hl)).trans (F4.mono (fun l hl => Or.inr hl))
  have h2 : ∀ l, (l = tx + 2 ∨ l = al + 2) → 2 ≤ l := fun l hl => by omega
  have hnt : ¬ (t + 2 = tx + 2 ∨ t + 2 = al + 2) := by omega
  have hl : (Tl ++ [T]).length = Tl.length + 1 := by rw [List.length_append, List.length_singleton]
  have hl2 : (ts ++ [x]).length = ts.length + 1 := by rw [List.length_append, List.length_singleton]
  refine ⟨hFF.at e1 hnt, hal, by omega, fun k hk => ?_, ?_, by omega, hx.fr hX F4 (fun l hl => by omega) (by omega), hFF.at e8 hnt, hFF.at e9 hnt, e10, ⟨by omega, e13.2.app hpre (hnw.elim Or.inl (fun g => Or.inr ⟨g.1, g.2, hle⟩)) (fun hk2 => ?_)⟩, by omega, by omega⟩
  · rw [getD_app1]
    by_cases hk2 : k < ts.length
    · rw [if_pos hk2, getT_lo (by omega)]
      exact (e4 k hk2).fr hFF h2 hnt hpre
    · rw [if_neg hk2, if_pos (by omega), show k = Tl.length by omega, getT_at]
      exact ⟨txo, wd, F4.at hc (by omega), hw.fr F4 (fun l hl => by omega) (List.prefix_refl _)⟩
  · rw [List.nodup_append]
    refine ⟨e5, by simp, fun v hv b hb => ?_⟩
    rw [List.mem_singleton] at hb
    obtain ⟨k, hk, rfl⟩ := List.getElem_of_mem hv
    obtain ⟨tx', wd', q1, -⟩ := e4 k hk
    have := gl_lt q1
    rw [List.getD_eq_getElem?_getD, List.getElem?_eq_getElem hk] at this
    have : ts[k] < nx X h := this
    omega
  · rcases hw with ⟨-, -, w, -, q2, q3⟩ | ⟨q1, -⟩
    · rw [← q3, List.getD_eq_getElem?_getD, List.getElem?_eq_getElem q2]
      exact List.getElem_mem q2
    · exact absurd hk2 q1
/-- nothing of it changes -/
theorem tkP.fr (hX : KX X) (h' : Fr X S0 hp hp1) (hS : ∀ l, S0 l → 2 ≤ l) (h1 : ¬ S0 (t + 2)) (h2 : ¬ S0 (al + 2)) (h3 : ¬ S0 (tx + 2)) (r1 : hp1.1 ≤ B + 3 * Tl.length + capA + capT) (r2 : hp1.2.1 ≤ D + 60 * Tl.length + 4 * capA + 4 * capT) (hk : tkP X hp t s al tx nr fa pr op ts us tl Tl capA capT ff fp B D) : tkP X hp1 t s al tx nr fa pr op ts us tl Tl capA capT ff fp B D := by
  obtain ⟨e1, e2, e3, e4, e5, e6, e7, e8, e9, e10, e13, e11, e12⟩ := hk
  exact ⟨h'.at e1 h1, e2.fr hX h' h2, e3, fun k hk => (e4 k hk).fr h' hS h1 (List.prefix_refl _), e5, e6, e7.fr hX h' hS h3, h'.at e8 h1, h'.at e9 h1, e10, e13, r1, r2⟩
/-- its own cells but the tokens -/
theorem tkP.own {c0 c1 : gCe} (hX : KX X) (hk : tkP X hp t s al tx nr fa pr op ts us tl Tl capA capT ff fp B D) (hc : gl X hp x = some (t + 2, c0)) (hsh : shp (t + 2, c0) (t + 2, c1)) (hn : ∀ fs, c0 ≠ .inr (6, fs)) {op' : Int} {nr' : Nat} {ff' fp' : Int → Int} (e1 : gl X (hset hp x (t + 2, c1)) t = some (t + 2, tkC s al tx nr' fa pr op')) (e8 : gl X (hset hp x (t + 2, c1)) fa = some (t + 2, .inl (0, 21, .inl ff'))) (e9 : gl X (hset hp x (t + 2, c1)) pr = some (t + 2, .inl (1, 20, .inl fp'))) : tkP X (hset hp x (t + 2, c1)) t s al tx nr' fa pr op' ts us tl Tl capA capT ff' fp' B D := by
  have hF := Fr1 (c := c1) hc (by omega) hsh
  obtain ⟨n1, n2⟩ := hk.ne
  obtain ⟨-, q2, e3, e4, e5, e6, e7, -, -, e10, e13, e11, e12⟩ := hk
  refine ⟨e1, q2.fr hX hF (by omega), e3, fun k hk => ?_, e5, e6, e7.fr hX hF (fun l hl => by omega) (by omega), e8, e9, e10, e13, e11, e12⟩
  obtain ⟨txo, wd, g1, g2⟩ := e4 k hk
  refine ⟨txo, wd, ?_, g2.fr hF (fun l hl => by omega) (List.prefix_refl _)⟩
  rw [gl_set_ne (fun e => by rw [e, hc] at g1; exact hn _ (Prod.mk.inj (Option.some.inj g1)).2)]
  exact g1
/-- what divide leaves -/
def dvP (X : gCx) (hp : gHp) (t s al tx nr fa pr : Nat) (tl : List (List Int)) (Tl' : List Tok) (op' : Bool) (ff fp' : Int → Int) (B D : Nat) (hp' : gHp) : Prop := Fr X (tkL t al tx) hp hp' ∧ ∃ ts us tl' capA capT, tl <+: tl' ∧ tkP X hp' t s al tx nr fa pr (b2i op') ts us tl' Tl' capA capT ff fp' B D
theorem isTok0.ok {lb : Nat} (h : gl X hp x = some (lb, tkCe T txo wd op op op op)) : okO X hp x := ⟨lb, 6, _, RX6, TX6, 10, h, rfl, q2810⟩
theorem tkO {lb : Nat} {o1 o2 o3 o4 : Int} (h : gl X hp x = some (lb, tkCe T txo wd o1 o2 o3 o4)) : okO X hp x := ⟨lb, 6, _, RX6, TX6, 10, h, rfl, q2810⟩
theorem c_dvLoop {i a : Nat} {cm : Int} {o1 o2 o3 o4 : AV} {fp : Int → Int} {tl0 : List (List Int)} (hX : KX X) (hcm : cm ≠ 32 ∧ i32 cm) (hx32 : y.length ≤ 32) (hxr : ∀ c ∈ y, 32 ≤ c ∧ c ≤ 126) (hi : i < 20) : ∀ (f p : Nat) (h : gHp) (tl : List (List Int)) (Tl : List Tok) (ts us : List Nat) (capA capT : Nat) (l4 l5 l6 l7 : Option AV), y.length - p ≤ f → p ≤ y.length → tkP X h t s al tx nr fa pr 0 ts us tl Tl capA capT ff fp B D → gl X h s = some (s + 2, .inr (1, [o1, o2, o3, o4, vI cm])) → isS X h a y → (y ≠ [] → isN X h a) → Fr X (tkL t al tx) hp h → tl0 <+: tl → Tl.length + (y.length - p) ≤ 640 →
    G X fX5_divide 9 43 [some (vR (some t)), some (vI (i : Int)), some (vR (some a)), some (vI (p : Int)), l4, l5, l6, l7] [] h (fun r hp' => r = none ∧ dvP X hp t s al tx nr fa pr tl0 (Tl ++ (tk cm f p (y.drop p)).1.map (mkT i y)) (tk cm f p (y.drop p)).2 ff fp B D hp') := by
  have fin : ∀ (h : gHp) (p : Nat) (l4 l5 l6 l7 : Option AV) (o : Bool) (Tl' : List Tok) (tl : List (List Int)) (ts us : List Nat) (capA capT : Nat), isS X h a y → y.length = p → tkP X h t s al tx nr fa pr (b2i o) ts us tl Tl' capA capT ff fp B D → Fr X (tkL t al tx) hp h → tl0 <+: tl → G X fX5_divide 9 43 [some (vR (some t)), some (vI (i : Int)), some (vR (some a)), some (vI (p : Int)), l4, l5, l6, l7] [] h (fun r hp' => r = none ∧ dvP X hp t s al tx nr fa pr tl0 Tl' o ff fp B D hp') := by
    intro h p l4 l5 l6 l7 o Tl' tl ts us capA capT hs hle hk hF hpre
    obtain ⟨lb, b, hh, z, es⟩ := hs.cell
    refine gs_ild3 (pc := 43) dX5_divide_43 ?_
    refine gs_ald2 (pc := 44) dX5_divide_44 ?_
    refine gs_V0 (pc := 45) dX5_divide_45 kX5_93 es clJ5 (by decide) (Nat.le_of_ble_eq_true rfl) (c_slen hs) (fun v hp1 hq => ?_)
    obtain ⟨rfl, rfl⟩ := hq
    refine gs_ic_ge (pc := 48) (tgt := 254) dX5_divide_48 (by decide) (by omega) (fun _ => ?_) (fun hn => absurd (by omega) hn)
    refine gs_vret (pc := 254) dX5_divide_254 rfl ?_
    exact ⟨rfl, hF, ts, us, tl, capA, capT, hpre, hk⟩
  intro f
  induction f with
  | zero =>
    intro p h tl Tl ts us capA capT l4 l5 l6 l7 hf hpl hk hst hs hN hF hpre hT
    rw [List.drop_eq_nil_of_le (by omega), tk_nil]
    rw [List.map_nil, List.append_nil]
    exact fin h p l4 l5 l6 l7 false Tl tl ts us capA capT hs (by omega) hk hF hpre
  | succ f ih =>
    intro p h tl Tl ts us capA capT l4 l5 l6 l7 hf hpl hk hst hs hN hF hpre hT
    by_cases hpy : y.length ≤ p
    · rw [List.drop_eq_nil_of_le hpy, tk_nil]
      rw [List.map_nil, List.append_nil]
      exact fin h p l4 l5 l6 l7 false Tl tl ts us capA capT hs (by omega) hk hF hpre
    have hyn : y ≠ [] := fun e => hpy (by rw [e]; exact Nat.zero_le _)
    have hk' := hk
    obtain ⟨n1, n2⟩ := hk.ne
    obtain ⟨e1, e2, e3, e4, e5, e6, e7, e8, e9, e10, e13, e11, e12⟩ := hk'
    have hcr := getD_rng (k := p) hxr
    have hcr : 32 ≤ y.getD p (-9) ∧ y.getD p (-9) ≤ 126 := by omega
    have hg9 : y.getD p 0 = y.getD p (-9) := by rw [getD_in (by omega), getD_in (by omega)]
    obtain ⟨lb, b, hh, z, es⟩ := hs.cell
    have hst2 : s ≠ t ∧ s ≠ al ∧ s ≠ tx := ⟨isO.ne ⟨_, _, hst⟩ ⟨_, _, e1⟩ (by decide), isO.ne ⟨_, _, hst⟩ e2.o (by decide), isO.ne ⟨_, _, hst⟩ e7.1.o (by decide)⟩
    obtain ⟨mca, ea, lba, ffa, eal, -⟩ := e2
    have e2 := hk.2.1
    have hL2 : ∀ l, tkL t al tx l → 2 ≤ l := fun l hl => by unfold tkL at hl; omega
    /- a token has been made and added -/
    have fr3 : ∀ {h4 : gHp}, Fr X (tkL t al tx) h h4 → gl X h4 s = some (s + 2, .inr (1, [o1, o2, o3, o4, vI cm])) ∧ isS X h4 a y ∧ (y ≠ [] → isN X h4 a) ∧ Fr X (tkL t al tx) hp h4 := fun g => ⟨g.at hst (by unfold tkL; omega), hs.fr g hL2, fun hh => (hN hh).fr g hL2, hF.trans g⟩
    have qn : ∀ (e : Nat), p < e → e ≤ y.length → (Tl ++ [((i, p, e - p, 2, []) : Tok)]).length + (y.length - e) ≤ 640 := fun e h1 h2 => by rw [List.length_append, List.length_singleton]; omega
    have qa : ∀ (h : gHp) (e : Nat) (o : Int) (l6 l7 : Option AV) (Q : Option AV → gHp → Prop), tkP X h t s al tx nr fa pr o ts us tl Tl capA capT ff fp B D → p < e → e ≤ y.length → (∀ h5 ts' capA', tkP X h5 t s al tx nr fa pr o ts' us tl (Tl ++ [(i, p, e - p, 2, [])]) capA' capT ff fp B D → Fr X (tkL t al tx) h h5 → G X fX5_divide 9 43 [some (vR (some t)), some (vI (i : Int)), some (vR (some a)), some (vI (e : Int)), some (vI (y.getD p (-9))), some (vI (e : Int)), l6, l7] [] h5 Q) → G X fX5_divide 9 99 [some (vR (some t)), some (vI (i : Int)), some (vR (some a)), some (vI (p : Int)), some (vI (y.getD p (-9))), some (vI (e : Int)), l6, l7] [] h Q := by
      intro h e o l6 l7 Q hk hpe hel kk
      obtain ⟨n1, n2⟩ := hk.ne
      have hk' := hk
      obtain ⟨e1, e2, e3, e4, e5, e6, e7, e8, e9, e10, e13, e11, e12⟩ := hk'
      refine gs_ald0 (pc := 99) dX5_divide_99 ?_
      refine gs_getf (pc := 100) 1 dX5_divide_100 e1 clX5 in_X5 (by decide) q1440 (Or.inl rfl) rfl ?_
      refine gs_new (pc := 103) (t + 2) dfX6 dX5_divide_103 clX6 in_X6 tyX6 tyX6_ok q716 q717 q116 dfoX6 ?_
      have u1 : gl X (hnew X h 10 (t + 2, .inr (6, dfX6))) (nx X h) = some (t + 2, .inr (6, dfX6)) := gl_new_self
      have u2 : Fr X (fun _ => False) h (hnew X h 10 (t + 2, .inr (6, dfX6))) := Fr.new Fr.refl
      have u3 : (hnew X h 10 (t + 2, .inr (6, dfX6))).1 = h.1 + 1 ∧ (hnew X h 10 (t + 2, .inr (6, dfX6))).2.1 = h.2.1 + 10 := ⟨rfl, rfl⟩
      generalize hnew X h 10 (t + 2, Sum.inr (6, dfX6)) = h1 at *
      refine gs_dup (pc := 106) dX5_divide_106 rfl ?_
      refine gs_ild1 (pc := 107) dX5_divide_107 ?_
      refine gs_ild3 (pc := 108) dX5_divide_108 ?_
      refine gs_ild5 (pc := 109) dX5_divide_109 ?_
      refine gs_ild3 (pc := 111) dX5_divide_111 ?_
      refine gs_isub (pc := 112) dX5_divide_112 ?_
      rw [show (e : Int) - (p : Int) = ((e - p : Nat) : Int) by omega]
      refine gs_iconst (pc := 113) dX5_divide_113 ?_
      refine gs_null (pc := 114) dX5_divide_114 ?_
      refine gs_bipush (pc := 115) dX5_divide_115 rfl ?_
      refine gs_I6v (pc := 117) dX5_divide_117 kX5_129 (by decide) (Nat.le_of_ble_eq_true rfl) (c_tokInit (T := (i, p, e - p, 2, [])) (by omega) u1) (fun h2 hq => ?_)
      obtain ⟨i1, i2, i3, i4⟩ := hq
      have F02 : Fr X (fun _ => False) h h2 := Fr_ne1 u2 (Nat.le_refl _) i1 i2 i4
      have al2 := e2.fr hX F02 (fun h => h)
      have al2' := al2
      obtain ⟨mc2, eb, lb2, ff2, ea2, -⟩ := al2'
      refine gs_V1 (pc := 120) dX5_divide_120 kX5_88 ea2 clJ2 (by decide) (Nat.le_of_ble_eq_true rfl) (c_alAdd hX al2 (by omega) (tkO i3)) (fun v h3 hq => ?_)
      obtain ⟨rfl, r1, capA', hg, r6⟩ := hq
      refine gs_pop (pc := 123) dX5_divide_123 rfl ?_
      refine gs_goto (pc := 124) (tgt := 248) dX5_divide_124 (by decide) ?_
      refine gs_ild5 (pc := 248) dX5_divide_248 ?_
      refine gs_ist3 (pc := 250) dX5_divide_250 rfl ?_
      refine gs_goto (pc := 251) (tgt := 43) dX5_divide_251 (by decide) ?_
      exact kk h3 _ _ (hk.add hX F02.of0 (e7.fr hX F02 (fun _ h => h.elim) (fun h => h)) (List.prefix_refl _) (by omega) i3 (Or.inr ⟨Nat.lt_irrefl 2, rfl, rfl⟩) (Nat.le_refl _) (Nat.le_refl _) (by omega) (by omega) r1 r6 hg (Or.inl rfl)) ((Fr.of0 F02).trans (r1.mono (fun l hl => Or.inr (Or.inl hl))))
    have qb : ∀ (h : gHp) (e : Nat) (o : Int) (l6 l7 : Option AV) (Q : Option AV → gHp → Prop), tkP X h t s al tx nr fa pr o ts us tl Tl capA capT ff fp B D → p < e → e ≤ y.length → (∀ h5 ts' capA', tkP X h5 t s al tx nr fa pr o ts' us tl (Tl ++ [(i, p, e - p, 2, [])]) capA' capT ff fp B D → Fr X (tkL t al tx) h h5 → G X fX5_divide 9 43 [some (vR (some t)), some (vI (i : Int)), some (vR (some a)), some (vI (e : Int)), some (vI (y.getD p (-9))), some (vI (e : Int)), l6, l7] [] h5 Q) → G X fX5_divide 9 141 [some (vR (some t)), some (vI (i : Int)), some (vR (some a)), some (vI (p : Int)), some (vI (y.getD p (-9))), some (vI (e : Int)), l6, l7] [] h Q := by
      intro h e o l6 l7 Q hk hpe hel kk
      obtain ⟨n1, n2⟩ := hk.ne
      have hk' := hk
      obtain ⟨e1, e2, e3, e4, e5, e6, e7, e8, e9, e10, e13, e11, e12⟩ := hk'
      refine gs_ald0 (pc := 141) dX5_divide_141 ?_
      refine gs_getf (pc := 142) 1 dX5_divide_142 e1 clX5 in_X5 (by decide) q1440 (Or.inl rfl) rfl ?_
      refine gs_new (pc := 145) (t + 2) dfX6 dX5_divide_145 clX6 in_X6 tyX6 tyX6_ok q716 q717 q116 dfoX6 ?_
      have u1 : gl X (hnew X h 10 (t + 2, .inr (6, dfX6))) (nx X h) = some (t + 2, .inr (6, dfX6)) := gl_new_self
      have u2 : Fr X (fun _ => False) h (hnew X h 10 (t + 2, .inr (6, dfX6))) := Fr.new Fr.refl
      have u3 : (hnew X h 10 (t + 2, .inr (6, dfX6))).1 = h.1 + 1 ∧ (hnew X h 10 (t + 2, .inr (6, dfX6))).2.1 = h.2.1 + 10 := ⟨rfl, rfl⟩
      generalize hnew X h 10 (t + 2, Sum.inr (6, dfX6)) = h1 at *
      refine gs_dup (pc := 148) dX5_divide_148 rfl ?_
      refine gs_ild1 (pc := 149) dX5_divide_149 ?_
      refine gs_ild3 (pc := 150) dX5_divide_150 ?_
      refine gs_ild5 (pc := 151) dX5_divide_151 ?_
      refine gs_ild3 (pc := 153) dX5_divide_153 ?_
      refine gs_isub (pc := 154) dX5_divide_154 ?_
      rw [show (e : Int) - (p : Int) = ((e - p : Nat) : Int) by omega]
      refine gs_iconst (pc := 155) dX5_divide_155 ?_
      refine gs_null (pc := 156) dX5_divide_156 ?_
      refine gs_bipush (pc := 157) dX5_divide_157 rfl ?_
      refine gs_I6v (pc := 159) dX5_divide_159 kX5_129 (by decide) (Nat.le_of_ble_eq_true rfl) (c_tokInit (T := (i, p, e - p, 2, [])) (by omega) u1) (fun h2 hq => ?_)
      obtain ⟨i1, i2, i3, i4⟩ := hq
      have F02 : Fr X (fun _ => False) h h2 := Fr_ne1 u2 (Nat.le_refl _) i1 i2 i4
      have al2 := e2.fr hX F02 (fun h => h)
      have al2' := al2
      obtain ⟨mc2, eb, lb2, ff2, ea2, -⟩ := al2'
      refine gs_V1 (pc := 162) dX5_divide_162 kX5_88 ea2 clJ2 (by decide) (Nat.le_of_ble_eq_true rfl) (c_alAdd hX al2 (by omega) (tkO i3)) (fun v h3 hq => ?_)
      obtain ⟨rfl, r1, capA', hg, r6⟩ := hq
      refine gs_pop (pc := 165) dX5_divide_165 rfl ?_
      refine gs_goto (pc := 166) (tgt := 248) dX5_divide_166 (by decide) ?_
      refine gs_ild5 (pc := 248) dX5_divide_248 ?_
      refine gs_ist3 (pc := 250) dX5_divide_250 rfl ?_
      refine gs_goto (pc := 251) (tgt := 43) dX5_divide_251 (by decide) ?_
      exact kk h3 _ _ (hk.add hX F02.of0 (e7.fr hX F02 (fun _ h => h.elim) (fun h => h)) (List.prefix_refl _) (by omega) i3 (Or.inr ⟨Nat.lt_irrefl 2, rfl, rfl⟩) (Nat.le_refl _) (Nat.le_refl _) (by omega) (by omega) r1 r6 hg (Or.inl rfl)) ((Fr.of0 F02).trans (r1.mono (fun l hl => Or.inr (Or.inl hl))))
    have wk : ∀ (e kd : Nat) (b : Bool) (l7 : Option AV), p < e → e ≤ y.length → kd = (if b then 0 else 1) → tk cm (f + 1) p (y.drop p) = ((p, e - p, kd) :: (tk cm f e (y.drop e)).1, (tk cm f e (y.drop e)).2) → G X fX5_divide 9 198 [some (vR (some t)), some (vI (i : Int)), some (vR (some a)), some (vI (p : Int)), some (vI (y.getD p (-9))), some (vI ((p : Int) + 1)), some (vI (b2i b)), l7] [vI (e : Int)] h (fun r hp' => r = none ∧ dvP X hp t s al tx nr fa pr tl0 (Tl ++ (tk cm (f + 1) p (y.drop p)).1.map (mkT i y)) (tk cm (f + 1) p (y.drop p)).2 ff fp B D hp') := by
      intro e kd b l7 hpe hel hkd htk
      rw [htk]
      have hkd2 : kd < 2 := by cases b <;> simp_all
      have hmk : mkT i y (p, e - p, kd) = (i, p, e - p, kd, (y.drop p).take (e - p)) := by unfold mkT; rw [if_pos hkd2]
      refine gs_ist5 (pc := 198) dX5_divide_198 rfl ?_
      refine gs_ald2 (pc := 200) dX5_divide_200 ?_
      refine gs_ild3 (pc := 201) dX5_divide_201 ?_
      refine gs_ild5 (pc := 202) dX5_divide_202 ?_
      refine gs_V2 (pc := 204) dX5_divide_204 kX5_138 es clJ5 (by decide) (Nat.le_of_ble_eq_true rfl) (c_sub hs (hN hyn) hpe hel) (fun v h1 hq => ?_)
      obtain ⟨r, rfl, t1, t2, t3, t4, t5⟩ := hq
      have f1 := t1.at e1 (fun h => h)
      refine gs_ast7 (pc := 207) dX5_divide_207 rfl ?_
      refine gs_ald0 (pc := 209) dX5_divide_209 ?_
      refine gs_getf (pc := 210) 1 dX5_divide_210 f1 clX5 in_X5 (by decide) q1440 (Or.inl rfl) rfl ?_
      refine gs_new (pc := 213) (t + 2) dfX6 dX5_divide_213 clX6 in_X6 tyX6 tyX6_ok q716 q717 q116 dfoX6 ?_
      have u1 : gl X (hnew X h1 10 (t + 2, .inr (6, dfX6))) (nx X h1) = some (t + 2, .inr (6, dfX6)) := gl_new_self
      have u2 : Fr X (fun _ => False) h1 (hnew X h1 10 (t + 2, .inr (6, dfX6))) := Fr.new Fr.refl
      have u3 : (hnew X h1 10 (t + 2, .inr (6, dfX6))).1 = h1.1 + 1 ∧ (hnew X h1 10 (t + 2, .inr (6, dfX6))).2.1 = h1.2.1 + 10 := ⟨rfl, rfl⟩
      have hnx : nx X h ≤ nx X h1 := t1.nx
      generalize hnew X h1 10 (t + 2, Sum.inr (6, dfX6)) = h2 at *
      have f2 := u2.at f1 (fun h => h)
      have F02 := t1.trans u2
      have x2 := e7.fr hX F02 (fun _ h => h.elim) (fun h => h)
      have s2 := t4.fr u2 (fun _ h => h.elim)
      have w2 : G X fX5_divide 9 233 [some (vR (some t)), some (vI (i : Int)), some (vR (some a)), some (vI (p : Int)), some (vI (y.getD p (-9))), some (vI (e : Int)), some (vI (b2i b)), some (vR (some r))] [vI (kd : Int), vI ((e : Int) - (p : Int)), vI (p : Int), vI (i : Int), vR (some (nx X h1)), vR (some (nx X h1)), vR (some al)] h2 (fun r hp' => r = none ∧ dvP X hp t s al tx nr fa pr tl0 (Tl ++ ((p, e - p, kd) :: (tk cm f e (y.drop e)).1).map (mkT i y)) (tk cm f e (y.drop e)).2 ff fp B D hp') := by
        rw [show (e : Int) - (p : Int) = ((e - p : Nat) : Int) by omega]
        refine gs_ald7 (pc := 233) dX5_divide_233 ?_
        refine gs_ald0 (pc := 235) dX5_divide_235 ?_
        refine gs_ald7 (pc := 236) dX5_divide_236 ?_
        refine gs_V1 (pc := 238) dX5_divide_238 kX5_45 f2 clX5 (by decide) (Nat.le_of_ble_eq_true rfl) (c_wordOf hX s2 f2 x2 (by omega)) (fun v h3 hq => ?_)
        obtain ⟨w, rfl, us', tl', capT', v1, v2, v3, v4, v5, v6, v7, v8, v9, v10, -⟩ := hq
        have u4 := v6.at u1 (by omega)
        refine gs_I6v (pc := 241) dX5_divide_241 kX5_129 (by decide) (Nat.le_of_ble_eq_true rfl) (c_tokInit (T := (i, p, e - p, kd, (y.drop p).take (e - p))) (by omega) u4) (fun h4 hq => ?_)
        obtain ⟨i1, i2, i3, i4⟩ := hq
        have F03 : Fr X (fun l => l = tx + 2) h h3 := (Fr.of0 F02).trans v6
        have F04 : Fr X (fun l => l = tx + 2) h h4 := Fr_ne1 F03 hnx i1 i2 i4
        have F34 : Fr X (fun l => l = t + 2) h3 h4 := ln_fr u4 i1 i2 i3 i4
        have al4 := e2.fr hX F04 (by omega)
        have al4' := al4
        obtain ⟨mc2, eb, lb2, ff2, ea2, -⟩ := al4'
        refine gs_V1 (pc := 244) dX5_divide_244 kX5_88 ea2 clJ2 (by decide) (Nat.le_of_ble_eq_true rfl) (c_alAdd hX al4 (by omega) (tkO i3)) (fun v h5 hq => ?_)
        obtain ⟨rfl, r1, capA', hg, r6⟩ := hq
        refine gs_pop (pc := 247) dX5_divide_247 rfl ?_
        refine gs_ild5 (pc := 248) dX5_divide_248 ?_
        refine gs_ist3 (pc := 250) dX5_divide_250 rfl ?_
        refine gs_goto (pc := 251) (tgt := 43) dX5_divide_251 (by decide) ?_
        have hk5 := hk.add hX F04 (v1.fr hX F34 (fun l hl => by omega) (by omega)) v2 v3 i3 (Or.inl ⟨hkd2, ⟨r, rfl, (s2.fr v6 (fun l hl => by omega)).fr F34 (fun l hl => by omega)⟩, w, rfl, v4, v5⟩) hnx v7 (by omega) (by omega) r1 r6 hg ((Classical.em ((y.drop p).take (e - p) ∈ tl)).elim (fun g => Or.inl (v10 g).1) (fun g => Or.inr ⟨hkd2, g⟩))
        have F05 : Fr X (tkL t al tx) h h5 := (F04.mono (fun l hl => Or.inr (Or.inr hl))).trans (r1.mono (fun l hl => Or.inr (Or.inl hl)))
        obtain ⟨g1, g2, g3, g4⟩ := fr3 F05
        have hfin := ih e h5 tl' _ _ _ _ _ (some (vI (y.getD p (-9)))) (some (vI (e : Int))) (some (vI (b2i b))) (some (vR (some r))) (by omega) hel hk5 g1 g2 g3 g4 (hpre.trans v2) (by rw [List.length_append, List.length_singleton]; omega)
        rw [List.map_cons, hmk, ← List.singleton_append (l := List.map _ _), ← List.append_assoc]
        exact hfin
      cases b with
      | true =>
        obtain rfl : kd = 0 := by simpa using hkd
        refine gs_dup (pc := 216) dX5_divide_216 rfl ?_
        refine gs_ild1 (pc := 217) dX5_divide_217 ?_
        refine gs_ild3 (pc := 218) dX5_divide_218 ?_
        refine gs_ild5 (pc := 219) dX5_divide_219 ?_
        refine gs_ild3 (pc := 221) dX5_divide_221 ?_
        refine gs_isub (pc := 222) dX5_divide_222 ?_
        refine gs_ild6 (pc := 223) dX5_divide_223 ?_
        refine gs_beq (pc := 225) (tgt := 232) dX5_divide_225 (by decide) (fun hn => absurd ((rfl : _ = true).symm.trans hn) (by decide)) (fun _ => ?_)
        refine gs_iconst (pc := 228) dX5_divide_228 ?_
        refine gs_goto (pc := 229) (tgt := 233) dX5_divide_229 (by decide) ?_
        exact w2
      | false =>
        obtain rfl : kd = 1 := by simpa using hkd
        refine gs_dup (pc := 216) dX5_divide_216 rfl ?_
        refine gs_ild1 (pc := 217) dX5_divide_217 ?_
        refine gs_ild3 (pc := 218) dX5_divide_218 ?_
        refine gs_ild5 (pc := 219) dX5_divide_219 ?_
        refine gs_ild3 (pc := 221) dX5_divide_221 ?_
        refine gs_isub (pc := 222) dX5_divide_222 ?_
        refine gs_ild6 (pc := 223) dX5_divide_223 ?_
        refine gs_beq (pc := 225) (tgt := 232) dX5_divide_225 (by decide) (fun _ => ?_) (fun hn => absurd ((rfl : _ = false).symm.trans hn) (by decide))
        refine gs_iconst (pc := 232) dX5_divide_232 ?_
        exact w2
    refine gs_ild3 (pc := 43) dX5_divide_43 ?_
    refine gs_ald2 (pc := 44) dX5_divide_44 ?_
    refine gs_V0 (pc := 45) dX5_divide_45 kX5_93 es clJ5 (by decide) (Nat.le_of_ble_eq_true rfl) (c_slen hs) (fun v hp1 hq => ?_)
    obtain ⟨rfl, rfl⟩ := hq
    refine gs_ic_ge (pc := 48) (tgt := 254) dX5_divide_48 (by decide) (by omega) (fun hn => absurd hn (by omega)) (fun _ => ?_)
    refine gs_ald2 (pc := 51) dX5_divide_51 ?_
    refine gs_ild3 (pc := 52) dX5_divide_52 ?_
    refine gs_V1 (pc := 53) dX5_divide_53 kX5_96 es clJ5 (by decide) (Nat.le_of_ble_eq_true rfl) (c_char hs (i := p) (by omega)) (fun v hp1 hq => ?_)
    obtain ⟨rfl, rfl⟩ := hq
    refine gs_ist4 (pc := 56) dX5_divide_56 rfl ?_
    refine gs_ild3 (pc := 58) dX5_divide_58 ?_
    refine gs_iconst (pc := 59) dX5_divide_59 ?_
    refine gs_iadd (pc := 60) dX5_divide_60 ?_
    refine gs_ist5 (pc := 61) dX5_divide_61 rfl ?_
    rw [hg9]
    refine gs_ild4 (pc := 63) dX5_divide_63 ?_
    refine gs_ald0 (pc := 65) dX5_divide_65 ?_
    refine gs_getf (pc := 66) 0 dX5_divide_66 e1 clX5 in_X5 (by decide) q1439 (Or.inl rfl) rfl ?_
    refine gs_getfN (pc := 69) 4 dX5_divide_69 hst clX1 in_X1 (by decide) q195 (Or.inl rfl) rfl ?_
    refine gs_ic_ne (pc := 72) (tgt := 76) dX5_divide_72 (by decide) (by omega) (fun hc1 => ?_) (fun hc1 => ?_)
    rotate_left
    · refine gs_vret (pc := 75) dX5_divide_75 rfl ?_
      rw [tk_cm (by omega) (by omega) hc1]
      rw [List.map_nil, List.append_nil]
      exact ⟨rfl, hF, ts, us, tl, capA, capT, hpre, hk⟩
    refine gs_ald2 (pc := 76) dX5_divide_76 ?_
    refine gs_ild3 (pc := 77) dX5_divide_77 ?_
    refine gs_S2 (pc := 78) dX5_divide_78 kX5_100 (by decide) (Nat.le_of_ble_eq_true rfl) (c_isLiteral hs (by omega)) (fun v hp1 hq => ?_)
    obtain ⟨rfl, rfl⟩ := hq
    refine gs_beq (pc := 81) (tgt := 127) dX5_divide_81 (by decide) (fun hlit => ?_) (fun hlit => ?_)
    rotate_left
    · have hp3 : p + 3 ≤ y.length := by
        rw [trip_drp, decide_eq_true_eq] at hlit
        have := hlit.2.2
        by_cases hq : p + 2 < y.length
        · omega
        · rw [getD_out (by omega)] at this; cases this
      have h32 : y.getD p (-9) ≠ 32 := by
        rw [trip_drp, decide_eq_true_eq] at hlit
        have := hlit.1
        omega
      have own : ∀ (h : gHp) (o o' : Int), tkP X h t s al tx nr fa pr o ts us tl Tl capA capT ff fp B D → tkP X (hset h t (t + 2, tkC s al tx nr fa pr o')) t s al tx nr fa pr o' ts us tl Tl capA capT ff fp B D ∧ Fr X (tkL t al tx) h (hset h t (t + 2, tkC s al tx nr fa pr o')) := by
        intro h o o' hk
        obtain ⟨e1, e2, e3, e4, e5, e6, e7, e8, e9, e10, e13, e11, e12⟩ := id hk
        refine ⟨hk.own (c1 := tkC s al tx nr fa pr o') hX e1 ⟨rfl, rfl⟩ (fun fs hh => ?_) (gl_set_self e1 (by omega)) ?_ ?_, (Fr1 (c := tkC s al tx nr fa pr o') e1 (by omega) ⟨rfl, rfl⟩).mono (fun l hl => Or.inl hl)⟩
        · have := (Prod.mk.inj (Sum.inr.inj hh)).1
          omega
        · rw [gl_set_ne (fun e => by rw [e, e1] at e8; cases e8)]; exact e8
        · rw [gl_set_ne (fun e => by rw [e, e1] at e9; cases e9)]; exact e9
      obtain ⟨hk1, F1⟩ := own h 0 1 hk
      refine gs_ald0 (pc := 84) dX5_divide_84 ?_
      refine gs_iconst (pc := 85) dX5_divide_85 ?_
      refine gs_putf (pc := 86) 6 (tkC s al tx nr fa pr 1) dX5_divide_86 e1 (by omega) clX5 in_X5 tyX5 tyX5_ok nmX5 (by decide) q1452 (Or.inl rfl) rfl (fok_bool (Or.inr rfl)) (Nat.le_of_ble_eq_true rfl) rfl ?_
      generalize hset h t (t + 2, tkC s al tx nr fa pr 1) = h1 at *
      have f1 := hk1.1
      obtain ⟨g1, g2, g3, g4⟩ := fr3 F1
      refine gs_ald0 (pc := 89) dX5_divide_89 ?_
      refine gs_ald2 (pc := 90) dX5_divide_90 ?_
      refine gs_ild3 (pc := 91) dX5_divide_91 ?_
      refine gs_iconst (pc := 92) dX5_divide_92 ?_
      refine gs_iadd (pc := 93) dX5_divide_93 ?_
      rw [show (p : Int) + 3 = ((p + 3 : Nat) : Int) by omega]
      refine gs_V2 (pc := 94) dX5_divide_94 kX5_122 f1 clX5 (by decide) (Nat.le_of_ble_eq_true rfl) (c_literalEnd g2 f1 hp3) (fun v h2 hq => ?_)
      rcases hq with ⟨n, l1, rfl, rfl⟩ | ⟨l1, rfl, rfl⟩
      · refine gs_ist5 (pc := 97) dX5_divide_97 rfl ?_
        have hnl := (litS_le _ _ l1).2
        rw [List.length_drop] at hnl
        obtain ⟨hk2, F2⟩ := own h1 1 0 hk1
        rw [tk_lit (by omega) h32 hc1 hlit l1]
        refine qa _ (p + 3 + n) 0 l6 l7 _ hk2 (by omega) (by omega) (fun h5 ts' capA' hk5 F5 => ?_)
        obtain ⟨g1, g2, g3, g4⟩ := fr3 (F1.trans (F2.trans F5))
        have hfin := ih (p + 3 + n) h5 tl _ _ _ _ _ (some (vI (y.getD p (-9)))) (some (vI ((p + 3 + n : Nat) : Int))) l6 l7 (by omega) (by omega) hk5 g1 g2 g3 g4 hpre (qn _ (by omega) (by omega))
        rw [show p + 3 + n - p = 3 + n by omega] at hfin
        rw [List.map_cons, ← List.singleton_append (l := List.map _ _), ← List.append_assoc]
        exact hfin
      · refine gs_ist5 (pc := 97) dX5_divide_97 rfl ?_
        rw [tk_litN (by omega) h32 hc1 hlit l1]
        refine qa _ y.length 1 l6 l7 _ hk1 (by omega) (by omega) (fun h5 ts' capA' hk5 F5 => ?_)
        obtain ⟨g1, g2, g3, g4⟩ := fr3 (F1.trans F5)
        exact fin h5 y.length _ _ _ _ true _ tl _ _ _ _ g2 rfl hk5 g4 hpre
    by_cases h34 : y.getD p (-9) = 34
    · refine gs_ild4 (pc := 127) dX5_divide_127 ?_
      refine gs_bipush (pc := 129) dX5_divide_129 rfl ?_
      refine gs_ic_ne (pc := 131) (tgt := 169) dX5_divide_131 (by decide) (by omega) (fun hn => absurd h34 hn) (fun _ => ?_)
      refine gs_ald2 (pc := 134) dX5_divide_134 ?_
      refine gs_ild3 (pc := 135) dX5_divide_135 ?_
      refine gs_S2 (pc := 136) dX5_divide_136 kX5_132 (by decide) (Nat.le_of_ble_eq_true rfl) (c_stringEnd hs (by omega)) (fun v hp1 hq => ?_)
      obtain ⟨rfl, rfl⟩ := hq
      refine gs_ist5 (pc := 139) dX5_divide_139 rfl ?_
      have hsl := strS_le _ (y.drop (p + 1)) (Nat.le_refl _)
      rw [List.length_drop] at hsl
      rw [tk_str (by omega) hc1 hlit h34]
      refine qb _ (p + 1 + strS (y.drop (p + 1))) 0 l6 l7 _ hk (by omega) (by omega) (fun h5 ts' capA' hk5 F5 => ?_)
      obtain ⟨g1, g2, g3, g4⟩ := fr3 F5
      have hfin := ih (p + 1 + strS (y.drop (p + 1))) h5 tl _ _ _ _ _ (some (vI (y.getD p (-9)))) (some (vI ((p + 1 + strS (y.drop (p + 1)) : Nat) : Int))) l6 l7 (by omega) (by omega) hk5 g1 g2 g3 g4 hpre (qn _ (by omega) (by omega))
      rw [show p + 1 + strS (y.drop (p + 1)) - p = 1 + strS (y.drop (p + 1)) by omega] at hfin
      rw [List.map_cons, ← List.singleton_append (l := List.map _ _), ← List.append_assoc]
      exact hfin
    refine gs_ild4 (pc := 127) dX5_divide_127 ?_
    refine gs_bipush (pc := 129) dX5_divide_129 rfl ?_
    refine gs_ic_ne (pc := 131) (tgt := 169) dX5_divide_131 (by decide) (by omega) (fun _ => ?_) (fun hn => absurd hn h34)
    refine gs_ild4 (pc := 169) dX5_divide_169 ?_
    refine gs_bipush (pc := 171) dX5_divide_171 rfl ?_
    refine gs_ic_eq (pc := 173) (tgt := 248) dX5_divide_173 (by decide) (by omega) (fun h32 => ?_) (fun h32 => ?_)
    · refine gs_ild5 (pc := 248) dX5_divide_248 ?_
      refine gs_ist3 (pc := 250) dX5_divide_250 rfl ?_
      refine gs_goto (pc := 251) (tgt := 43) dX5_divide_251 (by decide) ?_
      rw [tk_sp (by omega) h32, show (p : Int) + 1 = ((p + 1 : Nat) : Int) by omega]
      exact ih (p + 1) h tl Tl ts us capA capT _ _ _ _ (by omega) (by omega) hk hst hs hN hF hpre (by omega)
    refine gs_ild4 (pc := 176) dX5_divide_176 ?_
    refine gs_SN1 (pc := 178) dX5_divide_178 kX5_114 (by decide) (Nat.le_of_ble_eq_true rfl) (c_isWordByte (by omega)) (fun v hp1 hq => ?_)
    obtain ⟨rfl, rfl⟩ := hq
    refine gs_ist6 (pc := 181) dX5_divide_181 rfl ?_
    refine gs_ild6 (pc := 183) dX5_divide_183 ?_
    refine gs_beq (pc := 185) (tgt := 196) dX5_divide_185 (by decide) (fun hw => ?_) (fun hw => ?_)
    · refine gs_ild5 (pc := 196) dX5_divide_196 ?_
      rw [hw]
      rw [show vI ((p : Int) + 1) :: [] = [vI ((p + 1 : Nat) : Int)] by rw [show (p : Int) + 1 = ((p + 1 : Nat) : Int) by omega]]
      exact wk (p + 1) 1 false l7 (by omega) (by omega) rfl (by rw [tk_sgn (by omega) h32 hc1 hlit h34 hw, show p + 1 - p = 1 by omega])
    · refine gs_ald2 (pc := 188) dX5_divide_188 ?_
      refine gs_ild3 (pc := 189) dX5_divide_189 ?_
      refine gs_S2 (pc := 190) dX5_divide_190 kX5_135 (by decide) (Nat.le_of_ble_eq_true rfl) (c_wordEnd hs (by omega)) (fun v hp1 hq => ?_)
      obtain ⟨rfl, rfl⟩ := hq
      refine gs_goto (pc := 193) (tgt := 198) dX5_divide_193 (by decide) ?_
      rw [hw]
      have hwl := wrdS_le (y.drop (p + 1))
      rw [List.length_drop] at hwl
      have ew := wrdS_next hw
      rw [ew]
      exact wk (p + (1 + wrdS (y.drop (p + 1)))) 0 true l7 (by omega) (by omega) rfl (by rw [tk_wrd (by omega) hc1 hlit h34 hw, show p + (1 + wrdS (y.drop (p + 1))) - p = 1 + wrdS (y.drop (p + 1)) by omega, Nat.add_assoc])
end CS
