/-! THE MODEL: its heap as a function of what it holds; rows for it. Printed by tool/genmm.py. -/
section MM
/-- scalars by field, arrays by number, the hash -/
abbrev MS : Type := (Nat → Int) × (Nat → Int → Int) × Int64
abbrev mfl (a : Nat) (M : MS) : List AV := [vR (some (a + 1)), vI (M.1 1), vR (some (a + 2)), vR (some (a + 3)), vI (M.1 4), vR (some (a + 4)), vR (some (a + 5)), vR (some (a + 6)), vR (some (a + 7)), vR (some (a + 8)), vR (some (a + 9)), vR (some (a + 10)), vI (M.1 12), vR (some (a + 11)), vR (some (a + 12)), vR (some (a + 13)), vR (some (a + 14)), vR (some (a + 15)), vI (M.1 18), vI (M.1 19), vI (M.1 20), vR (some (a + 16)), vI (M.1 22), vI (M.1 23), vI (M.1 24), vI (M.1 25), vI (M.1 26), vI (M.1 27), vI (M.1 28), vI (M.1 29), vR (some (a + 17)), vR (some (a + 18)), vI (M.1 32), vI (M.1 33), vI (M.1 34), vI (M.1 35), vI (M.1 36), vI (M.1 37), vR (some (a + 19)), vR (some (a + 20)), vL M.2.2]
def mT (j : Nat) : Nat := if j = 1 ∨ j = 11 then 1 else 0
def mN (j : Nat) : Nat := [10780, 2, 72, 641, 641, 641, 641, 641, 641, 641, 21, 20, 21, 252, 12, 20, 2, 2, 17, 37].getD j 0
def mH (hp : gHp) (a : Nat) (M : MS) : gHp := (hp.1, hp.2.1, fun b => if b = a then some (a + 2, .inr (2, mfl a M)) else if a < b ∧ b ≤ a + 20 then some (a + 2, .inl (mT (b - a - 1), mN (b - a - 1), .inl (M.2.1 (b - a - 1)))) else hp.2.2 b)
def mok (X : gCx) (hp : gHp) (a : Nat) : Prop := cxz X ≤ a ∧ a + 20 < nx X hp
def mP (M : MS) (k : Nat) (v : Int) : MS := (fun i => if i = k then v else M.1 i, M.2)
def mA (M : MS) (j : Nat) (i v : Int) : MS := (M.1, fun k => if k = j then fup (M.2.1 j) i v else M.2.1 k, M.2.2)
def mL (M : MS) (x : Int64) : MS := (M.1, M.2.1, x)
variable {X : gCx} {hp : gHp} {a : Nat} {M : MS} {fi : gFi} {d pc : Nat} {L : List (Option AV)} {st : List AV} {Q : Option AV → gHp → Prop}
theorem mcell (hA : mok X hp a) : gl X (mH hp a M) a = some (a + 2, .inr (2, mfl a M)) := by
  have h1 : ¬ a < cxz X := Nat.not_lt.mpr hA.1
  have h2 : a < nx X (mH hp a M) := Nat.lt_of_le_of_lt (Nat.le_add_right a 20) hA.2
  unfold gl
  rw [if_neg h1, if_pos h2]
  exact if_pos rfl
theorem marr (hA : mok X hp a) (j : Nat) (hj : j < 20) : gl X (mH hp a M) (a + (j + 1)) = some (a + 2, .inl (mT j, mN j, .inl (M.2.1 j))) := by
  have h0 := hA.1
  have h3 := hA.2
  have h1 : ¬ a + (j + 1) < cxz X := by omega
  have h2 : a + (j + 1) < nx X (mH hp a M) := by show _ < nx X hp; omega
  unfold gl
  rw [if_neg h1, if_pos h2]
  show (if a + (j + 1) = a then _ else _) = _
  rw [if_neg (by omega), if_pos (by omega), show a + (j + 1) - a - 1 = j by omega]
theorem ma_page (hA : mok X hp a) : gl X (mH hp a M) (a + 1) = some (a + 2, .inl (0, 10780, .inl (M.2.1 0))) := marr hA 0 (by decide)
theorem ma_isKept (hA : mok X hp a) : gl X (mH hp a M) (a + 2) = some (a + 2, .inl (1, 2, .inl (M.2.1 1))) := marr hA 1 (by decide)
theorem ma_text (hA : mok X hp a) : gl X (mH hp a M) (a + 3) = some (a + 2, .inl (0, 72, .inl (M.2.1 2))) := marr hA 2 (by decide)
theorem ma_tokenLine (hA : mok X hp a) : gl X (mH hp a M) (a + 4) = some (a + 2, .inl (0, 641, .inl (M.2.1 3))) := marr hA 3 (by decide)
theorem ma_tokenSpot (hA : mok X hp a) : gl X (mH hp a M) (a + 5) = some (a + 2, .inl (0, 641, .inl (M.2.1 4))) := marr hA 4 (by decide)
theorem ma_tokenLong (hA : mok X hp a) : gl X (mH hp a M) (a + 6) = some (a + 2, .inl (0, 641, .inl (M.2.1 5))) := marr hA 5 (by decide)
theorem ma_tokenSort (hA : mok X hp a) : gl X (mH hp a M) (a + 7) = some (a + 2, .inl (0, 641, .inl (M.2.1 6))) := marr hA 6 (by decide)
theorem ma_opens (hA : mok X hp a) : gl X (mH hp a M) (a + 8) = some (a + 2, .inl (0, 641, .inl (M.2.1 7))) := marr hA 7 (by decide)
theorem ma_closes (hA : mok X hp a) : gl X (mH hp a M) (a + 9) = some (a + 2, .inl (0, 641, .inl (M.2.1 8))) := marr hA 8 (by decide)
theorem ma_closer (hA : mok X hp a) : gl X (mH hp a M) (a + 10) = some (a + 2, .inl (0, 641, .inl (M.2.1 9))) := marr hA 9 (by decide)
theorem ma_firstOf (hA : mok X hp a) : gl X (mH hp a M) (a + 11) = some (a + 2, .inl (0, 21, .inl (M.2.1 10))) := marr hA 10 (by decide)
theorem ma_isHeld (hA : mok X hp a) : gl X (mH hp a M) (a + 12) = some (a + 2, .inl (1, 20, .inl (M.2.1 11))) := marr hA 11 (by decide)
theorem ma_depths (hA : mok X hp a) : gl X (mH hp a M) (a + 13) = some (a + 2, .inl (0, 21, .inl (M.2.1 12))) := marr hA 12 (by decide)
theorem ma_stacks (hA : mok X hp a) : gl X (mH hp a M) (a + 14) = some (a + 2, .inl (0, 252, .inl (M.2.1 13))) := marr hA 13 (by decide)
theorem ma_stack (hA : mok X hp a) : gl X (mH hp a M) (a + 15) = some (a + 2, .inl (0, 12, .inl (M.2.1 14))) := marr hA 14 (by decide)
theorem ma_row (hA : mok X hp a) : gl X (mH hp a M) (a + 16) = some (a + 2, .inl (0, 20, .inl (M.2.1 15))) := marr hA 15 (by decide)
theorem ma_textFrom (hA : mok X hp a) : gl X (mH hp a M) (a + 17) = some (a + 2, .inl (0, 2, .inl (M.2.1 16))) := marr hA 16 (by decide)
theorem ma_textTo (hA : mok X hp a) : gl X (mH hp a M) (a + 18) = some (a + 2, .inl (0, 2, .inl (M.2.1 17))) := marr hA 17 (by decide)
theorem ma_pieceEnds (hA : mok X hp a) : gl X (mH hp a M) (a + 19) = some (a + 2, .inl (0, 17, .inl (M.2.1 18))) := marr hA 18 (by decide)
theorem ma_pieces (hA : mok X hp a) : gl X (mH hp a M) (a + 20) = some (a + 2, .inl (0, 37, .inl (M.2.1 19))) := marr hA 19 (by decide)
theorem mH_set {c : gCe} {M' : MS} (h1 : c = .inr (2, mfl a M')) (h2 : M'.2.1 = M.2.1) : hset (mH hp a M) a (a + 2, c) = mH hp a M' := by
  unfold hset mH
  rw [h1, h2]
  refine Prod.ext rfl (Prod.ext rfl (funext fun b => ?_))
  dsimp only
  by_cases h : b = a
  · rw [if_pos h, if_pos h]
  · rw [if_neg h, if_neg h, if_neg h]
theorem mH_arr {i v : Int} (j : Nat) (hj : j < 20) : hset (mH hp a M) (a + (j + 1)) (a + 2, .inl (mT j, mN j, .inl (fup (M.2.1 j) i v))) = mH hp a (mA M j i v) := by
  unfold hset mH mA
  refine Prod.ext rfl (Prod.ext rfl (funext fun b => ?_))
  dsimp only
  by_cases h : b = a + (j + 1)
  · subst h
    rw [if_pos rfl, if_neg (by omega), if_pos (by omega), show a + (j + 1) - a - 1 = j by omega, if_pos rfl]
  · rw [if_neg h]
    by_cases h2 : b = a
    · rw [if_pos h2, if_pos h2]
    · rw [if_neg h2, if_neg h2]
      by_cases h3 : a < b ∧ b ≤ a + 20
      · rw [if_pos h3, if_pos h3, if_neg (by omega)]
      · rw [if_neg h3, if_neg h3]
theorem mp_remembered {v : Int} (hf : fi.1 = RX2) (hA : mok X hp a) (hd : decode fi.2.1 pc = .ok (.putfield 71, 3)) (kk : G X fi d (pc + 3) L st (mH hp a (mP M 1 v)) Q) : G X fi d pc L (vI v :: vR (some a) :: st) (mH hp a M) Q := by
  refine gs_putf 1 (.inr (2, mfl a (mP M 1 v))) hd (mcell hA) (by omega) clX2 in_X2 tyX2 tyX2_ok nmX2 (by decide) (by rw [hf]; exact q2227) (Or.inl rfl) rfl (fok_int _) (Nat.le_of_ble_eq_true rfl) rfl ?_
  rw [mH_set (M := M) (M' := mP M 1 v) rfl rfl]
  exact kk
theorem mp_typed {v : Int} (hf : fi.1 = RX2) (hA : mok X hp a) (hd : decode fi.2.1 pc = .ok (.putfield 191, 3)) (kk : G X fi d (pc + 3) L st (mH hp a (mP M 4 v)) Q) : G X fi d pc L (vI v :: vR (some a) :: st) (mH hp a M) Q := by
  refine gs_putf 4 (.inr (2, mfl a (mP M 4 v))) hd (mcell hA) (by omega) clX2 in_X2 tyX2 tyX2_ok nmX2 (by decide) (by rw [hf]; exact q2230) (Or.inl rfl) rfl (fok_int _) (Nat.le_of_ble_eq_true rfl) rfl ?_
  rw [mH_set (M := M) (M' := mP M 4 v) rfl rfl]
  exact kk
theorem mp_many {v : Int} (hf : fi.1 = RX2) (hA : mok X hp a) (hd : decode fi.2.1 pc = .ok (.putfield 98, 3)) (kk : G X fi d (pc + 3) L st (mH hp a (mP M 12 v)) Q) : G X fi d pc L (vI v :: vR (some a) :: st) (mH hp a M) Q := by
  refine gs_putf 12 (.inr (2, mfl a (mP M 12 v))) hd (mcell hA) (by omega) clX2 in_X2 tyX2 tyX2_ok nmX2 (by decide) (by rw [hf]; exact q2238) (Or.inl rfl) rfl (fok_int _) (Nat.le_of_ble_eq_true rfl) rfl ?_
  rw [mH_set (M := M) (M' := mP M 12 v) rfl rfl]
  exact kk
theorem mp_stacked {v : Int} (hf : fi.1 = RX2) (hA : mok X hp a) (hd : decode fi.2.1 pc = .ok (.putfield 126, 3)) (kk : G X fi d (pc + 3) L st (mH hp a (mP M 18 v)) Q) : G X fi d pc L (vI v :: vR (some a) :: st) (mH hp a M) Q := by
  refine gs_putf 18 (.inr (2, mfl a (mP M 18 v))) hd (mcell hA) (by omega) clX2 in_X2 tyX2 tyX2_ok nmX2 (by decide) (by rw [hf]; exact q2244) (Or.inl rfl) rfl (fok_int _) (Nat.le_of_ble_eq_true rfl) rfl ?_
  rw [mH_set (M := M) (M' := mP M 18 v) rfl rfl]
  exact kk
theorem mp_stray {v : Int} (hf : fi.1 = RX2) (hA : mok X hp a) (hd : decode fi.2.1 pc = .ok (.putfield 135, 3)) (kk : G X fi d (pc + 3) L st (mH hp a (mP M 19 v)) Q) : G X fi d pc L (vI v :: vR (some a) :: st) (mH hp a M) Q := by
  refine gs_putf 19 (.inr (2, mfl a (mP M 19 v))) hd (mcell hA) (by omega) clX2 in_X2 tyX2 tyX2_ok nmX2 (by decide) (by rw [hf]; exact q2245) (Or.inl rfl) rfl (fok_int _) (Nat.le_of_ble_eq_true rfl) rfl ?_
  rw [mH_set (M := M) (M' := mP M 19 v) rfl rfl]
  exact kk
theorem mp_gone {v : Int} (hf : fi.1 = RX2) (hA : mok X hp a) (hd : decode fi.2.1 pc = .ok (.putfield 129, 3)) (kk : G X fi d (pc + 3) L st (mH hp a (mP M 20 v)) Q) : G X fi d pc L (vI v :: vR (some a) :: st) (mH hp a M) Q := by
  refine gs_putf 20 (.inr (2, mfl a (mP M 20 v))) hd (mcell hA) (by omega) clX2 in_X2 tyX2 tyX2_ok nmX2 (by decide) (by rw [hf]; exact q2246) (Or.inl rfl) rfl (fok_int _) (Nat.le_of_ble_eq_true rfl) rfl ?_
  rw [mH_set (M := M) (M' := mP M 20 v) rfl rfl]
  exact kk
theorem mp_useStep {v : Int} (hf : fi.1 = RX2) (hA : mok X hp a) (hd : decode fi.2.1 pc = .ok (.putfield 154, 3)) (kk : G X fi d (pc + 3) L st (mH hp a (mP M 22 v)) Q) : G X fi d pc L (vI v :: vR (some a) :: st) (mH hp a M) Q := by
  refine gs_putf 22 (.inr (2, mfl a (mP M 22 v))) hd (mcell hA) (by omega) clX2 in_X2 tyX2 tyX2_ok nmX2 (by decide) (by rw [hf]; exact q2248) (Or.inl rfl) rfl (fok_int _) (Nat.le_of_ble_eq_true rfl) rfl ?_
  rw [mH_set (M := M) (M' := mP M 22 v) rfl rfl]
  exact kk
theorem mp_useBase {v : Int} (hf : fi.1 = RX2) (hA : mok X hp a) (hd : decode fi.2.1 pc = .ok (.putfield 157, 3)) (kk : G X fi d (pc + 3) L st (mH hp a (mP M 23 v)) Q) : G X fi d pc L (vI v :: vR (some a) :: st) (mH hp a M) Q := by
  refine gs_putf 23 (.inr (2, mfl a (mP M 23 v))) hd (mcell hA) (by omega) clX2 in_X2 tyX2 tyX2_ok nmX2 (by decide) (by rw [hf]; exact q2249) (Or.inl rfl) rfl (fok_int _) (Nat.le_of_ble_eq_true rfl) rfl ?_
  rw [mH_set (M := M) (M' := mP M 23 v) rfl rfl]
  exact kk
theorem mp_column {v : Int} (hf : fi.1 = RX2) (hA : mok X hp a) (hd : decode fi.2.1 pc = .ok (.putfield 170, 3)) (kk : G X fi d (pc + 3) L st (mH hp a (mP M 24 v)) Q) : G X fi d pc L (vI v :: vR (some a) :: st) (mH hp a M) Q := by
  refine gs_putf 24 (.inr (2, mfl a (mP M 24 v))) hd (mcell hA) (by omega) clX2 in_X2 tyX2 tyX2_ok nmX2 (by decide) (by rw [hf]; exact q2250) (Or.inl rfl) rfl (fok_int _) (Nat.le_of_ble_eq_true rfl) rfl ?_
  rw [mH_set (M := M) (M' := mP M 24 v) rfl rfl]
  exact kk
theorem mp_why {v : Int} (hf : fi.1 = RX2) (hA : mok X hp a) (hd : decode fi.2.1 pc = .ok (.putfield 173, 3)) (kk : G X fi d (pc + 3) L st (mH hp a (mP M 25 v)) Q) : G X fi d pc L (vI v :: vR (some a) :: st) (mH hp a M) Q := by
  refine gs_putf 25 (.inr (2, mfl a (mP M 25 v))) hd (mcell hA) (by omega) clX2 in_X2 tyX2 tyX2_ok nmX2 (by decide) (by rw [hf]; exact q2251) (Or.inl rfl) rfl (fok_int _) (Nat.le_of_ble_eq_true rfl) rfl ?_
  rw [mH_set (M := M) (M' := mP M 25 v) rfl rfl]
  exact kk
theorem mp_by {v : Int} (hf : fi.1 = RX2) (hA : mok X hp a) (hd : decode fi.2.1 pc = .ok (.putfield 176, 3)) (kk : G X fi d (pc + 3) L st (mH hp a (mP M 26 v)) Q) : G X fi d pc L (vI v :: vR (some a) :: st) (mH hp a M) Q := by
  refine gs_putf 26 (.inr (2, mfl a (mP M 26 v))) hd (mcell hA) (by omega) clX2 in_X2 tyX2 tyX2_ok nmX2 (by decide) (by rw [hf]; exact q2252) (Or.inl rfl) rfl (fok_int _) (Nat.le_of_ble_eq_true rfl) rfl ?_
  rw [mH_set (M := M) (M' := mP M 26 v) rfl rfl]
  exact kk
theorem mp_weight {v : Int} (hf : fi.1 = RX2) (hA : mok X hp a) (hd : decode fi.2.1 pc = .ok (.putfield 167, 3)) (kk : G X fi d (pc + 3) L st (mH hp a (mP M 27 v)) Q) : G X fi d pc L (vI v :: vR (some a) :: st) (mH hp a M) Q := by
  refine gs_putf 27 (.inr (2, mfl a (mP M 27 v))) hd (mcell hA) (by omega) clX2 in_X2 tyX2 tyX2_ok nmX2 (by decide) (by rw [hf]; exact q2253) (Or.inl rfl) rfl (fok_int _) (Nat.le_of_ble_eq_true rfl) rfl ?_
  rw [mH_set (M := M) (M' := mP M 27 v) rfl rfl]
  exact kk
theorem mp_lineFrom {v : Int} (hf : fi.1 = RX2) (hA : mok X hp a) (hd : decode fi.2.1 pc = .ok (.putfield 194, 3)) (kk : G X fi d (pc + 3) L st (mH hp a (mP M 28 v)) Q) : G X fi d pc L (vI v :: vR (some a) :: st) (mH hp a M) Q := by
  refine gs_putf 28 (.inr (2, mfl a (mP M 28 v))) hd (mcell hA) (by omega) clX2 in_X2 tyX2 tyX2_ok nmX2 (by decide) (by rw [hf]; exact q2254) (Or.inl rfl) rfl (fok_int _) (Nat.le_of_ble_eq_true rfl) rfl ?_
  rw [mH_set (M := M) (M' := mP M 28 v) rfl rfl]
  exact kk
theorem mp_lineTo {v : Int} (hf : fi.1 = RX2) (hA : mok X hp a) (hd : decode fi.2.1 pc = .ok (.putfield 197, 3)) (kk : G X fi d (pc + 3) L st (mH hp a (mP M 29 v)) Q) : G X fi d pc L (vI v :: vR (some a) :: st) (mH hp a M) Q := by
  refine gs_putf 29 (.inr (2, mfl a (mP M 29 v))) hd (mcell hA) (by omega) clX2 in_X2 tyX2 tyX2_ok nmX2 (by decide) (by rw [hf]; exact q2255) (Or.inl rfl) rfl (fok_int _) (Nat.le_of_ble_eq_true rfl) rfl ?_
  rw [mH_set (M := M) (M' := mP M 29 v) rfl rfl]
  exact kk
theorem mp_spot {v : Int} (hf : fi.1 = RX2) (hA : mok X hp a) (hd : decode fi.2.1 pc = .ok (.putfield 237, 3)) (kk : G X fi d (pc + 3) L st (mH hp a (mP M 32 v)) Q) : G X fi d pc L (vI v :: vR (some a) :: st) (mH hp a M) Q := by
  refine gs_putf 32 (.inr (2, mfl a (mP M 32 v))) hd (mcell hA) (by omega) clX2 in_X2 tyX2 tyX2_ok nmX2 (by decide) (by rw [hf]; exact q2258) (Or.inl rfl) rfl (fok_int _) (Nat.le_of_ble_eq_true rfl) rfl ?_
  rw [mH_set (M := M) (M' := mP M 32 v) rfl rfl]
  exact kk
theorem mp_fewest {v : Int} (hf : fi.1 = RX2) (hA : mok X hp a) (hd : decode fi.2.1 pc = .ok (.putfield 265, 3)) (kk : G X fi d (pc + 3) L st (mH hp a (mP M 33 v)) Q) : G X fi d pc L (vI v :: vR (some a) :: st) (mH hp a M) Q := by
  refine gs_putf 33 (.inr (2, mfl a (mP M 33 v))) hd (mcell hA) (by omega) clX2 in_X2 tyX2 tyX2_ok nmX2 (by decide) (by rw [hf]; exact q2259) (Or.inl rfl) rfl (fok_int _) (Nat.le_of_ble_eq_true rfl) rfl ?_
  rw [mH_set (M := M) (M' := mP M 33 v) rfl rfl]
  exact kk
theorem mp_fewestStep {v : Int} (hf : fi.1 = RX2) (hA : mok X hp a) (hd : decode fi.2.1 pc = .ok (.putfield 268, 3)) (kk : G X fi d (pc + 3) L st (mH hp a (mP M 34 v)) Q) : G X fi d pc L (vI v :: vR (some a) :: st) (mH hp a M) Q := by
  refine gs_putf 34 (.inr (2, mfl a (mP M 34 v))) hd (mcell hA) (by omega) clX2 in_X2 tyX2 tyX2_ok nmX2 (by decide) (by rw [hf]; exact q2260) (Or.inl rfl) rfl (fok_int _) (Nat.le_of_ble_eq_true rfl) rfl ?_
  rw [mH_set (M := M) (M' := mP M 34 v) rfl rfl]
  exact kk
theorem mp_fewestBase {v : Int} (hf : fi.1 = RX2) (hA : mok X hp a) (hd : decode fi.2.1 pc = .ok (.putfield 271, 3)) (kk : G X fi d (pc + 3) L st (mH hp a (mP M 35 v)) Q) : G X fi d pc L (vI v :: vR (some a) :: st) (mH hp a M) Q := by
  refine gs_putf 35 (.inr (2, mfl a (mP M 35 v))) hd (mcell hA) (by omega) clX2 in_X2 tyX2 tyX2_ok nmX2 (by decide) (by rw [hf]; exact q2261) (Or.inl rfl) rfl (fok_int _) (Nat.le_of_ble_eq_true rfl) rfl ?_
  rw [mH_set (M := M) (M' := mP M 35 v) rfl rfl]
  exact kk
theorem mp_often {v : Int} (hf : fi.1 = RX2) (hA : mok X hp a) (hd : decode fi.2.1 pc = .ok (.putfield 292, 3)) (kk : G X fi d (pc + 3) L st (mH hp a (mP M 36 v)) Q) : G X fi d pc L (vI v :: vR (some a) :: st) (mH hp a M) Q := by
  refine gs_putf 36 (.inr (2, mfl a (mP M 36 v))) hd (mcell hA) (by omega) clX2 in_X2 tyX2 tyX2_ok nmX2 (by decide) (by rw [hf]; exact q2262) (Or.inl rfl) rfl (fok_int _) (Nat.le_of_ble_eq_true rfl) rfl ?_
  rw [mH_set (M := M) (M' := mP M 36 v) rfl rfl]
  exact kk
theorem mp_drawn {v : Int} (hf : fi.1 = RX2) (hA : mok X hp a) (hd : decode fi.2.1 pc = .ok (.putfield 299, 3)) (kk : G X fi d (pc + 3) L st (mH hp a (mP M 37 v)) Q) : G X fi d pc L (vI v :: vR (some a) :: st) (mH hp a M) Q := by
  refine gs_putf 37 (.inr (2, mfl a (mP M 37 v))) hd (mcell hA) (by omega) clX2 in_X2 tyX2 tyX2_ok nmX2 (by decide) (by rw [hf]; exact q2263) (Or.inl rfl) rfl (fok_int _) (Nat.le_of_ble_eq_true rfl) rfl ?_
  rw [mH_set (M := M) (M' := mP M 37 v) rfl rfl]
  exact kk
theorem mp_hash {x : Int64} (hf : fi.1 = RX2) (hA : mok X hp a) (hd : decode fi.2.1 pc = .ok (.putfield 311, 3)) (kk : G X fi d (pc + 3) L st (mH hp a (mL M x)) Q) : G X fi d pc L (vL x :: vR (some a) :: st) (mH hp a M) Q := by
  refine gs_putf 40 (.inr (2, mfl a (mL M x))) hd (mcell hA) (by omega) clX2 in_X2 tyX2 tyX2_ok nmX2 (by decide) (by rw [hf]; exact q2266) (Or.inl rfl) rfl (fok_long _) (Nat.le_of_ble_eq_true rfl) rfl ?_
  rw [mH_set (M := M) (M' := mL M x) rfl rfl]
  exact kk
theorem ms_page {i v : Int} (hA : mok X hp a) (hd : decode fi.2.1 pc = .ok (.iastore, 1)) (hi : 0 ≤ i ∧ i < 10780) (kk : G X fi d (pc + 1) L st (mH hp a (mA M 0 i v)) Q) : G X fi d pc L (vI v :: vI i :: vR (some (a + 1)) :: st) (mH hp a M) Q := by
  refine gs_iast hd (ma_page hA) (by omega) hi (by omega) ?_
  have := mH_arr (hp := hp) (a := a) (M := M) (i := i) (v := v) 0 (by decide)
  rw [show (a + 2, (Sum.inl (0, 10780, Sum.inl (fup (M.2.1 0) i v)) : gCe)) = (a + 2, .inl (mT 0, mN 0, .inl (fup (M.2.1 0) i v))) from rfl, this]
  exact kk
theorem ms_isKept {i v : Int} (hA : mok X hp a) (hd : decode fi.2.1 pc = .ok (.bastore, 1)) (hi : 0 ≤ i ∧ i < 2) (hz : v = 0 ∨ v = 1) (kk : G X fi d (pc + 1) L st (mH hp a (mA M 1 i v)) Q) : G X fi d pc L (vI v :: vI i :: vR (some (a + 2)) :: st) (mH hp a M) Q := by
  refine gs_zast hd (ma_isKept hA) (by omega) hi (by omega) hz ?_
  have := mH_arr (hp := hp) (a := a) (M := M) (i := i) (v := v) 1 (by decide)
  rw [show (a + 2, (Sum.inl (1, 2, Sum.inl (fup (M.2.1 1) i v)) : gCe)) = (a + 2, .inl (mT 1, mN 1, .inl (fup (M.2.1 1) i v))) from rfl, this]
  exact kk
theorem ms_text {i v : Int} (hA : mok X hp a) (hd : decode fi.2.1 pc = .ok (.iastore, 1)) (hi : 0 ≤ i ∧ i < 72) (kk : G X fi d (pc + 1) L st (mH hp a (mA M 2 i v)) Q) : G X fi d pc L (vI v :: vI i :: vR (some (a + 3)) :: st) (mH hp a M) Q := by
  refine gs_iast hd (ma_text hA) (by omega) hi (by omega) ?_
  have := mH_arr (hp := hp) (a := a) (M := M) (i := i) (v := v) 2 (by decide)
  rw [show (a + 2, (Sum.inl (0, 72, Sum.inl (fup (M.2.1 2) i v)) : gCe)) = (a + 2, .inl (mT 2, mN 2, .inl (fup (M.2.1 2) i v))) from rfl, this]
  exact kk
theorem ms_tokenLine {i v : Int} (hA : mok X hp a) (hd : decode fi.2.1 pc = .ok (.iastore, 1)) (hi : 0 ≤ i ∧ i < 641) (kk : G X fi d (pc + 1) L st (mH hp a (mA M 3 i v)) Q) : G X fi d pc L (vI v :: vI i :: vR (some (a + 4)) :: st) (mH hp a M) Q := by
  refine gs_iast hd (ma_tokenLine hA) (by omega) hi (by omega) ?_
  have := mH_arr (hp := hp) (a := a) (M := M) (i := i) (v := v) 3 (by decide)
  rw [show (a + 2, (Sum.inl (0, 641, Sum.inl (fup (M.2.1 3) i v)) : gCe)) = (a + 2, .inl (mT 3, mN 3, .inl (fup (M.2.1 3) i v))) from rfl, this]
  exact kk
theorem ms_tokenSpot {i v : Int} (hA : mok X hp a) (hd : decode fi.2.1 pc = .ok (.iastore, 1)) (hi : 0 ≤ i ∧ i < 641) (kk : G X fi d (pc + 1) L st (mH hp a (mA M 4 i v)) Q) : G X fi d pc L (vI v :: vI i :: vR (some (a + 5)) :: st) (mH hp a M) Q := by
  refine gs_iast hd (ma_tokenSpot hA) (by omega) hi (by omega) ?_
  have := mH_arr (hp := hp) (a := a) (M := M) (i := i) (v := v) 4 (by decide)
  rw [show (a + 2, (Sum.inl (0, 641, Sum.inl (fup (M.2.1 4) i v)) : gCe)) = (a + 2, .inl (mT 4, mN 4, .inl (fup (M.2.1 4) i v))) from rfl, this]
  exact kk
theorem ms_tokenLong {i v : Int} (hA : mok X hp a) (hd : decode fi.2.1 pc = .ok (.iastore, 1)) (hi : 0 ≤ i ∧ i < 641) (kk : G X fi d (pc + 1) L st (mH hp a (mA M 5 i v)) Q) : G X fi d pc L (vI v :: vI i :: vR (some (a + 6)) :: st) (mH hp a M) Q := by
  refine gs_iast hd (ma_tokenLong hA) (by omega) hi (by omega) ?_
  have := mH_arr (hp := hp) (a := a) (M := M) (i := i) (v := v) 5 (by decide)
  rw [show (a + 2, (Sum.inl (0, 641, Sum.inl (fup (M.2.1 5) i v)) : gCe)) = (a + 2, .inl (mT 5, mN 5, .inl (fup (M.2.1 5) i v))) from rfl, this]
  exact kk
theorem ms_tokenSort {i v : Int} (hA : mok X hp a) (hd : decode fi.2.1 pc = .ok (.iastore, 1)) (hi : 0 ≤ i ∧ i < 641) (kk : G X fi d (pc + 1) L st (mH hp a (mA M 6 i v)) Q) : G X fi d pc L (vI v :: vI i :: vR (some (a + 7)) :: st) (mH hp a M) Q := by
  refine gs_iast hd (ma_tokenSort hA) (by omega) hi (by omega) ?_
  have := mH_arr (hp := hp) (a := a) (M := M) (i := i) (v := v) 6 (by decide)
  rw [show (a + 2, (Sum.inl (0, 641, Sum.inl (fup (M.2.1 6) i v)) : gCe)) = (a + 2, .inl (mT 6, mN 6, .inl (fup (M.2.1 6) i v))) from rfl, this]
  exact kk
theorem ms_opens {i v : Int} (hA : mok X hp a) (hd : decode fi.2.1 pc = .ok (.iastore, 1)) (hi : 0 ≤ i ∧ i < 641) (kk : G X fi d (pc + 1) L st (mH hp a (mA M 7 i v)) Q) : G X fi d pc L (vI v :: vI i :: vR (some (a + 8)) :: st) (mH hp a M) Q := by
  refine gs_iast hd (ma_opens hA) (by omega) hi (by omega) ?_
  have := mH_arr (hp := hp) (a := a) (M := M) (i := i) (v := v) 7 (by decide)
  rw [show (a + 2, (Sum.inl (0, 641, Sum.inl (fup (M.2.1 7) i v)) : gCe)) = (a + 2, .inl (mT 7, mN 7, .inl (fup (M.2.1 7) i v))) from rfl, this]
  exact kk
theorem ms_closes {i v : Int} (hA : mok X hp a) (hd : decode fi.2.1 pc = .ok (.iastore, 1)) (hi : 0 ≤ i ∧ i < 641) (kk : G X fi d (pc + 1) L st (mH hp a (mA M 8 i v)) Q) : G X fi d pc L (vI v :: vI i :: vR (some (a + 9)) :: st) (mH hp a M) Q := by
  refine gs_iast hd (ma_closes hA) (by omega) hi (by omega) ?_
  have := mH_arr (hp := hp) (a := a) (M := M) (i := i) (v := v) 8 (by decide)
  rw [show (a + 2, (Sum.inl (0, 641, Sum.inl (fup (M.2.1 8) i v)) : gCe)) = (a + 2, .inl (mT 8, mN 8, .inl (fup (M.2.1 8) i v))) from rfl, this]
  exact kk
theorem ms_closer {i v : Int} (hA : mok X hp a) (hd : decode fi.2.1 pc = .ok (.iastore, 1)) (hi : 0 ≤ i ∧ i < 641) (kk : G X fi d (pc + 1) L st (mH hp a (mA M 9 i v)) Q) : G X fi d pc L (vI v :: vI i :: vR (some (a + 10)) :: st) (mH hp a M) Q := by
  refine gs_iast hd (ma_closer hA) (by omega) hi (by omega) ?_
  have := mH_arr (hp := hp) (a := a) (M := M) (i := i) (v := v) 9 (by decide)
  rw [show (a + 2, (Sum.inl (0, 641, Sum.inl (fup (M.2.1 9) i v)) : gCe)) = (a + 2, .inl (mT 9, mN 9, .inl (fup (M.2.1 9) i v))) from rfl, this]
  exact kk
theorem ms_firstOf {i v : Int} (hA : mok X hp a) (hd : decode fi.2.1 pc = .ok (.iastore, 1)) (hi : 0 ≤ i ∧ i < 21) (kk : G X fi d (pc + 1) L st (mH hp a (mA M 10 i v)) Q) : G X fi d pc L (vI v :: vI i :: vR (some (a + 11)) :: st) (mH hp a M) Q := by
  refine gs_iast hd (ma_firstOf hA) (by omega) hi (by omega) ?_
  have := mH_arr (hp := hp) (a := a) (M := M) (i := i) (v := v) 10 (by decide)
  rw [show (a + 2, (Sum.inl (0, 21, Sum.inl (fup (M.2.1 10) i v)) : gCe)) = (a + 2, .inl (mT 10, mN 10, .inl (fup (M.2.1 10) i v))) from rfl, this]
  exact kk
theorem ms_isHeld {i v : Int} (hA : mok X hp a) (hd : decode fi.2.1 pc = .ok (.bastore, 1)) (hi : 0 ≤ i ∧ i < 20) (hz : v = 0 ∨ v = 1) (kk : G X fi d (pc + 1) L st (mH hp a (mA M 11 i v)) Q) : G X fi d pc L (vI v :: vI i :: vR (some (a + 12)) :: st) (mH hp a M) Q := by
  refine gs_zast hd (ma_isHeld hA) (by omega) hi (by omega) hz ?_
  have := mH_arr (hp := hp) (a := a) (M := M) (i := i) (v := v) 11 (by decide)
  rw [show (a + 2, (Sum.inl (1, 20, Sum.inl (fup (M.2.1 11) i v)) : gCe)) = (a + 2, .inl (mT 11, mN 11, .inl (fup (M.2.1 11) i v))) from rfl, this]
  exact kk
theorem ms_depths {i v : Int} (hA : mok X hp a) (hd : decode fi.2.1 pc = .ok (.iastore, 1)) (hi : 0 ≤ i ∧ i < 21) (kk : G X fi d (pc + 1) L st (mH hp a (mA M 12 i v)) Q) : G X fi d pc L (vI v :: vI i :: vR (some (a + 13)) :: st) (mH hp a M) Q := by
  refine gs_iast hd (ma_depths hA) (by omega) hi (by omega) ?_
  have := mH_arr (hp := hp) (a := a) (M := M) (i := i) (v := v) 12 (by decide)
  rw [show (a + 2, (Sum.inl (0, 21, Sum.inl (fup (M.2.1 12) i v)) : gCe)) = (a + 2, .inl (mT 12, mN 12, .inl (fup (M.2.1 12) i v))) from rfl, this]
  exact kk
theorem ms_stacks {i v : Int} (hA : mok X hp a) (hd : decode fi.2.1 pc = .ok (.iastore, 1)) (hi : 0 ≤ i ∧ i < 252) (kk : G X fi d (pc + 1) L st (mH hp a (mA M 13 i v)) Q) : G X fi d pc L (vI v :: vI i :: vR (some (a + 14)) :: st) (mH hp a M) Q := by
  refine gs_iast hd (ma_stacks hA) (by omega) hi (by omega) ?_
  have := mH_arr (hp := hp) (a := a) (M := M) (i := i) (v := v) 13 (by decide)
  rw [show (a + 2, (Sum.inl (0, 252, Sum.inl (fup (M.2.1 13) i v)) : gCe)) = (a + 2, .inl (mT 13, mN 13, .inl (fup (M.2.1 13) i v))) from rfl, this]
  exact kk
theorem ms_stack {i v : Int} (hA : mok X hp a) (hd : decode fi.2.1 pc = .ok (.iastore, 1)) (hi : 0 ≤ i ∧ i < 12) (kk : G X fi d (pc + 1) L st (mH hp a (mA M 14 i v)) Q) : G X fi d pc L (vI v :: vI i :: vR (some (a + 15)) :: st) (mH hp a M) Q := by
  refine gs_iast hd (ma_stack hA) (by omega) hi (by omega) ?_
  have := mH_arr (hp := hp) (a := a) (M := M) (i := i) (v := v) 14 (by decide)
  rw [show (a + 2, (Sum.inl (0, 12, Sum.inl (fup (M.2.1 14) i v)) : gCe)) = (a + 2, .inl (mT 14, mN 14, .inl (fup (M.2.1 14) i v))) from rfl, this]
  exact kk
theorem ms_row {i v : Int} (hA : mok X hp a) (hd : decode fi.2.1 pc = .ok (.iastore, 1)) (hi : 0 ≤ i ∧ i < 20) (kk : G X fi d (pc + 1) L st (mH hp a (mA M 15 i v)) Q) : G X fi d pc L (vI v :: vI i :: vR (some (a + 16)) :: st) (mH hp a M) Q := by
  refine gs_iast hd (ma_row hA) (by omega) hi (by omega) ?_
  have := mH_arr (hp := hp) (a := a) (M := M) (i := i) (v := v) 15 (by decide)
  rw [show (a + 2, (Sum.inl (0, 20, Sum.inl (fup (M.2.1 15) i v)) : gCe)) = (a + 2, .inl (mT 15, mN 15, .inl (fup (M.2.1 15) i v))) from rfl, this]
  exact kk
theorem ms_textFrom {i v : Int} (hA : mok X hp a) (hd : decode fi.2.1 pc = .ok (.iastore, 1)) (hi : 0 ≤ i ∧ i < 2) (kk : G X fi d (pc + 1) L st (mH hp a (mA M 16 i v)) Q) : G X fi d pc L (vI v :: vI i :: vR (some (a + 17)) :: st) (mH hp a M) Q := by
  refine gs_iast hd (ma_textFrom hA) (by omega) hi (by omega) ?_
  have := mH_arr (hp := hp) (a := a) (M := M) (i := i) (v := v) 16 (by decide)
  rw [show (a + 2, (Sum.inl (0, 2, Sum.inl (fup (M.2.1 16) i v)) : gCe)) = (a + 2, .inl (mT 16, mN 16, .inl (fup (M.2.1 16) i v))) from rfl, this]
  exact kk
theorem ms_textTo {i v : Int} (hA : mok X hp a) (hd : decode fi.2.1 pc = .ok (.iastore, 1)) (hi : 0 ≤ i ∧ i < 2) (kk : G X fi d (pc + 1) L st (mH hp a (mA M 17 i v)) Q) : G X fi d pc L (vI v :: vI i :: vR (some (a + 18)) :: st) (mH hp a M) Q := by
  refine gs_iast hd (ma_textTo hA) (by omega) hi (by omega) ?_
  have := mH_arr (hp := hp) (a := a) (M := M) (i := i) (v := v) 17 (by decide)
  rw [show (a + 2, (Sum.inl (0, 2, Sum.inl (fup (M.2.1 17) i v)) : gCe)) = (a + 2, .inl (mT 17, mN 17, .inl (fup (M.2.1 17) i v))) from rfl, this]
  exact kk
theorem ms_pieceEnds {i v : Int} (hA : mok X hp a) (hd : decode fi.2.1 pc = .ok (.iastore, 1)) (hi : 0 ≤ i ∧ i < 17) (kk : G X fi d (pc + 1) L st (mH hp a (mA M 18 i v)) Q) : G X fi d pc L (vI v :: vI i :: vR (some (a + 19)) :: st) (mH hp a M) Q := by
  refine gs_iast hd (ma_pieceEnds hA) (by omega) hi (by omega) ?_
  have := mH_arr (hp := hp) (a := a) (M := M) (i := i) (v := v) 18 (by decide)
  rw [show (a + 2, (Sum.inl (0, 17, Sum.inl (fup (M.2.1 18) i v)) : gCe)) = (a + 2, .inl (mT 18, mN 18, .inl (fup (M.2.1 18) i v))) from rfl, this]
  exact kk
theorem ms_pieces {i v : Int} (hA : mok X hp a) (hd : decode fi.2.1 pc = .ok (.iastore, 1)) (hi : 0 ≤ i ∧ i < 37) (kk : G X fi d (pc + 1) L st (mH hp a (mA M 19 i v)) Q) : G X fi d pc L (vI v :: vI i :: vR (some (a + 20)) :: st) (mH hp a M) Q := by
  refine gs_iast hd (ma_pieces hA) (by omega) hi (by omega) ?_
  have := mH_arr (hp := hp) (a := a) (M := M) (i := i) (v := v) 19 (by decide)
  rw [show (a + 2, (Sum.inl (0, 37, Sum.inl (fup (M.2.1 19) i v)) : gCe)) = (a + 2, .inl (mT 19, mN 19, .inl (fup (M.2.1 19) i v))) from rfl, this]
  exact kk
end MM
