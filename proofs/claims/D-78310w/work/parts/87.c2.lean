/-! THE COMPONENT: states are made and copied. -/
section C2
variable {X : gCx} {hp hp1 hp2 : gHp} {S0 : Nat → Prop} {S : SS}
theorem Fr.low {a : Nat} (h : Fr X (fun l => l = a + 2) hp hp1) {m : Nat} (hm : m ≤ a + 2) : Fr X (fun l => m ≤ l) hp hp1 := h.mono (fun l hl => by omega)
/-- a cell is changed -/
theorem Fr1 {a lb : Nat} {c c0 : gCe} (hc : gl X hp a = some (lb, c0)) (hl : lb ≠ 0) (hsh : shp (lb, c0) (lb, c)) : Fr X (fun l => l = lb) hp (hset hp a (lb, c)) := (Fr.refl (S := fun l => l = lb)).set hc hl rfl hsh
theorem c_stInit {s : Nat} (hX : KX X) (hs : gl X hp s = some (s + 2, .inr (1, dfX1))) (hn : nx X hp = s + 1) : M0 X yX1_init fX1_init 4 [vR (some s)] hp (fun hp' => Fr X (fun l => s + 2 ≤ l) hp hp' ∧ hp'.1 = hp.1 + 2 ∧ hp'.2.1 = hp.2.1 + 15 ∧ stA X hp' s ssD [] 0 (s + 2) (fun _ => none)) := by
  refine MC.of pfX1_init rfl (fun _ => rfl) 0 rfl rfl ?_
  refine gs_ald0 (pc := 0) dX1_init_0 ?_
  refine gs_objInit (pc := 1) dX1_init_1 q153 q146 q147 (by decide) (Nat.le_of_ble_eq_true rfl) ?_
  refine gs_ald0 (pc := 4) dX1_init_4 ?_
  refine gs_new (pc := 5) (s + 3) dfJ2 dX1_init_5 clJ2 in_J2 tyJ2 tyJ2_ok q154 q155 q100 dfoJ2 ?_
  have f1 : Fr X (fun l => s + 2 ≤ l) hp (hnew X hp 3 (s + 3, Sum.inr (9, dfJ2))) := Fr.new Fr.refl
  have g1 : gl X (hnew X hp 3 (s + 3, Sum.inr (9, dfJ2))) (s + 1) = some (s + 1 + 2, .inr (9, dfJ2)) := by
    have := gl_new_self (X := X) (hp := hp) (n := 3) (c := (s + 3, Sum.inr (9, dfJ2)))
    rwa [hn] at this
  have g0 := gl_new_of (n := 3) (c := (s + 3, Sum.inr (9, dfJ2))) hs
  have hc1 : (hnew X hp 3 (s + 3, Sum.inr (9, dfJ2))).1 = hp.1 + 1 := rfl
  have hc2 : (hnew X hp 3 (s + 3, Sum.inr (9, dfJ2))).2.1 = hp.2.1 + 3 := rfl
  have hnx : nx X (hnew X hp 3 (s + 3, Sum.inr (9, dfJ2))) = s + 2 := by rw [nx_new, hn]
  rw [hn]
  generalize hnew X hp 3 (s + 3, Sum.inr (9, dfJ2)) = hpa at *
  refine gs_dup (pc := 8) dX1_init_8 rfl ?_
  refine gs_I0v (pc := 9) dX1_init_9 kX1_11 (by decide) (Nat.le_of_ble_eq_true rfl) (c_alInit hX g1) (fun hpb hq => ?_)
  obtain ⟨a1, a2, a3, a4⟩ := hq
  have g0b := a1.at g0 (by omega)
  have f2 : Fr X (fun l => s + 2 ≤ l) hp hpb := f1.trans (a1.low (by omega))
  have hnb : nx X hpb = s + 2 := by unfold nx at *; omega
  refine gs_putF (pc := 12) 0 (.inr (1, [vR (some (s + 1)), vR none, vI 0, vI 0, vI 0])) dX1_init_12 g0b (by omega) clX1 in_X1 tyX1 tyX1_ok nmX1 (by decide) q182 (Or.inl rfl) rfl rfl rfl (fok_obj _ _) (Nat.le_of_ble_eq_true rfl) rfl ?_
  have g0c := gl_set_self (c := (s + 2, Sum.inr (1, [vR (some (s + 1)), vR none, vI 0, vI 0, vI 0]))) g0b (by omega)
  have f3 : Fr X (fun l => s + 2 ≤ l) hp _ := f2.set (c := .inr (1, [vR (some (s + 1)), vR none, vI 0, vI 0, vI 0])) g0b (by omega) (Nat.le_refl _) ⟨rfl, rfl⟩
  have a5 : isAL X (hset hpb s (s + 2, Sum.inr (1, [vR (some (s + 1)), vR none, vI 0, vI 0, vI 0]))) (s + 1) [] 0 := a4.fr (S := fun l => l = s + 2) hX (Fr.refl.set g0b (by omega) rfl ⟨rfl, rfl⟩) (by omega)
  have hnc : nx X (hset hpb s (s + 2, Sum.inr (1, [vR (some (s + 1)), vR none, vI 0, vI 0, vI 0]))) = s + 2 := hnb
  have hd1 : (hset hpb s (s + 2, Sum.inr (1, [vR (some (s + 1)), vR none, vI 0, vI 0, vI 0]))).1 = hpb.1 := rfl
  have hd2 : (hset hpb s (s + 2, Sum.inr (1, [vR (some (s + 1)), vR none, vI 0, vI 0, vI 0]))).2.1 = hpb.2.1 := rfl
  generalize hset hpb s (s + 2, Sum.inr (1, [vR (some (s + 1)), vR none, vI 0, vI 0, vI 0])) = hpc at *
  refine gs_ald0 (pc := 15) dX1_init_15 ?_
  refine gs_bipush (pc := 16) dX1_init_16 rfl ?_
  refine gs_anew (pc := 18) 5 (12) (s + 2) (by decide) rfl dX1_init_18 q180 q181 (by first | rfl | omega) (by omega) ?_
  have g0d := gl_new_of (n := 12) (c := (s + 2, Sum.inl (5, 12, Sum.inr (fun _ => none)))) g0c
  have gra : gl X (hnew X hpc 12 (s + 2, Sum.inl (5, 12, Sum.inr (fun _ => none)))) (s + 2) = some (s + 2, Sum.inl (5, 12, Sum.inr (fun _ => none))) := by
    have := gl_new_self (X := X) (hp := hpc) (n := 12) (c := (s + 2, Sum.inl (5, 12, Sum.inr (fun _ => none))))
    rwa [hnc] at this
  have f4 : Fr X (fun l => s + 2 ≤ l) hp (hnew X hpc 12 (s + 2, Sum.inl (5, 12, Sum.inr (fun _ => none)))) := f3.new
  have a6 : isAL X (hnew X hpc 12 (s + 2, Sum.inl (5, 12, Sum.inr (fun _ => none)))) (s + 1) [] 0 := a5.fr (S := fun _ => False) hX (Fr.new Fr.refl) (fun h => h)
  have he1 : (hnew X hpc 12 (s + 2, Sum.inl (5, 12, Sum.inr (fun _ => none)))).1 = hpc.1 + 1 := rfl
  have he2 : (hnew X hpc 12 (s + 2, Sum.inl (5, 12, Sum.inr (fun _ => none)))).2.1 = hpc.2.1 + 12 := rfl
  rw [hnc]
  generalize hnew X hpc 12 (s + 2, Sum.inl (5, 12, Sum.inr (fun _ => none))) = hpd at *
  refine gs_putF (pc := 21) 1 (.inr (1, [vR (some (s + 1)), vR (some (s + 2)), vI 0, vI 0, vI 0])) dX1_init_21 g0d (by omega) clX1 in_X1 tyX1 tyX1_ok nmX1 (by decide) q186 (Or.inl rfl) rfl rfl rfl (fok_arr _ _) (Nat.le_of_ble_eq_true rfl) rfl ?_
  refine gs_ald0 (pc := 24) dX1_init_24 ?_
  refine gs_iconst (pc := 25) dX1_init_25 ?_
  refine gs_putf (pc := 26) 2 (.inr (1, [vR (some (s + 1)), vR (some (s + 2)), vI 4, vI 0, vI 0])) dX1_init_26 (gl_set_self g0d (by omega)) (by omega) clX1 in_X1 tyX1 tyX1_ok nmX1 (by decide) q190 (Or.inl rfl) rfl (fok_int _) (Nat.le_of_ble_eq_true rfl) rfl ?_
  have g0e := gl_set_self (c := (s + 2, Sum.inr (1, [vR (some (s + 1)), vR (some (s + 2)), vI 0, vI 0, vI 0]))) g0d (by omega)
  have g0f := gl_set_self (c := (s + 2, Sum.inr (1, [vR (some (s + 1)), vR (some (s + 2)), vI 4, vI 0, vI 0]))) g0e (by omega)
  refine gs_ald0 (pc := 29) dX1_init_29 ?_
  refine gs_bipush (pc := 30) dX1_init_30 rfl ?_
  refine gs_putf (pc := 32) 4 (.inr (1, [vR (some (s + 1)), vR (some (s + 2)), vI 4, vI 0, vI 35])) dX1_init_32 g0f (by omega) clX1 in_X1 tyX1 tyX1_ok nmX1 (by decide) q194 (Or.inl rfl) rfl (fok_int _) (Nat.le_of_ble_eq_true rfl) rfl ?_
  refine gs_vret (pc := 35) dX1_init_35 rfl ?_
  have g0g := gl_set_self (c := (s + 2, Sum.inr (1, [vR (some (s + 1)), vR (some (s + 2)), vI 4, vI 0, vI 35]))) g0f (by omega)
  have fx : ∀ hq : gHp, Fr X (fun l => l = s + 2) hpd hq → isAL X hq (s + 1) [] 0 := fun hq h => a6.fr hX h (by omega)
  have f5 : Fr X (fun l => l = s + 2) hpd _ := ((Fr1 (c := .inr (1, [vR (some (s + 1)), vR (some (s + 2)), vI 0, vI 0, vI 0])) g0d (by omega) ⟨rfl, rfl⟩).set (c := .inr (1, [vR (some (s + 1)), vR (some (s + 2)), vI 4, vI 0, vI 0])) g0e (by omega) rfl ⟨rfl, rfl⟩).set (c := .inr (1, [vR (some (s + 1)), vR (some (s + 2)), vI 4, vI 0, vI 35])) g0f (by omega) rfl ⟨rfl, rfl⟩
  refine ⟨rfl, f4.trans (f5.mono (fun l hl => by omega)), ?_, ?_, g0g, fx _ f5, by decide, rfl, List.nodup_nil, fun i hi => absurd hi (Nat.not_lt_zero _), ?_, fun r _ => Or.inl ⟨rfl, rfl⟩⟩
  · show hpd.1 = _; omega
  · show hpd.2.1 = _; omega
  · rw [gl_set_ne (by omega), gl_set_ne (by omega), gl_set_ne (by omega)]; exact gra
/-- lines of a list -/
def lnsA (X : gCx) (hp : gHp) (lb : Nat) (xs : List Nat) (S : SS) : Prop := ∀ i : Nat, i < xs.length → isLn X hp lb (xs.getD i 0) (lnA S i)
theorem cpy12 {f g : Int → Option Nat} {r : Nat} (hr : r < 12) : cpy f g 0 0 12 (r : Int) = f r := by
  unfold cpy
  rw [if_pos (by omega)]
  exact congrArg f (by omega)
theorem isAL.lt {a cap : Nat} {xs : List Nat} (h : isAL X hp a xs cap) : a < nx X hp := by
  obtain ⟨mc, e, lbe, f, e1, -⟩ := h
  exact gl_lt e1
theorem c_stCopy {t : Nat} (hX : KX X) (hS : ssOk S) (ht : isSta X hp t S) : MV X yX1_copy fX1_copy 8 [vR (some t)] hp (fun v hp' => v = vR (some (nx X hp)) ∧ FrN X hp hp' ∧ isSta X hp' (nx X hp) S ∧ hp'.1 ≤ hp.1 + 100 ∧ hp'.2.1 ≤ hp.2.1 + 400) := by
  obtain ⟨xs, cap, ra, f, ht⟩ := ht
  have htlt := ht.lt
  have hl20 : S.1.length ≤ 20 := hS.1
  refine MC.of pfX1_copy rfl (fun h => by cases h) 2 rfl rfl ?_
  generalize hsn : nx X hp = s
  refine gs_new (pc := 0) (s + 2) dfX1 dX1_copy_0 clX1 in_X1 tyX1 tyX1_ok q503 q149 q97 dfoX1 ?_
  rw [hsn]
  have g1 : gl X (hnew X hp 5 (s + 2, Sum.inr (1, dfX1))) s = some (s + 2, .inr (1, dfX1)) := by rw [← hsn]; exact gl_new_self
  have f1 : FrN X hp (hnew X hp 5 (s + 2, Sum.inr (1, dfX1))) := Fr.new Fr.refl
  have hnx : nx X (hnew X hp 5 (s + 2, Sum.inr (1, dfX1))) = s + 1 := by rw [nx_new, hsn]
  have hc1 : (hnew X hp 5 (s + 2, Sum.inr (1, dfX1))).1 = hp.1 + 1 := rfl
  have hc2 : (hnew X hp 5 (s + 2, Sum.inr (1, dfX1))).2.1 = hp.2.1 + 5 := rfl
  generalize hnew X hp 5 (s + 2, Sum.inr (1, dfX1)) = hpa at *
  refine gs_dup (pc := 3) dX1_copy_3 rfl ?_
  refine gs_I0v (pc := 4) dX1_copy_4 kX1_31 (by decide) (Nat.le_of_ble_eq_true rfl) (c_stInit hX g1 hnx) (fun hpb hq => ?_)
  obtain ⟨b1, b2, b3, b4⟩ := hq
  have f2 : FrN X hp hpb := Fr.trans f1 (Fr.mono b1 (fun l hl => by unfold frs; omega))
  obtain ⟨u1, u2, u3, u4, u5, u6, u7, u8⟩ := b4
  have kend : ∀ (hpi : gHp) (ys : List Nat) (capi : Nat) (L2 : Option AV), FrN X hp hpi → gl X hpi s = some (s + 2, .inr (1, [vR (some (s + 1)), vR (some (s + 2)), vI 4, vI 0, vI 35])) → gl X hpi (s + 2) = some (s + 2, .inl (5, 12, .inr (fun _ => none))) → isAL X hpi (s + 1) ys capi → capi ≤ 60 → ys.length = xs.length → ys.Nodup → lnsA X hpi (s + 2) ys S → hpi.1 ≤ hp.1 + 3 + 20 + 60 → hpi.2.1 ≤ hp.2.1 + 20 + 60 + 4 * 60 → G X fX1_copy 8 49 [some (vR (some t)), some (vR (some s)), L2] [] hpi (fun r hp' => ∃ v, r = some v ∧ v = vR (some s) ∧ FrN X hp hp' ∧ isSta X hp' s S ∧ hp'.1 ≤ hp.1 + 100 ∧ hp'.2.1 ≤ hp.2.1 + 400) := by
    intro hpi ys capi L2 hF v1 v2 v3 v4 v5 v6 v7 v8 v9
    obtain ⟨t1, t2, t3, t4, t5, t6, t7, t8⟩ := ht.fr hX hF (fun _ hl => frs_2 hl) (by unfold frs; omega) (by unfold frs; omega)
    have hne : t ≠ s := by omega
    have hel : ∀ x : Int, (0 : Int) ≤ x → x < 0 + 12 → ∀ y, f x = some y → ∃ lbv ci fs C T N, gl X hpi y = some (lbv, .inr (ci, fs)) ∧ gCl[ci]? = some (C, T, N) ∧ (C = "AutoIndenter$Rule" ∨ Cond.castable C "AutoIndenter$Rule" ∈ lw_tbl) := by
      intro x h1 h2 y hy
      obtain ⟨r, rfl⟩ : ∃ r : Nat, x = (r : Int) := ⟨x.toNat, by omega⟩
      rcases t8 r (by omega) with ⟨-, g⟩ | ⟨R, q, -, g, g3⟩
      · rw [g] at hy; cases hy
      · rw [g] at hy
        cases hy
        obtain ⟨tt, kk, c1, -⟩ := g3
        exact ⟨1, 7, _, RX7, TX7, 7, c1, rfl, Or.inl rfl⟩
    refine gs_ald0 (pc := 49) dX1_copy_49 ?_
    refine gs_getf (pc := 50) 1 dX1_copy_50 t1 clX1 in_X1 (by decide) q186 (Or.inl rfl) rfl ?_
    refine gs_iconst (pc := 53) dX1_copy_53 ?_
    refine gs_ald1 (pc := 54) dX1_copy_54 ?_
    refine gs_getf (pc := 55) 1 dX1_copy_55 v1 clX1 in_X1 (by decide) q186 (Or.inl rfl) rfl ?_
    refine gs_iconst (pc := 58) dX1_copy_58 ?_
    refine gs_bipush (pc := 59) dX1_copy_59 rfl ?_
    refine gs_copyR (pc := 61) 5 (by decide) rfl dX1_copy_61 q578 q365 q364 q110 t7 v2 (by omega) (by omega) (by omega) (by omega) hel (by decide) (Nat.le_of_ble_eq_true rfl) ?_
    have e1 := gl_set_self (c := (s + 2, Sum.inl (5, 12, Sum.inr (cpy f (fun _ => none) 0 0 12)))) v2 (by omega)
    have fr1 : Fr X (fun l => l = s + 2) hpi _ := Fr1 (c := .inl (5, 12, .inr (cpy f (fun _ => none) 0 0 12))) v2 (by omega) ⟨rfl, rfl, rfl⟩
    have w1 := (gl_set_ne (X := X) (hp := hpi) (c := (s + 2, Sum.inl (5, 12, Sum.inr (cpy f (fun _ => none) 0 0 12)))) (show s ≠ s + 2 by omega)).trans v1
    have hk1 : (hset hpi (s + 2) (s + 2, Sum.inl (5, 12, Sum.inr (cpy f (fun _ => none) 0 0 12)))).1 = hpi.1 := rfl
    have hk2 : (hset hpi (s + 2) (s + 2, Sum.inl (5, 12, Sum.inr (cpy f (fun _ => none) 0 0 12)))).2.1 = hpi.2.1 := rfl
    have hj7 : ∀ b, b ≠ s + 2 → gl X (hset hpi (s + 2) (s + 2, Sum.inl (5, 12, Sum.inr (cpy f (fun _ => none) 0 0 12)))) b = gl X hpi b := fun b hb => gl_set_ne hb
    generalize hset hpi (s + 2) (s + 2, Sum.inl (5, 12, Sum.inr (cpy f (fun _ => none) 0 0 12))) = hpj at *
    have t1j := fr1.at t1 (by omega)
    refine gs_ald1 (pc := 64) dX1_copy_64 ?_
    refine gs_ald0 (pc := 65) dX1_copy_65 ?_
    refine gs_getf (pc := 66) 2 dX1_copy_66 t1j clX1 in_X1 (by decide) q190 (Or.inl rfl) rfl ?_
    refine gs_putf (pc := 69) 2 (.inr (1, [vR (some (s + 1)), vR (some (s + 2)), vI S.2.2.1, vI 0, vI 35])) dX1_copy_69 w1 (by omega) clX1 in_X1 tyX1 tyX1_ok nmX1 (by decide) q190 (Or.inl rfl) rfl (fok_int _) (Nat.le_of_ble_eq_true rfl) rfl ?_
    have w2 := gl_set_self (c := (s + 2, Sum.inr (1, [vR (some (s + 1)), vR (some (s + 2)), vI S.2.2.1, vI 0, vI 35]))) w1 (by omega)
    have fr2 := fr1.set (c := .inr (1, [vR (some (s + 1)), vR (some (s + 2)), vI S.2.2.1, vI 0, vI 35])) w1 (by omega) rfl ⟨rfl, rfl⟩
    have t1k := fr2.at t1 (by omega)
    refine gs_ald1 (pc := 72) dX1_copy_72 ?_
    refine gs_ald0 (pc := 73) dX1_copy_73 ?_
    refine gs_getf (pc := 74) 3 dX1_copy_74 t1k clX1 in_X1 (by decide) q192 (Or.inl rfl) rfl ?_
    refine gs_putf (pc := 77) 3 (.inr (1, [vR (some (s + 1)), vR (some (s + 2)), vI S.2.2.1, vI S.2.2.2.1, vI 35])) dX1_copy_77 w2 (by omega) clX1 in_X1 tyX1 tyX1_ok nmX1 (by decide) q192 (Or.inl rfl) rfl (fok_int _) (Nat.le_of_ble_eq_true rfl) rfl ?_
    have w3 := gl_set_self (c := (s + 2, Sum.inr (1, [vR (some (s + 1)), vR (some (s + 2)), vI S.2.2.1, vI S.2.2.2.1, vI 35]))) w2 (by omega)
    have fr3 := fr2.set (c := .inr (1, [vR (some (s + 1)), vR (some (s + 2)), vI S.2.2.1, vI S.2.2.2.1, vI 35])) w2 (by omega) rfl ⟨rfl, rfl⟩
    have t1l := fr3.at t1 (by omega)
    refine gs_ald1 (pc := 80) dX1_copy_80 ?_
    refine gs_ald0 (pc := 81) dX1_copy_81 ?_
    refine gs_getf (pc := 82) 4 dX1_copy_82 t1l clX1 in_X1 (by decide) q194 (Or.inl rfl) rfl ?_
    refine gs_putf (pc := 85) 4 (.inr (1, [vR (some (s + 1)), vR (some (s + 2)), vI S.2.2.1, vI S.2.2.2.1, vI S.2.2.2.2])) dX1_copy_85 w3 (by omega) clX1 in_X1 tyX1 tyX1_ok nmX1 (by decide) q194 (Or.inl rfl) rfl (fok_int _) (Nat.le_of_ble_eq_true rfl) rfl ?_
    refine gs_ald1 (pc := 88) dX1_copy_88 ?_
    refine gs_aret (pc := 89) dX1_copy_89 rfl (Or.inl ⟨_, rfl⟩) ?_
    have w4 := gl_set_self (c := (s + 2, Sum.inr (1, [vR (some (s + 1)), vR (some (s + 2)), vI S.2.2.1, vI S.2.2.2.1, vI S.2.2.2.2]))) w3 (by omega)
    have fr4 := fr3.set (c := .inr (1, [vR (some (s + 1)), vR (some (s + 2)), vI S.2.2.1, vI S.2.2.2.1, vI S.2.2.2.2])) w3 (by omega) rfl ⟨rfl, rfl⟩
    have e2 : gl X (hset (hset (hset hpj s (s + 2, Sum.inr (1, [vR (some (s + 1)), vR (some (s + 2)), vI S.2.2.1, vI 0, vI 35]))) s (s + 2, Sum.inr (1, [vR (some (s + 1)), vR (some (s + 2)), vI S.2.2.1, vI S.2.2.2.1, vI 35]))) s (s + 2, Sum.inr (1, [vR (some (s + 1)), vR (some (s + 2)), vI S.2.2.1, vI S.2.2.2.1, vI S.2.2.2.2]))) (s + 2) = some (s + 2, Sum.inl (5, 12, Sum.inr (cpy f (fun _ => none) 0 0 12))) := by
      rw [gl_set_ne (by omega), gl_set_ne (by omega), gl_set_ne (by omega)]; exact e1
    have hFF : FrN X hp _ := hF.to (a := s) (by omega) fr4
    refine ⟨_, rfl, rfl, hFF, ⟨ys, capi, s + 2, _, w4, v3.fr hX fr4 (by omega), v4, by rw [v5, t4], v6, fun i hi => ?_, e2, fun r hr => ?_⟩, by show hpj.1 ≤ _; omega, by show hpj.2.1 ≤ _; omega⟩
    · -- the lines: the state's own label
      obtain ⟨c, c1, c2, c3⟩ := v7 i hi
      have hxs : ys.getD i 0 ≠ s ∧ ys.getD i 0 ≠ s + 2 := by
        refine ⟨fun h => ?_, fun h => ?_⟩
        · rw [h, v1] at c1; cases c1
        · rw [h, v2] at c1; cases c1
      refine ⟨c, ?_, c2.fr fr4 (fun l hl => by omega), fun hn => (c3 hn).fr fr4 (fun l hl => by omega)⟩
      rw [gl_set_ne hxs.1, gl_set_ne hxs.1, gl_set_ne hxs.1, hj7 _ hxs.2]
      exact c1
    · rw [cpy12 hr]
      rcases t8 r hr with g | ⟨R, q, g1, g2, g3⟩
      · exact Or.inl g
      · exact Or.inr ⟨R, q, g1, g2, g3.fr fr4 (fun l hl => by omega)⟩
  have loop : ∀ (r i : Nat) (hpi : gHp) (ys : List Nat) (capi : Nat), i + r = xs.length → FrN X hp hpi → gl X hpi s = some (s + 2, .inr (1, [vR (some (s + 1)), vR (some (s + 2)), vI 4, vI 0, vI 35])) → gl X hpi (s + 2) = some (s + 2, .inl (5, 12, .inr (fun _ => none))) → isAL X hpi (s + 1) ys capi → capi ≤ 60 → ys.length = i → ys.Nodup → (∀ y ∈ ys, y < nx X hpi) → lnsA X hpi (s + 2) ys S → hpi.1 ≤ hp.1 + 3 + i + capi → hpi.2.1 ≤ hp.2.1 + 20 + 3 * i + 4 * capi → G X fX1_copy 8 10 [some (vR (some t)), some (vR (some s)), some (vI (i : Int))] [] hpi (fun r hp' => ∃ v, r = some v ∧ v = vR (some s) ∧ FrN X hp hp' ∧ isSta X hp' s S ∧ hp'.1 ≤ hp.1 + 100 ∧ hp'.2.1 ≤ hp.2.1 + 400) := by
    intro r
    induction r with
    | zero =>
      intro i hpi ys capi hi hF v1 v2 v3 v4 v5 v6 v6' v7 v8 v9
      obtain ⟨t1, t2, t3, t4, t5, t6, t7, t8⟩ := ht.fr hX hF (fun _ hl => frs_2 hl) (by unfold frs; omega) (by unfold frs; omega)
      obtain ⟨mc, e, lbe, ff, ea, -⟩ := t2
      have t2 := ht.2.1.fr hX hF (by unfold frs; omega)
      refine gs_ild2 (pc := 10) dX1_copy_10 ?_
      refine gs_ald0 (pc := 11) dX1_copy_11 ?_
      refine gs_getf (pc := 12) 0 dX1_copy_12 t1 clX1 in_X1 (by decide) q182 (Or.inl rfl) rfl ?_
      refine gs_V0 (pc := 15) dX1_copy_15 kX1_32 ea clJ2 (by decide) (Nat.le_of_ble_eq_true rfl) (c_alSize t2) (fun v hp1 hq => ?_)
      obtain ⟨rfl, rfl⟩ := hq
      refine gs_ic_ge (pc := 18) (tgt := 49) dX1_copy_18 (by decide) (by omega) (fun _ => ?_) (fun hn => absurd (by omega) hn)
      exact kend hpi ys capi _ hF v1 v2 v3 v4 (by omega) v6 v7 (by omega) (by omega)
    | succ r ih =>
      intro i hpi ys capi hi hF v1 v2 v3 v4 v5 v6 v6' v7 v8 v9
      obtain ⟨t1, -, t3, t4, t5, t6, t7, t8⟩ := ht.fr hX hF (fun _ hl => frs_2 hl) (by unfold frs; omega) (by unfold frs; omega)
      have t2 := ht.2.1.fr hX hF (by unfold frs; omega)
      have t2' := t2
      obtain ⟨mc, e, lbe, ff, ea, -⟩ := t2'
      have hln := t6 i (by omega)
      have hln' := hln
      obtain ⟨cc, cl1, -⟩ := hln'
      have v3' := v3
      obtain ⟨mc', e', lbe', ff', ea', -⟩ := v3'
      refine gs_ild2 (pc := 10) dX1_copy_10 ?_
      refine gs_ald0 (pc := 11) dX1_copy_11 ?_
      refine gs_getf (pc := 12) 0 dX1_copy_12 t1 clX1 in_X1 (by decide) q182 (Or.inl rfl) rfl ?_
      refine gs_V0 (pc := 15) dX1_copy_15 kX1_32 ea clJ2 (by decide) (Nat.le_of_ble_eq_true rfl) (c_alSize t2) (fun v hp1 hq => ?_)
      obtain ⟨rfl, rfl⟩ := hq
      refine gs_ic_ge (pc := 18) (tgt := 49) dX1_copy_18 (by decide) (by omega) (fun hn => absurd hn (by omega)) (fun _ => ?_)
      refine gs_ald1 (pc := 21) dX1_copy_21 ?_
      refine gs_getf (pc := 22) 0 dX1_copy_22 v1 clX1 in_X1 (by decide) q182 (Or.inl rfl) rfl ?_
      refine gs_ald0 (pc := 25) dX1_copy_25 ?_
      refine gs_getf (pc := 26) 0 dX1_copy_26 t1 clX1 in_X1 (by decide) q182 (Or.inl rfl) rfl ?_
      refine gs_ild2 (pc := 29) dX1_copy_29 ?_
      refine gs_V1 (pc := 30) dX1_copy_30 kX1_36 ea clJ2 (by decide) (Nat.le_of_ble_eq_true rfl) (c_alGet t2 (by omega)) (fun v hp1 hq => ?_)
      obtain ⟨rfl, rfl⟩ := hq
      refine gs_cast (pc := 33) dX1_copy_33 q514 cl1 clX3 (Or.inl rfl) ?_
      refine gs_V0 (pc := 36) dX1_copy_36 kX1_42 cl1 clX3 (by decide) (Nat.le_of_ble_eq_true rfl) (c_lnCopy (lb2 := s + 2) (by omega) hln) (fun v hpj hq => ?_)
      obtain ⟨rfl, j1, j2, j3, j4⟩ := hq
      have w3 := v3.fr hX j1 (fun h => h)
      have eaj := j1.at ea' (fun h => h)
      refine gs_V1 (pc := 39) dX1_copy_39 kX1_46 eaj clJ2 (by decide) (Nat.le_of_ble_eq_true rfl) (c_alAdd hX w3 (by omega) j4.ok) (fun v hpk hq => ?_)
      obtain ⟨rfl, k1, cap', k2, k3⟩ := hq
      obtain ⟨k4, k5, k6, k7⟩ := k2
      have hys : lnsA X hpk (s + 2) (ys ++ [nx X hpi]) S := by
        intro j hj
        rw [List.length_append, List.length_singleton] at hj
        rw [List.getD_eq_getElem?_getD]
        by_cases hjl : j < ys.length
        · rw [List.getElem?_append_left hjl, ← List.getD_eq_getElem?_getD]
          exact ((v7 j hjl).fr j1 (fun _ h => h.elim) (fun h => h)).fr k1 (fun l hl => by omega) (by omega)
        · obtain rfl : j = ys.length := by omega
          rw [List.getElem?_append_right (Nat.le_refl _), Nat.sub_self]
          have : i = ys.length := v5.symm
          rw [← this]
          exact j4.fr k1 (fun l hl => by omega) (by omega)
      have hnj : nx X hpj = nx X hpi + 1 := by unfold nx; omega
      have hnk := k1.nx
      refine gs_pop (pc := 42) dX1_copy_42 rfl ?_
      refine gs_inc2 (pc := 43) dX1_copy_43 rfl ?_
      refine gs_goto (pc := 46) (tgt := 10) dX1_copy_46 (by decide) ?_
      refine ih (i + 1) hpk (ys ++ [nx X hpi]) cap' (by omega) ((hF.f0 j1).to (a := s + 1) (by omega) k1) (k1.at (j1.at v1 (fun h => h)) (by omega)) (k1.at (j1.at v2 (fun h => h)) (by omega)) k3 (by omega) (by rw [List.length_append, List.length_singleton, v5]) ?_ (fun y hy => ?_) hys (by omega) (by omega)
      · rw [List.nodup_append]
        refine ⟨v6, by simp, fun a ha b hb => ?_⟩
        rw [List.mem_singleton] at hb
        have := v6' a ha
        omega
      · rcases List.mem_append.mp hy with hy | hy
        · have := v6' y hy; omega
        · rw [List.mem_singleton.mp hy]; omega
  refine gs_ast1 (pc := 7) dX1_copy_7 rfl ?_
  refine gs_iconst (pc := 8) dX1_copy_8 ?_
  refine gs_ist2 (pc := 9) dX1_copy_9 rfl ?_
  exact loop xs.length 0 hpb [] 0 (by omega) f2 u1 u7 u2 (by omega) rfl List.nodup_nil (fun y hy => by cases hy) (fun i hi => absurd hi (Nat.not_lt_zero _)) (by omega) (by omega)
end C2
