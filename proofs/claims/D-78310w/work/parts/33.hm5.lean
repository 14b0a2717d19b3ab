/-! CONTRACTS: HashMap, part 5: resize. -/
section HM5
variable {X : gCx} {hp : gHp}
/-- isHM without what putVal breaks for a while -/
def hmR (X : gCx) (hp : gHp) (cm nc m : Nat) (ks : Option Nat) (ext : List AV) (xt : Nat → List AV) (n : Nat) (es : List Nd) (sz : Int) (tb : Option Nat) : Prop :=
  (es.map (fun nd => nd.1)).Nodup ∧ (∀ nd ∈ es, 0 ≤ nd.2.1 ∧ nd.2.1 < 65536) ∧
  ∃ vs eset mc th lf, gl X hp m = some (m + 2, hmC cm ks vs tb eset sz mc th lf ext) ∧
    ((n = 0 ∧ tb = none ∧ th = 0 ∧ es = []) ∨ ∃ j ta t, n = 2 ^ j ∧ 4 ≤ j ∧ j ≤ 14 ∧ th = 3 * n / 4 ∧ tb = some ta ∧ gl X hp ta = some (m + 2, .inl (4, n, .inr t)) ∧ ∀ i, i < n → seg X hp (m + 2) nc xt (t (i : Int)) (rs n es i) none)
def nn (n : Nat) : Nat := if n = 0 then 16 else 2 * n
theorem rs_nil {n i : Nat} : rs n [] i = [] := rfl
theorem c_resize {m n : Nat} {ks tb : Option Nat} {ext : List AV} {xt : Nat → List AV} {es : List Nd} {sz : Int} (hm : hmR X hp 12 15 m ks ext xt n es sz tb) (hn : n ≤ 8192) : MV X yJ14_resize fJ14_resize 1 [vR (some m)] hp (fun v hp' => Fr X (fun l => l = m + 2) hp hp' ∧ hp'.1 = hp.1 + 1 ∧ hp'.2.1 = hp.2.1 + nn n ∧ ∃ ta, v = vR (some ta) ∧ hmR X hp' 12 15 m ks ext xt (nn n) es sz (some ta)) := by
  obtain ⟨h1, h2, vs, eset, mc, th, lf, e1, e2⟩ := hm
  refine MC.of pfJ14_resize rfl (fun h => by cases h) 13 rfl rfl ?_
  rcases e2 with ⟨rfl, rfl, rfl, rfl⟩ | ⟨j, ta, t, q1, q2, q3, q4, rfl, q5, q6⟩
  · refine gs_ald0 (pc := 0) dJ14_resize_0 ?_
    refine gs_getf (pc := 1) 2 dJ14_resize_1 e1 clJ14 in_J14 (by decide) q798 (Or.inl rfl) rfl ?_
    refine gs_ast1 (pc := 4) dJ14_resize_4 rfl ?_
    refine gs_ald1 (pc := 5) dJ14_resize_5 ?_
    refine gs_ifnonnull (pc := 6) (tgt := 13) dJ14_resize_6 (by decide) (fun _ h => by cases h) (fun _ => ?_)
    refine gs_iconst (pc := 9) dJ14_resize_9 ?_
    refine gs_goto (pc := 10) (tgt := 15) dJ14_resize_10 (by decide) ?_
    refine gs_ist2 (pc := 15) dJ14_resize_15 rfl ?_
    refine gs_ald0 (pc := 16) dJ14_resize_16 ?_
    refine gs_getf (pc := 17) 6 dJ14_resize_17 e1 clJ14 in_J14 (by decide) q806 (Or.inl rfl) rfl ?_
    refine gs_ist3 (pc := 20) dJ14_resize_20 rfl ?_
    refine gs_iconst (pc := 21) dJ14_resize_21 ?_
    refine gs_ist5 (pc := 22) dJ14_resize_22 rfl ?_
    refine gs_ild2 (pc := 24) dJ14_resize_24 ?_
    refine gs_if_le (pc := 25) (tgt := 67) dJ14_resize_25 (by decide) (by omega) (fun _ => ?_) (fun hn => absurd (by omega) hn)
    refine gs_ild3 (pc := 67) dJ14_resize_67 ?_
    refine gs_if_le (pc := 68) (tgt := 77) dJ14_resize_68 (by decide) (by omega) (fun _ => ?_) (fun hn => absurd (by omega) hn)
    refine gs_bipush (pc := 77) dJ14_resize_77 rfl ?_
    refine gs_ist4 (pc := 79) dJ14_resize_79 rfl ?_
    refine gs_bipush (pc := 81) dJ14_resize_81 rfl ?_
    refine gs_ist5 (pc := 83) dJ14_resize_83 rfl ?_
    refine gs_ild5 (pc := 85) dJ14_resize_85 ?_
    refine gs_if_ne (pc := 87) (tgt := 125) dJ14_resize_87 (by decide) (by omega) (fun _ => ?_) (fun hn => absurd hn (by decide))
    refine gs_ald0 (pc := 125) dJ14_resize_125 ?_
    refine gs_ild5 (pc := 126) dJ14_resize_126 ?_
    refine gs_putf (pc := 128) 6 (hmC 12 ks vs none eset sz mc 12 lf ext) dJ14_resize_128 e1 (by omega) clJ14 in_J14 tyJ14 tyJ14_ok nmJ14 (by decide) q806 (Or.inl rfl) rfl (fok_int _) (Nat.le_of_ble_eq_true rfl) rfl ?_
    have w1 := gl_set_self (c := (m + 2, hmC 12 ks vs none eset sz mc 12 lf ext)) e1 (by omega)
    have hF1 : Fr X (fun l => l = m + 2) hp (hset hp m (m + 2, hmC 12 ks vs none eset sz mc 12 lf ext)) := Fr.refl.set e1 (by omega) rfl ⟨rfl, rfl⟩
    generalize hh : hset hp m (m + 2, hmC 12 ks vs none eset sz mc 12 lf ext) = hp1 at w1 hF1 ⊢
    have hc1 : hp1.1 = hp.1 := by rw [← hh]; rfl
    have hc2 : hp1.2.1 = hp.2.1 := by rw [← hh]; rfl
    refine gs_ild4 (pc := 131) dJ14_resize_131 ?_
    refine gs_anew (pc := 133) 4 (16) (m + 2) (by decide) rfl dJ14_resize_133 q1234 q1235 (by first | rfl | omega) (by omega) ?_
    have w2 : gl X (hnew X hp1 16 (m + 2, .inl (4, 16, .inr (fun _ => none)))) m = _ := gl_new_of w1
    have w3 : gl X (hnew X hp1 16 (m + 2, .inl (4, 16, .inr (fun _ => none)))) (nx X hp1) = _ := gl_new_self
    have hF2 : Fr X (fun l => l = m + 2) hp (hnew X hp1 16 (m + 2, .inl (4, 16, .inr (fun _ => none)))) := hF1.new
    have hne : nx X hp1 ≠ m := by have := gl_lt w1; omega
    generalize hh2 : hnew X hp1 16 (m + 2, .inl (4, 16, .inr (fun _ => none))) = hp2 at w2 w3 hF2 ⊢
    have hc3 : hp2.1 = hp1.1 + 1 := by rw [← hh2]; rfl
    have hc4 : hp2.2.1 = hp1.2.1 + 16 := by rw [← hh2]; rfl
    generalize nx X hp1 = tb at w3 hne ⊢
    refine gs_ast6 (pc := 136) dJ14_resize_136 rfl ?_
    refine gs_ald0 (pc := 138) dJ14_resize_138 ?_
    refine gs_ald6 (pc := 139) dJ14_resize_139 ?_
    refine gs_putf (pc := 141) 2 (hmC 12 ks vs (some tb) eset sz mc 12 lf ext) dJ14_resize_141 w2 (by omega) clJ14 in_J14 tyJ14 tyJ14_ok nmJ14 (by decide) q798 (Or.inl rfl) rfl (fok_arr _ _) (Nat.le_of_ble_eq_true rfl) rfl ?_
    refine gs_ald1 (pc := 144) dJ14_resize_144 ?_
    refine gs_ifnull (pc := 145) (tgt := 353) dJ14_resize_145 (by decide) (fun _ => ?_) (fun _ h => by cases h)
    refine gs_ald6 (pc := 353) dJ14_resize_353 ?_
    refine gs_aret (pc := 355) dJ14_resize_355 rfl (Or.inr ⟨_, rfl⟩) ?_
    refine ⟨_, rfl, hF2.set w2 (by omega) rfl ⟨rfl, rfl⟩, by show hp2.1 = _; omega, by show hp2.2.1 = hp.2.1 + 16; omega, tb, rfl, h1, h2, vs, eset, mc, 12, lf, gl_set_self w2 (by omega), Or.inr ⟨4, tb, fun _ => none, rfl, by decide, by decide, rfl, rfl, ?_, fun i hi => rfl⟩⟩
    rw [gl_set_ne hne]; exact w3
  · have hb := pow14 q1 ⟨q2, q3⟩
    have hth : th = ((3 * n / 4 : Nat) : Int) := by rw [q4]; omega
    have hn4 : n % 4 = 0 := by
      obtain ⟨i, rfl⟩ : ∃ i, j = i + 2 := ⟨j - 2, by omega⟩
      rw [q1, Nat.pow_add]; omega
    have hj13 : j ≤ 13 := by
      rcases Nat.lt_or_ge 13 j with h | h
      · have : 2 ^ 14 ≤ 2 ^ j := Nat.pow_le_pow_right (by decide) h
        omega
      · exact h
    have hnn : nn n = 2 * n := if_neg (by omega)
    have hth2 : 2 * (3 * n / 4) = 3 * (2 * n) / 4 := by omega
    rw [hth] at e1
    refine gs_ald0 (pc := 0) dJ14_resize_0 ?_
    refine gs_getf (pc := 1) 2 dJ14_resize_1 e1 clJ14 in_J14 (by decide) q798 (Or.inl rfl) rfl ?_
    refine gs_ast1 (pc := 4) dJ14_resize_4 rfl ?_
    refine gs_ald1 (pc := 5) dJ14_resize_5 ?_
    refine gs_ifnonnull (pc := 6) (tgt := 13) dJ14_resize_6 (by decide) (fun _ _ => ?_) (fun h => by cases h)
    refine gs_ald1 (pc := 13) dJ14_resize_13 ?_
    refine gs_alen (pc := 14) dJ14_resize_14 q5 ?_
    refine gs_ist2 (pc := 15) dJ14_resize_15 rfl ?_
    refine gs_ald0 (pc := 16) dJ14_resize_16 ?_
    refine gs_getf (pc := 17) 6 dJ14_resize_17 e1 clJ14 in_J14 (by decide) q806 (Or.inl rfl) rfl ?_
    refine gs_ist3 (pc := 20) dJ14_resize_20 rfl ?_
    refine gs_iconst (pc := 21) dJ14_resize_21 ?_
    refine gs_ist5 (pc := 22) dJ14_resize_22 rfl ?_
    refine gs_ild2 (pc := 24) dJ14_resize_24 ?_
    refine gs_if_le (pc := 25) (tgt := 67) dJ14_resize_25 (by decide) (by omega) (fun hn => absurd hn (by omega)) (fun _ => ?_)
    refine gs_ild2 (pc := 28) dJ14_resize_28 ?_
    refine gs_ldc (pc := 29) (z := 1073741824) dJ14_resize_29 q1231 ?_
    refine gs_ic_lt (pc := 31) (tgt := 42) dJ14_resize_31 (by decide) (by omega) (fun _ => ?_) (fun hn => absurd (by omega) hn)
    refine gs_ild2 (pc := 42) dJ14_resize_42 ?_
    refine gs_iconst (pc := 43) dJ14_resize_43 ?_
    refine gs_ishl (pc := 44) dJ14_resize_44 (i_shl1 (by omega)) ?_
    refine gs_dup (pc := 45) dJ14_resize_45 rfl ?_
    refine gs_ist4 (pc := 46) dJ14_resize_46 rfl ?_
    refine gs_ldc (pc := 48) (z := 1073741824) dJ14_resize_48 q1231 ?_
    refine gs_ic_ge (pc := 50) (tgt := 85) dJ14_resize_50 (by decide) (by omega) (fun hn => absurd hn (by omega)) (fun _ => ?_)
    refine gs_ild2 (pc := 53) dJ14_resize_53 ?_
    refine gs_bipush (pc := 54) dJ14_resize_54 rfl ?_
    refine gs_ic_lt (pc := 56) (tgt := 85) dJ14_resize_56 (by decide) (by omega) (fun hn => absurd hn (by omega)) (fun _ => ?_)
    refine gs_ild3 (pc := 59) dJ14_resize_59 ?_
    refine gs_iconst (pc := 60) dJ14_resize_60 ?_
    refine gs_ishl (pc := 61) dJ14_resize_61 (i_shl1 (by omega)) ?_
    refine gs_ist5 (pc := 62) dJ14_resize_62 rfl ?_
    refine gs_goto (pc := 64) (tgt := 85) dJ14_resize_64 (by decide) ?_
    refine gs_ild5 (pc := 85) dJ14_resize_85 ?_
    refine gs_if_ne (pc := 87) (tgt := 125) dJ14_resize_87 (by decide) (by omega) (fun _ => ?_) (fun hn => absurd hn (by omega))
    refine gs_ald0 (pc := 125) dJ14_resize_125 ?_
    refine gs_ild5 (pc := 126) dJ14_resize_126 ?_
    refine gs_putf (pc := 128) 6 (hmC 12 ks vs (some ta) eset sz mc ((2 * (3 * n / 4) : Nat) : Int) lf ext) dJ14_resize_128 e1 (by omega) clJ14 in_J14 tyJ14 tyJ14_ok nmJ14 (by decide) q806 (Or.inl rfl) rfl (fok_int _) (Nat.le_of_ble_eq_true rfl) rfl ?_
    have w1 := gl_set_self (c := (m + 2, hmC 12 ks vs (some ta) eset sz mc ((2 * (3 * n / 4) : Nat) : Int) lf ext)) e1 (by omega)
    have hF1 : Fr X (fun l => l = m + 2) hp (hset hp m (m + 2, hmC 12 ks vs (some ta) eset sz mc ((2 * (3 * n / 4) : Nat) : Int) lf ext)) := Fr.refl.set e1 (by omega) rfl ⟨rfl, rfl⟩
    have u1 : ∀ a, a ≠ m → gl X (hset hp m (m + 2, hmC 12 ks vs (some ta) eset sz mc ((2 * (3 * n / 4) : Nat) : Int) lf ext)) a = gl X hp a := fun a h => gl_set_ne h
    generalize hh : hset hp m (m + 2, hmC 12 ks vs (some ta) eset sz mc ((2 * (3 * n / 4) : Nat) : Int) lf ext) = hp1 at w1 hF1 u1 ⊢
    have hc1 : hp1.1 = hp.1 := by rw [← hh]; rfl
    have hc2 : hp1.2.1 = hp.2.1 := by rw [← hh]; rfl
    refine gs_ild4 (pc := 131) dJ14_resize_131 ?_
    refine gs_anew (pc := 133) 4 (2 * n) (m + 2) (by decide) rfl dJ14_resize_133 q1234 q1235 (by first | rfl | omega) (by omega) ?_
    have w2 : gl X (hnew X hp1 (2 * n) (m + 2, .inl (4, 2 * n, .inr (fun _ => none)))) m = _ := gl_new_of w1
    have w3 : gl X (hnew X hp1 (2 * n) (m + 2, .inl (4, 2 * n, .inr (fun _ => none)))) (nx X hp1) = _ := gl_new_self
    have hF2 : Fr X (fun l => l = m + 2) hp (hnew X hp1 (2 * n) (m + 2, .inl (4, 2 * n, .inr (fun _ => none)))) := hF1.new
    have hne : nx X hp1 ≠ m := by have := gl_lt w1; omega
    have hnx : nx X hp1 = nx X hp := congrArg (cxz X + ·) hc1
    have u2 : ∀ a c, a ≠ m → gl X hp a = some c → a ≠ nx X hp1 ∧ gl X (hnew X hp1 (2 * n) (m + 2, .inl (4, 2 * n, .inr (fun _ => none)))) a = some c := fun a c h hc => ⟨by have := gl_lt hc; omega, gl_new_of (by rw [u1 a h]; exact hc)⟩
    generalize hh2 : hnew X hp1 (2 * n) (m + 2, .inl (4, 2 * n, .inr (fun _ => none))) = hp2 at w2 w3 hF2 u2 ⊢
    have hc3 : hp2.1 = hp1.1 + 1 := by rw [← hh2]; rfl
    have hc4 : hp2.2.1 = hp1.2.1 + 2 * n := by rw [← hh2]; rfl
    generalize nx X hp1 = tb at w3 hne u2 ⊢
    refine gs_ast6 (pc := 136) dJ14_resize_136 rfl ?_
    refine gs_ald0 (pc := 138) dJ14_resize_138 ?_
    refine gs_ald6 (pc := 139) dJ14_resize_139 ?_
    refine gs_putf (pc := 141) 2 (hmC 12 ks vs (some tb) eset sz mc ((2 * (3 * n / 4) : Nat) : Int) lf ext) dJ14_resize_141 w2 (by omega) clJ14 in_J14 tyJ14 tyJ14_ok nmJ14 (by decide) q798 (Or.inl rfl) rfl (fok_arr _ _) (Nat.le_of_ble_eq_true rfl) rfl ?_
    refine gs_ald1 (pc := 144) dJ14_resize_144 ?_
    refine gs_ifnull (pc := 145) (tgt := 353) dJ14_resize_145 (by decide) (fun h => by cases h) (fun _ _ => ?_)
    refine gs_iconst (pc := 148) dJ14_resize_148 ?_
    refine gs_ist7 (pc := 149) dJ14_resize_149 rfl ?_
    have hmta : ta ≠ m := by intro h; subst h; rw [e1] at q5; cases q5
    have hcell : ∀ x ∈ es, x.1 ≠ m ∧ ∃ nxt, gl X hp x.1 = some (m + 2, ndC 15 x.2.1 x.2.2.1 x.2.2.2 nxt (xt x.1)) := by
      intro x hx
      obtain ⟨nxt, hg⟩ := (q6 _ (Nat.mod_lt x.2.1.toNat (by omega))).cell (nd := x) (List.mem_filter.mpr ⟨hx, by simp⟩)
      exact ⟨(by intro h; rw [h, e1] at hg; cases hg), nxt, hg⟩
    refine rz_out (hpA := hset hp2 m (m + 2, hmC 12 ks vs (some tb) eset sz mc ((2 * (3 * n / 4) : Nat) : Int) lf ext)) (xt := xt) (es := es) (t := t) (c := hmC 12 ks vs (some tb) eset sz mc ((2 * (3 * n / 4) : Nat) : Int) lf ext) q1 q2 hj13 h1 h2 (fun x hx h => ?_) (fun x hx h => ?_) (fun x hx => (hcell x hx).1) (u2 ta _ hmta q5).1 (Ne.symm hmta) (Ne.symm hne) (fun hp' t2 L8 L9 L10 L11 L12 L13 z1 z2 zF gm gt hs => ?_) n 0 _ t (fun _ => none) none none none none none none (by omega) rfl rfl Fr.refl (gl_set_self w2 (by omega)) (by rw [gl_set_ne hmta]; exact (u2 ta _ hmta q5).2) (by rw [gl_set_ne hne]; exact w3) (fun i _ hi => ⟨rfl, (q6 i hi).mono (fun x hx => ?_), rfl, rfl⟩) (fun i hi => absurd hi (by omega))
    · obtain ⟨nxt, hg⟩ := (hcell x hx).2
      rw [h, q5] at hg; cases hg
    · obtain ⟨nxt, hg⟩ := (hcell x hx).2
      exact (u2 x.1 _ (hcell x hx).1 hg).1 h
    · refine gs_ald6 (pc := 353) dJ14_resize_353 ?_
      refine gs_aret (pc := 355) dJ14_resize_355 rfl (Or.inr ⟨_, rfl⟩) ?_
      refine ⟨_, rfl, (hF2.set (c := hmC 12 ks vs (some tb) eset sz mc ((2 * (3 * n / 4) : Nat) : Int) lf ext) w2 (by omega) rfl ⟨rfl, rfl⟩).trans zF, ?_, ?_, tb, rfl, h1, h2, vs, eset, mc, _, lf, gm, Or.inr ⟨j + 1, tb, t2, ?_, by omega, by omega, ?_, rfl, ?_, ?_⟩⟩
      · have : (hset hp2 m (m + 2, hmC 12 ks vs (some tb) eset sz mc ((2 * (3 * n / 4) : Nat) : Int) lf ext)).1 = hp2.1 := rfl
        omega
      · have : (hset hp2 m (m + 2, hmC 12 ks vs (some tb) eset sz mc ((2 * (3 * n / 4) : Nat) : Int) lf ext)).2.1 = hp2.2.1 := rfl
        omega
      · rw [hnn, q1, Nat.pow_succ]; omega
      · rw [hnn, hth2]; omega
      · rw [hnn]; exact gt
      · rw [hnn]; exact hs
    · have hx := (mem_rs hx).1
      obtain ⟨hxm, nxt, hg⟩ := hcell x hx
      rw [gl_set_ne hxm, hg]; exact (u2 x.1 _ hxm hg).2
theorem c_resizeL {m n : Nat} {ks tb : Option Nat} {ext : List AV} {xt : Nat → List AV} {es : List Nd} {sz : Int} (hm : hmR X hp 16 17 m ks ext xt n es sz tb) (hn : n ≤ 8192) : MV X yJ14_resize fJ14_resize 1 [vR (some m)] hp (fun v hp' => Fr X (fun l => l = m + 2) hp hp' ∧ hp'.1 = hp.1 + 1 ∧ hp'.2.1 = hp.2.1 + nn n ∧ ∃ ta, v = vR (some ta) ∧ hmR X hp' 16 17 m ks ext xt (nn n) es sz (some ta)) := by
  obtain ⟨h1, h2, vs, eset, mc, th, lf, e1, e2⟩ := hm
  refine MC.of pfJ14_resize rfl (fun h => by cases h) 13 rfl rfl ?_
  rcases e2 with ⟨rfl, rfl, rfl, rfl⟩ | ⟨j, ta, t, q1, q2, q3, q4, rfl, q5, q6⟩
  · refine gs_ald0 (pc := 0) dJ14_resize_0 ?_
    refine gs_getf (pc := 1) 2 dJ14_resize_1 e1 clJ25 in_J25 (by decide) q798 (Or.inl rfl) rfl ?_
    refine gs_ast1 (pc := 4) dJ14_resize_4 rfl ?_
    refine gs_ald1 (pc := 5) dJ14_resize_5 ?_
    refine gs_ifnonnull (pc := 6) (tgt := 13) dJ14_resize_6 (by decide) (fun _ h => by cases h) (fun _ => ?_)
    refine gs_iconst (pc := 9) dJ14_resize_9 ?_
    refine gs_goto (pc := 10) (tgt := 15) dJ14_resize_10 (by decide) ?_
    refine gs_ist2 (pc := 15) dJ14_resize_15 rfl ?_
    refine gs_ald0 (pc := 16) dJ14_resize_16 ?_
    refine gs_getf (pc := 17) 6 dJ14_resize_17 e1 clJ25 in_J25 (by decide) q806 (Or.inl rfl) rfl ?_
    refine gs_ist3 (pc := 20) dJ14_resize_20 rfl ?_
    refine gs_iconst (pc := 21) dJ14_resize_21 ?_
    refine gs_ist5 (pc := 22) dJ14_resize_22 rfl ?_
    refine gs_ild2 (pc := 24) dJ14_resize_24 ?_
    refine gs_if_le (pc := 25) (tgt := 67) dJ14_resize_25 (by decide) (by omega) (fun _ => ?_) (fun hn => absurd (by omega) hn)
    refine gs_ild3 (pc := 67) dJ14_resize_67 ?_
    refine gs_if_le (pc := 68) (tgt := 77) dJ14_resize_68 (by decide) (by omega) (fun _ => ?_) (fun hn => absurd (by omega) hn)
    refine gs_bipush (pc := 77) dJ14_resize_77 rfl ?_
    refine gs_ist4 (pc := 79) dJ14_resize_79 rfl ?_
    refine gs_bipush (pc := 81) dJ14_resize_81 rfl ?_
    refine gs_ist5 (pc := 83) dJ14_resize_83 rfl ?_
    refine gs_ild5 (pc := 85) dJ14_resize_85 ?_
    refine gs_if_ne (pc := 87) (tgt := 125) dJ14_resize_87 (by decide) (by omega) (fun _ => ?_) (fun hn => absurd hn (by decide))
    refine gs_ald0 (pc := 125) dJ14_resize_125 ?_
    refine gs_ild5 (pc := 126) dJ14_resize_126 ?_
    refine gs_putf (pc := 128) 6 (hmC 16 ks vs none eset sz mc 12 lf ext) dJ14_resize_128 e1 (by omega) clJ25 in_J25 tyJ25 tyJ25_ok nmJ25 (by decide) q806 (Or.inl rfl) rfl (fok_int _) (Nat.le_of_ble_eq_true rfl) rfl ?_
    have w1 := gl_set_self (c := (m + 2, hmC 16 ks vs none eset sz mc 12 lf ext)) e1 (by omega)
    have hF1 : Fr X (fun l => l = m + 2) hp (hset hp m (m + 2, hmC 16 ks vs none eset sz mc 12 lf ext)) := Fr.refl.set e1 (by omega) rfl ⟨rfl, rfl⟩
    generalize hh : hset hp m (m + 2, hmC 16 ks vs none eset sz mc 12 lf ext) = hp1 at w1 hF1 ⊢
    have hc1 : hp1.1 = hp.1 := by rw [← hh]; rfl
    have hc2 : hp1.2.1 = hp.2.1 := by rw [← hh]; rfl
    refine gs_ild4 (pc := 131) dJ14_resize_131 ?_
    refine gs_anew (pc := 133) 4 (16) (m + 2) (by decide) rfl dJ14_resize_133 q1234 q1235 (by first | rfl | omega) (by omega) ?_
    have w2 : gl X (hnew X hp1 16 (m + 2, .inl (4, 16, .inr (fun _ => none)))) m = _ := gl_new_of w1
    have w3 : gl X (hnew X hp1 16 (m + 2, .inl (4, 16, .inr (fun _ => none)))) (nx X hp1) = _ := gl_new_self
    have hF2 : Fr X (fun l => l = m + 2) hp (hnew X hp1 16 (m + 2, .inl (4, 16, .inr (fun _ => none)))) := hF1.new
    have hne : nx X hp1 ≠ m := by have := gl_lt w1; omega
    generalize hh2 : hnew X hp1 16 (m + 2, .inl (4, 16, .inr (fun _ => none))) = hp2 at w2 w3 hF2 ⊢
    have hc3 : hp2.1 = hp1.1 + 1 := by rw [← hh2]; rfl
    have hc4 : hp2.2.1 = hp1.2.1 + 16 := by rw [← hh2]; rfl
    generalize nx X hp1 = tb at w3 hne ⊢
    refine gs_ast6 (pc := 136) dJ14_resize_136 rfl ?_
    refine gs_ald0 (pc := 138) dJ14_resize_138 ?_
    refine gs_ald6 (pc := 139) dJ14_resize_139 ?_
    refine gs_putf (pc := 141) 2 (hmC 16 ks vs (some tb) eset sz mc 12 lf ext) dJ14_resize_141 w2 (by omega) clJ25 in_J25 tyJ25 tyJ25_ok nmJ25 (by decide) q798 (Or.inl rfl) rfl (fok_arr _ _) (Nat.le_of_ble_eq_true rfl) rfl ?_
    refine gs_ald1 (pc := 144) dJ14_resize_144 ?_
    refine gs_ifnull (pc := 145) (tgt := 353) dJ14_resize_145 (by decide) (fun _ => ?_) (fun _ h => by cases h)
    refine gs_ald6 (pc := 353) dJ14_resize_353 ?_
    refine gs_aret (pc := 355) dJ14_resize_355 rfl (Or.inr ⟨_, rfl⟩) ?_
    refine ⟨_, rfl, hF2.set w2 (by omega) rfl ⟨rfl, rfl⟩, by show hp2.1 = _; omega, by show hp2.2.1 = hp.2.1 + 16; omega, tb, rfl, h1, h2, vs, eset, mc, 12, lf, gl_set_self w2 (by omega), Or.inr ⟨4, tb, fun _ => none, rfl, by decide, by decide, rfl, rfl, ?_, fun i hi => rfl⟩⟩
    rw [gl_set_ne hne]; exact w3
  · have hb := pow14 q1 ⟨q2, q3⟩
    have hth : th = ((3 * n / 4 : Nat) : Int) := by rw [q4]; omega
    have hn4 : n % 4 = 0 := by
      obtain ⟨i, rfl⟩ : ∃ i, j = i + 2 := ⟨j - 2, by omega⟩
      rw [q1, Nat.pow_add]; omega
    have hj13 : j ≤ 13 := by
      rcases Nat.lt_or_ge 13 j with h | h
      · have : 2 ^ 14 ≤ 2 ^ j := Nat.pow_le_pow_right (by decide) h
        omega
      · exact h
    have hnn : nn n = 2 * n := if_neg (by omega)
    have hth2 : 2 * (3 * n / 4) = 3 * (2 * n) / 4 := by omega
    rw [hth] at e1
    refine gs_ald0 (pc := 0) dJ14_resize_0 ?_
    refine gs_getf (pc := 1) 2 dJ14_resize_1 e1 clJ25 in_J25 (by decide) q798 (Or.inl rfl) rfl ?_
    refine gs_ast1 (pc := 4) dJ14_resize_4 rfl ?_
    refine gs_ald1 (pc := 5) dJ14_resize_5 ?_
    refine gs_ifnonnull (pc := 6) (tgt := 13) dJ14_resize_6 (by decide) (fun _ _ => ?_) (fun h => by cases h)
    refine gs_ald1 (pc := 13) dJ14_resize_13 ?_
    refine gs_alen (pc := 14) dJ14_resize_14 q5 ?_
    refine gs_ist2 (pc := 15) dJ14_resize_15 rfl ?_
    refine gs_ald0 (pc := 16) dJ14_resize_16 ?_
    refine gs_getf (pc := 17) 6 dJ14_resize_17 e1 clJ25 in_J25 (by decide) q806 (Or.inl rfl) rfl ?_
    refine gs_ist3 (pc := 20) dJ14_resize_20 rfl ?_
    refine gs_iconst (pc := 21) dJ14_resize_21 ?_
    refine gs_ist5 (pc := 22) dJ14_resize_22 rfl ?_
    refine gs_ild2 (pc := 24) dJ14_resize_24 ?_
    refine gs_if_le (pc := 25) (tgt := 67) dJ14_resize_25 (by decide) (by omega) (fun hn => absurd hn (by omega)) (fun _ => ?_)
    refine gs_ild2 (pc := 28) dJ14_resize_28 ?_
    refine gs_ldc (pc := 29) (z := 1073741824) dJ14_resize_29 q1231 ?_
    refine gs_ic_lt (pc := 31) (tgt := 42) dJ14_resize_31 (by decide) (by omega) (fun _ => ?_) (fun hn => absurd (by omega) hn)
    refine gs_ild2 (pc := 42) dJ14_resize_42 ?_
    refine gs_iconst (pc := 43) dJ14_resize_43 ?_
    refine gs_ishl (pc := 44) dJ14_resize_44 (i_shl1 (by omega)) ?_
    refine gs_dup (pc := 45) dJ14_resize_45 rfl ?_
    refine gs_ist4 (pc := 46) dJ14_resize_46 rfl ?_
    refine gs_ldc (pc := 48) (z := 1073741824) dJ14_resize_48 q1231 ?_
    refine gs_ic_ge (pc := 50) (tgt := 85) dJ14_resize_50 (by decide) (by omega) (fun hn => absurd hn (by omega)) (fun _ => ?_)
    refine gs_ild2 (pc := 53) dJ14_resize_53 ?_
    refine gs_bipush (pc := 54) dJ14_resize_54 rfl ?_
    refine gs_ic_lt (pc := 56) (tgt := 85) dJ14_resize_56 (by decide) (by omega) (fun hn => absurd hn (by omega)) (fun _ => ?_)
    refine gs_ild3 (pc := 59) dJ14_resize_59 ?_
    refine gs_iconst (pc := 60) dJ14_resize_60 ?_
    refine gs_ishl (pc := 61) dJ14_resize_61 (i_shl1 (by omega)) ?_
    refine gs_ist5 (pc := 62) dJ14_resize_62 rfl ?_
    refine gs_goto (pc := 64) (tgt := 85) dJ14_resize_64 (by decide) ?_
    refine gs_ild5 (pc := 85) dJ14_resize_85 ?_
    refine gs_if_ne (pc := 87) (tgt := 125) dJ14_resize_87 (by decide) (by omega) (fun _ => ?_) (fun hn => absurd hn (by omega))
    refine gs_ald0 (pc := 125) dJ14_resize_125 ?_
    refine gs_ild5 (pc := 126) dJ14_resize_126 ?_
    refine gs_putf (pc := 128) 6 (hmC 16 ks vs (some ta) eset sz mc ((2 * (3 * n / 4) : Nat) : Int) lf ext) dJ14_resize_128 e1 (by omega) clJ25 in_J25 tyJ25 tyJ25_ok nmJ25 (by decide) q806 (Or.inl rfl) rfl (fok_int _) (Nat.le_of_ble_eq_true rfl) rfl ?_
    have w1 := gl_set_self (c := (m + 2, hmC 16 ks vs (some ta) eset sz mc ((2 * (3 * n / 4) : Nat) : Int) lf ext)) e1 (by omega)
    have hF1 : Fr X (fun l => l = m + 2) hp (hset hp m (m + 2, hmC 16 ks vs (some ta) eset sz mc ((2 * (3 * n / 4) : Nat) : Int) lf ext)) := Fr.refl.set e1 (by omega) rfl ⟨rfl, rfl⟩
    have u1 : ∀ a, a ≠ m → gl X (hset hp m (m + 2, hmC 16 ks vs (some ta) eset sz mc ((2 * (3 * n / 4) : Nat) : Int) lf ext)) a = gl X hp a := fun a h => gl_set_ne h
    generalize hh : hset hp m (m + 2, hmC 16 ks vs (some ta) eset sz mc ((2 * (3 * n / 4) : Nat) : Int) lf ext) = hp1 at w1 hF1 u1 ⊢
    have hc1 : hp1.1 = hp.1 := by rw [← hh]; rfl
    have hc2 : hp1.2.1 = hp.2.1 := by rw [← hh]; rfl
    refine gs_ild4 (pc := 131) dJ14_resize_131 ?_
    refine gs_anew (pc := 133) 4 (2 * n) (m + 2) (by decide) rfl dJ14_resize_133 q1234 q1235 (by first | rfl | omega) (by omega) ?_
    have w2 : gl X (hnew X hp1 (2 * n) (m + 2, .inl (4, 2 * n, .inr (fun _ => none)))) m = _ := gl_new_of w1
    have w3 : gl X (hnew X hp1 (2 * n) (m + 2, .inl (4, 2 * n, .inr (fun _ => none)))) (nx X hp1) = _ := gl_new_self
    have hF2 : Fr X (fun l => l = m + 2) hp (hnew X hp1 (2 * n) (m + 2, .inl (4, 2 * n, .inr (fun _ => none)))) := hF1.new
    have hne : nx X hp1 ≠ m := by have := gl_lt w1; omega
    have hnx : nx X hp1 = nx X hp := congrArg (cxz X + ·) hc1
    have u2 : ∀ a c, a ≠ m → gl X hp a = some c → a ≠ nx X hp1 ∧ gl X (hnew X hp1 (2 * n) (m + 2, .inl (4, 2 * n, .inr (fun _ => none)))) a = some c := fun a c h hc => ⟨by have := gl_lt hc; omega, gl_new_of (by rw [u1 a h]; exact hc)⟩
    generalize hh2 : hnew X hp1 (2 * n) (m + 2, .inl (4, 2 * n, .inr (fun _ => none))) = hp2 at w2 w3 hF2 u2 ⊢
    have hc3 : hp2.1 = hp1.1 + 1 := by rw [← hh2]; rfl
    have hc4 : hp2.2.1 = hp1.2.1 + 2 * n := by rw [← hh2]; rfl
    generalize nx X hp1 = tb at w3 hne u2 ⊢
    refine gs_ast6 (pc := 136) dJ14_resize_136 rfl ?_
    refine gs_ald0 (pc := 138) dJ14_resize_138 ?_
    refine gs_ald6 (pc := 139) dJ14_resize_139 ?_
    refine gs_putf (pc := 141) 2 (hmC 16 ks vs (some tb) eset sz mc ((2 * (3 * n / 4) : Nat) : Int) lf ext) dJ14_resize_141 w2 (by omega) clJ25 in_J25 tyJ25 tyJ25_ok nmJ25 (by decide) q798 (Or.inl rfl) rfl (fok_arr _ _) (Nat.le_of_ble_eq_true rfl) rfl ?_
    refine gs_ald1 (pc := 144) dJ14_resize_144 ?_
    refine gs_ifnull (pc := 145) (tgt := 353) dJ14_resize_145 (by decide) (fun h => by cases h) (fun _ _ => ?_)
    refine gs_iconst (pc := 148) dJ14_resize_148 ?_
    refine gs_ist7 (pc := 149) dJ14_resize_149 rfl ?_
    have hmta : ta ≠ m := by intro h; subst h; rw [e1] at q5; cases q5
    have hcell : ∀ x ∈ es, x.1 ≠ m ∧ ∃ nxt, gl X hp x.1 = some (m + 2, ndC 17 x.2.1 x.2.2.1 x.2.2.2 nxt (xt x.1)) := by
      intro x hx
      obtain ⟨nxt, hg⟩ := (q6 _ (Nat.mod_lt x.2.1.toNat (by omega))).cell (nd := x) (List.mem_filter.mpr ⟨hx, by simp⟩)
      exact ⟨(by intro h; rw [h, e1] at hg; cases hg), nxt, hg⟩
    refine rz_outL (hpA := hset hp2 m (m + 2, hmC 16 ks vs (some tb) eset sz mc ((2 * (3 * n / 4) : Nat) : Int) lf ext)) (xt := xt) (es := es) (t := t) (c := hmC 16 ks vs (some tb) eset sz mc ((2 * (3 * n / 4) : Nat) : Int) lf ext) q1 q2 hj13 h1 h2 (fun x hx h => ?_) (fun x hx h => ?_) (fun x hx => (hcell x hx).1) (u2 ta _ hmta q5).1 (Ne.symm hmta) (Ne.symm hne) (fun hp' t2 L8 L9 L10 L11 L12 L13 z1 z2 zF gm gt hs => ?_) n 0 _ t (fun _ => none) none none none none none none (by omega) rfl rfl Fr.refl (gl_set_self w2 (by omega)) (by rw [gl_set_ne hmta]; exact (u2 ta _ hmta q5).2) (by rw [gl_set_ne hne]; exact w3) (fun i _ hi => ⟨rfl, (q6 i hi).mono (fun x hx => ?_), rfl, rfl⟩) (fun i hi => absurd hi (by omega))
    · obtain ⟨nxt, hg⟩ := (hcell x hx).2
      rw [h, q5] at hg; cases hg
    · obtain ⟨nxt, hg⟩ := (hcell x hx).2
      exact (u2 x.1 _ (hcell x hx).1 hg).1 h
    · refine gs_ald6 (pc := 353) dJ14_resize_353 ?_
      refine gs_aret (pc := 355) dJ14_resize_355 rfl (Or.inr ⟨_, rfl⟩) ?_
      refine ⟨_, rfl, (hF2.set (c := hmC 16 ks vs (some tb) eset sz mc ((2 * (3 * n / 4) : Nat) : Int) lf ext) w2 (by omega) rfl ⟨rfl, rfl⟩).trans zF, ?_, ?_, tb, rfl, h1, h2, vs, eset, mc, _, lf, gm, Or.inr ⟨j + 1, tb, t2, ?_, by omega, by omega, ?_, rfl, ?_, ?_⟩⟩
      · have : (hset hp2 m (m + 2, hmC 16 ks vs (some tb) eset sz mc ((2 * (3 * n / 4) : Nat) : Int) lf ext)).1 = hp2.1 := rfl
        omega
      · have : (hset hp2 m (m + 2, hmC 16 ks vs (some tb) eset sz mc ((2 * (3 * n / 4) : Nat) : Int) lf ext)).2.1 = hp2.2.1 := rfl
        omega
      · rw [hnn, q1, Nat.pow_succ]; omega
      · rw [hnn, hth2]; omega
      · rw [hnn]; exact gt
      · rw [hnn]; exact hs
    · have hx := (mem_rs hx).1
      obtain ⟨hxm, nxt, hg⟩ := hcell x hx
      rw [gl_set_ne hxm, hg]; exact (u2 x.1 _ hxm hg).2
end HM5
