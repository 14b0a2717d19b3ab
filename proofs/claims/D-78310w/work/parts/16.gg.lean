/-! THE G LAYER, part 7: String and class constants, arraycopy, clone, getClass. -/
section GG
variable {X : gCx} {fi : gFi} {d pc : Nat} {L : List (Option AV)} {st : List AV} {hp : gHp} {Q : Option AV → gHp → Prop}
theorem gs_ldcS {idx : Nat} {tx : String} (k : Nat) (hk : skT[k]? = some (fi.1, idx, tx)) (hd : decode fi.2.1 pc = .ok (.ldc idx, 2)) (kk : G X fi d (pc + 2) L (vR (some (cxK X (10 + k))) :: st) hp Q) : G X fi d pc L st hp Q :=
  G.step (fun p e R s m args below meth c H locs cells slots ls QQ hS hR hl kk => by
    obtain ⟨hx, hb, hml, hr, hlk, hown, hts, hF, -⟩ := hS
    exact va_ldcS hx hb hown (hF.2.2.2.2.2.2.1 k _ hk) hd (kk ls hl)) kk
theorem gs_ldcwString {p : Program} {l : Launch} {e : Env} {R : Room} {s : State} {m : MethodId} {args : Array Value} {below : List Frame} {meth : Method} {c : Code} {T : State} {locs : List Loc} {cells slots : Nat}
    (XS : Stand p l e R s m args below meth c T locs cells slots) (hexec : p.tables.exec = Jvm.exec) {own text : String} {index : Nat} {a : Addr} (hown : s.vm.findClass own = some m.cls)
    (hconst : (Cond.stringRef own index text).before args s = true) (hev : (Term.string own index).eval args s none [] s = some (.ref a)) {g : JFrame} (hg : g.method = m) (hdg : decode c.code g.pc = .ok (.ldc_w index, 3)) :
    ∀ target, Steps p.tables e below (T.setTop { g with pc := g.pc + 3, stack := .ref a :: g.stack }) target → Steps p.tables e below (T.setTop g) target := by
  obtain ⟨k, cf, i, a', hk, hcf, hcp, -, hr, hev'⟩ := Cond.stringRef_spec hown hconst
  cases hev.symm.trans hev'
  obtain ⟨k', hk', he⟩ := XS.warmed.alike.2.2 _ _ hk
  have hr' : k'.resolved[index]? = some (some (.string a)) := by
    rcases XS.warmed.entry hk hk' index with h | ⟨h, -⟩
    · rw [h]; exact hr
    · rw [hr] at h; cases h
  intro target hrest
  subst hg
  jvm_step XS.here [hexec, hdg, ldc_w.wp_string (e := e) (s := T) (f := g) XS.here.top hk' (by rw [he]; exact hcf) hcp hr']
  exact hrest
theorem gs_ldcwS {idx : Nat} {tx : String} (k : Nat) (hk : skT[k]? = some (fi.1, idx, tx)) (hd : decode fi.2.1 pc = .ok (.ldc_w idx, 3)) (kk : G X fi d (pc + 3) L (vR (some (cxK X (10 + k))) :: st) hp Q) : G X fi d pc L st hp Q :=
  G.step (fun p e R s m args below meth c H locs cells slots ls QQ hS hR hl kk => by
    obtain ⟨hx, hb, hml, hr, hlk, hown, hts, hF, -⟩ := hS
    have hZ := hF.2.2.2.2.2.2.1 k _ hk
    intro T hT XS
    obtain ⟨t, a1, b1⟩ := kk ls hl T hT XS
    refine ⟨t, gs_ldcwString XS hx hown (text := tx) (a := cxK X (10 + k)) hZ.1 hZ.2 (g := F0 m pc ls (st.map cv)) rfl (by rw [hb]; exact hd) t a1, b1⟩) kk
theorem gs_ldcM {idx : Nat} (hd : decode fi.2.1 pc = .ok (.ldc idx, 2)) (hq : Cond.classLink fi.1 idx "[Ljava/lang/Object;" ∈ lw_all) (kk : G X fi d (pc + 2) L (vR (some (cxK X 3)) :: st) hp Q) : G X fi d pc L st hp Q :=
  G.step (fun p e R s m args below meth c H locs cells slots ls QQ hS hR hl kk => by
    obtain ⟨hx, hb, hml, hr, hlk, hown, hts, hF, -⟩ := hS
    exact va_ldcM hx hb hown (hts _ hq) hF.2.2.2.2.2.2.2 hd (kk ls hl)) kk
theorem gs_getClass {idx a lb n : Nat} {q : (Int → Int) ⊕ (Int → Option Nat)} (hd : decode fi.2.1 pc = .ok (.invokevirtual idx, 3)) (q1 : Cond.methodLink fi.1 idx ⟨"java/lang/Object", "getClass", "()Ljava/lang/Class;"⟩ ∈ lw_all) (q2 : Cond.declares ⟨"java/lang/Object", "getClass", "()Ljava/lang/Class;"⟩ ∈ lw_tbl) (q3 : Cond.selects "[Ljava/lang/Object;" ⟨"java/lang/Object", "getClass", "()Ljava/lang/Class;"⟩ ⟨"java/lang/Object", "getClass", "()Ljava/lang/Class;"⟩ ∈ lw_all) (q4 : Cond.instanceMethod ⟨"java/lang/Object", "getClass", "()Ljava/lang/Class;"⟩ ∈ lw_all) (q5 : Cond.native ⟨"java/lang/Object", "getClass", "()Ljava/lang/Class;"⟩ ∈ lw_all) (hc : gl X hp a = some (lb, .inl (3, n, q))) (hdd : 1 ≤ d) (hst : (st.map ct).sum ≤ 8) (kk : G X fi d (pc + 3) L (vR (some (cxK X 3)) :: st) hp Q) : G X fi d pc L (vR (some a) :: st) hp Q :=
  G.step (fun p e R s m args below meth c H locs cells slots ls QQ hS hR hl kk => by
    obtain ⟨hx, hb, hml, hr, hlk, hown, hts, hF, hfr, hlo, -⟩ := hS
    obtain ⟨h0, cell, w1, w2, w3, w4, w5, w6, w7, -⟩ := hR.2.2 a _ hc
    have hsum := gs_sum hst
    obtain ⟨kA, comp, -, -, -, h⟩ := hF.2.1.2 3 (by omega)
    exact va_getC hx hb (by rw [hml]; exact hl.1.symm) hown (hts _ q1) (va_Nw.use rfl (hF.2.2.1.2.2.2.1 _ q2)) (hts _ q3) (hts _ q4) (hts _ q5) hF.2.2.2.2.2.2.2 ⟨cell, w1, w3, by rw [w2]; exact h⟩ (by omega) (by omega) hd (kk ls hl)) kk
/-- what may be copied into an array of kind t -/
def elOK (X : gCx) (hp : gHp) (t : Nat) (v : Value) : Prop := (t < 3 ∧ fits (arT t) v = true) ∨ (3 ≤ t ∧ t < 7 ∧ (v = .null ∨ ∃ y lbv ci fs C T N E, v = .ref y ∧ arT t = .object E ∧ gl X hp y = some (lbv, .inr (ci, fs)) ∧ gCl[ci]? = some (C, T, N) ∧ (C = E ∨ Cond.castable C E ∈ lw_tbl)))
theorem gs_copy {idx a0 a1 lb0 lb1 n0 n1 : Nat} {q0 q1 : (Int → Int) ⊕ (Int → Option Nat)} {sp dp cn : Int} {rest : List AV} (t i j k : Nat) (qr : (Int → Int) ⊕ (Int → Option Nat)) (hd : decode fi.2.1 pc = .ok (.invokestatic idx, 3)) (w1 : Cond.methodLink fi.1 idx arraycopyName ∈ lw_all) (w2 : Cond.native arraycopyName ∈ lw_all) (w3 : Cond.static arraycopyName ∈ lw_all) (w4 : Cond.initialized "java/lang/System" ∈ lw_all)
    (h0 : gl X hp a0 = some (lb0, .inl (t, n0, q0))) (h1 : gl X hp a1 = some (lb1, .inl (t, n1, q1))) (hlb : lb1 ≠ 0) (hi : sp = (i : Int)) (hj : dp = (j : Int)) (hk : cn = (k : Int)) (hb0 : i + k ≤ n0) (hb1 : j + k ≤ n1) (hn0 : n0 < 1000000000) (hn1 : n1 < 1000000000) (hel : ∀ x, x < k → elOK X hp t (arE q0 (i + x))) (hqr : ∀ x, x < n1 → arE qr x = va_cpy (arE q0) (arE q1) i j k x) (hdd : 1 ≤ d) (hst : (rest.map ct).sum ≤ 8)
    (kk : G X fi d (pc + 3) L rest (hset hp a1 (lb1, .inl (t, n1, qr))) Q) : G X fi d pc L (vI cn :: vI dp :: vR (some a1) :: vI sp :: vR (some a0) :: rest) hp Q := by
  refine G.stepH (hp1 := hset hp a1 (lb1, Sum.inl (t, n1, qr))) (kc := 0) (ks := 0) rfl rfl (fun p e R s m args below meth c H locs cells slots ls QQ hS hR hlo hcc hss hlk kk => ?_) kk
  obtain ⟨hx, hb, hml, hr, hlks, hown, hts, hF, hfr, hloc, -⟩ := hS
  have ha := gl_lo h1 hlb
  obtain ⟨b0, cs, s1, s2, s3, s4, s5, s6, s7, -⟩ := hR.2.2 a0 _ h0
  obtain ⟨-, cd, r1, r2, r3, r4, r5, r6, r7, r8⟩ := hR.2.2 a1 _ h1
  have hcd := r8 ha
  have hcd : cd = arrV (cxA X t) n1 (arE q1) := hcd
  have r9 : cd.slots.size = n1 := by rw [hcd]; exact arrV_size _ _ _
  have s5 : n0 ≤ cs.slots.size := s5
  obtain ⟨g1, g2⟩ := gs_nn hi (by omega)
  obtain ⟨g3, g4⟩ := gs_nn hj (by omega)
  obtain ⟨g5, g6⟩ := gs_nn hk (by omega)
  have t1 : (Int32.ofInt sp).toInt = (i : Int) := by rw [hi]; exact gs_r ⟨by omega, by omega⟩
  have t2 : (Int32.ofInt dp).toInt = (j : Int) := by rw [hj]; exact gs_r ⟨by omega, by omega⟩
  have t3 : (Int32.ofInt cn).toInt = (k : Int) := by rw [hk]; exact gs_r ⟨by omega, by omega⟩
  have b0' : t < 9 := b0
  obtain ⟨-, ks, hks, cms, hkks⟩ := gs_isA hF b0' s2 s3
  obtain ⟨-, kd, hkd, cmd, hkkd⟩ := gs_isA hF b0' r2 r3
  have hsum := gs_sum hst
  have hnw : nativeFrameWords "java/lang/System" "arraycopy" 5 ≤ 40 := by decide
  intro T hT XS
  obtain ⟨vm', X', step⟩ := XS.arraycopy hx hown (hts _ w1) (hts _ w2) (hts _ w3) (hts _ w4) (src := a0) (dst := a1) (cs := cs) (cd := cd) (srcPos := Int32.ofInt sp) (destPos := Int32.ofInt dp) (n := Int32.ofInt cn) (by rw [hT]; exact s1) (by rw [hT]; exact r1)
    (fun _ h => by rw [h] at s3; cases s3) (fun _ h => by rw [h] at r3; cases r3) s4 r4 hks hkd hkks hkkd (by simp) g1 g3 g5
    (by rw [t1, t3]; omega) (by rw [t2, t3, r9]; omega)
    (fun vm₁ hal x hx' => by
      rw [g6] at hx'
      rw [g2]
      have e : cs.slots.getD (i + x) .null = arE q0 (i + x) := by
        rw [Array.getD_eq_getD_getElem?, s7 _ (show i + x < n0 by omega)]
        rfl
      rw [e]
      rcases hel x hx' with ⟨p1, p2⟩ | ⟨p1, p2, p3⟩
      · refine ⟨p2, ?_⟩
        cases q0 with
        | inl f => exact trivial
        | inr f =>
          simp only [arE] at p2 ⊢
          cases hy : f (((i + x : Nat) : Int)) with
          | none => exact trivial
          | some y =>
            rw [hy] at p2
            match t, p1, p2 with
            | 0, _, p2 => cases p2
            | 1, _, p2 => cases p2
            | 2, _, p2 => cases p2
      · rcases p3 with p3 | ⟨y, lbv, ci, fs, C, T', N, E, p3, p4, p5, p6, p7⟩
        · rw [p3]
          refine ⟨?_, trivial⟩
          match t, p1, p2 with
          | 3, _, _ => rfl
          | 4, _, _ => rfl
          | 5, _, _ => rfl
          | 6, _, _ => rfl
        · rw [p3]
          obtain ⟨cellV, u1, u2, ⟨kC, hkC⟩, hasg⟩ := gs_any hF hR p5 p6 p7
          have hRA := hF.2.1.2 t p2
          rw [p4] at hRA
          obtain ⟨kA, comp, v1, v2, v3, -⟩ := hRA
          rw [r2] at hkd
          cases hkd.symm.trans v1
          rw [p4] at hkkd
          cases hkkd.symm.trans v2
          obtain ⟨kE, hkE, -⟩ := Vm.findClass_spec v3
          obtain ⟨kC', hkC', -⟩ := hal.2.2 _ _ hkC
          obtain ⟨kE', hkE', -⟩ := hal.2.2 _ _ hkE
          refine ⟨by rw [p4]; rfl, cellV, (show T.heap[y]? = some cellV by rw [hT]; exact u1), (fun q h => by rw [h] at u2; cases u2), ⟨kC', hkC'⟩, ⟨kE', hkE'⟩, ?_⟩
          show vm₁.assignable _ _ = true
          rw [hal.assignable]
          exact hasg _ v3)
    (g := F0 m pc ls ((vI cn :: vI dp :: vR (some a1) :: vI sp :: vR (some a0) :: rest).map cv)) rfl (by rw [hml]; exact hlk.1) (rest := rest.map cv) rfl (by rw [hb]; exact hd) (by omega) (by show 2 * 0 + _ + _ ≤ _; omega)
  have e1 : copied cs cd (Int32.ofInt sp) (Int32.ofInt dp) (Int32.ofInt cn) = arrV (cxA X t) n1 (va_cpy (arE q0) (arE q1) i j k) := by
    unfold copied
    rw [g2, g4, g6, hcd]
    exact va_copiedX (fun z => z) cs (cxA X t) (arE q0) (arE q1) s7 hb0
  rw [e1] at X' step
  have hl : a1 < H.size := (Array.getElem?_eq_some_iff.mp r1).1
  have oq : ∀ q : Nat, q ≠ a1 → (H.setIfInBounds a1 (arrV (cxA X t) n1 (va_cpy (arE q0) (arE q1) i j k)))[q]? = H[q]? := fun q hq => by simp [Array.getElem?_setIfInBounds, Ne.symm hq]
  have hR1 : Rp X (hset hp a1 (lb1, Sum.inl (t, n1, qr))) (H.setIfInBounds a1 (arrV (cxA X t) n1 (va_cpy (arE q0) (arE q1) i j k))) := by
    refine hR.set h1 hlb (by simp) oq (celAt.arr b0' ?_)
    rw [Array.getElem?_setIfInBounds, if_pos rfl, if_pos hl]
    exact congrArg some (arrV_congr fun x hx' => (hqr x hx').symm)
  obtain ⟨t', a1', b1'⟩ := kk _ _ ls hR1 (fun q hq => by
      rcases List.mem_append.mp hq with h | h
      · exact hlo q h
      · obtain ⟨z, -, hz⟩ := List.mem_map.mp h
        rw [← hz]
        exact ha) hlk ((T.setVm vm').setCell a1 (arrV (cxA X t) n1 (va_cpy (arE q0) (arE q1) i j k))) (by rw [← hT]; rfl) X'
  exact ⟨t', step t' a1', b1'⟩
theorem gs_copyI {idx a0 a1 lb0 lb1 n0 n1 : Nat} {f g : Int → Int} {sp dp cn : Int} {rest : List AV} (t : Nat) (ht : t < 3) (hd : decode fi.2.1 pc = .ok (.invokestatic idx, 3)) (w1 : Cond.methodLink fi.1 idx arraycopyName ∈ lw_all) (w2 : Cond.native arraycopyName ∈ lw_all) (w3 : Cond.static arraycopyName ∈ lw_all) (w4 : Cond.initialized "java/lang/System" ∈ lw_all)
    (h0 : gl X hp a0 = some (lb0, .inl (t, n0, .inl f))) (h1 : gl X hp a1 = some (lb1, .inl (t, n1, .inl g))) (hlb : lb1 ≠ 0) (hp0 : 0 ≤ sp ∧ 0 ≤ dp ∧ 0 ≤ cn ∧ sp + cn ≤ n0 ∧ dp + cn ≤ n1) (hn0 : n0 < 1000000000) (hn1 : n1 < 1000000000) (hel : ∀ x : Int, sp ≤ x → x < sp + cn → fits (arT t) (.int (Int32.ofInt (f x))) = true) (hdd : 1 ≤ d) (hst : (rest.map ct).sum ≤ 8)
    (kk : G X fi d (pc + 3) L rest (hset hp a1 (lb1, .inl (t, n1, .inl (cpy f g sp dp cn)))) Q) : G X fi d pc L (vI cn :: vI dp :: vR (some a1) :: vI sp :: vR (some a0) :: rest) hp Q := by
  obtain ⟨i, rfl⟩ : ∃ i : Nat, sp = (i : Int) := ⟨sp.toNat, by omega⟩
  obtain ⟨j, rfl⟩ : ∃ i : Nat, dp = (i : Int) := ⟨dp.toNat, by omega⟩
  obtain ⟨k, rfl⟩ : ∃ i : Nat, cn = (i : Int) := ⟨cn.toNat, by omega⟩
  refine gs_copy t i j k (.inl (cpy f g i j k)) hd w1 w2 w3 w4 h0 h1 hlb rfl rfl rfl (by omega) (by omega) hn0 hn1 (fun x hx => Or.inl ⟨ht, ?_⟩) (fun x hx => ?_) hdd hst kk
  · exact hel _ (by omega) (by omega)
  · simp only [arE, va_cpy, cpy]
    by_cases h : j ≤ x ∧ x < j + k
    · rw [if_pos h, if_pos (by omega)]
      rw [show ((i + (x - j) : Nat) : Int) = (i : Int) + ((x : Int) - (j : Int)) by omega]
    · rw [if_neg h, if_neg (by omega)]
theorem gs_copyR {idx a0 a1 lb0 lb1 n0 n1 : Nat} {f g : Int → Option Nat} {sp dp cn : Int} {rest : List AV} (t : Nat) {E : String} (ht : 3 ≤ t ∧ t < 7) (hE : arT t = .object E) (hd : decode fi.2.1 pc = .ok (.invokestatic idx, 3)) (w1 : Cond.methodLink fi.1 idx arraycopyName ∈ lw_all) (w2 : Cond.native arraycopyName ∈ lw_all) (w3 : Cond.static arraycopyName ∈ lw_all) (w4 : Cond.initialized "java/lang/System" ∈ lw_all)
    (h0 : gl X hp a0 = some (lb0, .inl (t, n0, .inr f))) (h1 : gl X hp a1 = some (lb1, .inl (t, n1, .inr g))) (hlb : lb1 ≠ 0) (hp0 : 0 ≤ sp ∧ 0 ≤ dp ∧ 0 ≤ cn ∧ sp + cn ≤ n0 ∧ dp + cn ≤ n1) (hn0 : n0 < 1000000000) (hn1 : n1 < 1000000000) (hel : ∀ x : Int, sp ≤ x → x < sp + cn → ∀ y, f x = some y → ∃ lbv ci fs C T N, gl X hp y = some (lbv, .inr (ci, fs)) ∧ gCl[ci]? = some (C, T, N) ∧ (C = E ∨ Cond.castable C E ∈ lw_tbl)) (hdd : 1 ≤ d) (hst : (rest.map ct).sum ≤ 8)
    (kk : G X fi d (pc + 3) L rest (hset hp a1 (lb1, .inl (t, n1, .inr (cpy f g sp dp cn)))) Q) : G X fi d pc L (vI cn :: vI dp :: vR (some a1) :: vI sp :: vR (some a0) :: rest) hp Q := by
  obtain ⟨i, rfl⟩ : ∃ i : Nat, sp = (i : Int) := ⟨sp.toNat, by omega⟩
  obtain ⟨j, rfl⟩ : ∃ i : Nat, dp = (i : Int) := ⟨dp.toNat, by omega⟩
  obtain ⟨k, rfl⟩ : ∃ i : Nat, cn = (i : Int) := ⟨cn.toNat, by omega⟩
  refine gs_copy t i j k (.inr (cpy f g i j k)) hd w1 w2 w3 w4 h0 h1 hlb rfl rfl rfl (by omega) (by omega) hn0 hn1 (fun x hx => Or.inr ⟨ht.1, ht.2, ?_⟩) (fun x hx => ?_) hdd hst kk
  · simp only [arE]
    cases hy : f (((i + x : Nat) : Int)) with
    | none => exact Or.inl rfl
    | some y =>
      obtain ⟨lbv, ci, fs, C, T, N, e1, e2, e3⟩ := hel _ (by omega) (by omega) y hy
      exact Or.inr ⟨y, lbv, ci, fs, C, T, N, E, rfl, hE, e1, e2, e3⟩
  · simp only [arE, va_cpy, cpy]
    by_cases h : j ≤ x ∧ x < j + k
    · rw [if_pos h, if_pos (by omega)]
      rw [show ((i + (x - j) : Nat) : Int) = (i : Int) + ((x : Int) - (j : Int)) by omega]
    · rw [if_neg h, if_neg (by omega)]
theorem gs_cloneB {idx a lb n : Nat} {f : Int → Int} (lb' : Nat) (hd : decode fi.2.1 pc = .ok (.invokevirtual idx, 3)) (w1 : Cond.methodLink fi.1 idx ⟨"[B", "clone", "()Ljava/lang/Object;"⟩ ∈ lw_all) (w2 : Cond.sameMethod "[B" "java/lang/Object" "clone" "()Ljava/lang/Object;" ∈ lw_all) (w3 : Cond.native ⟨"java/lang/Object", "clone", "()Ljava/lang/Object;"⟩ ∈ lw_all) (w4 : Cond.instanceMethod ⟨"java/lang/Object", "clone", "()Ljava/lang/Object;"⟩ ∈ lw_all) (w5 : Cond.selects "[B" ⟨"[B", "clone", "()Ljava/lang/Object;"⟩ ⟨"java/lang/Object", "clone", "()Ljava/lang/Object;"⟩ ∈ lw_all) (w6 : Cond.castable "[B" "java/lang/Cloneable" ∈ lw_tbl)
    (hc : gl X hp a = some (lb, .inl (2, n, .inl f))) (hlb : lb ≠ 0) (hfit : ∀ x : Nat, x < n → fits .byte (.int (Int32.ofInt (f (x : Int)))) = true) (hdd : 1 ≤ d) (hst : (st.map ct).sum ≤ 8)
    (kk : G X fi d (pc + 3) L (vR (some (nx X hp)) :: st) (hnew X hp n (lb', .inl (2, n, .inl f))) Q) : G X fi d pc L (vR (some a) :: st) hp Q := by
  refine G.stepH (hp1 := hnew X hp n (lb', Sum.inl (2, n, Sum.inl f))) (kc := 1) (ks := n) rfl rfl (fun p e R s m args below meth c H locs cells slots ls QQ hS hR hlo hcc hss hlk kk => ?_) kk
  obtain ⟨hx, hb, hml, hr, hlks, hown, hts, hF, hfr, hloc, -⟩ := hS
  have ha := gl_lo hc hlb
  obtain ⟨-, cd, r1, r2, r3, r4, r5, r6, r7, r8⟩ := hR.2.2 a _ hc
  have hcd : cd = arrV (cxA X 2) n (arE (.inl f)) := r8 ha
  have r9 : cd.slots.size = n := by rw [hcd]; exact arrV_size _ _ _
  have r8 : cd.vm = .none := by rw [hcd]; rfl
  have hsum := gs_sum hst
  have hnm : s.vm.findClass "[B" = some (cxA X 2) := hF.2.1.2 2 (by omega)
  obtain ⟨c0, t0', f1, f2, f3⟩ := Cond.castable_spec (va_Nw.use (A := args) rfl (hF.2.2.1.2.2.1 _ _ w6))
  cases hnm.symm.trans f1
  obtain ⟨-, kS, hkS, compS, hkindS⟩ := hF.2.1.1 2 (by omega) 0 (fun _ => .null)
  intro T hT XS
  obtain ⟨-, kA, hkA, comp, hkind⟩ := State.isArrayOf_alike XS.warmed.alike (hF.2.1.1 2 (by omega) 0 (fun _ => .null))
  obtain ⟨vm', X', stp⟩ := XS.cloneArray hx hown (hts _ w1) (hts _ w2) (hts _ w3) (hts _ w4) (hts _ w5) (a := a) (cell := cd) (by rw [hT]; exact r1) (fun k h => by rw [r8] at h; cases h) (by rw [r8]; exact fun h => by cases h) (by rw [r2]; exact hnm) f2 (by rw [r2]; exact f3)
    (fun i v hv => by
      rw [r2]
      have hi : i < n := by rw [← r9]; exact (Array.getElem?_eq_some_iff.mp hv).1
      have hv2 : v = .int (Int32.ofInt (f (i : Int))) := by
        have := r7 i hi
        rw [hv] at this
        exact Option.some.inj this
      have hk' : T.vm.classes[cxA X 2]? = some kA := hkA
      have hkind' : kA.kind = .array comp .byte := hkind
      have hf2 := hfit i hi
      rw [hv2]
      simpa [State.fitsSlot, State.slotType?, hk', hkind'] using hf2)
    (g := F0 m pc ls ((vR (some a) :: st).map cv)) rfl (by rw [hml]; exact hlk.1) rfl (by rw [hb]; exact hd) (by omega) (by show 2 * 0 + _ + 14 ≤ _; omega) hcc (by rw [r9]; exact hss) (hloader := by rw [r2]; exact Vm.clonesLoader_of_array hkS hkindS)
  have hce : ({ cls := cd.cls, slots := cd.slots } : Cell) = cd := by
    rw [hcd]; rfl
  rw [hce, r9] at X'
  rw [hce] at stp
  have hRn : Rp X (hnew X hp n (lb', Sum.inl (2, n, Sum.inl f))) (H.push cd) := by
    refine hR.new (Array.size_push _) (fun q hq => by rw [Array.getElem?_push, if_neg (Nat.ne_of_lt hq)]) ?_
    refine celAt.arr (by decide) ?_
    rw [← hR.1, Array.getElem?_push_size, hcd]
  obtain ⟨t', a1', b1'⟩ := kk (H.push cd) locs ls hRn hlo hlk ((T.setVm vm').pushCell cd) (by rw [← hT]; rfl) X'
  refine ⟨t', stp t' ?_, b1'⟩
  rw [hT, hR.1]
  exact a1'
end GG
