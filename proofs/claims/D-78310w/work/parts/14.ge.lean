/-! THE G LAYER, part 5: arrays of references, new cells, casts, answers, calls. -/
section GE
variable {X : gCx} {fi : gFi} {d pc : Nat} {L : List (Option AV)} {st : List AV} {hp : gHp} {Q : Option AV → gHp → Prop}
theorem gs_cls {s : State} {C : String} {T : u_T} {N ci : Nat} (hF : Fx X s) (hcl : gCl[ci]? = some (C, T, N)) : ClassAt s C ((cxD X).1 ci) := (hF.1 ci _ hcl).2
theorem gs_recv {s : State} {H : Heap} {a lb ci N : Nat} {fs : List AV} {C : String} {T : u_T} (hF : Fx X s) (hR : Rp X hp H) (hc : gl X hp a = some (lb, .inr (ci, fs))) (hcl : gCl[ci]? = some (C, T, N)) : ∃ cell : Cell, H[a]? = some cell ∧ cell.vm.isStatics = false ∧ s.vm.findClass C = some cell.cls := by
  obtain ⟨r, cell, h1, q1, q2, q3, q4, q5, q6⟩ := hR.2.2 a _ hc
  exact ⟨cell, q1, q3, by rw [q2]; exact (gs_cls hF hcl).1⟩
theorem gs_any {s : State} {H : Heap} {v lb ci N : Nat} {fs : List AV} {C E : String} {T : u_T} (hF : Fx X s) (hR : Rp X hp H) (hc : gl X hp v = some (lb, .inr (ci, fs))) (hcl : gCl[ci]? = some (C, T, N)) (hE : C = E ∨ Cond.castable C E ∈ lw_tbl) : va_Any E s H v := by
  obtain ⟨cell, h1, h2, h3⟩ := gs_recv hF hR hc hcl
  obtain ⟨e1, kC, e2, e3⟩ := gs_cls hF hcl
  have e4 : (cxD X).1 ci = cell.cls := Option.some.inj (e1.symm.trans h3)
  refine ⟨cell, h1, h2, ⟨kC, by rw [← e4]; exact e2⟩, fun comp hcomp => ?_⟩
  rcases hE with rfl | hE
  · have : comp = cell.cls := Option.some.inj (hcomp.symm.trans h3)
    subst this
    exact va_assign (C := C) ⟨h3, kC, by rw [← e4]; exact e2, e3⟩
  · obtain ⟨c0, t0, f1, f2, f3⟩ := Cond.castable_spec (hF.2.2.1.2.2.1 _ _ hE)
    cases h3.symm.trans f1
    cases hcomp.symm.trans f2
    exact f3
theorem gs_aast {a lb n v : Nat} {f : Int → Option Nat} {j : Int} {E : String} (t : Nat) (ht : t < 7) (hE : arT t = .object E) (hd : decode fi.2.1 pc = .ok (.aastore, 1)) (hc : gl X hp a = some (lb, .inl (t, n, .inr f))) (hlb : lb ≠ 0) (hv : ∃ lbv ci fs C T N, gl X hp v = some (lbv, .inr (ci, fs)) ∧ gCl[ci]? = some (C, T, N) ∧ (C = E ∨ Cond.castable C E ∈ lw_tbl)) (hj : 0 ≤ j ∧ j < n) (hn : n ≤ 2147483648) (kk : G X fi d (pc + 1) L st (hset hp a (lb, .inl (t, n, .inr (fup f j (some v))))) Q) : G X fi d pc L (vR (some v) :: vI j :: vR (some a) :: st) hp Q := by
  refine G.stepH (hp1 := hset hp a (lb, Sum.inl (t, n, Sum.inr (fup f j (some v))))) (kc := 0) (ks := 0) rfl rfl (fun p e R s m args below meth c H locs cells slots ls QQ hS hR hlo hcc hss hlk kk => ?_) kk
  obtain ⟨hx, hb, hml, hr, hlks, hown, hts, hF, -⟩ := hS
  have ha := gl_lo hc hlb
  obtain ⟨lbv, ci, fs, C, T, N, hv1, hv2, hv3⟩ := hv
  obtain ⟨cellV, w1, w3, ⟨kC, hkC⟩, hasg⟩ := gs_any hF hR hv1 hv2 hv3
  obtain ⟨h0, cell, q1, q2, q3, q4, q5, q6, q7, q8⟩ := hR.2.2 a _ hc
  obtain ⟨i, rfl⟩ : ∃ i : Nat, j = (i : Int) := ⟨j.toNat, by omega⟩
  have hi : i < n := by omega
  obtain ⟨g1, g2⟩ := gs_nn (j := (i : Int)) rfl (by omega)
  have q8 := q8 ha
  have hRA := hF.2.1.2 t ht
  rw [hE] at hRA
  obtain ⟨kA, comp, k1, k2, k3, -⟩ := hRA
  obtain ⟨kE, hkE, -⟩ := Vm.findClass_spec k3
  refine W.aast hx hb q1 (fun q h => by rw [h] at q3; cases q3) q4 (by rw [q2]; exact k1) k2 rfl hkE ⟨g1, by rw [g2]; exact Nat.lt_of_lt_of_le hi q5⟩ w1 (fun q h => by rw [h] at w3; cases w3) hkC (hasg _ k3) rfl rfl hd fun H' e1 e2 e3 => ?_
  rw [g2] at e1 ⊢
  refine kk H' _ ls (gs_arr1 (i := i) (q' := .inr (fup f (i : Int) (some v))) hR hc hlb h0 q8 (fun j _ hne => by simp only [arE]; rw [fup_ne (by omega)]) (by rw [e1]; simp only [arE]; rw [fup_eq]; rfl) e2 e3) (fun q h => ?_) hlk
  rcases List.mem_append.mp h with h | h
  · exact hlo q h
  · rw [List.mem_singleton.mp h]; exact ha
theorem gs_aastN {a lb n : Nat} {f : Int → Option Nat} {j : Int} {E : String} (t : Nat) (hE : arT t = .object E) (hd : decode fi.2.1 pc = .ok (.aastore, 1)) (hc : gl X hp a = some (lb, .inl (t, n, .inr f))) (hlb : lb ≠ 0) (hj : 0 ≤ j ∧ j < n) (hn : n ≤ 2147483648) (kk : G X fi d (pc + 1) L st (hset hp a (lb, .inl (t, n, .inr (fup f j none)))) Q) : G X fi d pc L (vR none :: vI j :: vR (some a) :: st) hp Q := by
  refine G.stepH (hp1 := hset hp a (lb, Sum.inl (t, n, Sum.inr (fup f j none)))) (kc := 0) (ks := 0) rfl rfl (fun p e R s m args below meth c H locs cells slots ls QQ hS hR hlo hcc hss hlk kk => ?_) kk
  obtain ⟨hx, hb, hml, hr, hlks, hown, hts, hF, -⟩ := hS
  have ha := gl_lo hc hlb
  obtain ⟨h0, cell, q1, q2, q3, q4, q5, q6, q7, q8⟩ := hR.2.2 a _ hc
  obtain ⟨i, rfl⟩ : ∃ i : Nat, j = (i : Int) := ⟨j.toNat, by omega⟩
  have hi : i < n := by omega
  obtain ⟨g1, g2⟩ := gs_nn (j := (i : Int)) rfl (by omega)
  have q8 := q8 ha
  have hA := gs_isA hF h0 q2 q3
  rw [hE] at hA
  refine va_WaastN (C := E) hx hb q1 hA q4 (by rw [g2]; rintro (h | h); exact g1 h; exact absurd (Nat.lt_of_lt_of_le hi q5) (by omega)) rfl rfl hd fun H' e1 e2 e3 => ?_
  rw [g2] at e1 ⊢
  refine kk H' _ ls (gs_arr1 (i := i) (q' := .inr (fup f (i : Int) none)) hR hc hlb h0 q8 (fun j _ hne => by simp only [arE]; rw [fup_ne (by omega)]) (by rw [e1]; simp only [arE]; rw [fup_eq]; rfl) e2 e3) (fun q h => ?_) hlk
  rcases List.mem_append.mp h with h | h
  · exact hlo q h
  · rw [List.mem_singleton.mp h]; exact ha
/-! new cells -/
theorem gs_new {ci idx N : Nat} {C : String} {T : u_T} (lb : Nat) (fs : List AV) (hd : decode fi.2.1 pc = .ok (.new idx, 3)) (hcl : gCl[ci]? = some (C, T, N)) (hin : ∀ w ∈ u_ws C T N, w ∈ lw_all) (ty : Nat → FieldType) (hty : ∀ k, k < N → parseFieldDescriptor (T k).2.2.1 = some (ty k)) (q1 : Cond.classLink fi.1 idx C ∈ lw_all) (q2 : Cond.instantiable C N ∈ lw_all) (q3 : Cond.initialized C ∈ lw_all) (hfs : ∀ j, j < N → defaultValue (ty j) = vp_V (fs.map cv) j)
    (kk : G X fi d (pc + 3) L (vR (some (nx X hp)) :: st) (hnew X hp N (lb, .inr (ci, fs))) Q) : G X fi d pc L st hp Q := by
  refine G.stepH (hp1 := hnew X hp N (lb, Sum.inr (ci, fs))) (kc := 1) (ks := N) rfl rfl (fun p e R s m args below meth c H locs cells slots ls QQ hS hR hlo hcc hss hlk kk => ?_) kk
  obtain ⟨hx, hb, hml, hr, hlks, hown, hts, hF, -⟩ := hS
  have hKn := hF.1 ci _ hcl
  refine W.newcK hx hb hown (hts _ q1) (hts _ q2) (hts _ q3) rfl hd hcc hss hKn.2.1 hR.1 fun H1 kC hkC e1 z1 o1 => ?_
  refine kk H1 locs ls (hR.new (by rw [z1, hR.1]) (fun q hq => o1 q (by rw [← hR.1]; exact hq)) ?_) hlo hlk
  obtain ⟨cell, w1, w2, w3, w4⟩ := (u_born ty hts hin hKn hkC e1 hty).to hfs
  exact ⟨_, cell, hcl, w1, w2, by rw [w3]; rfl, by rw [w3]; exact fun h => (by cases h), w4, fun _ => w3⟩
theorem gs_newa {z : Int} {atype : ArrayType} (t N lb : Nat) (ht : t < 3) (hty : newarray.typeOf atype = arT t) (hd : decode fi.2.1 pc = .ok (.newarray atype, 2)) (hq : Cond.arrayClass (arT t) ∈ lw_all) (hz : z = (N : Int)) (hN : N ≤ 1000000)
    (kk : G X fi d (pc + 2) L (vR (some (nx X hp)) :: st) (hnew X hp N (lb, .inl (t, N, .inl (fun _ => 0)))) Q) : G X fi d pc L (vI z :: st) hp Q := by
  refine G.stepH (hp1 := hnew X hp N (lb, Sum.inl (t, N, Sum.inl (fun _ => 0)))) (kc := 1) (ks := N) rfl rfl (fun p e R s m args below meth c H locs cells slots ls QQ hS hR hlo hcc hss hlk kk => ?_) kk
  obtain ⟨hx, hb, hml, hr, hlks, hown, hts, hF, -⟩ := hS
  obtain ⟨g1, g2⟩ := gs_nn hz (by omega)
  have hbytes : N * componentBytes (newarray.typeOf atype) ≤ 536870912 := by
    rw [hty]
    match t, ht with
    | 0, _ => show N * 4 ≤ _; omega
    | 1, _ => show N * 1 ≤ _; omega
    | 2, _ => show N * 1 ≤ _; omega
  refine va_newaK hx hb (by rw [hty]; exact hts _ hq) rfl hd rfl g1 g2 hbytes hcc hss hR.1 fun H1 cA e1 z1 o1 hAr hNm => ?_
  rw [hty] at e1 hNm
  have hcA : cA = cxA X t := by
    have hRA := hF.2.1.2 t (by omega)
    match t, ht, hRA, hNm with
    | 0, _, hRA, hNm => exact Option.some.inj (hNm.symm.trans hRA)
    | 1, _, hRA, hNm => exact Option.some.inj (hNm.symm.trans hRA)
    | 2, _, hRA, hNm => exact Option.some.inj (hNm.symm.trans hRA)
  have hdf : defaultValue (arT t) = .int 0 := by
    match t, ht with
    | 0, _ => rfl
    | 1, _ => rfl
    | 2, _ => rfl
  refine kk H1 locs ls (hR.new (by rw [z1, hR.1]) (fun q hq => o1 q (by rw [← hR.1]; exact hq)) ?_) hlo hlk
  refine celAt.arr (by omega) ?_
  rw [e1, hcA, hdf]
  refine congrArg some (arrV_congr fun j _ => rfl)
theorem gs_anew {z : Int} {idx : Nat} {C : String} (t N lb : Nat) (ht : t < 7) (hty : arT t = .object C) (hd : decode fi.2.1 pc = .ok (.anewarray idx, 3)) (q1 : Cond.classLink fi.1 idx C ∈ lw_all) (q2 : Cond.arrayOver (.object C) ∈ lw_tbl) (hz : z = (N : Int)) (hN : N ≤ 1000000)
    (kk : G X fi d (pc + 3) L (vR (some (nx X hp)) :: st) (hnew X hp N (lb, .inl (t, N, .inr (fun _ => none)))) Q) : G X fi d pc L (vI z :: st) hp Q := by
  refine G.stepH (hp1 := hnew X hp N (lb, Sum.inl (t, N, Sum.inr (fun _ => none)))) (kc := 1) (ks := N) rfl rfl (fun p e R s m args below meth c H locs cells slots ls QQ hS hR hlo hcc hss hlk kk => ?_) kk
  obtain ⟨hx, hb, hml, hr, hlks, hown, hts, hF, -⟩ := hS
  obtain ⟨g1, g2⟩ := gs_nn hz (by omega)
  refine W.anew hx hb hown (hts _ q1) (va_AO.use (hF.2.2.1.2.2.2.2.1 C q2)) rfl hd rfl g1 (by rw [g2]; omega) hcc (by rw [g2]; exact hss) fun cA kA comp f1 f2 f3 f4 => ?_
  rw [g2]
  have hRA := hF.2.1.2 t ht
  rw [hty] at hRA
  obtain ⟨kA', comp', k1, k2, k3, k4⟩ := hRA
  have hcA : cA = cxA X t := Option.some.inj (f1.symm.trans k4)
  have e0 : ({ cls := cA, slots := Array.replicate N .null, vm := .none } : Cell) = arrV cA N (fun _ => .null) := arrV_new _ _ _
  rw [e0]
  have hzz : (H.push (arrV cA N (fun _ => .null))).size = H.size + 1 := Array.size_push _
  rw [hR.1]
  refine kk _ locs ls (hR.new hzz (fun q hq => by rw [Array.getElem?_push, if_neg (Nat.ne_of_lt hq)]) ?_) hlo hlk
  refine celAt.arr (by omega) ?_
  rw [← hR.1, Array.getElem?_push_size, hcA]
  rfl
/-! casts -/
theorem gs_castN {idx : Nat} (hd : decode fi.2.1 pc = .ok (.checkcast idx, 3)) (kk : G X fi d (pc + 3) L (vR none :: st) hp Q) : G X fi d pc L (vR none :: st) hp Q :=
  G.step (fun p e R s m args below meth c H locs cells slots ls QQ hS hR hl kk => lv_castN hS.1 hS.2.1 hd (kk ls hl)) kk
theorem gs_cast {idx a lb ci N : Nat} {fs : List AV} {C nm : String} {T : u_T} (hd : decode fi.2.1 pc = .ok (.checkcast idx, 3)) (hq : Cond.classLink fi.1 idx nm ∈ lw_all) (hc : gl X hp a = some (lb, .inr (ci, fs))) (hcl : gCl[ci]? = some (C, T, N)) (hE : C = nm ∨ Cond.castable C nm ∈ lw_tbl) (kk : G X fi d (pc + 3) L (vR (some a) :: st) hp Q) : G X fi d pc L (vR (some a) :: st) hp Q :=
  G.step (fun p e R s m args below meth c H locs cells slots ls QQ hS hR hl kk => by
    obtain ⟨hx, hb, hml, hr, hlk, hown, hts, hF, -⟩ := hS
    rcases hE with rfl | hE
    · exact va_castE hx hb hown (hts _ hq) (gs_recv hF hR hc hcl) hd (kk ls hl)
    · exact va_castY hx hb hown (hts _ hq) (hF.2.2.1.2.2.1 _ _ hE) (gs_recv hF hR hc hcl) hd (kk ls hl)) kk
theorem gs_castA {idx a lb n : Nat} {q : (Int → Int) ⊕ (Int → Option Nat)} {nm : String} (t : Nat) (ht : t = 2 ∨ t = 3) (hd : decode fi.2.1 pc = .ok (.checkcast idx, 3)) (hq : Cond.classLink fi.1 idx nm ∈ lw_all) (hc : gl X hp a = some (lb, .inl (t, n, q))) (hnm : nm = "[" ++ (arT t).toString) (kk : G X fi d (pc + 3) L (vR (some a) :: st) hp Q) : G X fi d pc L (vR (some a) :: st) hp Q :=
  G.step (fun p e R s m args below meth c H locs cells slots ls QQ hS hR hl kk => by
    obtain ⟨hx, hb, hml, hr, hlk, hown, hts, hF, -⟩ := hS
    obtain ⟨h0, cell, q1, q2, q3, q4, q5, q6, q7, -⟩ := hR.2.2 a _ hc
    refine va_castE hx hb hown (hts _ hq) ⟨cell, q1, q3, ?_⟩ hd (kk ls hl)
    rw [q2, hnm]
    rcases ht with rfl | rfl
    · exact hF.2.1.2 2 (by omega)
    · obtain ⟨kA, comp, -, -, -, h⟩ := hF.2.1.2 3 (by omega)
      exact h) kk
theorem gs_instN {idx : Nat} (hd : decode fi.2.1 pc = .ok (.instanceof idx, 3)) (kk : G X fi d (pc + 3) L (vI 0 :: st) hp Q) : G X fi d pc L (vR none :: st) hp Q :=
  G.step (fun p e R s m args below meth c H locs cells slots ls QQ hS hR hl kk => lv_instN hS.1 hS.2.1 hd (kk ls hl)) kk
theorem gs_instE {idx a lb ci N : Nat} {fs : List AV} {C : String} {T : u_T} (hd : decode fi.2.1 pc = .ok (.instanceof idx, 3)) (hq : Cond.classLink fi.1 idx C ∈ lw_all) (hc : gl X hp a = some (lb, .inr (ci, fs))) (hcl : gCl[ci]? = some (C, T, N)) (kk : G X fi d (pc + 3) L (vI 1 :: st) hp Q) : G X fi d pc L (vR (some a) :: st) hp Q :=
  G.step (fun p e R s m args below meth c H locs cells slots ls QQ hS hR hl kk => by
    obtain ⟨hx, hb, hml, hr, hlk, hown, hts, hF, -⟩ := hS
    exact va_instE hx hb hown (hts _ hq) (gs_recv hF hR hc hcl) hd (kk ls hl)) kk
theorem gs_instNo {idx a lb ci N : Nat} {fs : List AV} {C : String} {T : u_T} (hd : decode fi.2.1 pc = .ok (.instanceof idx, 3)) (hq : Cond.classLink fi.1 idx "java/util/HashMap$TreeNode" ∈ lw_all) (hc : gl X hp a = some (lb, .inr (ci, fs))) (hcl : gCl[ci]? = some (C, T, N)) (hC : C = "java/util/HashMap$Node" ∨ C = "java/util/LinkedHashMap$Entry") (kk : G X fi d (pc + 3) L (vI 0 :: st) hp Q) : G X fi d pc L (vR (some a) :: st) hp Q :=
  G.step (fun p e R s m args below meth c H locs cells slots ls QQ hS hR hl kk => by
    obtain ⟨hx, hb, hml, hr, hlk, hown, hts, hF, -⟩ := hS
    rcases hC with rfl | rfl
    · exact va_instNo hx hb hown (hts _ hq) hF.2.2.2.2.1.1 (gs_recv hF hR hc hcl) hd (kk ls hl)
    · exact va_instNo hx hb hown (hts _ hq) hF.2.2.2.2.1.2 (gs_recv hF hR hc hcl) hd (kk ls hl)) kk
/-! Object's constructor, answers -/
theorem gs_objInit {idx : Nat} {a : Nat} (hd : decode fi.2.1 pc = .ok (.invokespecial idx, 3)) (q1 : Cond.methodLink fi.1 idx objectInit ∈ lw_all) (q2 : Cond.instanceMethod objectInit ∈ lw_all) (q3 : Cond.code objectInit ⟨#[0xb1]⟩ 1 none ∈ lw_all) (hdd : 1 ≤ d) (hst : (st.map ct).sum ≤ 8) (kk : G X fi d (pc + 3) L st hp Q) : G X fi d pc L (vR (some a) :: st) hp Q :=
  G.step (fun p e R s m args below meth c H locs cells slots ls QQ hS hR hl kk => by
    obtain ⟨hx, hb, hml, hr, hlk, hown, hts, hF, hfr, hlo, -⟩ := hS
    have hsum : ((st.map cv).map fun v => v.category).sum ≤ 8 := by
      rw [List.map_map]
      rw [show (fun v : Value => v.category) ∘ cv = ct from funext ct_cv]
      exact hst
    refine W.objInit hx hb hown (hts _ q1) (hts _ q2) (hts _ q3) rfl (by rw [hml]; exact hl.1) rfl hd (by omega) ?_ (kk ls hl)
    have h8 := lv_room (m := m) (pc := pc) (ls := ls) (rest := (vR (some a) :: st).map cv) hsum
    show 2 * (F0 m pc ls ((vR (some a) :: st).map cv)).monitorRoom + _ + 12 ≤ _
    omega) kk
theorem gs_iret {z : Int} (hd : decode fi.2.1 pc = .ok (.ireturn, 1)) (hr : fi.2.2.2.1 = some .int) (hq : Q (some (vI z)) hp) : G X fi d pc L [vI z] hp Q :=
  ⟨_, _, hq, Nat.le_refl _, Nat.le_refl _, fun p e R s m args below meth c H locs cells slots ls hS hR hlo hcc hss hlk => by
    rw [Nat.sub_self, Nat.sub_self, Nat.add_zero, Nat.add_zero]
    exact W.iret hS.1 hS.2.1 (hS.2.2.2.1.trans hr) (fun t ht hW => ⟨rfl, by rw [ht]; exact hR, hS.2.2.2.2.2.2.2.1.warm hW⟩) hlo hd (hlocks := hS.2.2.2.2.1)⟩
theorem gs_zret {z : Int} (ty : FieldType) (hd : decode fi.2.1 pc = .ok (.ireturn, 1)) (hr : fi.2.2.2.1 = some ty) (hn : narrow ty (.int (Int32.ofInt z)) = .int (Int32.ofInt z)) (hq : Q (some (vI z)) hp) : G X fi d pc L [vI z] hp Q :=
  ⟨_, _, hq, Nat.le_refl _, Nat.le_refl _, fun p e R s m args below meth c H locs cells slots ls hS hR hlo hcc hss hlk => by
    rw [Nat.sub_self, Nat.sub_self, Nat.add_zero, Nat.add_zero]
    exact W.zret hS.1 hS.2.1 (hS.2.2.2.1.trans hr) hn (fun t ht hW => ⟨rfl, by rw [ht]; exact hR, hS.2.2.2.2.2.2.2.1.warm hW⟩) hlo hd (hlocks := hS.2.2.2.2.1)⟩
theorem gs_vret (hd : decode fi.2.1 pc = .ok (.return_, 1)) (hr : fi.2.2.2.1 = none) (hq : Q none hp) : G X fi d pc L [] hp Q :=
  ⟨_, _, hq, Nat.le_refl _, Nat.le_refl _, fun p e R s m args below meth c H locs cells slots ls hS hR hlo hcc hss hlk => by
    rw [Nat.sub_self, Nat.sub_self, Nat.add_zero, Nat.add_zero]
    exact W.vret hS.1 hS.2.1 (hS.2.2.2.1.trans hr) (fun t ht hW => ⟨rfl, by rw [ht]; exact hR, hS.2.2.2.2.2.2.2.1.warm hW⟩) hlo hd (hlocks := hS.2.2.2.2.1)⟩
theorem gs_lret {x : Int64} (hd : decode fi.2.1 pc = .ok (.lreturn, 1)) (hr : fi.2.2.2.1 = some .long) (hq : Q (some (vL x)) hp) : G X fi d pc L [vL x] hp Q :=
  ⟨_, _, hq, Nat.le_refl _, Nat.le_refl _, fun p e R s m args below meth c H locs cells slots ls hS hR hlo hcc hss hlk => by
    rw [Nat.sub_self, Nat.sub_self, Nat.add_zero, Nat.add_zero]
    exact W.lret hS.1 hS.2.1 (hS.2.2.2.1.trans hr) (fun t ht hW => ⟨rfl, by rw [ht]; exact hR, hS.2.2.2.2.2.2.2.1.warm hW⟩) hlo hd (hlocks := hS.2.2.2.2.1)⟩
theorem gs_aret {r : Option Nat} {rt : FieldType} (hd : decode fi.2.1 pc = .ok (.areturn, 1)) (hr : fi.2.2.2.1 = some rt) (hrt : (∃ n, rt = .object n) ∨ ∃ t, rt = .array t) (hq : Q (some (vR r)) hp) : G X fi d pc L [vR r] hp Q :=
  ⟨_, _, hq, Nat.le_refl _, Nat.le_refl _, fun p e R s m args below meth c H locs cells slots ls hS hR hlo hcc hss hlk => by
    rw [Nat.sub_self, Nat.sub_self, Nat.add_zero, Nat.add_zero]
    have hv : cv (vR r) = .null ∨ ∃ a, cv (vR r) = .ref a := by
      cases r with
      | none => exact Or.inl rfl
      | some a => exact Or.inr ⟨a, rfl⟩
    exact W.aret (v := cv (vR r)) hS.1 hS.2.1 (hS.2.2.2.1.trans hr) hrt hv (fun t ht hW => ⟨rfl, by rw [ht]; exact hR, hS.2.2.2.2.2.2.2.1.warm hW⟩) hlo hd (hlocks := hS.2.2.2.2.1)⟩
end GE
