/-! THE G LAYER, part 4: fields, arrays, new objects, casts, answers. -/
section GD
variable {X : gCx} {fi : gFi} {d pc : Nat} {L : List (Option AV)} {st : List AV} {hp : gHp} {Q : Option AV → gHp → Prop}
/-- what may be stored in a place of a type -/
def fok (ty : FieldType) (v : AV) : Prop := narrow ty (cv v) = cv v ∧ fits ty (cv v) = true
theorem fok_int (z : Int) : fok .int (vI z) := ⟨rfl, rfl⟩
theorem fok_0 : fok .boolean (vI 0) := ⟨rfl, rfl⟩
theorem fok_1 : fok .boolean (vI 1) := ⟨rfl, rfl⟩
theorem fok_bool {z : Int} (h : z = 0 ∨ z = 1) : fok .boolean (vI z) := by
  rcases h with rfl | rfl
  · exact fok_0
  · exact fok_1
theorem fok_b0 : fok .byte (vI 0) := ⟨rfl, rfl⟩
theorem fok_obj (C : String) (r : Option Nat) : fok (.object C) (vR r) := by
  cases r
  · exact ⟨rfl, rfl⟩
  · exact ⟨rfl, rfl⟩
theorem fok_arr (t : FieldType) (r : Option Nat) : fok (.array t) (vR r) := by
  cases r
  · exact ⟨rfl, rfl⟩
  · exact ⟨rfl, rfl⟩
theorem fok_long (x : Int64) : fok .long (vL x) := ⟨rfl, rfl⟩
theorem fok_float (x : UInt32) : fok .float (vF x) := ⟨rfl, rfl⟩
theorem gs_same {s : State} {args : Array Value} {ref O n de : String} (hts : ∀ w ∈ lw_all, w.before args s = true) (h : ref = O ∨ Cond.sameField ref O n de ∈ lw_all) (x : ClassId × Class × Nat × Field) (ho : s.fieldFound? O n de = some x) : s.fieldFound? ref n de = some x := by
  rcases h with h | h
  · rw [h]; exact ho
  · exact u_same (hts _ h) x ho
theorem gs_getf {a lb ci idx : Nat} {fs : List AV} {v : AV} {ref C : String} {T : u_T} {N : Nat} (k : Nat) (hd : decode fi.2.1 pc = .ok (.getfield idx, 3)) (hc : gl X hp a = some (lb, .inr (ci, fs))) (hcl : gCl[ci]? = some (C, T, N)) (hin : ∀ w ∈ u_ws C T N, w ∈ lw_all) (hk : k < N) (hq : Cond.fieldLink fi.1 idx ref (T k).2.1 (T k).2.2.1 ∈ lw_all) (hsm : ref = (T k).1 ∨ Cond.sameField ref (T k).1 (T k).2.1 (T k).2.2.1 ∈ lw_all) (hv : fs[k]? = some v)
    (kk : G X fi d (pc + 3) L (v :: st) hp Q) : G X fi d pc L (vR (some a) :: st) hp Q :=
  G.step (fun p e R s m args below meth c H locs cells slots ls QQ hS hR hl kk => by
    obtain ⟨hx, hb, hml, hr, hlk, hown, hts, hF, -⟩ := hS
    obtain ⟨r, cell, h1, q1, q2, q3, q4, q5, -⟩ := hR.2.2 a _ hc
    have hr : r = (C, T, N) := Option.some.inj (h1.symm.trans hcl)
    subst hr
    obtain ⟨hSl, hfc, kC, hkC, hkind⟩ := hF.1 ci _ hcl
    obtain ⟨cf, kf, fi', f, hi, hsl⟩ := hSl k hk
    refine W.getf hx hb hown (hts _ hq) (gs_same hts hsm _ hi) (u_facts hfc hkC (u_lays hts hin hk) hi).1 q1 q4 (v := cv v) ?_ rfl rfl hd (kk ls hl)
    rw [hsl, q5 k hk]
    simp [vp_V, hv]) kk
theorem gs_getfN {a lb ci idx : Nat} {fs : List AV} {v : AV} {ref C host : String} {T : u_T} {N : Nat} (k : Nat) (hd : decode fi.2.1 pc = .ok (.getfield idx, 3)) (hc : gl X hp a = some (lb, .inr (ci, fs))) (hcl : gCl[ci]? = some (C, T, N)) (hin : ∀ w ∈ u_ws C T N, w ∈ lw_all) (hk : k < N) (hq : Cond.fieldLinkNest fi.1 idx ref (T k).2.1 (T k).2.2.1 host ∈ lw_tbl) (hsm : ref = (T k).1 ∨ Cond.sameField ref (T k).1 (T k).2.1 (T k).2.2.1 ∈ lw_all) (hv : fs[k]? = some v)
    (kk : G X fi d (pc + 3) L (v :: st) hp Q) : G X fi d pc L (vR (some a) :: st) hp Q :=
  G.step (fun p e R s m args below meth c H locs cells slots ls QQ hS hR hl kk => by
    obtain ⟨hx, hb, hml, hr, hlk, hown, hts, hF, -⟩ := hS
    obtain ⟨r, cell, h1, q1, q2, q3, q4, q5, -⟩ := hR.2.2 a _ hc
    have hr : r = (C, T, N) := Option.some.inj (h1.symm.trans hcl)
    subst hr
    have hn := va_Nw.use (A := args) rfl (hF.2.2.1.1 _ _ _ _ _ _ hq)
    obtain ⟨hSl, hfc, kC, hkC, hkind⟩ := hF.1 ci _ hcl
    obtain ⟨cf, kf, fi', f, hi, hsl⟩ := hSl k hk
    refine va_Wgetf hx hb hown hn (gs_same hts hsm _ hi) (u_facts hfc hkC (u_lays hts hin hk) hi).1 q1 q4 (v := cv v) ?_ rfl rfl hd (kk ls hl)
    rw [hsl, q5 k hk]
    simp [vp_V, hv]) kk
theorem gs_apart {s : State} {args : Array Value} {C : String} {T : u_T} {N ci : Nat} (hts : ∀ w ∈ lw_all, w.before args s = true) (hin : ∀ w ∈ u_ws C T N, w ∈ lw_all) (ty : Nat → FieldType) (hty : ∀ k, k < N → parseFieldDescriptor (T k).2.2.1 = some (ty k)) (hnm : ∀ a, a < N → ∀ b, b < N → a ≠ b → (T a).2.1 ≠ (T b).2.1) (hF : Fx X s) (hc : gCl[ci]? = some (C, T, N)) : ∀ x y, x < N → y < N → x ≠ y → ((cxD X).2 ci) x ≠ ((cxD X).2 ci) y := by
  intro x y hx hy hne
  obtain ⟨hS, -⟩ := hF.1 ci _ hc
  obtain ⟨_, _, _, fa, hia, ea⟩ := hS x hx
  obtain ⟨_, _, _, fb, hib, eb⟩ := hS y hy
  rw [← ea, ← eb]
  refine u_apart (u_lays hts hin hx) (u_lays hts hin hy) hia hib ?_
  rw [(State.fieldFound?_type hia (hty x hx)).1, (State.fieldFound?_type hib (hty y hy)).1]
  exact hnm x hx y hy hne
theorem gs_put1 {a lb ci : Nat} {fs : List AV} {C : String} {T : u_T} {N : Nat} {H H' : Heap} {cell : Cell} {v : AV} {k : Nat} (hR : Rp X hp H) (hc : gl X hp a = some (lb, .inr (ci, fs))) (hlb : lb ≠ 0) (hcl : gCl[ci]? = some (C, T, N)) (q2 : cell.cls = (cxD X).1 ci) (q3 : cell.vm = .none) (q5 : ∀ k, k < N → cell.slots[(cxD X).2 ci k]? = some (vp_V (fs.map cv) k)) (hap : ∀ x y, x < N → y < N → x ≠ y → ((cxD X).2 ci) x ≠ ((cxD X).2 ci) y) (hk : k < N) (hl : k < fs.length) (e1 : H'[a]? = some (cell.setSlot ((cxD X).2 ci k) (cv v))) (e2 : H'.size = H.size) (e3 : ∀ q, q ≠ a → H'[q]? = H[q]?) : Rp X (hset hp a (lb, .inr (ci, fs.set k v))) H' := by
  refine hR.set hc hlb e2 e3 ⟨(C, T, N), _, hcl, e1, q2, ?_, ?_, ?_, fun _ => q3⟩
  · show cell.vm.isStatics = false
    rw [q3]; rfl
  · show cell.vm ≠ .unknown
    rw [q3]; exact fun h => by cases h
  · intro j hj
    have h1 := t_set (V := vp_V (fs.map cv)) q5 hap hk (cv v) j hj
    rw [h1, vp_updV_set (by rw [List.length_map]; exact hl) (cv v) j, List.map_set]
theorem gs_putf {a lb ci idx : Nat} {fs : List AV} {v : AV} {ref C : String} {T : u_T} {N : Nat} (k : Nat) (c' : gCe) (hd : decode fi.2.1 pc = .ok (.putfield idx, 3)) (hc : gl X hp a = some (lb, .inr (ci, fs))) (hlb : lb ≠ 0) (hcl : gCl[ci]? = some (C, T, N)) (hin : ∀ w ∈ u_ws C T N, w ∈ lw_all) (ty : Nat → FieldType) (hty : ∀ k, k < N → parseFieldDescriptor (T k).2.2.1 = some (ty k)) (hnm : ∀ a, a < N → ∀ b, b < N → a ≠ b → (T a).2.1 ≠ (T b).2.1) (hk : k < N) (hq : Cond.fieldLink fi.1 idx ref (T k).2.1 (T k).2.2.1 ∈ lw_all) (hsm : ref = (T k).1 ∨ Cond.sameField ref (T k).1 (T k).2.1 (T k).2.2.1 ∈ lw_all) (hfin : (T k).2.2.2 = false) (hok : fok (ty k) v) (hl : k < fs.length) (hc' : (Sum.inr (ci, fs.set k v) : gCe) = c')
    (kk : G X fi d (pc + 3) L st (hset hp a (lb, c')) Q) : G X fi d pc L (v :: vR (some a) :: st) hp Q := by
  subst hc'
  refine G.stepH (hp1 := hset hp a (lb, Sum.inr (ci, fs.set k v))) (kc := 0) (ks := 0) rfl rfl (fun p e R s m args below meth c H locs cells slots ls QQ hS hR hlo hcc hss hlk kk => ?_) kk
  obtain ⟨hx, hb, hml, hr, hlks, hown, hts, hF, -⟩ := hS
  have ha := gl_lo hc hlb
  obtain ⟨r, cell, h1, q1, q2, q3, q4, q5, q6⟩ := hR.2.2 a _ hc
  have hr : r = (C, T, N) := Option.some.inj (h1.symm.trans hcl)
  subst hr
  have q6 := q6 ha
  have hap := gs_apart hts hin ty hty hnm hF hcl
  obtain ⟨hSl, hfc, kC, hkC, hkind⟩ := hF.1 ci _ hcl
  obtain ⟨cf, kf, fi', f, hi, hsl⟩ := hSl k hk
  have hlay := hts _ (hin _ (u_in_lay hk))
  unfold u_lay at hlay
  rw [if_neg (by rw [hfin]; decide)] at hlay
  have hst := (u_facts hfc hkC (u_lays hts hin hk) hi).1
  have h6 := u_store hfc hkC hkind hlay hi (hty k hk) hok.1 hok.2
  refine W.putK hx hb (f := f) ⟨hown, hts _ hq, ⟨_, _, _, gs_same hts hsm _ hi⟩, hst⟩ (by rw [q2]; exact h6) q1 q6 (by rw [hsl]; exact k2_hasslot (q5 k hk)) rfl rfl hd fun H' e1 e2 e3 => ?_
  rw [hsl] at e1 ⊢
  refine kk H' _ ls (gs_put1 hR hc hlb hcl q2 q6 q5 hap hk hl e1 e2 e3) (fun q h => ?_) hlk
  rcases List.mem_append.mp h with h | h
  · exact hlo q h
  · rw [List.mem_singleton.mp h]; exact ha
theorem gs_putfN {a lb ci idx : Nat} {fs : List AV} {v : AV} {ref C host : String} {T : u_T} {N : Nat} (k : Nat) (c' : gCe) (hd : decode fi.2.1 pc = .ok (.putfield idx, 3)) (hc : gl X hp a = some (lb, .inr (ci, fs))) (hlb : lb ≠ 0) (hcl : gCl[ci]? = some (C, T, N)) (hin : ∀ w ∈ u_ws C T N, w ∈ lw_all) (ty : Nat → FieldType) (hty : ∀ k, k < N → parseFieldDescriptor (T k).2.2.1 = some (ty k)) (hnm : ∀ a, a < N → ∀ b, b < N → a ≠ b → (T a).2.1 ≠ (T b).2.1) (hk : k < N) (hq : Cond.fieldLinkNest fi.1 idx ref (T k).2.1 (T k).2.2.1 host ∈ lw_tbl) (hsm : ref = (T k).1 ∨ Cond.sameField ref (T k).1 (T k).2.1 (T k).2.2.1 ∈ lw_all) (hfin : (T k).2.2.2 = false) (hok : fok (ty k) v) (hl : k < fs.length) (hc' : (Sum.inr (ci, fs.set k v) : gCe) = c')
    (kk : G X fi d (pc + 3) L st (hset hp a (lb, c')) Q) : G X fi d pc L (v :: vR (some a) :: st) hp Q := by
  subst hc'
  refine G.stepH (hp1 := hset hp a (lb, Sum.inr (ci, fs.set k v))) (kc := 0) (ks := 0) rfl rfl (fun p e R s m args below meth c H locs cells slots ls QQ hS hR hlo hcc hss hlk kk => ?_) kk
  obtain ⟨hx, hb, hml, hr, hlks, hown, hts, hF, -⟩ := hS
  have ha := gl_lo hc hlb
  obtain ⟨r, cell, h1, q1, q2, q3, q4, q5, q6⟩ := hR.2.2 a _ hc
  have hr : r = (C, T, N) := Option.some.inj (h1.symm.trans hcl)
  subst hr
  have q6 := q6 ha
  have hap := gs_apart hts hin ty hty hnm hF hcl
  have hn := va_Nw.use (A := args) rfl (hF.2.2.1.1 _ _ _ _ _ _ hq)
  obtain ⟨hSl, hfc, kC, hkC, hkind⟩ := hF.1 ci _ hcl
  obtain ⟨cf, kf, fi', f, hi, hsl⟩ := hSl k hk
  have hlay := hts _ (hin _ (u_in_lay hk))
  unfold u_lay at hlay
  rw [if_neg (by rw [hfin]; decide)] at hlay
  have hst := (u_facts hfc hkC (u_lays hts hin hk) hi).1
  have h6 := u_store hfc hkC hkind hlay hi (hty k hk) hok.1 hok.2
  refine va_WputK hx hb (f := f) hown hn (gs_same hts hsm _ hi) hst (by rw [q2]; exact h6) q1 q6 (by rw [hsl]; exact k2_hasslot (q5 k hk)) rfl rfl hd fun H' e1 e2 e3 => ?_
  rw [hsl] at e1 ⊢
  refine kk H' _ ls (gs_put1 hR hc hlb hcl q2 q6 q5 hap hk hl e1 e2 e3) (fun q h => ?_) hlk
  rcases List.mem_append.mp h with h | h
  · exact hlo q h
  · rw [List.mem_singleton.mp h]; exact ha
theorem gs_putF {a lb ci idx : Nat} {fs : List AV} {v : AV} {ref C : String} {T : u_T} {N : Nat} (k : Nat) (c' : gCe) (hd : decode fi.2.1 pc = .ok (.putfield idx, 3)) (hc : gl X hp a = some (lb, .inr (ci, fs))) (hlb : lb ≠ 0) (hcl : gCl[ci]? = some (C, T, N)) (hin : ∀ w ∈ u_ws C T N, w ∈ lw_all) (ty : Nat → FieldType) (hty : ∀ k, k < N → parseFieldDescriptor (T k).2.2.1 = some (ty k)) (hnm : ∀ a, a < N → ∀ b, b < N → a ≠ b → (T a).2.1 ≠ (T b).2.1) (hk : k < N) (hq : Cond.fieldLink fi.1 idx ref (T k).2.1 (T k).2.2.1 ∈ lw_all) (hsm : ref = (T k).1 ∨ Cond.sameField ref (T k).1 (T k).2.1 (T k).2.2.1 ∈ lw_all) (hfin : (T k).2.2.2 = true) (hini : fi.2.2.2.2 = true) (hdecl : (T k).1 = fi.1) (hok : fok (ty k) v) (hl : k < fs.length) (hc' : (Sum.inr (ci, fs.set k v) : gCe) = c')
    (kk : G X fi d (pc + 3) L st (hset hp a (lb, c')) Q) : G X fi d pc L (v :: vR (some a) :: st) hp Q := by
  subst hc'
  refine G.stepH (hp1 := hset hp a (lb, Sum.inr (ci, fs.set k v))) (kc := 0) (ks := 0) rfl rfl (fun p e R s m args below meth c H locs cells slots ls QQ hS hR hlo hcc hss hlk kk => ?_) kk
  obtain ⟨hx, hb, hml, hr, hlks, hown, hts, hF, -, -, hnm2⟩ := hS
  have ha := gl_lo hc hlb
  obtain ⟨r, cell, h1, q1, q2, q3, q4, q5, q6⟩ := hR.2.2 a _ hc
  have hr : r = (C, T, N) := Option.some.inj (h1.symm.trans hcl)
  subst hr
  have q6 := q6 ha
  have hap := gs_apart hts hin ty hty hnm hF hcl
  obtain ⟨hSl, hfc, kC, hkC, hkind⟩ := hF.1 ci _ hcl
  obtain ⟨cf, kf, fi', f, hi, hsl⟩ := hSl k hk
  have hlay := hts _ (hin _ (u_in_lay hk))
  unfold u_lay at hlay
  rw [if_pos hfin] at hlay
  have hst := (u_facts hfc hkC (u_lays hts hin hk) hi).1
  have hcf : m.cls = cf := by
    obtain ⟨_, _, c', _, _, _, -, -, hf', -, -, -, hown2, -⟩ := Cond.laysFinal_spec hlay
    have e1 : c' = cf := by have := hi.symm.trans hf'; simp at this; exact this.1.symm
    rw [hdecl] at hown2
    rw [← e1]; exact Option.some.inj (hown.symm.trans hown2)
  have h6 := u_fits hfc hkC hkind (Or.inr hlay) hi (hty k hk) hok.1 hok.2
  refine W.putFinK hx hb hown (hts _ hq) (gs_same hts hsm _ hi) hst hcf (hnm2 hini) (by rw [q2]; exact h6) q1 q6 (by rw [hsl]; exact k2_hasslot (q5 k hk)) rfl rfl hd fun H' e1 e2 e3 => ?_
  rw [hsl] at e1 ⊢
  refine kk H' _ ls (gs_put1 hR hc hlb hcl q2 q6 q5 hap hk hl e1 e2 e3) (fun q h => ?_) hlk
  rcases List.mem_append.mp h with h | h
  · exact hlo q h
  · rw [List.mem_singleton.mp h]; exact ha
theorem gs_gets {idx : Nat} {ref : String} (k : Nat) (hk : k < 6) (hd : decode fi.2.1 pc = .ok (.getstatic idx, 3)) (hq : Cond.fieldLink fi.1 idx ref (stT k).2.1 (stT k).2.2 ∈ lw_all) (hsm : ref = (stT k).1 ∨ Cond.sameField ref (stT k).1 (stT k).2.1 (stT k).2.2 ∈ lw_all)
    (kk : G X fi d (pc + 3) L (stV X k :: st) hp Q) : G X fi d pc L st hp Q :=
  G.step (fun p e R s m args below meth c H locs cells slots ls QQ hS hR hl kk => by
    obtain ⟨hx, hb, hml, hr, hlk, hown, hts, hF, -⟩ := hS
    obtain ⟨cf, kf, f', f, a, cell, h1, h2, h3, h4, h5, h6, h7, h8⟩ := hF.2.2.2.2.2.1 k hk
    have ha : a < cxz X := Nat.not_le.mp h8
    exact W.gets hx hb hown (hts _ hq) (gs_same hts hsm _ h1) h2 h3 h4 (by rw [hR.2.1 a ha]; exact h5) (fun e => by rw [e] at h6; cases h6) h7 rfl hd (kk ls hl)) kk
/-! arrays -/
theorem gs_isA {s : State} {t : Nat} {cell : Cell} (hF : Fx X s) (ht : t < 9) (q2 : cell.cls = cxA X t) (q3 : cell.vm.isStatics = false) : s.isArrayOf cell (arT t) := by
  obtain ⟨-, kA, hk, comp, hkind⟩ := hF.2.1.1 t ht 0 (fun _ => .null)
  exact ⟨fun q h => (by rw [h] at q3; cases q3), kA, (by rw [q2]; exact hk), comp, hkind⟩
theorem gs_nn {j : Int} {i : Nat} (hj : j = (i : Int)) (hi : i < 2147483648) : ¬ Int32.ofInt j < 0 ∧ (Int32.ofInt j).toNatClampNeg = i := by
  subst hj
  have e : (Int32.ofInt (i : Int)).toInt = i := gs_r ⟨by omega, by omega⟩
  refine ⟨fun h => ?_, ?_⟩
  · rw [Int32.lt_iff_toInt_lt, e] at h
    have : (0 : Int32).toInt = 0 := rfl
    omega
  · show (Int32.ofInt (i : Int)).toInt.toNat = i
    rw [e]; rfl
theorem gs_alen {a lb t n : Nat} {q : (Int → Int) ⊕ (Int → Option Nat)} (hd : decode fi.2.1 pc = .ok (.arraylength, 1)) (hc : gl X hp a = some (lb, .inl (t, n, q))) (kk : G X fi d (pc + 1) L (vI (n : Int) :: st) hp Q) : G X fi d pc L (vR (some a) :: st) hp Q :=
  G.step (fun p e R s m args below meth c H locs cells slots ls QQ hS hR hl kk => by
    obtain ⟨hx, hb, hml, hr, hlk, hown, hts, hF, -⟩ := hS
    obtain ⟨h0, cell, q1, q2, q3, q4, q5, q6, q7, -⟩ := hR.2.2 a _ hc
    exact W.alen (n := Int32.ofInt (n : Int)) hx hb q1 (gs_isA hF h0 q2 q3) (by rw [q6]; rfl) rfl rfl hd (kk ls hl)) kk
theorem gs_iald {a lb n : Nat} {f : Int → Int} {j : Int} (hd : decode fi.2.1 pc = .ok (.iaload, 1)) (hc : gl X hp a = some (lb, .inl (0, n, .inl f))) (hj : 0 ≤ j ∧ j < n) (hn : n ≤ 2147483648) (kk : G X fi d (pc + 1) L (vI (f j) :: st) hp Q) : G X fi d pc L (vI j :: vR (some a) :: st) hp Q :=
  G.step (fun p e R s m args below meth c H locs cells slots ls QQ hS hR hl kk => by
    obtain ⟨hx, hb, hml, hr, hlk, hown, hts, hF, -⟩ := hS
    obtain ⟨h0, cell, q1, q2, q3, q4, q5, q6, q7, -⟩ := hR.2.2 a _ hc
    obtain ⟨i, rfl⟩ : ∃ i : Nat, j = (i : Int) := ⟨j.toNat, by omega⟩
    have hi : i < n := by omega
    obtain ⟨g1, g2⟩ := gs_nn (j := (i : Int)) rfl (by omega)
    exact W.iald (v := cv (vI (f (i : Int)))) hx hb q1 (gs_isA hF h0 q2 q3) q4 (by rw [g2]; rintro (h | h); exact g1 h; exact absurd (Nat.lt_of_lt_of_le hi q5) (by omega)) (by rw [g2]; exact q7 i hi) rfl rfl hd (kk ls hl)) kk
theorem gs_sld {a lb n : Nat} {f : Int → Int} {j : Int} (hd : decode fi.2.1 pc = .ok (.iaload, 1)) (hc : gl X hp a = some (lb, .inl (8, n, .inl f))) (hj : 0 ≤ j ∧ j < n) (hn : n ≤ 2147483648) (kk : G X fi d (pc + 1) L (vI (f j) :: st) hp Q) : G X fi d pc L (vI j :: vR (some a) :: st) hp Q :=
  G.step (fun p e R s m args below meth c H locs cells slots ls QQ hS hR hl kk => by
    obtain ⟨hx, hb, hml, hr, hlk, hown, hts, hF, -⟩ := hS
    obtain ⟨h0, cell, q1, q2, q3, q4, q5, q6, q7, -⟩ := hR.2.2 a _ hc
    obtain ⟨i, rfl⟩ : ∃ i : Nat, j = (i : Int) := ⟨j.toNat, by omega⟩
    have hi : i < n := by omega
    obtain ⟨g1, g2⟩ := gs_nn (j := (i : Int)) rfl (by omega)
    exact W.iald (v := cv (vI (f (i : Int)))) hx hb q1 (gs_isA hF h0 q2 q3) q4 (by rw [g2]; rintro (h | h); exact g1 h; exact absurd (Nat.lt_of_lt_of_le hi q5) (by omega)) (by rw [g2]; exact q7 i hi) rfl rfl hd (kk ls hl)) kk
theorem gs_bald {a lb n : Nat} {f : Int → Int} {j : Int} (hd : decode fi.2.1 pc = .ok (.baload, 1)) (hc : gl X hp a = some (lb, .inl (2, n, .inl f))) (hj : 0 ≤ j ∧ j < n) (hn : n ≤ 2147483648) (kk : G X fi d (pc + 1) L (vI (f j) :: st) hp Q) : G X fi d pc L (vI j :: vR (some a) :: st) hp Q :=
  G.step (fun p e R s m args below meth c H locs cells slots ls QQ hS hR hl kk => by
    obtain ⟨hx, hb, hml, hr, hlk, hown, hts, hF, -⟩ := hS
    obtain ⟨h0, cell, q1, q2, q3, q4, q5, q6, q7, -⟩ := hR.2.2 a _ hc
    obtain ⟨i, rfl⟩ : ∃ i : Nat, j = (i : Int) := ⟨j.toNat, by omega⟩
    have hi : i < n := by omega
    obtain ⟨g1, g2⟩ := gs_nn (j := (i : Int)) rfl (by omega)
    exact W.bald (v := cv (vI (f (i : Int)))) hx hb q1 (gs_isA hF h0 q2 q3) q4 (by rw [g2]; rintro (h | h); exact g1 h; exact absurd (Nat.lt_of_lt_of_le hi q5) (by omega)) (by rw [g2]; exact q7 i hi) rfl rfl hd (kk ls hl)) kk
theorem gs_zald {a lb n : Nat} {f : Int → Int} {j : Int} (hd : decode fi.2.1 pc = .ok (.baload, 1)) (hc : gl X hp a = some (lb, .inl (1, n, .inl f))) (hj : 0 ≤ j ∧ j < n) (hn : n ≤ 2147483648) (kk : G X fi d (pc + 1) L (vI (f j) :: st) hp Q) : G X fi d pc L (vI j :: vR (some a) :: st) hp Q :=
  G.step (fun p e R s m args below meth c H locs cells slots ls QQ hS hR hl kk => by
    obtain ⟨hx, hb, hml, hr, hlk, hown, hts, hF, -⟩ := hS
    obtain ⟨h0, cell, q1, q2, q3, q4, q5, q6, q7, -⟩ := hR.2.2 a _ hc
    obtain ⟨i, rfl⟩ : ∃ i : Nat, j = (i : Int) := ⟨j.toNat, by omega⟩
    have hi : i < n := by omega
    obtain ⟨g1, g2⟩ := gs_nn (j := (i : Int)) rfl (by omega)
    exact W.zald (v := cv (vI (f (i : Int)))) hx hb q1 (gs_isA hF h0 q2 q3) q4 (by rw [g2]; rintro (h | h); exact g1 h; exact absurd (Nat.lt_of_lt_of_le hi q5) (by omega)) (by rw [g2]; exact q7 i hi) rfl rfl hd (kk ls hl)) kk
theorem gs_aald {a lb n : Nat} {f : Int → Option Nat} {j : Int} (t : Nat) (ht : 3 ≤ t ∧ t ≤ 7) (hd : decode fi.2.1 pc = .ok (.aaload, 1)) (hc : gl X hp a = some (lb, .inl (t, n, .inr f))) (hj : 0 ≤ j ∧ j < n) (hn : n ≤ 2147483648) (kk : G X fi d (pc + 1) L (vR (f j) :: st) hp Q) : G X fi d pc L (vI j :: vR (some a) :: st) hp Q :=
  G.step (fun p e R s m args below meth c H locs cells slots ls QQ hS hR hl kk => by
    obtain ⟨hx, hb, hml, hr, hlk, hown, hts, hF, -⟩ := hS
    obtain ⟨h0, cell, q1, q2, q3, q4, q5, q6, q7, -⟩ := hR.2.2 a _ hc
    obtain ⟨i, rfl⟩ : ∃ i : Nat, j = (i : Int) := ⟨j.toNat, by omega⟩
    have hi : i < n := by omega
    obtain ⟨g1, g2⟩ := gs_nn (j := (i : Int)) rfl (by omega)
    have hty : (arT t).isReference = true := by
      obtain ⟨ht1, ht2⟩ := ht
      match t, ht1, ht2 with
      | 3, _, _ => rfl
      | 4, _, _ => rfl
      | 5, _, _ => rfl
      | 6, _, _ => rfl
      | 7, _, _ => rfl
    exact W.aald (v := cv (vR (f (i : Int)))) hx hb q1 (gs_isA hF h0 q2 q3) hty q4 (by rw [g2]; rintro (h | h); exact g1 h; exact absurd (Nat.lt_of_lt_of_le hi q5) (by omega)) (by rw [g2]; exact q7 i hi) rfl rfl hd (kk ls hl)) kk
/-- an array's cell after a store -/
theorem gs_arr1 {a lb t n : Nat} {q q' : (Int → Int) ⊕ (Int → Option Nat)} {H H' : Heap} {cell : Cell} {i : Nat} (hR : Rp X hp H) (hc : gl X hp a = some (lb, .inl (t, n, q))) (hlb : lb ≠ 0) (h0 : t < 9) (q2 : cell = arrV (cxA X t) n (arE q)) (hq' : ∀ j, j < n → j ≠ i → arE q' j = arE q j) (e1 : H'[a]? = some (cell.setSlot i (arE q' i))) (e2 : H'.size = H.size) (e3 : ∀ q, q ≠ a → H'[q]? = H[q]?) : Rp X (hset hp a (lb, .inl (t, n, q'))) H' := by
  refine hR.set hc hlb e2 e3 (celAt.arr h0 ?_)
  rw [e1, q2, arrV_store]
  refine congrArg some (arrV_congr fun j hj => ?_)
  unfold updV
  by_cases h : j = i
  · rw [if_pos h, h]
  · rw [if_neg h, hq' j hj h]
theorem gs_iast {a lb n : Nat} {f : Int → Int} {j z : Int} (hd : decode fi.2.1 pc = .ok (.iastore, 1)) (hc : gl X hp a = some (lb, .inl (0, n, .inl f))) (hlb : lb ≠ 0) (hj : 0 ≤ j ∧ j < n) (hn : n ≤ 2147483648) (kk : G X fi d (pc + 1) L st (hset hp a (lb, .inl (0, n, .inl (fup f j z)))) Q) : G X fi d pc L (vI z :: vI j :: vR (some a) :: st) hp Q := by
  refine G.stepH (hp1 := hset hp a (lb, Sum.inl (0, n, Sum.inl (fup f j z)))) (kc := 0) (ks := 0) rfl rfl (fun p e R s m args below meth c H locs cells slots ls QQ hS hR hlo hcc hss hlk kk => ?_) kk
  obtain ⟨hx, hb, hml, hr, hlks, hown, hts, hF, -⟩ := hS
  have ha := gl_lo hc hlb
  obtain ⟨h0, cell, q1, q2, q3, q4, q5, q6, q7, q8⟩ := hR.2.2 a _ hc
  obtain ⟨i, rfl⟩ : ∃ i : Nat, j = (i : Int) := ⟨j.toNat, by omega⟩
  have hi : i < n := by omega
  obtain ⟨g1, g2⟩ := gs_nn (j := (i : Int)) rfl (by omega)
  have q8 := q8 ha
  refine W.iast hx hb q1 (gs_isA hF h0 q2 q3) q4 (by rw [g2]; rintro (h | h); exact g1 h; exact absurd (Nat.lt_of_lt_of_le hi q5) (by omega)) rfl rfl hd fun H' e1 e2 e3 => ?_
  rw [g2] at e1 ⊢
  refine kk H' _ ls (gs_arr1 (i := i) (q' := .inl (fup f (i : Int) z)) hR hc hlb h0 q8 (fun j _ hne => by simp only [arE]; rw [fup_ne (by omega)]) (by rw [e1]; simp only [arE]; rw [fup_eq]) e2 e3) (fun q h => ?_) hlk
  rcases List.mem_append.mp h with h | h
  · exact hlo q h
  · rw [List.mem_singleton.mp h]; exact ha
theorem gs_bast {a lb n : Nat} {f : Int → Int} {j z : Int} (hd : decode fi.2.1 pc = .ok (.bastore, 1)) (hc : gl X hp a = some (lb, .inl (2, n, .inl f))) (hlb : lb ≠ 0) (hj : 0 ≤ j ∧ j < n) (hn : n ≤ 2147483648) (hz : narrow .byte (.int (Int32.ofInt z)) = .int (Int32.ofInt z)) (kk : G X fi d (pc + 1) L st (hset hp a (lb, .inl (2, n, .inl (fup f j z)))) Q) : G X fi d pc L (vI z :: vI j :: vR (some a) :: st) hp Q := by
  refine G.stepH (hp1 := hset hp a (lb, Sum.inl (2, n, Sum.inl (fup f j z)))) (kc := 0) (ks := 0) rfl rfl (fun p e R s m args below meth c H locs cells slots ls QQ hS hR hlo hcc hss hlk kk => ?_) kk
  obtain ⟨hx, hb, hml, hr, hlks, hown, hts, hF, -⟩ := hS
  have ha := gl_lo hc hlb
  obtain ⟨h0, cell, q1, q2, q3, q4, q5, q6, q7, q8⟩ := hR.2.2 a _ hc
  obtain ⟨i, rfl⟩ : ∃ i : Nat, j = (i : Int) := ⟨j.toNat, by omega⟩
  have hi : i < n := by omega
  obtain ⟨g1, g2⟩ := gs_nn (j := (i : Int)) rfl (by omega)
  have q8 := q8 ha
  refine W.bast hx hb q1 (gs_isA hF h0 q2 q3) q4 (by rw [g2]; rintro (h | h); exact g1 h; exact absurd (Nat.lt_of_lt_of_le hi q5) (by omega)) rfl rfl hd fun H' e1 e2 e3 => ?_
  rw [g2, hz] at e1
  rw [g2]
  refine kk H' _ ls (gs_arr1 (i := i) (q' := .inl (fup f (i : Int) z)) hR hc hlb h0 q8 (fun j _ hne => by simp only [arE]; rw [fup_ne (by omega)]) (by rw [e1]; simp only [arE]; rw [fup_eq]) e2 e3) (fun q h => ?_) hlk
  rcases List.mem_append.mp h with h | h
  · exact hlo q h
  · rw [List.mem_singleton.mp h]; exact ha
theorem gs_zast {a lb n : Nat} {f : Int → Int} {j z : Int} (hd : decode fi.2.1 pc = .ok (.bastore, 1)) (hc : gl X hp a = some (lb, .inl (1, n, .inl f))) (hlb : lb ≠ 0) (hj : 0 ≤ j ∧ j < n) (hn : n ≤ 2147483648) (hz : z = 0 ∨ z = 1) (kk : G X fi d (pc + 1) L st (hset hp a (lb, .inl (1, n, .inl (fup f j z)))) Q) : G X fi d pc L (vI z :: vI j :: vR (some a) :: st) hp Q := by
  refine G.stepH (hp1 := hset hp a (lb, Sum.inl (1, n, Sum.inl (fup f j z)))) (kc := 0) (ks := 0) rfl rfl (fun p e R s m args below meth c H locs cells slots ls QQ hS hR hlo hcc hss hlk kk => ?_) kk
  obtain ⟨hx, hb, hml, hr, hlks, hown, hts, hF, -⟩ := hS
  have ha := gl_lo hc hlb
  obtain ⟨h0, cell, q1, q2, q3, q4, q5, q6, q7, q8⟩ := hR.2.2 a _ hc
  obtain ⟨i, rfl⟩ : ∃ i : Nat, j = (i : Int) := ⟨j.toNat, by omega⟩
  have hi : i < n := by omega
  obtain ⟨g1, g2⟩ := gs_nn (j := (i : Int)) rfl (by omega)
  have q8 := q8 ha
  have hz' : narrow .boolean (.int (Int32.ofInt z)) = .int (Int32.ofInt z) := (fok_bool hz).1
  refine W.zast hx hb q1 (gs_isA hF h0 q2 q3) q4 (by rw [g2]; rintro (h | h); exact g1 h; exact absurd (Nat.lt_of_lt_of_le hi q5) (by omega)) rfl rfl hd fun H' e1 e2 e3 => ?_
  rw [g2, hz'] at e1
  rw [g2]
  refine kk H' _ ls (gs_arr1 (i := i) (q' := .inl (fup f (i : Int) z)) hR hc hlb h0 q8 (fun j _ hne => by simp only [arE]; rw [fup_ne (by omega)]) (by rw [e1]; simp only [arE]; rw [fup_eq]) e2 e3) (fun q h => ?_) hlk
  rcases List.mem_append.mp h with h | h
  · exact hlo q h
  · rw [List.mem_singleton.mp h]; exact ha
end GD
