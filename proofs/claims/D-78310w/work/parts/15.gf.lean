/-! THE G LAYER, part 6: calls. -/
section GF
variable {X : gCx} {fi : gFi} {d pc : Nat} {L : List (Option AV)} {st : List AV} {hp : gHp} {Q : Option AV → gHp → Prop}
theorem gs_blind {av : List AV} : FrameBlind (va_Pc (av.map cv) (fun U => Rp X hp U.heap ∧ Fx X U)) := by
  intro a U g mk ⟨h1, h2, h3⟩
  exact ⟨h1, h2, Fx.warm (s := U) (U := U.calling g mk a) (State.WarmedH.refl U) h3⟩
theorem gs_toL (r : Option AV) (rest : List AV) : (r.map cv).toList ++ rest.map cv = (r.toList ++ rest).map cv := by
  cases r <;> rfl
theorem gs_call {hp1 : gHp} {r : Option AV} {rest : List AV} (m1 : hp.1 ≤ hp1.1) (m2 : hp.2.1 ≤ hp1.2.1)
    (hrun : ∀ (p : Program) (e : Env) (R : Room) (s : State) (m : MethodId) (args : Array Value) (below : List Frame) (meth : Method) (c : Code) (H : Heap) (locs : List Loc) (cells slots : Nat) (ls : Array Slot), St X fi d p R s m args meth c → Rp X hp H → lok ls fi.2.2.1 L → cells + (hp1.1 - hp.1) ≤ R.cells → slots + (hp1.2.1 - hp.2.1) ≤ R.slots →
      va_Run p (cxL X) e R s m args below meth c H locs cells slots (hp1.1 - hp.1) (hp1.2.1 - hp.2.1) (F0 m pc ls (st.map cv)) (rest.map cv) (fun _ o t => o = .returned (r.map cv) ∧ Rp X hp1 t.heap ∧ Fx X t) (fun q => cxz X ≤ q))
    (k : G X fi d (pc + 3) L (r.toList ++ rest) hp1 Q) : G X fi d pc L st hp Q := by
  obtain ⟨r2, hp', hq, g1, g2, g3⟩ := k
  refine ⟨r2, hp', hq, Nat.le_trans m1 g1, Nat.le_trans m2 g2, fun p e R s m args below meth c H locs cells slots ls hS hR hl hc hs hk => ?_⟩
  intro T hT XS
  obtain ⟨v, st₀, t, T', L', h0, XS', hL, e1, e2, ⟨hv, hR1, hF1⟩, stp⟩ := hrun p e R s m args below meth c H locs cells slots ls hS hR hk (by omega) (by omega) T hT XS
  have hv : v = r.map cv := Outcome.returned.inj hv
  subst hv
  have hg := g3 p e R s m args below meth c t.heap (locs ++ L') (cells + (hp1.1 - hp.1)) (slots + (hp1.2.1 - hp.2.1)) ls hS hR1 (fun q h => by
    rcases List.mem_append.mp h with h | h
    · exact hl q h
    · exact hL q h) (by omega) (by omega) hk
  obtain ⟨t2, a1, b1⟩ := hg T' e1 XS'
  refine ⟨t2, stp t2 ?_, ?_⟩
  · have h5 := gs_toL r rest
    show Steps p.tables e below (T'.setTop (F0 m (pc + 3) ls ((r.map cv).toList ++ rest.map cv))) t2
    rw [h5]
    exact a1
  · have b2 : cells + (hp1.1 - hp.1) + (hp'.1 - hp1.1) = cells + (hp'.1 - hp.1) := by omega
    have b3 : slots + (hp1.2.1 - hp.2.1) + (hp'.2.1 - hp1.2.1) = slots + (hp'.2.1 - hp.2.1) := by omega
    rw [b2, b3] at b1
    exact b1
theorem gs_sum {rest : List AV} (h : (rest.map ct).sum ≤ 8) : ((rest.map cv).map fun v => v.category).sum ≤ 8 := by
  rw [List.map_map, show (fun v : Value => v.category) ∘ cv = ct from funext ct_cv]
  exact h
/-! what a call asks of the tables: printed once a call's place -/
def nMH (y : MethodName) (n : Nat) : Prop := y.cls ≠ "java/lang/invoke/MethodHandle" ∧ y.cls ≠ "java/lang/invoke/VarHandle" ∧ (parseMethodDescriptor y.desc).map (fun d => d.parameters.length) = some n
/-- through an object of the method's own class -/
def CkV (own : String) (idx : Nat) (y : MethodName) (cf : gFi) (n : Nat) : Prop := Cond.methodLink own idx y ∈ lw_all ∧ Cond.instanceMethod y ∈ lw_all ∧ Cond.selects y.cls y y ∈ lw_all ∧ Cond.initialized y.cls ∈ lw_all ∧ Cond.code y cf.2.1 cf.2.2.1 cf.2.2.2.1 ∈ lw_all ∧ nMH y n ∧ cf.2.2.1 ≤ 45
def CkS (own : String) (idx : Nat) (y : MethodName) (cf : gFi) (n : Nat) : Prop := Cond.methodLink own idx y ∈ lw_all ∧ Cond.static y ∈ lw_all ∧ Cond.initialized y.cls ∈ lw_all ∧ Cond.code y cf.2.1 cf.2.2.1 cf.2.2.2.1 ∈ lw_all ∧ nMH y n ∧ cf.2.2.1 ≤ 45
def CkI (own : String) (idx : Nat) (y : MethodName) (cf : gFi) (n : Nat) : Prop := Cond.methodLink own idx y ∈ lw_all ∧ Cond.instanceMethod y ∈ lw_all ∧ Cond.initialized y.cls ∈ lw_all ∧ Cond.code y cf.2.1 cf.2.2.1 none ∈ lw_all ∧ cf.2.2.2.1 = none ∧ y.name = "<init>" ∧ nMH y n ∧ cf.2.2.1 ≤ 45
/-- static or constructor, private in a nest mate -/
def CkSN (own : String) (idx : Nat) (y : MethodName) (cf : gFi) (n : Nat) : Prop := (∃ host, Cond.methodLinkNest own idx y host ∈ lw_tbl) ∧ Cond.static y ∈ lw_all ∧ Cond.initialized y.cls ∈ lw_all ∧ Cond.code y cf.2.1 cf.2.2.1 cf.2.2.2.1 ∈ lw_all ∧ nMH y n ∧ cf.2.2.1 ≤ 45
def CkIN (own : String) (idx : Nat) (y : MethodName) (cf : gFi) (n : Nat) : Prop := (∃ host, Cond.methodLinkNest own idx y host ∈ lw_tbl) ∧ Cond.instanceMethod y ∈ lw_all ∧ Cond.initialized y.cls ∈ lw_all ∧ Cond.code y cf.2.1 cf.2.2.1 none ∈ lw_all ∧ cf.2.2.2.1 = none ∧ y.name = "<init>" ∧ nMH y n ∧ cf.2.2.1 ≤ 45
/-- named x, found in owner, selected y for an object of class C -/
def CkU (own : String) (idx : Nat) (C owner : String) (x y : MethodName) (cf : gFi) (n : Nat) : Prop := (Cond.methodLink own idx x ∈ lw_all ∧ Cond.sameMethod x.cls owner x.name x.desc ∈ lw_all ∧ Cond.selects C x y ∈ lw_all ∧ Cond.instanceMethod y ∈ lw_all ∧ Cond.initialized y.cls ∈ lw_all ∧ Cond.code y cf.2.1 cf.2.2.1 cf.2.2.2.1 ∈ lw_all) ∧ (y = ⟨owner, x.name, x.desc⟩ ∨ (Cond.instanceMethod ⟨owner, x.name, x.desc⟩ ∈ lw_all ∧ ∃ b0 m0 r0, Cond.code ⟨owner, x.name, x.desc⟩ b0 m0 r0 ∈ lw_all) ∨ Cond.declares ⟨owner, x.name, x.desc⟩ ∈ lw_tbl) ∧ (owner ≠ "java/lang/invoke/MethodHandle" ∧ owner ≠ "java/lang/invoke/VarHandle" ∧ (parseMethodDescriptor x.desc).map (fun d => d.parameters.length) = some n) ∧ cf.2.2.1 ≤ 45
/-- super.y -/
def CkSU (own : String) (idx : Nat) (y : MethodName) (cf : gFi) (n : Nat) : Prop := Cond.methodLink own idx y ∈ lw_all ∧ Cond.sameMethod y.cls y.cls y.name y.desc ∈ lw_all ∧ Cond.superclass own y.cls ∈ lw_all ∧ Cond.instanceMethod y ∈ lw_all ∧ Cond.initialized y.cls ∈ lw_all ∧ Cond.code y cf.2.1 cf.2.2.1 cf.2.2.2.1 ∈ lw_all ∧ y.name ≠ "<init>" ∧ (parseMethodDescriptor y.desc).map (fun d => d.parameters.length) = some n ∧ cf.2.2.1 ≤ 45
/-- through an interface -/
def CkF (own : String) (idx : Nat) (C : String) (x y : MethodName) (cf : gFi) (n : Nat) : Prop := Cond.methodLink own idx x ∈ lw_all ∧ Cond.selects C x y ∈ lw_all ∧ Cond.instanceMethod y ∈ lw_all ∧ Cond.initialized y.cls ∈ lw_all ∧ Cond.code y cf.2.1 cf.2.2.1 cf.2.2.2.1 ∈ lw_all ∧ (C, x, y) ∈ ifT ∧ nMH x n ∧ cf.2.2.1 ≤ 45
theorem gs_good {a c : List Cond} (ha : ∀ w ∈ a, w ∈ lw_all) (hc : GoodIn lw_all c) : GoodIn lw_all (a ++ c) := lw_app ha hc
theorem gs_callV {y : MethodName} {cf : gFi} {d' idx b lb ci N n : Nat} {fs As rest : List AV} {T : u_T} {Q1 : Option AV → gHp → Prop} (hd : decode fi.2.1 pc = .ok (.invokevirtual idx, 3)) (ck : CkV fi.1 idx y cf n) (hb : gl X hp b = some (lb, .inr (ci, fs))) (hcl : gCl[ci]? = some (y.cls, T, N)) (hn : As.length = n) (hdd : d' + 1 ≤ d) (hrest : (rest.map ct).sum ≤ 8) (hM : MC X y cf d' (vR (some b) :: As) hp Q1)
    (k : ∀ r hp1, Q1 r hp1 → G X fi d (pc + 3) L (r.toList ++ rest) hp1 Q) : G X fi d pc L (As.reverse ++ vR (some b) :: rest) hp Q := by
  obtain ⟨r, hp1, hq1, m1, m2, hM⟩ := hM
  obtain ⟨k1, k2, k3, k4, k5, k6, k7⟩ := ck
  refine gs_call m1 m2 (fun p e R s m args below meth c H locs cells slots ls hS hR hl hcc hss => ?_) (k r hp1 hq1)
  obtain ⟨hx, hbb, hml, hr, hlks, hown, hts, hF, hfr, hlo, -⟩ := hS
  have hst : ((As.reverse ++ vR (some b) :: rest).map cv) = (As.map cv).reverse ++ .ref b :: rest.map cv := by simp [cv, va_rf]
  exact va_runV (As := As.map cv) (b := b) ⟨hx, hbb, hml, hown, hts⟩ hM (cwV n hts (lw_V k1 k2 k3 k4 k5) rfl rfl rfl ⟨rfl, k6⟩ ⟨by show d' + 1 ≤ _; omega, by show 8 + (_ + 11) + 64 * d' ≤ _; omega⟩) ⟨gs_blind, gs_recv hF hR hb hcl, fun U hU hW => ⟨rfl, by rw [hU]; exact hR, hF.warm hW⟩⟩ rfl (by rw [List.length_map]; exact hn) hl.1 hst (lv_room (gs_sum hrest)) hd ⟨hcc, hss⟩
/-- a private method of a superclass: x0 is another method of that class, selected for objects of class C -/
def CkP (own : String) (idx : Nat) (C : String) (x0 y : MethodName) (cf : gFi) (n : Nat) : Prop := Cond.methodLink own idx y ∈ lw_all ∧ Cond.instanceMethod y ∈ lw_all ∧ Cond.privateMethod y ∈ lw_tbl ∧ (Cond.selects C x0 x0 ∈ lw_all ∧ x0.cls = y.cls ∧ x0.cls ≠ "java/lang/invoke/MethodHandle" ∧ x0.cls ≠ "java/lang/invoke/VarHandle") ∧ Cond.initialized y.cls ∈ lw_all ∧ Cond.code y cf.2.1 cf.2.2.1 cf.2.2.2.1 ∈ lw_all ∧ nMH y n ∧ cf.2.2.1 ≤ 45
theorem gs_selP {C : String} {x0 y : MethodName} {s : State} {args : Array Value} (hy : y.cls ≠ "java/lang/invoke/MethodHandle" ∧ y.cls ≠ "java/lang/invoke/VarHandle") (hx0 : x0.cls ≠ "java/lang/invoke/MethodHandle" ∧ x0.cls ≠ "java/lang/invoke/VarHandle") (hpriv : (Cond.privateMethod y).before args s = true) (hinst : (Cond.instanceMethod y).before args s = true) (hsel0 : (Cond.selects C x0 x0).before args s = true) (hc0 : x0.cls = y.cls) : (Cond.selects C y y).before args s = true := by
  obtain ⟨c2, r2, m2, q1, q2, q3, q4, kP, hkP, hkPi⟩ := Cond.selects_spec hsel0
  obtain ⟨mk, methM, hnamed, hmethM, -, -⟩ := Cond.instanceMethod_spec hinst
  have hfound : s.methodFound? y.cls y.name y.desc = some mk := State.methodFound?_of_named hnamed hy
  have hcls : m2.cls = mk.cls := by
    have h1 := findClass_of_methodNamed q3
    have h2 := findClass_of_methodNamed hnamed
    rw [hc0] at h1
    exact Option.some.inj (h1.symm.trans h2)
  have hsel : selectMethod {} s.vm c2 mk = .method mk := selectMethod_private hmethM (Cond.privateMethod_at hpriv mk methM hnamed hmethM)
  rw [hcls] at hkP
  simp only [Cond.before, Cond.holds, Cond.value, q1, hfound, hnamed, hsel, hkP]
  simp; exact hkPi
theorem gs_callP {C : String} {x0 y : MethodName} {cf : gFi} {d' idx b lb ci N n : Nat} {fs As rest : List AV} {T : u_T} {Q1 : Option AV → gHp → Prop} (hd : decode fi.2.1 pc = .ok (.invokevirtual idx, 3)) (ck : CkP fi.1 idx C x0 y cf n) (hb : gl X hp b = some (lb, .inr (ci, fs))) (hcl : gCl[ci]? = some (C, T, N)) (hn : As.length = n) (hdd : d' + 1 ≤ d) (hrest : (rest.map ct).sum ≤ 8) (hM : MC X y cf d' (vR (some b) :: As) hp Q1)
    (k : ∀ r hp1, Q1 r hp1 → G X fi d (pc + 3) L (r.toList ++ rest) hp1 Q) : G X fi d pc L (As.reverse ++ vR (some b) :: rest) hp Q := by
  obtain ⟨r, hp1, hq1, m1, m2, hM⟩ := hM
  obtain ⟨k1, k2, k3, ⟨k4, k4b, k4c, k4d⟩, k5, k5b, k6, k7⟩ := ck
  refine gs_call m1 m2 (fun p e R s m args below meth c H locs cells slots ls hS hR hl hcc hss => ?_) (k r hp1 hq1)
  obtain ⟨hx, hbb, hml, hr, hlks, hown, hts, hF, hfr, hlo, -⟩ := hS
  have hst : ((As.reverse ++ vR (some b) :: rest).map cv) = (As.map cv).reverse ++ .ref b :: rest.map cv := by simp [cv, va_rf]
  have hsel := gs_selP (args := args) ⟨k6.1, k6.2.1⟩ ⟨k4c, k4d⟩ (va_Nw.use rfl (hF.2.2.1.2.2.2.2.2 _ k3)) (hts _ k2) (hts _ k4) k4b
  exact va_runV (As := As.map cv) (b := b) ⟨hx, hbb, hml, hown, hts⟩ hM ⟨callB_of n hts (lw_meth k5b) rfl rfl rfl (hts _ k5) (hts _ k1) k6 ⟨by show d' + 1 ≤ _; omega, by show 8 + (_ + 11) + 64 * d' ≤ _; omega⟩, hts _ k2, hsel⟩ ⟨gs_blind, gs_recv hF hR hb hcl, fun U hU hW => ⟨rfl, by rw [hU]; exact hR, hF.warm hW⟩⟩ rfl (by rw [List.length_map]; exact hn) hl.1 hst (lv_room (gs_sum hrest)) hd ⟨hcc, hss⟩
theorem gs_callS {y : MethodName} {cf : gFi} {d' idx n : Nat} {As rest : List AV} {Q1 : Option AV → gHp → Prop} (hd : decode fi.2.1 pc = .ok (.invokestatic idx, 3)) (ck : CkS fi.1 idx y cf n) (hn : As.length = n) (hdd : d' + 1 ≤ d) (hrest : (rest.map ct).sum ≤ 8) (hM : MC X y cf d' As hp Q1)
    (k : ∀ r hp1, Q1 r hp1 → G X fi d (pc + 3) L (r.toList ++ rest) hp1 Q) : G X fi d pc L (As.reverse ++ rest) hp Q := by
  obtain ⟨r, hp1, hq1, m1, m2, hM⟩ := hM
  obtain ⟨k1, k2, k3, k4, k6, k7⟩ := ck
  refine gs_call m1 m2 (fun p e R s m args below meth c H locs cells slots ls hS hR hl hcc hss => ?_) (k r hp1 hq1)
  obtain ⟨hx, hbb, hml, hr, hlks, hown, hts, hF, hfr, hlo, -⟩ := hS
  have hst : ((As.reverse ++ rest).map cv) = (As.map cv).reverse ++ rest.map cv := by simp
  exact va_runS (As := As.map cv) ⟨hx, hbb, hml, hown, hts⟩ hM (va_cwS n hts (lw_S k1 k2 k3 k4) rfl rfl rfl k6 ⟨by show d' + 1 ≤ _; omega, by show 8 + (_ + 11) + 64 * d' ≤ _; omega⟩) ⟨gs_blind, fun U hU hW => ⟨rfl, by rw [hU]; exact hR, hF.warm hW⟩⟩ rfl (by rw [List.length_map]; exact hn) hl.1 hst (lv_room (gs_sum hrest)) hd ⟨hcc, hss⟩
theorem gs_callI {y : MethodName} {cf : gFi} {d' idx b n : Nat} {As rest : List AV} {Q1 : Option AV → gHp → Prop} (hd : decode fi.2.1 pc = .ok (.invokespecial idx, 3)) (ck : CkI fi.1 idx y cf n) (hn : As.length = n) (hdd : d' + 1 ≤ d) (hrest : (rest.map ct).sum ≤ 8) (hM : MC X y cf d' (vR (some b) :: As) hp Q1)
    (k : ∀ r hp1, Q1 r hp1 → G X fi d (pc + 3) L (r.toList ++ rest) hp1 Q) : G X fi d pc L (As.reverse ++ vR (some b) :: rest) hp Q := by
  obtain ⟨r, hp1, hq1, m1, m2, hM⟩ := hM
  obtain ⟨k1, k2, k3, k4, k5, k5b, k6, k7⟩ := ck
  rw [k5] at hM
  refine gs_call m1 m2 (fun p e R s m args below meth c H locs cells slots ls hS hR hl hcc hss => ?_) (k r hp1 hq1)
  obtain ⟨hx, hbb, hml, hr, hlks, hown, hts, hF, hfr, hlo, -⟩ := hS
  have hst : ((As.reverse ++ vR (some b) :: rest).map cv) = (As.map cv).reverse ++ .ref b :: rest.map cv := by simp [cv, va_rf]
  exact va_runI (As := As.map cv) (b := b) ⟨hx, hbb, hml, hown, hts⟩ hM (cwI n hts (lw_meth k4) rfl rfl rfl (hts _ k3) (hts _ k1) (hts _ k2) k5b k6 ⟨by show d' + 1 ≤ _; omega, by show 8 + (_ + 11) + 64 * d' ≤ _; omega⟩) ⟨gs_blind, fun U hU hW => ⟨rfl, by rw [hU]; exact hR, hF.warm hW⟩⟩ rfl (by rw [List.length_map]; exact hn) hl.1 hst (lv_room (gs_sum hrest)) hd ⟨hcc, hss⟩
theorem gs_callSN {y : MethodName} {cf : gFi} {d' idx n : Nat} {As rest : List AV} {Q1 : Option AV → gHp → Prop} (hd : decode fi.2.1 pc = .ok (.invokestatic idx, 3)) (ck : CkSN fi.1 idx y cf n) (hn : As.length = n) (hdd : d' + 1 ≤ d) (hrest : (rest.map ct).sum ≤ 8) (hM : MC X y cf d' As hp Q1)
    (k : ∀ r hp1, Q1 r hp1 → G X fi d (pc + 3) L (r.toList ++ rest) hp1 Q) : G X fi d pc L (As.reverse ++ rest) hp Q := by
  obtain ⟨r, hp1, hq1, m1, m2, hM⟩ := hM
  obtain ⟨⟨host, k1⟩, k2, k3, k4, k6, k7⟩ := ck
  refine gs_call m1 m2 (fun p e R s m args below meth c H locs cells slots ls hS hR hl hcc hss => ?_) (k r hp1 hq1)
  obtain ⟨hx, hbb, hml, hr, hlks, hown, hts, hF, hfr, hlo, -⟩ := hS
  have hst : ((As.reverse ++ rest).map cv) = (As.map cv).reverse ++ rest.map cv := by simp
  exact va_runSN (As := As.map cv) ⟨hx, hbb, hml, hown, hts⟩ hM ⟨va_cnB n hts (lw_meth k4) rfl rfl rfl (hF.2.2.1.2.1 _ _ _ _ k1) (hts _ k3) k6 ⟨by show d' + 1 ≤ _; omega, by show 8 + (_ + 11) + 64 * d' ≤ _; omega⟩, hts _ k2, trivial⟩ ⟨gs_blind, fun U hU hW => ⟨rfl, by rw [hU]; exact hR, hF.warm hW⟩⟩ rfl (by rw [List.length_map]; exact hn) hl.1 hst (lv_room (gs_sum hrest)) hd ⟨hcc, hss⟩
theorem gs_callIN {y : MethodName} {cf : gFi} {d' idx b n : Nat} {As rest : List AV} {Q1 : Option AV → gHp → Prop} (hd : decode fi.2.1 pc = .ok (.invokespecial idx, 3)) (ck : CkIN fi.1 idx y cf n) (hn : As.length = n) (hdd : d' + 1 ≤ d) (hrest : (rest.map ct).sum ≤ 8) (hM : MC X y cf d' (vR (some b) :: As) hp Q1)
    (k : ∀ r hp1, Q1 r hp1 → G X fi d (pc + 3) L (r.toList ++ rest) hp1 Q) : G X fi d pc L (As.reverse ++ vR (some b) :: rest) hp Q := by
  obtain ⟨r, hp1, hq1, m1, m2, hM⟩ := hM
  obtain ⟨⟨host, k1⟩, k2, k3, k4, k5, k5b, k6, k7⟩ := ck
  rw [k5] at hM
  refine gs_call m1 m2 (fun p e R s m args below meth c H locs cells slots ls hS hR hl hcc hss => ?_) (k r hp1 hq1)
  obtain ⟨hx, hbb, hml, hr, hlks, hown, hts, hF, hfr, hlo, -⟩ := hS
  have hst : ((As.reverse ++ vR (some b) :: rest).map cv) = (As.map cv).reverse ++ .ref b :: rest.map cv := by simp [cv, va_rf]
  exact va_runIN (As := As.map cv) (b := b) ⟨hx, hbb, hml, hown, hts⟩ hM ⟨va_cnB n hts (lw_meth k4) rfl rfl rfl (hF.2.2.1.2.1 _ _ _ _ k1) (hts _ k3) k6 ⟨by show d' + 1 ≤ _; omega, by show 8 + (_ + 11) + 64 * d' ≤ _; omega⟩, k5b, hts _ k2⟩ ⟨gs_blind, fun U hU hW => ⟨rfl, by rw [hU]; exact hR, hF.warm hW⟩⟩ rfl (by rw [List.length_map]; exact hn) hl.1 hst (lv_room (gs_sum hrest)) hd ⟨hcc, hss⟩
theorem gs_callU {C owner : String} {x y : MethodName} {cf : gFi} {d' idx b lb ci N n : Nat} {fs As rest : List AV} {T : u_T} {Q1 : Option AV → gHp → Prop} (hd : decode fi.2.1 pc = .ok (.invokevirtual idx, 3)) (ck : CkU fi.1 idx C owner x y cf n) (hb : gl X hp b = some (lb, .inr (ci, fs))) (hcl : gCl[ci]? = some (C, T, N)) (hn : As.length = n) (hdd : d' + 1 ≤ d) (hrest : (rest.map ct).sum ≤ 8) (hM : MC X y cf d' (vR (some b) :: As) hp Q1)
    (k : ∀ r hp1, Q1 r hp1 → G X fi d (pc + 3) L (r.toList ++ rest) hp1 Q) : G X fi d pc L (As.reverse ++ vR (some b) :: rest) hp Q := by
  obtain ⟨r, hp1, hq1, m1, m2, hM⟩ := hM
  obtain ⟨⟨k1, k2, k3, k4, k5, k6⟩, k7, k8, k9⟩ := ck
  refine gs_call m1 m2 (fun p e R s m args below meth c H locs cells slots ls hS hR hl hcc hss => ?_) (k r hp1 hq1)
  obtain ⟨hx, hbb, hml, hr, hlks, hown, hts, hF, hfr, hlo, -⟩ := hS
  have hst : ((As.reverse ++ vR (some b) :: rest).map cv) = (As.map cv).reverse ++ .ref b :: rest.map cv := by simp [cv, va_rf]
  have hT : GoodIn lw_all (va_wsU fi.1 idx C owner x y (ws_ y cf.2.1 cf.2.2.1 cf.2.2.2.1)) := by
    refine lw_app ?_ (lw_meth k6)
    intro w hw
    simp only [List.mem_cons, List.not_mem_nil, or_false] at hw
    rcases hw with e | e | e | e | e <;> rw [e] <;> assumption
  have cw : va_CU R s args fi.1 C owner idx x y cf.2.1 cf.2.2.1 cf.2.2.2.1 (ws_ y cf.2.1 cf.2.2.1 cf.2.2.2.1) ({ frames := d', cells := hp1.1 - hp.1, slots := hp1.2.1 - hp.2.1, locals := 64 * d' }) (hp1.1 - hp.1) (hp1.2.1 - hp.2.1) n := by
    have hRm : d' + 1 ≤ R.frames ∧ 8 + (cf.2.2.1 + 11) + 64 * d' ≤ R.locals := ⟨by omega, by omega⟩
    rcases k7 with k7 | ⟨k7, b0, m0, r0, k7b⟩ | k7
    · exact va_cwU n hts hT rfl rfl rfl k7 k8 hRm
    · refine va_cwO n hts ?_ rfl rfl rfl k7b k8 hRm
      refine lw_app ?_ (lw_meth k6)
      intro w hw
      simp only [List.mem_cons, List.not_mem_nil, or_false] at hw
      rcases hw with e | e | e | e | e | e <;> rw [e] <;> assumption
    · exact va_cwA n hts hT rfl rfl rfl (hF.2.2.1.2.2.2.1 _ k7) k8 hRm
  exact va_runU (As := As.map cv) (b := b) ⟨hx, hbb, hml, hown, hts⟩ hM cw ⟨gs_blind, gs_recv hF hR hb hcl, fun U hU hW => ⟨rfl, by rw [hU]; exact hR, hF.warm hW⟩⟩ rfl (by rw [List.length_map]; exact hn) hl.1 hst (lv_room (gs_sum hrest)) hd ⟨hcc, hss⟩
theorem gs_callSU {C : String} {y : MethodName} {cf : gFi} {d' idx b lb ci N n : Nat} {fs As rest : List AV} {T : u_T} {Q1 : Option AV → gHp → Prop} (hd : decode fi.2.1 pc = .ok (.invokespecial idx, 3)) (ck : CkSU fi.1 idx y cf n) (hb : gl X hp b = some (lb, .inr (ci, fs))) (hcl : gCl[ci]? = some (C, T, N)) (hn : As.length = n) (hdd : d' + 1 ≤ d) (hrest : (rest.map ct).sum ≤ 8) (hM : MC X y cf d' (vR (some b) :: As) hp Q1)
    (k : ∀ r hp1, Q1 r hp1 → G X fi d (pc + 3) L (r.toList ++ rest) hp1 Q) : G X fi d pc L (As.reverse ++ vR (some b) :: rest) hp Q := by
  obtain ⟨r, hp1, hq1, m1, m2, hM⟩ := hM
  obtain ⟨k1, k2, k3, k4, k5, k6, k7, k8, k9⟩ := ck
  refine gs_call m1 m2 (fun p e R s m args below meth c H locs cells slots ls hS hR hl hcc hss => ?_) (k r hp1 hq1)
  obtain ⟨hx, hbb, hml, hr, hlks, hown, hts, hF, hfr, hlo, -⟩ := hS
  have hst : ((As.reverse ++ vR (some b) :: rest).map cv) = (As.map cv).reverse ++ .ref b :: rest.map cv := by simp [cv, va_rf]
  have hT : GoodIn lw_all (va_wsSU fi.1 idx y (ws_ y cf.2.1 cf.2.2.1 cf.2.2.2.1)) := by
    refine lw_app ?_ (lw_meth k6)
    intro w hw
    simp only [List.mem_cons, List.not_mem_nil, or_false] at hw
    rcases hw with e | e | e | e | e <;> rw [e] <;> assumption
  exact va_runSU (As := As.map cv) (b := b) (gs_cls hF hcl) ⟨hx, hbb, hml, hown, hts⟩ hM (va_cwSU n hts hT rfl rfl rfl ⟨k7, k8⟩ ⟨by show d' + 1 ≤ _; omega, by show 8 + (_ + 11) + 64 * d' ≤ _; omega⟩) ⟨gs_blind, gs_recv hF hR hb hcl, fun U hU hW => ⟨rfl, by rw [hU]; exact hR, hF.warm hW⟩⟩ rfl (by rw [List.length_map]; exact hn) hl.1 hst (lv_room (gs_sum hrest)) hd ⟨hcc, hss⟩
theorem gs_callF {C : String} {x y : MethodName} {cf : gFi} {d' idx count b lb ci N n : Nat} {fs As rest : List AV} {T : u_T} {Q1 : Option AV → gHp → Prop} (hd : decode fi.2.1 pc = .ok (.invokeinterface idx count, 5)) (ck : CkF fi.1 idx C x y cf n) (hb : gl X hp b = some (lb, .inr (ci, fs))) (hcl : gCl[ci]? = some (C, T, N)) (hn : As.length = n) (hdd : d' + 1 ≤ d) (hrest : (rest.map ct).sum ≤ 8) (hM : MC X y cf d' (vR (some b) :: As) hp Q1)
    (k : ∀ r hp1, Q1 r hp1 → G X fi d (pc + 5) L (r.toList ++ rest) hp1 Q) : G X fi d pc L (As.reverse ++ vR (some b) :: rest) hp Q := by
  obtain ⟨r, hp1, hq1, m1, m2, hM⟩ := hM
  obtain ⟨k1, k2, k3, k4, k5, k6, k7, k8⟩ := ck
  obtain ⟨r2, hp', hq, g1, g2, g3⟩ := k r hp1 hq1
  refine ⟨r2, hp', hq, Nat.le_trans m1 g1, Nat.le_trans m2 g2, fun p e R s m args below meth c H locs cells slots ls hS hR hl hc hs hk => ?_⟩
  have hS' := hS
  obtain ⟨hx, hbb, hml, hr, hlks, hown, hts, hF, hfr, hlo, -⟩ := hS'
  have hst : ((As.reverse ++ vR (some b) :: rest).map cv) = (As.map cv).reverse ++ .ref b :: rest.map cv := by simp [cv, va_rf]
  have hT : GoodIn lw_all (va_wsF fi.1 idx C x y (ws_ y cf.2.1 cf.2.2.1 cf.2.2.2.1)) := by
    refine lw_app ?_ (lw_meth k5)
    intro w hw
    simp only [List.mem_cons, List.not_mem_nil, or_false] at hw
    rcases hw with e | e | e | e <;> rw [e] <;> assumption
  have cw : va_CI R s args fi.1 C idx x y cf.2.1 cf.2.2.1 cf.2.2.2.1 (ws_ y cf.2.1 cf.2.2.1 cf.2.2.2.1) ({ frames := d', cells := hp1.1 - hp.1, slots := hp1.2.1 - hp.2.1, locals := 64 * d' }) (hp1.1 - hp.1) (hp1.2.1 - hp.2.1) n := va_cwF n hts hT rfl rfl rfl (hF.2.2.2.1 _ k6) k7 ⟨by show d' + 1 ≤ _; omega, by show 8 + (_ + 11) + 64 * d' ≤ _; omega⟩
  have hrun := va_runF (e := e) (below := below) (meth := meth) (locs := locs) (cells := cells) (slots := slots) (As := As.map cv) (b := b) (rest := rest.map cv) (g := F0 m pc ls ((As.reverse ++ vR (some b) :: rest).map cv)) (gs_cls hF hcl) ⟨hx, hbb, hml, hown, hts⟩ hM cw ⟨gs_blind, gs_recv hF hR hb hcl, fun U hU hW => ⟨rfl, by rw [hU]; exact hR, hF.warm hW⟩⟩ rfl (by rw [List.length_map]; exact hn) hk.1 hst (lv_room (gs_sum hrest)) hd ⟨by omega, by omega⟩
  intro T hT XS
  obtain ⟨v, st₀, t, T', L', h0, XS', hL, e1, e2, ⟨hv, hR1, hF1⟩, stp⟩ := hrun T hT XS
  have hv : v = r.map cv := Outcome.returned.inj hv
  subst hv
  have hg := g3 p e R s m args below meth c t.heap (locs ++ L') (cells + (hp1.1 - hp.1)) (slots + (hp1.2.1 - hp.2.1)) ls hS hR1 (fun q h => by
    rcases List.mem_append.mp h with h | h
    · exact hl q h
    · exact hL q h) (by omega) (by omega) hk
  obtain ⟨t2, a1, b1⟩ := hg T' e1 XS'
  refine ⟨t2, stp t2 ?_, ?_⟩
  · have h5 := gs_toL r rest
    show Steps p.tables e below (T'.setTop (F0 m (pc + 5) ls ((r.map cv).toList ++ rest.map cv))) t2
    rw [h5]
    exact a1
  · have b2 : cells + (hp1.1 - hp.1) + (hp'.1 - hp1.1) = cells + (hp'.1 - hp.1) := by omega
    have b3 : slots + (hp1.2.1 - hp.2.1) + (hp'.2.1 - hp1.2.1) = slots + (hp'.2.1 - hp.2.1) := by omega
    rw [b2, b3] at b1
    exact b1
end GF
