/-! THE G LAYER, part 2: the standing facts Fx, the judgement G, contracts MC. -/
def stT (k : Nat) : String × String × String := match k with
  | 0 => ("java/lang/String", "COMPACT_STRINGS", "Z")
  | 1 => ("java/util/ArrayList", "DEFAULTCAPACITY_EMPTY_ELEMENTDATA", "[Ljava/lang/Object;")
  | 2 => ("java/lang/Integer$IntegerCache", "high", "I")
  | 3 => ("java/lang/Integer$IntegerCache", "cache", "[Ljava/lang/Integer;")
  | 4 => ("java/util/HashSet", "PRESENT", "Ljava/lang/Object;")
  | _ => ("jdk/internal/util/Preconditions", "SIOOBE_FORMATTER", "Ljava/util/function/BiFunction;")
def stV (X : gCx) (k : Nat) : AV := match k with
  | 0 => vI 1
  | 1 => vR (some (cxK X 0))
  | 2 => vI 127
  | 3 => vR (some (cxK X 2))
  | 4 => vR (some (cxK X 1))
  | _ => vR (cxV X)
/-- the String constants: class, entry, text; its address is cxK X (10 + place) -/
def skT : List (String × Nat × String) := [("AutoIndenter", 126, ""), ("java/lang/StringLatin1", 151, ""), ("AutoIndenter", 191, " "), ("AutoIndenter", 409, "a("), ("AutoIndenter", 411, ")"), ("AutoIndenter", 413, "{"), ("AutoIndenter", 415, "}"), ("AutoIndenter", 417, "[x,"), ("AutoIndenter", 419, "]"), ("AutoIndenter", 421, "begin"), ("AutoIndenter", 422, "end"), ("AutoIndenter", 424, "case"), ("AutoIndenter", 426, "\"s\""), ("AutoIndenter", 428, "#c"), ("AutoIndenter", 430, "y+"), ("AutoIndenter", 432, "\"\"\""), ("AutoIndenter", 434, "z"), ("AutoIndenter", 436, "f(b,"), ("AutoIndenter", 438, ";")]
/-- calls through interfaces: the object's class, the interface's method, the method that runs -/
def ifT : List (String × MethodName × MethodName) := [("java/util/LinkedHashMap$LinkedKeySet", ⟨"java/util/Set", "iterator", "()Ljava/util/Iterator;"⟩, ⟨"java/util/LinkedHashMap$LinkedKeySet", "iterator", "()Ljava/util/Iterator;"⟩), ("java/util/LinkedHashMap$LinkedKeyIterator", ⟨"java/util/Iterator", "hasNext", "()Z"⟩, ⟨"java/util/LinkedHashMap$LinkedHashIterator", "hasNext", "()Z"⟩), ("java/util/LinkedHashMap$LinkedKeyIterator", ⟨"java/util/Iterator", "next", "()Ljava/lang/Object;"⟩, ⟨"java/util/LinkedHashMap$LinkedKeyIterator", "next", "()Ljava/lang/Object;"⟩)]
theorem ifT_ok : ∀ q ∈ ifT, q.2.1.cls ≠ "java/lang/invoke/MethodHandle" ∧ q.2.1.cls ≠ "java/lang/invoke/VarHandle" := by decide +kernel
/-- the standing facts of the tables and of the start's heap -/
def Fx (X : gCx) (U : State) : Prop :=
  (∀ (c : Nat) (q : vw_C), gCl[c]? = some q → u_Kn U q.1 q.2.1 q.2.2 ((cxD X).1 c) ((cxD X).2 c)) ∧
  ((∀ t, t < 9 → ArrOfT U (cxA X t) (arT t)) ∧ ∀ t, t < 7 → va_RA U (cxA X t) (arT t)) ∧
  ((∀ a i b n d h, Cond.fieldLinkNest a i b n d h ∈ lw_tbl → va_Nw (.fieldLinkNest a i b n d h) U) ∧ (∀ a i y h, Cond.methodLinkNest a i y h ∈ lw_tbl → va_Nw (.methodLinkNest a i y h) U) ∧ (∀ C T, Cond.castable C T ∈ lw_tbl → va_Nw (.castable C T) U) ∧ (∀ x, Cond.declares x ∈ lw_tbl → va_Nw (.declares x) U) ∧ (∀ C, Cond.arrayOver (.object C) ∈ lw_tbl → va_AO C U) ∧ ∀ y, Cond.privateMethod y ∈ lw_tbl → va_Nw (.privateMethod y) U) ∧
  (∀ q ∈ ifT, va_Fw q.1 q.2.1 q.2.2 U) ∧
  (va_Nc "java/util/HashMap$Node" "java/util/HashMap$TreeNode" U ∧ va_Nc "java/util/LinkedHashMap$Entry" "java/util/HashMap$TreeNode" U) ∧
  (∀ k, k < 6 → va_Z (stT k).1 (stT k).2.1 (stT k).2.2 (cv (stV X k)) (fun q => cxz X ≤ q) U (cxH X)) ∧
  (∀ k q, skT[k]? = some q → vk_R q.1 q.2.1 q.2.2 (cxK X (10 + k)) U) ∧
  va_Mi "[Ljava/lang/Object;" (cxK X 3) U
theorem Fx.warm {X : gCx} {s U : State} (hW : s.WarmedH U.vm) (h : Fx X s) : Fx X U := by
  obtain ⟨h1, ⟨h2, h3⟩, ⟨h4, h5, h6, h7, h8, h8b⟩, h9, ⟨h10, h11⟩, h12, h13, h14⟩ := h
  have hA := hW.alike
  refine ⟨fun c q hq => u_Kn_moved hA (h1 c q hq), ⟨fun t ht => arrOfT_moved hA (h2 t ht), fun t ht => (h3 t ht).moved hA⟩, ⟨fun a i b n d h hm => (h4 a i b n d h hm).warmF hW, fun a i y h hm => (h5 a i y h hm).warmM hW, fun C T hm => (h6 C T hm).warmC hW, fun x hm => (h7 x hm).warmD hW, fun C hm => (h8 C hm).moved hA, fun y hm => Cond.privateMethod_warm hW (h8b y hm)⟩, fun q hq => (h9 q hq).moved (ifT_ok q hq) hA, ⟨h10.moved hA, h11.moved hA⟩, fun k hk => (h12 k hk).moved hA, fun k q hq => (h13 k q hq).warm hW, h14.moved hA⟩
/-- a frame: class, code, locals, answer, whether it is a constructor's -/
abbrev gFi : Type := String × ByteArray × Nat × Option FieldType × Bool
def St (X : gCx) (fi : gFi) (d : Nat) (p : Program) (R : Room) (s : State) (m : MethodId) (args : Array Value) (meth : Method) (c : Code) : Prop :=
  p.tables.exec = Jvm.exec ∧ c.code = fi.2.1 ∧ c.maxLocals = fi.2.2.1 ∧ meth.sig.returnType = fi.2.2.2.1 ∧ meth.locks = false ∧ s.vm.findClass fi.1 = some m.cls ∧ (∀ w ∈ lw_all, w.before args s = true) ∧ Fx X s ∧ d ≤ R.frames ∧ 64 * d ≤ R.locals ∧ (fi.2.2.2.2 = true → meth.name = "<init>")
/-- from here the frame ends with answer r and heap hp' -/
def Gr (X : gCx) (fi : gFi) (d pc : Nat) (L : List (Option AV)) (st : List AV) (hp : gHp) (r : Option AV) (hp' : gHp) : Prop :=
  hp.1 ≤ hp'.1 ∧ hp.2.1 ≤ hp'.2.1 ∧
  ∀ (p : Program) (e : Env) (R : Room) (s : State) (m : MethodId) (args : Array Value) (below : List Frame) (meth : Method) (c : Code) (H : Heap) (locs : List Loc) (cells slots : Nat) (ls : Array Slot),
    St X fi d p R s m args meth c → Rp X hp H → (∀ q ∈ locs, cxz X ≤ q.base) → cells + (hp'.1 - hp.1) ≤ R.cells → slots + (hp'.2.1 - hp.2.1) ≤ R.slots → lok ls fi.2.2.1 L →
    W p (cxL X) e R s m args below meth c H locs cells slots (MQ below (fun _ _ o t => o = .returned (r.map cv) ∧ Rp X hp' t.heap ∧ Fx X t) args s (cells + (hp'.1 - hp.1)) (slots + (hp'.2.1 - hp.2.1)) (fun q => cxz X ≤ q)) (F0 m pc ls (st.map cv))
def G (X : gCx) (fi : gFi) (d pc : Nat) (L : List (Option AV)) (st : List AV) (hp : gHp) (Q : Option AV → gHp → Prop) : Prop := ∃ r hp', Q r hp' ∧ Gr X fi d pc L st hp r hp'
theorem G.mono {X : gCx} {fi : gFi} {d pc : Nat} {L : List (Option AV)} {st : List AV} {hp : gHp} {Q Q' : Option AV → gHp → Prop} (h : ∀ r hp', Q r hp' → Q' r hp') (k : G X fi d pc L st hp Q) : G X fi d pc L st hp Q' := by
  obtain ⟨r, hp', hq, hg⟩ := k
  exact ⟨r, hp', h r hp' hq, hg⟩
/-- a step that leaves the heap alone -/
theorem G.step {X : gCx} {fi : gFi} {d pc pc' : Nat} {L L' : List (Option AV)} {st st' : List AV} {hp : gHp} {Q : Option AV → gHp → Prop}
    (h : ∀ (p : Program) (e : Env) (R : Room) (s : State) (m : MethodId) (args : Array Value) (below : List Frame) (meth : Method) (c : Code) (H : Heap) (locs : List Loc) (cells slots : Nat) (ls : Array Slot) (QQ : State → Prop),
      St X fi d p R s m args meth c → Rp X hp H → lok ls fi.2.2.1 L → (∀ ls', lok ls' fi.2.2.1 L' → W p (cxL X) e R s m args below meth c H locs cells slots QQ (F0 m pc' ls' (st'.map cv))) → W p (cxL X) e R s m args below meth c H locs cells slots QQ (F0 m pc ls (st.map cv)))
    (k : G X fi d pc' L' st' hp Q) : G X fi d pc L st hp Q := by
  obtain ⟨r, hp', hq, g1, g2, g3⟩ := k
  exact ⟨r, hp', hq, g1, g2, fun p e R s m args below meth c H locs cells slots ls hS hR hl hc hs hk => h p e R s m args below meth c H locs cells slots ls _ hS hR hk fun ls' hk' => g3 p e R s m args below meth c H locs cells slots ls' hS hR hl hc hs hk'⟩
/-- a step that turns the heap hp into hp1, with new cells -/
theorem G.stepH {X : gCx} {fi : gFi} {d pc pc' : Nat} {L L' : List (Option AV)} {st st' : List AV} {hp hp1 : gHp} {Q : Option AV → gHp → Prop} {kc ks : Nat} (e1 : hp1.1 = hp.1 + kc) (e2 : hp1.2.1 = hp.2.1 + ks)
    (h : ∀ (p : Program) (e : Env) (R : Room) (s : State) (m : MethodId) (args : Array Value) (below : List Frame) (meth : Method) (c : Code) (H : Heap) (locs : List Loc) (cells slots : Nat) (ls : Array Slot) (QQ : State → Prop),
      St X fi d p R s m args meth c → Rp X hp H → (∀ q ∈ locs, cxz X ≤ q.base) → cells + kc ≤ R.cells → slots + ks ≤ R.slots → lok ls fi.2.2.1 L →
      (∀ (H1 : Heap) (locs1 : List Loc) (ls' : Array Slot), Rp X hp1 H1 → (∀ q ∈ locs1, cxz X ≤ q.base) → lok ls' fi.2.2.1 L' → W p (cxL X) e R s m args below meth c H1 locs1 (cells + kc) (slots + ks) QQ (F0 m pc' ls' (st'.map cv))) →
      W p (cxL X) e R s m args below meth c H locs cells slots QQ (F0 m pc ls (st.map cv)))
    (k : G X fi d pc' L' st' hp1 Q) : G X fi d pc L st hp Q := by
  obtain ⟨r, hp', hq, g1, g2, g3⟩ := k
  refine ⟨r, hp', hq, by omega, by omega, fun p e R s m args below meth c H locs cells slots ls hS hR hl hc hs hk => ?_⟩
  refine h p e R s m args below meth c H locs cells slots ls _ hS hR hl (by omega) (by omega) hk fun H1 locs1 ls' hR1 hl1 hk1 => ?_
  have a1 : cells + (hp'.1 - hp.1) = cells + kc + (hp'.1 - hp1.1) := by omega
  have a2 : slots + (hp'.2.1 - hp.2.1) = slots + ks + (hp'.2.1 - hp1.2.1) := by omega
  rw [a1, a2]
  exact g3 p e R s m args below meth c H1 locs1 (cells + kc) (slots + ks) ls' hS hR1 hl1 (by omega) (by omega) hk1
/-- two ways on -/
theorem G.fork {X : gCx} {fi : gFi} {d pc : Nat} {L : List (Option AV)} {st : List AV} {hp : gHp} {Q : Option AV → gHp → Prop} {C : Prop} (ht : C → G X fi d pc L st hp Q) (hf : ¬ C → G X fi d pc L st hp Q) : G X fi d pc L st hp Q := by
  by_cases h : C
  · exact ht h
  · exact hf h
theorem G.loc {X : gCx} {fi : gFi} {d pc : Nat} {L L' : List (Option AV)} {st : List AV} {hp : gHp} {Q : Option AV → gHp → Prop} (hl : L'.length ≤ L.length) (hw : ∀ (i : Nat) (v : AV), L'[i]? = some (some v) → L[i]? = some (some v)) (k : G X fi d pc L' st hp Q) : G X fi d pc L st hp Q :=
  G.step (fun p e R s m args below meth c H locs cells slots ls QQ hS hR hk kk => kk ls (hk.weak hl hw)) k
/-! contracts -/
def MC (X : gCx) (y : MethodName) (fi : gFi) (d : Nat) (av : List AV) (hp : gHp) (Q : Option AV → gHp → Prop) : Prop :=
  ∃ r hp', Q r hp' ∧ hp.1 ≤ hp'.1 ∧ hp.2.1 ≤ hp'.2.1 ∧
    Met (cxL X) y (ws_ y fi.2.1 fi.2.2.1 fi.2.2.2.1) ({ frames := d, cells := hp'.1 - hp.1, slots := hp'.2.1 - hp.2.1, locals := 64 * d }) (va_Pc (av.map cv) (fun U => Rp X hp U.heap ∧ Fx X U)) (fun _ _ o t => o = .returned (r.map cv) ∧ Rp X hp' t.heap ∧ Fx X t) (hp'.1 - hp.1) (hp'.2.1 - hp.2.1) (fun q => cxz X ≤ q)
/-- a contract with an answer; without one -/
def MV (X : gCx) (y : MethodName) (fi : gFi) (d : Nat) (av : List AV) (hp : gHp) (Q : AV → gHp → Prop) : Prop := MC X y fi d av hp (fun r hp' => ∃ v, r = some v ∧ Q v hp')
def M0 (X : gCx) (y : MethodName) (fi : gFi) (d : Nat) (av : List AV) (hp : gHp) (Q : gHp → Prop) : Prop := MC X y fi d av hp (fun r hp' => r = none ∧ Q hp')
theorem MC.mono {X : gCx} {y : MethodName} {fi : gFi} {d : Nat} {av : List AV} {hp : gHp} {Q Q' : Option AV → gHp → Prop} (h : ∀ r hp', Q r hp' → Q' r hp') (k : MC X y fi d av hp Q) : MC X y fi d av hp Q' := by
  obtain ⟨r, hp', hq, hg⟩ := k
  exact ⟨r, hp', h r hp' hq, hg⟩
theorem MV.mono {X : gCx} {y : MethodName} {fi : gFi} {d : Nat} {av : List AV} {hp : gHp} {Q Q' : AV → gHp → Prop} (h : ∀ v hp', Q v hp' → Q' v hp') (k : MV X y fi d av hp Q) : MV X y fi d av hp Q' := MC.mono (fun r hp' => fun ⟨v, e, hq⟩ => ⟨v, e, h v hp' hq⟩) k
theorem M0.mono {X : gCx} {y : MethodName} {fi : gFi} {d : Nat} {av : List AV} {hp : gHp} {Q Q' : gHp → Prop} (h : ∀ hp', Q hp' → Q' hp') (k : M0 X y fi d av hp Q) : M0 X y fi d av hp Q' := MC.mono (fun r hp' => fun ⟨e, hq⟩ => ⟨e, h hp' hq⟩) k
/-- the locals at a method's entry: an argument of two words takes two places -/
def gEnt : List AV → List (Option AV)
  | [] => []
  | v :: vs => if ct v = 2 then some v :: none :: gEnt vs else some v :: gEnt vs
theorem gEnt_args : ∀ (vs : List AV) (n i : Nat) (v : AV), (gEnt vs)[i]? = some (some v) → (n + i, cv v) ∈ lv_args n (vs.map cv) := by
  intro vs
  induction vs with
  | nil => intro n i v h; simp [gEnt] at h
  | cons w ws ih =>
    intro n i v h
    show (n + i, cv v) ∈ (n, cv w) :: lv_args (if (cv w).category = 2 then n + 2 else n + 1) (ws.map cv)
    rw [ct_cv]
    unfold gEnt at h
    by_cases hc : ct w = 2
    · rw [if_pos hc] at h ⊢
      match i, h with
      | 0, h => simp at h; subst h; exact List.mem_cons_self
      | 1, h => simp at h
      | i + 2, h =>
        have := ih (n + 2) i v (by simpa using h)
        rw [show n + (i + 2) = n + 2 + i by omega]
        exact List.mem_cons_of_mem _ this
    · rw [if_neg hc] at h ⊢
      match i, h with
      | 0, h => simp at h; subst h; exact List.mem_cons_self
      | i + 1, h =>
        have := ih (n + 1) i v (by simpa using h)
        rw [show n + (i + 1) = n + 1 + i by omega]
        exact List.mem_cons_of_mem _ this
theorem gEnt_sl : ∀ vs : List AV, (lg_sl (vs.map cv)).length = (gEnt vs).length := by
  intro vs
  induction vs with
  | nil => rfl
  | cons w ws ih =>
    rcases w with z | r | x | x
    · simp [lg_sl, gEnt, ct, cv] at ih ⊢; rw [ih]; first | (simp [Value.category]; done) | (simp [Value.category]; omega)
    · cases r <;> (simp [lg_sl, gEnt, ct, cv, va_rf] at ih ⊢; rw [ih]; first | (simp [Value.category]; done) | (simp [Value.category]; omega))
    · simp [lg_sl, gEnt, ct, cv] at ih ⊢; rw [ih]; first | (simp [Value.category]; done) | (simp [Value.category]; omega)
    · simp [lg_sl, gEnt, ct, cv] at ih ⊢; rw [ih]; first | (simp [Value.category]; done) | (simp [Value.category]; omega)
theorem MC.of {X : gCx} {y : MethodName} {fi : gFi} {d : Nat} {av : List AV} {hp : gHp} {Q : Option AV → gHp → Prop} {L : List (Option AV)} (hy : plainFor y = true) (hc : fi.1 = y.cls) (hin : fi.2.2.2.2 = true → y.name = "<init>") (n : Nat) (hL : gEnt av ++ List.replicate n none = L) (hn : L.length = fi.2.2.1)
    (k : G X fi d 0 L [] hp Q) : MC X y fi d av hp Q := by
  obtain ⟨r, hp', hq, g1, g2, g3⟩ := k
  refine ⟨r, hp', hq, g1, g2, ?_⟩
  refine va_MetF (cc := fi.2.1) (maxL := fi.2.2.1) (ret := fi.2.2.2.1) hy rfl ?_
  intro p e s m args below meth c s₁ B hml hv
  obtain ⟨rfl, hR, hF⟩ := hv
  have hts := atoms_spec (ws := ws_ y fi.2.1 fi.2.2.1 fi.2.2.2.1) B.pre
  have hts : ∀ w ∈ lw_all, w.before _ s = true := fun w h => hts w (List.mem_cons_of_mem _ h)
  have hown : s.vm.findClass y.cls = some m.cls := findClass_of_methodNamed B.named
  have hnm : meth.name = y.name := (name_of_methodNamed B.named B.method).1
  have hlen : (lg_sl (av.map cv)).length ≤ fi.2.2.1 := by
    rw [gEnt_sl, ← hn, ← hL]
    simp
  have hl := lv_entry (av.map cv) (n := fi.2.2.1) hlen
  rw [lg_entry_eq]
  generalize (lg_sl (av.map cv) ++ List.replicate (fi.2.2.1 - (lg_sl (av.map cv)).length) Slot.unset).toArray = ls at hl ⊢
  have hlk : lok ls fi.2.2.1 L := by
    refine ⟨hl.1, hl.2.1, Nat.le_of_eq hn, fun i v hi => ?_⟩
    rw [← hL] at hi
    by_cases hlt : i < (gEnt av).length
    · rw [List.getElem?_append_left hlt] at hi
      have := gEnt_args av 0 i v hi
      rw [Nat.zero_add] at this
      exact hl.2.2 _ this
    · rw [List.getElem?_append_right (Nat.not_lt.mp hlt)] at hi
      have := List.eq_of_mem_replicate (List.mem_of_getElem? hi)
      cases this
  have hg := g3 p e ({ frames := d, cells := hp'.1 - hp.1, slots := hp'.2.1 - hp.2.1, locals := 64 * d }) s m (av.map cv).toArray below meth c s.heap [] 0 0 ls ⟨B.exec, B.bytes, hml, B.returns, B.notSynchronized, by rw [hc]; exact hown, hts, hF, Nat.le_refl _, Nat.le_refl _, fun h => by rw [hnm]; exact hin h⟩ hR (fun q h => by cases h) (by simp) (by simp) hlk
  rw [Nat.zero_add, Nat.zero_add] at hg
  exact hg
