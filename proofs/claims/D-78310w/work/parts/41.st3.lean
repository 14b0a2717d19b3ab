/-! THE START, part 3: the context of the run. -/
section ST3
variable {s : State}
theorem isSt_of {c : Cell} (h : ∀ k, c.vm ≠ .statics k) : c.vm.isStatics = false := by
  cases hv : c.vm with
  | statics k => exact absurd hv (h k)
  | _ => rfl
theorem arr_ty {c : Cell} {t t' : FieldType} (h : s.isArrayOf c t) (h' : s.isArrayOf c t') : t = t' := by
  obtain ⟨-, k, h1, comp, h2⟩ := h
  obtain ⟨-, k', h1', comp', h2'⟩ := h'
  rw [h1] at h1'
  cases h1'
  rw [h2] at h2'
  cases h2'
  rfl
theorem arr_obj {c : Cell} {t : FieldType} {C : String} {cC : ClassId} (h : s.isArrayOf c t) (hC : ClassAt s C cC) (hf : s.vm.findClass C = some c.cls) : False := by
  obtain ⟨-, k, h1, comp, h2⟩ := h
  obtain ⟨g1, k', g2, g3⟩ := hC
  rw [hf] at g1
  cases g1
  rw [h1] at g2
  cases g2
  rw [h2] at g3
  cases g3
theorem arr_of {c : Cell} {t : FieldType} (h : s.isArrayOf c t) : ArrOfT s c.cls t := fun n z => ⟨(fun k h => by cases h), h.2⟩
theorem slotv_uniq {c : Cell} {o n d : String} {v v' : Value} (h : slotv s c o n d v) (h' : slotv s c o n d v') : v = v' := by
  obtain ⟨cf, k, i, f, h1, h2⟩ := h
  obtain ⟨cf', k', i', f', h1', h2'⟩ := h'
  rw [h1] at h1'
  cases h1'
  rw [h2] at h2'
  cases h2'
  rfl
theorem slotv_at {c : Cell} {o n d : String} {v : Value} {i : Nat} (h : slotv s c o n d v) (hs : SlotIs s o n d i) : c.slots[i]? = some v := by
  obtain ⟨cf, k, j, f, h1, h2⟩ := h
  obtain ⟨cf', k', j', f', h1', rfl⟩ := hs
  rw [h1] at h1'
  cases h1'
  exact h2
theorem i32_inj {a b : Int} (ha : 0 ≤ a ∧ a ≤ 127) (hb : 0 ≤ b ∧ b ≤ 127) (h : Int32.ofInt a = Int32.ofInt b) : a = b := by
  have := congrArg Int32.toInt h
  rwa [Int32.toInt_ofInt_of_le (by omega) (by omega), Int32.toInt_ofInt_of_le (by omega) (by omega)] at this
theorem skS_ok : ∀ k, k < 19 → sok (skS k) ∧ (skS k).length ≤ 1000 := by
  intro k hk
  have : ∀ k, k < 19 → ((skS k).all (fun c => decide (0 ≤ c ∧ c ≤ 127))) = true ∧ (skS k).length ≤ 1000 := by decide +kernel
  refine ⟨fun c hc => ?_, (this k hk).2⟩
  have := List.all_eq_true.mp (this k hk).1 c hc
  simpa using this
theorem StrAt.bytes {a v a' : Nat} {h z h' z' : Int32} {bs bs' : List Int} (hs : StrAt s a v h z bs) (hs' : StrAt s a' v h' z' bs') (h1 : sok bs) (h2 : sok bs') (l1 : bs.length ≤ 1000) (l2 : bs'.length ≤ 1000) : bs = bs' := by
  obtain ⟨-, vc, e1, -, -, -, -, e2, e3, e4⟩ := hs
  obtain ⟨-, vc', f1, -, -, -, -, f2, f3, f4⟩ := hs'
  rw [e1] at f1
  cases f1
  rw [e3] at f3
  have hl : bs.length = bs'.length := by
    have := congrArg Int32.toNatClampNeg f3
    rwa [Int32.toNatClampNeg_ofNat_of_lt (by omega), Int32.toNatClampNeg_ofNat_of_lt (by omega)] at this
  refine List.ext_getElem hl (fun i g1 g2 => ?_)
  have p1 := e4 i g1
  have p2 := f4 i g2
  rw [p1] at p2
  have := Value.int.inj (Option.some.inj p2)
  have q1 := i32_inj (h1.at i) (h2.at i) this
  rw [List.getD_eq_getElem?_getD, List.getD_eq_getElem?_getD, List.getElem?_eq_getElem g1, List.getElem?_eq_getElem g2] at q1
  exact q1
theorem StrAt.value {a v v' : Nat} {h z h' z' : Int32} {bs bs' : List Int} (hs : StrAt s a v h z bs) (hs' : StrAt s a v' h' z' bs') : v = v' := by
  obtain ⟨⟨c, e1, -, -, -, e2, -⟩, -⟩ := hs
  obtain ⟨⟨c', f1, -, -, -, f2, -⟩, -⟩ := hs'
  rw [e1] at f1
  cases f1
  have := slotv_uniq e2 f2
  cases this
  rfl
theorem StrAt.hz {a v v' : Nat} {h z h' z' : Int32} {bs bs' : List Int} (hs : StrAt s a v h z bs) (hs' : StrAt s a v' h' z' bs') : h = h' ∧ z = z' := by
  obtain ⟨⟨c, e1, -, -, -, -, -, e2, e3⟩, -⟩ := hs
  obtain ⟨⟨c', f1, -, -, -, -, -, f2, f3⟩, -⟩ := hs'
  rw [e1] at f1
  cases f1
  have g1 := slotv_uniq e2 f2
  have g2 := slotv_uniq e3 f3
  cases g1
  cases g2
  exact ⟨rfl, rfl⟩
/-- a cell's kind -/
def tgd (s : State) (n : Nat) (c : Cell) : Prop := match n with
  | 0 => s.isArrayOf c (.object "java/lang/Integer")
  | 1 => s.isArrayOf c (.object "java/lang/Object")
  | 2 => s.isArrayOf c .int
  | 3 => s.isArrayOf c .byte
  | 4 => s.vm.findClass "java/lang/String" = some c.cls
  | _ => s.vm.findClass "java/lang/Integer" = some c.cls
def tgT (n : Nat) : FieldType := match n with
  | 0 => .object "java/lang/Integer"
  | 1 => .object "java/lang/Object"
  | 2 => .int
  | _ => .byte
def tgN (n : Nat) : String := match n with
  | 4 => "java/lang/String"
  | _ => "java/lang/Integer"
theorem tgd_arr {n : Nat} {c : Cell} (hn : n < 4) (h : tgd s n c) : s.isArrayOf c (tgT n) := by
  rcases (by omega : n = 0 ∨ n = 1 ∨ n = 2 ∨ n = 3) with rfl | rfl | rfl | rfl
  · exact h
  · exact h
  · exact h
  · exact h
theorem tgd_obj {n : Nat} {c : Cell} (hn : ¬ n < 4) (hn6 : n < 6) (h : tgd s n c) : s.vm.findClass (tgN n) = some c.cls := by
  rcases (by omega : n = 4 ∨ n = 5) with rfl | rfl
  · exact h
  · exact h
theorem tgT_inj : ∀ n, n < 4 → ∀ m, m < 4 → tgT n = tgT m → n = m := by decide
theorem fc_inj {vm : Vm} {n1 n2 : String} {c : ClassId} (h1 : vm.findClass n1 = some c) (h2 : vm.findClass n2 = some c) : n1 = n2 := by
  obtain ⟨k, a1, a2⟩ := Vm.findClass_spec h1
  obtain ⟨k', b1, b2⟩ := Vm.findClass_spec h2
  rw [a1] at b1
  cases b1
  exact a2.symm.trans b2
theorem tgd_uniq {n m : Nat} {c : Cell} {c1 c2 : ClassId} (hn : n < 6) (hm : m < 6) (k1 : ClassAt s "java/lang/String" c1) (k2 : ClassAt s "java/lang/Integer" c2) (h : tgd s n c) (h' : tgd s m c) : n = m := by
  have hk : ∀ m, ¬ m < 4 → m < 6 → ∃ cc, ClassAt s (tgN m) cc := by
    intro m hm hm6
    rcases (by omega : m = 4 ∨ m = 5) with rfl | rfl
    · exact ⟨_, k1⟩
    · exact ⟨_, k2⟩
  by_cases a1 : n < 4
  · by_cases a2 : m < 4
    · exact tgT_inj n a1 m a2 (arr_ty (tgd_arr a1 h) (tgd_arr a2 h'))
    · obtain ⟨cc, hc⟩ := hk m a2 hm
      exact (arr_obj (tgd_arr a1 h) hc (tgd_obj a2 hm h')).elim
  · by_cases a2 : m < 4
    · obtain ⟨cc, hc⟩ := hk n a1 hn
      exact (arr_obj (tgd_arr a2 h') hc (tgd_obj a1 hn h)).elim
    · have hq := fc_inj (tgd_obj a1 hn h) (tgd_obj a2 hm h')
      rcases (by omega : n = 4 ∨ n = 5) with rfl | rfl
      · rcases (by omega : m = 4 ∨ m = 5) with rfl | rfl
        · rfl
        · exact absurd hq (by decide)
      · rcases (by omega : m = 4 ∨ m = 5) with rfl | rfl
        · exact absurd hq (by decide)
        · rfl
end ST3
