/-! CONTRACTS: HashMap, part 1: its picture; getNode. -/
/-- a node: address, key's code, key, value -/
abbrev Nd : Type := Nat × Int × Nat × Nat
section HM
variable {X : gCx} {hp : gHp}
def ndC (nc : Nat) (k : Int) (ka va : Nat) (nxt : Option Nat) (r : List AV) : gCe := .inr (nc, [vI k, vR (some ka), vR (some va), vR nxt] ++ r)
/-- from h on the nodes L lie in a chain that goes on at stop -/
def seg (X : gCx) (hp : gHp) (lb nc : Nat) (xt : Nat → List AV) : Option Nat → List Nd → Option Nat → Prop
  | h, [], stop => h = stop
  | h, nd :: L, stop => h = some nd.1 ∧ ∃ nxt, gl X hp nd.1 = some (lb, ndC nc nd.2.1 nd.2.2.1 nd.2.2.2 nxt (xt nd.1)) ∧ seg X hp lb nc xt nxt L stop
theorem seg.mono {hp1 : gHp} {lb nc : Nat} {xt : Nat → List AV} : ∀ {L : List Nd} {h stop : Option Nat}, (∀ nd ∈ L, gl X hp1 nd.1 = gl X hp nd.1) → seg X hp lb nc xt h L stop → seg X hp1 lb nc xt h L stop := by
  intro L
  induction L with
  | nil => intro h stop _ hs; exact hs
  | cons nd L ih =>
    intro h stop hk hs
    obtain ⟨e1, nxt, e2, e3⟩ := hs
    exact ⟨e1, nxt, by rw [hk nd List.mem_cons_self]; exact e2, ih (fun x hx => hk x (List.mem_cons_of_mem _ hx)) e3⟩
theorem seg.app {lb nc : Nat} {xt : Nat → List AV} : ∀ {L M : List Nd} {h mid stop : Option Nat}, seg X hp lb nc xt h L mid → seg X hp lb nc xt mid M stop → seg X hp lb nc xt h (L ++ M) stop := by
  intro L
  induction L with
  | nil => intro M h mid stop h1 h2; cases h1; exact h2
  | cons nd L ih =>
    intro M h mid stop h1 h2
    obtain ⟨e1, nxt, e2, e3⟩ := h1
    exact ⟨e1, nxt, e2, ih e3 h2⟩
theorem seg.split {lb nc : Nat} {xt : Nat → List AV} : ∀ {L M : List Nd} {h stop : Option Nat}, seg X hp lb nc xt h (L ++ M) stop → ∃ mid, seg X hp lb nc xt h L mid ∧ seg X hp lb nc xt mid M stop := by
  intro L
  induction L with
  | nil => intro M h stop h1; exact ⟨h, rfl, h1⟩
  | cons nd L ih =>
    intro M h stop h1
    obtain ⟨e1, nxt, e2, e3⟩ := h1
    obtain ⟨mid, q1, q2⟩ := ih e3
    exact ⟨mid, ⟨e1, nxt, e2, q1⟩, q2⟩
/-- the last node's link is changed -/
theorem seg.relink {lb nc : Nat} {xt : Nat → List AV} {L : List Nd} {nd : Nd} {h stop stop' : Option Nat} (hlb : lb ≠ 0) (hn : ∀ x ∈ L, x.1 ≠ nd.1) (hs : seg X hp lb nc xt h (L ++ [nd]) stop) : seg X (hset hp nd.1 (lb, ndC nc nd.2.1 nd.2.2.1 nd.2.2.2 stop' (xt nd.1))) lb nc xt h (L ++ [nd]) stop' := by
  obtain ⟨mid, q1, q2⟩ := hs.split
  obtain ⟨e1, nxt, e2, e3⟩ := q2
  refine seg.app (seg.mono (fun x hx => gl_set_ne (hn x hx)) q1) ⟨e1, stop', gl_set_self e2 hlb, rfl⟩
/-- the keys' residues -/
def rs (n : Nat) (es : List Nd) (i : Nat) : List Nd := es.filter (fun nd => nd.2.1.toNat % n = i)
def hmC (cm : Nat) (ks vs tb es : Option Nat) (sz mc th : Int) (lf : UInt32) (ext : List AV) : gCe := .inr (cm, [vR ks, vR vs, vR tb, vR es, vI sz, vI mc, vI th, vF lf] ++ ext)
/-- the map m (of class cm, nodes of class nc) holds the nodes es, in the order in which they came, in a table of n places (0: none yet) -/
def isHM (X : gCx) (hp : gHp) (cm nc : Nat) (kd : Bool) (m : Nat) (ks : Option Nat) (ext : List AV) (xt : Nat → List AV) (n : Nat) (es : List Nd) : Prop :=
  (es.map (fun nd => nd.1)).Nodup ∧ (es.map (fun nd => nd.2.1)).Nodup ∧ (∀ nd ∈ es, isKey X hp kd nd.2.2.1 nd.2.1) ∧
  ∃ vs tb eset mc th lf, gl X hp m = some (m + 2, hmC cm ks vs tb eset es.length mc th lf ext) ∧
    ((n = 0 ∧ tb = none ∧ th = 0 ∧ es = []) ∨ ∃ j ta t, n = 2 ^ j ∧ 4 ≤ j ∧ j ≤ 14 ∧ th = 3 * n / 4 ∧ (es.length : Int) ≤ th ∧ tb = some ta ∧ gl X hp ta = some (m + 2, .inl (4, n, .inr t)) ∧ ∀ i, i < n → seg X hp (m + 2) nc xt (t (i : Int)) (rs n es i) none)
theorem i_andN {n j : Nat} {k : Int} (hn : n = 2 ^ j) (hj : 4 ≤ j ∧ j ≤ 14) (hk : 0 ≤ k ∧ k < 65536) : Int32.ofInt ((n : Int) - 1) &&& Int32.ofInt k = Int32.ofInt ((k.toNat % n : Nat) : Int) := by
  obtain ⟨m, rfl⟩ : ∃ m : Nat, k = (m : Int) := ⟨k.toNat, by omega⟩
  have hp : (2 : Nat) ^ j ≤ 2 ^ 14 := Nat.pow_le_pow_right (by decide) hj.2
  have hp0 : 0 < (2 : Nat) ^ j := Nat.two_pow_pos j
  have e1 : Int32.ofInt (m : Int) = nI m := rfl
  have e2 : Int32.ofInt ((n : Int) - 1) = nI (n - 1) := by
    rw [show (n : Int) - 1 = ((n - 1 : Nat) : Int) by omega]; rfl
  have e3 : Int32.ofInt (((m : Int).toNat % n : Nat) : Int) = nI (m % 2 ^ j) := by rw [hn]; rfl
  rw [e1, e2, e3, Int32.and_comm]
  exact pk_andN (n := m) (by omega) j (by rw [pk_tn (by omega), hn])
theorem pow14 {n j : Nat} (hn : n = 2 ^ j) (hj : 4 ≤ j ∧ j ≤ 14) : 16 ≤ n ∧ n ≤ 16384 := by
  have h1 : (2 : Nat) ^ j ≤ 2 ^ 14 := Nat.pow_le_pow_right (by decide) hj.2
  have h2 : (2 : Nat) ^ 4 ≤ 2 ^ j := Nat.pow_le_pow_right (by decide) hj.1
  omega
/-- key.equals(other) inside HashMap -/
theorem gs_keyEq {fi : gFi} {d pc : Nat} {L : List (Option AV)} {Q : Option AV → gHp → Prop} {kd : Bool} {a b : Nat} {k k' : Int} {rest : List AV} (hf : fi.1 = RJ14) (hd : decode fi.2.1 pc = .ok (.invokevirtual 173, 3)) (ha : isKey X hp kd a k) (hb : isKey X hp kd b k') (hdd : 3 ≤ d) (hrest : (rest.map ct).sum ≤ 8) (kk : G X fi d (pc + 3) L (vI (if k = k' then 1 else 0) :: rest) hp Q) : G X fi d pc L (vR (some b) :: vR (some a) :: rest) hp Q := by
  cases kd with
  | false =>
    obtain ⟨h1, h2⟩ := ha
    have h1' := h1
    obtain ⟨lb, e1, e2⟩ := h1
    refine gs_U1 hd (by rw [hf]; exact kJ14_173_J18) e2 clJ18 (by omega) hrest (c_intEq h1' hb.1 h2 hb.2) (fun v hp1 hq => ?_)
    obtain ⟨rfl, rfl⟩ := hq
    exact kk
  | true =>
    obtain ⟨s, t, h1, rfl, h3, h4⟩ := ha
    obtain ⟨s', t', h1', rfl, h3', h4'⟩ := hb
    have h1c := h1
    obtain ⟨lb, e1, e2⟩ := h1
    refine gs_U1 hd (by rw [hf]; exact kJ14_173_X8) e2 clX8 (by omega) hrest (c_setEq h1c h1' h3 h4 h3' h4') (fun v hp1 hq => ?_)
    obtain ⟨rfl, rfl⟩ := hq
    exact kk
end HM
