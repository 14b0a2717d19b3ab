/-! CONTRACTS: HashMap, part 3: resize. -/
section HM3
variable {X : gCx} {hp : gHp}
theorem i_shl1 {n : Nat} (h : n ≤ 1000000) : Int32.ofInt (n : Int) <<< (Int32.ofInt 1 &&& 31) = Int32.ofInt ((2 * n : Nat) : Int) := by
  have h1 : Int32.ofInt (n : Int) = nI n := rfl
  rw [h1, pk_shlN (Int32.ofInt 1 &&& 31) 1 (by decide) (by omega), Nat.mul_comm]; rfl
theorem nat_andP (m j : Nat) : m &&& 2 ^ j = if m / 2 ^ j % 2 = 0 then 0 else 2 ^ j := by
  apply Nat.eq_of_testBit_eq
  intro i
  rw [Nat.testBit_and, Nat.testBit_two_pow]
  by_cases hij : j = i
  · subst hij
    by_cases h : m / 2 ^ j % 2 = 0
    · rw [if_pos h, Nat.testBit_eq_decide_div_mod_eq]; simp [h]
    · rw [if_neg h, Nat.testBit_eq_decide_div_mod_eq, Nat.testBit_two_pow_self]; simp; omega
  · by_cases h : m / 2 ^ j % 2 = 0
    · rw [if_pos h]; simp [hij]
    · rw [if_neg h, Nat.testBit_two_pow]; simp [hij]
theorem i_andP {n j : Nat} {k : Int} (hn : n = 2 ^ j) (hj : j ≤ 14) (hk : 0 ≤ k ∧ k < 65536) : Int32.ofInt k &&& Int32.ofInt (n : Int) = Int32.ofInt (if k.toNat / n % 2 = 0 then 0 else (n : Int)) := by
  obtain ⟨m, rfl⟩ : ∃ m : Nat, k = (m : Int) := ⟨k.toNat, by omega⟩
  have e1 : Int32.ofInt (m : Int) &&& Int32.ofInt (n : Int) = Int32.ofNat (m &&& n) := by
    apply Int32.toBitVec_inj.mp
    show BitVec.ofNat 32 m &&& BitVec.ofNat 32 n = BitVec.ofNat 32 (m &&& n)
    rw [BitVec.ofNat_and]
  rw [e1, hn, nat_andP]
  show _ = Int32.ofInt (if m / 2 ^ j % 2 = 0 then 0 else _)
  by_cases h : m / 2 ^ j % 2 = 0
  · rw [if_pos h, if_pos h]; rfl
  · rw [if_neg h, if_neg h]; rfl
theorem i_andP0 {n j : Nat} {k : Int} (hn : n = 2 ^ j) (hj : j ≤ 14) (hk : 0 ≤ k ∧ k < 65536) (h : k.toNat / n % 2 = 0) : Int32.ofInt k &&& Int32.ofInt (n : Int) = Int32.ofInt 0 := by rw [i_andP hn hj hk, if_pos h]
theorem i_andP1 {n j : Nat} {k : Int} (hn : n = 2 ^ j) (hj : j ≤ 14) (hk : 0 ≤ k ∧ k < 65536) (h : ¬ k.toNat / n % 2 = 0) : Int32.ofInt k &&& Int32.ofInt (n : Int) = Int32.ofInt (n : Int) := by rw [i_andP hn hj hk, if_neg h]
theorem nd_inj : ∀ {L : List Nd}, (L.map (fun nd => nd.1)).Nodup → ∀ {x y : Nd}, x ∈ L → y ∈ L → x.1 = y.1 → x = y := by
  intro L
  induction L with
  | nil => intro _ x y hx; cases hx
  | cons z L ih =>
    intro h x y hx hy he
    rw [List.map_cons, List.nodup_cons] at h
    rcases List.mem_cons.mp hx with rfl | hx2
    · rcases List.mem_cons.mp hy with rfl | hy
      · rfl
      · exact absurd (List.mem_map.mpr ⟨y, hy, he.symm⟩) h.1
    · rcases List.mem_cons.mp hy with rfl | hy2
      · exact absurd (List.mem_map.mpr ⟨x, hx2, he⟩ : y.1 ∈ L.map (fun nd => nd.1)) h.1
      · exact ih h.2 hx2 hy2 he
theorem nd_app {P R : List Nd} (h : ((P ++ R).map (fun nd => nd.1)).Nodup) {x y : Nd} (hx : x ∈ P) (hy : y ∈ R) : x.1 ≠ y.1 := by
  rw [List.map_append, List.nodup_append] at h
  exact h.2.2 _ (List.mem_map.mpr ⟨x, hx, rfl⟩) _ (List.mem_map.mpr ⟨y, hy, rfl⟩)
theorem nd_filter {P : List Nd} {p : Nd → Bool} (h : (P.map (fun nd => nd.1)).Nodup) : ((P.filter p).map (fun nd => nd.1)).Nodup := h.sublist ((List.filter_sublist).map _)
/-- the chain P, its last node's link not yet made -/
def opn (X : gCx) (hp : gHp) (lb nc : Nat) (xt : Nat → List AV) (h t : Option Nat) (P : List Nd) : Prop := (P = [] ∧ h = none ∧ t = none) ∨ ∃ P' l stop, P = P' ++ [l] ∧ t = some l.1 ∧ seg X hp lb nc xt h (P' ++ [l]) stop
theorem opn.mono {hp1 : gHp} {lb nc : Nat} {xt : Nat → List AV} {h t : Option Nat} {P : List Nd} (hk : ∀ nd ∈ P, gl X hp1 nd.1 = gl X hp nd.1) (ho : opn X hp lb nc xt h t P) : opn X hp1 lb nc xt h t P := by
  rcases ho with h1 | ⟨P', l, stop, rfl, h2, h3⟩
  · exact Or.inl h1
  · exact Or.inr ⟨P', l, stop, rfl, h2, h3.mono hk⟩
theorem seg.last {lb nc : Nat} {xt : Nat → List AV} {P' : List Nd} {l : Nd} {h stop : Option Nat} (hs : seg X hp lb nc xt h (P' ++ [l]) stop) : gl X hp l.1 = some (lb, ndC nc l.2.1 l.2.2.1 l.2.2.2 stop (xt l.1)) := by
  obtain ⟨mid, q1, q2⟩ := hs.split
  obtain ⟨e1, nxt, e2, e3⟩ := q2
  have : nxt = stop := e3
  rw [← this]; exact e2
theorem seg.head {lb nc : Nat} {xt : Nat → List AV} {L : List Nd} {h stop : Option Nat} (hs : seg X hp lb nc xt h L stop) (hL : L ≠ []) : ∃ x ∈ L, h = some x.1 ∧ ∃ nxt, gl X hp x.1 = some (lb, ndC nc x.2.1 x.2.2.1 x.2.2.2 nxt (xt x.1)) := by
  cases L with
  | nil => exact absurd rfl hL
  | cons x L =>
    obtain ⟨e1, nxt, e2, e3⟩ := hs
    exact ⟨x, List.mem_cons_self, e1, nxt, e2⟩
theorem filter_snoc {P : List Nd} {e : Nd} {p : Nd → Bool} : (P ++ [e]).filter p = P.filter p ++ (if p e then [e] else []) := by
  rw [List.filter_append, List.filter_cons, List.filter_nil]
def loB (n : Nat) (nd : Nd) : Bool := decide (nd.2.1.toNat / n % 2 = 0)
def hiB (n : Nat) (nd : Nd) : Bool := decide (¬ nd.2.1.toNat / n % 2 = 0)
theorem rs_lo {n i : Nat} {es : List Nd} (hn : 0 < n) (hi : i < n) : rs (2 * n) es i = (rs n es i).filter (loB n) := by
  unfold rs
  rw [List.filter_filter]
  congr 1
  funext nd
  unfold loB
  generalize nd.2.1.toNat = k at *
  have : (k % (2 * n) = i) ↔ (k / n % 2 = 0 ∧ k % n = i) := by
    have h1 := Nat.mod_add_div k n
    have h2 : k % (2 * n) = k % n + n * (k / n % 2) := by rw [Nat.mul_comm 2 n, Nat.mod_mul]
    have h3 : k / n % 2 = 0 ∨ k / n % 2 = 1 := by omega
    rcases h3 with h3 | h3 <;> rw [h2, h3] <;> have := Nat.mod_lt k hn <;> constructor <;> intro h <;> omega
  simp [this]
theorem rs_hi {n i : Nat} {es : List Nd} (hn : 0 < n) (hi : i < n) : rs (2 * n) es (i + n) = (rs n es i).filter (hiB n) := by
  unfold rs
  rw [List.filter_filter]
  congr 1
  funext nd
  unfold hiB
  generalize nd.2.1.toNat = k at *
  have : (k % (2 * n) = i + n) ↔ (¬ k / n % 2 = 0 ∧ k % n = i) := by
    have h2 : k % (2 * n) = k % n + n * (k / n % 2) := by rw [Nat.mul_comm 2 n, Nat.mod_mul]
    have h3 : k / n % 2 = 0 ∨ k / n % 2 = 1 := by omega
    rcases h3 with h3 | h3 <;> rw [h2, h3] <;> have := Nat.mod_lt k hn <;> constructor <;> intro h <;> omega
  simp [this]
/-- what the split of one bin changes -/
def spl (X : gCx) (m : Nat) (LL : List Nd) (hp hp' : gHp) : Prop := hp'.1 = hp.1 ∧ hp'.2.1 = hp.2.1 ∧ Fr X (fun l => l = m + 2) hp hp' ∧ ∀ a, (∀ x ∈ LL, a ≠ x.1) → gl X hp' a = gl X hp a
theorem opn.push {hp0 : gHp} {m nc : Nat} {xt : Nat → List AV} {h1 h2 t2 nxt stop : Option Nat} {LL P1 P2 R P' : List Nd} {e l : Nd} (hi : spl X m LL hp0 hp) (hnd : (P1.map (fun nd => nd.1)).Nodup) (hl : P1 = P' ++ [l]) (hlL : l ∈ LL) (h12 : ∀ y ∈ P2, y.1 ≠ l.1) (hR : ∀ y ∈ R, y.1 ≠ l.1) (he : e.1 ≠ l.1) (hs : seg X hp (m + 2) nc xt h1 (P' ++ [l]) stop) (ho : opn X hp (m + 2) nc xt h2 t2 P2) (hsR : seg X hp (m + 2) nc xt nxt R none) (hce : gl X hp e.1 = some (m + 2, ndC nc e.2.1 e.2.2.1 e.2.2.2 nxt (xt e.1))) : spl X m LL hp0 (hset hp l.1 (m + 2, ndC nc l.2.1 l.2.2.1 l.2.2.2 (some e.1) (xt l.1))) ∧ opn X (hset hp l.1 (m + 2, ndC nc l.2.1 l.2.2.1 l.2.2.2 (some e.1) (xt l.1))) (m + 2) nc xt h1 (some e.1) (P1 ++ [e]) ∧ opn X (hset hp l.1 (m + 2, ndC nc l.2.1 l.2.2.1 l.2.2.2 (some e.1) (xt l.1))) (m + 2) nc xt h2 t2 P2 ∧ seg X (hset hp l.1 (m + 2, ndC nc l.2.1 l.2.2.1 l.2.2.2 (some e.1) (xt l.1))) (m + 2) nc xt nxt R none := by
  subst hl
  refine ⟨⟨hi.1, hi.2.1, hi.2.2.1.set hs.last (by omega) rfl ⟨rfl, rfl⟩, fun a ha => ?_⟩, Or.inr ⟨P' ++ [l], e, nxt, rfl, rfl, ?_⟩, ho.mono (fun y hy => gl_set_ne (h12 y hy)), hsR.mono (fun y hy => gl_set_ne (hR y hy))⟩
  · rw [gl_set_ne (ha l hlL)]; exact hi.2.2.2 a ha
  · refine (hs.relink (stop' := some e.1) (by omega) (fun x hx => nd_app hnd hx (List.mem_singleton.mpr rfl))).app ⟨rfl, nxt, ?_, rfl⟩
    rw [gl_set_ne he]; exact hce
theorem rz_in {m n ta ta2 jj j : Nat} {L3 L4 L5 : Option AV} {xt : Nat → List AV} {hp0 : gHp} {LL : List Nd} {Q : Option AV → gHp → Prop} (hn : n = 2 ^ j) (hj : j ≤ 14) (hnd : (LL.map (fun nd => nd.1)).Nodup) (hr : ∀ nd ∈ LL, 0 ≤ nd.2.1 ∧ nd.2.1 < 65536)
    (K : ∀ hp' h1 t1 h2 t2 e13, spl X m LL hp0 hp' → opn X hp' (m + 2) 15 xt h1 t1 (LL.filter (loB n)) → opn X hp' (m + 2) 15 xt h2 t2 (LL.filter (hiB n)) → G X fJ14_resize 1 309 [some (vR (some m)), some (vR (some ta)), some (vI (n : Int)), L3, L4, L5, some (vR (some ta2)), some (vI (jj : Int)), some (vR none), some (vR h1), some (vR t1), some (vR h2), some (vR t2), some (vR e13)] [] hp' Q) :
    ∀ (R P : List Nd) (hpi : gHp) (h1 t1 h2 t2 e : Option Nat) (L13 : Option AV), LL = P ++ R → R ≠ [] → spl X m LL hp0 hpi → seg X hpi (m + 2) 15 xt e R none → opn X hpi (m + 2) 15 xt h1 t1 (P.filter (loB n)) → opn X hpi (m + 2) 15 xt h2 t2 (P.filter (hiB n)) → G X fJ14_resize 1 235 [some (vR (some m)), some (vR (some ta)), some (vI (n : Int)), L3, L4, L5, some (vR (some ta2)), some (vI (jj : Int)), some (vR e), some (vR h1), some (vR t1), some (vR h2), some (vR t2), L13] [] hpi Q := by
  intro R
  induction R with
  | nil => intro P hpi h1 t1 h2 t2 e L13 _ h; exact absurd rfl h
  | cons e R ih =>
    intro P hpi h1 t1 h2 t2 e0 L13 hLL _ hi hs o1 o2
    obtain ⟨rfl, nxt, g1, g2⟩ := hs
    have hre := hr e (by rw [hLL]; exact List.mem_append_right _ List.mem_cons_self)
    have hnd2 := hnd
    rw [hLL] at hnd2
    have hPL : ∀ x ∈ P, x ∈ LL := fun x hx => by rw [hLL]; exact List.mem_append_left _ hx
    have hndP : (P.map (fun nd => nd.1)).Nodup := by rw [List.map_append, List.nodup_append] at hnd2; exact hnd2.1
    have k301 : ∀ (hp' : gHp) (h1 t1 h2 t2 : Option Nat), spl X m LL hp0 hp' → opn X hp' (m + 2) 15 xt h1 t1 ((P ++ [e]).filter (loB n)) → opn X hp' (m + 2) 15 xt h2 t2 ((P ++ [e]).filter (hiB n)) → seg X hp' (m + 2) 15 xt nxt R none → G X fJ14_resize 1 301 [some (vR (some m)), some (vR (some ta)), some (vI (n : Int)), L3, L4, L5, some (vR (some ta2)), some (vI (jj : Int)), some (vR (some e.1)), some (vR h1), some (vR t1), some (vR h2), some (vR t2), some (vR nxt)] [] hp' Q := by
      intro hp' h1 t1 h2 t2 hi o1 o2 hs
      have hLL2 : LL = (P ++ [e]) ++ R := by rw [hLL, List.append_assoc]; rfl
      refine gs_ald13 (pc := 301) dJ14_resize_301 ?_
      refine gs_dup (pc := 303) dJ14_resize_303 rfl ?_
      refine gs_ast8 (pc := 304) dJ14_resize_304 rfl ?_
      cases R with
      | nil =>
        have hs : nxt = none := hs
        subst hs
        rw [List.append_nil] at hLL2
        rw [← hLL2] at o1 o2
        refine gs_ifnonnull (pc := 306) (tgt := 235) dJ14_resize_306 (by decide) (fun _ h => by cases h) (fun _ => ?_)
        exact K _ _ _ _ _ _ hi o1 o2
      | cons e2 R =>
        have hs2 := hs
        obtain ⟨rfl, -⟩ := hs2
        refine gs_ifnonnull (pc := 306) (tgt := 235) dJ14_resize_306 (by decide) (fun _ _ => ?_) (fun h => by cases h)
        exact ih (P ++ [e]) hp' _ _ _ _ _ _ hLL2 (by simp) hi hs o1 o2
    by_cases hlo : e.2.1.toNat / n % 2 = 0
    · have hf1 : (P ++ [e]).filter (loB n) = P.filter (loB n) ++ [e] := by rw [filter_snoc, if_pos (by simp [loB, hlo])]
      have hf2 : (P ++ [e]).filter (hiB n) = P.filter (hiB n) := by rw [filter_snoc, if_neg (by simp [hiB, hlo]), List.append_nil]
      rw [hf1, hf2] at k301
      refine gs_ald8 (pc := 235) dJ14_resize_235 ?_
      refine gs_getf (pc := 237) 3 dJ14_resize_237 g1 clJ21 in_J21 (by decide) q1287 (Or.inl rfl) rfl ?_
      refine gs_ast13 (pc := 240) dJ14_resize_240 rfl ?_
      refine gs_ald8 (pc := 242) dJ14_resize_242 ?_
      refine gs_getf (pc := 244) 0 dJ14_resize_244 g1 clJ21 in_J21 (by decide) q1269 (Or.inl rfl) rfl ?_
      refine gs_ild2 (pc := 247) dJ14_resize_247 ?_
      refine gs_iand (pc := 248) dJ14_resize_248 (i_andP0 hn hj hre hlo) ?_
      refine gs_if_ne (pc := 249) (tgt := 278) dJ14_resize_249 (by decide) (by omega) (fun hn => absurd rfl hn) (fun _ => ?_)
      rcases o1 with ⟨q1, rfl, rfl⟩ | ⟨P', l, stop, q1, rfl, q3⟩
      · refine gs_ald10 (pc := 252) dJ14_resize_252 ?_
        refine gs_ifnonnull (pc := 254) (tgt := 264) dJ14_resize_254 (by decide) (fun _ h => by cases h) (fun _ => ?_)
        refine gs_ald8 (pc := 257) dJ14_resize_257 ?_
        refine gs_ast9 (pc := 259) dJ14_resize_259 rfl ?_
        refine gs_goto (pc := 261) (tgt := 271) dJ14_resize_261 (by decide) ?_
        refine gs_ald8 (pc := 271) dJ14_resize_271 ?_
        refine gs_ast10 (pc := 273) dJ14_resize_273 rfl ?_
        refine gs_goto (pc := 275) (tgt := 301) dJ14_resize_275 (by decide) ?_
        rw [q1] at k301
        exact k301 _ _ _ _ _ hi (Or.inr ⟨[], e, nxt, rfl, rfl, rfl, nxt, g1, rfl⟩) o2 g2
      · have hlP : l ∈ P.filter (loB n) := by rw [q1]; exact List.mem_append_right _ (List.mem_singleton.mpr rfl)
        have hlm := List.mem_filter.mp hlP
        have hcl := q3.last
        refine gs_ald10 (pc := 252) dJ14_resize_252 ?_
        refine gs_ifnonnull (pc := 254) (tgt := 264) dJ14_resize_254 (by decide) (fun _ _ => ?_) (fun h => by cases h)
        refine gs_ald10 (pc := 264) dJ14_resize_264 ?_
        refine gs_ald8 (pc := 266) dJ14_resize_266 ?_
        refine gs_putf (pc := 268) 3 (ndC 15 l.2.1 l.2.2.1 l.2.2.2 (some e.1) (xt l.1)) dJ14_resize_268 hcl (by omega) clJ21 in_J21 tyJ21 tyJ21_ok nmJ21 (by decide) q1287 (Or.inl rfl) rfl (fok_obj _ _) (Nat.le_of_ble_eq_true rfl) rfl ?_
        refine gs_ald8 (pc := 271) dJ14_resize_271 ?_
        refine gs_ast10 (pc := 273) dJ14_resize_273 rfl ?_
        refine gs_goto (pc := 275) (tgt := 301) dJ14_resize_275 (by decide) ?_
        obtain ⟨w1, w2, w3, w4⟩ := opn.push (e := e) (R := R) (nxt := nxt) hi (nd_filter hndP) q1 (hPL l hlm.1) (P2 := P.filter (hiB n)) (h2 := h2) (t2 := t2) (fun y hy he => by
          have hy := List.mem_filter.mp hy
          have := nd_inj hndP hy.1 hlm.1 he
          subst this
          simp [loB, hiB] at hy hlm
          omega) (fun y hy he => nd_app hnd2 hlm.1 (List.mem_cons_of_mem _ hy) he.symm) (fun he => nd_app hnd2 hlm.1 List.mem_cons_self he.symm) q3 o2 g2 g1
        exact k301 _ _ _ _ _ w1 w2 w3 w4
    · have hf1 : (P ++ [e]).filter (loB n) = P.filter (loB n) := by rw [filter_snoc, if_neg (by simp [loB, hlo]), List.append_nil]
      have hf2 : (P ++ [e]).filter (hiB n) = P.filter (hiB n) ++ [e] := by rw [filter_snoc, if_pos (by simp [hiB, hlo])]
      rw [hf1, hf2] at k301
      have hn0 : 0 < n := by rw [hn]; exact Nat.two_pow_pos j
      refine gs_ald8 (pc := 235) dJ14_resize_235 ?_
      refine gs_getf (pc := 237) 3 dJ14_resize_237 g1 clJ21 in_J21 (by decide) q1287 (Or.inl rfl) rfl ?_
      refine gs_ast13 (pc := 240) dJ14_resize_240 rfl ?_
      refine gs_ald8 (pc := 242) dJ14_resize_242 ?_
      refine gs_getf (pc := 244) 0 dJ14_resize_244 g1 clJ21 in_J21 (by decide) q1269 (Or.inl rfl) rfl ?_
      refine gs_ild2 (pc := 247) dJ14_resize_247 ?_
      refine gs_iand (pc := 248) dJ14_resize_248 (i_andP1 hn hj hre hlo) ?_
      refine gs_if_ne (pc := 249) (tgt := 278) dJ14_resize_249 (by decide) (by have := Nat.pow_le_pow_right (n := 2) (by decide) hj; omega) (fun _ => ?_) (fun hn => absurd hn (by omega))
      rcases o2 with ⟨q1, rfl, rfl⟩ | ⟨P', l, stop, q1, rfl, q3⟩
      · refine gs_ald12 (pc := 278) dJ14_resize_278 ?_
        refine gs_ifnonnull (pc := 280) (tgt := 290) dJ14_resize_280 (by decide) (fun _ h => by cases h) (fun _ => ?_)
        refine gs_ald8 (pc := 283) dJ14_resize_283 ?_
        refine gs_ast11 (pc := 285) dJ14_resize_285 rfl ?_
        refine gs_goto (pc := 287) (tgt := 297) dJ14_resize_287 (by decide) ?_
        refine gs_ald8 (pc := 297) dJ14_resize_297 ?_
        refine gs_ast12 (pc := 299) dJ14_resize_299 rfl ?_
        rw [q1] at k301
        exact k301 _ _ _ _ _ hi o1 (Or.inr ⟨[], e, nxt, rfl, rfl, rfl, nxt, g1, rfl⟩) g2
      · have hlP : l ∈ P.filter (hiB n) := by rw [q1]; exact List.mem_append_right _ (List.mem_singleton.mpr rfl)
        have hlm := List.mem_filter.mp hlP
        have hcl := q3.last
        refine gs_ald12 (pc := 278) dJ14_resize_278 ?_
        refine gs_ifnonnull (pc := 280) (tgt := 290) dJ14_resize_280 (by decide) (fun _ _ => ?_) (fun h => by cases h)
        refine gs_ald12 (pc := 290) dJ14_resize_290 ?_
        refine gs_ald8 (pc := 292) dJ14_resize_292 ?_
        refine gs_putf (pc := 294) 3 (ndC 15 l.2.1 l.2.2.1 l.2.2.2 (some e.1) (xt l.1)) dJ14_resize_294 hcl (by omega) clJ21 in_J21 tyJ21 tyJ21_ok nmJ21 (by decide) q1287 (Or.inl rfl) rfl (fok_obj _ _) (Nat.le_of_ble_eq_true rfl) rfl ?_
        refine gs_ald8 (pc := 297) dJ14_resize_297 ?_
        refine gs_ast12 (pc := 299) dJ14_resize_299 rfl ?_
        obtain ⟨w1, w2, w3, w4⟩ := opn.push (e := e) (R := R) (nxt := nxt) hi (nd_filter hndP) q1 (hPL l hlm.1) (P2 := P.filter (loB n)) (h2 := h1) (t2 := t1) (fun y hy he => by
          have hy := List.mem_filter.mp hy
          have := nd_inj hndP hy.1 hlm.1 he
          subst this
          simp [loB, hiB] at hy hlm
          omega) (fun y hy he => nd_app hnd2 hlm.1 (List.mem_cons_of_mem _ hy) he.symm) (fun he => nd_app hnd2 hlm.1 List.mem_cons_self he.symm) q3 o1 g2 g1
        exact k301 _ _ _ _ _ w1 w3 w2 w4
theorem rz_inL {m n ta ta2 jj j : Nat} {L3 L4 L5 : Option AV} {xt : Nat → List AV} {hp0 : gHp} {LL : List Nd} {Q : Option AV → gHp → Prop} (hn : n = 2 ^ j) (hj : j ≤ 14) (hnd : (LL.map (fun nd => nd.1)).Nodup) (hr : ∀ nd ∈ LL, 0 ≤ nd.2.1 ∧ nd.2.1 < 65536)
    (K : ∀ hp' h1 t1 h2 t2 e13, spl X m LL hp0 hp' → opn X hp' (m + 2) 17 xt h1 t1 (LL.filter (loB n)) → opn X hp' (m + 2) 17 xt h2 t2 (LL.filter (hiB n)) → G X fJ14_resize 1 309 [some (vR (some m)), some (vR (some ta)), some (vI (n : Int)), L3, L4, L5, some (vR (some ta2)), some (vI (jj : Int)), some (vR none), some (vR h1), some (vR t1), some (vR h2), some (vR t2), some (vR e13)] [] hp' Q) :
    ∀ (R P : List Nd) (hpi : gHp) (h1 t1 h2 t2 e : Option Nat) (L13 : Option AV), LL = P ++ R → R ≠ [] → spl X m LL hp0 hpi → seg X hpi (m + 2) 17 xt e R none → opn X hpi (m + 2) 17 xt h1 t1 (P.filter (loB n)) → opn X hpi (m + 2) 17 xt h2 t2 (P.filter (hiB n)) → G X fJ14_resize 1 235 [some (vR (some m)), some (vR (some ta)), some (vI (n : Int)), L3, L4, L5, some (vR (some ta2)), some (vI (jj : Int)), some (vR e), some (vR h1), some (vR t1), some (vR h2), some (vR t2), L13] [] hpi Q := by
  intro R
  induction R with
  | nil => intro P hpi h1 t1 h2 t2 e L13 _ h; exact absurd rfl h
  | cons e R ih =>
    intro P hpi h1 t1 h2 t2 e0 L13 hLL _ hi hs o1 o2
    obtain ⟨rfl, nxt, g1, g2⟩ := hs
    have hre := hr e (by rw [hLL]; exact List.mem_append_right _ List.mem_cons_self)
    have hnd2 := hnd
    rw [hLL] at hnd2
    have hPL : ∀ x ∈ P, x ∈ LL := fun x hx => by rw [hLL]; exact List.mem_append_left _ hx
    have hndP : (P.map (fun nd => nd.1)).Nodup := by rw [List.map_append, List.nodup_append] at hnd2; exact hnd2.1
    have k301 : ∀ (hp' : gHp) (h1 t1 h2 t2 : Option Nat), spl X m LL hp0 hp' → opn X hp' (m + 2) 17 xt h1 t1 ((P ++ [e]).filter (loB n)) → opn X hp' (m + 2) 17 xt h2 t2 ((P ++ [e]).filter (hiB n)) → seg X hp' (m + 2) 17 xt nxt R none → G X fJ14_resize 1 301 [some (vR (some m)), some (vR (some ta)), some (vI (n : Int)), L3, L4, L5, some (vR (some ta2)), some (vI (jj : Int)), some (vR (some e.1)), some (vR h1), some (vR t1), some (vR h2), some (vR t2), some (vR nxt)] [] hp' Q := by
      intro hp' h1 t1 h2 t2 hi o1 o2 hs
      have hLL2 : LL = (P ++ [e]) ++ R := by rw [hLL, List.append_assoc]; rfl
      refine gs_ald13 (pc := 301) dJ14_resize_301 ?_
      refine gs_dup (pc := 303) dJ14_resize_303 rfl ?_
      refine gs_ast8 (pc := 304) dJ14_resize_304 rfl ?_
      cases R with
      | nil =>
        have hs : nxt = none := hs
        subst hs
        rw [List.append_nil] at hLL2
        rw [← hLL2] at o1 o2
        refine gs_ifnonnull (pc := 306) (tgt := 235) dJ14_resize_306 (by decide) (fun _ h => by cases h) (fun _ => ?_)
        exact K _ _ _ _ _ _ hi o1 o2
      | cons e2 R =>
        have hs2 := hs
        obtain ⟨rfl, -⟩ := hs2
        refine gs_ifnonnull (pc := 306) (tgt := 235) dJ14_resize_306 (by decide) (fun _ _ => ?_) (fun h => by cases h)
        exact ih (P ++ [e]) hp' _ _ _ _ _ _ hLL2 (by simp) hi hs o1 o2
    by_cases hlo : e.2.1.toNat / n % 2 = 0
    · have hf1 : (P ++ [e]).filter (loB n) = P.filter (loB n) ++ [e] := by rw [filter_snoc, if_pos (by simp [loB, hlo])]
      have hf2 : (P ++ [e]).filter (hiB n) = P.filter (hiB n) := by rw [filter_snoc, if_neg (by simp [hiB, hlo]), List.append_nil]
      rw [hf1, hf2] at k301
      refine gs_ald8 (pc := 235) dJ14_resize_235 ?_
      refine gs_getf (pc := 237) 3 dJ14_resize_237 g1 clJ22 in_J22 (by decide) q1287 (Or.inl rfl) rfl ?_
      refine gs_ast13 (pc := 240) dJ14_resize_240 rfl ?_
      refine gs_ald8 (pc := 242) dJ14_resize_242 ?_
      refine gs_getf (pc := 244) 0 dJ14_resize_244 g1 clJ22 in_J22 (by decide) q1269 (Or.inl rfl) rfl ?_
      refine gs_ild2 (pc := 247) dJ14_resize_247 ?_
      refine gs_iand (pc := 248) dJ14_resize_248 (i_andP0 hn hj hre hlo) ?_
      refine gs_if_ne (pc := 249) (tgt := 278) dJ14_resize_249 (by decide) (by omega) (fun hn => absurd rfl hn) (fun _ => ?_)
      rcases o1 with ⟨q1, rfl, rfl⟩ | ⟨P', l, stop, q1, rfl, q3⟩
      · refine gs_ald10 (pc := 252) dJ14_resize_252 ?_
        refine gs_ifnonnull (pc := 254) (tgt := 264) dJ14_resize_254 (by decide) (fun _ h => by cases h) (fun _ => ?_)
        refine gs_ald8 (pc := 257) dJ14_resize_257 ?_
        refine gs_ast9 (pc := 259) dJ14_resize_259 rfl ?_
        refine gs_goto (pc := 261) (tgt := 271) dJ14_resize_261 (by decide) ?_
        refine gs_ald8 (pc := 271) dJ14_resize_271 ?_
        refine gs_ast10 (pc := 273) dJ14_resize_273 rfl ?_
        refine gs_goto (pc := 275) (tgt := 301) dJ14_resize_275 (by decide) ?_
        rw [q1] at k301
        exact k301 _ _ _ _ _ hi (Or.inr ⟨[], e, nxt, rfl, rfl, rfl, nxt, g1, rfl⟩) o2 g2
      · have hlP : l ∈ P.filter (loB n) := by rw [q1]; exact List.mem_append_right _ (List.mem_singleton.mpr rfl)
        have hlm := List.mem_filter.mp hlP
        have hcl := q3.last
        refine gs_ald10 (pc := 252) dJ14_resize_252 ?_
        refine gs_ifnonnull (pc := 254) (tgt := 264) dJ14_resize_254 (by decide) (fun _ _ => ?_) (fun h => by cases h)
        refine gs_ald10 (pc := 264) dJ14_resize_264 ?_
        refine gs_ald8 (pc := 266) dJ14_resize_266 ?_
        refine gs_putf (pc := 268) 3 (ndC 17 l.2.1 l.2.2.1 l.2.2.2 (some e.1) (xt l.1)) dJ14_resize_268 hcl (by omega) clJ22 in_J22 tyJ22 tyJ22_ok nmJ22 (by decide) q1287 (Or.inl rfl) rfl (fok_obj _ _) (Nat.le_of_ble_eq_true rfl) rfl ?_
        refine gs_ald8 (pc := 271) dJ14_resize_271 ?_
        refine gs_ast10 (pc := 273) dJ14_resize_273 rfl ?_
        refine gs_goto (pc := 275) (tgt := 301) dJ14_resize_275 (by decide) ?_
        obtain ⟨w1, w2, w3, w4⟩ := opn.push (e := e) (R := R) (nxt := nxt) hi (nd_filter hndP) q1 (hPL l hlm.1) (P2 := P.filter (hiB n)) (h2 := h2) (t2 := t2) (fun y hy he => by
          have hy := List.mem_filter.mp hy
          have := nd_inj hndP hy.1 hlm.1 he
          subst this
          simp [loB, hiB] at hy hlm
          omega) (fun y hy he => nd_app hnd2 hlm.1 (List.mem_cons_of_mem _ hy) he.symm) (fun he => nd_app hnd2 hlm.1 List.mem_cons_self he.symm) q3 o2 g2 g1
        exact k301 _ _ _ _ _ w1 w2 w3 w4
    · have hf1 : (P ++ [e]).filter (loB n) = P.filter (loB n) := by rw [filter_snoc, if_neg (by simp [loB, hlo]), List.append_nil]
      have hf2 : (P ++ [e]).filter (hiB n) = P.filter (hiB n) ++ [e] := by rw [filter_snoc, if_pos (by simp [hiB, hlo])]
      rw [hf1, hf2] at k301
      have hn0 : 0 < n := by rw [hn]; exact Nat.two_pow_pos j
      refine gs_ald8 (pc := 235) dJ14_resize_235 ?_
      refine gs_getf (pc := 237) 3 dJ14_resize_237 g1 clJ22 in_J22 (by decide) q1287 (Or.inl rfl) rfl ?_
      refine gs_ast13 (pc := 240) dJ14_resize_240 rfl ?_
      refine gs_ald8 (pc := 242) dJ14_resize_242 ?_
      refine gs_getf (pc := 244) 0 dJ14_resize_244 g1 clJ22 in_J22 (by decide) q1269 (Or.inl rfl) rfl ?_
      refine gs_ild2 (pc := 247) dJ14_resize_247 ?_
      refine gs_iand (pc := 248) dJ14_resize_248 (i_andP1 hn hj hre hlo) ?_
      refine gs_if_ne (pc := 249) (tgt := 278) dJ14_resize_249 (by decide) (by have := Nat.pow_le_pow_right (n := 2) (by decide) hj; omega) (fun _ => ?_) (fun hn => absurd hn (by omega))
      rcases o2 with ⟨q1, rfl, rfl⟩ | ⟨P', l, stop, q1, rfl, q3⟩
      · refine gs_ald12 (pc := 278) dJ14_resize_278 ?_
        refine gs_ifnonnull (pc := 280) (tgt := 290) dJ14_resize_280 (by decide) (fun _ h => by cases h) (fun _ => ?_)
        refine gs_ald8 (pc := 283) dJ14_resize_283 ?_
        refine gs_ast11 (pc := 285) dJ14_resize_285 rfl ?_
        refine gs_goto (pc := 287) (tgt := 297) dJ14_resize_287 (by decide) ?_
        refine gs_ald8 (pc := 297) dJ14_resize_297 ?_
        refine gs_ast12 (pc := 299) dJ14_resize_299 rfl ?_
        rw [q1] at k301
        exact k301 _ _ _ _ _ hi o1 (Or.inr ⟨[], e, nxt, rfl, rfl, rfl, nxt, g1, rfl⟩) g2
      · have hlP : l ∈ P.filter (hiB n) := by rw [q1]; exact List.mem_append_right _ (List.mem_singleton.mpr rfl)
        have hlm := List.mem_filter.mp hlP
        have hcl := q3.last
        refine gs_ald12 (pc := 278) dJ14_resize_278 ?_
        refine gs_ifnonnull (pc := 280) (tgt := 290) dJ14_resize_280 (by decide) (fun _ _ => ?_) (fun h => by cases h)
        refine gs_ald12 (pc := 290) dJ14_resize_290 ?_
        refine gs_ald8 (pc := 292) dJ14_resize_292 ?_
        refine gs_putf (pc := 294) 3 (ndC 17 l.2.1 l.2.2.1 l.2.2.2 (some e.1) (xt l.1)) dJ14_resize_294 hcl (by omega) clJ22 in_J22 tyJ22 tyJ22_ok nmJ22 (by decide) q1287 (Or.inl rfl) rfl (fok_obj _ _) (Nat.le_of_ble_eq_true rfl) rfl ?_
        refine gs_ald8 (pc := 297) dJ14_resize_297 ?_
        refine gs_ast12 (pc := 299) dJ14_resize_299 rfl ?_
        obtain ⟨w1, w2, w3, w4⟩ := opn.push (e := e) (R := R) (nxt := nxt) hi (nd_filter hndP) q1 (hPL l hlm.1) (P2 := P.filter (loB n)) (h2 := h1) (t2 := t1) (fun y hy he => by
          have hy := List.mem_filter.mp hy
          have := nd_inj hndP hy.1 hlm.1 he
          subst this
          simp [loB, hiB] at hy hlm
          omega) (fun y hy he => nd_app hnd2 hlm.1 (List.mem_cons_of_mem _ hy) he.symm) (fun he => nd_app hnd2 hlm.1 List.mem_cons_self he.symm) q3 o1 g2 g1
        exact k301 _ _ _ _ _ w1 w3 w2 w4
end HM3
