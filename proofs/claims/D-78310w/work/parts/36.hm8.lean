/-! CONTRACTS: HashMap, part 8: putVal, put. -/
section HM8
variable {X : gCx} {hp : gHp}
/-- how much a map may have grown -/
def hmG (hp hp' : gHp) (len n n' : Nat) : Prop := n ≤ n' ∧ n' ≤ max n (max 64 (3 * (len + 1))) ∧ hp'.1 ≤ hp.1 + 1 + (n' - n) ∧ hp'.2.1 ≤ hp.2.1 + 6 + 2 * (n' - n)
theorem putE_some {es : List Nd} {k : Int} {q w a : Nat} (h : (fk es k).isSome) : putE es k q w a = es.map (fun x => if x.2.1 = k then (x.1, x.2.1, x.2.2.1, w) else x) := if_pos h
theorem putE_none {es : List Nd} {k : Int} {q w a : Nat} (h : fk es k = none) : putE es k q w a = es ++ [(a, k, q, w)] := if_neg (by rw [h]; simp)
def upE (k : Int) (w : Nat) (x : Nd) : Nd := if x.2.1 = k then (x.1, x.2.1, x.2.2.1, w) else x
theorem upE1 {k : Int} {w : Nat} {x : Nd} : (upE k w x).1 = x.1 ∧ (upE k w x).2.1 = x.2.1 ∧ (upE k w x).2.2.1 = x.2.2.1 := by
  unfold upE; by_cases h : x.2.1 = k
  · rw [if_pos h]; exact ⟨rfl, rfl, rfl⟩
  · rw [if_neg h]; exact ⟨rfl, rfl, rfl⟩
theorem rs_up {n i : Nat} {es : List Nd} {k : Int} {w : Nat} : rs n (es.map (upE k w)) i = (rs n es i).map (upE k w) := by
  unfold rs
  rw [List.filter_map]
  congr 1
  congr 1
  funext x
  show decide ((upE k w x).2.1.toNat % n = i) = _
  rw [upE1.2.1]
theorem seg.up {lb nc : Nat} {xt : Nat → List AV} {hp1 : gHp} {k : Int} {w : Nat} : ∀ {L : List Nd} {h stop : Option Nat}, (∀ nd ∈ L, ∀ nxt, gl X hp nd.1 = some (lb, ndC nc nd.2.1 nd.2.2.1 nd.2.2.2 nxt (xt nd.1)) → gl X hp1 nd.1 = some (lb, ndC nc nd.2.1 nd.2.2.1 (upE k w nd).2.2.2 nxt (xt nd.1))) → seg X hp lb nc xt h L stop → seg X hp1 lb nc xt h (L.map (upE k w)) stop := by
  intro L
  induction L with
  | nil => intro h stop _ hs; exact hs
  | cons nd L ih =>
    intro h stop hk hs
    obtain ⟨e1, nxt, e2, e3⟩ := hs
    refine ⟨by rw [upE1.1]; exact e1, nxt, ?_, ih (fun x hx => hk x (List.mem_cons_of_mem _ hx)) e3⟩
    have := hk nd List.mem_cons_self nxt e2
    rw [upE1.1, upE1.2.1, upE1.2.2]; exact this
theorem key_inj : ∀ {L : List Nd}, (L.map (fun nd => nd.2.1)).Nodup → ∀ {x y : Nd}, x ∈ L → y ∈ L → x.2.1 = y.2.1 → x = y := by
  intro L
  induction L with
  | nil => intro _ x y hx; cases hx
  | cons z L ih =>
    intro h x y hx hy he
    rw [List.map_cons, List.nodup_cons] at h
    rcases List.mem_cons.mp hx with rfl | hx2
    · rcases List.mem_cons.mp hy with rfl | hy
      · rfl
      · exact absurd (List.mem_map.mpr ⟨y, hy, he.symm⟩) h.1
    · rcases List.mem_cons.mp hy with rfl | hy2
      · exact absurd (List.mem_map.mpr ⟨x, hx2, he⟩ : y.2.1 ∈ L.map (fun nd => nd.2.1)) h.1
      · exact ih h.2 hx2 hy2 he
theorem c_putVal {kd : Bool} {m q w n : Nat} {ks : Option Nat} {ext : List AV} {xt : Nat → List AV} {es : List Nd} {k : Int} (hm : isHM X hp 12 15 kd m ks ext xt n es) (hx : lx14 (es.map (fun nd => nd.1)) ext xt) (hq : isKey X hp kd q k) (hn : n ≤ 8192) (h7 : 64 ≤ n → ∀ nd ∈ es, nd.2.1 < 7 * (n : Int)) : MV X yJ14_putVal fJ14_putVal 5 [vR (some m), vI k, vR (some q), vR (some w), vI 0, vI 1] hp (fun v hp' => v = vR ((fk es k).map (fun nd => nd.2.2.2)) ∧ Fr X (fun l => l = m + 2) hp hp' ∧ ∃ ext' xt' n' a, hmG hp hp' es.length n n' ∧ isHM X hp' 12 15 kd m ks ext' xt' n' (putE es k q w a) ∧ lx14 ((putE es k q w a).map (fun nd => nd.1)) ext' xt') := by
  have hkn := hm.2.1
  have hkk := hm.2.2.1
  have hr := hq.rng
  obtain ⟨tb0, hmr⟩ := isHM_toR hm
  have hlen : n = 0 ∧ es = [] ∨ 16 ≤ n ∧ (es.length : Int) ≤ 3 * n / 4 := by
    obtain ⟨-, -, -, vs, tb, eset, mc, th, lf, e1, e2⟩ := hm
    rcases e2 with ⟨q1, -, -, q2⟩ | ⟨j, ta, t, q1, q2, q3, q4, q4b, q4c, q5, q6⟩
    · exact Or.inl ⟨q1, q2⟩
    · have := pow14 q1 ⟨q2, q3⟩
      exact Or.inr ⟨this.1, by omega⟩
  clear hm
  refine MC.of pfJ14_putVal rfl (fun h => by cases h) 7 rfl rfl ?_
  -- behind the insertion
  have k259 : fk es k = none → ∀ (hp2 : gHp) (n2 a : Nat) (tb : Option Nat) (ext' : List AV) (xt' : Nat → List AV) (L6 L7 L8 L9 L10 L11 L12 : Option AV), Fr X (fun l => l = m + 2) hp hp2 → hmR X hp2 12 15 m ks ext' xt' n2 (es ++ [(a, k, q, w)]) es.length tb → lx14 (es.map (fun nd => nd.1) ++ [a]) ext' xt' → n ≤ n2 → 16 ≤ n2 → n2 ≤ max n 64 → (es.length : Int) ≤ 3 * n2 / 4 → hp2.1 ≤ hp.1 + 1 + (n2 - n) → hp2.2.1 ≤ hp.2.1 + 6 + 2 * (n2 - n) → G X fJ14_putVal 5 259 [some (vR (some m)), some (vI k), some (vR (some q)), some (vR (some w)), some (vI 0), some (vI 1), L6, L7, L8, L9, L10, L11, L12] [] hp2 (fun r hp' => ∃ v, r = some v ∧ v = vR ((fk es k).map (fun nd => nd.2.2.2)) ∧ Fr X (fun l => l = m + 2) hp hp' ∧ ∃ ext' xt' n' a, hmG hp hp' es.length n n' ∧ isHM X hp' 12 15 kd m ks ext' xt' n' (putE es k q w a) ∧ lx14 ((putE es k q w a).map (fun nd => nd.1)) ext' xt') := by
    intro hfn hp2 n2 a tb ext' xt' L6 L7 L8 L9 L10 L11 L12 hF hR hlx b1 b1b b2 b3 b4 b5
    have hcell := fun x => hR.cell (nd := x)
    obtain ⟨g1, g2, vs, eset, mc, th, lf, e1, e2⟩ := hR
    rcases e2 with ⟨-, -, -, h⟩ | ⟨j, ta, t, q1, q2, q3, q4, rfl, q5, q6⟩
    · simp at h
    have hb2 := pow14 q1 ⟨q2, q3⟩
    have hta : ta ≠ m := by intro h; subst h; rw [e1] at q5; cases q5
    have hxm : ∀ x ∈ es ++ [(a, k, q, w)], x.1 ≠ m := fun x hx h => by obtain ⟨nxt, hg⟩ := hcell x hx; rw [h, e1] at hg; cases hg
    refine gs_ald0 (pc := 259) dJ14_putVal_259 ?_
    refine gs_dup (pc := 260) dJ14_putVal_260 rfl ?_
    refine gs_getf (pc := 261) 5 dJ14_putVal_261 e1 clJ14 in_J14 (by decide) q805 (Or.inl rfl) rfl ?_
    refine gs_iconst (pc := 264) dJ14_putVal_264 ?_
    refine gs_iadd (pc := 265) dJ14_putVal_265 ?_
    refine gs_putf (pc := 266) 5 (hmC 12 ks vs (some ta) eset es.length (mc + 1) th lf ext') dJ14_putVal_266 e1 (by omega) clJ14 in_J14 tyJ14 tyJ14_ok nmJ14 (by decide) q805 (Or.inl rfl) rfl (fok_int _) (Nat.le_of_ble_eq_true rfl) rfl ?_
    have w1 := gl_set_self (c := (m + 2, hmC 12 ks vs (some ta) eset es.length (mc + 1) th lf ext')) e1 (by omega)
    have w2 : ∀ b, b ≠ m → gl X (hset hp2 m (m + 2, hmC 12 ks vs (some ta) eset es.length (mc + 1) th lf ext')) b = gl X hp2 b := fun b h => gl_set_ne h
    have hF3 : Fr X (fun l => l = m + 2) hp (hset hp2 m (m + 2, hmC 12 ks vs (some ta) eset es.length (mc + 1) th lf ext')) := hF.set e1 (by omega) rfl ⟨rfl, rfl⟩
    generalize hh : hset hp2 m (m + 2, hmC 12 ks vs (some ta) eset es.length (mc + 1) th lf ext') = hp3 at w1 w2 hF3 ⊢
    have hc1 : hp3.1 = hp2.1 := by rw [← hh]; rfl
    have hc2 : hp3.2.1 = hp2.2.1 := by rw [← hh]; rfl
    refine gs_ald0 (pc := 269) dJ14_putVal_269 ?_
    refine gs_dup (pc := 270) dJ14_putVal_270 rfl ?_
    refine gs_getf (pc := 271) 4 dJ14_putVal_271 w1 clJ14 in_J14 (by decide) q800 (Or.inl rfl) rfl ?_
    refine gs_iconst (pc := 274) dJ14_putVal_274 ?_
    refine gs_iadd (pc := 275) dJ14_putVal_275 ?_
    refine gs_dup_x1 (pc := 276) dJ14_putVal_276 rfl rfl ?_
    refine gs_putf (pc := 277) 4 (hmC 12 ks vs (some ta) eset ((es.length : Int) + 1) (mc + 1) th lf ext') dJ14_putVal_277 w1 (by omega) clJ14 in_J14 tyJ14 tyJ14_ok nmJ14 (by decide) q800 (Or.inl rfl) rfl (fok_int _) (Nat.le_of_ble_eq_true rfl) rfl ?_
    have w3 := gl_set_self (c := (m + 2, hmC 12 ks vs (some ta) eset ((es.length : Int) + 1) (mc + 1) th lf ext')) w1 (by omega)
    have w4 : ∀ b, b ≠ m → gl X (hset hp3 m (m + 2, hmC 12 ks vs (some ta) eset ((es.length : Int) + 1) (mc + 1) th lf ext')) b = gl X hp2 b := fun b h => by rw [gl_set_ne h, w2 b h]
    have hF4 : Fr X (fun l => l = m + 2) hp (hset hp3 m (m + 2, hmC 12 ks vs (some ta) eset ((es.length : Int) + 1) (mc + 1) th lf ext')) := hF3.set w1 (by omega) rfl ⟨rfl, rfl⟩
    generalize hh4 : hset hp3 m (m + 2, hmC 12 ks vs (some ta) eset ((es.length : Int) + 1) (mc + 1) th lf ext') = hp4 at w3 w4 hF4 ⊢
    have hc3 : hp4.1 = hp3.1 := by rw [← hh4]; rfl
    have hc4 : hp4.2.1 = hp3.2.1 := by rw [← hh4]; rfl
    have hR4 : hmR X hp4 12 15 m ks ext' xt' n2 (es ++ [(a, k, q, w)]) ((es.length : Int) + 1) (some ta) := ⟨g1, g2, vs, eset, mc + 1, th, lf, w3, Or.inr ⟨j, ta, t, q1, q2, q3, q4, rfl, by rw [w4 ta hta]; exact q5, fun i hi => (q6 i hi).mono (fun x hx => w4 _ (hxm x (mem_rs hx).1))⟩⟩
    have hend : ∀ (hp5 : gHp) (n5 : Nat) (tb5 : Option Nat), Fr X (fun l => l = m + 2) hp hp5 → hmR X hp5 12 15 m ks ext' xt' n5 (es ++ [(a, k, q, w)]) ((es.length : Int) + 1) tb5 → hmG hp hp5 es.length n n5 → ((es.length : Int) + 1 ≤ 3 * n5 / 4) → G X fJ14_putVal 5 292 [some (vR (some m)), some (vI k), some (vR (some q)), some (vR (some w)), some (vI 0), some (vI 1), L6, L7, L8, L9, L10, L11, L12] [] hp5 (fun r hp' => ∃ v, r = some v ∧ v = vR ((fk es k).map (fun nd => nd.2.2.2)) ∧ Fr X (fun l => l = m + 2) hp hp' ∧ ∃ ext' xt' n' a, hmG hp hp' es.length n n' ∧ isHM X hp' 12 15 kd m ks ext' xt' n' (putE es k q w a) ∧ lx14 ((putE es k q w a).map (fun nd => nd.1)) ext' xt') := by
      intro hp5 n5 tb5 yF hR5 yG yl
      have hfin : isHM X hp5 12 15 kd m ks ext' xt' n5 (putE es k q w a) := by
        rw [putE_none hfn]
        obtain ⟨u1, u2, vs, eset, mc, th, lf, u3, u4⟩ := hR5
        refine ⟨u1, ?_, fun x hx => ?_, vs, tb5, eset, mc, th, lf, by rw [List.length_append, List.length_singleton]; exact u3, ?_⟩
        · rw [List.map_append]
          refine nodup_snoc hkn (fun h => ?_)
          obtain ⟨x, hx, he⟩ := List.mem_map.mp h
          exact fk_none hfn x hx he
        · rcases List.mem_append.mp hx with h | h
          · exact (hkk x h).fr yF (fun l hl => by omega)
          · rw [List.mem_singleton.mp h]; exact hq.fr yF (fun l hl => by omega)
        · rcases u4 with ⟨-, -, -, h⟩ | ⟨j, ta, t, q1, q2, q3, q4, q4c, q5, q6⟩
          · simp at h
          · exact Or.inr ⟨j, ta, t, q1, q2, q3, q4, by rw [List.length_append, List.length_singleton, q4]; omega, q4c, q5, q6⟩
      have hlx' : lx14 ((putE es k q w a).map (fun nd => nd.1)) ext' xt' := by rw [putE_none hfn, List.map_append]; exact hlx
      obtain ⟨u1, u2, vs, eset, mc, th, lf, u3, u4⟩ := hR5
      have hlx1 := hlx.1
      rw [hlx1] at u3
      refine gs_ald0 (pc := 292) dJ14_putVal_292 ?_
      refine gs_ild5 (pc := 293) dJ14_putVal_293 ?_
      refine gs_V1v (pc := 295) dJ14_putVal_295 kJ14_205 u3 clJ14 (by decide) (Nat.le_of_ble_eq_true rfl) (c_anI) (fun hp6 hq => ?_)
      obtain ⟨rfl⟩ := hq
      refine gs_null (pc := 298) dJ14_putVal_298 ?_
      refine gs_aret (pc := 299) dJ14_putVal_299 rfl (Or.inl ⟨_, rfl⟩) ?_
      exact ⟨_, rfl, by rw [hfn]; rfl, yF, ext', xt', n5, a, yG, hfin, hlx'⟩
    refine gs_ald0 (pc := 280) dJ14_putVal_280 ?_
    refine gs_getf (pc := 281) 6 dJ14_putVal_281 w3 clJ14 in_J14 (by decide) q806 (Or.inl rfl) rfl ?_
    refine gs_ic_le (pc := 284) (tgt := 292) dJ14_putVal_284 (by decide) (by omega) (fun hc => ?_) (fun hc => ?_)
    · refine hend hp4 n2 _ hF4 hR4 ⟨b1, by omega, by omega, by omega⟩ (by omega)
    · have hnn : nn n2 = 2 * n2 := if_neg (by omega)
      have h34 : n2 % 4 = 0 := by
        obtain ⟨i, rfl⟩ : ∃ i, j = i + 2 := ⟨j - 2, by omega⟩
        rw [q1, Nat.pow_add]; omega
      refine gs_ald0 (pc := 287) dJ14_putVal_287 ?_
      refine gs_V0 (pc := 288) dJ14_putVal_288 kJ14_117 w3 clJ14 (by decide) (Nat.le_of_ble_eq_true rfl) (c_resize hR4 (by omega)) (fun v hp5 hq => ?_)
      obtain ⟨z1, z2, z3, ta5, rfl, z4⟩ := hq
      refine gs_pop (pc := 291) dJ14_putVal_291 rfl ?_
      rw [hnn] at z3 z4
      refine hend hp5 (2 * n2) _ (hF4.trans z1) z4 ⟨by omega, by omega, by omega, by omega⟩ (by omega)
  -- the key was there
  have k222 : ∀ nd ∈ es, nd.2.1 = k → ∀ (hp1 : gHp) (n1 : Nat) (tb kb : Option Nat) (L6 L7 L8 L9 L12 : Option AV), hmR X hp1 12 15 m ks ext xt n1 es es.length tb → Fr X (fun l => l = m + 2) hp hp1 → n1 = n → hp1.1 = hp.1 → hp1.2.1 = hp.2.1 → G X fJ14_putVal 5 222 [some (vR (some m)), some (vI k), some (vR (some q)), some (vR (some w)), some (vI 0), some (vI 1), L6, L7, L8, L9, some (vR (some nd.1)), some (vR kb), L12] [] hp1 (fun r hp' => ∃ v, r = some v ∧ v = vR ((fk es k).map (fun nd => nd.2.2.2)) ∧ Fr X (fun l => l = m + 2) hp hp' ∧ ∃ ext' xt' n' a, hmG hp hp' es.length n n' ∧ isHM X hp' 12 15 kd m ks ext' xt' n' (putE es k q w a) ∧ lx14 ((putE es k q w a).map (fun nd => nd.1)) ext' xt') := by
    intro nd hnd hndk hp1 n1 tb kb L6 L7 L8 L9 L12 hR hF b1 b2 b3
    subst b1
    have hfk : fk es k = some nd := by
      cases hf : fk es k with
      | none => exact absurd hndk (fk_none hf nd hnd)
      | some x =>
        have := fk_mem hf
        rw [key_inj hkn this.1 hnd (this.2.trans hndk.symm)]
    obtain ⟨nxt, hg⟩ := hR.cell hnd
    have hcell := fun x => hR.cell (nd := x)
    obtain ⟨g1, g2, vs, eset, mc, th, lf, e1, e2⟩ := hR
    have hndm : nd.1 ≠ m := by intro h; rw [h, e1] at hg; cases hg
    refine gs_ald10 (pc := 222) dJ14_putVal_222 ?_
    refine gs_ifnull (pc := 224) (tgt := 259) dJ14_putVal_224 (by decide) (fun h => by cases h) (fun _ _ => ?_)
    refine gs_ald10 (pc := 227) dJ14_putVal_227 ?_
    refine gs_getf (pc := 229) 2 dJ14_putVal_229 hg clJ21 in_J21 (by decide) q1280 (Or.inl rfl) rfl ?_
    refine gs_ast12 (pc := 232) dJ14_putVal_232 rfl ?_
    refine gs_ild4 (pc := 234) dJ14_putVal_234 ?_
    refine gs_if_eq (pc := 236) (tgt := 244) dJ14_putVal_236 (by decide) (by omega) (fun _ => ?_) (fun hn => absurd rfl hn)
    refine gs_ald10 (pc := 244) dJ14_putVal_244 ?_
    refine gs_ald3 (pc := 246) dJ14_putVal_246 ?_
    refine gs_putf (pc := 247) 2 (ndC 15 nd.2.1 nd.2.2.1 w nxt (xt nd.1)) dJ14_putVal_247 hg (by omega) clJ21 in_J21 tyJ21 tyJ21_ok nmJ21 (by decide) q1280 (Or.inl rfl) rfl (fok_obj _ _) (Nat.le_of_ble_eq_true rfl) rfl ?_
    have w1 := gl_set_self (c := (m + 2, ndC 15 nd.2.1 nd.2.2.1 w nxt (xt nd.1))) hg (by omega)
    have w2 : ∀ b, b ≠ nd.1 → gl X (hset hp1 nd.1 (m + 2, ndC 15 nd.2.1 nd.2.2.1 w nxt (xt nd.1))) b = gl X hp1 b := fun b h => gl_set_ne h
    have hF3 : Fr X (fun l => l = m + 2) hp (hset hp1 nd.1 (m + 2, ndC 15 nd.2.1 nd.2.2.1 w nxt (xt nd.1))) := hF.set hg (by omega) rfl ⟨rfl, rfl⟩
    generalize hh : hset hp1 nd.1 (m + 2, ndC 15 nd.2.1 nd.2.2.1 w nxt (xt nd.1)) = hp3 at w1 w2 hF3 ⊢
    have hc1 : hp3.1 = hp1.1 := by rw [← hh]; rfl
    have hc2 : hp3.2.1 = hp1.2.1 := by rw [← hh]; rfl
    have e1' := e1
    rw [← w2 m (Ne.symm hndm)] at e1'
    have hlx1 := hx.1
    have hpe : ∀ a, putE es k q w a = es.map (upE k w) := fun a => putE_some (by rw [hfk]; rfl)
    have hmp : (es.map (upE k w)).map (fun nd => nd.1) = es.map (fun nd => nd.1) := by rw [List.map_map]; exact List.map_congr_left (fun x _ => upE1.1)
    have hmp2 : (es.map (upE k w)).map (fun nd => nd.2.1) = es.map (fun nd => nd.2.1) := by rw [List.map_map]; exact List.map_congr_left (fun x _ => upE1.2.1)
    have hfin : isHM X hp3 12 15 kd m ks ext xt n1 (es.map (upE k w)) := by
      refine ⟨by rw [hmp]; exact g1, by rw [hmp2]; exact hkn, fun x hx => ?_, vs, tb, eset, mc, th, lf, by rw [List.length_map]; exact e1', ?_⟩
      · obtain ⟨y, hy, rfl⟩ := List.mem_map.mp hx
        rw [upE1.2.1, upE1.2.2]
        exact (hkk y hy).fr hF3 (fun l hl => by omega)
      · rcases e2 with ⟨u1, u2, u3, u4⟩ | ⟨j, ta, t, q1, q2, q3, q4, q4c, q5, q6⟩
        · rw [u4] at hnd; cases hnd
        · have hb2 := pow14 q1 ⟨q2, q3⟩
          refine Or.inr ⟨j, ta, t, q1, q2, q3, q4, by rw [List.length_map, q4]; omega, q4c, ?_, fun i hi => ?_⟩
          · rw [w2 ta (by intro h; rw [← h, q5] at hg; cases hg)]; exact q5
          · rw [rs_up]
            refine (q6 i hi).up (fun x hx nxt' hgx => ?_)
            by_cases hxn : x.2.1 = k
            · have hxe := (mem_rs hx).1
              have := key_inj hkn hxe hnd (hxn.trans hndk.symm)
              subst this
              rw [hg] at hgx
              simp only [ndC, Option.some.injEq, Prod.mk.injEq, Sum.inr.injEq, true_and, List.cons_append, List.nil_append, List.cons.injEq, Sum.inl.injEq, and_true] at hgx
              subst hgx
              rw [w1, show (upE k w x).2.2.2 = w by unfold upE; rw [if_pos hxn]]
            · have hne : x.1 ≠ nd.1 := fun h => by
                rw [nd_inj g1 (mem_rs hx).1 hnd h] at hxn
                exact hxn hndk
              rw [w2 _ hne, show (upE k w x) = x by unfold upE; rw [if_neg hxn]]
              exact hgx
    rw [hlx1] at e1'
    refine gs_ald0 (pc := 250) dJ14_putVal_250 ?_
    refine gs_ald10 (pc := 251) dJ14_putVal_251 ?_
    refine gs_V1v (pc := 253) dJ14_putVal_253 kJ14_198 e1' clJ14 (by decide) (Nat.le_of_ble_eq_true rfl) (c_anA) (fun hp4 hq => ?_)
    obtain ⟨rfl⟩ := hq
    refine gs_ald12 (pc := 256) dJ14_putVal_256 ?_
    refine gs_aret (pc := 258) dJ14_putVal_258 rfl (Or.inl ⟨_, rfl⟩) ?_
    refine ⟨_, rfl, by rw [hfk]; rfl, hF3, ext, xt, n1, 0, ⟨by omega, by omega, by omega, by omega⟩, by rw [hpe]; exact hfin, by rw [hpe, hmp]; exact hx⟩
  have k29 : ∀ (hp1 : gHp) (n1 ta : Nat), hmR X hp1 12 15 m ks ext xt n1 es es.length (some ta) → Fr X (fun l => l = m + 2) hp hp1 → (n1 = n ∧ hp1.1 = hp.1 ∧ hp1.2.1 = hp.2.1 ∨ n = 0 ∧ n1 = 16 ∧ es = [] ∧ hp1.1 = hp.1 + 1 ∧ hp1.2.1 = hp.2.1 + 16) → G X fJ14_putVal 5 29 [some (vR (some m)), some (vI k), some (vR (some q)), some (vR (some w)), some (vI 0), some (vI 1), some (vR (some ta)), none, some (vI (n1 : Int)), none, none, none, none] [] hp1 (fun r hp' => ∃ v, r = some v ∧ v = vR ((fk es k).map (fun nd => nd.2.2.2)) ∧ Fr X (fun l => l = m + 2) hp hp' ∧ ∃ ext' xt' n' a, hmG hp hp' es.length n n' ∧ isHM X hp' 12 15 kd m ks ext' xt' n' (putE es k q w a) ∧ lx14 ((putE es k q w a).map (fun nd => nd.1)) ext' xt') := by
    intro hp1 n1 ta hR hF hcs
    have hR' := hR
    have hcell := fun x => hR.cell (nd := x)
    obtain ⟨g1, g2, vs, eset, mc, th, lf, e1, e2⟩ := hR
    rcases e2 with ⟨-, h, -⟩ | ⟨j, ta', t, q1, q2, q3, q4, q4c, q5, q6⟩
    · cases h
    cases q4c
    have hb1 := pow14 q1 ⟨q2, q3⟩
    have hl1 : (es.length : Int) ≤ 3 * n1 / 4 := by
      rcases hcs with ⟨rfl, -⟩ | ⟨-, rfl, rfl, -⟩
      · rcases hlen with ⟨rfl, rfl⟩ | ⟨-, h⟩
        · simp
        · exact h
      · simp
    have hi : k.toNat % n1 < n1 := Nat.mod_lt _ (by omega)
    have hq1 : isKey X hp1 kd q k := hq.fr hF (fun l hl => by omega)
    have hkk1 : ∀ nd ∈ es, isKey X hp1 kd nd.2.2.1 nd.2.1 := fun nd h => (hkk nd h).fr hF (fun l hl => by omega)
    have hfx : ∀ x ∈ es, x.1 ≠ nx X hp1 := fun x hx h => by obtain ⟨nxt, hg⟩ := hcell x hx; have := gl_lt hg; omega
    have hfk : fk (rs n1 es (k.toNat % n1)) k = fk es k := fk_rs
    refine gs_ald6 (pc := 29) dJ14_putVal_29 ?_
    refine gs_ild8 (pc := 31) dJ14_putVal_31 ?_
    refine gs_iconst (pc := 33) dJ14_putVal_33 ?_
    refine gs_isub (pc := 34) dJ14_putVal_34 ?_
    refine gs_ild1 (pc := 35) dJ14_putVal_35 ?_
    refine gs_iand (pc := 36) dJ14_putVal_36 (i_andN q1 ⟨q2, q3⟩ hr) ?_
    refine gs_dup (pc := 37) dJ14_putVal_37 rfl ?_
    refine gs_ist9 (pc := 38) dJ14_putVal_38 rfl ?_
    refine gs_aald (pc := 40) 4 (by decide) dJ14_putVal_40 q5 (by omega) (by omega) ?_
    refine gs_dup (pc := 41) dJ14_putVal_41 rfl ?_
    refine gs_ast7 (pc := 42) dJ14_putVal_42 rfl ?_
    have hseg := q6 _ hi
    have hLm : ∀ x ∈ rs n1 es (k.toNat % n1), x ∈ es := fun x hx => (mem_rs hx).1
    generalize t ((k.toNat % n1 : Nat) : Int) = h0 at hseg ⊢
    generalize hLL : rs n1 es (k.toNat % n1) = LL at hseg hfk hLm
    cases LL with
    | nil =>
      have hseg : h0 = none := hseg
      subst hseg
      have hfn : fk es k = none := hfk.symm
      refine gs_ifnonnull (pc := 44) (tgt := 63) dJ14_putVal_44 (by decide) (fun _ h => by cases h) (fun _ => ?_)
      refine gs_ald6 (pc := 47) dJ14_putVal_47 ?_
      refine gs_ild9 (pc := 49) dJ14_putVal_49 ?_
      refine gs_ald0 (pc := 51) dJ14_putVal_51 ?_
      refine gs_ild1 (pc := 52) dJ14_putVal_52 ?_
      refine gs_ald2 (pc := 53) dJ14_putVal_53 ?_
      refine gs_ald3 (pc := 54) dJ14_putVal_54 ?_
      refine gs_null (pc := 55) dJ14_putVal_55 ?_
      refine gs_V4 (pc := 56) dJ14_putVal_56 kJ14_186 e1 clJ14 (by decide) (Nat.le_of_ble_eq_true rfl) (c_nn hR' hx) (fun v hp2 hq => ?_)
      obtain ⟨rfl, y1, y2, y3, ext', xt', y4, y5, y6⟩ := hq
      have y4' := y4
      obtain ⟨f1, f2, vs2, eset2, mc2, th2, lf2, u1, u2⟩ := y4
      rcases u2 with ⟨-, h, -⟩ | ⟨j2, ta2, t2, p1, p2, p3, p4, p4c, p5, p6⟩
      · cases h
      cases p4c
      refine gs_aast (pc := 59) 4 (by decide) rfl dJ14_putVal_59 p5 (by omega) ⟨_, _, _, _, _, _, y6, clJ21, (Or.inl rfl)⟩ (by omega) (by omega) ?_
      refine gs_goto (pc := 60) (tgt := 259) dJ14_putVal_60 (by decide) ?_
      have hR5 := hmR_linkE (nd := (nx X hp1, k, q, w)) y4' y6 hfx hr p5 hLL
      have yF5 := (hF.trans y1).set (c := .inl (4, n1, .inr (fup t2 ((k.toNat % n1 : Nat) : Int) (some (nx X hp1))))) p5 (by omega) rfl ⟨rfl, rfl, rfl⟩
      refine k259 hfn _ n1 (nx X hp1) _ ext' xt' _ _ _ _ _ _ _ yF5 hR5 y5 (by omega) hb1.1 (by omega) hl1 ?_ ?_
      · show hp2.1 ≤ _
        omega
      · show hp2.2.1 ≤ _
        omega
    | cons nd LL =>
      have hn0 : n1 = n ∧ hp1.1 = hp.1 ∧ hp1.2.1 = hp.2.1 := by
        rcases hcs with h | ⟨-, -, rfl, -⟩
        · exact h
        · cases hLm nd List.mem_cons_self
      have hne := hLm nd List.mem_cons_self
      obtain ⟨rfl, nxt, c1, c2⟩ := hseg
      have hloop : ∀ (R A : List Nd) (p : Nd) (nxt : Option Nat) (L10 : Option AV), nd :: LL = A ++ p :: R → (∀ x ∈ A ++ [p], x.2.1 ≠ k) → gl X hp1 p.1 = some (m + 2, ndC 15 p.2.1 p.2.2.1 p.2.2.2 nxt (xt p.1)) → seg X hp1 (m + 2) 15 xt nxt R none → G X fJ14_putVal 5 134 [some (vR (some m)), some (vI k), some (vR (some q)), some (vR (some w)), some (vI 0), some (vI 1), some (vR (some ta)), some (vR (some p.1)), some (vI (n1 : Int)), some (vI ((k.toNat % n1 : Nat) : Int)), L10, none, some (vI (A.length : Int))] [] hp1 (fun r hp' => ∃ v, r = some v ∧ v = vR ((fk es k).map (fun nd => nd.2.2.2)) ∧ Fr X (fun l => l = m + 2) hp hp' ∧ ∃ ext' xt' n' a, hmG hp hp' es.length n n' ∧ isHM X hp' 12 15 kd m ks ext' xt' n' (putE es k q w a) ∧ lx14 ((putE es k q w a).map (fun nd => nd.1)) ext' xt') := by
        intro R
        induction R with
        | nil =>
          intro A p nxt L10 hA hAk hcp hs
          have hs : nxt = none := hs
          subst hs
          have hfn : fk es k = none := by
            rw [← hfk]
            cases hf : fk (nd :: LL) k with
            | none => rfl
            | some x =>
              have h1 := fk_mem hf
              rw [hA] at h1
              exact absurd h1.2 (hAk x h1.1)
          refine gs_ald7 (pc := 134) dJ14_putVal_134 ?_
          refine gs_getf (pc := 136) 3 dJ14_putVal_136 hcp clJ21 in_J21 (by decide) q1287 (Or.inl rfl) rfl ?_
          refine gs_dup (pc := 139) dJ14_putVal_139 rfl ?_
          refine gs_ast10 (pc := 140) dJ14_putVal_140 rfl ?_
          refine gs_ifnonnull (pc := 142) (tgt := 175) dJ14_putVal_142 (by decide) (fun _ h => by cases h) (fun _ => ?_)
          refine gs_ald7 (pc := 145) dJ14_putVal_145 ?_
          refine gs_ald0 (pc := 147) dJ14_putVal_147 ?_
          refine gs_ild1 (pc := 148) dJ14_putVal_148 ?_
          refine gs_ald2 (pc := 149) dJ14_putVal_149 ?_
          refine gs_ald3 (pc := 150) dJ14_putVal_150 ?_
          refine gs_null (pc := 151) dJ14_putVal_151 ?_
          refine gs_V4 (pc := 152) dJ14_putVal_152 kJ14_186 e1 clJ14 (by decide) (Nat.le_of_ble_eq_true rfl) (c_nn hR' hx) (fun v hp2 hq => ?_)
          obtain ⟨rfl, y1, y2, y3, ext', xt', y4, y5, y6⟩ := hq
          obtain ⟨hcp2, hR5⟩ := hmR_linkP (nd := (nx X hp1, k, q, w)) (A := A) (p := p) y4 y6 hfx hr (by rw [hLL, hA])
          have u1 := y4.2.2.choose_spec.choose_spec.choose_spec.choose_spec.choose_spec.1
          have yF5 := (hF.trans y1).set (c := ndC 15 p.2.1 p.2.2.1 p.2.2.2 (some (nx X hp1)) (xt' p.1)) hcp2 (by omega) rfl ⟨rfl, rfl⟩
          refine gs_putf (pc := 155) 3 (ndC 15 p.2.1 p.2.2.1 p.2.2.2 (some (nx X hp1)) (xt' p.1)) dJ14_putVal_155 hcp2 (by omega) clJ21 in_J21 tyJ21 tyJ21_ok nmJ21 (by decide) q1287 (Or.inl rfl) rfl (fok_obj _ _) (Nat.le_of_ble_eq_true rfl) rfl ?_
          generalize hh5 : hset hp2 p.1 (m + 2, ndC 15 p.2.1 p.2.2.1 p.2.2.2 (some (nx X hp1)) (xt' p.1)) = hp5 at hR5 yF5 ⊢
          have hc5 : hp5.1 = hp2.1 := by rw [← hh5]; rfl
          have hc6 : hp5.2.1 = hp2.2.1 := by rw [← hh5]; rfl
          have hAl : A.length ≤ 100000 := by
            have h1 : (nd :: LL).length = A.length + 1 := by rw [hA, List.length_append]; rfl
            have h2 : (rs n1 es (k.toNat % n1)).length ≤ es.length := List.length_filter_le _ _
            rw [hLL] at h2
            omega
          refine gs_ild12 (pc := 158) dJ14_putVal_158 ?_
          refine gs_bipush (pc := 160) dJ14_putVal_160 rfl ?_
          refine gs_ic_lt (pc := 162) (tgt := 222) dJ14_putVal_162 (by decide) (by omega) (fun hb => ?_) (fun hb => ?_)
          · refine gs_ald10 (pc := 222) dJ14_putVal_222 ?_
            refine gs_ifnull (pc := 224) (tgt := 259) dJ14_putVal_224 (by decide) (fun _ => ?_) (fun _ h => by cases h)
            refine k259 hfn _ n1 (nx X hp1) _ ext' xt' _ _ _ _ _ _ _ yF5 hR5 y5 (by omega) hb1.1 (by omega) hl1 (by omega) (by omega)
          · have hn64 : n1 < 64 := by
              rcases Nat.lt_or_ge n1 64 with h | h
              · exact h
              · have h1 : (nd :: LL).length = A.length + 1 := by rw [hA, List.length_append]; rfl
                have h2 := bin_len (i := k.toNat % n1) (show 0 < n1 by omega) hkn (fun x hx => ⟨(g2 x hx).1, by have := h7 (by omega) x hx; rw [hn0.1]; exact this⟩)
                rw [hLL] at h2
                omega
            have hnn : nn n1 = 2 * n1 := if_neg (by omega)
            have u5 := hR5.2.2.choose_spec.choose_spec.choose_spec.choose_spec.choose_spec.1
            refine gs_ald0 (pc := 165) dJ14_putVal_165 ?_
            refine gs_ald6 (pc := 166) dJ14_putVal_166 ?_
            refine gs_ild1 (pc := 168) dJ14_putVal_168 ?_
            refine gs_V2v (pc := 169) dJ14_putVal_169 kJ14_194 u5 clJ14 (by decide) (Nat.le_of_ble_eq_true rfl) (c_tree hR5 hn64) (fun hp6 hq => ?_)
            obtain ⟨z1, z2, z3, ta6, z4⟩ := hq
            refine gs_goto (pc := 172) (tgt := 222) dJ14_putVal_172 (by decide) ?_
            rw [hnn] at z3 z4
            refine gs_ald10 (pc := 222) dJ14_putVal_222 ?_
            refine gs_ifnull (pc := 224) (tgt := 259) dJ14_putVal_224 (by decide) (fun _ => ?_) (fun _ h => by cases h)
            refine k259 hfn _ (2 * n1) (nx X hp1) _ ext' xt' _ _ _ _ _ _ _ (yF5.trans z1) z4 y5 (by omega) (by omega) ?_ (by omega) (by omega) (by omega)
            have : n1 ≤ 32 := by
              rcases (by omega : j ≤ 5 ∨ 6 ≤ j) with h | h
              · have : 2 ^ j ≤ 2 ^ 5 := Nat.pow_le_pow_right (by decide) h
                omega
              · have : 2 ^ 6 ≤ 2 ^ j := Nat.pow_le_pow_right (by decide) h
                omega
            omega
        | cons e R ih =>
          intro A p nxt L10 hA hAk hcp hs
          obtain ⟨rfl, nxt2, d1, d2⟩ := hs
          have hee : e ∈ es := hLm e (by rw [hA]; simp)
          have hre := g2 e hee
          refine gs_ald7 (pc := 134) dJ14_putVal_134 ?_
          refine gs_getf (pc := 136) 3 dJ14_putVal_136 hcp clJ21 in_J21 (by decide) q1287 (Or.inl rfl) rfl ?_
          refine gs_dup (pc := 139) dJ14_putVal_139 rfl ?_
          refine gs_ast10 (pc := 140) dJ14_putVal_140 rfl ?_
          refine gs_ifnonnull (pc := 142) (tgt := 175) dJ14_putVal_142 (by decide) (fun _ _ => ?_) (fun h => by cases h)
          refine gs_ald10 (pc := 175) dJ14_putVal_175 ?_
          refine gs_getf (pc := 177) 0 dJ14_putVal_177 d1 clJ21 in_J21 (by decide) q1269 (Or.inl rfl) rfl ?_
          refine gs_ild1 (pc := 180) dJ14_putVal_180 ?_
          refine gs_ic_ne (pc := 181) (tgt := 212) dJ14_putVal_181 (by decide) (by omega) (fun hc => ?_) (fun hc => ?_)
          · refine gs_ald10 (pc := 212) dJ14_putVal_212 ?_
            refine gs_ast7 (pc := 214) dJ14_putVal_214 rfl ?_
            refine gs_inc12 (pc := 216) dJ14_putVal_216 rfl ?_
            refine gs_goto (pc := 219) (tgt := 134) dJ14_putVal_219 (by decide) ?_
            have := ih (A ++ [p]) e nxt2 (some (vR (some e.1))) (by rw [hA, List.append_assoc]; rfl) (fun x hx => by
              rcases List.mem_append.mp hx with h | h
              · exact hAk x h
              · rw [List.mem_singleton.mp h]; exact hc) d1 d2
            rw [List.length_append, List.length_singleton] at this
            exact this
          · refine gs_ald10 (pc := 184) dJ14_putVal_184 ?_
            refine gs_getf (pc := 186) 1 dJ14_putVal_186 d1 clJ21 in_J21 (by decide) q1276 (Or.inl rfl) rfl ?_
            refine gs_dup (pc := 189) dJ14_putVal_189 rfl ?_
            refine gs_ast11 (pc := 190) dJ14_putVal_190 rfl ?_
            refine gs_ald2 (pc := 192) dJ14_putVal_192 ?_
            refine gs_acmp_eq (pc := 193) (tgt := 222) dJ14_putVal_193 (by decide) (fun hd => ?_) (fun hd => ?_)
            · exact k222 e hee hc hp1 n1 _ _ _ _ _ _ _ hR' hF hn0.1 hn0.2.1 hn0.2.2
            · refine gs_ald2 (pc := 196) dJ14_putVal_196 ?_
              refine gs_ifnull (pc := 197) (tgt := 212) dJ14_putVal_197 (by decide) (fun h => by cases h) (fun _ _ => ?_)
              refine gs_ald2 (pc := 200) dJ14_putVal_200 ?_
              refine gs_ald11 (pc := 201) dJ14_putVal_201 ?_
              refine gs_keyEq (pc := 203) rfl dJ14_putVal_203 hq1 (hkk1 e hee) (by decide) (Nat.le_of_ble_eq_true rfl) ?_
              rw [if_pos hc.symm]
              refine gs_if_eq (pc := 206) (tgt := 212) dJ14_putVal_206 (by decide) (by omega) (fun hn => absurd hn (by decide)) (fun _ => ?_)
              refine gs_goto (pc := 209) (tgt := 222) dJ14_putVal_209 (by decide) ?_
              exact k222 e hee hc hp1 n1 _ _ _ _ _ _ _ hR' hF hn0.1 hn0.2.1 hn0.2.2
      have hre := g2 nd hne
      refine gs_ifnonnull (pc := 44) (tgt := 63) dJ14_putVal_44 (by decide) (fun _ _ => ?_) (fun h => by cases h)
      refine gs_ald7 (pc := 63) dJ14_putVal_63 ?_
      refine gs_getf (pc := 65) 0 dJ14_putVal_65 c1 clJ21 in_J21 (by decide) q1269 (Or.inl rfl) rfl ?_
      refine gs_ild1 (pc := 68) dJ14_putVal_68 ?_
      refine gs_ic_ne (pc := 69) (tgt := 104) dJ14_putVal_69 (by decide) (by omega) (fun hc => ?_) (fun hc => ?_)
      · refine gs_ald7 (pc := 104) dJ14_putVal_104 ?_
        refine gs_instNo (pc := 106) dJ14_putVal_106 q986 c1 clJ21 (Or.inl rfl) ?_
        refine gs_if_eq (pc := 109) (tgt := 131) dJ14_putVal_109 (by decide) (by omega) (fun _ => ?_) (fun hn => absurd rfl hn)
        refine gs_iconst (pc := 131) dJ14_putVal_131 ?_
        refine gs_ist12 (pc := 132) dJ14_putVal_132 rfl ?_
        exact hloop LL [] nd nxt _ rfl (fun x hx => by rw [List.mem_singleton.mp hx]; exact hc) c1 c2
      · refine gs_ald7 (pc := 72) dJ14_putVal_72 ?_
        refine gs_getf (pc := 74) 1 dJ14_putVal_74 c1 clJ21 in_J21 (by decide) q1276 (Or.inl rfl) rfl ?_
        refine gs_dup (pc := 77) dJ14_putVal_77 rfl ?_
        refine gs_ast11 (pc := 78) dJ14_putVal_78 rfl ?_
        refine gs_ald2 (pc := 80) dJ14_putVal_80 ?_
        refine gs_acmp_eq (pc := 81) (tgt := 97) dJ14_putVal_81 (by decide) (fun hd => ?_) (fun hd => ?_)
        · refine gs_ald7 (pc := 97) dJ14_putVal_97 ?_
          refine gs_ast10 (pc := 99) dJ14_putVal_99 rfl ?_
          refine gs_goto (pc := 101) (tgt := 222) dJ14_putVal_101 (by decide) ?_
          exact k222 nd hne hc hp1 n1 _ _ _ _ _ _ _ hR' hF hn0.1 hn0.2.1 hn0.2.2
        · refine gs_ald2 (pc := 84) dJ14_putVal_84 ?_
          refine gs_ifnull (pc := 85) (tgt := 104) dJ14_putVal_85 (by decide) (fun h => by cases h) (fun _ _ => ?_)
          refine gs_ald2 (pc := 88) dJ14_putVal_88 ?_
          refine gs_ald11 (pc := 89) dJ14_putVal_89 ?_
          refine gs_keyEq (pc := 91) rfl dJ14_putVal_91 hq1 (hkk1 nd hne) (by decide) (Nat.le_of_ble_eq_true rfl) ?_
          rw [if_pos hc.symm]
          refine gs_if_eq (pc := 94) (tgt := 104) dJ14_putVal_94 (by decide) (by omega) (fun hn => absurd hn (by decide)) (fun _ => ?_)
          refine gs_ald7 (pc := 97) dJ14_putVal_97 ?_
          refine gs_ast10 (pc := 99) dJ14_putVal_99 rfl ?_
          refine gs_goto (pc := 101) (tgt := 222) dJ14_putVal_101 (by decide) ?_
          exact k222 nd hne hc hp1 n1 _ _ _ _ _ _ _ hR' hF hn0.1 hn0.2.1 hn0.2.2
  have hmr' := hmr
  obtain ⟨g1, g2, vs, eset, mc, th, lf, e1, e2⟩ := hmr
  rcases e2 with ⟨rfl, rfl, -, rfl⟩ | ⟨j, ta, t, q1, q2, q3, q4, rfl, q5, q6⟩
  · refine gs_ald0 (pc := 0) dJ14_putVal_0 ?_
    refine gs_getf (pc := 1) 2 dJ14_putVal_1 e1 clJ14 in_J14 (by decide) q798 (Or.inl rfl) rfl ?_
    refine gs_dup (pc := 4) dJ14_putVal_4 rfl ?_
    refine gs_ast6 (pc := 5) dJ14_putVal_5 rfl ?_
    refine gs_ifnull (pc := 7) (tgt := 19) dJ14_putVal_7 (by decide) (fun _ => ?_) (fun _ h => by cases h)
    refine gs_ald0 (pc := 19) dJ14_putVal_19 ?_
    refine gs_V0 (pc := 20) dJ14_putVal_20 kJ14_117 e1 clJ14 (by decide) (Nat.le_of_ble_eq_true rfl) (c_resize hmr' (by omega)) (fun v hp1 hq => ?_)
    obtain ⟨z1, z2, z3, ta, rfl, z4⟩ := hq
    refine gs_dup (pc := 23) dJ14_putVal_23 rfl ?_
    refine gs_ast6 (pc := 24) dJ14_putVal_24 rfl ?_
    have z4' := z4
    obtain ⟨f1, f2, vs2, eset2, mc2, th2, lf2, u1, u2⟩ := z4
    rcases u2 with ⟨-, h, -⟩ | ⟨j2, ta2, t2, p1, p2, p3, p4, p4c, p5, p6⟩
    · cases h
    cases p4c
    refine gs_alen (pc := 26) dJ14_putVal_26 p5 ?_
    refine gs_ist8 (pc := 27) dJ14_putVal_27 rfl ?_
    exact k29 hp1 16 ta z4' z1 (Or.inr ⟨rfl, rfl, rfl, z2, z3⟩)
  · have hb1 := pow14 q1 ⟨q2, q3⟩
    refine gs_ald0 (pc := 0) dJ14_putVal_0 ?_
    refine gs_getf (pc := 1) 2 dJ14_putVal_1 e1 clJ14 in_J14 (by decide) q798 (Or.inl rfl) rfl ?_
    refine gs_dup (pc := 4) dJ14_putVal_4 rfl ?_
    refine gs_ast6 (pc := 5) dJ14_putVal_5 rfl ?_
    refine gs_ifnull (pc := 7) (tgt := 19) dJ14_putVal_7 (by decide) (fun h => by cases h) (fun _ _ => ?_)
    refine gs_ald6 (pc := 10) dJ14_putVal_10 ?_
    refine gs_alen (pc := 12) dJ14_putVal_12 q5 ?_
    refine gs_dup (pc := 13) dJ14_putVal_13 rfl ?_
    refine gs_ist8 (pc := 14) dJ14_putVal_14 rfl ?_
    refine gs_if_ne (pc := 16) (tgt := 29) dJ14_putVal_16 (by decide) (by omega) (fun _ => ?_) (fun hn => absurd hn (by omega))
    exact k29 hp n ta hmr' Fr.refl (Or.inl ⟨rfl, rfl, rfl⟩)
theorem c_putValL {kd : Bool} {m q w n : Nat} {ks : Option Nat} {ext : List AV} {xt : Nat → List AV} {es : List Nd} {k : Int} (hm : isHM X hp 16 17 kd m ks ext xt n es) (hx : lx25 (es.map (fun nd => nd.1)) ext xt) (hq : isKey X hp kd q k) (hn : n ≤ 8192) (h7 : 64 ≤ n → ∀ nd ∈ es, nd.2.1 < 7 * (n : Int)) : MV X yJ14_putVal fJ14_putVal 5 [vR (some m), vI k, vR (some q), vR (some w), vI 0, vI 1] hp (fun v hp' => v = vR ((fk es k).map (fun nd => nd.2.2.2)) ∧ Fr X (fun l => l = m + 2) hp hp' ∧ ∃ ext' xt' n' a, hmG hp hp' es.length n n' ∧ isHM X hp' 16 17 kd m ks ext' xt' n' (putE es k q w a) ∧ lx25 ((putE es k q w a).map (fun nd => nd.1)) ext' xt') := by
  have hkn := hm.2.1
  have hkk := hm.2.2.1
  have hr := hq.rng
  obtain ⟨tb0, hmr⟩ := isHM_toRL hm
  have hlen : n = 0 ∧ es = [] ∨ 16 ≤ n ∧ (es.length : Int) ≤ 3 * n / 4 := by
    obtain ⟨-, -, -, vs, tb, eset, mc, th, lf, e1, e2⟩ := hm
    rcases e2 with ⟨q1, -, -, q2⟩ | ⟨j, ta, t, q1, q2, q3, q4, q4b, q4c, q5, q6⟩
    · exact Or.inl ⟨q1, q2⟩
    · have := pow14 q1 ⟨q2, q3⟩
      exact Or.inr ⟨this.1, by omega⟩
  clear hm
  refine MC.of pfJ14_putVal rfl (fun h => by cases h) 7 rfl rfl ?_
  -- behind the insertion
  have k259 : fk es k = none → ∀ (hp2 : gHp) (n2 a : Nat) (tb : Option Nat) (ext' : List AV) (xt' : Nat → List AV) (L6 L7 L8 L9 L10 L11 L12 : Option AV), Fr X (fun l => l = m + 2) hp hp2 → hmR X hp2 16 17 m ks ext' xt' n2 (es ++ [(a, k, q, w)]) es.length tb → lx25 (es.map (fun nd => nd.1) ++ [a]) ext' xt' → n ≤ n2 → 16 ≤ n2 → n2 ≤ max n 64 → (es.length : Int) ≤ 3 * n2 / 4 → hp2.1 ≤ hp.1 + 1 + (n2 - n) → hp2.2.1 ≤ hp.2.1 + 6 + 2 * (n2 - n) → G X fJ14_putVal 5 259 [some (vR (some m)), some (vI k), some (vR (some q)), some (vR (some w)), some (vI 0), some (vI 1), L6, L7, L8, L9, L10, L11, L12] [] hp2 (fun r hp' => ∃ v, r = some v ∧ v = vR ((fk es k).map (fun nd => nd.2.2.2)) ∧ Fr X (fun l => l = m + 2) hp hp' ∧ ∃ ext' xt' n' a, hmG hp hp' es.length n n' ∧ isHM X hp' 16 17 kd m ks ext' xt' n' (putE es k q w a) ∧ lx25 ((putE es k q w a).map (fun nd => nd.1)) ext' xt') := by
    intro hfn hp2 n2 a tb ext' xt' L6 L7 L8 L9 L10 L11 L12 hF hR hlx b1 b1b b2 b3 b4 b5
    have hcell := fun x => hR.cell (nd := x)
    obtain ⟨g1, g2, vs, eset, mc, th, lf, e1, e2⟩ := hR
    rcases e2 with ⟨-, -, -, h⟩ | ⟨j, ta, t, q1, q2, q3, q4, rfl, q5, q6⟩
    · simp at h
    have hb2 := pow14 q1 ⟨q2, q3⟩
    have hta : ta ≠ m := by intro h; subst h; rw [e1] at q5; cases q5
    have hxm : ∀ x ∈ es ++ [(a, k, q, w)], x.1 ≠ m := fun x hx h => by obtain ⟨nxt, hg⟩ := hcell x hx; rw [h, e1] at hg; cases hg
    refine gs_ald0 (pc := 259) dJ14_putVal_259 ?_
    refine gs_dup (pc := 260) dJ14_putVal_260 rfl ?_
    refine gs_getf (pc := 261) 5 dJ14_putVal_261 e1 clJ25 in_J25 (by decide) q805 (Or.inl rfl) rfl ?_
    refine gs_iconst (pc := 264) dJ14_putVal_264 ?_
    refine gs_iadd (pc := 265) dJ14_putVal_265 ?_
    refine gs_putf (pc := 266) 5 (hmC 16 ks vs (some ta) eset es.length (mc + 1) th lf ext') dJ14_putVal_266 e1 (by omega) clJ25 in_J25 tyJ25 tyJ25_ok nmJ25 (by decide) q805 (Or.inl rfl) rfl (fok_int _) (Nat.le_of_ble_eq_true rfl) rfl ?_
    have w1 := gl_set_self (c := (m + 2, hmC 16 ks vs (some ta) eset es.length (mc + 1) th lf ext')) e1 (by omega)
    have w2 : ∀ b, b ≠ m → gl X (hset hp2 m (m + 2, hmC 16 ks vs (some ta) eset es.length (mc + 1) th lf ext')) b = gl X hp2 b := fun b h => gl_set_ne h
    have hF3 : Fr X (fun l => l = m + 2) hp (hset hp2 m (m + 2, hmC 16 ks vs (some ta) eset es.length (mc + 1) th lf ext')) := hF.set e1 (by omega) rfl ⟨rfl, rfl⟩
    generalize hh : hset hp2 m (m + 2, hmC 16 ks vs (some ta) eset es.length (mc + 1) th lf ext') = hp3 at w1 w2 hF3 ⊢
    have hc1 : hp3.1 = hp2.1 := by rw [← hh]; rfl
    have hc2 : hp3.2.1 = hp2.2.1 := by rw [← hh]; rfl
    refine gs_ald0 (pc := 269) dJ14_putVal_269 ?_
    refine gs_dup (pc := 270) dJ14_putVal_270 rfl ?_
    refine gs_getf (pc := 271) 4 dJ14_putVal_271 w1 clJ25 in_J25 (by decide) q800 (Or.inl rfl) rfl ?_
    refine gs_iconst (pc := 274) dJ14_putVal_274 ?_
    refine gs_iadd (pc := 275) dJ14_putVal_275 ?_
    refine gs_dup_x1 (pc := 276) dJ14_putVal_276 rfl rfl ?_
    refine gs_putf (pc := 277) 4 (hmC 16 ks vs (some ta) eset ((es.length : Int) + 1) (mc + 1) th lf ext') dJ14_putVal_277 w1 (by omega) clJ25 in_J25 tyJ25 tyJ25_ok nmJ25 (by decide) q800 (Or.inl rfl) rfl (fok_int _) (Nat.le_of_ble_eq_true rfl) rfl ?_
    have w3 := gl_set_self (c := (m + 2, hmC 16 ks vs (some ta) eset ((es.length : Int) + 1) (mc + 1) th lf ext')) w1 (by omega)
    have w4 : ∀ b, b ≠ m → gl X (hset hp3 m (m + 2, hmC 16 ks vs (some ta) eset ((es.length : Int) + 1) (mc + 1) th lf ext')) b = gl X hp2 b := fun b h => by rw [gl_set_ne h, w2 b h]
    have hF4 : Fr X (fun l => l = m + 2) hp (hset hp3 m (m + 2, hmC 16 ks vs (some ta) eset ((es.length : Int) + 1) (mc + 1) th lf ext')) := hF3.set w1 (by omega) rfl ⟨rfl, rfl⟩
    generalize hh4 : hset hp3 m (m + 2, hmC 16 ks vs (some ta) eset ((es.length : Int) + 1) (mc + 1) th lf ext') = hp4 at w3 w4 hF4 ⊢
    have hc3 : hp4.1 = hp3.1 := by rw [← hh4]; rfl
    have hc4 : hp4.2.1 = hp3.2.1 := by rw [← hh4]; rfl
    have hR4 : hmR X hp4 16 17 m ks ext' xt' n2 (es ++ [(a, k, q, w)]) ((es.length : Int) + 1) (some ta) := ⟨g1, g2, vs, eset, mc + 1, th, lf, w3, Or.inr ⟨j, ta, t, q1, q2, q3, q4, rfl, by rw [w4 ta hta]; exact q5, fun i hi => (q6 i hi).mono (fun x hx => w4 _ (hxm x (mem_rs hx).1))⟩⟩
    have hend : ∀ (hp5 : gHp) (n5 : Nat) (tb5 : Option Nat), Fr X (fun l => l = m + 2) hp hp5 → hmR X hp5 16 17 m ks ext' xt' n5 (es ++ [(a, k, q, w)]) ((es.length : Int) + 1) tb5 → hmG hp hp5 es.length n n5 → ((es.length : Int) + 1 ≤ 3 * n5 / 4) → G X fJ14_putVal 5 292 [some (vR (some m)), some (vI k), some (vR (some q)), some (vR (some w)), some (vI 0), some (vI 1), L6, L7, L8, L9, L10, L11, L12] [] hp5 (fun r hp' => ∃ v, r = some v ∧ v = vR ((fk es k).map (fun nd => nd.2.2.2)) ∧ Fr X (fun l => l = m + 2) hp hp' ∧ ∃ ext' xt' n' a, hmG hp hp' es.length n n' ∧ isHM X hp' 16 17 kd m ks ext' xt' n' (putE es k q w a) ∧ lx25 ((putE es k q w a).map (fun nd => nd.1)) ext' xt') := by
      intro hp5 n5 tb5 yF hR5 yG yl
      have hfin : isHM X hp5 16 17 kd m ks ext' xt' n5 (putE es k q w a) := by
        rw [putE_none hfn]
        obtain ⟨u1, u2, vs, eset, mc, th, lf, u3, u4⟩ := hR5
        refine ⟨u1, ?_, fun x hx => ?_, vs, tb5, eset, mc, th, lf, by rw [List.length_append, List.length_singleton]; exact u3, ?_⟩
        · rw [List.map_append]
          refine nodup_snoc hkn (fun h => ?_)
          obtain ⟨x, hx, he⟩ := List.mem_map.mp h
          exact fk_none hfn x hx he
        · rcases List.mem_append.mp hx with h | h
          · exact (hkk x h).fr yF (fun l hl => by omega)
          · rw [List.mem_singleton.mp h]; exact hq.fr yF (fun l hl => by omega)
        · rcases u4 with ⟨-, -, -, h⟩ | ⟨j, ta, t, q1, q2, q3, q4, q4c, q5, q6⟩
          · simp at h
          · exact Or.inr ⟨j, ta, t, q1, q2, q3, q4, by rw [List.length_append, List.length_singleton, q4]; omega, q4c, q5, q6⟩
      have hlx' : lx25 ((putE es k q w a).map (fun nd => nd.1)) ext' xt' := by rw [putE_none hfn, List.map_append]; exact hlx
      obtain ⟨u1, u2, vs, eset, mc, th, lf, u3, u4⟩ := hR5
      have hlx1 := hlx.1
      rw [hlx1] at u3
      refine gs_ald0 (pc := 292) dJ14_putVal_292 ?_
      refine gs_ild5 (pc := 293) dJ14_putVal_293 ?_
      refine gs_U1v (pc := 295) dJ14_putVal_295 kJ14_205_J25 u3 clJ25 (by decide) (Nat.le_of_ble_eq_true rfl) (c_anIL rfl u3) (fun hp6 hq => ?_)
      obtain ⟨rfl⟩ := hq
      refine gs_null (pc := 298) dJ14_putVal_298 ?_
      refine gs_aret (pc := 299) dJ14_putVal_299 rfl (Or.inl ⟨_, rfl⟩) ?_
      exact ⟨_, rfl, by rw [hfn]; rfl, yF, ext', xt', n5, a, yG, hfin, hlx'⟩
    refine gs_ald0 (pc := 280) dJ14_putVal_280 ?_
    refine gs_getf (pc := 281) 6 dJ14_putVal_281 w3 clJ25 in_J25 (by decide) q806 (Or.inl rfl) rfl ?_
    refine gs_ic_le (pc := 284) (tgt := 292) dJ14_putVal_284 (by decide) (by omega) (fun hc => ?_) (fun hc => ?_)
    · refine hend hp4 n2 _ hF4 hR4 ⟨b1, by omega, by omega, by omega⟩ (by omega)
    · have hnn : nn n2 = 2 * n2 := if_neg (by omega)
      have h34 : n2 % 4 = 0 := by
        obtain ⟨i, rfl⟩ : ∃ i, j = i + 2 := ⟨j - 2, by omega⟩
        rw [q1, Nat.pow_add]; omega
      refine gs_ald0 (pc := 287) dJ14_putVal_287 ?_
      refine gs_U0 (pc := 288) dJ14_putVal_288 kJ14_117_J25 w3 clJ25 (by decide) (Nat.le_of_ble_eq_true rfl) (c_resizeL hR4 (by omega)) (fun v hp5 hq => ?_)
      obtain ⟨z1, z2, z3, ta5, rfl, z4⟩ := hq
      refine gs_pop (pc := 291) dJ14_putVal_291 rfl ?_
      rw [hnn] at z3 z4
      refine hend hp5 (2 * n2) _ (hF4.trans z1) z4 ⟨by omega, by omega, by omega, by omega⟩ (by omega)
  -- the key was there
  have k222 : ∀ nd ∈ es, nd.2.1 = k → ∀ (hp1 : gHp) (n1 : Nat) (tb kb : Option Nat) (L6 L7 L8 L9 L12 : Option AV), hmR X hp1 16 17 m ks ext xt n1 es es.length tb → Fr X (fun l => l = m + 2) hp hp1 → n1 = n → hp1.1 = hp.1 → hp1.2.1 = hp.2.1 → G X fJ14_putVal 5 222 [some (vR (some m)), some (vI k), some (vR (some q)), some (vR (some w)), some (vI 0), some (vI 1), L6, L7, L8, L9, some (vR (some nd.1)), some (vR kb), L12] [] hp1 (fun r hp' => ∃ v, r = some v ∧ v = vR ((fk es k).map (fun nd => nd.2.2.2)) ∧ Fr X (fun l => l = m + 2) hp hp' ∧ ∃ ext' xt' n' a, hmG hp hp' es.length n n' ∧ isHM X hp' 16 17 kd m ks ext' xt' n' (putE es k q w a) ∧ lx25 ((putE es k q w a).map (fun nd => nd.1)) ext' xt') := by
    intro nd hnd hndk hp1 n1 tb kb L6 L7 L8 L9 L12 hR hF b1 b2 b3
    subst b1
    have hfk : fk es k = some nd := by
      cases hf : fk es k with
      | none => exact absurd hndk (fk_none hf nd hnd)
      | some x =>
        have := fk_mem hf
        rw [key_inj hkn this.1 hnd (this.2.trans hndk.symm)]
    obtain ⟨nxt, hg⟩ := hR.cell hnd
    have hcell := fun x => hR.cell (nd := x)
    obtain ⟨g1, g2, vs, eset, mc, th, lf, e1, e2⟩ := hR
    have hndm : nd.1 ≠ m := by intro h; rw [h, e1] at hg; cases hg
    refine gs_ald10 (pc := 222) dJ14_putVal_222 ?_
    refine gs_ifnull (pc := 224) (tgt := 259) dJ14_putVal_224 (by decide) (fun h => by cases h) (fun _ _ => ?_)
    refine gs_ald10 (pc := 227) dJ14_putVal_227 ?_
    refine gs_getf (pc := 229) 2 dJ14_putVal_229 hg clJ22 in_J22 (by decide) q1280 (Or.inl rfl) rfl ?_
    refine gs_ast12 (pc := 232) dJ14_putVal_232 rfl ?_
    refine gs_ild4 (pc := 234) dJ14_putVal_234 ?_
    refine gs_if_eq (pc := 236) (tgt := 244) dJ14_putVal_236 (by decide) (by omega) (fun _ => ?_) (fun hn => absurd rfl hn)
    refine gs_ald10 (pc := 244) dJ14_putVal_244 ?_
    refine gs_ald3 (pc := 246) dJ14_putVal_246 ?_
    refine gs_putf (pc := 247) 2 (ndC 17 nd.2.1 nd.2.2.1 w nxt (xt nd.1)) dJ14_putVal_247 hg (by omega) clJ22 in_J22 tyJ22 tyJ22_ok nmJ22 (by decide) q1280 (Or.inl rfl) rfl (fok_obj _ _) (Nat.le_of_ble_eq_true rfl) rfl ?_
    have w1 := gl_set_self (c := (m + 2, ndC 17 nd.2.1 nd.2.2.1 w nxt (xt nd.1))) hg (by omega)
    have w2 : ∀ b, b ≠ nd.1 → gl X (hset hp1 nd.1 (m + 2, ndC 17 nd.2.1 nd.2.2.1 w nxt (xt nd.1))) b = gl X hp1 b := fun b h => gl_set_ne h
    have hF3 : Fr X (fun l => l = m + 2) hp (hset hp1 nd.1 (m + 2, ndC 17 nd.2.1 nd.2.2.1 w nxt (xt nd.1))) := hF.set hg (by omega) rfl ⟨rfl, rfl⟩
    generalize hh : hset hp1 nd.1 (m + 2, ndC 17 nd.2.1 nd.2.2.1 w nxt (xt nd.1)) = hp3 at w1 w2 hF3 ⊢
    have hc1 : hp3.1 = hp1.1 := by rw [← hh]; rfl
    have hc2 : hp3.2.1 = hp1.2.1 := by rw [← hh]; rfl
    have e1' := e1
    rw [← w2 m (Ne.symm hndm)] at e1'
    have hlx1 := hx.1
    have hpe : ∀ a, putE es k q w a = es.map (upE k w) := fun a => putE_some (by rw [hfk]; rfl)
    have hmp : (es.map (upE k w)).map (fun nd => nd.1) = es.map (fun nd => nd.1) := by rw [List.map_map]; exact List.map_congr_left (fun x _ => upE1.1)
    have hmp2 : (es.map (upE k w)).map (fun nd => nd.2.1) = es.map (fun nd => nd.2.1) := by rw [List.map_map]; exact List.map_congr_left (fun x _ => upE1.2.1)
    have hfin : isHM X hp3 16 17 kd m ks ext xt n1 (es.map (upE k w)) := by
      refine ⟨by rw [hmp]; exact g1, by rw [hmp2]; exact hkn, fun x hx => ?_, vs, tb, eset, mc, th, lf, by rw [List.length_map]; exact e1', ?_⟩
      · obtain ⟨y, hy, rfl⟩ := List.mem_map.mp hx
        rw [upE1.2.1, upE1.2.2]
        exact (hkk y hy).fr hF3 (fun l hl => by omega)
      · rcases e2 with ⟨u1, u2, u3, u4⟩ | ⟨j, ta, t, q1, q2, q3, q4, q4c, q5, q6⟩
        · rw [u4] at hnd; cases hnd
        · have hb2 := pow14 q1 ⟨q2, q3⟩
          refine Or.inr ⟨j, ta, t, q1, q2, q3, q4, by rw [List.length_map, q4]; omega, q4c, ?_, fun i hi => ?_⟩
          · rw [w2 ta (by intro h; rw [← h, q5] at hg; cases hg)]; exact q5
          · rw [rs_up]
            refine (q6 i hi).up (fun x hx nxt' hgx => ?_)
            by_cases hxn : x.2.1 = k
            · have hxe := (mem_rs hx).1
              have := key_inj hkn hxe hnd (hxn.trans hndk.symm)
              subst this
              rw [hg] at hgx
              simp only [ndC, Option.some.injEq, Prod.mk.injEq, Sum.inr.injEq, true_and, List.cons_append, List.nil_append, List.cons.injEq, Sum.inl.injEq, and_true] at hgx
              subst hgx
              rw [w1, show (upE k w x).2.2.2 = w by unfold upE; rw [if_pos hxn]]
            · have hne : x.1 ≠ nd.1 := fun h => by
                rw [nd_inj g1 (mem_rs hx).1 hnd h] at hxn
                exact hxn hndk
              rw [w2 _ hne, show (upE k w x) = x by unfold upE; rw [if_neg hxn]]
              exact hgx
    rw [hlx1] at e1'
    refine gs_ald0 (pc := 250) dJ14_putVal_250 ?_
    refine gs_ald10 (pc := 251) dJ14_putVal_251 ?_
    refine gs_U1v (pc := 253) dJ14_putVal_253 kJ14_198_J25 e1' clJ25 (by decide) (Nat.le_of_ble_eq_true rfl) (c_anAL e1') (fun hp4 hq => ?_)
    obtain ⟨rfl⟩ := hq
    refine gs_ald12 (pc := 256) dJ14_putVal_256 ?_
    refine gs_aret (pc := 258) dJ14_putVal_258 rfl (Or.inl ⟨_, rfl⟩) ?_
    refine ⟨_, rfl, by rw [hfk]; rfl, hF3, ext, xt, n1, 0, ⟨by omega, by omega, by omega, by omega⟩, by rw [hpe]; exact hfin, by rw [hpe, hmp]; exact hx⟩
  have k29 : ∀ (hp1 : gHp) (n1 ta : Nat), hmR X hp1 16 17 m ks ext xt n1 es es.length (some ta) → Fr X (fun l => l = m + 2) hp hp1 → (n1 = n ∧ hp1.1 = hp.1 ∧ hp1.2.1 = hp.2.1 ∨ n = 0 ∧ n1 = 16 ∧ es = [] ∧ hp1.1 = hp.1 + 1 ∧ hp1.2.1 = hp.2.1 + 16) → G X fJ14_putVal 5 29 [some (vR (some m)), some (vI k), some (vR (some q)), some (vR (some w)), some (vI 0), some (vI 1), some (vR (some ta)), none, some (vI (n1 : Int)), none, none, none, none] [] hp1 (fun r hp' => ∃ v, r = some v ∧ v = vR ((fk es k).map (fun nd => nd.2.2.2)) ∧ Fr X (fun l => l = m + 2) hp hp' ∧ ∃ ext' xt' n' a, hmG hp hp' es.length n n' ∧ isHM X hp' 16 17 kd m ks ext' xt' n' (putE es k q w a) ∧ lx25 ((putE es k q w a).map (fun nd => nd.1)) ext' xt') := by
    intro hp1 n1 ta hR hF hcs
    have hR' := hR
    have hcell := fun x => hR.cell (nd := x)
    obtain ⟨g1, g2, vs, eset, mc, th, lf, e1, e2⟩ := hR
    rcases e2 with ⟨-, h, -⟩ | ⟨j, ta', t, q1, q2, q3, q4, q4c, q5, q6⟩
    · cases h
    cases q4c
    have hb1 := pow14 q1 ⟨q2, q3⟩
    have hl1 : (es.length : Int) ≤ 3 * n1 / 4 := by
      rcases hcs with ⟨rfl, -⟩ | ⟨-, rfl, rfl, -⟩
      · rcases hlen with ⟨rfl, rfl⟩ | ⟨-, h⟩
        · simp
        · exact h
      · simp
    have hi : k.toNat % n1 < n1 := Nat.mod_lt _ (by omega)
    have hq1 : isKey X hp1 kd q k := hq.fr hF (fun l hl => by omega)
    have hkk1 : ∀ nd ∈ es, isKey X hp1 kd nd.2.2.1 nd.2.1 := fun nd h => (hkk nd h).fr hF (fun l hl => by omega)
    have hfx : ∀ x ∈ es, x.1 ≠ nx X hp1 := fun x hx h => by obtain ⟨nxt, hg⟩ := hcell x hx; have := gl_lt hg; omega
    have hfk : fk (rs n1 es (k.toNat % n1)) k = fk es k := fk_rs
    refine gs_ald6 (pc := 29) dJ14_putVal_29 ?_
    refine gs_ild8 (pc := 31) dJ14_putVal_31 ?_
    refine gs_iconst (pc := 33) dJ14_putVal_33 ?_
    refine gs_isub (pc := 34) dJ14_putVal_34 ?_
    refine gs_ild1 (pc := 35) dJ14_putVal_35 ?_
    refine gs_iand (pc := 36) dJ14_putVal_36 (i_andN q1 ⟨q2, q3⟩ hr) ?_
    refine gs_dup (pc := 37) dJ14_putVal_37 rfl ?_
    refine gs_ist9 (pc := 38) dJ14_putVal_38 rfl ?_
    refine gs_aald (pc := 40) 4 (by decide) dJ14_putVal_40 q5 (by omega) (by omega) ?_
    refine gs_dup (pc := 41) dJ14_putVal_41 rfl ?_
    refine gs_ast7 (pc := 42) dJ14_putVal_42 rfl ?_
    have hseg := q6 _ hi
    have hLm : ∀ x ∈ rs n1 es (k.toNat % n1), x ∈ es := fun x hx => (mem_rs hx).1
    generalize t ((k.toNat % n1 : Nat) : Int) = h0 at hseg ⊢
    generalize hLL : rs n1 es (k.toNat % n1) = LL at hseg hfk hLm
    cases LL with
    | nil =>
      have hseg : h0 = none := hseg
      subst hseg
      have hfn : fk es k = none := hfk.symm
      refine gs_ifnonnull (pc := 44) (tgt := 63) dJ14_putVal_44 (by decide) (fun _ h => by cases h) (fun _ => ?_)
      refine gs_ald6 (pc := 47) dJ14_putVal_47 ?_
      refine gs_ild9 (pc := 49) dJ14_putVal_49 ?_
      refine gs_ald0 (pc := 51) dJ14_putVal_51 ?_
      refine gs_ild1 (pc := 52) dJ14_putVal_52 ?_
      refine gs_ald2 (pc := 53) dJ14_putVal_53 ?_
      refine gs_ald3 (pc := 54) dJ14_putVal_54 ?_
      refine gs_null (pc := 55) dJ14_putVal_55 ?_
      refine gs_U4 (pc := 56) dJ14_putVal_56 kJ14_186_J25 e1 clJ25 (by decide) (Nat.le_of_ble_eq_true rfl) (c_nnL hR' hx) (fun v hp2 hq => ?_)
      obtain ⟨rfl, y1, y2, y3, ext', xt', y4, y5, y6⟩ := hq
      have y4' := y4
      obtain ⟨f1, f2, vs2, eset2, mc2, th2, lf2, u1, u2⟩ := y4
      rcases u2 with ⟨-, h, -⟩ | ⟨j2, ta2, t2, p1, p2, p3, p4, p4c, p5, p6⟩
      · cases h
      cases p4c
      refine gs_aast (pc := 59) 4 (by decide) rfl dJ14_putVal_59 p5 (by omega) ⟨_, _, _, _, _, _, y6, clJ22, (Or.inr q2825)⟩ (by omega) (by omega) ?_
      refine gs_goto (pc := 60) (tgt := 259) dJ14_putVal_60 (by decide) ?_
      have hR5 := hmR_linkEL (nd := (nx X hp1, k, q, w)) y4' y6 hfx hr p5 hLL
      have yF5 := (hF.trans y1).set (c := .inl (4, n1, .inr (fup t2 ((k.toNat % n1 : Nat) : Int) (some (nx X hp1))))) p5 (by omega) rfl ⟨rfl, rfl, rfl⟩
      refine k259 hfn _ n1 (nx X hp1) _ ext' xt' _ _ _ _ _ _ _ yF5 hR5 y5 (by omega) hb1.1 (by omega) hl1 ?_ ?_
      · show hp2.1 ≤ _
        omega
      · show hp2.2.1 ≤ _
        omega
    | cons nd LL =>
      have hn0 : n1 = n ∧ hp1.1 = hp.1 ∧ hp1.2.1 = hp.2.1 := by
        rcases hcs with h | ⟨-, -, rfl, -⟩
        · exact h
        · cases hLm nd List.mem_cons_self
      have hne := hLm nd List.mem_cons_self
      obtain ⟨rfl, nxt, c1, c2⟩ := hseg
      have hloop : ∀ (R A : List Nd) (p : Nd) (nxt : Option Nat) (L10 : Option AV), nd :: LL = A ++ p :: R → (∀ x ∈ A ++ [p], x.2.1 ≠ k) → gl X hp1 p.1 = some (m + 2, ndC 17 p.2.1 p.2.2.1 p.2.2.2 nxt (xt p.1)) → seg X hp1 (m + 2) 17 xt nxt R none → G X fJ14_putVal 5 134 [some (vR (some m)), some (vI k), some (vR (some q)), some (vR (some w)), some (vI 0), some (vI 1), some (vR (some ta)), some (vR (some p.1)), some (vI (n1 : Int)), some (vI ((k.toNat % n1 : Nat) : Int)), L10, none, some (vI (A.length : Int))] [] hp1 (fun r hp' => ∃ v, r = some v ∧ v = vR ((fk es k).map (fun nd => nd.2.2.2)) ∧ Fr X (fun l => l = m + 2) hp hp' ∧ ∃ ext' xt' n' a, hmG hp hp' es.length n n' ∧ isHM X hp' 16 17 kd m ks ext' xt' n' (putE es k q w a) ∧ lx25 ((putE es k q w a).map (fun nd => nd.1)) ext' xt') := by
        intro R
        induction R with
        | nil =>
          intro A p nxt L10 hA hAk hcp hs
          have hs : nxt = none := hs
          subst hs
          have hfn : fk es k = none := by
            rw [← hfk]
            cases hf : fk (nd :: LL) k with
            | none => rfl
            | some x =>
              have h1 := fk_mem hf
              rw [hA] at h1
              exact absurd h1.2 (hAk x h1.1)
          refine gs_ald7 (pc := 134) dJ14_putVal_134 ?_
          refine gs_getf (pc := 136) 3 dJ14_putVal_136 hcp clJ22 in_J22 (by decide) q1287 (Or.inl rfl) rfl ?_
          refine gs_dup (pc := 139) dJ14_putVal_139 rfl ?_
          refine gs_ast10 (pc := 140) dJ14_putVal_140 rfl ?_
          refine gs_ifnonnull (pc := 142) (tgt := 175) dJ14_putVal_142 (by decide) (fun _ h => by cases h) (fun _ => ?_)
          refine gs_ald7 (pc := 145) dJ14_putVal_145 ?_
          refine gs_ald0 (pc := 147) dJ14_putVal_147 ?_
          refine gs_ild1 (pc := 148) dJ14_putVal_148 ?_
          refine gs_ald2 (pc := 149) dJ14_putVal_149 ?_
          refine gs_ald3 (pc := 150) dJ14_putVal_150 ?_
          refine gs_null (pc := 151) dJ14_putVal_151 ?_
          refine gs_U4 (pc := 152) dJ14_putVal_152 kJ14_186_J25 e1 clJ25 (by decide) (Nat.le_of_ble_eq_true rfl) (c_nnL hR' hx) (fun v hp2 hq => ?_)
          obtain ⟨rfl, y1, y2, y3, ext', xt', y4, y5, y6⟩ := hq
          obtain ⟨hcp2, hR5⟩ := hmR_linkPL (nd := (nx X hp1, k, q, w)) (A := A) (p := p) y4 y6 hfx hr (by rw [hLL, hA])
          have u1 := y4.2.2.choose_spec.choose_spec.choose_spec.choose_spec.choose_spec.1
          have yF5 := (hF.trans y1).set (c := ndC 17 p.2.1 p.2.2.1 p.2.2.2 (some (nx X hp1)) (xt' p.1)) hcp2 (by omega) rfl ⟨rfl, rfl⟩
          refine gs_putf (pc := 155) 3 (ndC 17 p.2.1 p.2.2.1 p.2.2.2 (some (nx X hp1)) (xt' p.1)) dJ14_putVal_155 hcp2 (by omega) clJ22 in_J22 tyJ22 tyJ22_ok nmJ22 (by decide) q1287 (Or.inl rfl) rfl (fok_obj _ _) (Nat.le_of_ble_eq_true rfl) rfl ?_
          generalize hh5 : hset hp2 p.1 (m + 2, ndC 17 p.2.1 p.2.2.1 p.2.2.2 (some (nx X hp1)) (xt' p.1)) = hp5 at hR5 yF5 ⊢
          have hc5 : hp5.1 = hp2.1 := by rw [← hh5]; rfl
          have hc6 : hp5.2.1 = hp2.2.1 := by rw [← hh5]; rfl
          have hAl : A.length ≤ 100000 := by
            have h1 : (nd :: LL).length = A.length + 1 := by rw [hA, List.length_append]; rfl
            have h2 : (rs n1 es (k.toNat % n1)).length ≤ es.length := List.length_filter_le _ _
            rw [hLL] at h2
            omega
          refine gs_ild12 (pc := 158) dJ14_putVal_158 ?_
          refine gs_bipush (pc := 160) dJ14_putVal_160 rfl ?_
          refine gs_ic_lt (pc := 162) (tgt := 222) dJ14_putVal_162 (by decide) (by omega) (fun hb => ?_) (fun hb => ?_)
          · refine gs_ald10 (pc := 222) dJ14_putVal_222 ?_
            refine gs_ifnull (pc := 224) (tgt := 259) dJ14_putVal_224 (by decide) (fun _ => ?_) (fun _ h => by cases h)
            refine k259 hfn _ n1 (nx X hp1) _ ext' xt' _ _ _ _ _ _ _ yF5 hR5 y5 (by omega) hb1.1 (by omega) hl1 (by omega) (by omega)
          · have hn64 : n1 < 64 := by
              rcases Nat.lt_or_ge n1 64 with h | h
              · exact h
              · have h1 : (nd :: LL).length = A.length + 1 := by rw [hA, List.length_append]; rfl
                have h2 := bin_len (i := k.toNat % n1) (show 0 < n1 by omega) hkn (fun x hx => ⟨(g2 x hx).1, by have := h7 (by omega) x hx; rw [hn0.1]; exact this⟩)
                rw [hLL] at h2
                omega
            have hnn : nn n1 = 2 * n1 := if_neg (by omega)
            have u5 := hR5.2.2.choose_spec.choose_spec.choose_spec.choose_spec.choose_spec.1
            refine gs_ald0 (pc := 165) dJ14_putVal_165 ?_
            refine gs_ald6 (pc := 166) dJ14_putVal_166 ?_
            refine gs_ild1 (pc := 168) dJ14_putVal_168 ?_
            refine gs_U2v (pc := 169) dJ14_putVal_169 kJ14_194_J25 u5 clJ25 (by decide) (Nat.le_of_ble_eq_true rfl) (c_treeL hR5 hn64) (fun hp6 hq => ?_)
            obtain ⟨z1, z2, z3, ta6, z4⟩ := hq
            refine gs_goto (pc := 172) (tgt := 222) dJ14_putVal_172 (by decide) ?_
            rw [hnn] at z3 z4
            refine gs_ald10 (pc := 222) dJ14_putVal_222 ?_
            refine gs_ifnull (pc := 224) (tgt := 259) dJ14_putVal_224 (by decide) (fun _ => ?_) (fun _ h => by cases h)
            refine k259 hfn _ (2 * n1) (nx X hp1) _ ext' xt' _ _ _ _ _ _ _ (yF5.trans z1) z4 y5 (by omega) (by omega) ?_ (by omega) (by omega) (by omega)
            have : n1 ≤ 32 := by
              rcases (by omega : j ≤ 5 ∨ 6 ≤ j) with h | h
              · have : 2 ^ j ≤ 2 ^ 5 := Nat.pow_le_pow_right (by decide) h
                omega
              · have : 2 ^ 6 ≤ 2 ^ j := Nat.pow_le_pow_right (by decide) h
                omega
            omega
        | cons e R ih =>
          intro A p nxt L10 hA hAk hcp hs
          obtain ⟨rfl, nxt2, d1, d2⟩ := hs
          have hee : e ∈ es := hLm e (by rw [hA]; simp)
          have hre := g2 e hee
          refine gs_ald7 (pc := 134) dJ14_putVal_134 ?_
          refine gs_getf (pc := 136) 3 dJ14_putVal_136 hcp clJ22 in_J22 (by decide) q1287 (Or.inl rfl) rfl ?_
          refine gs_dup (pc := 139) dJ14_putVal_139 rfl ?_
          refine gs_ast10 (pc := 140) dJ14_putVal_140 rfl ?_
          refine gs_ifnonnull (pc := 142) (tgt := 175) dJ14_putVal_142 (by decide) (fun _ _ => ?_) (fun h => by cases h)
          refine gs_ald10 (pc := 175) dJ14_putVal_175 ?_
          refine gs_getf (pc := 177) 0 dJ14_putVal_177 d1 clJ22 in_J22 (by decide) q1269 (Or.inl rfl) rfl ?_
          refine gs_ild1 (pc := 180) dJ14_putVal_180 ?_
          refine gs_ic_ne (pc := 181) (tgt := 212) dJ14_putVal_181 (by decide) (by omega) (fun hc => ?_) (fun hc => ?_)
          · refine gs_ald10 (pc := 212) dJ14_putVal_212 ?_
            refine gs_ast7 (pc := 214) dJ14_putVal_214 rfl ?_
            refine gs_inc12 (pc := 216) dJ14_putVal_216 rfl ?_
            refine gs_goto (pc := 219) (tgt := 134) dJ14_putVal_219 (by decide) ?_
            have := ih (A ++ [p]) e nxt2 (some (vR (some e.1))) (by rw [hA, List.append_assoc]; rfl) (fun x hx => by
              rcases List.mem_append.mp hx with h | h
              · exact hAk x h
              · rw [List.mem_singleton.mp h]; exact hc) d1 d2
            rw [List.length_append, List.length_singleton] at this
            exact this
          · refine gs_ald10 (pc := 184) dJ14_putVal_184 ?_
            refine gs_getf (pc := 186) 1 dJ14_putVal_186 d1 clJ22 in_J22 (by decide) q1276 (Or.inl rfl) rfl ?_
            refine gs_dup (pc := 189) dJ14_putVal_189 rfl ?_
            refine gs_ast11 (pc := 190) dJ14_putVal_190 rfl ?_
            refine gs_ald2 (pc := 192) dJ14_putVal_192 ?_
            refine gs_acmp_eq (pc := 193) (tgt := 222) dJ14_putVal_193 (by decide) (fun hd => ?_) (fun hd => ?_)
            · exact k222 e hee hc hp1 n1 _ _ _ _ _ _ _ hR' hF hn0.1 hn0.2.1 hn0.2.2
            · refine gs_ald2 (pc := 196) dJ14_putVal_196 ?_
              refine gs_ifnull (pc := 197) (tgt := 212) dJ14_putVal_197 (by decide) (fun h => by cases h) (fun _ _ => ?_)
              refine gs_ald2 (pc := 200) dJ14_putVal_200 ?_
              refine gs_ald11 (pc := 201) dJ14_putVal_201 ?_
              refine gs_keyEq (pc := 203) rfl dJ14_putVal_203 hq1 (hkk1 e hee) (by decide) (Nat.le_of_ble_eq_true rfl) ?_
              rw [if_pos hc.symm]
              refine gs_if_eq (pc := 206) (tgt := 212) dJ14_putVal_206 (by decide) (by omega) (fun hn => absurd hn (by decide)) (fun _ => ?_)
              refine gs_goto (pc := 209) (tgt := 222) dJ14_putVal_209 (by decide) ?_
              exact k222 e hee hc hp1 n1 _ _ _ _ _ _ _ hR' hF hn0.1 hn0.2.1 hn0.2.2
      have hre := g2 nd hne
      refine gs_ifnonnull (pc := 44) (tgt := 63) dJ14_putVal_44 (by decide) (fun _ _ => ?_) (fun h => by cases h)
      refine gs_ald7 (pc := 63) dJ14_putVal_63 ?_
      refine gs_getf (pc := 65) 0 dJ14_putVal_65 c1 clJ22 in_J22 (by decide) q1269 (Or.inl rfl) rfl ?_
      refine gs_ild1 (pc := 68) dJ14_putVal_68 ?_
      refine gs_ic_ne (pc := 69) (tgt := 104) dJ14_putVal_69 (by decide) (by omega) (fun hc => ?_) (fun hc => ?_)
      · refine gs_ald7 (pc := 104) dJ14_putVal_104 ?_
        refine gs_instNo (pc := 106) dJ14_putVal_106 q986 c1 clJ22 (Or.inr rfl) ?_
        refine gs_if_eq (pc := 109) (tgt := 131) dJ14_putVal_109 (by decide) (by omega) (fun _ => ?_) (fun hn => absurd rfl hn)
        refine gs_iconst (pc := 131) dJ14_putVal_131 ?_
        refine gs_ist12 (pc := 132) dJ14_putVal_132 rfl ?_
        exact hloop LL [] nd nxt _ rfl (fun x hx => by rw [List.mem_singleton.mp hx]; exact hc) c1 c2
      · refine gs_ald7 (pc := 72) dJ14_putVal_72 ?_
        refine gs_getf (pc := 74) 1 dJ14_putVal_74 c1 clJ22 in_J22 (by decide) q1276 (Or.inl rfl) rfl ?_
        refine gs_dup (pc := 77) dJ14_putVal_77 rfl ?_
        refine gs_ast11 (pc := 78) dJ14_putVal_78 rfl ?_
        refine gs_ald2 (pc := 80) dJ14_putVal_80 ?_
        refine gs_acmp_eq (pc := 81) (tgt := 97) dJ14_putVal_81 (by decide) (fun hd => ?_) (fun hd => ?_)
        · refine gs_ald7 (pc := 97) dJ14_putVal_97 ?_
          refine gs_ast10 (pc := 99) dJ14_putVal_99 rfl ?_
          refine gs_goto (pc := 101) (tgt := 222) dJ14_putVal_101 (by decide) ?_
          exact k222 nd hne hc hp1 n1 _ _ _ _ _ _ _ hR' hF hn0.1 hn0.2.1 hn0.2.2
        · refine gs_ald2 (pc := 84) dJ14_putVal_84 ?_
          refine gs_ifnull (pc := 85) (tgt := 104) dJ14_putVal_85 (by decide) (fun h => by cases h) (fun _ _ => ?_)
          refine gs_ald2 (pc := 88) dJ14_putVal_88 ?_
          refine gs_ald11 (pc := 89) dJ14_putVal_89 ?_
          refine gs_keyEq (pc := 91) rfl dJ14_putVal_91 hq1 (hkk1 nd hne) (by decide) (Nat.le_of_ble_eq_true rfl) ?_
          rw [if_pos hc.symm]
          refine gs_if_eq (pc := 94) (tgt := 104) dJ14_putVal_94 (by decide) (by omega) (fun hn => absurd hn (by decide)) (fun _ => ?_)
          refine gs_ald7 (pc := 97) dJ14_putVal_97 ?_
          refine gs_ast10 (pc := 99) dJ14_putVal_99 rfl ?_
          refine gs_goto (pc := 101) (tgt := 222) dJ14_putVal_101 (by decide) ?_
          exact k222 nd hne hc hp1 n1 _ _ _ _ _ _ _ hR' hF hn0.1 hn0.2.1 hn0.2.2
  have hmr' := hmr
  obtain ⟨g1, g2, vs, eset, mc, th, lf, e1, e2⟩ := hmr
  rcases e2 with ⟨rfl, rfl, -, rfl⟩ | ⟨j, ta, t, q1, q2, q3, q4, rfl, q5, q6⟩
  · refine gs_ald0 (pc := 0) dJ14_putVal_0 ?_
    refine gs_getf (pc := 1) 2 dJ14_putVal_1 e1 clJ25 in_J25 (by decide) q798 (Or.inl rfl) rfl ?_
    refine gs_dup (pc := 4) dJ14_putVal_4 rfl ?_
    refine gs_ast6 (pc := 5) dJ14_putVal_5 rfl ?_
    refine gs_ifnull (pc := 7) (tgt := 19) dJ14_putVal_7 (by decide) (fun _ => ?_) (fun _ h => by cases h)
    refine gs_ald0 (pc := 19) dJ14_putVal_19 ?_
    refine gs_U0 (pc := 20) dJ14_putVal_20 kJ14_117_J25 e1 clJ25 (by decide) (Nat.le_of_ble_eq_true rfl) (c_resizeL hmr' (by omega)) (fun v hp1 hq => ?_)
    obtain ⟨z1, z2, z3, ta, rfl, z4⟩ := hq
    refine gs_dup (pc := 23) dJ14_putVal_23 rfl ?_
    refine gs_ast6 (pc := 24) dJ14_putVal_24 rfl ?_
    have z4' := z4
    obtain ⟨f1, f2, vs2, eset2, mc2, th2, lf2, u1, u2⟩ := z4
    rcases u2 with ⟨-, h, -⟩ | ⟨j2, ta2, t2, p1, p2, p3, p4, p4c, p5, p6⟩
    · cases h
    cases p4c
    refine gs_alen (pc := 26) dJ14_putVal_26 p5 ?_
    refine gs_ist8 (pc := 27) dJ14_putVal_27 rfl ?_
    exact k29 hp1 16 ta z4' z1 (Or.inr ⟨rfl, rfl, rfl, z2, z3⟩)
  · have hb1 := pow14 q1 ⟨q2, q3⟩
    refine gs_ald0 (pc := 0) dJ14_putVal_0 ?_
    refine gs_getf (pc := 1) 2 dJ14_putVal_1 e1 clJ25 in_J25 (by decide) q798 (Or.inl rfl) rfl ?_
    refine gs_dup (pc := 4) dJ14_putVal_4 rfl ?_
    refine gs_ast6 (pc := 5) dJ14_putVal_5 rfl ?_
    refine gs_ifnull (pc := 7) (tgt := 19) dJ14_putVal_7 (by decide) (fun h => by cases h) (fun _ _ => ?_)
    refine gs_ald6 (pc := 10) dJ14_putVal_10 ?_
    refine gs_alen (pc := 12) dJ14_putVal_12 q5 ?_
    refine gs_dup (pc := 13) dJ14_putVal_13 rfl ?_
    refine gs_ist8 (pc := 14) dJ14_putVal_14 rfl ?_
    refine gs_if_ne (pc := 16) (tgt := 29) dJ14_putVal_16 (by decide) (by omega) (fun _ => ?_) (fun hn => absurd hn (by omega))
    exact k29 hp n ta hmr' Fr.refl (Or.inl ⟨rfl, rfl, rfl⟩)
end HM8
