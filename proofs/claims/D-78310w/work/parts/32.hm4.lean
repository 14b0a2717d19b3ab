/-! CONTRACTS: HashMap, part 4: resize, its outer loop. -/
section HM4
variable {X : gCx} {hp : gHp}
theorem opn.nil {lb nc : Nat} {xt : Nat → List AV} {h t : Option Nat} {P : List Nd} (ho : opn X hp lb nc xt h t P) (hP : P = []) : t = none := by
  rcases ho with ⟨-, -, h1⟩ | ⟨P', l, stop, h1, -⟩
  · exact h1
  · rw [hP] at h1; simp at h1
theorem rz_out {m n ta ta2 j : Nat} {L3 L5 : Option AV} {xt : Nat → List AV} {hpA : gHp} {es : List Nd} {t : Int → Option Nat} {c : gCe} {Q : Option AV → gHp → Prop} (hn : n = 2 ^ j) (hj4 : 4 ≤ j) (hj : j ≤ 13) (hnd : (es.map (fun nd => nd.1)).Nodup) (hr : ∀ nd ∈ es, 0 ≤ nd.2.1 ∧ nd.2.1 < 65536) (ha1 : ∀ x ∈ es, x.1 ≠ ta) (ha2 : ∀ x ∈ es, x.1 ≠ ta2) (ha3 : ∀ x ∈ es, x.1 ≠ m) (h12 : ta ≠ ta2) (h1m : m ≠ ta) (h2m : m ≠ ta2)
    (K : ∀ (hp' : gHp) (t2 : Int → Option Nat) (L8 L9 L10 L11 L12 L13 : Option AV), hp'.1 = hpA.1 → hp'.2.1 = hpA.2.1 → Fr X (fun l => l = m + 2) hpA hp' → gl X hp' m = some (m + 2, c) → gl X hp' ta2 = some (m + 2, .inl (4, 2 * n, .inr t2)) → (∀ i, i < 2 * n → seg X hp' (m + 2) 15 xt (t2 (i : Int)) (rs (2 * n) es i) none) → G X fJ14_resize 1 353 [some (vR (some m)), some (vR (some ta)), some (vI (n : Int)), L3, some (vI ((2 * n : Nat) : Int)), L5, some (vR (some ta2)), some (vI (n : Int)), L8, L9, L10, L11, L12, L13] [] hp' Q) :
    ∀ (r jj : Nat) (hpj : gHp) (t1 t2 : Int → Option Nat) (L8 L9 L10 L11 L12 L13 : Option AV), jj + r = n → hpj.1 = hpA.1 → hpj.2.1 = hpA.2.1 → Fr X (fun l => l = m + 2) hpA hpj → gl X hpj m = some (m + 2, c) → gl X hpj ta = some (m + 2, .inl (4, n, .inr t1)) → gl X hpj ta2 = some (m + 2, .inl (4, 2 * n, .inr t2)) → (∀ i, jj ≤ i → i < n → t1 (i : Int) = t (i : Int) ∧ seg X hpj (m + 2) 15 xt (t (i : Int)) (rs n es i) none ∧ t2 (i : Int) = none ∧ t2 ((i + n : Nat) : Int) = none) → (∀ i, i < jj → seg X hpj (m + 2) 15 xt (t2 (i : Int)) (rs (2 * n) es i) none ∧ seg X hpj (m + 2) 15 xt (t2 ((i + n : Nat) : Int)) (rs (2 * n) es (i + n)) none) → G X fJ14_resize 1 151 [some (vR (some m)), some (vR (some ta)), some (vI (n : Int)), L3, some (vI ((2 * n : Nat) : Int)), L5, some (vR (some ta2)), some (vI (jj : Int)), L8, L9, L10, L11, L12, L13] [] hpj Q := by
  have hb := pow14 hn ⟨hj4, by omega⟩
  have hn0 : 0 < n := by omega
  intro r
  induction r with
  | zero =>
    intro jj hpj t1 t2 L8 L9 L10 L11 L12 L13 hjj z1 z2 hF gm gta gt2 hun hdn
    obtain rfl : jj = n := by omega
    refine gs_ild7 (pc := 151) dJ14_resize_151 ?_
    refine gs_ild2 (pc := 153) dJ14_resize_153 ?_
    refine gs_ic_ge (pc := 154) (tgt := 353) dJ14_resize_154 (by decide) (by omega) (fun _ => ?_) (fun hn => absurd (by omega) hn)
    refine K hpj t2 _ _ _ _ _ _ z1 z2 hF gm gt2 (fun i hi => ?_)
    by_cases h : i < jj
    · exact (hdn i h).1
    · have := (hdn (i - jj) (by omega)).2
      rwa [show i - jj + jj = i by omega] at this
  | succ r ih =>
    intro jj hpj t1 t2 L8 L9 L10 L11 L12 L13 hjj z1 z2 hF gm gta gt2 hun hdn
    obtain ⟨b1, b2, b3, b4⟩ := hun jj (Nat.le_refl _) (by omega)
    have hlo := rs_lo (es := es) hn0 (show jj < n by omega)
    have hhi := rs_hi (es := es) hn0 (show jj < n by omega)
    have hLm : ∀ x ∈ rs n es jj, x ∈ es ∧ x.2.1.toNat % n = jj := fun x hx => mem_rs hx
    have hfrm : ∀ x ∈ es, x.2.1.toNat % n ≠ jj → ∀ y ∈ rs n es jj, x.1 ≠ y.1 := by
      intro x hx hne y hy he
      have hy := mem_rs hy
      have := nd_inj hnd hx hy.1 he
      subst this
      exact hne hy.2
    have hLnd : ((rs n es jj).map (fun nd => nd.1)).Nodup := nd_filter hnd
    have k347 : ∀ (hp' : gHp) (t1' tt : Int → Option Nat) (L8 L9 L10 L11 L12 L13 : Option AV), hp'.1 = hpj.1 → hp'.2.1 = hpj.2.1 → Fr X (fun l => l = m + 2) hpj hp' → (∀ a, a ≠ ta → a ≠ ta2 → (∀ x ∈ rs n es jj, a ≠ x.1) → gl X hp' a = gl X hpj a) → gl X hp' ta = some (m + 2, .inl (4, n, .inr t1')) → (∀ i : Int, i ≠ jj → t1' i = t1 i) → gl X hp' ta2 = some (m + 2, .inl (4, 2 * n, .inr tt)) → (∀ i : Int, i ≠ jj → i ≠ ((jj + n : Nat) : Int) → tt i = t2 i) → seg X hp' (m + 2) 15 xt (tt (jj : Int)) (rs (2 * n) es jj) none → seg X hp' (m + 2) 15 xt (tt ((jj + n : Nat) : Int)) (rs (2 * n) es (jj + n)) none → G X fJ14_resize 1 347 [some (vR (some m)), some (vR (some ta)), some (vI (n : Int)), L3, some (vI ((2 * n : Nat) : Int)), L5, some (vR (some ta2)), some (vI (jj : Int)), L8, L9, L10, L11, L12, L13] [] hp' Q := by
      intro hp' t1' tt L8 L9 L10 L11 L12 L13 y1 y2 yF yfr g1 e1 g2 e2 s1 s2
      refine gs_inc7 (pc := 347) dJ14_resize_347 rfl ?_
      refine gs_goto (pc := 350) (tgt := 151) dJ14_resize_350 (by decide) ?_
      refine ih (jj + 1) hp' t1' tt _ _ _ _ _ _ (by omega) (by omega) (by omega) (hF.trans yF) ?_ g1 g2 (fun i h1 h2 => ?_) (fun i hi => ?_)
      · rw [yfr m h1m h2m (fun x hx he => ha3 x (hLm x hx).1 he.symm)]; exact gm
      · obtain ⟨c1, c2, c3, c4⟩ := hun i (by omega) h2
        refine ⟨by rw [e1 _ (by omega)]; exact c1, c2.mono (fun x hx => ?_), by rw [e2 _ (by omega) (by omega)]; exact c3, by rw [e2 _ (by omega) (by omega)]; exact c4⟩
        have hx := mem_rs hx
        exact yfr _ (ha1 x hx.1) (ha2 x hx.1) (hfrm x hx.1 (by omega))
      · by_cases h : i = jj
        · subst h; exact ⟨s1, s2⟩
        · obtain ⟨c1, c2⟩ := hdn i (by omega)
          refine ⟨?_, ?_⟩
          · rw [e2 _ (by omega) (by omega)]
            refine c1.mono (fun x hx => ?_)
            rw [rs_lo hn0 (show i < n by omega)] at hx
            have hx := mem_rs (List.mem_filter.mp hx).1
            exact yfr _ (ha1 x hx.1) (ha2 x hx.1) (hfrm x hx.1 (by omega))
          · rw [e2 _ (by omega) (by omega)]
            refine c2.mono (fun x hx => ?_)
            rw [rs_hi hn0 (show i < n by omega)] at hx
            have hx := mem_rs (List.mem_filter.mp hx).1
            exact yfr _ (ha1 x hx.1) (ha2 x hx.1) (hfrm x hx.1 (by omega))
    refine gs_ild7 (pc := 151) dJ14_resize_151 ?_
    refine gs_ild2 (pc := 153) dJ14_resize_153 ?_
    refine gs_ic_ge (pc := 154) (tgt := 353) dJ14_resize_154 (by decide) (by omega) (fun hn => absurd hn (by omega)) (fun _ => ?_)
    refine gs_ald1 (pc := 157) dJ14_resize_157 ?_
    refine gs_ild7 (pc := 158) dJ14_resize_158 ?_
    refine gs_aald (pc := 160) 4 (by decide) dJ14_resize_160 gta (by omega) (by omega) ?_
    refine gs_dup (pc := 161) dJ14_resize_161 rfl ?_
    refine gs_ast8 (pc := 162) dJ14_resize_162 rfl ?_
    rw [b1]
    generalize t (jj : Int) = h0 at b2 ⊢
    rw [hlo, hhi] at k347
    generalize rs n es jj = LL at b2 k347 hLm hLnd
    cases LL with
    | nil =>
      have b2 : h0 = none := b2
      subst b2
      refine gs_ifnull (pc := 164) (tgt := 347) dJ14_resize_164 (by decide) (fun _ => ?_) (fun _ h => by cases h)
      refine k347 hpj t1 t2 _ _ _ _ _ _ rfl rfl Fr.refl (fun _ _ _ _ => rfl) gta (fun _ _ => rfl) gt2 (fun _ _ _ => rfl) b3 b4
    | cons nd LL =>
      obtain ⟨rfl, nxt, g1, g2⟩ := b2
      have hnde := (hLm nd List.mem_cons_self).1
      refine gs_ifnull (pc := 164) (tgt := 347) dJ14_resize_164 (by decide) (fun h => by cases h) (fun _ _ => ?_)
      refine gs_ald1 (pc := 167) dJ14_resize_167 ?_
      refine gs_ild7 (pc := 168) dJ14_resize_168 ?_
      refine gs_null (pc := 170) dJ14_resize_170 ?_
      refine gs_aastN (pc := 171) 4 rfl dJ14_resize_171 gta (by omega) (by omega) (by omega) ?_
      have w1 := gl_set_self (c := (m + 2, Sum.inl (4, n, Sum.inr (fup t1 (jj : Int) none)))) gta (by omega)
      have w2 : ∀ a, a ≠ ta → gl X (hset hpj ta (m + 2, Sum.inl (4, n, Sum.inr (fup t1 (jj : Int) none)))) a = gl X hpj a := fun a h => gl_set_ne h
      have hF1 : Fr X (fun l => l = m + 2) hpj (hset hpj ta (m + 2, Sum.inl (4, n, Sum.inr (fup t1 (jj : Int) none)))) := Fr.refl.set gta (by omega) rfl ⟨rfl, rfl, rfl⟩
      generalize hh : hset hpj ta (m + 2, Sum.inl (4, n, Sum.inr (fup t1 (jj : Int) none))) = hp1 at w1 w2 hF1 ⊢
      have hc1 : hp1.1 = hpj.1 := by rw [← hh]; rfl
      have hc2 : hp1.2.1 = hpj.2.1 := by rw [← hh]; rfl
      have g1' := g1
      rw [← w2 _ (ha1 nd hnde)] at g1'
      have gt2' := gt2
      rw [← w2 _ (Ne.symm h12)] at gt2'
      have hre := hr nd hnde
      refine gs_ald8 (pc := 172) dJ14_resize_172 ?_
      refine gs_getf (pc := 174) 3 dJ14_resize_174 g1' clJ21 in_J21 (by decide) q1287 (Or.inl rfl) rfl ?_
      cases LL with
      | nil =>
        have g2 : nxt = none := g2
        subst g2
        have hk2 : nd.2.1.toNat % (2 * n) < 2 * n := Nat.mod_lt _ (by omega)
        refine gs_ifnonnull (pc := 177) (tgt := 198) dJ14_resize_177 (by decide) (fun _ h => by cases h) (fun _ => ?_)
        refine gs_ald6 (pc := 180) dJ14_resize_180 ?_
        refine gs_ald8 (pc := 182) dJ14_resize_182 ?_
        refine gs_getf (pc := 184) 0 dJ14_resize_184 g1' clJ21 in_J21 (by decide) q1269 (Or.inl rfl) rfl ?_
        refine gs_ild4 (pc := 187) dJ14_resize_187 ?_
        refine gs_iconst (pc := 189) dJ14_resize_189 ?_
        refine gs_isub (pc := 190) dJ14_resize_190 ?_
        refine gs_iand (pc := 191) dJ14_resize_191 (by rw [Int32.and_comm]; exact i_andN (j := j + 1) (by rw [hn, Nat.pow_succ]; omega) ⟨by omega, by omega⟩ hre) ?_
        refine gs_ald8 (pc := 192) dJ14_resize_192 ?_
        refine gs_aast (pc := 194) 4 (by decide) rfl dJ14_resize_194 gt2' (by omega) ⟨_, _, _, _, _, _, g1', clJ21, (Or.inl rfl)⟩ (by omega) (by omega) ?_
        refine gs_goto (pc := 195) (tgt := 347) dJ14_resize_195 (by decide) ?_
        have hkm := (hLm nd List.mem_cons_self).2
        have hsp : nd.2.1.toNat % (2 * n) = nd.2.1.toNat % n + n * (nd.2.1.toNat / n % 2) := by rw [Nat.mul_comm 2 n, Nat.mod_mul]
        have v1 : gl X (hset hp1 ta2 (m + 2, Sum.inl (4, 2 * n, Sum.inr (fup t2 ((nd.2.1.toNat % (2 * n) : Nat) : Int) (some nd.1))))) nd.1 = some (m + 2, ndC 15 nd.2.1 nd.2.2.1 nd.2.2.2 none (xt nd.1)) := by rw [gl_set_ne (ha2 nd hnde)]; exact g1'
        refine k347 _ (fup t1 (jj : Int) none) (fup t2 ((nd.2.1.toNat % (2 * n) : Nat) : Int) (some nd.1)) _ _ _ _ _ _ hc1 hc2 (hF1.set gt2' (by omega) rfl ⟨rfl, rfl, rfl⟩) (fun a q1 q2 q3 => by rw [gl_set_ne q2]; exact w2 a q1) (by rw [gl_set_ne h12]; exact w1) (fun i hi => fup_ne hi) (gl_set_self gt2' (by omega)) (fun i q1 q2 => fup_ne ?_) ?_ ?_
        · rcases (by omega : nd.2.1.toNat / n % 2 = 0 ∨ nd.2.1.toNat / n % 2 = 1) with h | h
          · rw [h] at hsp; intro q; exact q1 (by rw [q, hsp, hkm]; simp)
          · rw [h] at hsp; intro q; exact q2 (by rw [q, hsp, hkm]; simp)
        · by_cases h : nd.2.1.toNat / n % 2 = 0
          · rw [h] at hsp
            rw [List.filter_cons, if_pos (by simp [loB, h]), List.filter_nil, hsp, hkm]
            exact ⟨fup_eq, none, by rw [hsp, hkm] at v1; exact v1, rfl⟩
          · rw [List.filter_cons, if_neg (by simp [loB, h]), List.filter_nil]
            rw [show nd.2.1.toNat / n % 2 = 1 by omega] at hsp
            exact (fup_ne (by omega)).trans b3
        · by_cases h : nd.2.1.toNat / n % 2 = 0
          · rw [h] at hsp
            rw [List.filter_cons, if_neg (by simp [hiB, h]), List.filter_nil]
            exact (fup_ne (by omega)).trans b4
          · rw [show nd.2.1.toNat / n % 2 = 1 by omega, Nat.mul_one] at hsp
            rw [List.filter_cons, if_pos (by simp [hiB, h]), List.filter_nil, hsp, hkm]
            exact ⟨fup_eq, none, by rw [hsp, hkm] at v1; exact v1, rfl⟩
      | cons nd2 LL =>
        have g2s := g2
        obtain ⟨rfl, -⟩ := g2s
        refine gs_ifnonnull (pc := 177) (tgt := 198) dJ14_resize_177 (by decide) (fun _ _ => ?_) (fun h => by cases h)
        refine gs_ald8 (pc := 198) dJ14_resize_198 ?_
        refine gs_instNo (pc := 200) dJ14_resize_200 q986 g1' clJ21 (Or.inl rfl) ?_
        refine gs_if_eq (pc := 203) (tgt := 223) dJ14_resize_203 (by decide) (by omega) (fun _ => ?_) (fun hn => absurd rfl hn)
        refine gs_null (pc := 223) dJ14_resize_223 ?_
        refine gs_ast9 (pc := 224) dJ14_resize_224 rfl ?_
        refine gs_null (pc := 226) dJ14_resize_226 ?_
        refine gs_ast10 (pc := 227) dJ14_resize_227 rfl ?_
        refine gs_null (pc := 229) dJ14_resize_229 ?_
        refine gs_ast11 (pc := 230) dJ14_resize_230 rfl ?_
        refine gs_null (pc := 232) dJ14_resize_232 ?_
        refine gs_ast12 (pc := 233) dJ14_resize_233 rfl ?_
        refine rz_in (hp0 := hp1) (LL := nd :: nd2 :: LL) (xt := xt) hn (by omega) hLnd (fun x hx => hr x (hLm x hx).1) (fun hp' h1 s1 h2 s2 e13 hsp o1 o2 => ?_) _ [] hp1 none none none none _ _ rfl (by simp) ⟨rfl, rfl, Fr.refl, fun _ _ => rfl⟩ ⟨rfl, _, g1', g2.mono (fun x hx => w2 _ (ha1 x (hLm x (List.mem_cons_of_mem _ hx)).1))⟩ (Or.inl ⟨rfl, rfl, rfl⟩) (Or.inl ⟨rfl, rfl, rfl⟩)
        obtain ⟨p1, p2, p3, p4⟩ := hsp
        generalize nd :: nd2 :: LL = LA at *
        have hlhd : ∀ x ∈ LA.filter (hiB n), ∀ y ∈ LA.filter (loB n), x.1 ≠ y.1 := by
          intro x hx y hy he
          have hx := List.mem_filter.mp hx
          have hy := List.mem_filter.mp hy
          have := nd_inj hLnd hx.1 hy.1 he
          subst this
          simp [loB, hiB] at hx hy
          omega
        have k327 : ∀ (hpB : gHp) (tt : Int → Option Nat), hpB.1 = hpj.1 → hpB.2.1 = hpj.2.1 → Fr X (fun l => l = m + 2) hpj hpB → (∀ a, a ≠ ta → a ≠ ta2 → (∀ x ∈ LA, a ≠ x.1) → gl X hpB a = gl X hpj a) → gl X hpB ta = some (m + 2, .inl (4, n, .inr (fup t1 (jj : Int) none))) → gl X hpB ta2 = some (m + 2, .inl (4, 2 * n, .inr tt)) → (∀ i : Int, i ≠ jj → tt i = t2 i) → seg X hpB (m + 2) 15 xt (tt (jj : Int)) (LA.filter (loB n)) none → opn X hpB (m + 2) 15 xt h2 s2 (LA.filter (hiB n)) → G X fJ14_resize 1 327 [some (vR (some m)), some (vR (some ta)), some (vI (n : Int)), L3, some (vI ((2 * n : Nat) : Int)), L5, some (vR (some ta2)), some (vI (jj : Int)), some (vR none), some (vR h1), some (vR s1), some (vR h2), some (vR s2), some (vR e13)] [] hpB Q := by
          intro hpB tt y1 y2 yF yfr gA gB etl sl o2
          rcases o2 with ⟨q1, rfl, rfl⟩ | ⟨P', l, stop, q1, rfl, q3⟩
          · refine gs_ald12 (pc := 327) dJ14_resize_327 ?_
            refine gs_ifnull (pc := 329) (tgt := 347) dJ14_resize_329 (by decide) (fun _ => ?_) (fun _ h => by cases h)
            refine k347 hpB _ tt _ _ _ _ _ _ y1 y2 yF yfr gA (fun i hi => fup_ne hi) gB (fun i q1 q2 => etl i q1) sl ?_
            rw [q1, etl _ (by omega), b4]; rfl
          · have hlm : l ∈ LA.filter (hiB n) := by rw [q1]; exact List.mem_append_right _ (List.mem_singleton.mpr rfl)
            have hlA := (List.mem_filter.mp hlm).1
            have hle := (hLm l hlA).1
            have hcl := q3.last
            have hndh : ((P' ++ [l]).map (fun nd => nd.1)).Nodup := by rw [← q1]; exact nd_filter hLnd
            refine gs_ald12 (pc := 327) dJ14_resize_327 ?_
            refine gs_ifnull (pc := 329) (tgt := 347) dJ14_resize_329 (by decide) (fun h => by cases h) (fun _ _ => ?_)
            refine gs_ald12 (pc := 332) dJ14_resize_332 ?_
            refine gs_null (pc := 334) dJ14_resize_334 ?_
            refine gs_putf (pc := 335) 3 (ndC 15 l.2.1 l.2.2.1 l.2.2.2 none (xt l.1)) dJ14_resize_335 hcl (by omega) clJ21 in_J21 tyJ21 tyJ21_ok nmJ21 (by decide) q1287 (Or.inl rfl) rfl (fok_obj _ _) (Nat.le_of_ble_eq_true rfl) rfl ?_
            have r1 := q3.relink (stop' := none) (by omega) (fun x hx => nd_app hndh hx (List.mem_singleton.mpr rfl))
            have r2 : ∀ a, a ≠ l.1 → gl X (hset hpB l.1 (m + 2, ndC 15 l.2.1 l.2.2.1 l.2.2.2 none (xt l.1))) a = gl X hpB a := fun a h => gl_set_ne h
            have rF : Fr X (fun l => l = m + 2) hpj (hset hpB l.1 (m + 2, ndC 15 l.2.1 l.2.2.1 l.2.2.2 none (xt l.1))) := yF.set hcl (by omega) rfl ⟨rfl, rfl⟩
            generalize hh3 : hset hpB l.1 (m + 2, ndC 15 l.2.1 l.2.2.1 l.2.2.2 none (xt l.1)) = hpC at r1 r2 rF ⊢
            have hc3 : hpC.1 = hpB.1 := by rw [← hh3]; rfl
            have hc4 : hpC.2.1 = hpB.2.1 := by rw [← hh3]; rfl
            obtain ⟨x, hx, rfl, nx', hcx⟩ := r1.head (by simp)
            have gB' := gB
            rw [← r2 ta2 (fun h => ha2 l hle h.symm)] at gB'
            have gA' := gA
            rw [← r2 ta (fun h => ha1 l hle h.symm)] at gA'
            refine gs_ald6 (pc := 338) dJ14_resize_338 ?_
            refine gs_ild7 (pc := 340) dJ14_resize_340 ?_
            refine gs_ild2 (pc := 342) dJ14_resize_342 ?_
            refine gs_iadd (pc := 343) dJ14_resize_343 ?_
            refine gs_ald11 (pc := 344) dJ14_resize_344 ?_
            refine gs_aast (pc := 346) 4 (by decide) rfl dJ14_resize_346 gB' (by omega) ⟨_, _, _, _, _, _, hcx, clJ21, (Or.inl rfl)⟩ (by omega) (by omega) ?_
            refine k347 _ (fup t1 (jj : Int) none) (fup tt ((jj : Int) + (n : Int)) (some x.1)) _ _ _ _ _ _ (hc3.trans y1) (hc4.trans y2) (rF.set gB' (by omega) rfl ⟨rfl, rfl, rfl⟩) (fun a v1 v2 v3 => ?_) (by rw [gl_set_ne h12]; exact gA') (fun i hi => fup_ne hi) (gl_set_self gB' (by omega)) (fun i v1 v2 => ?_) ?_ ?_
            · rw [gl_set_ne v2, r2 a (v3 l hlA)]; exact yfr a v1 v2 v3
            · rw [fup_ne (by omega)]; exact etl i v1
            · rw [fup_ne (by omega)]
              refine sl.mono (fun y hy => ?_)
              have hyA := (List.mem_filter.mp hy).1
              rw [gl_set_ne (ha2 y (hLm y hyA).1)]
              exact r2 _ (fun h => hlhd l hlm y hy h.symm)
            · rw [show ((jj + n : Nat) : Int) = (jj : Int) + (n : Int) by omega, fup_eq, q1]
              refine r1.mono (fun y hy => gl_set_ne ?_)
              rw [← q1] at hy
              exact ha2 y (hLm y (List.mem_filter.mp hy).1).1
        have gtb : gl X hp' ta2 = some (m + 2, .inl (4, 2 * n, .inr t2)) := by rw [p4 ta2 (fun x hx he => ha2 x (hLm x hx).1 he.symm)]; exact gt2'
        have gtaa : gl X hp' ta = some (m + 2, .inl (4, n, .inr (fup t1 (jj : Int) none))) := by rw [p4 ta (fun x hx he => ha1 x (hLm x hx).1 he.symm)]; exact w1
        rcases o1 with ⟨q1, rfl, rfl⟩ | ⟨P', l, stop, q1, rfl, q3⟩
        · refine gs_ald10 (pc := 309) dJ14_resize_309 ?_
          refine gs_ifnull (pc := 311) (tgt := 327) dJ14_resize_311 (by decide) (fun _ => ?_) (fun _ h => by cases h)
          refine k327 hp' t2 (by omega) (by omega) (hF1.trans p3) (fun a v1 v2 v3 => by rw [p4 a v3]; exact w2 a v1) gtaa gtb (fun _ _ => rfl) ?_ o2
          rw [q1]; exact b3
        · have hlm : l ∈ LA.filter (loB n) := by rw [q1]; exact List.mem_append_right _ (List.mem_singleton.mpr rfl)
          have hlA := (List.mem_filter.mp hlm).1
          have hle := (hLm l hlA).1
          have hcl := q3.last
          have hndh : ((P' ++ [l]).map (fun nd => nd.1)).Nodup := by rw [← q1]; exact nd_filter hLnd
          refine gs_ald10 (pc := 309) dJ14_resize_309 ?_
          refine gs_ifnull (pc := 311) (tgt := 327) dJ14_resize_311 (by decide) (fun h => by cases h) (fun _ _ => ?_)
          refine gs_ald10 (pc := 314) dJ14_resize_314 ?_
          refine gs_null (pc := 316) dJ14_resize_316 ?_
          refine gs_putf (pc := 317) 3 (ndC 15 l.2.1 l.2.2.1 l.2.2.2 none (xt l.1)) dJ14_resize_317 hcl (by omega) clJ21 in_J21 tyJ21 tyJ21_ok nmJ21 (by decide) q1287 (Or.inl rfl) rfl (fok_obj _ _) (Nat.le_of_ble_eq_true rfl) rfl ?_
          have r1 := q3.relink (stop' := none) (by omega) (fun x hx => nd_app hndh hx (List.mem_singleton.mpr rfl))
          have r2 : ∀ a, a ≠ l.1 → gl X (hset hp' l.1 (m + 2, ndC 15 l.2.1 l.2.2.1 l.2.2.2 none (xt l.1))) a = gl X hp' a := fun a h => gl_set_ne h
          have rF : Fr X (fun l => l = m + 2) hpj (hset hp' l.1 (m + 2, ndC 15 l.2.1 l.2.2.1 l.2.2.2 none (xt l.1))) := (hF1.trans p3).set hcl (by omega) rfl ⟨rfl, rfl⟩
          generalize hh3 : hset hp' l.1 (m + 2, ndC 15 l.2.1 l.2.2.1 l.2.2.2 none (xt l.1)) = hpC at r1 r2 rF ⊢
          have hc3 : hpC.1 = hp'.1 := by rw [← hh3]; rfl
          have hc4 : hpC.2.1 = hp'.2.1 := by rw [← hh3]; rfl
          obtain ⟨x, hx, rfl, nx', hcx⟩ := r1.head (by simp)
          have gB' := gtb
          rw [← r2 ta2 (fun h => ha2 l hle h.symm)] at gB'
          have gA' := gtaa
          rw [← r2 ta (fun h => ha1 l hle h.symm)] at gA'
          refine gs_ald6 (pc := 320) dJ14_resize_320 ?_
          refine gs_ild7 (pc := 322) dJ14_resize_322 ?_
          refine gs_ald9 (pc := 324) dJ14_resize_324 ?_
          refine gs_aast (pc := 326) 4 (by decide) rfl dJ14_resize_326 gB' (by omega) ⟨_, _, _, _, _, _, hcx, clJ21, (Or.inl rfl)⟩ (by omega) (by omega) ?_
          refine k327 _ (fup t2 (jj : Int) (some x.1)) (by show hpC.1 = _; omega) (by show hpC.2.1 = _; omega) (rF.set gB' (by omega) rfl ⟨rfl, rfl, rfl⟩) (fun a v1 v2 v3 => ?_) (by rw [gl_set_ne h12]; exact gA') (gl_set_self gB' (by omega)) (fun i hi => fup_ne hi) ?_ ?_
          · rw [gl_set_ne v2, r2 a (v3 l hlA), p4 a v3]; exact w2 a v1
          · rw [fup_eq, q1]
            refine r1.mono (fun y hy => gl_set_ne ?_)
            rw [← q1] at hy
            exact ha2 y (hLm y (List.mem_filter.mp hy).1).1
          · refine o2.mono (fun y hy => ?_)
            rw [gl_set_ne (ha2 y (hLm y (List.mem_filter.mp hy).1).1)]
            exact r2 _ (hlhd y hy l hlm)
theorem rz_outL {m n ta ta2 j : Nat} {L3 L5 : Option AV} {xt : Nat → List AV} {hpA : gHp} {es : List Nd} {t : Int → Option Nat} {c : gCe} {Q : Option AV → gHp → Prop} (hn : n = 2 ^ j) (hj4 : 4 ≤ j) (hj : j ≤ 13) (hnd : (es.map (fun nd => nd.1)).Nodup) (hr : ∀ nd ∈ es, 0 ≤ nd.2.1 ∧ nd.2.1 < 65536) (ha1 : ∀ x ∈ es, x.1 ≠ ta) (ha2 : ∀ x ∈ es, x.1 ≠ ta2) (ha3 : ∀ x ∈ es, x.1 ≠ m) (h12 : ta ≠ ta2) (h1m : m ≠ ta) (h2m : m ≠ ta2)
    (K : ∀ (hp' : gHp) (t2 : Int → Option Nat) (L8 L9 L10 L11 L12 L13 : Option AV), hp'.1 = hpA.1 → hp'.2.1 = hpA.2.1 → Fr X (fun l => l = m + 2) hpA hp' → gl X hp' m = some (m + 2, c) → gl X hp' ta2 = some (m + 2, .inl (4, 2 * n, .inr t2)) → (∀ i, i < 2 * n → seg X hp' (m + 2) 17 xt (t2 (i : Int)) (rs (2 * n) es i) none) → G X fJ14_resize 1 353 [some (vR (some m)), some (vR (some ta)), some (vI (n : Int)), L3, some (vI ((2 * n : Nat) : Int)), L5, some (vR (some ta2)), some (vI (n : Int)), L8, L9, L10, L11, L12, L13] [] hp' Q) :
    ∀ (r jj : Nat) (hpj : gHp) (t1 t2 : Int → Option Nat) (L8 L9 L10 L11 L12 L13 : Option AV), jj + r = n → hpj.1 = hpA.1 → hpj.2.1 = hpA.2.1 → Fr X (fun l => l = m + 2) hpA hpj → gl X hpj m = some (m + 2, c) → gl X hpj ta = some (m + 2, .inl (4, n, .inr t1)) → gl X hpj ta2 = some (m + 2, .inl (4, 2 * n, .inr t2)) → (∀ i, jj ≤ i → i < n → t1 (i : Int) = t (i : Int) ∧ seg X hpj (m + 2) 17 xt (t (i : Int)) (rs n es i) none ∧ t2 (i : Int) = none ∧ t2 ((i + n : Nat) : Int) = none) → (∀ i, i < jj → seg X hpj (m + 2) 17 xt (t2 (i : Int)) (rs (2 * n) es i) none ∧ seg X hpj (m + 2) 17 xt (t2 ((i + n : Nat) : Int)) (rs (2 * n) es (i + n)) none) → G X fJ14_resize 1 151 [some (vR (some m)), some (vR (some ta)), some (vI (n : Int)), L3, some (vI ((2 * n : Nat) : Int)), L5, some (vR (some ta2)), some (vI (jj : Int)), L8, L9, L10, L11, L12, L13] [] hpj Q := by
  have hb := pow14 hn ⟨hj4, by omega⟩
  have hn0 : 0 < n := by omega
  intro r
  induction r with
  | zero =>
    intro jj hpj t1 t2 L8 L9 L10 L11 L12 L13 hjj z1 z2 hF gm gta gt2 hun hdn
    obtain rfl : jj = n := by omega
    refine gs_ild7 (pc := 151) dJ14_resize_151 ?_
    refine gs_ild2 (pc := 153) dJ14_resize_153 ?_
    refine gs_ic_ge (pc := 154) (tgt := 353) dJ14_resize_154 (by decide) (by omega) (fun _ => ?_) (fun hn => absurd (by omega) hn)
    refine K hpj t2 _ _ _ _ _ _ z1 z2 hF gm gt2 (fun i hi => ?_)
    by_cases h : i < jj
    · exact (hdn i h).1
    · have := (hdn (i - jj) (by omega)).2
      rwa [show i - jj + jj = i by omega] at this
  | succ r ih =>
    intro jj hpj t1 t2 L8 L9 L10 L11 L12 L13 hjj z1 z2 hF gm gta gt2 hun hdn
    obtain ⟨b1, b2, b3, b4⟩ := hun jj (Nat.le_refl _) (by omega)
    have hlo := rs_lo (es := es) hn0 (show jj < n by omega)
    have hhi := rs_hi (es := es) hn0 (show jj < n by omega)
    have hLm : ∀ x ∈ rs n es jj, x ∈ es ∧ x.2.1.toNat % n = jj := fun x hx => mem_rs hx
    have hfrm : ∀ x ∈ es, x.2.1.toNat % n ≠ jj → ∀ y ∈ rs n es jj, x.1 ≠ y.1 := by
      intro x hx hne y hy he
      have hy := mem_rs hy
      have := nd_inj hnd hx hy.1 he
      subst this
      exact hne hy.2
    have hLnd : ((rs n es jj).map (fun nd => nd.1)).Nodup := nd_filter hnd
    have k347 : ∀ (hp' : gHp) (t1' tt : Int → Option Nat) (L8 L9 L10 L11 L12 L13 : Option AV), hp'.1 = hpj.1 → hp'.2.1 = hpj.2.1 → Fr X (fun l => l = m + 2) hpj hp' → (∀ a, a ≠ ta → a ≠ ta2 → (∀ x ∈ rs n es jj, a ≠ x.1) → gl X hp' a = gl X hpj a) → gl X hp' ta = some (m + 2, .inl (4, n, .inr t1')) → (∀ i : Int, i ≠ jj → t1' i = t1 i) → gl X hp' ta2 = some (m + 2, .inl (4, 2 * n, .inr tt)) → (∀ i : Int, i ≠ jj → i ≠ ((jj + n : Nat) : Int) → tt i = t2 i) → seg X hp' (m + 2) 17 xt (tt (jj : Int)) (rs (2 * n) es jj) none → seg X hp' (m + 2) 17 xt (tt ((jj + n : Nat) : Int)) (rs (2 * n) es (jj + n)) none → G X fJ14_resize 1 347 [some (vR (some m)), some (vR (some ta)), some (vI (n : Int)), L3, some (vI ((2 * n : Nat) : Int)), L5, some (vR (some ta2)), some (vI (jj : Int)), L8, L9, L10, L11, L12, L13] [] hp' Q := by
      intro hp' t1' tt L8 L9 L10 L11 L12 L13 y1 y2 yF yfr g1 e1 g2 e2 s1 s2
      refine gs_inc7 (pc := 347) dJ14_resize_347 rfl ?_
      refine gs_goto (pc := 350) (tgt := 151) dJ14_resize_350 (by decide) ?_
      refine ih (jj + 1) hp' t1' tt _ _ _ _ _ _ (by omega) (by omega) (by omega) (hF.trans yF) ?_ g1 g2 (fun i h1 h2 => ?_) (fun i hi => ?_)
      · rw [yfr m h1m h2m (fun x hx he => ha3 x (hLm x hx).1 he.symm)]; exact gm
      · obtain ⟨c1, c2, c3, c4⟩ := hun i (by omega) h2
        refine ⟨by rw [e1 _ (by omega)]; exact c1, c2.mono (fun x hx => ?_), by rw [e2 _ (by omega) (by omega)]; exact c3, by rw [e2 _ (by omega) (by omega)]; exact c4⟩
        have hx := mem_rs hx
        exact yfr _ (ha1 x hx.1) (ha2 x hx.1) (hfrm x hx.1 (by omega))
      · by_cases h : i = jj
        · subst h; exact ⟨s1, s2⟩
        · obtain ⟨c1, c2⟩ := hdn i (by omega)
          refine ⟨?_, ?_⟩
          · rw [e2 _ (by omega) (by omega)]
            refine c1.mono (fun x hx => ?_)
            rw [rs_lo hn0 (show i < n by omega)] at hx
            have hx := mem_rs (List.mem_filter.mp hx).1
            exact yfr _ (ha1 x hx.1) (ha2 x hx.1) (hfrm x hx.1 (by omega))
          · rw [e2 _ (by omega) (by omega)]
            refine c2.mono (fun x hx => ?_)
            rw [rs_hi hn0 (show i < n by omega)] at hx
            have hx := mem_rs (List.mem_filter.mp hx).1
            exact yfr _ (ha1 x hx.1) (ha2 x hx.1) (hfrm x hx.1 (by omega))
    refine gs_ild7 (pc := 151) dJ14_resize_151 ?_
    refine gs_ild2 (pc := 153) dJ14_resize_153 ?_
    refine gs_ic_ge (pc := 154) (tgt := 353) dJ14_resize_154 (by decide) (by omega) (fun hn => absurd hn (by omega)) (fun _ => ?_)
    refine gs_ald1 (pc := 157) dJ14_resize_157 ?_
    refine gs_ild7 (pc := 158) dJ14_resize_158 ?_
    refine gs_aald (pc := 160) 4 (by decide) dJ14_resize_160 gta (by omega) (by omega) ?_
    refine gs_dup (pc := 161) dJ14_resize_161 rfl ?_
    refine gs_ast8 (pc := 162) dJ14_resize_162 rfl ?_
    rw [b1]
    generalize t (jj : Int) = h0 at b2 ⊢
    rw [hlo, hhi] at k347
    generalize rs n es jj = LL at b2 k347 hLm hLnd
    cases LL with
    | nil =>
      have b2 : h0 = none := b2
      subst b2
      refine gs_ifnull (pc := 164) (tgt := 347) dJ14_resize_164 (by decide) (fun _ => ?_) (fun _ h => by cases h)
      refine k347 hpj t1 t2 _ _ _ _ _ _ rfl rfl Fr.refl (fun _ _ _ _ => rfl) gta (fun _ _ => rfl) gt2 (fun _ _ _ => rfl) b3 b4
    | cons nd LL =>
      obtain ⟨rfl, nxt, g1, g2⟩ := b2
      have hnde := (hLm nd List.mem_cons_self).1
      refine gs_ifnull (pc := 164) (tgt := 347) dJ14_resize_164 (by decide) (fun h => by cases h) (fun _ _ => ?_)
      refine gs_ald1 (pc := 167) dJ14_resize_167 ?_
      refine gs_ild7 (pc := 168) dJ14_resize_168 ?_
      refine gs_null (pc := 170) dJ14_resize_170 ?_
      refine gs_aastN (pc := 171) 4 rfl dJ14_resize_171 gta (by omega) (by omega) (by omega) ?_
      have w1 := gl_set_self (c := (m + 2, Sum.inl (4, n, Sum.inr (fup t1 (jj : Int) none)))) gta (by omega)
      have w2 : ∀ a, a ≠ ta → gl X (hset hpj ta (m + 2, Sum.inl (4, n, Sum.inr (fup t1 (jj : Int) none)))) a = gl X hpj a := fun a h => gl_set_ne h
      have hF1 : Fr X (fun l => l = m + 2) hpj (hset hpj ta (m + 2, Sum.inl (4, n, Sum.inr (fup t1 (jj : Int) none)))) := Fr.refl.set gta (by omega) rfl ⟨rfl, rfl, rfl⟩
      generalize hh : hset hpj ta (m + 2, Sum.inl (4, n, Sum.inr (fup t1 (jj : Int) none))) = hp1 at w1 w2 hF1 ⊢
      have hc1 : hp1.1 = hpj.1 := by rw [← hh]; rfl
      have hc2 : hp1.2.1 = hpj.2.1 := by rw [← hh]; rfl
      have g1' := g1
      rw [← w2 _ (ha1 nd hnde)] at g1'
      have gt2' := gt2
      rw [← w2 _ (Ne.symm h12)] at gt2'
      have hre := hr nd hnde
      refine gs_ald8 (pc := 172) dJ14_resize_172 ?_
      refine gs_getf (pc := 174) 3 dJ14_resize_174 g1' clJ22 in_J22 (by decide) q1287 (Or.inl rfl) rfl ?_
      cases LL with
      | nil =>
        have g2 : nxt = none := g2
        subst g2
        have hk2 : nd.2.1.toNat % (2 * n) < 2 * n := Nat.mod_lt _ (by omega)
        refine gs_ifnonnull (pc := 177) (tgt := 198) dJ14_resize_177 (by decide) (fun _ h => by cases h) (fun _ => ?_)
        refine gs_ald6 (pc := 180) dJ14_resize_180 ?_
        refine gs_ald8 (pc := 182) dJ14_resize_182 ?_
        refine gs_getf (pc := 184) 0 dJ14_resize_184 g1' clJ22 in_J22 (by decide) q1269 (Or.inl rfl) rfl ?_
        refine gs_ild4 (pc := 187) dJ14_resize_187 ?_
        refine gs_iconst (pc := 189) dJ14_resize_189 ?_
        refine gs_isub (pc := 190) dJ14_resize_190 ?_
        refine gs_iand (pc := 191) dJ14_resize_191 (by rw [Int32.and_comm]; exact i_andN (j := j + 1) (by rw [hn, Nat.pow_succ]; omega) ⟨by omega, by omega⟩ hre) ?_
        refine gs_ald8 (pc := 192) dJ14_resize_192 ?_
        refine gs_aast (pc := 194) 4 (by decide) rfl dJ14_resize_194 gt2' (by omega) ⟨_, _, _, _, _, _, g1', clJ22, (Or.inr q2825)⟩ (by omega) (by omega) ?_
        refine gs_goto (pc := 195) (tgt := 347) dJ14_resize_195 (by decide) ?_
        have hkm := (hLm nd List.mem_cons_self).2
        have hsp : nd.2.1.toNat % (2 * n) = nd.2.1.toNat % n + n * (nd.2.1.toNat / n % 2) := by rw [Nat.mul_comm 2 n, Nat.mod_mul]
        have v1 : gl X (hset hp1 ta2 (m + 2, Sum.inl (4, 2 * n, Sum.inr (fup t2 ((nd.2.1.toNat % (2 * n) : Nat) : Int) (some nd.1))))) nd.1 = some (m + 2, ndC 17 nd.2.1 nd.2.2.1 nd.2.2.2 none (xt nd.1)) := by rw [gl_set_ne (ha2 nd hnde)]; exact g1'
        refine k347 _ (fup t1 (jj : Int) none) (fup t2 ((nd.2.1.toNat % (2 * n) : Nat) : Int) (some nd.1)) _ _ _ _ _ _ hc1 hc2 (hF1.set gt2' (by omega) rfl ⟨rfl, rfl, rfl⟩) (fun a q1 q2 q3 => by rw [gl_set_ne q2]; exact w2 a q1) (by rw [gl_set_ne h12]; exact w1) (fun i hi => fup_ne hi) (gl_set_self gt2' (by omega)) (fun i q1 q2 => fup_ne ?_) ?_ ?_
        · rcases (by omega : nd.2.1.toNat / n % 2 = 0 ∨ nd.2.1.toNat / n % 2 = 1) with h | h
          · rw [h] at hsp; intro q; exact q1 (by rw [q, hsp, hkm]; simp)
          · rw [h] at hsp; intro q; exact q2 (by rw [q, hsp, hkm]; simp)
        · by_cases h : nd.2.1.toNat / n % 2 = 0
          · rw [h] at hsp
            rw [List.filter_cons, if_pos (by simp [loB, h]), List.filter_nil, hsp, hkm]
            exact ⟨fup_eq, none, by rw [hsp, hkm] at v1; exact v1, rfl⟩
          · rw [List.filter_cons, if_neg (by simp [loB, h]), List.filter_nil]
            rw [show nd.2.1.toNat / n % 2 = 1 by omega] at hsp
            exact (fup_ne (by omega)).trans b3
        · by_cases h : nd.2.1.toNat / n % 2 = 0
          · rw [h] at hsp
            rw [List.filter_cons, if_neg (by simp [hiB, h]), List.filter_nil]
            exact (fup_ne (by omega)).trans b4
          · rw [show nd.2.1.toNat / n % 2 = 1 by omega, Nat.mul_one] at hsp
            rw [List.filter_cons, if_pos (by simp [hiB, h]), List.filter_nil, hsp, hkm]
            exact ⟨fup_eq, none, by rw [hsp, hkm] at v1; exact v1, rfl⟩
      | cons nd2 LL =>
        have g2s := g2
        obtain ⟨rfl, -⟩ := g2s
        refine gs_ifnonnull (pc := 177) (tgt := 198) dJ14_resize_177 (by decide) (fun _ _ => ?_) (fun h => by cases h)
        refine gs_ald8 (pc := 198) dJ14_resize_198 ?_
        refine gs_instNo (pc := 200) dJ14_resize_200 q986 g1' clJ22 (Or.inr rfl) ?_
        refine gs_if_eq (pc := 203) (tgt := 223) dJ14_resize_203 (by decide) (by omega) (fun _ => ?_) (fun hn => absurd rfl hn)
        refine gs_null (pc := 223) dJ14_resize_223 ?_
        refine gs_ast9 (pc := 224) dJ14_resize_224 rfl ?_
        refine gs_null (pc := 226) dJ14_resize_226 ?_
        refine gs_ast10 (pc := 227) dJ14_resize_227 rfl ?_
        refine gs_null (pc := 229) dJ14_resize_229 ?_
        refine gs_ast11 (pc := 230) dJ14_resize_230 rfl ?_
        refine gs_null (pc := 232) dJ14_resize_232 ?_
        refine gs_ast12 (pc := 233) dJ14_resize_233 rfl ?_
        refine rz_inL (hp0 := hp1) (LL := nd :: nd2 :: LL) (xt := xt) hn (by omega) hLnd (fun x hx => hr x (hLm x hx).1) (fun hp' h1 s1 h2 s2 e13 hsp o1 o2 => ?_) _ [] hp1 none none none none _ _ rfl (by simp) ⟨rfl, rfl, Fr.refl, fun _ _ => rfl⟩ ⟨rfl, _, g1', g2.mono (fun x hx => w2 _ (ha1 x (hLm x (List.mem_cons_of_mem _ hx)).1))⟩ (Or.inl ⟨rfl, rfl, rfl⟩) (Or.inl ⟨rfl, rfl, rfl⟩)
        obtain ⟨p1, p2, p3, p4⟩ := hsp
        generalize nd :: nd2 :: LL = LA at *
        have hlhd : ∀ x ∈ LA.filter (hiB n), ∀ y ∈ LA.filter (loB n), x.1 ≠ y.1 := by
          intro x hx y hy he
          have hx := List.mem_filter.mp hx
          have hy := List.mem_filter.mp hy
          have := nd_inj hLnd hx.1 hy.1 he
          subst this
          simp [loB, hiB] at hx hy
          omega
        have k327 : ∀ (hpB : gHp) (tt : Int → Option Nat), hpB.1 = hpj.1 → hpB.2.1 = hpj.2.1 → Fr X (fun l => l = m + 2) hpj hpB → (∀ a, a ≠ ta → a ≠ ta2 → (∀ x ∈ LA, a ≠ x.1) → gl X hpB a = gl X hpj a) → gl X hpB ta = some (m + 2, .inl (4, n, .inr (fup t1 (jj : Int) none))) → gl X hpB ta2 = some (m + 2, .inl (4, 2 * n, .inr tt)) → (∀ i : Int, i ≠ jj → tt i = t2 i) → seg X hpB (m + 2) 17 xt (tt (jj : Int)) (LA.filter (loB n)) none → opn X hpB (m + 2) 17 xt h2 s2 (LA.filter (hiB n)) → G X fJ14_resize 1 327 [some (vR (some m)), some (vR (some ta)), some (vI (n : Int)), L3, some (vI ((2 * n : Nat) : Int)), L5, some (vR (some ta2)), some (vI (jj : Int)), some (vR none), some (vR h1), some (vR s1), some (vR h2), some (vR s2), some (vR e13)] [] hpB Q := by
          intro hpB tt y1 y2 yF yfr gA gB etl sl o2
          rcases o2 with ⟨q1, rfl, rfl⟩ | ⟨P', l, stop, q1, rfl, q3⟩
          · refine gs_ald12 (pc := 327) dJ14_resize_327 ?_
            refine gs_ifnull (pc := 329) (tgt := 347) dJ14_resize_329 (by decide) (fun _ => ?_) (fun _ h => by cases h)
            refine k347 hpB _ tt _ _ _ _ _ _ y1 y2 yF yfr gA (fun i hi => fup_ne hi) gB (fun i q1 q2 => etl i q1) sl ?_
            rw [q1, etl _ (by omega), b4]; rfl
          · have hlm : l ∈ LA.filter (hiB n) := by rw [q1]; exact List.mem_append_right _ (List.mem_singleton.mpr rfl)
            have hlA := (List.mem_filter.mp hlm).1
            have hle := (hLm l hlA).1
            have hcl := q3.last
            have hndh : ((P' ++ [l]).map (fun nd => nd.1)).Nodup := by rw [← q1]; exact nd_filter hLnd
            refine gs_ald12 (pc := 327) dJ14_resize_327 ?_
            refine gs_ifnull (pc := 329) (tgt := 347) dJ14_resize_329 (by decide) (fun h => by cases h) (fun _ _ => ?_)
            refine gs_ald12 (pc := 332) dJ14_resize_332 ?_
            refine gs_null (pc := 334) dJ14_resize_334 ?_
            refine gs_putf (pc := 335) 3 (ndC 17 l.2.1 l.2.2.1 l.2.2.2 none (xt l.1)) dJ14_resize_335 hcl (by omega) clJ22 in_J22 tyJ22 tyJ22_ok nmJ22 (by decide) q1287 (Or.inl rfl) rfl (fok_obj _ _) (Nat.le_of_ble_eq_true rfl) rfl ?_
            have r1 := q3.relink (stop' := none) (by omega) (fun x hx => nd_app hndh hx (List.mem_singleton.mpr rfl))
            have r2 : ∀ a, a ≠ l.1 → gl X (hset hpB l.1 (m + 2, ndC 17 l.2.1 l.2.2.1 l.2.2.2 none (xt l.1))) a = gl X hpB a := fun a h => gl_set_ne h
            have rF : Fr X (fun l => l = m + 2) hpj (hset hpB l.1 (m + 2, ndC 17 l.2.1 l.2.2.1 l.2.2.2 none (xt l.1))) := yF.set hcl (by omega) rfl ⟨rfl, rfl⟩
            generalize hh3 : hset hpB l.1 (m + 2, ndC 17 l.2.1 l.2.2.1 l.2.2.2 none (xt l.1)) = hpC at r1 r2 rF ⊢
            have hc3 : hpC.1 = hpB.1 := by rw [← hh3]; rfl
            have hc4 : hpC.2.1 = hpB.2.1 := by rw [← hh3]; rfl
            obtain ⟨x, hx, rfl, nx', hcx⟩ := r1.head (by simp)
            have gB' := gB
            rw [← r2 ta2 (fun h => ha2 l hle h.symm)] at gB'
            have gA' := gA
            rw [← r2 ta (fun h => ha1 l hle h.symm)] at gA'
            refine gs_ald6 (pc := 338) dJ14_resize_338 ?_
            refine gs_ild7 (pc := 340) dJ14_resize_340 ?_
            refine gs_ild2 (pc := 342) dJ14_resize_342 ?_
            refine gs_iadd (pc := 343) dJ14_resize_343 ?_
            refine gs_ald11 (pc := 344) dJ14_resize_344 ?_
            refine gs_aast (pc := 346) 4 (by decide) rfl dJ14_resize_346 gB' (by omega) ⟨_, _, _, _, _, _, hcx, clJ22, (Or.inr q2825)⟩ (by omega) (by omega) ?_
            refine k347 _ (fup t1 (jj : Int) none) (fup tt ((jj : Int) + (n : Int)) (some x.1)) _ _ _ _ _ _ (hc3.trans y1) (hc4.trans y2) (rF.set gB' (by omega) rfl ⟨rfl, rfl, rfl⟩) (fun a v1 v2 v3 => ?_) (by rw [gl_set_ne h12]; exact gA') (fun i hi => fup_ne hi) (gl_set_self gB' (by omega)) (fun i v1 v2 => ?_) ?_ ?_
            · rw [gl_set_ne v2, r2 a (v3 l hlA)]; exact yfr a v1 v2 v3
            · rw [fup_ne (by omega)]; exact etl i v1
            · rw [fup_ne (by omega)]
              refine sl.mono (fun y hy => ?_)
              have hyA := (List.mem_filter.mp hy).1
              rw [gl_set_ne (ha2 y (hLm y hyA).1)]
              exact r2 _ (fun h => hlhd l hlm y hy h.symm)
            · rw [show ((jj + n : Nat) : Int) = (jj : Int) + (n : Int) by omega, fup_eq, q1]
              refine r1.mono (fun y hy => gl_set_ne ?_)
              rw [← q1] at hy
              exact ha2 y (hLm y (List.mem_filter.mp hy).1).1
        have gtb : gl X hp' ta2 = some (m + 2, .inl (4, 2 * n, .inr t2)) := by rw [p4 ta2 (fun x hx he => ha2 x (hLm x hx).1 he.symm)]; exact gt2'
        have gtaa : gl X hp' ta = some (m + 2, .inl (4, n, .inr (fup t1 (jj : Int) none))) := by rw [p4 ta (fun x hx he => ha1 x (hLm x hx).1 he.symm)]; exact w1
        rcases o1 with ⟨q1, rfl, rfl⟩ | ⟨P', l, stop, q1, rfl, q3⟩
        · refine gs_ald10 (pc := 309) dJ14_resize_309 ?_
          refine gs_ifnull (pc := 311) (tgt := 327) dJ14_resize_311 (by decide) (fun _ => ?_) (fun _ h => by cases h)
          refine k327 hp' t2 (by omega) (by omega) (hF1.trans p3) (fun a v1 v2 v3 => by rw [p4 a v3]; exact w2 a v1) gtaa gtb (fun _ _ => rfl) ?_ o2
          rw [q1]; exact b3
        · have hlm : l ∈ LA.filter (loB n) := by rw [q1]; exact List.mem_append_right _ (List.mem_singleton.mpr rfl)
          have hlA := (List.mem_filter.mp hlm).1
          have hle := (hLm l hlA).1
          have hcl := q3.last
          have hndh : ((P' ++ [l]).map (fun nd => nd.1)).Nodup := by rw [← q1]; exact nd_filter hLnd
          refine gs_ald10 (pc := 309) dJ14_resize_309 ?_
          refine gs_ifnull (pc := 311) (tgt := 327) dJ14_resize_311 (by decide) (fun h => by cases h) (fun _ _ => ?_)
          refine gs_ald10 (pc := 314) dJ14_resize_314 ?_
          refine gs_null (pc := 316) dJ14_resize_316 ?_
          refine gs_putf (pc := 317) 3 (ndC 17 l.2.1 l.2.2.1 l.2.2.2 none (xt l.1)) dJ14_resize_317 hcl (by omega) clJ22 in_J22 tyJ22 tyJ22_ok nmJ22 (by decide) q1287 (Or.inl rfl) rfl (fok_obj _ _) (Nat.le_of_ble_eq_true rfl) rfl ?_
          have r1 := q3.relink (stop' := none) (by omega) (fun x hx => nd_app hndh hx (List.mem_singleton.mpr rfl))
          have r2 : ∀ a, a ≠ l.1 → gl X (hset hp' l.1 (m + 2, ndC 17 l.2.1 l.2.2.1 l.2.2.2 none (xt l.1))) a = gl X hp' a := fun a h => gl_set_ne h
          have rF : Fr X (fun l => l = m + 2) hpj (hset hp' l.1 (m + 2, ndC 17 l.2.1 l.2.2.1 l.2.2.2 none (xt l.1))) := (hF1.trans p3).set hcl (by omega) rfl ⟨rfl, rfl⟩
          generalize hh3 : hset hp' l.1 (m + 2, ndC 17 l.2.1 l.2.2.1 l.2.2.2 none (xt l.1)) = hpC at r1 r2 rF ⊢
          have hc3 : hpC.1 = hp'.1 := by rw [← hh3]; rfl
          have hc4 : hpC.2.1 = hp'.2.1 := by rw [← hh3]; rfl
          obtain ⟨x, hx, rfl, nx', hcx⟩ := r1.head (by simp)
          have gB' := gtb
          rw [← r2 ta2 (fun h => ha2 l hle h.symm)] at gB'
          have gA' := gtaa
          rw [← r2 ta (fun h => ha1 l hle h.symm)] at gA'
          refine gs_ald6 (pc := 320) dJ14_resize_320 ?_
          refine gs_ild7 (pc := 322) dJ14_resize_322 ?_
          refine gs_ald9 (pc := 324) dJ14_resize_324 ?_
          refine gs_aast (pc := 326) 4 (by decide) rfl dJ14_resize_326 gB' (by omega) ⟨_, _, _, _, _, _, hcx, clJ22, (Or.inr q2825)⟩ (by omega) (by omega) ?_
          refine k327 _ (fup t2 (jj : Int) (some x.1)) (by show hpC.1 = _; omega) (by show hpC.2.1 = _; omega) (rF.set gB' (by omega) rfl ⟨rfl, rfl, rfl⟩) (fun a v1 v2 v3 => ?_) (by rw [gl_set_ne h12]; exact gA') (gl_set_self gB' (by omega)) (fun i hi => fup_ne hi) ?_ ?_
          · rw [gl_set_ne v2, r2 a (v3 l hlA), p4 a v3]; exact w2 a v1
          · rw [fup_eq, q1]
            refine r1.mono (fun y hy => gl_set_ne ?_)
            rw [← q1] at hy
            exact ha2 y (hLm y (List.mem_filter.mp hy).1).1
          · refine o2.mono (fun y hy => ?_)
            rw [gl_set_ne (ha2 y (hLm y (List.mem_filter.mp hy).1).1)]
            exact r2 _ (hlhd y hy l hlm)
end HM4
