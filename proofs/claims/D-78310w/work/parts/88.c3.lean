/-! THE COMPONENT: pictures of tokens, walks, counts; the whole. -/
section C3
variable {X : gCx} {hp hp1 hp2 : gHp} {S0 : Nat → Prop} {S : SS} {A : AS}
/-- the k-th token; tl: the texts by number -/
def isTok (X : gCx) (hp : gHp) (lb x : Nat) (S : SS) (tl : List (List Int)) (k : Nat) : Prop := ∃ (tx : Option Nat) (wd : Int), gl X hp x = some (lb, .inr (6, [vI (tA (toks S) k).1, vI (tA (toks S) k).2.1, vI (tA (toks S) k).2.2.1, vI (tA (toks S) k).2.2.2.1, vR tx, vI wd, vI (prT S (toks S) k), vI (rfor S 2 (tA (toks S) k).2.2.2.2 12), vI (rfor S 3 (tA (toks S) k).2.2.2.2 12), vI (b2i (clsT S (tA (toks S) k).2.2.2.2))])) ∧ ((tA (toks S) k).2.2.2.1 < 2 ∧ (∃ c, tx = some c ∧ isS X hp c (tA (toks S) k).2.2.2.2) ∧ (∃ w : Nat, wd = (w : Int) ∧ w < tl.length ∧ tl.getD w [] = (tA (toks S) k).2.2.2.2) ∨ ¬ (tA (toks S) k).2.2.2.1 < 2 ∧ tx = none ∧ wd = -9)
theorem isTok.fr {lb x k : Nat} {tl : List (List Int)} (h : Fr X S0 hp hp1) (hS : ∀ l, S0 l → 2 ≤ l) (hl : ¬ S0 lb) (hs : isTok X hp lb x S tl k) : isTok X hp1 lb x S tl k := by
  obtain ⟨tx, wd, e1, e2⟩ := hs
  refine ⟨tx, wd, h.at e1 hl, ?_⟩
  rcases e2 with ⟨g1, ⟨c, g2, g3⟩, g4⟩ | g
  · exact Or.inl ⟨g1, ⟨c, g2, g3.fr h hS⟩, g4⟩
  · exact Or.inr g
/-- the numbers of the texts do not run ahead -/
def wO (S : SS) (tl : List (List Int)) : Prop := ∀ k : Nat, k < (toks S).length → (tA (toks S) k).2.2.2.1 < 2 → (tA (toks S) k).2.2.2.2 ∈ tl.take (24 + (dst (txN (toks S) (k + 1))).length)
/-- the tokens of the state s -/
def tkA (X : gCx) (hp : gHp) (t s : Nat) (S : SS) (al tx fa pr : Nat) (ts us : List Nat) (tl : List (List Int)) (ff fp : Int → Int) : Prop := (∃ nr op, gl X hp t = some (t + 2, .inr (5, [vR (some s), vR (some al), vR (some tx), vI nr, vR (some fa), vR (some pr), vI op]))) ∧ (∃ cap, isAL X hp al ts cap) ∧ ts.length = (toks S).length ∧ (∀ k : Nat, k < ts.length → isTok X hp (t + 2) (ts.getD k 0) S tl k) ∧ (∃ cap, isAL X hp tx us cap) ∧ us.length = tl.length ∧ (∀ i : Nat, i < us.length → isS X hp (us.getD i 0) (tl.getD i [])) ∧ tl.Nodup ∧ gl X hp fa = some (t + 2, .inl (0, 21, .inl ff)) ∧ (∀ i : Nat, i ≤ nL S → ff i = fstO S i) ∧ gl X hp pr = some (t + 2, .inl (1, 20, .inl fp)) ∧ (∀ i : Nat, i < nL S → fp i = b2i (prot S i)) ∧ tl.length ≤ 700 ∧ wO S tl
def isTk (X : gCx) (hp : gHp) (t s : Nat) (S : SS) : Prop := ∃ al tx fa pr ts us tl ff fp, tkA X hp t s S al tx fa pr ts us tl ff fp
theorem tkA.fr {t s al tx fa pr : Nat} {ts us : List Nat} {tl : List (List Int)} {ff fp : Int → Int} (hX : KX X) (h : Fr X S0 hp hp1) (hS : ∀ l, S0 l → 2 ≤ l) (h1 : ¬ S0 (t + 2)) (h2 : ¬ S0 (al + 2)) (h3 : ¬ S0 (tx + 2)) (hs : tkA X hp t s S al tx fa pr ts us tl ff fp) : tkA X hp1 t s S al tx fa pr ts us tl ff fp := by
  obtain ⟨⟨nr, op, e1⟩, ⟨ca, e2⟩, e3, e4, ⟨cb, e5⟩, e6, e7, e8, e9, e10, e11, e12⟩ := hs
  exact ⟨⟨nr, op, h.at e1 h1⟩, ⟨ca, e2.fr hX h h2⟩, e3, fun k hk => (e4 k hk).fr h hS h1, ⟨cb, e5.fr hX h h3⟩, e6, fun i hi => (e7 i hi).fr h hS, e8, h.at e9 h1, e10, h.at e11 h1, e12⟩
/-- a cell of a class differs from one of another -/
theorem cls_ne {a b la lb ca cb : Nat} {fa fb : List AV} (ha : gl X hp a = some (la, .inr (ca, fa))) (hb : gl X hp b = some (lb, .inr (cb, fb))) (h : ca ≠ cb) : a ≠ b := by
  intro e
  subst e
  rw [ha] at hb
  cases hb
  exact h rfl
/-- an object of a class -/
def isO (X : gCx) (hp : gHp) (a ci : Nat) : Prop := ∃ lb fs, gl X hp a = some (lb, .inr (ci, fs))
theorem isO.ne {a b ca cb : Nat} (ha : isO X hp a ca) (hb : isO X hp b cb) (h : ca ≠ cb) : a ≠ b := by
  obtain ⟨la, fa, e1⟩ := ha
  obtain ⟨lb, fb, e2⟩ := hb
  exact cls_ne e1 e2 h
theorem isAL.o {a cap : Nat} {xs : List Nat} (h : isAL X hp a xs cap) : isO X hp a 9 := by
  obtain ⟨mc, e, lbe, f, e1, -⟩ := h
  exact ⟨_, _, e1⟩
theorem isO.lt {a ci : Nat} (h : isO X hp a ci) : a < nx X hp := by
  obtain ⟨lb, fs, e⟩ := h
  exact gl_lt e
theorem stA.o {s cap ra : Nat} {xs : List Nat} {f : Int → Option Nat} (h : stA X hp s S xs cap ra f) : isO X hp s 1 ∧ isO X hp (s + 1) 9 := ⟨⟨_, _, h.1⟩, h.2.1.o⟩
theorem isSta.o {s : Nat} (h : isSta X hp s S) : isO X hp s 1 ∧ isO X hp (s + 1) 9 := by
  obtain ⟨xs, cap, ra, f, h⟩ := h
  exact h.o
/-- the labels that belong to objects of a class only -/
def lbC (X : gCx) (hp : gHp) (ci : Nat) (l : Nat) : Prop := ∃ a, l = a + 2 ∧ isO X hp a ci
theorem lbC.no {ci cj b : Nat} (hb : isO X hp b cj) (h : ci ≠ cj) : ¬ lbC X hp ci (b + 2) := by
  rintro ⟨a, e, ha⟩
  obtain rfl : a = b := by omega
  exact ha.ne hb h rfl
theorem lbC.two {ci l : Nat} (h : lbC X hp ci l) : 2 ≤ l := by
  obtain ⟨a, e, -⟩ := h
  omega
theorem isTk.frC {t s ci : Nat} (hX : KX X) (h : Fr X S0 hp hp1) (hS : ∀ l, S0 l → lbC X hp ci l ∨ frs X hp l) (hc : ci ≠ 5 ∧ ci ≠ 9) (hs : isTk X hp t s S) : isTk X hp1 t s S := by
  obtain ⟨al, tx, fa, pr, ts, us, tl, ff, fp, hs⟩ := hs
  obtain ⟨nr, op, e1⟩ := hs.1
  obtain ⟨ca, e2⟩ := hs.2.1
  obtain ⟨cb, e5⟩ := hs.2.2.2.2.1
  have no : ∀ {b cj : Nat}, isO X hp b cj → ci ≠ cj → ¬ S0 (b + 2) := by
    intro b cj hb hij hl
    rcases hS _ hl with g | g
    · exact lbC.no hb hij g
    · have := hb.lt; unfold frs at g; omega
  exact ⟨al, tx, fa, pr, ts, us, tl, ff, fp, hs.fr hX h (fun l hl => by rcases hS l hl with g | g; exact g.two; exact frs_2 g) (no ⟨_, _, e1⟩ hc.1) (no e2.o hc.2) (no e5.o hc.2)⟩
/-- a walk over the tokens of the state s -/
def wkAr (X : gCx) (hp : gHp) (wa s t ai ao ac ob cb : Nat) (S : SS) : Prop := isTk X hp t s S ∧ (∃ f, gl X hp ai = some (wa + 2, .inl (0, 20, .inl f))) ∧ (∃ f, gl X hp ao = some (wa + 2, .inl (0, 12, .inl f))) ∧ (∃ f, gl X hp ac = some (wa + 2, .inl (0, 12, .inl f))) ∧ (∃ f, gl X hp ob = some (wa + 2, .inl (0, (toks S).length, .inl f))) ∧ (∃ f, gl X hp cb = some (wa + 2, .inl (0, (toks S).length, .inl f))) ∧ [ai, ao, ac, ob, cb].Nodup
def wkCe (s t : Nat) (st ba : Int) (ai ao ac : Nat) (he lo sr lt : Int) (ob cb : Nat) (co re ru : Int) : gCe := .inr (4, [vR (some s), vR (some t), vI st, vI ba, vR (some ai), vR (some ao), vR (some ac), vI he, vI lo, vI sr, vI lt, vR (some ob), vR (some cb), vI co, vI re, vI ru])
def isWk (X : gCx) (hp : gHp) (wa s : Nat) (S : SS) : Prop := ∃ t st ba ai ao ac he lo sr lt ob cb co re ru, gl X hp wa = some (wa + 2, wkCe s t st ba ai ao ac he lo sr lt ob cb co re ru) ∧ wkAr X hp wa s t ai ao ac ob cb S
theorem isWk.o {wa s : Nat} (h : isWk X hp wa s S) : isO X hp wa 4 := by
  obtain ⟨t, st, ba, ai, ao, ac, he, lo, sr, lt, ob, cb, co, re, ru, e, -⟩ := h
  exact ⟨_, _, e⟩
theorem isWk.frC {wa s ci : Nat} (hX : KX X) (h : Fr X S0 hp hp1) (hS : ∀ l, S0 l → lbC X hp ci l ∨ frs X hp l) (hc : ci ≠ 4 ∧ ci ≠ 5 ∧ ci ≠ 9) (hs : isWk X hp wa s S) : isWk X hp1 wa s S := by
  have ho := hs.o
  obtain ⟨t, st, ba, ai, ao, ac, he, lo, sr, lt, ob, cb, co, re, ru, e1, e2, ⟨f1, e3⟩, ⟨f2, e4⟩, ⟨f3, e5⟩, ⟨f4, e6⟩, ⟨f5, e7⟩, e8⟩ := hs
  have no : ¬ S0 (wa + 2) := by
    intro hl
    rcases hS _ hl with g | g
    · exact lbC.no ho hc.1 g
    · have := ho.lt; unfold frs at g; omega
  exact ⟨t, st, ba, ai, ao, ac, he, lo, sr, lt, ob, cb, co, re, ru, h.at e1 no, e2.frC hX h hS hc.2, ⟨f1, h.at e3 no⟩, ⟨f2, h.at e4 no⟩, ⟨f3, h.at e5 no⟩, ⟨f4, h.at e6 no⟩, ⟨f5, h.at e7 no⟩, e8⟩
/-- how many lines would change, by setting -/
def chM (X : gCx) (hp : gHp) (m : Nat) (S : SS) : Prop := ∃ n es, isHM X hp 12 15 true m none [] (fun _ => []) n es ∧ n ≤ 512 ∧ ∀ nd ∈ es, ∃ st b : Int, nd.2.1 = 21 * st + b ∧ (1 ≤ st ∧ st ≤ 8) ∧ (0 ≤ b ∧ b ≤ 20) ∧ isI X hp nd.2.2.2 (chB S st b)
theorem chM.o {m : Nat} (h : chM X hp m S) : isO X hp m 12 := by
  obtain ⟨n, es, ⟨-, -, -, vs, tb, eset, mc, th, lf, e, -⟩, -⟩ := h
  exact ⟨_, _, e⟩
theorem isI.fr' {a : Nat} {v : Int} (h : Fr X S0 hp hp1) (hS : ∀ l, S0 l → 2 ≤ l) (hs : isI X hp a v) : isI X hp1 a v := by
  obtain ⟨lb, h1, h2⟩ := hs
  exact ⟨lb, h1, h.at h2 (fun q => by have := hS _ q; omega)⟩
theorem chM.frC {m ci : Nat} (h : Fr X S0 hp hp1) (hS : ∀ l, S0 l → lbC X hp ci l ∨ frs X hp l) (hc : ci ≠ 12) (hs : chM X hp m S) : chM X hp1 m S := by
  have ho := hs.o
  obtain ⟨n, es, e1, e2, e3⟩ := hs
  have h2 : ∀ l, S0 l → 2 ≤ l := fun l hl => by rcases hS l hl with g | g; exact g.two; exact frs_2 g
  refine ⟨n, es, e1.fr h (fun hl => ?_) h2, e2, fun nd hn => ?_⟩
  · rcases hS _ hl with g | g
    · exact lbC.no ho hc g
    · have := ho.lt; unfold frs at g; omega
  · obtain ⟨st, b, g1, g2, g3, g4⟩ := e3 nd hn
    exact ⟨st, b, g1, g2, g3, g4.fr' h h2⟩
/-- an image -/
def imO (X : gCx) (hp : gHp) (o : Option Nat) (S : Option SS) : Prop := (o = none ∧ S = none) ∨ ∃ q T, o = some q ∧ S = some T ∧ isSta X hp q T
/-- the states that are held -/
def zst (s : Nat) (ps : List Nat) (fI : Int → Option Nat) : List Nat := s :: (ps ++ ((fI 0).toList ++ (fI 1).toList))
/-- past, images, text -/
def rcB (X : gCx) (hp : gHp) (c s pa ia tb : Nat) (ps : List Nat) (fI : Int → Option Nat) (fT : Int → Int) (A : AS) : Prop := (∃ pcap, isAL X hp pa ps pcap ∧ pcap ≤ 60) ∧ ps.length = A.2.1.length ∧ (∀ i : Nat, i < ps.length → isSta X hp (ps.getD i 0) (A.2.1.getD i ssD)) ∧ gl X hp ia = some (c + 2, .inl (6, 2, .inr fI)) ∧ imO X hp (fI 0) A.2.2.1 ∧ imO X hp (fI 1) A.2.2.2.1 ∧ gl X hp tb = some (c + 2, .inl (2, 72, .inl fT)) ∧ (∀ k : Nat, k < A.2.2.2.2.length → fT k = A.2.2.2.2.getD k 0) ∧ (zst s ps fI).Nodup ∧ (∀ q ∈ zst s ps fI, pa ≠ q + 1) ∧ ∀ q ∈ zst s ps fI, q ≠ s → ∃ T, isSta X hp q T
def rcC (c : Nat) (s pa ia tb len : Nat) (w ch : Option Nat) (at_ fa dr : Int) : gCel := (c + 2, .inr (0, [vR (some s), vR (some pa), vR (some ia), vR (some tb), vI (len : Int), vR w, vR ch, vI at_, vI fa, vI dr]))
def wkOp (X : gCx) (hp : gHp) (s : Nat) (S : SS) (w : Option Nat) : Prop := ∀ wa, w = some wa → isWk X hp wa s S
def chOp (X : gCx) (hp : gHp) (S : SS) (ch : Option Nat) : Prop := ∀ m, ch = some m → chM X hp m S
/-- the component c holds A -/
def RC (X : gCx) (hp : gHp) (c : Nat) (A : AS) : Prop := ∃ s pa ia tb w ch at_ fa dr ps fI fT, gl X hp c = some (rcC c s pa ia tb A.2.2.2.2.length w ch at_ fa dr) ∧ isSta X hp s A.1 ∧ rcB X hp c s pa ia tb ps fI fT A ∧ wkOp X hp s A.1 w ∧ chOp X hp A.1 ch
theorem imO.fr {o : Option Nat} {T : Option SS} (hX : KX X) (h : Fr X S0 hp hp1) (hS : ∀ l, S0 l → 2 ≤ l) (hq : ∀ q, o = some q → ¬ S0 (q + 2) ∧ ¬ S0 (q + 3)) (hs : imO X hp o T) : imO X hp1 o T := by
  rcases hs with g | ⟨q, U, g1, g2, g3⟩
  · exact Or.inl g
  · exact Or.inr ⟨q, U, g1, g2, g3.fr hX h hS (hq q g1).1 (hq q g1).2⟩
theorem zst_ps {s : Nat} {ps : List Nat} {fI : Int → Option Nat} {i : Nat} (hi : i < ps.length) : ps.getD i 0 ∈ zst s ps fI := by
  rw [List.getD_eq_getElem?_getD, List.getElem?_eq_getElem hi]
  exact List.mem_cons_of_mem _ (List.mem_append_left _ (List.getElem_mem hi))
theorem zst_0 {s q : Nat} {ps : List Nat} {fI : Int → Option Nat} (h : fI 0 = some q) : q ∈ zst s ps fI := List.mem_cons_of_mem _ (List.mem_append_right _ (List.mem_append_left _ (by rw [h]; exact List.mem_singleton.mpr rfl)))
theorem zst_1 {s q : Nat} {ps : List Nat} {fI : Int → Option Nat} (h : fI 1 = some q) : q ∈ zst s ps fI := List.mem_cons_of_mem _ (List.mem_append_right _ (List.mem_append_right _ (by rw [h]; exact List.mem_singleton.mpr rfl)))
/-- frame: neither c's own cells, nor past, nor the states but s -/
theorem rcB.fr {c s pa ia tb : Nat} {ps : List Nat} {fI : Int → Option Nat} {fT : Int → Int} (hX : KX X) (h : Fr X S0 hp hp1) (hS : ∀ l, S0 l → 2 ≤ l) (h1 : ¬ S0 (c + 2)) (h2 : ¬ S0 (pa + 2)) (h3 : ∀ q ∈ zst s ps fI, q ≠ s → ¬ S0 (q + 2) ∧ ¬ S0 (q + 3)) (hs : rcB X hp c s pa ia tb ps fI fT A) : rcB X hp1 c s pa ia tb ps fI fT A := by
  obtain ⟨⟨pcap, e1, e1'⟩, e2, e3, e4, e5, e6, e7, e8, e9, e10, e11⟩ := hs
  have hne : ∀ q, q ∈ ps ++ ((fI 0).toList ++ (fI 1).toList) → q ≠ s := fun q hq e => by
    subst e
    exact (List.nodup_cons.mp e9).1 hq
  refine ⟨⟨pcap, e1.fr hX h h2, e1'⟩, e2, fun i hi => ?_, h.at e4 h1, e5.fr hX h hS (fun q hq => ?_), e6.fr hX h hS (fun q hq => ?_), h.at e7 h1, e8, e9, e10, fun q hq hqs => ?_⟩
  · have hm : ps.getD i 0 ∈ ps := by rw [List.getD_eq_getElem?_getD, List.getElem?_eq_getElem hi]; exact List.getElem_mem hi
    have := h3 _ (zst_ps hi) (hne _ (List.mem_append_left _ hm))
    exact (e3 i hi).fr hX h hS this.1 this.2
  · exact h3 q (zst_0 hq) (hne q (List.mem_append_right _ (List.mem_append_left _ (by rw [hq]; exact List.mem_singleton.mpr rfl))))
  · exact h3 q (zst_1 hq) (hne q (List.mem_append_right _ (List.mem_append_right _ (by rw [hq]; exact List.mem_singleton.mpr rfl))))
  · obtain ⟨T, g⟩ := e11 q hq hqs
    have := h3 q hq hqs
    exact ⟨T, g.fr hX h hS this.1 this.2⟩
/-- what a change to objects of a class of their own, or to new ones, leaves -/
theorem rcB.frC {c s pa ia tb ci : Nat} {ps : List Nat} {fI : Int → Option Nat} {fT : Int → Int} (hX : KX X) (hc0 : isO X hp c 0) (h : Fr X S0 hp hp1) (hS : ∀ l, S0 l → lbC X hp ci l ∨ frs X hp l) (hc : ci ≠ 0 ∧ ci ≠ 1 ∧ ci ≠ 9) (hs : rcB X hp c s pa ia tb ps fI fT A) : rcB X hp1 c s pa ia tb ps fI fT A := by
  have no : ∀ {b cj : Nat}, isO X hp b cj → ci ≠ cj → ¬ S0 (b + 2) := by
    intro b cj hb hij hl
    rcases hS _ hl with g | g
    · exact lbC.no hb hij g
    · have := hb.lt; unfold frs at g; omega
  obtain ⟨pcap, e1, -⟩ := hs.1
  refine hs.fr hX h (fun l hl => by rcases hS l hl with g | g; exact g.two; exact frs_2 g) (no hc0 hc.1) (no e1.o hc.2.2) (fun q hq hqs => ?_)
  obtain ⟨T, g⟩ := hs.2.2.2.2.2.2.2.2.2.2 q hq hqs
  exact ⟨no g.o.1 hc.2.1, no g.o.2 hc.2.2⟩
theorem isSta.frC {s ci : Nat} (hX : KX X) (h : Fr X S0 hp hp1) (hS : ∀ l, S0 l → lbC X hp ci l ∨ frs X hp l) (hc : ci ≠ 1 ∧ ci ≠ 9) (hs : isSta X hp s S) : isSta X hp1 s S := by
  have no : ∀ {b cj : Nat}, isO X hp b cj → ci ≠ cj → ¬ S0 (b + 2) := by
    intro b cj hb hij hl
    rcases hS _ hl with g | g
    · exact lbC.no hb hij g
    · have := hb.lt; unfold frs at g; omega
  exact hs.fr hX h (fun l hl => by rcases hS l hl with g | g; exact g.two; exact frs_2 g) (no hs.o.1 hc.1) (no hs.o.2 hc.2)
/-- a Model's change, or new cells, leave the component -/
theorem RC.frC {c ci : Nat} (hX : KX X) (h : Fr X S0 hp hp1) (hS : ∀ l, S0 l → lbC X hp ci l ∨ frs X hp l) (hc : ci ≠ 0 ∧ ci ≠ 1 ∧ ci ≠ 4 ∧ ci ≠ 5 ∧ ci ≠ 9 ∧ ci ≠ 12) (hs : RC X hp c A) : RC X hp1 c A := by
  obtain ⟨s, pa, ia, tb, w, ch, at_, fa, dr, ps, fI, fT, e1, e2, e3, e4, e5⟩ := hs
  have hc0 : isO X hp c 0 := ⟨_, _, e1⟩
  have no : ¬ S0 (c + 2) := by
    intro hl
    rcases hS _ hl with g | g
    · exact lbC.no hc0 hc.1 g
    · have := hc0.lt; unfold frs at g; omega
  exact ⟨s, pa, ia, tb, w, ch, at_, fa, dr, ps, fI, fT, h.at e1 no, e2.frC hX h hS ⟨hc.2.1, hc.2.2.2.2.1⟩, e3.frC hX hc0 h hS ⟨hc.1, hc.2.1, hc.2.2.2.2.1⟩, fun wa hw => (e4 wa hw).frC hX h hS ⟨hc.2.2.1, hc.2.2.2.1, hc.2.2.2.2.1⟩, fun m hm => (e5 m hm).frC h hS hc.2.2.2.2.2⟩
end C3
