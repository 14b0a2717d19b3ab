/-! THE COMPONENT: lines are drawn. -/
section CP
variable {X : gCx} {hp hp1 hp2 hz : gHp} {S0 : Nat → Prop} {S S' T : SS} {A A' : AS} {a c s cap cap' ra pa ia tb n g j k len : Nat} {xs xs' ps : List Nat} {f fI : Int → Option Nat} {fT fT' : Int → Int} {w ch : Option Nat} {at_ fa dr d at' fa' dr' : Int} {L : List Ln} {t : List Int}
theorem rcB_fr2 (hX : KX X) (h : Fr X S0 hp hp1) (hS : ∀ l, S0 l → 2 ≤ l) (hia : gl X hp1 ia = gl X hp ia) (htb : gl X hp1 tb = gl X hp tb) (h2 : ¬ S0 (pa + 2)) (h3 : ∀ q ∈ zst s ps fI, q ≠ s → ¬ S0 (q + 2) ∧ ¬ S0 (q + 3)) (hs : rcB X hp c s pa ia tb ps fI fT A) : rcB X hp1 c s pa ia tb ps fI fT A := by
  obtain ⟨⟨pcap, e1, e1'⟩, e2, e3, e4, e5, e6, e7, e8, e9, e10, e11⟩ := hs
  have hne : ∀ q, q ∈ ps ++ ((fI 0).toList ++ (fI 1).toList) → q ≠ s := fun q hq e => by
    subst e
    exact (List.nodup_cons.mp e9).1 hq
  refine ⟨⟨pcap, e1.fr hX h h2, e1'⟩, e2, fun i hi => ?_, by rw [hia]; exact e4, e5.fr hX h hS (fun q hq => ?_), e6.fr hX h hS (fun q hq => ?_), by rw [htb]; exact e7, e8, e9, e10, fun q hq hqs => ?_⟩
  · have hm : ps.getD i 0 ∈ ps := by rw [List.getD_eq_getElem?_getD, List.getElem?_eq_getElem hi]; exact List.getElem_mem hi
    have := h3 _ (zst_ps hi) (hne _ (List.mem_append_left _ hm))
    exact (e3 i hi).fr hX h hS this.1 this.2
  · exact h3 q (zst_0 hq) (hne q (List.mem_append_right _ (List.mem_append_left _ (by rw [hq]; exact List.mem_singleton.mpr rfl))))
  · exact h3 q (zst_1 hq) (hne q (List.mem_append_right _ (List.mem_append_right _ (by rw [hq]; exact List.mem_singleton.mpr rfl))))
  · obtain ⟨T, g⟩ := e11 q hq hqs
    have := h3 q hq hqs
    exact ⟨T, g.fr hX h hS this.1 this.2⟩
/-- as RC.edit, where c's own cell changes too -/
theorem RC_edit2 (hX : KX X) (e1 : isO X hz c 0) (e1' : gl X hp1 c = some (rcC c s pa ia tb A.2.2.2.2.length none none at_ fa dr)) (e3 : rcB X hz c s pa ia tb ps fI fT (chg A A.1)) (e0 : isSta X hz s T) (hF : Fr X (fun l => l = c + 2 ∨ edF X hz s l) hz hp1) (hia : gl X hp1 ia = gl X hz ia) (htb : gl X hp1 tb = gl X hz tb) (hs : isSta X hp1 s S') : RC X hp1 c (chg A S') ∧ FrM X hz hp1 := by
  obtain ⟨pcap, b1, -⟩ := e3.1
  have hlt := e0.lt
  have hclt := e1.lt
  have hplt := b1.o.lt
  have h1 := e1.ne b1.o (by decide)
  have h4 := b1.o.ne e0.o.1 (by decide)
  have h5 := e3.2.2.2.2.2.2.2.2.2.1 s List.mem_cons_self
  have hB : rcB X hp1 c s pa ia tb ps fI fT (chg A A.1) := by
    refine rcB_fr2 hX hF (fun l hl => hl.elim (fun h => by omega) edF_2) hia htb ?_ (fun q hq hqs => ?_) e3
    · rintro (g | g | g | g)
      · omega
      · omega
      · omega
      · unfold frs at g; omega
    · obtain ⟨U, g⟩ := e3.2.2.2.2.2.2.2.2.2.2 q hq hqs
      have g1 := g.lt
      have g2 := g.o.1.ne e0.o.2 (by decide)
      have g3 := g.o.2.ne e0.o.1 (by decide)
      have g4 := e1.ne g.o.1 (by decide)
      have g5 := e1.ne g.o.2 (by decide)
      constructor
      · rintro (g | g | g | g)
        · omega
        · omega
        · omega
        · unfold frs at g; omega
      · rintro (g | g | g | g)
        · omega
        · omega
        · omega
        · unfold frs at g; omega
  refine ⟨⟨s, pa, ia, tb, none, none, at_, fa, dr, ps, fI, fT, e1', hs, hB, fun wa h => (by cases h), fun m h => (by cases h)⟩, FrM.of hF (fun l hl => ?_)⟩
  obtain ⟨xs, cap, ra, f, g⟩ := e0
  obtain ⟨lb, fs, g2⟩ := g.2.1.o
  obtain ⟨lb1, fs1, g3⟩ := e1
  rcases hl with h | h | h | h
  · rw [h]; exact nM.cell g3 (by decide)
  · rw [h]; exact nM.cell g.1 (by decide)
  · rw [h]; exact nM.cell g2 (by decide)
  · exact nM.new h
end CP
