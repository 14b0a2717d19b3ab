/-! THE COMPONENT: history. -/
section CD
variable {X : gCx} {hp hp1 hp2 hz : gHp} {S0 : Nat → Prop} {S S' T : SS} {A A' : AS} {a c s cap cap' ra pa ia tb n g j : Nat} {xs xs' ps : List Nat} {f fI : Int → Option Nat} {fT fT' : Int → Int} {w ch : Option Nat} {at_ fa dr d : Int} {L : List Ln} {t : List Int}
/-- states that are kept stay, when c's cells, its past's list and new cells alone change -/
theorem zst_fr (hX : KX X) (e1 : isO X hp c 0) (e2 : isSta X hp s A.1) (e3 : rcB X hp c s pa ia tb ps fI fT A) (hF : Fr X (bgF X hp c pa) hp hp1) : ∀ q ∈ zst s ps fI, ∀ T, isSta X hp q T → isSta X hp1 q T := by
  intro q hq T g
  obtain ⟨pcap, b1, -⟩ := e3.1
  have hpo := b1.o
  have h1 := g.lt
  have h2 := g.o.1.ne hpo (by decide)
  have h3 := e3.2.2.2.2.2.2.2.2.2.1 q hq
  have n1 : c ≠ q := e1.ne g.o.1 (by decide)
  have n2 : c ≠ q + 1 := e1.ne g.o.2 (by decide)
  refine g.fr hX hF (fun l hl => ?_) ?_ ?_
  · rcases hl with g | g | g
    · omega
    · omega
    · exact frs_2 g
  · rintro (g | g | g)
    · omega
    · omega
    · unfold frs at g; omega
  · rintro (g | g | g)
    · omega
    · omega
    · unfold frs at g; omega
theorem imO_z {o : Option Nat} {Q : Option SS} (hz : ∀ q, o = some q → ∀ T, isSta X hp q T → isSta X hp1 q T) (h : imO X hp o Q) : imO X hp1 o Q := by
  rcases h with g | ⟨q, T, g1, g2, g3⟩
  · exact Or.inl g
  · exact Or.inr ⟨q, T, g1, g2, hz q g1 T g3⟩
theorem bgF_M (e1 : isO X hp c 0) (hpa : isO X hp pa 9) (hF : Fr X (bgF X hp c pa) hp hp1) : FrM X hp hp1 := by
  obtain ⟨lb, fs, e1⟩ := e1
  obtain ⟨lb2, fs2, e2⟩ := hpa
  refine FrM.of hF (fun l hl => ?_)
  rcases hl with g | g | g
  · rw [g]; exact nM.cell e1 (by decide)
  · rw [g]; exact nM.cell e2 (by decide)
  · exact nM.new g
theorem c_undo (hX : KX X) (hR : RC X hp c A) (hO : asOk A) : MV X yX0_undo fX0_undo 5 [vR (some c)] hp (cPo X hp c (sp_undo A)) := by
  have hR' := hR
  obtain ⟨s, pa, ia, tb, w, ch, at_, fa, dr, ps, fI, fT, e1, e2, e3, -, -⟩ := hR
  have e3' := e3
  obtain ⟨⟨pcap, b1, b1'⟩, b2, b3, b4, b5, b6, b7, b8, b9, b10, b11⟩ := e3'
  have b1c := b1
  obtain ⟨mc, e, lbe, ff, ea, -⟩ := b1c
  refine MC.of pfX0_undo rfl (fun h => by cases h) 0 rfl rfl ?_
  unfold sp_undo
  refine gs_ald0 (pc := 0) dX0_undo_0 ?_
  refine gs_getf (pc := 1) 1 dX0_undo_1 e1 clX0 in_X0 (by decide) q212 (Or.inl rfl) rfl ?_
  refine gs_V0 (pc := 4) dX0_undo_4 kX0_399 ea clJ2 (by decide) (Nat.le_of_ble_eq_true rfl) (c_alEmpty b1) (fun v hp1 hq => ?_)
  obtain ⟨rfl, rfl⟩ := hq
  cases hl : A.2.1.getLast? with
  | none =>
    have : A.2.1 = [] := List.getLast?_eq_none_iff.mp hl
    rw [this] at b2
    rw [if_pos (show ps.length = 0 from b2)]
    refine gs_if_eq (pc := 7) (tgt := 13) dX0_undo_7 (by decide) (by omega) (fun hn => absurd hn (by decide)) (fun _ => ?_)
    refine gs_bipush (pc := 10) dX0_undo_10 rfl ?_
    refine gs_iret (pc := 12) dX0_undo_12 rfl ?_
    exact ⟨_, rfl, rfl, same_po hR'⟩
  | some S =>
    have hne : A.2.1 ≠ [] := fun h => by rw [h] at hl; cases hl
    obtain ⟨m, hm⟩ : ∃ m, A.2.1.length = m + 1 := ⟨A.2.1.length - 1, by have := List.length_pos_iff.mpr hne; omega⟩
    rw [if_neg (by omega)]
    dsimp only
    have h8 := hO.2.1.1
    refine gs_if_eq (pc := 7) (tgt := 13) dX0_undo_7 (by decide) (by omega) (fun _ => ?_) (fun hn => absurd rfl hn)
    refine gs_ald0 (pc := 13) dX0_undo_13 ?_
    refine gs_ald0 (pc := 14) dX0_undo_14 ?_
    refine gs_getf (pc := 15) 1 dX0_undo_15 e1 clX0 in_X0 (by decide) q212 (Or.inl rfl) rfl ?_
    refine gs_ald0 (pc := 18) dX0_undo_18 ?_
    refine gs_getf (pc := 19) 1 dX0_undo_19 e1 clX0 in_X0 (by decide) q212 (Or.inl rfl) rfl ?_
    refine gs_V0 (pc := 22) dX0_undo_22 kX0_44 ea clJ2 (by decide) (Nat.le_of_ble_eq_true rfl) (c_alSize b1) (fun v hp1 hq => ?_)
    obtain ⟨rfl, rfl⟩ := hq
    refine gs_iconst (pc := 25) dX0_undo_25 ?_
    refine gs_isub (pc := 26) dX0_undo_26 ?_
    rw [show (ps.length : Int) - 1 = (m : Int) by omega]
    refine gs_V1 (pc := 27) dX0_undo_27 kX0_48 ea clJ2 (by decide) (Nat.le_of_ble_eq_true rfl) (c_alRemove (i := m) b1 (by omega)) (fun v hq hq => ?_)
    obtain ⟨rfl, g1, g2, g3, g4⟩ := hq
    have hSm : A.2.1.getD m ssD = S := by
      rw [List.getLast?_eq_getElem?, hm, Nat.add_sub_cancel] at hl
      rw [List.getD_eq_getElem?_getD, hl]; rfl
    have hst := b3 m (by omega)
    rw [hSm] at hst
    have hc0 : isO X hp c 0 := ⟨_, _, e1⟩
    have hcp : c ≠ pa := hc0.ne b1.o (by decide)
    have ec := g1.at e1 (by omega)
    have hqz : ps.getD m 0 ∈ zst s ps fI := zst_ps (by omega)
    have hF1 : Fr X (bgF X hp c pa) hp hq := g1.mono (fun l hl => Or.inr (Or.inl hl))
    obtain ⟨xs1, cap1, ra1, f1, es1⟩ := zst_fr hX hc0 e2 e3 hF1 _ hqz S hst
    refine gs_cast (pc := 30) dX0_undo_30 q148 es1.1 clX1 (Or.inl rfl) ?_
    refine gs_putf (pc := 33) 0 (rcC c (ps.getD m 0) pa ia tb A.2.2.2.2.length w ch at_ fa dr).2 dX0_undo_33 ec (by omega) clX0 in_X0 tyX0 tyX0_ok nmX0 (by decide) q211 (Or.inl rfl) rfl (fok_obj _ _) (Nat.le_of_ble_eq_true rfl) rfl ?_
    have ec1 := gl_set_self (c := rcC c (ps.getD m 0) pa ia tb A.2.2.2.2.length w ch at_ fa dr) ec (by omega)
    refine gs_ald0 (pc := 36) dX0_undo_36 ?_
    refine gs_null (pc := 37) dX0_undo_37 ?_
    refine gs_putf (pc := 38) 5 (rcC c (ps.getD m 0) pa ia tb A.2.2.2.2.length none ch at_ fa dr).2 dX0_undo_38 ec1 (by omega) clX0 in_X0 tyX0 tyX0_ok nmX0 (by decide) q216 (Or.inl rfl) rfl (fok_obj _ _) (Nat.le_of_ble_eq_true rfl) rfl ?_
    have ec2 := gl_set_self (c := rcC c (ps.getD m 0) pa ia tb A.2.2.2.2.length none ch at_ fa dr) ec1 (by omega)
    refine gs_ald0 (pc := 41) dX0_undo_41 ?_
    refine gs_null (pc := 42) dX0_undo_42 ?_
    refine gs_putf (pc := 43) 6 (rcC c (ps.getD m 0) pa ia tb A.2.2.2.2.length none none at_ fa dr).2 dX0_undo_43 ec2 (by omega) clX0 in_X0 tyX0 tyX0_ok nmX0 (by decide) q217 (Or.inl rfl) rfl (fok_obj _ _) (Nat.le_of_ble_eq_true rfl) rfl ?_
    have ec3 := gl_set_self (c := rcC c (ps.getD m 0) pa ia tb A.2.2.2.2.length none none at_ fa dr) ec2 (by omega)
    have hFc : Fr X (fun l => l = c + 2) hq _ := ((Fr1 (c := (rcC c (ps.getD m 0) pa ia tb A.2.2.2.2.length w ch at_ fa dr).2) ec (by omega) ⟨rfl, rfl⟩).set (c := (rcC c (ps.getD m 0) pa ia tb A.2.2.2.2.length none ch at_ fa dr).2) ec1 (by omega) rfl ⟨rfl, rfl⟩).set (c := (rcC c (ps.getD m 0) pa ia tb A.2.2.2.2.length none none at_ fa dr).2) ec2 (by omega) rfl ⟨rfl, rfl⟩
    have hge : ∀ b, b ≠ c → gl X (hset (hset (hset hq c (rcC c (ps.getD m 0) pa ia tb A.2.2.2.2.length w ch at_ fa dr)) c (rcC c (ps.getD m 0) pa ia tb A.2.2.2.2.length none ch at_ fa dr)) c (rcC c (ps.getD m 0) pa ia tb A.2.2.2.2.length none none at_ fa dr)) b = gl X hq b := fun b hb => by rw [gl_set_ne hb, gl_set_ne hb, gl_set_ne hb]
    have hsz : (hset (hset (hset hq c (rcC c (ps.getD m 0) pa ia tb A.2.2.2.2.length w ch at_ fa dr)) c (rcC c (ps.getD m 0) pa ia tb A.2.2.2.2.length none ch at_ fa dr)) c (rcC c (ps.getD m 0) pa ia tb A.2.2.2.2.length none none at_ fa dr)).1 = hq.1 ∧ (hset (hset (hset hq c (rcC c (ps.getD m 0) pa ia tb A.2.2.2.2.length w ch at_ fa dr)) c (rcC c (ps.getD m 0) pa ia tb A.2.2.2.2.length none ch at_ fa dr)) c (rcC c (ps.getD m 0) pa ia tb A.2.2.2.2.length none none at_ fa dr)).2.1 = hq.2.1 := ⟨rfl, rfl⟩
    have ec3' : gl X (hset (hset (hset hq c (rcC c (ps.getD m 0) pa ia tb A.2.2.2.2.length w ch at_ fa dr)) c (rcC c (ps.getD m 0) pa ia tb A.2.2.2.2.length none ch at_ fa dr)) c (rcC c (ps.getD m 0) pa ia tb A.2.2.2.2.length none none at_ fa dr)) c = _ := ec3
    have hFc' : Fr X (fun l => l = c + 2) hq (hset (hset (hset hq c (rcC c (ps.getD m 0) pa ia tb A.2.2.2.2.length w ch at_ fa dr)) c (rcC c (ps.getD m 0) pa ia tb A.2.2.2.2.length none ch at_ fa dr)) c (rcC c (ps.getD m 0) pa ia tb A.2.2.2.2.length none none at_ fa dr)) := hFc
    show G X fX0_undo 5 46 _ _ (hset (hset (hset hq c (rcC c (ps.getD m 0) pa ia tb A.2.2.2.2.length w ch at_ fa dr)) c (rcC c (ps.getD m 0) pa ia tb A.2.2.2.2.length none ch at_ fa dr)) c (rcC c (ps.getD m 0) pa ia tb A.2.2.2.2.length none none at_ fa dr)) _
    clear hFc ec3
    generalize hset (hset (hset hq c (rcC c (ps.getD m 0) pa ia tb A.2.2.2.2.length w ch at_ fa dr)) c (rcC c (ps.getD m 0) pa ia tb A.2.2.2.2.length none ch at_ fa dr)) c (rcC c (ps.getD m 0) pa ia tb A.2.2.2.2.length none none at_ fa dr) = hy at *
    have hF : Fr X (bgF X hp c pa) hp hy := hF1.trans (hFc'.mono (fun l hl => Or.inl hl))
    have al := g4.fr hX hFc' (by omega)
    have al' := al
    obtain ⟨mc', e', lbe', ff', ea', -⟩ := al'
    have hst' := zst_fr hX hc0 e2 e3 hF
    have hel : (ps.eraseIdx m).length = m := by rw [List.length_eraseIdx, if_pos (by omega)]; omega
    have hed : ps.eraseIdx m = ps.take m := by rw [List.eraseIdx_eq_take_drop_succ, List.drop_eq_nil_of_le (by omega), List.append_nil]
    have hps : ps = ps.take m ++ [ps.getD m 0] := by
      have := take_s ps m (by omega)
      rw [List.take_of_length_le (by omega)] at this
      rw [List.getD_eq_getElem?_getD, List.getElem?_eq_getElem (by omega)]
      exact this
    have hsub : ∀ q ∈ zst (ps.getD m 0) (ps.take m) fI, q ∈ zst s ps fI := by
      intro q hq
      rcases List.mem_cons.mp hq with hq | hq
      · rw [hq]; exact hqz
      · rcases List.mem_append.mp hq with hq | hq
        · exact List.mem_cons_of_mem _ (List.mem_append_left _ (List.mem_of_mem_take hq))
        · exact List.mem_cons_of_mem _ (List.mem_append_right _ hq)
    refine gs_ald0 (pc := 46) dX0_undo_46 ?_
    refine gs_getf (pc := 47) 1 dX0_undo_47 ec3' clX0 in_X0 (by decide) q212 (Or.inl rfl) rfl ?_
    refine gs_V0 (pc := 50) dX0_undo_50 kX0_44 ea' clJ2 (by decide) (Nat.le_of_ble_eq_true rfl) (c_alSize al) (fun v hp1 hq => ?_)
    obtain ⟨rfl, rfl⟩ := hq
    refine gs_iret (pc := 53) dX0_undo_53 rfl ?_
    rw [hel]
    rw [hed] at al
    refine ⟨_, rfl, congrArg vI (by omega), ⟨ps.getD m 0, pa, ia, tb, none, none, at_, fa, dr, ps.take m, fI, fT, ec3', hst' _ hqz _ hst, ⟨⟨pcap, al, b1'⟩, ?_, fun i hi => ?_, ?_, imO_z (fun q hq => hst' q (zst_0 hq)) b5, imO_z (fun q hq => hst' q (zst_1 hq)) b6, ?_, b8, ?_, fun q hq => b10 q (hsub q hq), fun q hq hqs => ?_⟩, fun wa h => (by cases h), fun m h => (by cases h)⟩, bgF_M hc0 b1.o hF, by omega, by omega⟩
    · show (ps.take m).length = A.2.1.dropLast.length
      rw [List.length_take, List.length_dropLast]; omega
    · rw [List.length_take] at hi
      show isSta X hy ((ps.take m).getD i 0) (A.2.1.dropLast.getD i ssD)
      rw [show A.2.1.dropLast.getD i ssD = A.2.1.getD i ssD by rw [List.getD_eq_getElem?_getD, List.getD_eq_getElem?_getD, List.getElem?_dropLast, if_pos (by omega)], show (ps.take m).getD i 0 = ps.getD i 0 by rw [List.getD_eq_getElem?_getD, List.getD_eq_getElem?_getD, List.getElem?_take_of_lt (by omega)]]
      exact hst' _ (zst_ps (by omega)) _ (b3 i (by omega))
    · have hic : ia ≠ c := fun e => by rw [e, e1] at b4; cases b4
      rw [hge ia hic]
      exact g1.at b4 (by omega)
    · have htc : tb ≠ c := fun e => by rw [e, e1] at b7; cases b7
      rw [hge tb htc]
      exact g1.at b7 (by omega)
    · have h9 := b9
      unfold zst at h9 ⊢
      rw [List.nodup_cons] at h9
      have h9' : (ps.take m ++ [ps.getD m 0] ++ ((fI 0).toList ++ (fI 1).toList)).Nodup := by rw [← hps]; exact h9.2
      rw [List.append_assoc, List.singleton_append, List.perm_middle.nodup_iff] at h9'
      exact h9'
    · by_cases h : q = s
      · subst h; exact ⟨_, hst' _ List.mem_cons_self _ e2⟩
      · obtain ⟨T, g⟩ := b11 q (hsub q hq) h
        exact ⟨T, hst' q (hsub q hq) T g⟩
theorem zst_k0 {fI' : Int → Option Nat} {N : Nat} (h : (zst s ps fI).Nodup) (hlt : ∀ q ∈ zst s ps fI, q < N) (e0 : fI' 0 = some N) (e1 : fI' 1 = fI 1) : (zst s ps fI').Nodup ∧ ∀ q ∈ zst s ps fI', q = N ∨ q ∈ zst s ps fI := by
  have hs : ((s :: ps) ++ (fI 1).toList).Sublist (zst s ps fI) := List.Sublist.append (List.Sublist.refl (s :: ps)) (List.sublist_append_right _ _)
  have ez : zst s ps fI' = (s :: ps) ++ N :: (fI 1).toList := by unfold zst; rw [e0, e1]; rfl
  rw [ez]
  constructor
  · rw [List.perm_middle.nodup_iff, List.nodup_cons]
    exact ⟨fun hm => absurd (hlt N (hs.subset hm)) (by omega), h.sublist hs⟩
  · intro q hq
    rcases List.mem_append.mp hq with hq | hq
    · exact Or.inr (hs.subset (List.mem_append_left _ hq))
    · rcases List.mem_cons.mp hq with hq | hq
      · exact Or.inl hq
      · exact Or.inr (hs.subset (List.mem_append_right _ hq))
theorem zst_k1 {fI' : Int → Option Nat} {N : Nat} (h : (zst s ps fI).Nodup) (hlt : ∀ q ∈ zst s ps fI, q < N) (e0 : fI' 0 = fI 0) (e1 : fI' 1 = some N) : (zst s ps fI').Nodup ∧ ∀ q ∈ zst s ps fI', q = N ∨ q ∈ zst s ps fI := by
  have hs : ((s :: ps) ++ (fI 0).toList).Sublist (zst s ps fI) := List.Sublist.append (List.Sublist.refl (s :: ps)) (List.sublist_append_left _ _)
  have ez : zst s ps fI' = (s :: ps) ++ (fI 0).toList ++ [N] := by unfold zst; rw [e0, e1, List.append_assoc]; rfl
  rw [ez]
  constructor
  · exact nodup_app1 (h.sublist hs) (fun y hy e => absurd (hlt y (hs.subset hy)) (by omega))
  · intro q hq
    rcases List.mem_append.mp hq with hq | hq
    · exact Or.inr (hs.subset hq)
    · exact Or.inl (List.mem_singleton.mp hq)
theorem c_keep {k : Int} (hX : KX X) (hR : RC X hp c A) (hO : asOk A) (hk : i32 k) : MV X yX0_keep fX0_keep 10 [vR (some c), vI k] hp (cPo X hp c (sp_keep A k)) := by
  have hR' := hR
  obtain ⟨s, pa, ia, tb, w, ch, at_, fa, dr, ps, fI, fT, e1, e2, e3, e4, e5⟩ := hR
  have e3' := e3
  obtain ⟨⟨pcap, b1, b1'⟩, b2, b3, b4, b5, b6, b7, b8, b9, b10, b11⟩ := e3'
  have e2' := e2
  obtain ⟨xs, cap, ra, f, es⟩ := e2'
  have hc0 : isO X hp c 0 := ⟨_, _, e1⟩
  have hclt := hc0.lt
  have hplt := b1.o.lt
  refine MC.of pfX0_keep rfl (fun h => by cases h) 1 rfl rfl ?_
  refine gs_ild1 (pc := 0) dX0_keep_0 ?_
  refine gs_iconst (pc := 1) dX0_keep_1 ?_
  refine gs_iconst (pc := 2) dX0_keep_2 ?_
  refine gs_S3 (pc := 3) dX0_keep_3 kX0_1 (by decide) (Nat.le_of_ble_eq_true rfl) (c_isIn hk (by decide) (by decide)) (fun v hp1 hq => ?_)
  obtain ⟨rfl, rfl⟩ := hq
  refine gs_bne (pc := 6) (tgt := 11) dX0_keep_6 (by decide) (fun h1 => ?_) (fun h1 => ?_)
  rotate_left
  · have h1 : ¬ (0 ≤ k ∧ k ≤ 1) := by simpa [inB] using h1
    unfold sp_keep
    rw [if_neg (by omega), if_neg (by omega)]
    refine gs_iconst (pc := 9) dX0_keep_9 ?_
    refine gs_iret (pc := 10) dX0_keep_10 rfl ?_
    exact ⟨_, rfl, rfl, same_po hR'⟩
  have h1 : 0 ≤ k ∧ k ≤ 1 := by simpa [inB] using h1
  have k26 : ∀ z : Int, z = (sp_keep A k).1 → G X fX0_keep 10 25 [some (vR (some c)), some (vI k), none] [vI z] hp (fun r hp' => ∃ v, r = some v ∧ cPo X hp c (sp_keep A k) v hp') := by
    intro z hz
    refine gs_ist2 (pc := 25) dX0_keep_25 rfl ?_
    refine gs_ald0 (pc := 26) dX0_keep_26 ?_
    refine gs_getf (pc := 27) 2 dX0_keep_27 e1 clX0 in_X0 (by decide) q213 (Or.inl rfl) rfl ?_
    refine gs_ild1 (pc := 30) dX0_keep_30 ?_
    refine gs_ald0 (pc := 31) dX0_keep_31 ?_
    refine gs_getf (pc := 32) 0 dX0_keep_32 e1 clX0 in_X0 (by decide) q211 (Or.inl rfl) rfl ?_
    refine gs_V0 (pc := 35) dX0_keep_35 kX0_52 es.1 clX1 (by decide) (Nat.le_of_ble_eq_true rfl) (c_stCopy hX hO.1 e2) (fun v hq hq => ?_)
    obtain ⟨rfl, q1, q2, q3, q4⟩ := hq
    have hia := q1.at b4 (by unfold frs; omega)
    have e1q := q1.at e1 (by unfold frs; omega)
    obtain ⟨xs2, cap2, ra2, f2, es2⟩ := q2
    refine gs_aast (pc := 38) 6 (by decide) rfl dX0_keep_38 hia (by omega) ⟨_, 1, _, RX1, TX1, 5, es2.1, rfl, Or.inl rfl⟩ (by omega) (by omega) ?_
    have hF1 := Fr1 (c := .inl (6, 2, .inr (fup fI k (some (nx X hp))))) hia (by omega) ⟨rfl, rfl, rfl⟩
    have hF : Fr X (bgF X hp c pa) hp _ := (Fr.mono q1 (fun l hl => Or.inr (Or.inr hl))).trans (hF1.mono (fun l hl => Or.inl hl))
    have hF0 : Fr X (fun l => l = c + 2 ∨ frs X hp l) hp _ := (Fr.mono q1 (fun l hl => Or.inr hl)).trans (hF1.mono (fun l hl => Or.inl hl))
    have hci : c ≠ ia := fun e => by rw [← e, e1] at b4; cases b4
    have hti : tb ≠ ia := fun e => by rw [← e, b7] at b4; cases b4
    have ec := (gl_set_ne (c := (c + 2, .inl (6, 2, .inr (fup fI k (some (nx X hp)))))) hci).trans e1q
    have et := (gl_set_ne (c := (c + 2, .inl (6, 2, .inr (fup fI k (some (nx X hp)))))) hti).trans (q1.at b7 (by unfold frs; omega))
    have ei := gl_set_self (c := (c + 2, .inl (6, 2, .inr (fup fI k (some (nx X hp)))))) hia (by omega)
    have hsz : (hset hq ia (c + 2, .inl (6, 2, .inr (fup fI k (some (nx X hp)))))).1 = hq.1 ∧ (hset hq ia (c + 2, .inl (6, 2, .inr (fup fI k (some (nx X hp)))))).2.1 = hq.2.1 := ⟨rfl, rfl⟩
    have al := (b1.fr hX q1 (by unfold frs; omega)).fr hX hF1 (by have := hc0.ne b1.o (by decide); omega)
    have hnew : isSta X (hset hq ia (c + 2, .inl (6, 2, .inr (fup fI k (some (nx X hp)))))) (nx X hp) A.1 := isSta.fr hX hF1 (fun l hl => by omega) (by omega) (by omega) ⟨_, _, _, _, es2⟩
    have hst' := zst_fr hX hc0 e2 e3 hF
    generalize hset hq ia (c + 2, .inl (6, 2, .inr (fup fI k (some (nx X hp))))) = hy at *
    have hlt : ∀ q ∈ zst s ps fI, q < nx X hp := by
      intro q hq
      by_cases hqs : q = s
      · rw [hqs]; exact e2.o.1.lt
      · obtain ⟨T, g⟩ := b11 q hq hqs
        exact g.o.1.lt
    have hS0 : ∀ l, l = c + 2 ∨ frs X hp l → lbC X hp 0 l ∨ frs X hp l := fun l hl => hl.imp (fun h => ⟨c, h, hc0⟩) id
    have hall : ∀ q ∈ zst s ps fI, q ≠ s → ∃ T, isSta X hy q T := by
      intro q hq hqs
      obtain ⟨T, g⟩ := b11 q hq hqs
      exact ⟨T, hst' q hq T g⟩
    have hpn : pa ≠ nx X hp + 1 := by omega
    refine gs_ild2 (pc := 39) dX0_keep_39 ?_
    refine gs_iret (pc := 40) dX0_keep_40 rfl ?_
    rw [hz]
    have hM := bgF_M hc0 b1.o hF
    have fin : ∀ A' : AS, A'.1 = A.1 → A'.2.1 = A.2.1 → A'.2.2.2.2 = A.2.2.2.2 → imO X hy (fup fI k (some (nx X hp)) 0) A'.2.2.1 → imO X hy (fup fI k (some (nx X hp)) 1) A'.2.2.2.1 → (zst s ps (fup fI k (some (nx X hp)))).Nodup → (∀ q ∈ zst s ps (fup fI k (some (nx X hp))), q = nx X hp ∨ q ∈ zst s ps fI) → RC X hy c A' := by
      intro A' a1 a2 a3 i0 i1 nd sb
      refine ⟨s, pa, ia, tb, w, ch, at_, fa, dr, ps, fup fI k (some (nx X hp)), fT, by rw [a3]; exact ec, by rw [a1]; exact hst' s List.mem_cons_self _ e2, ⟨⟨pcap, al, b1'⟩, by rw [a2]; exact b2, fun i hi => by rw [a2]; exact hst' _ (zst_ps hi) _ (b3 i hi), ei, i0, i1, et, by rw [a3]; exact b8, nd, fun q hq => ?_, fun q hq hqs => ?_⟩, fun wa h => by rw [a1]; exact (e4 wa h).frC (ci := 0) hX hF0 hS0 (by decide), fun m h => by rw [a1]; exact (e5 m h).frC (ci := 0) hF0 hS0 (by decide)⟩
      · rcases sb q hq with h | h
        · rw [h]; exact hpn
        · exact b10 q h
      · rcases sb q hq with h | h
        · rw [h]; exact ⟨_, hnew⟩
        · exact hall q h hqs
    refine ⟨_, rfl, rfl, ?_, hM, by omega, by omega⟩
    unfold sp_keep
    rcases (show k = 0 ∨ k = 1 by omega) with rfl | rfl
    · rw [if_pos rfl]
      obtain ⟨nd, sb⟩ := zst_k0 (fI' := fup fI 0 (some (nx X hp))) b9 hlt fup_eq (fup_ne (by decide))
      exact fin _ rfl rfl rfl (Or.inr ⟨nx X hp, A.1, fup_eq, rfl, hnew⟩) (by rw [fup_ne (by decide)]; exact imO_z (fun q hq => hst' q (zst_1 hq)) b6) nd sb
    · rw [if_neg (by decide), if_pos rfl]
      obtain ⟨nd, sb⟩ := zst_k1 (fI' := fup fI 1 (some (nx X hp))) b9 hlt (fup_ne (by decide)) fup_eq
      exact fin _ rfl rfl rfl (by rw [fup_ne (by decide)]; exact imO_z (fun q hq => hst' q (zst_0 hq)) b5) (Or.inr ⟨nx X hp, A.1, fup_eq, rfl, hnew⟩) nd sb
  refine gs_ald0 (pc := 11) dX0_keep_11 ?_
  refine gs_getf (pc := 12) 2 dX0_keep_12 e1 clX0 in_X0 (by decide) q213 (Or.inl rfl) rfl ?_
  refine gs_ild1 (pc := 15) dX0_keep_15 ?_
  refine gs_aald (pc := 16) 6 (by decide) dX0_keep_16 b4 (by omega) (by omega) ?_
  rcases (show k = 0 ∨ k = 1 by omega) with rfl | rfl
  · rcases b5 with ⟨g1, g2⟩ | ⟨q, T, g1, g2, -⟩
    · rw [g1]
      refine gs_ifnonnull (pc := 17) (tgt := 24) dX0_keep_17 (by decide) (fun _ h => by cases h) (fun _ => ?_)
      refine gs_iconst (pc := 20) dX0_keep_20 ?_
      refine gs_goto (pc := 21) (tgt := 25) dX0_keep_21 (by decide) ?_
      exact k26 _ (by unfold sp_keep; rw [if_pos rfl, g2]; rfl)
    · rw [g1]
      refine gs_ifnonnull (pc := 17) (tgt := 24) dX0_keep_17 (by decide) (fun _ _ => ?_) (fun h => by cases h)
      refine gs_iconst (pc := 24) dX0_keep_24 ?_
      exact k26 _ (by unfold sp_keep; rw [if_pos rfl, g2]; rfl)
  · rcases b6 with ⟨g1, g2⟩ | ⟨q, T, g1, g2, -⟩
    · rw [g1]
      refine gs_ifnonnull (pc := 17) (tgt := 24) dX0_keep_17 (by decide) (fun _ h => by cases h) (fun _ => ?_)
      refine gs_iconst (pc := 20) dX0_keep_20 ?_
      refine gs_goto (pc := 21) (tgt := 25) dX0_keep_21 (by decide) ?_
      exact k26 _ (by unfold sp_keep; rw [if_neg (by decide), if_pos rfl, g2]; rfl)
    · rw [g1]
      refine gs_ifnonnull (pc := 17) (tgt := 24) dX0_keep_17 (by decide) (fun _ _ => ?_) (fun h => by cases h)
      refine gs_iconst (pc := 24) dX0_keep_24 ?_
      exact k26 _ (by unfold sp_keep; rw [if_neg (by decide), if_pos rfl, g2]; rfl)
end CD
