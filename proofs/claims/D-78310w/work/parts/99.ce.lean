/-! THE COMPONENT: an image brought back. -/
section CE
variable {X : gCx} {hp hp1 hp2 hz : gHp} {S0 : Nat → Prop} {S S' T : SS} {A A' : AS} {a c s cap cap' ra pa ia tb n g j : Nat} {xs xs' ps : List Nat} {f fI : Int → Option Nat} {fT fT' : Int → Int} {w ch : Option Nat} {at_ fa dr d : Int} {L : List Ln} {t : List Int}
theorem c_back {k : Int} (hX : KX X) (hR : RC X hp c A) (hO : asOk A) (hk : i32 k) : MV X yX0_back fX0_back 10 [vR (some c), vI k] hp (cPo X hp c (sp_back A k)) := by
  have hR' := hR
  obtain ⟨s, pa, ia, tb, w, ch, at_, fa, dr, ps, fI, fT, e1, e2, e3, -, -⟩ := hR
  have e3' := e3
  obtain ⟨⟨pcap, b1, b1'⟩, b2, b3, b4, b5, b6, b7, b8, b9, b10, b11⟩ := e3'
  have hc0 : isO X hp c 0 := ⟨_, _, e1⟩
  have hclt := hc0.lt
  have hplt := b1.o.lt
  have hcp : c ≠ pa := hc0.ne b1.o (by decide)
  refine MC.of pfX0_back rfl (fun h => by cases h) 0 rfl rfl ?_
  unfold sp_back
  refine gs_ild1 (pc := 0) dX0_back_0 ?_
  refine gs_iconst (pc := 1) dX0_back_1 ?_
  refine gs_iconst (pc := 2) dX0_back_2 ?_
  refine gs_S3 (pc := 3) dX0_back_3 kX0_1 (by decide) (Nat.le_of_ble_eq_true rfl) (c_isIn hk (by decide) (by decide)) (fun v hp1 hq => ?_)
  obtain ⟨rfl, rfl⟩ := hq
  refine gs_beq (pc := 6) (tgt := 18) dX0_back_6 (by decide) (fun h1 => ?_) (fun h1 => ?_)
  · have h1 : ¬ (0 ≤ k ∧ k ≤ 1) := by simpa [inB] using h1
    rw [show img A k = none by unfold img; rw [if_neg (by omega), if_neg (by omega)]]
    refine gs_iconst (pc := 18) dX0_back_18 ?_
    refine gs_iret (pc := 19) dX0_back_19 rfl ?_
    exact ⟨_, rfl, rfl, same_po hR'⟩
  have h1 : 0 ≤ k ∧ k ≤ 1 := by simpa [inB] using h1
  have him : (fI k = none ∧ img A k = none) ∨ ∃ q T, fI k = some q ∧ img A k = some T ∧ isSta X hp q T ∧ ssOk T := by
    unfold img
    rcases (show k = 0 ∨ k = 1 by omega) with rfl | rfl
    · rw [if_pos rfl]
      rcases b5 with g | ⟨q, T, g1, g2, g3⟩
      · exact Or.inl g
      · exact Or.inr ⟨q, T, g1, g2, g3, hO.2.2.1 T g2⟩
    · rw [if_neg (by decide), if_pos rfl]
      rcases b6 with g | ⟨q, T, g1, g2, g3⟩
      · exact Or.inl g
      · exact Or.inr ⟨q, T, g1, g2, g3, hO.2.2.2.1 T g2⟩
  refine gs_ald0 (pc := 9) dX0_back_9 ?_
  refine gs_getf (pc := 10) 2 dX0_back_10 e1 clX0 in_X0 (by decide) q213 (Or.inl rfl) rfl ?_
  refine gs_ild1 (pc := 13) dX0_back_13 ?_
  refine gs_aald (pc := 14) 6 (by decide) dX0_back_14 b4 (by omega) (by omega) ?_
  rcases him with ⟨g1, g2⟩ | ⟨q, T, g1, g2, g3, g4⟩
  · rw [g1, g2]
    refine gs_ifnonnull (pc := 15) (tgt := 20) dX0_back_15 (by decide) (fun _ h => by cases h) (fun _ => ?_)
    refine gs_iconst (pc := 18) dX0_back_18 ?_
    refine gs_iret (pc := 19) dX0_back_19 rfl ?_
    exact ⟨_, rfl, rfl, same_po hR'⟩
  rw [g1, g2]
  have g3' := g3
  obtain ⟨xs, cap, ra, f, es⟩ := g3'
  refine gs_ifnonnull (pc := 15) (tgt := 20) dX0_back_15 (by decide) (fun _ _ => ?_) (fun h => by cases h)
  refine gs_ald0 (pc := 20) dX0_back_20 ?_
  refine gs_ald0 (pc := 21) dX0_back_21 ?_
  refine gs_getf (pc := 22) 2 dX0_back_22 e1 clX0 in_X0 (by decide) q213 (Or.inl rfl) rfl ?_
  refine gs_ild1 (pc := 25) dX0_back_25 ?_
  refine gs_aald (pc := 26) 6 (by decide) dX0_back_26 b4 (by omega) (by omega) ?_
  rw [g1]
  refine gs_V0 (pc := 27) dX0_back_27 kX0_52 es.1 clX1 (by decide) (Nat.le_of_ble_eq_true rfl) (c_stCopy hX g4 g3) (fun v hq hq => ?_)
  obtain ⟨rfl, q1, q2, q3, q4⟩ := hq
  have ec := q1.at e1 (by unfold frs; omega)
  refine gs_putf (pc := 30) 0 (rcC c (nx X hp) pa ia tb A.2.2.2.2.length w ch at_ fa dr).2 dX0_back_30 ec (by omega) clX0 in_X0 tyX0 tyX0_ok nmX0 (by decide) q211 (Or.inl rfl) rfl (fok_obj _ _) (Nat.le_of_ble_eq_true rfl) rfl ?_
  have ec1 := gl_set_self (c := rcC c (nx X hp) pa ia tb A.2.2.2.2.length w ch at_ fa dr) ec (by omega)
  have hF1 : Fr X (fun l => l = c + 2) hq _ := Fr1 (c := (rcC c (nx X hp) pa ia tb A.2.2.2.2.length w ch at_ fa dr).2) ec (by omega) ⟨rfl, rfl⟩
  have al1 := (b1.fr hX q1 (by unfold frs; omega)).fr hX hF1 (by omega)
  have al1' := al1
  obtain ⟨mc, e, lbe, ff, ea, -⟩ := al1'
  refine gs_ald0 (pc := 33) dX0_back_33 ?_
  refine gs_getf (pc := 34) 1 dX0_back_34 ec1 clX0 in_X0 (by decide) q212 (Or.inl rfl) rfl ?_
  refine gs_V0v (pc := 37) dX0_back_37 kX0_402 ea clJ2 (by decide) (Nat.le_of_ble_eq_true rfl) (c_alClear hX al1) (fun hr hq => ?_)
  obtain ⟨r1, r2, r3, r4⟩ := hq
  have ec2 := r1.at ec1 (by omega)
  refine gs_ald0 (pc := 40) dX0_back_40 ?_
  refine gs_null (pc := 41) dX0_back_41 ?_
  refine gs_putf (pc := 42) 5 (rcC c (nx X hp) pa ia tb A.2.2.2.2.length none ch at_ fa dr).2 dX0_back_42 ec2 (by omega) clX0 in_X0 tyX0 tyX0_ok nmX0 (by decide) q216 (Or.inl rfl) rfl (fok_obj _ _) (Nat.le_of_ble_eq_true rfl) rfl ?_
  have ec3 := gl_set_self (c := rcC c (nx X hp) pa ia tb A.2.2.2.2.length none ch at_ fa dr) ec2 (by omega)
  refine gs_ald0 (pc := 45) dX0_back_45 ?_
  refine gs_null (pc := 46) dX0_back_46 ?_
  refine gs_putf (pc := 47) 6 (rcC c (nx X hp) pa ia tb A.2.2.2.2.length none none at_ fa dr).2 dX0_back_47 ec3 (by omega) clX0 in_X0 tyX0 tyX0_ok nmX0 (by decide) q217 (Or.inl rfl) rfl (fok_obj _ _) (Nat.le_of_ble_eq_true rfl) rfl ?_
  have ec4 := gl_set_self (c := rcC c (nx X hp) pa ia tb A.2.2.2.2.length none none at_ fa dr) ec3 (by omega)
  have hF2 : Fr X (fun l => l = c + 2) hr _ := (Fr1 (c := (rcC c (nx X hp) pa ia tb A.2.2.2.2.length none ch at_ fa dr).2) ec2 (by omega) ⟨rfl, rfl⟩).set (c := (rcC c (nx X hp) pa ia tb A.2.2.2.2.length none none at_ fa dr).2) ec3 (by omega) rfl ⟨rfl, rfl⟩
  have hq1 : (hset hq c (rcC c (nx X hp) pa ia tb A.2.2.2.2.length w ch at_ fa dr)).1 = hq.1 ∧ (hset hq c (rcC c (nx X hp) pa ia tb A.2.2.2.2.length w ch at_ fa dr)).2.1 = hq.2.1 := ⟨rfl, rfl⟩
  have r2 : hr.1 = hq.1 := r2
  have r3 : hr.2.1 = hq.2.1 := r3
  have hF : Fr X (bgF X hp c pa) hp _ := (((Fr.mono q1 (fun l hl => Or.inr (Or.inr hl))).trans (hF1.mono (fun l hl => Or.inl hl))).trans (r1.mono (fun l hl => Or.inr (Or.inl hl)))).trans (hF2.mono (fun l hl => Or.inl hl))
  have hge : ∀ b lb ce, b ≠ c → lb ≠ pa + 2 → lb < nx X hp + 2 → gl X hp b = some (lb, ce) → gl X (hset (hset hr c (rcC c (nx X hp) pa ia tb A.2.2.2.2.length none ch at_ fa dr)) c (rcC c (nx X hp) pa ia tb A.2.2.2.2.length none none at_ fa dr)) b = some (lb, ce) := by
    intro b lb ce hb hl hl2 he
    rw [gl_set_ne hb, gl_set_ne hb]
    refine r1.at ?_ hl
    have := q1.at he (by unfold frs; omega)
    rw [gl_set_ne hb]
    exact this
  have hnew : isSta X (hset (hset hr c (rcC c (nx X hp) pa ia tb A.2.2.2.2.length none ch at_ fa dr)) c (rcC c (nx X hp) pa ia tb A.2.2.2.2.length none none at_ fa dr)) (nx X hp) T := ((q2.fr hX hF1 (fun l hl => by omega) (by omega) (by omega)).fr hX r1 (fun l hl => by omega) (by omega) (by omega)).fr hX hF2 (fun l hl => by omega) (by omega) (by omega)
  have al2 := r4.fr hX hF2 (by omega)
  have hst' := zst_fr hX hc0 e2 e3 hF
  have hM := bgF_M hc0 b1.o hF
  have hsz : (hset (hset hr c (rcC c (nx X hp) pa ia tb A.2.2.2.2.length none ch at_ fa dr)) c (rcC c (nx X hp) pa ia tb A.2.2.2.2.length none none at_ fa dr)).1 = hr.1 ∧ (hset (hset hr c (rcC c (nx X hp) pa ia tb A.2.2.2.2.length none ch at_ fa dr)) c (rcC c (nx X hp) pa ia tb A.2.2.2.2.length none none at_ fa dr)).2.1 = hr.2.1 := ⟨rfl, rfl⟩
  show G X fX0_back 10 50 _ _ (hset (hset hr c (rcC c (nx X hp) pa ia tb A.2.2.2.2.length none ch at_ fa dr)) c (rcC c (nx X hp) pa ia tb A.2.2.2.2.length none none at_ fa dr)) _
  have ec4' : gl X (hset (hset hr c (rcC c (nx X hp) pa ia tb A.2.2.2.2.length none ch at_ fa dr)) c (rcC c (nx X hp) pa ia tb A.2.2.2.2.length none none at_ fa dr)) c = some (rcC c (nx X hp) pa ia tb A.2.2.2.2.length none none at_ fa dr) := ec4
  have al2' : isAL X (hset (hset hr c (rcC c (nx X hp) pa ia tb A.2.2.2.2.length none ch at_ fa dr)) c (rcC c (nx X hp) pa ia tb A.2.2.2.2.length none none at_ fa dr)) pa [] pcap := al2
  have hst2 : ∀ q ∈ zst s ps fI, ∀ T, isSta X hp q T → isSta X (hset (hset hr c (rcC c (nx X hp) pa ia tb A.2.2.2.2.length none ch at_ fa dr)) c (rcC c (nx X hp) pa ia tb A.2.2.2.2.length none none at_ fa dr)) q T := hst'
  have hM2 : FrM X hp (hset (hset hr c (rcC c (nx X hp) pa ia tb A.2.2.2.2.length none ch at_ fa dr)) c (rcC c (nx X hp) pa ia tb A.2.2.2.2.length none none at_ fa dr)) := hM
  clear hst' hM al2 ec4 hF hF2
  generalize hset (hset hr c (rcC c (nx X hp) pa ia tb A.2.2.2.2.length none ch at_ fa dr)) c (rcC c (nx X hp) pa ia tb A.2.2.2.2.length none none at_ fa dr) = hy at *
  have hnew' := hnew
  obtain ⟨xs2, cap2, ra2, f2, es2⟩ := hnew
  obtain ⟨mc2, e2', lbe2, ff2, ea2, -⟩ := es2.2.1
  refine gs_ald0 (pc := 50) dX0_back_50 ?_
  refine gs_getf (pc := 51) 0 dX0_back_51 ec4' clX0 in_X0 (by decide) q211 (Or.inl rfl) rfl ?_
  refine gs_getfN (pc := 54) 0 dX0_back_54 es2.1 clX1 in_X1 (by decide) q185 (Or.inl rfl) rfl ?_
  refine gs_V0 (pc := 57) dX0_back_57 kX0_44 ea2 clJ2 (by decide) (Nat.le_of_ble_eq_true rfl) (c_alSize es2.2.1) (fun v hp1 hq => ?_)
  obtain ⟨rfl, rfl⟩ := hq
  refine gs_iret (pc := 60) dX0_back_60 rfl ?_
  have hsub : ∀ q, q ∈ (fI 0).toList ++ (fI 1).toList → q ∈ zst s ps fI := fun q hq => List.mem_cons_of_mem _ (List.mem_append_right _ hq)
  have hlt : ∀ q ∈ zst s ps fI, q < nx X hp := by
    intro q hq
    by_cases hqs : q = s
    · rw [hqs]; exact e2.o.1.lt
    · obtain ⟨T, g⟩ := b11 q hq hqs
      exact g.o.1.lt
  have hic : ia ≠ c := fun e => by rw [e, e1] at b4; cases b4
  have htc : tb ≠ c := fun e => by rw [e, e1] at b7; cases b7
  refine ⟨_, rfl, by rw [es2.2.2.2.1]; rfl, ⟨nx X hp, pa, ia, tb, none, none, at_, fa, dr, [], fI, fT, ec4', hnew', ⟨⟨pcap, al2', b1'⟩, rfl, fun i hi => absurd hi (Nat.not_lt_zero _), hge ia _ _ hic (by omega) (by omega) b4, imO_z (fun q hq => hst2 q (zst_0 hq)) b5, imO_z (fun q hq => hst2 q (zst_1 hq)) b6, hge tb _ _ htc (by omega) (by omega) b7, b8, ?_, fun q hq => ?_, fun q hq hqs => ?_⟩, fun wa h => (by cases h), fun m h => (by cases h)⟩, hM2, by omega, by omega⟩
  · have h9 := b9
    unfold zst at h9 ⊢
    rw [List.nodup_cons, List.nodup_append] at h9
    rw [List.nil_append, List.nodup_cons]
    exact ⟨fun h => absurd (hlt _ (hsub _ h)) (by omega), h9.2.2.1⟩
  · rcases List.mem_cons.mp hq with hq | hq
    · omega
    · exact b10 q (hsub q (by simpa using hq))
  · rcases List.mem_cons.mp hq with hq | hq
    · exact absurd hq hqs
    · have hq' := hsub q (by simpa using hq)
      by_cases h : q = s
      · subst h; exact ⟨_, hst2 _ hq' _ e2⟩
      · obtain ⟨T, g⟩ := b11 q hq' h
        exact ⟨T, hst2 q hq' T g⟩
end CE
