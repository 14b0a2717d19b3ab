/-! THE COMPONENT: rules dropped. -/
section CC
variable {X : gCx} {hp hp1 hp2 hz : gHp} {S0 : Nat → Prop} {S S' T : SS} {A A' : AS} {a c s cap cap' ra pa ia tb n g j : Nat} {xs xs' ps : List Nat} {f fI : Int → Option Nat} {fT fT' : Int → Int} {w ch : Option Nat} {at_ fa dr d : Int} {L : List Ln} {t : List Int}
/-- a rule's cell is written -/
theorem stA.setR {o : Option Rl} {q : Option Nat} (hX : KX X) (hs : stA X hp s S xs cap ra f) (hn : n < 12) (ho : (o = none ∧ q = none) ∨ ∃ R r, o = some R ∧ q = some r ∧ isRl X hp r R) : stA X (hset hp ra (s + 2, .inl (5, 12, .inr (fup f (n : Int) q)))) s (S.1, (fun k => if k = n then o else S.2.1 k), S.2.2) xs cap ra (fup f (n : Int) q) ∧ Fr X (fun l => l = s + 2) hp (hset hp ra (s + 2, .inl (5, 12, .inr (fup f (n : Int) q)))) := by
  have e7 := hs.2.2.2.2.2.2.1
  have e8 := hs.2.2.2.2.2.2.2
  have hF := Fr1 (c := .inl (5, 12, .inr (fup f (n : Int) q))) e7 (by omega) ⟨rfl, rfl, rfl⟩
  have h2 : ∀ l, l = s + 2 → 2 ≤ l := fun l hl => by omega
  refine ⟨hs.rules hX (fun r hr => ?_), hF⟩
  by_cases h : r = n
  · subst h
    rcases ho with ⟨h1, h2'⟩ | ⟨R, r', h1, h2', h3⟩
    · exact Or.inl ⟨by show (if r = r then o else _) = none; rw [if_pos rfl]; exact h1, by rw [fup_eq]; exact h2'⟩
    · exact Or.inr ⟨R, r', by show (if r = r then o else _) = _; rw [if_pos rfl]; exact h1, by rw [fup_eq]; exact h2', h3.fr hF h2⟩
  · rcases e8 r hr with ⟨h1, h2'⟩ | ⟨R, r', h1, h2', h3⟩
    · exact Or.inl ⟨by show (if r = n then o else _) = none; rw [if_neg h]; exact h1, by rw [fup_ne (by omega)]; exact h2'⟩
    · exact Or.inr ⟨R, r', by show (if r = n then o else _) = _; rw [if_neg h]; exact h1, by rw [fup_ne (by omega)]; exact h2', h3.fr hF h2⟩
theorem c_dropRule {r : Int} (hX : KX X) (hR : RC X hp c A) (hO : asOk A) (hr : i32 r) : MV X yX0_dropRule fX0_dropRule 10 [vR (some c), vI r] hp (cPo X hp c (sp_dropRule A r)) := by
  have hR' := hR
  obtain ⟨s, pa, ia, tb, w, ch, at_, fa, dr, ps, fI, fT, e1, e2, e3, -, -⟩ := hR
  have e2' := e2
  obtain ⟨xs, cap, ra, f, es⟩ := e2'
  refine MC.of pfX0_dropRule rfl (fun h => by cases h) 2 rfl rfl ?_
  unfold sp_dropRule
  refine gs_ild1 (pc := 0) dX0_dropRule_0 ?_
  refine gs_iconst (pc := 1) dX0_dropRule_1 ?_
  refine gs_bipush (pc := 2) dX0_dropRule_2 rfl ?_
  refine gs_S3 (pc := 4) dX0_dropRule_4 kX0_1 (by decide) (Nat.le_of_ble_eq_true rfl) (c_isIn hr (by decide) (by decide)) (fun v hp1 hq => ?_)
  obtain ⟨rfl, rfl⟩ := hq
  refine gs_beq (pc := 7) (tgt := 22) dX0_dropRule_7 (by decide) (fun h1 => ?_) (fun h1 => ?_)
  · rw [if_neg (by rw [h1]; simp)]
    refine gs_iconst (pc := 22) dX0_dropRule_22 ?_
    refine gs_iret (pc := 23) dX0_dropRule_23 rfl ?_
    exact ⟨_, rfl, rfl, same_po hR'⟩
  have h1' := inB_of h1
  obtain ⟨n, rfl⟩ : ∃ n : Nat, r = (n : Int) := ⟨r.toNat, by omega⟩
  have hn : n < 12 := by omega
  rw [h1, Int.toNat_natCast, Bool.true_and]
  refine gs_ald0 (pc := 10) dX0_dropRule_10 ?_
  refine gs_getf (pc := 11) 0 dX0_dropRule_11 e1 clX0 in_X0 (by decide) q211 (Or.inl rfl) rfl ?_
  refine gs_getfN (pc := 14) 1 dX0_dropRule_14 es.1 clX1 in_X1 (by decide) q189 (Or.inl rfl) rfl ?_
  refine gs_ild1 (pc := 17) dX0_dropRule_17 ?_
  refine gs_aald (pc := 18) 5 (by decide) dX0_dropRule_18 es.2.2.2.2.2.2.1 (by omega) (by omega) ?_
  rcases es.2.2.2.2.2.2.2 n hn with ⟨g1, g2⟩ | ⟨R, q, g1, g2, -⟩
  · rw [g2, g1, if_neg (by decide)]
    refine gs_ifnonnull (pc := 19) (tgt := 24) dX0_dropRule_19 (by decide) (fun _ h => by cases h) (fun _ => ?_)
    refine gs_iconst (pc := 22) dX0_dropRule_22 ?_
    refine gs_iret (pc := 23) dX0_dropRule_23 rfl ?_
    exact ⟨_, rfl, rfl, same_po hR'⟩
  rw [g2, g1, if_pos (show (some R).isSome = true from rfl)]
  obtain ⟨n1, n2, n3⟩ := bg_st ⟨_, _, e1⟩ e2 e3
  refine gs_ifnonnull (pc := 19) (tgt := 24) dX0_dropRule_19 (by decide) (fun _ _ => ?_) (fun h => by cases h)
  refine gs_ald0 (pc := 24) dX0_dropRule_24 ?_
  refine gs_V0v (pc := 25) dX0_dropRule_25 kX0_139 e1 clX0 (by decide) (Nat.le_of_ble_eq_true rfl) (c_begins hX hO e1 e2 e3) (fun hz hq => ?_)
  obtain ⟨ps', z1, z2, z3, z4, z5, z6⟩ := hq
  have esz := es.fr hX z3 n3 n1 n2
  obtain ⟨k1, k2⟩ := esz.setR (o := none) (q := none) hX hn (Or.inl ⟨rfl, rfl⟩)
  have hcr : c ≠ ra := fun e => by have := esz.2.2.2.2.2.2.1; rw [← e, z1] at this; cases this
  have z1a := (gl_set_ne (c := (s + 2, .inl (5, 12, .inr (fup f (n : Int) none)))) hcr).trans z1
  have hed := RC.edit (A := A) hX z1 z2 ⟨_, _, _, _, esz⟩ (k2.mono (fun l hl => Or.inl hl)) ⟨_, _, _, _, k1⟩
  refine gs_ald0 (pc := 28) dX0_dropRule_28 ?_
  refine gs_getf (pc := 29) 0 dX0_dropRule_29 z1 clX0 in_X0 (by decide) q211 (Or.inl rfl) rfl ?_
  refine gs_getfN (pc := 32) 1 dX0_dropRule_32 esz.1 clX1 in_X1 (by decide) q189 (Or.inl rfl) rfl ?_
  refine gs_ild1 (pc := 35) dX0_dropRule_35 ?_
  refine gs_null (pc := 36) dX0_dropRule_36 ?_
  refine gs_aastN (pc := 37) 5 rfl dX0_dropRule_37 esz.2.2.2.2.2.2.1 (by omega) (by omega) (by omega) ?_
  have hsz : (hset hz ra (s + 2, .inl (5, 12, .inr (fup f (n : Int) none)))).1 = hz.1 ∧ (hset hz ra (s + 2, .inl (5, 12, .inr (fup f (n : Int) none)))).2.1 = hz.2.1 := ⟨rfl, rfl⟩
  generalize hset hz ra (s + 2, .inl (5, 12, .inr (fup f (n : Int) none))) = hy at *
  have loop : ∀ (q k : Nat), k + q = 12 → G X fX0_dropRule 10 42 [some (vR (some c)), some (vI (n : Int)), some (vI ((((List.range k).filter (fun k => decide (k ≠ n) && (A.1.2.1 k).isSome)).length : Nat) : Int)), some (vI (k : Int))] [] hy (fun v hp' => ∃ w, v = some w ∧ cPo X hp c ((((List.range 12).filter (fun k => decide (k ≠ n) && (A.1.2.1 k).isSome)).length : Int), chg A (A.1.1, (fun k => if k = n then none else A.1.2.1 k), A.1.2.2)) w hp') := by
    intro q
    induction q with
    | zero =>
      intro k hk
      obtain rfl : k = 12 := by omega
      refine gs_ild3 (pc := 42) dX0_dropRule_42 ?_
      refine gs_bipush (pc := 43) dX0_dropRule_43 rfl ?_
      refine gs_ic_ge (pc := 45) (tgt := 74) dX0_dropRule_45 (by decide) (by omega) (fun _ => ?_) (fun hn => absurd (by decide) hn)
      refine gs_ild2 (pc := 74) dX0_dropRule_74 ?_
      refine gs_iret (pc := 75) dX0_dropRule_75 rfl ?_
      exact ⟨_, rfl, rfl, hed.1, z4.trans hed.2, by omega, by omega⟩
    | succ q ih =>
      intro k hk
      have hi := ih (k + 1) (by omega)
      rw [List.range_succ, List.filter_append, List.length_append] at hi
      have e : (if k = n then none else A.1.2.1 k : Option Rl).isSome = (decide (k ≠ n) && (A.1.2.1 k).isSome) := by
        by_cases h : k = n
        · rw [if_pos h, decide_eq_false (fun g => g h)]; rfl
        · rw [if_neg h, decide_eq_true h]; rfl
      refine gs_ild3 (pc := 42) dX0_dropRule_42 ?_
      refine gs_bipush (pc := 43) dX0_dropRule_43 rfl ?_
      refine gs_ic_ge (pc := 45) (tgt := 74) dX0_dropRule_45 (by decide) (by omega) (fun hn => absurd hn (by omega)) (fun _ => ?_)
      refine gs_ild2 (pc := 48) dX0_dropRule_48 ?_
      refine gs_ald0 (pc := 49) dX0_dropRule_49 ?_
      refine gs_getf (pc := 50) 0 dX0_dropRule_50 z1a clX0 in_X0 (by decide) q211 (Or.inl rfl) rfl ?_
      refine gs_getfN (pc := 53) 1 dX0_dropRule_53 k1.1 clX1 in_X1 (by decide) q189 (Or.inl rfl) rfl ?_
      refine gs_ild3 (pc := 56) dX0_dropRule_56 ?_
      refine gs_aald (pc := 57) 5 (by decide) dX0_dropRule_57 k1.2.2.2.2.2.2.1 (by omega) (by omega) ?_
      rcases k1.2.2.2.2.2.2.2 k (by omega) with ⟨c1, c2⟩ | ⟨R, q, c1, c2, -⟩
      · have c1 : (if k = n then none else A.1.2.1 k : Option Rl) = none := c1
        rw [c1] at e
        have e : false = _ := e
        rw [show (List.filter (fun k => decide (k ≠ n) && (A.1.2.1 k).isSome) [k]).length = 0 by rw [List.filter_cons_of_neg (by rw [← e]; decide)]; rfl] at hi
        rw [c2]
        refine gs_ifnonnull (pc := 58) (tgt := 65) dX0_dropRule_58 (by decide) (fun _ h => by cases h) (fun _ => ?_)
        refine gs_iconst (pc := 61) dX0_dropRule_61 ?_
        refine gs_goto (pc := 62) (tgt := 66) dX0_dropRule_62 (by decide) ?_
        refine gs_iadd (pc := 66) dX0_dropRule_66 ?_
        refine gs_ist2 (pc := 67) dX0_dropRule_67 rfl ?_
        refine gs_inc3 (pc := 68) dX0_dropRule_68 rfl ?_
        refine gs_goto (pc := 71) (tgt := 42) dX0_dropRule_71 (by decide) ?_
        exact hi
      · have c1 : (if k = n then none else A.1.2.1 k : Option Rl) = some R := c1
        rw [c1] at e
        have e : true = _ := e
        rw [show (List.filter (fun k => decide (k ≠ n) && (A.1.2.1 k).isSome) [k]).length = 1 by rw [List.filter_cons_of_pos (by rw [← e])]; rfl] at hi
        rw [c2]
        refine gs_ifnonnull (pc := 58) (tgt := 65) dX0_dropRule_58 (by decide) (fun _ _ => ?_) (fun h => by cases h)
        refine gs_iconst (pc := 65) dX0_dropRule_65 ?_
        refine gs_iadd (pc := 66) dX0_dropRule_66 ?_
        refine gs_ist2 (pc := 67) dX0_dropRule_67 rfl ?_
        refine gs_inc3 (pc := 68) dX0_dropRule_68 rfl ?_
        refine gs_goto (pc := 71) (tgt := 42) dX0_dropRule_71 (by decide) ?_
        exact hi
  refine gs_iconst (pc := 38) dX0_dropRule_38 ?_
  refine gs_ist2 (pc := 39) dX0_dropRule_39 rfl ?_
  refine gs_iconst (pc := 40) dX0_dropRule_40 ?_
  refine gs_ist3 (pc := 41) dX0_dropRule_41 rfl ?_
  exact loop 12 0 (by omega)
end CC
