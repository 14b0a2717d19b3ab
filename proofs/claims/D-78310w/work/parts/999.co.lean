/-! THE COMPONENT: a piece of a drawn line. -/
section CO
variable {X : gCx} {hp : gHp}
theorem c_piece {k : Nat} (hk : k < 16) : MV X yX0_piece fX0_piece 1 [vI (k : Int)] hp (fun v hp' => v = vR (some (cxK X (10 + (3 + k)))) ∧ hp = hp') := by
  refine MC.of pfX0_piece rfl (fun h => by cases h) 0 rfl rfl ?_
  refine gs_ild0 (pc := 0) dX0_piece_0 ?_
  obtain h | h | h | h | h | h | h | h | h | h | h | h | h | h | h | h : k = 0 ∨ k = 1 ∨ k = 2 ∨ k = 3 ∨ k = 4 ∨ k = 5 ∨ k = 6 ∨ k = 7 ∨ k = 8 ∨ k = 9 ∨ k = 10 ∨ k = 11 ∨ k = 12 ∨ k = 13 ∨ k = 14 ∨ k = 15 := by omega
  · subst h
    refine gs_tableIn (pc := 1) (tgt := 76) dX0_piece_1 (by decide) (by decide) (by decide) rfl (by decide) ?_
    refine gs_ldcwS (pc := 76) 3 rfl dX0_piece_76 ?_
    refine gs_aret (pc := 79) dX0_piece_79 rfl (Or.inl ⟨_, rfl⟩) ?_
    exact ⟨_, rfl, rfl, rfl⟩
  · subst h
    refine gs_tableIn (pc := 1) (tgt := 80) dX0_piece_1 (by decide) (by decide) (by decide) rfl (by decide) ?_
    refine gs_ldcwS (pc := 80) 4 rfl dX0_piece_80 ?_
    refine gs_aret (pc := 83) dX0_piece_83 rfl (Or.inl ⟨_, rfl⟩) ?_
    exact ⟨_, rfl, rfl, rfl⟩
  · subst h
    refine gs_tableIn (pc := 1) (tgt := 84) dX0_piece_1 (by decide) (by decide) (by decide) rfl (by decide) ?_
    refine gs_ldcwS (pc := 84) 5 rfl dX0_piece_84 ?_
    refine gs_aret (pc := 87) dX0_piece_87 rfl (Or.inl ⟨_, rfl⟩) ?_
    exact ⟨_, rfl, rfl, rfl⟩
  · subst h
    refine gs_tableIn (pc := 1) (tgt := 88) dX0_piece_1 (by decide) (by decide) (by decide) rfl (by decide) ?_
    refine gs_ldcwS (pc := 88) 6 rfl dX0_piece_88 ?_
    refine gs_aret (pc := 91) dX0_piece_91 rfl (Or.inl ⟨_, rfl⟩) ?_
    exact ⟨_, rfl, rfl, rfl⟩
  · subst h
    refine gs_tableIn (pc := 1) (tgt := 92) dX0_piece_1 (by decide) (by decide) (by decide) rfl (by decide) ?_
    refine gs_ldcwS (pc := 92) 7 rfl dX0_piece_92 ?_
    refine gs_aret (pc := 95) dX0_piece_95 rfl (Or.inl ⟨_, rfl⟩) ?_
    exact ⟨_, rfl, rfl, rfl⟩
  · subst h
    refine gs_tableIn (pc := 1) (tgt := 96) dX0_piece_1 (by decide) (by decide) (by decide) rfl (by decide) ?_
    refine gs_ldcwS (pc := 96) 8 rfl dX0_piece_96 ?_
    refine gs_aret (pc := 99) dX0_piece_99 rfl (Or.inl ⟨_, rfl⟩) ?_
    exact ⟨_, rfl, rfl, rfl⟩
  · subst h
    refine gs_tableIn (pc := 1) (tgt := 100) dX0_piece_1 (by decide) (by decide) (by decide) rfl (by decide) ?_
    refine gs_ldcwS (pc := 100) 9 rfl dX0_piece_100 ?_
    refine gs_aret (pc := 103) dX0_piece_103 rfl (Or.inl ⟨_, rfl⟩) ?_
    exact ⟨_, rfl, rfl, rfl⟩
  · subst h
    refine gs_tableIn (pc := 1) (tgt := 104) dX0_piece_1 (by decide) (by decide) (by decide) rfl (by decide) ?_
    refine gs_ldcwS (pc := 104) 10 rfl dX0_piece_104 ?_
    refine gs_aret (pc := 107) dX0_piece_107 rfl (Or.inl ⟨_, rfl⟩) ?_
    exact ⟨_, rfl, rfl, rfl⟩
  · subst h
    refine gs_tableIn (pc := 1) (tgt := 108) dX0_piece_1 (by decide) (by decide) (by decide) rfl (by decide) ?_
    refine gs_ldcwS (pc := 108) 11 rfl dX0_piece_108 ?_
    refine gs_aret (pc := 111) dX0_piece_111 rfl (Or.inl ⟨_, rfl⟩) ?_
    exact ⟨_, rfl, rfl, rfl⟩
  · subst h
    refine gs_tableIn (pc := 1) (tgt := 112) dX0_piece_1 (by decide) (by decide) (by decide) rfl (by decide) ?_
    refine gs_ldcwS (pc := 112) 12 rfl dX0_piece_112 ?_
    refine gs_aret (pc := 115) dX0_piece_115 rfl (Or.inl ⟨_, rfl⟩) ?_
    exact ⟨_, rfl, rfl, rfl⟩
  · subst h
    refine gs_tableIn (pc := 1) (tgt := 116) dX0_piece_1 (by decide) (by decide) (by decide) rfl (by decide) ?_
    refine gs_ldcwS (pc := 116) 13 rfl dX0_piece_116 ?_
    refine gs_aret (pc := 119) dX0_piece_119 rfl (Or.inl ⟨_, rfl⟩) ?_
    exact ⟨_, rfl, rfl, rfl⟩
  · subst h
    refine gs_tableIn (pc := 1) (tgt := 120) dX0_piece_1 (by decide) (by decide) (by decide) rfl (by decide) ?_
    refine gs_ldcwS (pc := 120) 14 rfl dX0_piece_120 ?_
    refine gs_aret (pc := 123) dX0_piece_123 rfl (Or.inl ⟨_, rfl⟩) ?_
    exact ⟨_, rfl, rfl, rfl⟩
  · subst h
    refine gs_tableIn (pc := 1) (tgt := 124) dX0_piece_1 (by decide) (by decide) (by decide) rfl (by decide) ?_
    refine gs_ldcwS (pc := 124) 15 rfl dX0_piece_124 ?_
    refine gs_aret (pc := 127) dX0_piece_127 rfl (Or.inl ⟨_, rfl⟩) ?_
    exact ⟨_, rfl, rfl, rfl⟩
  · subst h
    refine gs_tableIn (pc := 1) (tgt := 128) dX0_piece_1 (by decide) (by decide) (by decide) rfl (by decide) ?_
    refine gs_ldcwS (pc := 128) 16 rfl dX0_piece_128 ?_
    refine gs_aret (pc := 131) dX0_piece_131 rfl (Or.inl ⟨_, rfl⟩) ?_
    exact ⟨_, rfl, rfl, rfl⟩
  · subst h
    refine gs_tableIn (pc := 1) (tgt := 132) dX0_piece_1 (by decide) (by decide) (by decide) rfl (by decide) ?_
    refine gs_ldcwS (pc := 132) 17 rfl dX0_piece_132 ?_
    refine gs_aret (pc := 135) dX0_piece_135 rfl (Or.inl ⟨_, rfl⟩) ?_
    exact ⟨_, rfl, rfl, rfl⟩
  · subst h
    refine gs_tableOut (pc := 1) (tgt := 136) dX0_piece_1 (by decide) (by decide) (by decide) ?_
    refine gs_ldcwS (pc := 136) 18 rfl dX0_piece_136 ?_
    refine gs_aret (pc := 139) dX0_piece_139 rfl (Or.inl ⟨_, rfl⟩) ?_
    exact ⟨_, rfl, rfl, rfl⟩
end CO
