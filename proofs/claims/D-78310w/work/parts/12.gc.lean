/-! THE G LAYER, part 3: steps that leave the heap alone (printed by tool/gensteps.py). -/
section GC
variable {X : gCx} {fi : gFi} {d pc : Nat} {L : List (Option AV)} {st : List AV} {hp : gHp} {Q : Option AV → gHp → Prop}
theorem gs_ild0 {t : List (Option AV)} {z : Int} (hd : decode fi.2.1 pc = .ok (.iload_n 0, 1)) (k : G X fi d (pc + 1) (some (vI z) :: t) (vI z :: st) hp Q) : G X fi d pc (some (vI z) :: t) st hp Q :=
  G.step (fun p e R s m args below meth c H locs cells slots ls QQ hS hR hk kk => lv_iload_n hS.1 hS.2.1 hd rfl (hk.at (i := 0) (v := vI z) rfl) (kk ls hk)) k
theorem gs_lld0 {t : List (Option AV)} {z : Int64} (hd : decode fi.2.1 pc = .ok (.lload_n 0, 1)) (k : G X fi d (pc + 1) (some (vL z) :: t) (vL z :: st) hp Q) : G X fi d pc (some (vL z) :: t) st hp Q :=
  G.step (fun p e R s m args below meth c H locs cells slots ls QQ hS hR hk kk => lv_lload_n hS.1 hS.2.1 hd rfl (hk.at (i := 0) (v := vL z) rfl) (kk ls hk)) k
theorem gs_ald0 {t : List (Option AV)} {r : Option Nat} (hd : decode fi.2.1 pc = .ok (.aload_n 0, 1)) (k : G X fi d (pc + 1) (some (vR r) :: t) (vR r :: st) hp Q) : G X fi d pc (some (vR r) :: t) st hp Q :=
  G.step (fun p e R s m args below meth c H locs cells slots ls QQ hS hR hk kk => by
    cases r with
    | none => exact lv_aload_nN hS.1 hS.2.1 hd rfl (hk.at (i := 0) (v := vR none) rfl) (kk ls hk)
    | some x => exact lv_aload_n hS.1 hS.2.1 hd rfl (hk.at (i := 0) (v := vR (some x)) rfl) (kk ls hk)) k
theorem gs_ist0 {b : Option AV} {t : List (Option AV)} {z : Int} (hd : decode fi.2.1 pc = .ok (.istore_n 0, 1)) (k : G X fi d (pc + 1) (some (vI z) :: t) st hp Q) : G X fi d pc (b :: t) (vI z :: st) hp Q :=
  G.step (fun p e R s m args below meth c H locs cells slots ls QQ hS hR hk kk => by
    refine lv_istore_n hS.1 hS.2.1 hd rfl hk.has (hk.lt (i := 0) (by simp only [List.length_cons]; omega)) rfl (fun ls' h' => kk ls' ?_)
    exact hk.set1 (i := 0) (v := vI z) (fun j hj => absurd hj (by omega)) h') k
theorem gs_lst0 {b b2 : Option AV} {t : List (Option AV)} {z : Int64} (hd : decode fi.2.1 pc = .ok (.lstore_n 0, 1)) (k : G X fi d (pc + 1) (some (vL z) :: none :: t) st hp Q) : G X fi d pc (b :: b2 :: t) (vL z :: st) hp Q :=
  G.step (fun p e R s m args below meth c H locs cells slots ls QQ hS hR hk kk => by
    refine lv_lstore_n hS.1 hS.2.1 hd rfl hk.has (hk.lt (i := 1) (by simp only [List.length_cons]; omega)) rfl (fun ls' h' => kk ls' ?_)
    exact hk.set2 (i := 0) (v := vL z) (fun j hj => absurd hj (by omega)) h') k
theorem gs_ast0 {b : Option AV} {t : List (Option AV)} {r : Option Nat} (hd : decode fi.2.1 pc = .ok (.astore_n 0, 1)) (k : G X fi d (pc + 1) (some (vR r) :: t) st hp Q) : G X fi d pc (b :: t) (vR r :: st) hp Q :=
  G.step (fun p e R s m args below meth c H locs cells slots ls QQ hS hR hk kk => by
    cases r with
    | none =>
      refine lv_astore_nN hS.1 hS.2.1 hd rfl hk.has (hk.lt (i := 0) (by simp only [List.length_cons]; omega)) rfl (fun ls' h' => kk ls' ?_)
      exact hk.set1 (i := 0) (v := vR none) (fun j hj => absurd hj (by omega)) h'
    | some x =>
      refine lv_astore_n hS.1 hS.2.1 hd rfl hk.has (hk.lt (i := 0) (by simp only [List.length_cons]; omega)) rfl (fun ls' h' => kk ls' ?_)
      exact hk.set1 (i := 0) (v := vR (some x)) (fun j hj => absurd hj (by omega)) h') k
theorem gs_inc0 {t : List (Option AV)} {z n : Int} (hd : decode fi.2.1 pc = .ok (.iinc 0 n, 3)) (k : G X fi d (pc + 3) (some (vI (z + n)) :: t) st hp Q) : G X fi d pc (some (vI z) :: t) st hp Q :=
  G.step (fun p e R s m args below meth c H locs cells slots ls QQ hS hR hk kk => by
    obtain ⟨j, hj⟩ := List.getElem?_of_mem (las_mem (L := some (vI z) :: t) (i := 0) (v := vI z) rfl)
    refine lv_iinc (v := Int32.ofInt (z + n)) (k := j) hS.1 hS.2.1 hd hk.has hj (by rw [Int32.ofInt_add]) (hk.lt (i := 0) (by simp only [List.length_cons]; omega)) rfl (fun ls' h' => kk ls' ?_)
    exact hk.set1 (i := 0) (v := vI (z + n)) (fun j hj => absurd hj (by omega)) h') k
theorem gs_ild1 {a0 : Option AV} {t : List (Option AV)} {z : Int} (hd : decode fi.2.1 pc = .ok (.iload_n 1, 1)) (k : G X fi d (pc + 1) (a0 :: some (vI z) :: t) (vI z :: st) hp Q) : G X fi d pc (a0 :: some (vI z) :: t) st hp Q :=
  G.step (fun p e R s m args below meth c H locs cells slots ls QQ hS hR hk kk => lv_iload_n hS.1 hS.2.1 hd rfl (hk.at (i := 1) (v := vI z) rfl) (kk ls hk)) k
theorem gs_lld1 {a0 : Option AV} {t : List (Option AV)} {z : Int64} (hd : decode fi.2.1 pc = .ok (.lload_n 1, 1)) (k : G X fi d (pc + 1) (a0 :: some (vL z) :: t) (vL z :: st) hp Q) : G X fi d pc (a0 :: some (vL z) :: t) st hp Q :=
  G.step (fun p e R s m args below meth c H locs cells slots ls QQ hS hR hk kk => lv_lload_n hS.1 hS.2.1 hd rfl (hk.at (i := 1) (v := vL z) rfl) (kk ls hk)) k
theorem gs_ald1 {a0 : Option AV} {t : List (Option AV)} {r : Option Nat} (hd : decode fi.2.1 pc = .ok (.aload_n 1, 1)) (k : G X fi d (pc + 1) (a0 :: some (vR r) :: t) (vR r :: st) hp Q) : G X fi d pc (a0 :: some (vR r) :: t) st hp Q :=
  G.step (fun p e R s m args below meth c H locs cells slots ls QQ hS hR hk kk => by
    cases r with
    | none => exact lv_aload_nN hS.1 hS.2.1 hd rfl (hk.at (i := 1) (v := vR none) rfl) (kk ls hk)
    | some x => exact lv_aload_n hS.1 hS.2.1 hd rfl (hk.at (i := 1) (v := vR (some x)) rfl) (kk ls hk)) k
theorem gs_ist1 {a0 : Option AV} {b : Option AV} {t : List (Option AV)} {z : Int} (hd : decode fi.2.1 pc = .ok (.istore_n 1, 1)) (hn : nolg a0 = true) (k : G X fi d (pc + 1) (a0 :: some (vI z) :: t) st hp Q) : G X fi d pc (a0 :: b :: t) (vI z :: st) hp Q :=
  G.step (fun p e R s m args below meth c H locs cells slots ls QQ hS hR hk kk => by
    refine lv_istore_n hS.1 hS.2.1 hd rfl hk.has (hk.lt (i := 1) (by simp only [List.length_cons]; omega)) rfl (fun ls' h' => kk ls' ?_)
    exact hk.set1 (i := 1) (v := vI z) (fun j hj => by obtain rfl : j = 0 := (by omega); exact hn) h') k
theorem gs_lst1 {a0 : Option AV} {b b2 : Option AV} {t : List (Option AV)} {z : Int64} (hd : decode fi.2.1 pc = .ok (.lstore_n 1, 1)) (hn : nolg a0 = true) (k : G X fi d (pc + 1) (a0 :: some (vL z) :: none :: t) st hp Q) : G X fi d pc (a0 :: b :: b2 :: t) (vL z :: st) hp Q :=
  G.step (fun p e R s m args below meth c H locs cells slots ls QQ hS hR hk kk => by
    refine lv_lstore_n hS.1 hS.2.1 hd rfl hk.has (hk.lt (i := 2) (by simp only [List.length_cons]; omega)) rfl (fun ls' h' => kk ls' ?_)
    exact hk.set2 (i := 1) (v := vL z) (fun j hj => by obtain rfl : j = 0 := (by omega); exact hn) h') k
theorem gs_ast1 {a0 : Option AV} {b : Option AV} {t : List (Option AV)} {r : Option Nat} (hd : decode fi.2.1 pc = .ok (.astore_n 1, 1)) (hn : nolg a0 = true) (k : G X fi d (pc + 1) (a0 :: some (vR r) :: t) st hp Q) : G X fi d pc (a0 :: b :: t) (vR r :: st) hp Q :=
  G.step (fun p e R s m args below meth c H locs cells slots ls QQ hS hR hk kk => by
    cases r with
    | none =>
      refine lv_astore_nN hS.1 hS.2.1 hd rfl hk.has (hk.lt (i := 1) (by simp only [List.length_cons]; omega)) rfl (fun ls' h' => kk ls' ?_)
      exact hk.set1 (i := 1) (v := vR none) (fun j hj => by obtain rfl : j = 0 := (by omega); exact hn) h'
    | some x =>
      refine lv_astore_n hS.1 hS.2.1 hd rfl hk.has (hk.lt (i := 1) (by simp only [List.length_cons]; omega)) rfl (fun ls' h' => kk ls' ?_)
      exact hk.set1 (i := 1) (v := vR (some x)) (fun j hj => by obtain rfl : j = 0 := (by omega); exact hn) h') k
theorem gs_inc1 {a0 : Option AV} {t : List (Option AV)} {z n : Int} (hd : decode fi.2.1 pc = .ok (.iinc 1 n, 3)) (hn : nolg a0 = true) (k : G X fi d (pc + 3) (a0 :: some (vI (z + n)) :: t) st hp Q) : G X fi d pc (a0 :: some (vI z) :: t) st hp Q :=
  G.step (fun p e R s m args below meth c H locs cells slots ls QQ hS hR hk kk => by
    obtain ⟨j, hj⟩ := List.getElem?_of_mem (las_mem (L := a0 :: some (vI z) :: t) (i := 1) (v := vI z) rfl)
    refine lv_iinc (v := Int32.ofInt (z + n)) (k := j) hS.1 hS.2.1 hd hk.has hj (by rw [Int32.ofInt_add]) (hk.lt (i := 1) (by simp only [List.length_cons]; omega)) rfl (fun ls' h' => kk ls' ?_)
    exact hk.set1 (i := 1) (v := vI (z + n)) (fun j hj => by obtain rfl : j = 0 := (by omega); exact hn) h') k
theorem gs_ild2 {a0 a1 : Option AV} {t : List (Option AV)} {z : Int} (hd : decode fi.2.1 pc = .ok (.iload_n 2, 1)) (k : G X fi d (pc + 1) (a0 :: a1 :: some (vI z) :: t) (vI z :: st) hp Q) : G X fi d pc (a0 :: a1 :: some (vI z) :: t) st hp Q :=
  G.step (fun p e R s m args below meth c H locs cells slots ls QQ hS hR hk kk => lv_iload_n hS.1 hS.2.1 hd rfl (hk.at (i := 2) (v := vI z) rfl) (kk ls hk)) k
theorem gs_lld2 {a0 a1 : Option AV} {t : List (Option AV)} {z : Int64} (hd : decode fi.2.1 pc = .ok (.lload_n 2, 1)) (k : G X fi d (pc + 1) (a0 :: a1 :: some (vL z) :: t) (vL z :: st) hp Q) : G X fi d pc (a0 :: a1 :: some (vL z) :: t) st hp Q :=
  G.step (fun p e R s m args below meth c H locs cells slots ls QQ hS hR hk kk => lv_lload_n hS.1 hS.2.1 hd rfl (hk.at (i := 2) (v := vL z) rfl) (kk ls hk)) k
theorem gs_ald2 {a0 a1 : Option AV} {t : List (Option AV)} {r : Option Nat} (hd : decode fi.2.1 pc = .ok (.aload_n 2, 1)) (k : G X fi d (pc + 1) (a0 :: a1 :: some (vR r) :: t) (vR r :: st) hp Q) : G X fi d pc (a0 :: a1 :: some (vR r) :: t) st hp Q :=
  G.step (fun p e R s m args below meth c H locs cells slots ls QQ hS hR hk kk => by
    cases r with
    | none => exact lv_aload_nN hS.1 hS.2.1 hd rfl (hk.at (i := 2) (v := vR none) rfl) (kk ls hk)
    | some x => exact lv_aload_n hS.1 hS.2.1 hd rfl (hk.at (i := 2) (v := vR (some x)) rfl) (kk ls hk)) k
theorem gs_ist2 {a0 a1 : Option AV} {b : Option AV} {t : List (Option AV)} {z : Int} (hd : decode fi.2.1 pc = .ok (.istore_n 2, 1)) (hn : nolg a1 = true) (k : G X fi d (pc + 1) (a0 :: a1 :: some (vI z) :: t) st hp Q) : G X fi d pc (a0 :: a1 :: b :: t) (vI z :: st) hp Q :=
  G.step (fun p e R s m args below meth c H locs cells slots ls QQ hS hR hk kk => by
    refine lv_istore_n hS.1 hS.2.1 hd rfl hk.has (hk.lt (i := 2) (by simp only [List.length_cons]; omega)) rfl (fun ls' h' => kk ls' ?_)
    exact hk.set1 (i := 2) (v := vI z) (fun j hj => by obtain rfl : j = 1 := (by omega); exact hn) h') k
theorem gs_lst2 {a0 a1 : Option AV} {b b2 : Option AV} {t : List (Option AV)} {z : Int64} (hd : decode fi.2.1 pc = .ok (.lstore_n 2, 1)) (hn : nolg a1 = true) (k : G X fi d (pc + 1) (a0 :: a1 :: some (vL z) :: none :: t) st hp Q) : G X fi d pc (a0 :: a1 :: b :: b2 :: t) (vL z :: st) hp Q :=
  G.step (fun p e R s m args below meth c H locs cells slots ls QQ hS hR hk kk => by
    refine lv_lstore_n hS.1 hS.2.1 hd rfl hk.has (hk.lt (i := 3) (by simp only [List.length_cons]; omega)) rfl (fun ls' h' => kk ls' ?_)
    exact hk.set2 (i := 2) (v := vL z) (fun j hj => by obtain rfl : j = 1 := (by omega); exact hn) h') k
theorem gs_ast2 {a0 a1 : Option AV} {b : Option AV} {t : List (Option AV)} {r : Option Nat} (hd : decode fi.2.1 pc = .ok (.astore_n 2, 1)) (hn : nolg a1 = true) (k : G X fi d (pc + 1) (a0 :: a1 :: some (vR r) :: t) st hp Q) : G X fi d pc (a0 :: a1 :: b :: t) (vR r :: st) hp Q :=
  G.step (fun p e R s m args below meth c H locs cells slots ls QQ hS hR hk kk => by
    cases r with
    | none =>
      refine lv_astore_nN hS.1 hS.2.1 hd rfl hk.has (hk.lt (i := 2) (by simp only [List.length_cons]; omega)) rfl (fun ls' h' => kk ls' ?_)
      exact hk.set1 (i := 2) (v := vR none) (fun j hj => by obtain rfl : j = 1 := (by omega); exact hn) h'
    | some x =>
      refine lv_astore_n hS.1 hS.2.1 hd rfl hk.has (hk.lt (i := 2) (by simp only [List.length_cons]; omega)) rfl (fun ls' h' => kk ls' ?_)
      exact hk.set1 (i := 2) (v := vR (some x)) (fun j hj => by obtain rfl : j = 1 := (by omega); exact hn) h') k
theorem gs_inc2 {a0 a1 : Option AV} {t : List (Option AV)} {z n : Int} (hd : decode fi.2.1 pc = .ok (.iinc 2 n, 3)) (hn : nolg a1 = true) (k : G X fi d (pc + 3) (a0 :: a1 :: some (vI (z + n)) :: t) st hp Q) : G X fi d pc (a0 :: a1 :: some (vI z) :: t) st hp Q :=
  G.step (fun p e R s m args below meth c H locs cells slots ls QQ hS hR hk kk => by
    obtain ⟨j, hj⟩ := List.getElem?_of_mem (las_mem (L := a0 :: a1 :: some (vI z) :: t) (i := 2) (v := vI z) rfl)
    refine lv_iinc (v := Int32.ofInt (z + n)) (k := j) hS.1 hS.2.1 hd hk.has hj (by rw [Int32.ofInt_add]) (hk.lt (i := 2) (by simp only [List.length_cons]; omega)) rfl (fun ls' h' => kk ls' ?_)
    exact hk.set1 (i := 2) (v := vI (z + n)) (fun j hj => by obtain rfl : j = 1 := (by omega); exact hn) h') k
theorem gs_ild3 {a0 a1 a2 : Option AV} {t : List (Option AV)} {z : Int} (hd : decode fi.2.1 pc = .ok (.iload_n 3, 1)) (k : G X fi d (pc + 1) (a0 :: a1 :: a2 :: some (vI z) :: t) (vI z :: st) hp Q) : G X fi d pc (a0 :: a1 :: a2 :: some (vI z) :: t) st hp Q :=
  G.step (fun p e R s m args below meth c H locs cells slots ls QQ hS hR hk kk => lv_iload_n hS.1 hS.2.1 hd rfl (hk.at (i := 3) (v := vI z) rfl) (kk ls hk)) k
theorem gs_lld3 {a0 a1 a2 : Option AV} {t : List (Option AV)} {z : Int64} (hd : decode fi.2.1 pc = .ok (.lload_n 3, 1)) (k : G X fi d (pc + 1) (a0 :: a1 :: a2 :: some (vL z) :: t) (vL z :: st) hp Q) : G X fi d pc (a0 :: a1 :: a2 :: some (vL z) :: t) st hp Q :=
  G.step (fun p e R s m args below meth c H locs cells slots ls QQ hS hR hk kk => lv_lload_n hS.1 hS.2.1 hd rfl (hk.at (i := 3) (v := vL z) rfl) (kk ls hk)) k
theorem gs_ald3 {a0 a1 a2 : Option AV} {t : List (Option AV)} {r : Option Nat} (hd : decode fi.2.1 pc = .ok (.aload_n 3, 1)) (k : G X fi d (pc + 1) (a0 :: a1 :: a2 :: some (vR r) :: t) (vR r :: st) hp Q) : G X fi d pc (a0 :: a1 :: a2 :: some (vR r) :: t) st hp Q :=
  G.step (fun p e R s m args below meth c H locs cells slots ls QQ hS hR hk kk => by
    cases r with
    | none => exact lv_aload_nN hS.1 hS.2.1 hd rfl (hk.at (i := 3) (v := vR none) rfl) (kk ls hk)
    | some x => exact lv_aload_n hS.1 hS.2.1 hd rfl (hk.at (i := 3) (v := vR (some x)) rfl) (kk ls hk)) k
theorem gs_ist3 {a0 a1 a2 : Option AV} {b : Option AV} {t : List (Option AV)} {z : Int} (hd : decode fi.2.1 pc = .ok (.istore_n 3, 1)) (hn : nolg a2 = true) (k : G X fi d (pc + 1) (a0 :: a1 :: a2 :: some (vI z) :: t) st hp Q) : G X fi d pc (a0 :: a1 :: a2 :: b :: t) (vI z :: st) hp Q :=
  G.step (fun p e R s m args below meth c H locs cells slots ls QQ hS hR hk kk => by
    refine lv_istore_n hS.1 hS.2.1 hd rfl hk.has (hk.lt (i := 3) (by simp only [List.length_cons]; omega)) rfl (fun ls' h' => kk ls' ?_)
    exact hk.set1 (i := 3) (v := vI z) (fun j hj => by obtain rfl : j = 2 := (by omega); exact hn) h') k
theorem gs_lst3 {a0 a1 a2 : Option AV} {b b2 : Option AV} {t : List (Option AV)} {z : Int64} (hd : decode fi.2.1 pc = .ok (.lstore_n 3, 1)) (hn : nolg a2 = true) (k : G X fi d (pc + 1) (a0 :: a1 :: a2 :: some (vL z) :: none :: t) st hp Q) : G X fi d pc (a0 :: a1 :: a2 :: b :: b2 :: t) (vL z :: st) hp Q :=
  G.step (fun p e R s m args below meth c H locs cells slots ls QQ hS hR hk kk => by
    refine lv_lstore_n hS.1 hS.2.1 hd rfl hk.has (hk.lt (i := 4) (by simp only [List.length_cons]; omega)) rfl (fun ls' h' => kk ls' ?_)
    exact hk.set2 (i := 3) (v := vL z) (fun j hj => by obtain rfl : j = 2 := (by omega); exact hn) h') k
theorem gs_ast3 {a0 a1 a2 : Option AV} {b : Option AV} {t : List (Option AV)} {r : Option Nat} (hd : decode fi.2.1 pc = .ok (.astore_n 3, 1)) (hn : nolg a2 = true) (k : G X fi d (pc + 1) (a0 :: a1 :: a2 :: some (vR r) :: t) st hp Q) : G X fi d pc (a0 :: a1 :: a2 :: b :: t) (vR r :: st) hp Q :=
  G.step (fun p e R s m args below meth c H locs cells slots ls QQ hS hR hk kk => by
    cases r with
    | none =>
      refine lv_astore_nN hS.1 hS.2.1 hd rfl hk.has (hk.lt (i := 3) (by simp only [List.length_cons]; omega)) rfl (fun ls' h' => kk ls' ?_)
      exact hk.set1 (i := 3) (v := vR none) (fun j hj => by obtain rfl : j = 2 := (by omega); exact hn) h'
    | some x =>
      refine lv_astore_n hS.1 hS.2.1 hd rfl hk.has (hk.lt (i := 3) (by simp only [List.length_cons]; omega)) rfl (fun ls' h' => kk ls' ?_)
      exact hk.set1 (i := 3) (v := vR (some x)) (fun j hj => by obtain rfl : j = 2 := (by omega); exact hn) h') k
theorem gs_inc3 {a0 a1 a2 : Option AV} {t : List (Option AV)} {z n : Int} (hd : decode fi.2.1 pc = .ok (.iinc 3 n, 3)) (hn : nolg a2 = true) (k : G X fi d (pc + 3) (a0 :: a1 :: a2 :: some (vI (z + n)) :: t) st hp Q) : G X fi d pc (a0 :: a1 :: a2 :: some (vI z) :: t) st hp Q :=
  G.step (fun p e R s m args below meth c H locs cells slots ls QQ hS hR hk kk => by
    obtain ⟨j, hj⟩ := List.getElem?_of_mem (las_mem (L := a0 :: a1 :: a2 :: some (vI z) :: t) (i := 3) (v := vI z) rfl)
    refine lv_iinc (v := Int32.ofInt (z + n)) (k := j) hS.1 hS.2.1 hd hk.has hj (by rw [Int32.ofInt_add]) (hk.lt (i := 3) (by simp only [List.length_cons]; omega)) rfl (fun ls' h' => kk ls' ?_)
    exact hk.set1 (i := 3) (v := vI (z + n)) (fun j hj => by obtain rfl : j = 2 := (by omega); exact hn) h') k
theorem gs_ild4 {a0 a1 a2 a3 : Option AV} {t : List (Option AV)} {z : Int} (hd : decode fi.2.1 pc = .ok (.iload 4, 2)) (k : G X fi d (pc + 2) (a0 :: a1 :: a2 :: a3 :: some (vI z) :: t) (vI z :: st) hp Q) : G X fi d pc (a0 :: a1 :: a2 :: a3 :: some (vI z) :: t) st hp Q :=
  G.step (fun p e R s m args below meth c H locs cells slots ls QQ hS hR hk kk => lv_iload hS.1 hS.2.1 hd (hk.at (i := 4) (v := vI z) rfl) (kk ls hk)) k
theorem gs_lld4 {a0 a1 a2 a3 : Option AV} {t : List (Option AV)} {z : Int64} (hd : decode fi.2.1 pc = .ok (.lload 4, 2)) (k : G X fi d (pc + 2) (a0 :: a1 :: a2 :: a3 :: some (vL z) :: t) (vL z :: st) hp Q) : G X fi d pc (a0 :: a1 :: a2 :: a3 :: some (vL z) :: t) st hp Q :=
  G.step (fun p e R s m args below meth c H locs cells slots ls QQ hS hR hk kk => lv_lload hS.1 hS.2.1 hd (hk.at (i := 4) (v := vL z) rfl) (kk ls hk)) k
theorem gs_ald4 {a0 a1 a2 a3 : Option AV} {t : List (Option AV)} {r : Option Nat} (hd : decode fi.2.1 pc = .ok (.aload 4, 2)) (k : G X fi d (pc + 2) (a0 :: a1 :: a2 :: a3 :: some (vR r) :: t) (vR r :: st) hp Q) : G X fi d pc (a0 :: a1 :: a2 :: a3 :: some (vR r) :: t) st hp Q :=
  G.step (fun p e R s m args below meth c H locs cells slots ls QQ hS hR hk kk => by
    cases r with
    | none => exact lv_aloadN hS.1 hS.2.1 hd (hk.at (i := 4) (v := vR none) rfl) (kk ls hk)
    | some x => exact lv_aload hS.1 hS.2.1 hd (hk.at (i := 4) (v := vR (some x)) rfl) (kk ls hk)) k
theorem gs_ist4 {a0 a1 a2 a3 : Option AV} {b : Option AV} {t : List (Option AV)} {z : Int} (hd : decode fi.2.1 pc = .ok (.istore 4, 2)) (hn : nolg a3 = true) (k : G X fi d (pc + 2) (a0 :: a1 :: a2 :: a3 :: some (vI z) :: t) st hp Q) : G X fi d pc (a0 :: a1 :: a2 :: a3 :: b :: t) (vI z :: st) hp Q :=
  G.step (fun p e R s m args below meth c H locs cells slots ls QQ hS hR hk kk => by
    refine lv_istore hS.1 hS.2.1 hd hk.has (hk.lt (i := 4) (by simp only [List.length_cons]; omega)) rfl (fun ls' h' => kk ls' ?_)
    exact hk.set1 (i := 4) (v := vI z) (fun j hj => by obtain rfl : j = 3 := (by omega); exact hn) h') k
theorem gs_lst4 {a0 a1 a2 a3 : Option AV} {b b2 : Option AV} {t : List (Option AV)} {z : Int64} (hd : decode fi.2.1 pc = .ok (.lstore 4, 2)) (hn : nolg a3 = true) (k : G X fi d (pc + 2) (a0 :: a1 :: a2 :: a3 :: some (vL z) :: none :: t) st hp Q) : G X fi d pc (a0 :: a1 :: a2 :: a3 :: b :: b2 :: t) (vL z :: st) hp Q :=
  G.step (fun p e R s m args below meth c H locs cells slots ls QQ hS hR hk kk => by
    refine lv_lstore hS.1 hS.2.1 hd hk.has (hk.lt (i := 5) (by simp only [List.length_cons]; omega)) rfl (fun ls' h' => kk ls' ?_)
    exact hk.set2 (i := 4) (v := vL z) (fun j hj => by obtain rfl : j = 3 := (by omega); exact hn) h') k
theorem gs_ast4 {a0 a1 a2 a3 : Option AV} {b : Option AV} {t : List (Option AV)} {r : Option Nat} (hd : decode fi.2.1 pc = .ok (.astore 4, 2)) (hn : nolg a3 = true) (k : G X fi d (pc + 2) (a0 :: a1 :: a2 :: a3 :: some (vR r) :: t) st hp Q) : G X fi d pc (a0 :: a1 :: a2 :: a3 :: b :: t) (vR r :: st) hp Q :=
  G.step (fun p e R s m args below meth c H locs cells slots ls QQ hS hR hk kk => by
    cases r with
    | none =>
      refine lv_astoreN hS.1 hS.2.1 hd hk.has (hk.lt (i := 4) (by simp only [List.length_cons]; omega)) rfl (fun ls' h' => kk ls' ?_)
      exact hk.set1 (i := 4) (v := vR none) (fun j hj => by obtain rfl : j = 3 := (by omega); exact hn) h'
    | some x =>
      refine lv_astore hS.1 hS.2.1 hd hk.has (hk.lt (i := 4) (by simp only [List.length_cons]; omega)) rfl (fun ls' h' => kk ls' ?_)
      exact hk.set1 (i := 4) (v := vR (some x)) (fun j hj => by obtain rfl : j = 3 := (by omega); exact hn) h') k
theorem gs_inc4 {a0 a1 a2 a3 : Option AV} {t : List (Option AV)} {z n : Int} (hd : decode fi.2.1 pc = .ok (.iinc 4 n, 3)) (hn : nolg a3 = true) (k : G X fi d (pc + 3) (a0 :: a1 :: a2 :: a3 :: some (vI (z + n)) :: t) st hp Q) : G X fi d pc (a0 :: a1 :: a2 :: a3 :: some (vI z) :: t) st hp Q :=
  G.step (fun p e R s m args below meth c H locs cells slots ls QQ hS hR hk kk => by
    obtain ⟨j, hj⟩ := List.getElem?_of_mem (las_mem (L := a0 :: a1 :: a2 :: a3 :: some (vI z) :: t) (i := 4) (v := vI z) rfl)
    refine lv_iinc (v := Int32.ofInt (z + n)) (k := j) hS.1 hS.2.1 hd hk.has hj (by rw [Int32.ofInt_add]) (hk.lt (i := 4) (by simp only [List.length_cons]; omega)) rfl (fun ls' h' => kk ls' ?_)
    exact hk.set1 (i := 4) (v := vI (z + n)) (fun j hj => by obtain rfl : j = 3 := (by omega); exact hn) h') k
theorem gs_ild5 {a0 a1 a2 a3 a4 : Option AV} {t : List (Option AV)} {z : Int} (hd : decode fi.2.1 pc = .ok (.iload 5, 2)) (k : G X fi d (pc + 2) (a0 :: a1 :: a2 :: a3 :: a4 :: some (vI z) :: t) (vI z :: st) hp Q) : G X fi d pc (a0 :: a1 :: a2 :: a3 :: a4 :: some (vI z) :: t) st hp Q :=
  G.step (fun p e R s m args below meth c H locs cells slots ls QQ hS hR hk kk => lv_iload hS.1 hS.2.1 hd (hk.at (i := 5) (v := vI z) rfl) (kk ls hk)) k
theorem gs_lld5 {a0 a1 a2 a3 a4 : Option AV} {t : List (Option AV)} {z : Int64} (hd : decode fi.2.1 pc = .ok (.lload 5, 2)) (k : G X fi d (pc + 2) (a0 :: a1 :: a2 :: a3 :: a4 :: some (vL z) :: t) (vL z :: st) hp Q) : G X fi d pc (a0 :: a1 :: a2 :: a3 :: a4 :: some (vL z) :: t) st hp Q :=
  G.step (fun p e R s m args below meth c H locs cells slots ls QQ hS hR hk kk => lv_lload hS.1 hS.2.1 hd (hk.at (i := 5) (v := vL z) rfl) (kk ls hk)) k
theorem gs_ald5 {a0 a1 a2 a3 a4 : Option AV} {t : List (Option AV)} {r : Option Nat} (hd : decode fi.2.1 pc = .ok (.aload 5, 2)) (k : G X fi d (pc + 2) (a0 :: a1 :: a2 :: a3 :: a4 :: some (vR r) :: t) (vR r :: st) hp Q) : G X fi d pc (a0 :: a1 :: a2 :: a3 :: a4 :: some (vR r) :: t) st hp Q :=
  G.step (fun p e R s m args below meth c H locs cells slots ls QQ hS hR hk kk => by
    cases r with
    | none => exact lv_aloadN hS.1 hS.2.1 hd (hk.at (i := 5) (v := vR none) rfl) (kk ls hk)
    | some x => exact lv_aload hS.1 hS.2.1 hd (hk.at (i := 5) (v := vR (some x)) rfl) (kk ls hk)) k
theorem gs_ist5 {a0 a1 a2 a3 a4 : Option AV} {b : Option AV} {t : List (Option AV)} {z : Int} (hd : decode fi.2.1 pc = .ok (.istore 5, 2)) (hn : nolg a4 = true) (k : G X fi d (pc + 2) (a0 :: a1 :: a2 :: a3 :: a4 :: some (vI z) :: t) st hp Q) : G X fi d pc (a0 :: a1 :: a2 :: a3 :: a4 :: b :: t) (vI z :: st) hp Q :=
  G.step (fun p e R s m args below meth c H locs cells slots ls QQ hS hR hk kk => by
    refine lv_istore hS.1 hS.2.1 hd hk.has (hk.lt (i := 5) (by simp only [List.length_cons]; omega)) rfl (fun ls' h' => kk ls' ?_)
    exact hk.set1 (i := 5) (v := vI z) (fun j hj => by obtain rfl : j = 4 := (by omega); exact hn) h') k
theorem gs_lst5 {a0 a1 a2 a3 a4 : Option AV} {b b2 : Option AV} {t : List (Option AV)} {z : Int64} (hd : decode fi.2.1 pc = .ok (.lstore 5, 2)) (hn : nolg a4 = true) (k : G X fi d (pc + 2) (a0 :: a1 :: a2 :: a3 :: a4 :: some (vL z) :: none :: t) st hp Q) : G X fi d pc (a0 :: a1 :: a2 :: a3 :: a4 :: b :: b2 :: t) (vL z :: st) hp Q :=
  G.step (fun p e R s m args below meth c H locs cells slots ls QQ hS hR hk kk => by
    refine lv_lstore hS.1 hS.2.1 hd hk.has (hk.lt (i := 6) (by simp only [List.length_cons]; omega)) rfl (fun ls' h' => kk ls' ?_)
    exact hk.set2 (i := 5) (v := vL z) (fun j hj => by obtain rfl : j = 4 := (by omega); exact hn) h') k
theorem gs_ast5 {a0 a1 a2 a3 a4 : Option AV} {b : Option AV} {t : List (Option AV)} {r : Option Nat} (hd : decode fi.2.1 pc = .ok (.astore 5, 2)) (hn : nolg a4 = true) (k : G X fi d (pc + 2) (a0 :: a1 :: a2 :: a3 :: a4 :: some (vR r) :: t) st hp Q) : G X fi d pc (a0 :: a1 :: a2 :: a3 :: a4 :: b :: t) (vR r :: st) hp Q :=
  G.step (fun p e R s m args below meth c H locs cells slots ls QQ hS hR hk kk => by
    cases r with
    | none =>
      refine lv_astoreN hS.1 hS.2.1 hd hk.has (hk.lt (i := 5) (by simp only [List.length_cons]; omega)) rfl (fun ls' h' => kk ls' ?_)
      exact hk.set1 (i := 5) (v := vR none) (fun j hj => by obtain rfl : j = 4 := (by omega); exact hn) h'
    | some x =>
      refine lv_astore hS.1 hS.2.1 hd hk.has (hk.lt (i := 5) (by simp only [List.length_cons]; omega)) rfl (fun ls' h' => kk ls' ?_)
      exact hk.set1 (i := 5) (v := vR (some x)) (fun j hj => by obtain rfl : j = 4 := (by omega); exact hn) h') k
theorem gs_inc5 {a0 a1 a2 a3 a4 : Option AV} {t : List (Option AV)} {z n : Int} (hd : decode fi.2.1 pc = .ok (.iinc 5 n, 3)) (hn : nolg a4 = true) (k : G X fi d (pc + 3) (a0 :: a1 :: a2 :: a3 :: a4 :: some (vI (z + n)) :: t) st hp Q) : G X fi d pc (a0 :: a1 :: a2 :: a3 :: a4 :: some (vI z) :: t) st hp Q :=
  G.step (fun p e R s m args below meth c H locs cells slots ls QQ hS hR hk kk => by
    obtain ⟨j, hj⟩ := List.getElem?_of_mem (las_mem (L := a0 :: a1 :: a2 :: a3 :: a4 :: some (vI z) :: t) (i := 5) (v := vI z) rfl)
    refine lv_iinc (v := Int32.ofInt (z + n)) (k := j) hS.1 hS.2.1 hd hk.has hj (by rw [Int32.ofInt_add]) (hk.lt (i := 5) (by simp only [List.length_cons]; omega)) rfl (fun ls' h' => kk ls' ?_)
    exact hk.set1 (i := 5) (v := vI (z + n)) (fun j hj => by obtain rfl : j = 4 := (by omega); exact hn) h') k
theorem gs_ild6 {a0 a1 a2 a3 a4 a5 : Option AV} {t : List (Option AV)} {z : Int} (hd : decode fi.2.1 pc = .ok (.iload 6, 2)) (k : G X fi d (pc + 2) (a0 :: a1 :: a2 :: a3 :: a4 :: a5 :: some (vI z) :: t) (vI z :: st) hp Q) : G X fi d pc (a0 :: a1 :: a2 :: a3 :: a4 :: a5 :: some (vI z) :: t) st hp Q :=
  G.step (fun p e R s m args below meth c H locs cells slots ls QQ hS hR hk kk => lv_iload hS.1 hS.2.1 hd (hk.at (i := 6) (v := vI z) rfl) (kk ls hk)) k
theorem gs_lld6 {a0 a1 a2 a3 a4 a5 : Option AV} {t : List (Option AV)} {z : Int64} (hd : decode fi.2.1 pc = .ok (.lload 6, 2)) (k : G X fi d (pc + 2) (a0 :: a1 :: a2 :: a3 :: a4 :: a5 :: some (vL z) :: t) (vL z :: st) hp Q) : G X fi d pc (a0 :: a1 :: a2 :: a3 :: a4 :: a5 :: some (vL z) :: t) st hp Q :=
  G.step (fun p e R s m args below meth c H locs cells slots ls QQ hS hR hk kk => lv_lload hS.1 hS.2.1 hd (hk.at (i := 6) (v := vL z) rfl) (kk ls hk)) k
theorem gs_ald6 {a0 a1 a2 a3 a4 a5 : Option AV} {t : List (Option AV)} {r : Option Nat} (hd : decode fi.2.1 pc = .ok (.aload 6, 2)) (k : G X fi d (pc + 2) (a0 :: a1 :: a2 :: a3 :: a4 :: a5 :: some (vR r) :: t) (vR r :: st) hp Q) : G X fi d pc (a0 :: a1 :: a2 :: a3 :: a4 :: a5 :: some (vR r) :: t) st hp Q :=
  G.step (fun p e R s m args below meth c H locs cells slots ls QQ hS hR hk kk => by
    cases r with
    | none => exact lv_aloadN hS.1 hS.2.1 hd (hk.at (i := 6) (v := vR none) rfl) (kk ls hk)
    | some x => exact lv_aload hS.1 hS.2.1 hd (hk.at (i := 6) (v := vR (some x)) rfl) (kk ls hk)) k
theorem gs_ist6 {a0 a1 a2 a3 a4 a5 : Option AV} {b : Option AV} {t : List (Option AV)} {z : Int} (hd : decode fi.2.1 pc = .ok (.istore 6, 2)) (hn : nolg a5 = true) (k : G X fi d (pc + 2) (a0 :: a1 :: a2 :: a3 :: a4 :: a5 :: some (vI z) :: t) st hp Q) : G X fi d pc (a0 :: a1 :: a2 :: a3 :: a4 :: a5 :: b :: t) (vI z :: st) hp Q :=
  G.step (fun p e R s m args below meth c H locs cells slots ls QQ hS hR hk kk => by
    refine lv_istore hS.1 hS.2.1 hd hk.has (hk.lt (i := 6) (by simp only [List.length_cons]; omega)) rfl (fun ls' h' => kk ls' ?_)
    exact hk.set1 (i := 6) (v := vI z) (fun j hj => by obtain rfl : j = 5 := (by omega); exact hn) h') k
theorem gs_lst6 {a0 a1 a2 a3 a4 a5 : Option AV} {b b2 : Option AV} {t : List (Option AV)} {z : Int64} (hd : decode fi.2.1 pc = .ok (.lstore 6, 2)) (hn : nolg a5 = true) (k : G X fi d (pc + 2) (a0 :: a1 :: a2 :: a3 :: a4 :: a5 :: some (vL z) :: none :: t) st hp Q) : G X fi d pc (a0 :: a1 :: a2 :: a3 :: a4 :: a5 :: b :: b2 :: t) (vL z :: st) hp Q :=
  G.step (fun p e R s m args below meth c H locs cells slots ls QQ hS hR hk kk => by
    refine lv_lstore hS.1 hS.2.1 hd hk.has (hk.lt (i := 7) (by simp only [List.length_cons]; omega)) rfl (fun ls' h' => kk ls' ?_)
    exact hk.set2 (i := 6) (v := vL z) (fun j hj => by obtain rfl : j = 5 := (by omega); exact hn) h') k
theorem gs_ast6 {a0 a1 a2 a3 a4 a5 : Option AV} {b : Option AV} {t : List (Option AV)} {r : Option Nat} (hd : decode fi.2.1 pc = .ok (.astore 6, 2)) (hn : nolg a5 = true) (k : G X fi d (pc + 2) (a0 :: a1 :: a2 :: a3 :: a4 :: a5 :: some (vR r) :: t) st hp Q) : G X fi d pc (a0 :: a1 :: a2 :: a3 :: a4 :: a5 :: b :: t) (vR r :: st) hp Q :=
  G.step (fun p e R s m args below meth c H locs cells slots ls QQ hS hR hk kk => by
    cases r with
    | none =>
      refine lv_astoreN hS.1 hS.2.1 hd hk.has (hk.lt (i := 6) (by simp only [List.length_cons]; omega)) rfl (fun ls' h' => kk ls' ?_)
      exact hk.set1 (i := 6) (v := vR none) (fun j hj => by obtain rfl : j = 5 := (by omega); exact hn) h'
    | some x =>
      refine lv_astore hS.1 hS.2.1 hd hk.has (hk.lt (i := 6) (by simp only [List.length_cons]; omega)) rfl (fun ls' h' => kk ls' ?_)
      exact hk.set1 (i := 6) (v := vR (some x)) (fun j hj => by obtain rfl : j = 5 := (by omega); exact hn) h') k
theorem gs_inc6 {a0 a1 a2 a3 a4 a5 : Option AV} {t : List (Option AV)} {z n : Int} (hd : decode fi.2.1 pc = .ok (.iinc 6 n, 3)) (hn : nolg a5 = true) (k : G X fi d (pc + 3) (a0 :: a1 :: a2 :: a3 :: a4 :: a5 :: some (vI (z + n)) :: t) st hp Q) : G X fi d pc (a0 :: a1 :: a2 :: a3 :: a4 :: a5 :: some (vI z) :: t) st hp Q :=
  G.step (fun p e R s m args below meth c H locs cells slots ls QQ hS hR hk kk => by
    obtain ⟨j, hj⟩ := List.getElem?_of_mem (las_mem (L := a0 :: a1 :: a2 :: a3 :: a4 :: a5 :: some (vI z) :: t) (i := 6) (v := vI z) rfl)
    refine lv_iinc (v := Int32.ofInt (z + n)) (k := j) hS.1 hS.2.1 hd hk.has hj (by rw [Int32.ofInt_add]) (hk.lt (i := 6) (by simp only [List.length_cons]; omega)) rfl (fun ls' h' => kk ls' ?_)
    exact hk.set1 (i := 6) (v := vI (z + n)) (fun j hj => by obtain rfl : j = 5 := (by omega); exact hn) h') k
theorem gs_ild7 {a0 a1 a2 a3 a4 a5 a6 : Option AV} {t : List (Option AV)} {z : Int} (hd : decode fi.2.1 pc = .ok (.iload 7, 2)) (k : G X fi d (pc + 2) (a0 :: a1 :: a2 :: a3 :: a4 :: a5 :: a6 :: some (vI z) :: t) (vI z :: st) hp Q) : G X fi d pc (a0 :: a1 :: a2 :: a3 :: a4 :: a5 :: a6 :: some (vI z) :: t) st hp Q :=
  G.step (fun p e R s m args below meth c H locs cells slots ls QQ hS hR hk kk => lv_iload hS.1 hS.2.1 hd (hk.at (i := 7) (v := vI z) rfl) (kk ls hk)) k
theorem gs_lld7 {a0 a1 a2 a3 a4 a5 a6 : Option AV} {t : List (Option AV)} {z : Int64} (hd : decode fi.2.1 pc = .ok (.lload 7, 2)) (k : G X fi d (pc + 2) (a0 :: a1 :: a2 :: a3 :: a4 :: a5 :: a6 :: some (vL z) :: t) (vL z :: st) hp Q) : G X fi d pc (a0 :: a1 :: a2 :: a3 :: a4 :: a5 :: a6 :: some (vL z) :: t) st hp Q :=
  G.step (fun p e R s m args below meth c H locs cells slots ls QQ hS hR hk kk => lv_lload hS.1 hS.2.1 hd (hk.at (i := 7) (v := vL z) rfl) (kk ls hk)) k
theorem gs_ald7 {a0 a1 a2 a3 a4 a5 a6 : Option AV} {t : List (Option AV)} {r : Option Nat} (hd : decode fi.2.1 pc = .ok (.aload 7, 2)) (k : G X fi d (pc + 2) (a0 :: a1 :: a2 :: a3 :: a4 :: a5 :: a6 :: some (vR r) :: t) (vR r :: st) hp Q) : G X fi d pc (a0 :: a1 :: a2 :: a3 :: a4 :: a5 :: a6 :: some (vR r) :: t) st hp Q :=
  G.step (fun p e R s m args below meth c H locs cells slots ls QQ hS hR hk kk => by
    cases r with
    | none => exact lv_aloadN hS.1 hS.2.1 hd (hk.at (i := 7) (v := vR none) rfl) (kk ls hk)
    | some x => exact lv_aload hS.1 hS.2.1 hd (hk.at (i := 7) (v := vR (some x)) rfl) (kk ls hk)) k
theorem gs_ist7 {a0 a1 a2 a3 a4 a5 a6 : Option AV} {b : Option AV} {t : List (Option AV)} {z : Int} (hd : decode fi.2.1 pc = .ok (.istore 7, 2)) (hn : nolg a6 = true) (k : G X fi d (pc + 2) (a0 :: a1 :: a2 :: a3 :: a4 :: a5 :: a6 :: some (vI z) :: t) st hp Q) : G X fi d pc (a0 :: a1 :: a2 :: a3 :: a4 :: a5 :: a6 :: b :: t) (vI z :: st) hp Q :=
  G.step (fun p e R s m args below meth c H locs cells slots ls QQ hS hR hk kk => by
    refine lv_istore hS.1 hS.2.1 hd hk.has (hk.lt (i := 7) (by simp only [List.length_cons]; omega)) rfl (fun ls' h' => kk ls' ?_)
    exact hk.set1 (i := 7) (v := vI z) (fun j hj => by obtain rfl : j = 6 := (by omega); exact hn) h') k
theorem gs_lst7 {a0 a1 a2 a3 a4 a5 a6 : Option AV} {b b2 : Option AV} {t : List (Option AV)} {z : Int64} (hd : decode fi.2.1 pc = .ok (.lstore 7, 2)) (hn : nolg a6 = true) (k : G X fi d (pc + 2) (a0 :: a1 :: a2 :: a3 :: a4 :: a5 :: a6 :: some (vL z) :: none :: t) st hp Q) : G X fi d pc (a0 :: a1 :: a2 :: a3 :: a4 :: a5 :: a6 :: b :: b2 :: t) (vL z :: st) hp Q :=
  G.step (fun p e R s m args below meth c H locs cells slots ls QQ hS hR hk kk => by
    refine lv_lstore hS.1 hS.2.1 hd hk.has (hk.lt (i := 8) (by simp only [List.length_cons]; omega)) rfl (fun ls' h' => kk ls' ?_)
    exact hk.set2 (i := 7) (v := vL z) (fun j hj => by obtain rfl : j = 6 := (by omega); exact hn) h') k
theorem gs_ast7 {a0 a1 a2 a3 a4 a5 a6 : Option AV} {b : Option AV} {t : List (Option AV)} {r : Option Nat} (hd : decode fi.2.1 pc = .ok (.astore 7, 2)) (hn : nolg a6 = true) (k : G X fi d (pc + 2) (a0 :: a1 :: a2 :: a3 :: a4 :: a5 :: a6 :: some (vR r) :: t) st hp Q) : G X fi d pc (a0 :: a1 :: a2 :: a3 :: a4 :: a5 :: a6 :: b :: t) (vR r :: st) hp Q :=
  G.step (fun p e R s m args below meth c H locs cells slots ls QQ hS hR hk kk => by
    cases r with
    | none =>
      refine lv_astoreN hS.1 hS.2.1 hd hk.has (hk.lt (i := 7) (by simp only [List.length_cons]; omega)) rfl (fun ls' h' => kk ls' ?_)
      exact hk.set1 (i := 7) (v := vR none) (fun j hj => by obtain rfl : j = 6 := (by omega); exact hn) h'
    | some x =>
      refine lv_astore hS.1 hS.2.1 hd hk.has (hk.lt (i := 7) (by simp only [List.length_cons]; omega)) rfl (fun ls' h' => kk ls' ?_)
      exact hk.set1 (i := 7) (v := vR (some x)) (fun j hj => by obtain rfl : j = 6 := (by omega); exact hn) h') k
theorem gs_inc7 {a0 a1 a2 a3 a4 a5 a6 : Option AV} {t : List (Option AV)} {z n : Int} (hd : decode fi.2.1 pc = .ok (.iinc 7 n, 3)) (hn : nolg a6 = true) (k : G X fi d (pc + 3) (a0 :: a1 :: a2 :: a3 :: a4 :: a5 :: a6 :: some (vI (z + n)) :: t) st hp Q) : G X fi d pc (a0 :: a1 :: a2 :: a3 :: a4 :: a5 :: a6 :: some (vI z) :: t) st hp Q :=
  G.step (fun p e R s m args below meth c H locs cells slots ls QQ hS hR hk kk => by
    obtain ⟨j, hj⟩ := List.getElem?_of_mem (las_mem (L := a0 :: a1 :: a2 :: a3 :: a4 :: a5 :: a6 :: some (vI z) :: t) (i := 7) (v := vI z) rfl)
    refine lv_iinc (v := Int32.ofInt (z + n)) (k := j) hS.1 hS.2.1 hd hk.has hj (by rw [Int32.ofInt_add]) (hk.lt (i := 7) (by simp only [List.length_cons]; omega)) rfl (fun ls' h' => kk ls' ?_)
    exact hk.set1 (i := 7) (v := vI (z + n)) (fun j hj => by obtain rfl : j = 6 := (by omega); exact hn) h') k
theorem gs_ild8 {a0 a1 a2 a3 a4 a5 a6 a7 : Option AV} {t : List (Option AV)} {z : Int} (hd : decode fi.2.1 pc = .ok (.iload 8, 2)) (k : G X fi d (pc + 2) (a0 :: a1 :: a2 :: a3 :: a4 :: a5 :: a6 :: a7 :: some (vI z) :: t) (vI z :: st) hp Q) : G X fi d pc (a0 :: a1 :: a2 :: a3 :: a4 :: a5 :: a6 :: a7 :: some (vI z) :: t) st hp Q :=
  G.step (fun p e R s m args below meth c H locs cells slots ls QQ hS hR hk kk => lv_iload hS.1 hS.2.1 hd (hk.at (i := 8) (v := vI z) rfl) (kk ls hk)) k
theorem gs_lld8 {a0 a1 a2 a3 a4 a5 a6 a7 : Option AV} {t : List (Option AV)} {z : Int64} (hd : decode fi.2.1 pc = .ok (.lload 8, 2)) (k : G X fi d (pc + 2) (a0 :: a1 :: a2 :: a3 :: a4 :: a5 :: a6 :: a7 :: some (vL z) :: t) (vL z :: st) hp Q) : G X fi d pc (a0 :: a1 :: a2 :: a3 :: a4 :: a5 :: a6 :: a7 :: some (vL z) :: t) st hp Q :=
  G.step (fun p e R s m args below meth c H locs cells slots ls QQ hS hR hk kk => lv_lload hS.1 hS.2.1 hd (hk.at (i := 8) (v := vL z) rfl) (kk ls hk)) k
theorem gs_ald8 {a0 a1 a2 a3 a4 a5 a6 a7 : Option AV} {t : List (Option AV)} {r : Option Nat} (hd : decode fi.2.1 pc = .ok (.aload 8, 2)) (k : G X fi d (pc + 2) (a0 :: a1 :: a2 :: a3 :: a4 :: a5 :: a6 :: a7 :: some (vR r) :: t) (vR r :: st) hp Q) : G X fi d pc (a0 :: a1 :: a2 :: a3 :: a4 :: a5 :: a6 :: a7 :: some (vR r) :: t) st hp Q :=
  G.step (fun p e R s m args below meth c H locs cells slots ls QQ hS hR hk kk => by
    cases r with
    | none => exact lv_aloadN hS.1 hS.2.1 hd (hk.at (i := 8) (v := vR none) rfl) (kk ls hk)
    | some x => exact lv_aload hS.1 hS.2.1 hd (hk.at (i := 8) (v := vR (some x)) rfl) (kk ls hk)) k
theorem gs_ist8 {a0 a1 a2 a3 a4 a5 a6 a7 : Option AV} {b : Option AV} {t : List (Option AV)} {z : Int} (hd : decode fi.2.1 pc = .ok (.istore 8, 2)) (hn : nolg a7 = true) (k : G X fi d (pc + 2) (a0 :: a1 :: a2 :: a3 :: a4 :: a5 :: a6 :: a7 :: some (vI z) :: t) st hp Q) : G X fi d pc (a0 :: a1 :: a2 :: a3 :: a4 :: a5 :: a6 :: a7 :: b :: t) (vI z :: st) hp Q :=
  G.step (fun p e R s m args below meth c H locs cells slots ls QQ hS hR hk kk => by
    refine lv_istore hS.1 hS.2.1 hd hk.has (hk.lt (i := 8) (by simp only [List.length_cons]; omega)) rfl (fun ls' h' => kk ls' ?_)
    exact hk.set1 (i := 8) (v := vI z) (fun j hj => by obtain rfl : j = 7 := (by omega); exact hn) h') k
theorem gs_lst8 {a0 a1 a2 a3 a4 a5 a6 a7 : Option AV} {b b2 : Option AV} {t : List (Option AV)} {z : Int64} (hd : decode fi.2.1 pc = .ok (.lstore 8, 2)) (hn : nolg a7 = true) (k : G X fi d (pc + 2) (a0 :: a1 :: a2 :: a3 :: a4 :: a5 :: a6 :: a7 :: some (vL z) :: none :: t) st hp Q) : G X fi d pc (a0 :: a1 :: a2 :: a3 :: a4 :: a5 :: a6 :: a7 :: b :: b2 :: t) (vL z :: st) hp Q :=
  G.step (fun p e R s m args below meth c H locs cells slots ls QQ hS hR hk kk => by
    refine lv_lstore hS.1 hS.2.1 hd hk.has (hk.lt (i := 9) (by simp only [List.length_cons]; omega)) rfl (fun ls' h' => kk ls' ?_)
    exact hk.set2 (i := 8) (v := vL z) (fun j hj => by obtain rfl : j = 7 := (by omega); exact hn) h') k
theorem gs_ast8 {a0 a1 a2 a3 a4 a5 a6 a7 : Option AV} {b : Option AV} {t : List (Option AV)} {r : Option Nat} (hd : decode fi.2.1 pc = .ok (.astore 8, 2)) (hn : nolg a7 = true) (k : G X fi d (pc + 2) (a0 :: a1 :: a2 :: a3 :: a4 :: a5 :: a6 :: a7 :: some (vR r) :: t) st hp Q) : G X fi d pc (a0 :: a1 :: a2 :: a3 :: a4 :: a5 :: a6 :: a7 :: b :: t) (vR r :: st) hp Q :=
  G.step (fun p e R s m args below meth c H locs cells slots ls QQ hS hR hk kk => by
    cases r with
    | none =>
      refine lv_astoreN hS.1 hS.2.1 hd hk.has (hk.lt (i := 8) (by simp only [List.length_cons]; omega)) rfl (fun ls' h' => kk ls' ?_)
      exact hk.set1 (i := 8) (v := vR none) (fun j hj => by obtain rfl : j = 7 := (by omega); exact hn) h'
    | some x =>
      refine lv_astore hS.1 hS.2.1 hd hk.has (hk.lt (i := 8) (by simp only [List.length_cons]; omega)) rfl (fun ls' h' => kk ls' ?_)
      exact hk.set1 (i := 8) (v := vR (some x)) (fun j hj => by obtain rfl : j = 7 := (by omega); exact hn) h') k
theorem gs_inc8 {a0 a1 a2 a3 a4 a5 a6 a7 : Option AV} {t : List (Option AV)} {z n : Int} (hd : decode fi.2.1 pc = .ok (.iinc 8 n, 3)) (hn : nolg a7 = true) (k : G X fi d (pc + 3) (a0 :: a1 :: a2 :: a3 :: a4 :: a5 :: a6 :: a7 :: some (vI (z + n)) :: t) st hp Q) : G X fi d pc (a0 :: a1 :: a2 :: a3 :: a4 :: a5 :: a6 :: a7 :: some (vI z) :: t) st hp Q :=
  G.step (fun p e R s m args below meth c H locs cells slots ls QQ hS hR hk kk => by
    obtain ⟨j, hj⟩ := List.getElem?_of_mem (las_mem (L := a0 :: a1 :: a2 :: a3 :: a4 :: a5 :: a6 :: a7 :: some (vI z) :: t) (i := 8) (v := vI z) rfl)
    refine lv_iinc (v := Int32.ofInt (z + n)) (k := j) hS.1 hS.2.1 hd hk.has hj (by rw [Int32.ofInt_add]) (hk.lt (i := 8) (by simp only [List.length_cons]; omega)) rfl (fun ls' h' => kk ls' ?_)
    exact hk.set1 (i := 8) (v := vI (z + n)) (fun j hj => by obtain rfl : j = 7 := (by omega); exact hn) h') k
theorem gs_ild9 {a0 a1 a2 a3 a4 a5 a6 a7 a8 : Option AV} {t : List (Option AV)} {z : Int} (hd : decode fi.2.1 pc = .ok (.iload 9, 2)) (k : G X fi d (pc + 2) (a0 :: a1 :: a2 :: a3 :: a4 :: a5 :: a6 :: a7 :: a8 :: some (vI z) :: t) (vI z :: st) hp Q) : G X fi d pc (a0 :: a1 :: a2 :: a3 :: a4 :: a5 :: a6 :: a7 :: a8 :: some (vI z) :: t) st hp Q :=
  G.step (fun p e R s m args below meth c H locs cells slots ls QQ hS hR hk kk => lv_iload hS.1 hS.2.1 hd (hk.at (i := 9) (v := vI z) rfl) (kk ls hk)) k
theorem gs_ald9 {a0 a1 a2 a3 a4 a5 a6 a7 a8 : Option AV} {t : List (Option AV)} {r : Option Nat} (hd : decode fi.2.1 pc = .ok (.aload 9, 2)) (k : G X fi d (pc + 2) (a0 :: a1 :: a2 :: a3 :: a4 :: a5 :: a6 :: a7 :: a8 :: some (vR r) :: t) (vR r :: st) hp Q) : G X fi d pc (a0 :: a1 :: a2 :: a3 :: a4 :: a5 :: a6 :: a7 :: a8 :: some (vR r) :: t) st hp Q :=
  G.step (fun p e R s m args below meth c H locs cells slots ls QQ hS hR hk kk => by
    cases r with
    | none => exact lv_aloadN hS.1 hS.2.1 hd (hk.at (i := 9) (v := vR none) rfl) (kk ls hk)
    | some x => exact lv_aload hS.1 hS.2.1 hd (hk.at (i := 9) (v := vR (some x)) rfl) (kk ls hk)) k
theorem gs_ist9 {a0 a1 a2 a3 a4 a5 a6 a7 a8 : Option AV} {b : Option AV} {t : List (Option AV)} {z : Int} (hd : decode fi.2.1 pc = .ok (.istore 9, 2)) (hn : nolg a8 = true) (k : G X fi d (pc + 2) (a0 :: a1 :: a2 :: a3 :: a4 :: a5 :: a6 :: a7 :: a8 :: some (vI z) :: t) st hp Q) : G X fi d pc (a0 :: a1 :: a2 :: a3 :: a4 :: a5 :: a6 :: a7 :: a8 :: b :: t) (vI z :: st) hp Q :=
  G.step (fun p e R s m args below meth c H locs cells slots ls QQ hS hR hk kk => by
    refine lv_istore hS.1 hS.2.1 hd hk.has (hk.lt (i := 9) (by simp only [List.length_cons]; omega)) rfl (fun ls' h' => kk ls' ?_)
    exact hk.set1 (i := 9) (v := vI z) (fun j hj => by obtain rfl : j = 8 := (by omega); exact hn) h') k
theorem gs_ast9 {a0 a1 a2 a3 a4 a5 a6 a7 a8 : Option AV} {b : Option AV} {t : List (Option AV)} {r : Option Nat} (hd : decode fi.2.1 pc = .ok (.astore 9, 2)) (hn : nolg a8 = true) (k : G X fi d (pc + 2) (a0 :: a1 :: a2 :: a3 :: a4 :: a5 :: a6 :: a7 :: a8 :: some (vR r) :: t) st hp Q) : G X fi d pc (a0 :: a1 :: a2 :: a3 :: a4 :: a5 :: a6 :: a7 :: a8 :: b :: t) (vR r :: st) hp Q :=
  G.step (fun p e R s m args below meth c H locs cells slots ls QQ hS hR hk kk => by
    cases r with
    | none =>
      refine lv_astoreN hS.1 hS.2.1 hd hk.has (hk.lt (i := 9) (by simp only [List.length_cons]; omega)) rfl (fun ls' h' => kk ls' ?_)
      exact hk.set1 (i := 9) (v := vR none) (fun j hj => by obtain rfl : j = 8 := (by omega); exact hn) h'
    | some x =>
      refine lv_astore hS.1 hS.2.1 hd hk.has (hk.lt (i := 9) (by simp only [List.length_cons]; omega)) rfl (fun ls' h' => kk ls' ?_)
      exact hk.set1 (i := 9) (v := vR (some x)) (fun j hj => by obtain rfl : j = 8 := (by omega); exact hn) h') k
theorem gs_inc9 {a0 a1 a2 a3 a4 a5 a6 a7 a8 : Option AV} {t : List (Option AV)} {z n : Int} (hd : decode fi.2.1 pc = .ok (.iinc 9 n, 3)) (hn : nolg a8 = true) (k : G X fi d (pc + 3) (a0 :: a1 :: a2 :: a3 :: a4 :: a5 :: a6 :: a7 :: a8 :: some (vI (z + n)) :: t) st hp Q) : G X fi d pc (a0 :: a1 :: a2 :: a3 :: a4 :: a5 :: a6 :: a7 :: a8 :: some (vI z) :: t) st hp Q :=
  G.step (fun p e R s m args below meth c H locs cells slots ls QQ hS hR hk kk => by
    obtain ⟨j, hj⟩ := List.getElem?_of_mem (las_mem (L := a0 :: a1 :: a2 :: a3 :: a4 :: a5 :: a6 :: a7 :: a8 :: some (vI z) :: t) (i := 9) (v := vI z) rfl)
    refine lv_iinc (v := Int32.ofInt (z + n)) (k := j) hS.1 hS.2.1 hd hk.has hj (by rw [Int32.ofInt_add]) (hk.lt (i := 9) (by simp only [List.length_cons]; omega)) rfl (fun ls' h' => kk ls' ?_)
    exact hk.set1 (i := 9) (v := vI (z + n)) (fun j hj => by obtain rfl : j = 8 := (by omega); exact hn) h') k
theorem gs_ild10 {a0 a1 a2 a3 a4 a5 a6 a7 a8 a9 : Option AV} {t : List (Option AV)} {z : Int} (hd : decode fi.2.1 pc = .ok (.iload 10, 2)) (k : G X fi d (pc + 2) (a0 :: a1 :: a2 :: a3 :: a4 :: a5 :: a6 :: a7 :: a8 :: a9 :: some (vI z) :: t) (vI z :: st) hp Q) : G X fi d pc (a0 :: a1 :: a2 :: a3 :: a4 :: a5 :: a6 :: a7 :: a8 :: a9 :: some (vI z) :: t) st hp Q :=
  G.step (fun p e R s m args below meth c H locs cells slots ls QQ hS hR hk kk => lv_iload hS.1 hS.2.1 hd (hk.at (i := 10) (v := vI z) rfl) (kk ls hk)) k
theorem gs_ald10 {a0 a1 a2 a3 a4 a5 a6 a7 a8 a9 : Option AV} {t : List (Option AV)} {r : Option Nat} (hd : decode fi.2.1 pc = .ok (.aload 10, 2)) (k : G X fi d (pc + 2) (a0 :: a1 :: a2 :: a3 :: a4 :: a5 :: a6 :: a7 :: a8 :: a9 :: some (vR r) :: t) (vR r :: st) hp Q) : G X fi d pc (a0 :: a1 :: a2 :: a3 :: a4 :: a5 :: a6 :: a7 :: a8 :: a9 :: some (vR r) :: t) st hp Q :=
  G.step (fun p e R s m args below meth c H locs cells slots ls QQ hS hR hk kk => by
    cases r with
    | none => exact lv_aloadN hS.1 hS.2.1 hd (hk.at (i := 10) (v := vR none) rfl) (kk ls hk)
    | some x => exact lv_aload hS.1 hS.2.1 hd (hk.at (i := 10) (v := vR (some x)) rfl) (kk ls hk)) k
theorem gs_ist10 {a0 a1 a2 a3 a4 a5 a6 a7 a8 a9 : Option AV} {b : Option AV} {t : List (Option AV)} {z : Int} (hd : decode fi.2.1 pc = .ok (.istore 10, 2)) (hn : nolg a9 = true) (k : G X fi d (pc + 2) (a0 :: a1 :: a2 :: a3 :: a4 :: a5 :: a6 :: a7 :: a8 :: a9 :: some (vI z) :: t) st hp Q) : G X fi d pc (a0 :: a1 :: a2 :: a3 :: a4 :: a5 :: a6 :: a7 :: a8 :: a9 :: b :: t) (vI z :: st) hp Q :=
  G.step (fun p e R s m args below meth c H locs cells slots ls QQ hS hR hk kk => by
    refine lv_istore hS.1 hS.2.1 hd hk.has (hk.lt (i := 10) (by simp only [List.length_cons]; omega)) rfl (fun ls' h' => kk ls' ?_)
    exact hk.set1 (i := 10) (v := vI z) (fun j hj => by obtain rfl : j = 9 := (by omega); exact hn) h') k
theorem gs_ast10 {a0 a1 a2 a3 a4 a5 a6 a7 a8 a9 : Option AV} {b : Option AV} {t : List (Option AV)} {r : Option Nat} (hd : decode fi.2.1 pc = .ok (.astore 10, 2)) (hn : nolg a9 = true) (k : G X fi d (pc + 2) (a0 :: a1 :: a2 :: a3 :: a4 :: a5 :: a6 :: a7 :: a8 :: a9 :: some (vR r) :: t) st hp Q) : G X fi d pc (a0 :: a1 :: a2 :: a3 :: a4 :: a5 :: a6 :: a7 :: a8 :: a9 :: b :: t) (vR r :: st) hp Q :=
  G.step (fun p e R s m args below meth c H locs cells slots ls QQ hS hR hk kk => by
    cases r with
    | none =>
      refine lv_astoreN hS.1 hS.2.1 hd hk.has (hk.lt (i := 10) (by simp only [List.length_cons]; omega)) rfl (fun ls' h' => kk ls' ?_)
      exact hk.set1 (i := 10) (v := vR none) (fun j hj => by obtain rfl : j = 9 := (by omega); exact hn) h'
    | some x =>
      refine lv_astore hS.1 hS.2.1 hd hk.has (hk.lt (i := 10) (by simp only [List.length_cons]; omega)) rfl (fun ls' h' => kk ls' ?_)
      exact hk.set1 (i := 10) (v := vR (some x)) (fun j hj => by obtain rfl : j = 9 := (by omega); exact hn) h') k
theorem gs_inc10 {a0 a1 a2 a3 a4 a5 a6 a7 a8 a9 : Option AV} {t : List (Option AV)} {z n : Int} (hd : decode fi.2.1 pc = .ok (.iinc 10 n, 3)) (hn : nolg a9 = true) (k : G X fi d (pc + 3) (a0 :: a1 :: a2 :: a3 :: a4 :: a5 :: a6 :: a7 :: a8 :: a9 :: some (vI (z + n)) :: t) st hp Q) : G X fi d pc (a0 :: a1 :: a2 :: a3 :: a4 :: a5 :: a6 :: a7 :: a8 :: a9 :: some (vI z) :: t) st hp Q :=
  G.step (fun p e R s m args below meth c H locs cells slots ls QQ hS hR hk kk => by
    obtain ⟨j, hj⟩ := List.getElem?_of_mem (las_mem (L := a0 :: a1 :: a2 :: a3 :: a4 :: a5 :: a6 :: a7 :: a8 :: a9 :: some (vI z) :: t) (i := 10) (v := vI z) rfl)
    refine lv_iinc (v := Int32.ofInt (z + n)) (k := j) hS.1 hS.2.1 hd hk.has hj (by rw [Int32.ofInt_add]) (hk.lt (i := 10) (by simp only [List.length_cons]; omega)) rfl (fun ls' h' => kk ls' ?_)
    exact hk.set1 (i := 10) (v := vI (z + n)) (fun j hj => by obtain rfl : j = 9 := (by omega); exact hn) h') k
theorem gs_ild11 {a0 a1 a2 a3 a4 a5 a6 a7 a8 a9 a10 : Option AV} {t : List (Option AV)} {z : Int} (hd : decode fi.2.1 pc = .ok (.iload 11, 2)) (k : G X fi d (pc + 2) (a0 :: a1 :: a2 :: a3 :: a4 :: a5 :: a6 :: a7 :: a8 :: a9 :: a10 :: some (vI z) :: t) (vI z :: st) hp Q) : G X fi d pc (a0 :: a1 :: a2 :: a3 :: a4 :: a5 :: a6 :: a7 :: a8 :: a9 :: a10 :: some (vI z) :: t) st hp Q :=
  G.step (fun p e R s m args below meth c H locs cells slots ls QQ hS hR hk kk => lv_iload hS.1 hS.2.1 hd (hk.at (i := 11) (v := vI z) rfl) (kk ls hk)) k
theorem gs_ald11 {a0 a1 a2 a3 a4 a5 a6 a7 a8 a9 a10 : Option AV} {t : List (Option AV)} {r : Option Nat} (hd : decode fi.2.1 pc = .ok (.aload 11, 2)) (k : G X fi d (pc + 2) (a0 :: a1 :: a2 :: a3 :: a4 :: a5 :: a6 :: a7 :: a8 :: a9 :: a10 :: some (vR r) :: t) (vR r :: st) hp Q) : G X fi d pc (a0 :: a1 :: a2 :: a3 :: a4 :: a5 :: a6 :: a7 :: a8 :: a9 :: a10 :: some (vR r) :: t) st hp Q :=
  G.step (fun p e R s m args below meth c H locs cells slots ls QQ hS hR hk kk => by
    cases r with
    | none => exact lv_aloadN hS.1 hS.2.1 hd (hk.at (i := 11) (v := vR none) rfl) (kk ls hk)
    | some x => exact lv_aload hS.1 hS.2.1 hd (hk.at (i := 11) (v := vR (some x)) rfl) (kk ls hk)) k
theorem gs_ist11 {a0 a1 a2 a3 a4 a5 a6 a7 a8 a9 a10 : Option AV} {b : Option AV} {t : List (Option AV)} {z : Int} (hd : decode fi.2.1 pc = .ok (.istore 11, 2)) (hn : nolg a10 = true) (k : G X fi d (pc + 2) (a0 :: a1 :: a2 :: a3 :: a4 :: a5 :: a6 :: a7 :: a8 :: a9 :: a10 :: some (vI z) :: t) st hp Q) : G X fi d pc (a0 :: a1 :: a2 :: a3 :: a4 :: a5 :: a6 :: a7 :: a8 :: a9 :: a10 :: b :: t) (vI z :: st) hp Q :=
  G.step (fun p e R s m args below meth c H locs cells slots ls QQ hS hR hk kk => by
    refine lv_istore hS.1 hS.2.1 hd hk.has (hk.lt (i := 11) (by simp only [List.length_cons]; omega)) rfl (fun ls' h' => kk ls' ?_)
    exact hk.set1 (i := 11) (v := vI z) (fun j hj => by obtain rfl : j = 10 := (by omega); exact hn) h') k
theorem gs_ast11 {a0 a1 a2 a3 a4 a5 a6 a7 a8 a9 a10 : Option AV} {b : Option AV} {t : List (Option AV)} {r : Option Nat} (hd : decode fi.2.1 pc = .ok (.astore 11, 2)) (hn : nolg a10 = true) (k : G X fi d (pc + 2) (a0 :: a1 :: a2 :: a3 :: a4 :: a5 :: a6 :: a7 :: a8 :: a9 :: a10 :: some (vR r) :: t) st hp Q) : G X fi d pc (a0 :: a1 :: a2 :: a3 :: a4 :: a5 :: a6 :: a7 :: a8 :: a9 :: a10 :: b :: t) (vR r :: st) hp Q :=
  G.step (fun p e R s m args below meth c H locs cells slots ls QQ hS hR hk kk => by
    cases r with
    | none =>
      refine lv_astoreN hS.1 hS.2.1 hd hk.has (hk.lt (i := 11) (by simp only [List.length_cons]; omega)) rfl (fun ls' h' => kk ls' ?_)
      exact hk.set1 (i := 11) (v := vR none) (fun j hj => by obtain rfl : j = 10 := (by omega); exact hn) h'
    | some x =>
      refine lv_astore hS.1 hS.2.1 hd hk.has (hk.lt (i := 11) (by simp only [List.length_cons]; omega)) rfl (fun ls' h' => kk ls' ?_)
      exact hk.set1 (i := 11) (v := vR (some x)) (fun j hj => by obtain rfl : j = 10 := (by omega); exact hn) h') k
theorem gs_inc11 {a0 a1 a2 a3 a4 a5 a6 a7 a8 a9 a10 : Option AV} {t : List (Option AV)} {z n : Int} (hd : decode fi.2.1 pc = .ok (.iinc 11 n, 3)) (hn : nolg a10 = true) (k : G X fi d (pc + 3) (a0 :: a1 :: a2 :: a3 :: a4 :: a5 :: a6 :: a7 :: a8 :: a9 :: a10 :: some (vI (z + n)) :: t) st hp Q) : G X fi d pc (a0 :: a1 :: a2 :: a3 :: a4 :: a5 :: a6 :: a7 :: a8 :: a9 :: a10 :: some (vI z) :: t) st hp Q :=
  G.step (fun p e R s m args below meth c H locs cells slots ls QQ hS hR hk kk => by
    obtain ⟨j, hj⟩ := List.getElem?_of_mem (las_mem (L := a0 :: a1 :: a2 :: a3 :: a4 :: a5 :: a6 :: a7 :: a8 :: a9 :: a10 :: some (vI z) :: t) (i := 11) (v := vI z) rfl)
    refine lv_iinc (v := Int32.ofInt (z + n)) (k := j) hS.1 hS.2.1 hd hk.has hj (by rw [Int32.ofInt_add]) (hk.lt (i := 11) (by simp only [List.length_cons]; omega)) rfl (fun ls' h' => kk ls' ?_)
    exact hk.set1 (i := 11) (v := vI (z + n)) (fun j hj => by obtain rfl : j = 10 := (by omega); exact hn) h') k
theorem gs_ild12 {a0 a1 a2 a3 a4 a5 a6 a7 a8 a9 a10 a11 : Option AV} {t : List (Option AV)} {z : Int} (hd : decode fi.2.1 pc = .ok (.iload 12, 2)) (k : G X fi d (pc + 2) (a0 :: a1 :: a2 :: a3 :: a4 :: a5 :: a6 :: a7 :: a8 :: a9 :: a10 :: a11 :: some (vI z) :: t) (vI z :: st) hp Q) : G X fi d pc (a0 :: a1 :: a2 :: a3 :: a4 :: a5 :: a6 :: a7 :: a8 :: a9 :: a10 :: a11 :: some (vI z) :: t) st hp Q :=
  G.step (fun p e R s m args below meth c H locs cells slots ls QQ hS hR hk kk => lv_iload hS.1 hS.2.1 hd (hk.at (i := 12) (v := vI z) rfl) (kk ls hk)) k
theorem gs_ald12 {a0 a1 a2 a3 a4 a5 a6 a7 a8 a9 a10 a11 : Option AV} {t : List (Option AV)} {r : Option Nat} (hd : decode fi.2.1 pc = .ok (.aload 12, 2)) (k : G X fi d (pc + 2) (a0 :: a1 :: a2 :: a3 :: a4 :: a5 :: a6 :: a7 :: a8 :: a9 :: a10 :: a11 :: some (vR r) :: t) (vR r :: st) hp Q) : G X fi d pc (a0 :: a1 :: a2 :: a3 :: a4 :: a5 :: a6 :: a7 :: a8 :: a9 :: a10 :: a11 :: some (vR r) :: t) st hp Q :=
  G.step (fun p e R s m args below meth c H locs cells slots ls QQ hS hR hk kk => by
    cases r with
    | none => exact lv_aloadN hS.1 hS.2.1 hd (hk.at (i := 12) (v := vR none) rfl) (kk ls hk)
    | some x => exact lv_aload hS.1 hS.2.1 hd (hk.at (i := 12) (v := vR (some x)) rfl) (kk ls hk)) k
theorem gs_ist12 {a0 a1 a2 a3 a4 a5 a6 a7 a8 a9 a10 a11 : Option AV} {b : Option AV} {t : List (Option AV)} {z : Int} (hd : decode fi.2.1 pc = .ok (.istore 12, 2)) (hn : nolg a11 = true) (k : G X fi d (pc + 2) (a0 :: a1 :: a2 :: a3 :: a4 :: a5 :: a6 :: a7 :: a8 :: a9 :: a10 :: a11 :: some (vI z) :: t) st hp Q) : G X fi d pc (a0 :: a1 :: a2 :: a3 :: a4 :: a5 :: a6 :: a7 :: a8 :: a9 :: a10 :: a11 :: b :: t) (vI z :: st) hp Q :=
  G.step (fun p e R s m args below meth c H locs cells slots ls QQ hS hR hk kk => by
    refine lv_istore hS.1 hS.2.1 hd hk.has (hk.lt (i := 12) (by simp only [List.length_cons]; omega)) rfl (fun ls' h' => kk ls' ?_)
    exact hk.set1 (i := 12) (v := vI z) (fun j hj => by obtain rfl : j = 11 := (by omega); exact hn) h') k
theorem gs_ast12 {a0 a1 a2 a3 a4 a5 a6 a7 a8 a9 a10 a11 : Option AV} {b : Option AV} {t : List (Option AV)} {r : Option Nat} (hd : decode fi.2.1 pc = .ok (.astore 12, 2)) (hn : nolg a11 = true) (k : G X fi d (pc + 2) (a0 :: a1 :: a2 :: a3 :: a4 :: a5 :: a6 :: a7 :: a8 :: a9 :: a10 :: a11 :: some (vR r) :: t) st hp Q) : G X fi d pc (a0 :: a1 :: a2 :: a3 :: a4 :: a5 :: a6 :: a7 :: a8 :: a9 :: a10 :: a11 :: b :: t) (vR r :: st) hp Q :=
  G.step (fun p e R s m args below meth c H locs cells slots ls QQ hS hR hk kk => by
    cases r with
    | none =>
      refine lv_astoreN hS.1 hS.2.1 hd hk.has (hk.lt (i := 12) (by simp only [List.length_cons]; omega)) rfl (fun ls' h' => kk ls' ?_)
      exact hk.set1 (i := 12) (v := vR none) (fun j hj => by obtain rfl : j = 11 := (by omega); exact hn) h'
    | some x =>
      refine lv_astore hS.1 hS.2.1 hd hk.has (hk.lt (i := 12) (by simp only [List.length_cons]; omega)) rfl (fun ls' h' => kk ls' ?_)
      exact hk.set1 (i := 12) (v := vR (some x)) (fun j hj => by obtain rfl : j = 11 := (by omega); exact hn) h') k
theorem gs_inc12 {a0 a1 a2 a3 a4 a5 a6 a7 a8 a9 a10 a11 : Option AV} {t : List (Option AV)} {z n : Int} (hd : decode fi.2.1 pc = .ok (.iinc 12 n, 3)) (hn : nolg a11 = true) (k : G X fi d (pc + 3) (a0 :: a1 :: a2 :: a3 :: a4 :: a5 :: a6 :: a7 :: a8 :: a9 :: a10 :: a11 :: some (vI (z + n)) :: t) st hp Q) : G X fi d pc (a0 :: a1 :: a2 :: a3 :: a4 :: a5 :: a6 :: a7 :: a8 :: a9 :: a10 :: a11 :: some (vI z) :: t) st hp Q :=
  G.step (fun p e R s m args below meth c H locs cells slots ls QQ hS hR hk kk => by
    obtain ⟨j, hj⟩ := List.getElem?_of_mem (las_mem (L := a0 :: a1 :: a2 :: a3 :: a4 :: a5 :: a6 :: a7 :: a8 :: a9 :: a10 :: a11 :: some (vI z) :: t) (i := 12) (v := vI z) rfl)
    refine lv_iinc (v := Int32.ofInt (z + n)) (k := j) hS.1 hS.2.1 hd hk.has hj (by rw [Int32.ofInt_add]) (hk.lt (i := 12) (by simp only [List.length_cons]; omega)) rfl (fun ls' h' => kk ls' ?_)
    exact hk.set1 (i := 12) (v := vI (z + n)) (fun j hj => by obtain rfl : j = 11 := (by omega); exact hn) h') k
theorem gs_ild13 {a0 a1 a2 a3 a4 a5 a6 a7 a8 a9 a10 a11 a12 : Option AV} {t : List (Option AV)} {z : Int} (hd : decode fi.2.1 pc = .ok (.iload 13, 2)) (k : G X fi d (pc + 2) (a0 :: a1 :: a2 :: a3 :: a4 :: a5 :: a6 :: a7 :: a8 :: a9 :: a10 :: a11 :: a12 :: some (vI z) :: t) (vI z :: st) hp Q) : G X fi d pc (a0 :: a1 :: a2 :: a3 :: a4 :: a5 :: a6 :: a7 :: a8 :: a9 :: a10 :: a11 :: a12 :: some (vI z) :: t) st hp Q :=
  G.step (fun p e R s m args below meth c H locs cells slots ls QQ hS hR hk kk => lv_iload hS.1 hS.2.1 hd (hk.at (i := 13) (v := vI z) rfl) (kk ls hk)) k
theorem gs_ald13 {a0 a1 a2 a3 a4 a5 a6 a7 a8 a9 a10 a11 a12 : Option AV} {t : List (Option AV)} {r : Option Nat} (hd : decode fi.2.1 pc = .ok (.aload 13, 2)) (k : G X fi d (pc + 2) (a0 :: a1 :: a2 :: a3 :: a4 :: a5 :: a6 :: a7 :: a8 :: a9 :: a10 :: a11 :: a12 :: some (vR r) :: t) (vR r :: st) hp Q) : G X fi d pc (a0 :: a1 :: a2 :: a3 :: a4 :: a5 :: a6 :: a7 :: a8 :: a9 :: a10 :: a11 :: a12 :: some (vR r) :: t) st hp Q :=
  G.step (fun p e R s m args below meth c H locs cells slots ls QQ hS hR hk kk => by
    cases r with
    | none => exact lv_aloadN hS.1 hS.2.1 hd (hk.at (i := 13) (v := vR none) rfl) (kk ls hk)
    | some x => exact lv_aload hS.1 hS.2.1 hd (hk.at (i := 13) (v := vR (some x)) rfl) (kk ls hk)) k
theorem gs_ist13 {a0 a1 a2 a3 a4 a5 a6 a7 a8 a9 a10 a11 a12 : Option AV} {b : Option AV} {t : List (Option AV)} {z : Int} (hd : decode fi.2.1 pc = .ok (.istore 13, 2)) (hn : nolg a12 = true) (k : G X fi d (pc + 2) (a0 :: a1 :: a2 :: a3 :: a4 :: a5 :: a6 :: a7 :: a8 :: a9 :: a10 :: a11 :: a12 :: some (vI z) :: t) st hp Q) : G X fi d pc (a0 :: a1 :: a2 :: a3 :: a4 :: a5 :: a6 :: a7 :: a8 :: a9 :: a10 :: a11 :: a12 :: b :: t) (vI z :: st) hp Q :=
  G.step (fun p e R s m args below meth c H locs cells slots ls QQ hS hR hk kk => by
    refine lv_istore hS.1 hS.2.1 hd hk.has (hk.lt (i := 13) (by simp only [List.length_cons]; omega)) rfl (fun ls' h' => kk ls' ?_)
    exact hk.set1 (i := 13) (v := vI z) (fun j hj => by obtain rfl : j = 12 := (by omega); exact hn) h') k
theorem gs_ast13 {a0 a1 a2 a3 a4 a5 a6 a7 a8 a9 a10 a11 a12 : Option AV} {b : Option AV} {t : List (Option AV)} {r : Option Nat} (hd : decode fi.2.1 pc = .ok (.astore 13, 2)) (hn : nolg a12 = true) (k : G X fi d (pc + 2) (a0 :: a1 :: a2 :: a3 :: a4 :: a5 :: a6 :: a7 :: a8 :: a9 :: a10 :: a11 :: a12 :: some (vR r) :: t) st hp Q) : G X fi d pc (a0 :: a1 :: a2 :: a3 :: a4 :: a5 :: a6 :: a7 :: a8 :: a9 :: a10 :: a11 :: a12 :: b :: t) (vR r :: st) hp Q :=
  G.step (fun p e R s m args below meth c H locs cells slots ls QQ hS hR hk kk => by
    cases r with
    | none =>
      refine lv_astoreN hS.1 hS.2.1 hd hk.has (hk.lt (i := 13) (by simp only [List.length_cons]; omega)) rfl (fun ls' h' => kk ls' ?_)
      exact hk.set1 (i := 13) (v := vR none) (fun j hj => by obtain rfl : j = 12 := (by omega); exact hn) h'
    | some x =>
      refine lv_astore hS.1 hS.2.1 hd hk.has (hk.lt (i := 13) (by simp only [List.length_cons]; omega)) rfl (fun ls' h' => kk ls' ?_)
      exact hk.set1 (i := 13) (v := vR (some x)) (fun j hj => by obtain rfl : j = 12 := (by omega); exact hn) h') k
theorem gs_inc13 {a0 a1 a2 a3 a4 a5 a6 a7 a8 a9 a10 a11 a12 : Option AV} {t : List (Option AV)} {z n : Int} (hd : decode fi.2.1 pc = .ok (.iinc 13 n, 3)) (hn : nolg a12 = true) (k : G X fi d (pc + 3) (a0 :: a1 :: a2 :: a3 :: a4 :: a5 :: a6 :: a7 :: a8 :: a9 :: a10 :: a11 :: a12 :: some (vI (z + n)) :: t) st hp Q) : G X fi d pc (a0 :: a1 :: a2 :: a3 :: a4 :: a5 :: a6 :: a7 :: a8 :: a9 :: a10 :: a11 :: a12 :: some (vI z) :: t) st hp Q :=
  G.step (fun p e R s m args below meth c H locs cells slots ls QQ hS hR hk kk => by
    obtain ⟨j, hj⟩ := List.getElem?_of_mem (las_mem (L := a0 :: a1 :: a2 :: a3 :: a4 :: a5 :: a6 :: a7 :: a8 :: a9 :: a10 :: a11 :: a12 :: some (vI z) :: t) (i := 13) (v := vI z) rfl)
    refine lv_iinc (v := Int32.ofInt (z + n)) (k := j) hS.1 hS.2.1 hd hk.has hj (by rw [Int32.ofInt_add]) (hk.lt (i := 13) (by simp only [List.length_cons]; omega)) rfl (fun ls' h' => kk ls' ?_)
    exact hk.set1 (i := 13) (v := vI (z + n)) (fun j hj => by obtain rfl : j = 12 := (by omega); exact hn) h') k
theorem gs_ild14 {a0 a1 a2 a3 a4 a5 a6 a7 a8 a9 a10 a11 a12 a13 : Option AV} {t : List (Option AV)} {z : Int} (hd : decode fi.2.1 pc = .ok (.iload 14, 2)) (k : G X fi d (pc + 2) (a0 :: a1 :: a2 :: a3 :: a4 :: a5 :: a6 :: a7 :: a8 :: a9 :: a10 :: a11 :: a12 :: a13 :: some (vI z) :: t) (vI z :: st) hp Q) : G X fi d pc (a0 :: a1 :: a2 :: a3 :: a4 :: a5 :: a6 :: a7 :: a8 :: a9 :: a10 :: a11 :: a12 :: a13 :: some (vI z) :: t) st hp Q :=
  G.step (fun p e R s m args below meth c H locs cells slots ls QQ hS hR hk kk => lv_iload hS.1 hS.2.1 hd (hk.at (i := 14) (v := vI z) rfl) (kk ls hk)) k
theorem gs_ald14 {a0 a1 a2 a3 a4 a5 a6 a7 a8 a9 a10 a11 a12 a13 : Option AV} {t : List (Option AV)} {r : Option Nat} (hd : decode fi.2.1 pc = .ok (.aload 14, 2)) (k : G X fi d (pc + 2) (a0 :: a1 :: a2 :: a3 :: a4 :: a5 :: a6 :: a7 :: a8 :: a9 :: a10 :: a11 :: a12 :: a13 :: some (vR r) :: t) (vR r :: st) hp Q) : G X fi d pc (a0 :: a1 :: a2 :: a3 :: a4 :: a5 :: a6 :: a7 :: a8 :: a9 :: a10 :: a11 :: a12 :: a13 :: some (vR r) :: t) st hp Q :=
  G.step (fun p e R s m args below meth c H locs cells slots ls QQ hS hR hk kk => by
    cases r with
    | none => exact lv_aloadN hS.1 hS.2.1 hd (hk.at (i := 14) (v := vR none) rfl) (kk ls hk)
    | some x => exact lv_aload hS.1 hS.2.1 hd (hk.at (i := 14) (v := vR (some x)) rfl) (kk ls hk)) k
theorem gs_ist14 {a0 a1 a2 a3 a4 a5 a6 a7 a8 a9 a10 a11 a12 a13 : Option AV} {b : Option AV} {t : List (Option AV)} {z : Int} (hd : decode fi.2.1 pc = .ok (.istore 14, 2)) (hn : nolg a13 = true) (k : G X fi d (pc + 2) (a0 :: a1 :: a2 :: a3 :: a4 :: a5 :: a6 :: a7 :: a8 :: a9 :: a10 :: a11 :: a12 :: a13 :: some (vI z) :: t) st hp Q) : G X fi d pc (a0 :: a1 :: a2 :: a3 :: a4 :: a5 :: a6 :: a7 :: a8 :: a9 :: a10 :: a11 :: a12 :: a13 :: b :: t) (vI z :: st) hp Q :=
  G.step (fun p e R s m args below meth c H locs cells slots ls QQ hS hR hk kk => by
    refine lv_istore hS.1 hS.2.1 hd hk.has (hk.lt (i := 14) (by simp only [List.length_cons]; omega)) rfl (fun ls' h' => kk ls' ?_)
    exact hk.set1 (i := 14) (v := vI z) (fun j hj => by obtain rfl : j = 13 := (by omega); exact hn) h') k
theorem gs_ast14 {a0 a1 a2 a3 a4 a5 a6 a7 a8 a9 a10 a11 a12 a13 : Option AV} {b : Option AV} {t : List (Option AV)} {r : Option Nat} (hd : decode fi.2.1 pc = .ok (.astore 14, 2)) (hn : nolg a13 = true) (k : G X fi d (pc + 2) (a0 :: a1 :: a2 :: a3 :: a4 :: a5 :: a6 :: a7 :: a8 :: a9 :: a10 :: a11 :: a12 :: a13 :: some (vR r) :: t) st hp Q) : G X fi d pc (a0 :: a1 :: a2 :: a3 :: a4 :: a5 :: a6 :: a7 :: a8 :: a9 :: a10 :: a11 :: a12 :: a13 :: b :: t) (vR r :: st) hp Q :=
  G.step (fun p e R s m args below meth c H locs cells slots ls QQ hS hR hk kk => by
    cases r with
    | none =>
      refine lv_astoreN hS.1 hS.2.1 hd hk.has (hk.lt (i := 14) (by simp only [List.length_cons]; omega)) rfl (fun ls' h' => kk ls' ?_)
      exact hk.set1 (i := 14) (v := vR none) (fun j hj => by obtain rfl : j = 13 := (by omega); exact hn) h'
    | some x =>
      refine lv_astore hS.1 hS.2.1 hd hk.has (hk.lt (i := 14) (by simp only [List.length_cons]; omega)) rfl (fun ls' h' => kk ls' ?_)
      exact hk.set1 (i := 14) (v := vR (some x)) (fun j hj => by obtain rfl : j = 13 := (by omega); exact hn) h') k
theorem gs_inc14 {a0 a1 a2 a3 a4 a5 a6 a7 a8 a9 a10 a11 a12 a13 : Option AV} {t : List (Option AV)} {z n : Int} (hd : decode fi.2.1 pc = .ok (.iinc 14 n, 3)) (hn : nolg a13 = true) (k : G X fi d (pc + 3) (a0 :: a1 :: a2 :: a3 :: a4 :: a5 :: a6 :: a7 :: a8 :: a9 :: a10 :: a11 :: a12 :: a13 :: some (vI (z + n)) :: t) st hp Q) : G X fi d pc (a0 :: a1 :: a2 :: a3 :: a4 :: a5 :: a6 :: a7 :: a8 :: a9 :: a10 :: a11 :: a12 :: a13 :: some (vI z) :: t) st hp Q :=
  G.step (fun p e R s m args below meth c H locs cells slots ls QQ hS hR hk kk => by
    obtain ⟨j, hj⟩ := List.getElem?_of_mem (las_mem (L := a0 :: a1 :: a2 :: a3 :: a4 :: a5 :: a6 :: a7 :: a8 :: a9 :: a10 :: a11 :: a12 :: a13 :: some (vI z) :: t) (i := 14) (v := vI z) rfl)
    refine lv_iinc (v := Int32.ofInt (z + n)) (k := j) hS.1 hS.2.1 hd hk.has hj (by rw [Int32.ofInt_add]) (hk.lt (i := 14) (by simp only [List.length_cons]; omega)) rfl (fun ls' h' => kk ls' ?_)
    exact hk.set1 (i := 14) (v := vI (z + n)) (fun j hj => by obtain rfl : j = 13 := (by omega); exact hn) h') k
theorem gs_ild15 {a0 a1 a2 a3 a4 a5 a6 a7 a8 a9 a10 a11 a12 a13 a14 : Option AV} {t : List (Option AV)} {z : Int} (hd : decode fi.2.1 pc = .ok (.iload 15, 2)) (k : G X fi d (pc + 2) (a0 :: a1 :: a2 :: a3 :: a4 :: a5 :: a6 :: a7 :: a8 :: a9 :: a10 :: a11 :: a12 :: a13 :: a14 :: some (vI z) :: t) (vI z :: st) hp Q) : G X fi d pc (a0 :: a1 :: a2 :: a3 :: a4 :: a5 :: a6 :: a7 :: a8 :: a9 :: a10 :: a11 :: a12 :: a13 :: a14 :: some (vI z) :: t) st hp Q :=
  G.step (fun p e R s m args below meth c H locs cells slots ls QQ hS hR hk kk => lv_iload hS.1 hS.2.1 hd (hk.at (i := 15) (v := vI z) rfl) (kk ls hk)) k
theorem gs_ald15 {a0 a1 a2 a3 a4 a5 a6 a7 a8 a9 a10 a11 a12 a13 a14 : Option AV} {t : List (Option AV)} {r : Option Nat} (hd : decode fi.2.1 pc = .ok (.aload 15, 2)) (k : G X fi d (pc + 2) (a0 :: a1 :: a2 :: a3 :: a4 :: a5 :: a6 :: a7 :: a8 :: a9 :: a10 :: a11 :: a12 :: a13 :: a14 :: some (vR r) :: t) (vR r :: st) hp Q) : G X fi d pc (a0 :: a1 :: a2 :: a3 :: a4 :: a5 :: a6 :: a7 :: a8 :: a9 :: a10 :: a11 :: a12 :: a13 :: a14 :: some (vR r) :: t) st hp Q :=
  G.step (fun p e R s m args below meth c H locs cells slots ls QQ hS hR hk kk => by
    cases r with
    | none => exact lv_aloadN hS.1 hS.2.1 hd (hk.at (i := 15) (v := vR none) rfl) (kk ls hk)
    | some x => exact lv_aload hS.1 hS.2.1 hd (hk.at (i := 15) (v := vR (some x)) rfl) (kk ls hk)) k
theorem gs_ist15 {a0 a1 a2 a3 a4 a5 a6 a7 a8 a9 a10 a11 a12 a13 a14 : Option AV} {b : Option AV} {t : List (Option AV)} {z : Int} (hd : decode fi.2.1 pc = .ok (.istore 15, 2)) (hn : nolg a14 = true) (k : G X fi d (pc + 2) (a0 :: a1 :: a2 :: a3 :: a4 :: a5 :: a6 :: a7 :: a8 :: a9 :: a10 :: a11 :: a12 :: a13 :: a14 :: some (vI z) :: t) st hp Q) : G X fi d pc (a0 :: a1 :: a2 :: a3 :: a4 :: a5 :: a6 :: a7 :: a8 :: a9 :: a10 :: a11 :: a12 :: a13 :: a14 :: b :: t) (vI z :: st) hp Q :=
  G.step (fun p e R s m args below meth c H locs cells slots ls QQ hS hR hk kk => by
    refine lv_istore hS.1 hS.2.1 hd hk.has (hk.lt (i := 15) (by simp only [List.length_cons]; omega)) rfl (fun ls' h' => kk ls' ?_)
    exact hk.set1 (i := 15) (v := vI z) (fun j hj => by obtain rfl : j = 14 := (by omega); exact hn) h') k
theorem gs_ast15 {a0 a1 a2 a3 a4 a5 a6 a7 a8 a9 a10 a11 a12 a13 a14 : Option AV} {b : Option AV} {t : List (Option AV)} {r : Option Nat} (hd : decode fi.2.1 pc = .ok (.astore 15, 2)) (hn : nolg a14 = true) (k : G X fi d (pc + 2) (a0 :: a1 :: a2 :: a3 :: a4 :: a5 :: a6 :: a7 :: a8 :: a9 :: a10 :: a11 :: a12 :: a13 :: a14 :: some (vR r) :: t) st hp Q) : G X fi d pc (a0 :: a1 :: a2 :: a3 :: a4 :: a5 :: a6 :: a7 :: a8 :: a9 :: a10 :: a11 :: a12 :: a13 :: a14 :: b :: t) (vR r :: st) hp Q :=
  G.step (fun p e R s m args below meth c H locs cells slots ls QQ hS hR hk kk => by
    cases r with
    | none =>
      refine lv_astoreN hS.1 hS.2.1 hd hk.has (hk.lt (i := 15) (by simp only [List.length_cons]; omega)) rfl (fun ls' h' => kk ls' ?_)
      exact hk.set1 (i := 15) (v := vR none) (fun j hj => by obtain rfl : j = 14 := (by omega); exact hn) h'
    | some x =>
      refine lv_astore hS.1 hS.2.1 hd hk.has (hk.lt (i := 15) (by simp only [List.length_cons]; omega)) rfl (fun ls' h' => kk ls' ?_)
      exact hk.set1 (i := 15) (v := vR (some x)) (fun j hj => by obtain rfl : j = 14 := (by omega); exact hn) h') k
theorem gs_inc15 {a0 a1 a2 a3 a4 a5 a6 a7 a8 a9 a10 a11 a12 a13 a14 : Option AV} {t : List (Option AV)} {z n : Int} (hd : decode fi.2.1 pc = .ok (.iinc 15 n, 3)) (hn : nolg a14 = true) (k : G X fi d (pc + 3) (a0 :: a1 :: a2 :: a3 :: a4 :: a5 :: a6 :: a7 :: a8 :: a9 :: a10 :: a11 :: a12 :: a13 :: a14 :: some (vI (z + n)) :: t) st hp Q) : G X fi d pc (a0 :: a1 :: a2 :: a3 :: a4 :: a5 :: a6 :: a7 :: a8 :: a9 :: a10 :: a11 :: a12 :: a13 :: a14 :: some (vI z) :: t) st hp Q :=
  G.step (fun p e R s m args below meth c H locs cells slots ls QQ hS hR hk kk => by
    obtain ⟨j, hj⟩ := List.getElem?_of_mem (las_mem (L := a0 :: a1 :: a2 :: a3 :: a4 :: a5 :: a6 :: a7 :: a8 :: a9 :: a10 :: a11 :: a12 :: a13 :: a14 :: some (vI z) :: t) (i := 15) (v := vI z) rfl)
    refine lv_iinc (v := Int32.ofInt (z + n)) (k := j) hS.1 hS.2.1 hd hk.has hj (by rw [Int32.ofInt_add]) (hk.lt (i := 15) (by simp only [List.length_cons]; omega)) rfl (fun ls' h' => kk ls' ?_)
    exact hk.set1 (i := 15) (v := vI (z + n)) (fun j hj => by obtain rfl : j = 14 := (by omega); exact hn) h') k
theorem gs_ild16 {a0 a1 a2 a3 a4 a5 a6 a7 a8 a9 a10 a11 a12 a13 a14 a15 : Option AV} {t : List (Option AV)} {z : Int} (hd : decode fi.2.1 pc = .ok (.iload 16, 2)) (k : G X fi d (pc + 2) (a0 :: a1 :: a2 :: a3 :: a4 :: a5 :: a6 :: a7 :: a8 :: a9 :: a10 :: a11 :: a12 :: a13 :: a14 :: a15 :: some (vI z) :: t) (vI z :: st) hp Q) : G X fi d pc (a0 :: a1 :: a2 :: a3 :: a4 :: a5 :: a6 :: a7 :: a8 :: a9 :: a10 :: a11 :: a12 :: a13 :: a14 :: a15 :: some (vI z) :: t) st hp Q :=
  G.step (fun p e R s m args below meth c H locs cells slots ls QQ hS hR hk kk => lv_iload hS.1 hS.2.1 hd (hk.at (i := 16) (v := vI z) rfl) (kk ls hk)) k
theorem gs_ald16 {a0 a1 a2 a3 a4 a5 a6 a7 a8 a9 a10 a11 a12 a13 a14 a15 : Option AV} {t : List (Option AV)} {r : Option Nat} (hd : decode fi.2.1 pc = .ok (.aload 16, 2)) (k : G X fi d (pc + 2) (a0 :: a1 :: a2 :: a3 :: a4 :: a5 :: a6 :: a7 :: a8 :: a9 :: a10 :: a11 :: a12 :: a13 :: a14 :: a15 :: some (vR r) :: t) (vR r :: st) hp Q) : G X fi d pc (a0 :: a1 :: a2 :: a3 :: a4 :: a5 :: a6 :: a7 :: a8 :: a9 :: a10 :: a11 :: a12 :: a13 :: a14 :: a15 :: some (vR r) :: t) st hp Q :=
  G.step (fun p e R s m args below meth c H locs cells slots ls QQ hS hR hk kk => by
    cases r with
    | none => exact lv_aloadN hS.1 hS.2.1 hd (hk.at (i := 16) (v := vR none) rfl) (kk ls hk)
    | some x => exact lv_aload hS.1 hS.2.1 hd (hk.at (i := 16) (v := vR (some x)) rfl) (kk ls hk)) k
theorem gs_ist16 {a0 a1 a2 a3 a4 a5 a6 a7 a8 a9 a10 a11 a12 a13 a14 a15 : Option AV} {b : Option AV} {t : List (Option AV)} {z : Int} (hd : decode fi.2.1 pc = .ok (.istore 16, 2)) (hn : nolg a15 = true) (k : G X fi d (pc + 2) (a0 :: a1 :: a2 :: a3 :: a4 :: a5 :: a6 :: a7 :: a8 :: a9 :: a10 :: a11 :: a12 :: a13 :: a14 :: a15 :: some (vI z) :: t) st hp Q) : G X fi d pc (a0 :: a1 :: a2 :: a3 :: a4 :: a5 :: a6 :: a7 :: a8 :: a9 :: a10 :: a11 :: a12 :: a13 :: a14 :: a15 :: b :: t) (vI z :: st) hp Q :=
  G.step (fun p e R s m args below meth c H locs cells slots ls QQ hS hR hk kk => by
    refine lv_istore hS.1 hS.2.1 hd hk.has (hk.lt (i := 16) (by simp only [List.length_cons]; omega)) rfl (fun ls' h' => kk ls' ?_)
    exact hk.set1 (i := 16) (v := vI z) (fun j hj => by obtain rfl : j = 15 := (by omega); exact hn) h') k
theorem gs_ast16 {a0 a1 a2 a3 a4 a5 a6 a7 a8 a9 a10 a11 a12 a13 a14 a15 : Option AV} {b : Option AV} {t : List (Option AV)} {r : Option Nat} (hd : decode fi.2.1 pc = .ok (.astore 16, 2)) (hn : nolg a15 = true) (k : G X fi d (pc + 2) (a0 :: a1 :: a2 :: a3 :: a4 :: a5 :: a6 :: a7 :: a8 :: a9 :: a10 :: a11 :: a12 :: a13 :: a14 :: a15 :: some (vR r) :: t) st hp Q) : G X fi d pc (a0 :: a1 :: a2 :: a3 :: a4 :: a5 :: a6 :: a7 :: a8 :: a9 :: a10 :: a11 :: a12 :: a13 :: a14 :: a15 :: b :: t) (vR r :: st) hp Q :=
  G.step (fun p e R s m args below meth c H locs cells slots ls QQ hS hR hk kk => by
    cases r with
    | none =>
      refine lv_astoreN hS.1 hS.2.1 hd hk.has (hk.lt (i := 16) (by simp only [List.length_cons]; omega)) rfl (fun ls' h' => kk ls' ?_)
      exact hk.set1 (i := 16) (v := vR none) (fun j hj => by obtain rfl : j = 15 := (by omega); exact hn) h'
    | some x =>
      refine lv_astore hS.1 hS.2.1 hd hk.has (hk.lt (i := 16) (by simp only [List.length_cons]; omega)) rfl (fun ls' h' => kk ls' ?_)
      exact hk.set1 (i := 16) (v := vR (some x)) (fun j hj => by obtain rfl : j = 15 := (by omega); exact hn) h') k
theorem gs_inc16 {a0 a1 a2 a3 a4 a5 a6 a7 a8 a9 a10 a11 a12 a13 a14 a15 : Option AV} {t : List (Option AV)} {z n : Int} (hd : decode fi.2.1 pc = .ok (.iinc 16 n, 3)) (hn : nolg a15 = true) (k : G X fi d (pc + 3) (a0 :: a1 :: a2 :: a3 :: a4 :: a5 :: a6 :: a7 :: a8 :: a9 :: a10 :: a11 :: a12 :: a13 :: a14 :: a15 :: some (vI (z + n)) :: t) st hp Q) : G X fi d pc (a0 :: a1 :: a2 :: a3 :: a4 :: a5 :: a6 :: a7 :: a8 :: a9 :: a10 :: a11 :: a12 :: a13 :: a14 :: a15 :: some (vI z) :: t) st hp Q :=
  G.step (fun p e R s m args below meth c H locs cells slots ls QQ hS hR hk kk => by
    obtain ⟨j, hj⟩ := List.getElem?_of_mem (las_mem (L := a0 :: a1 :: a2 :: a3 :: a4 :: a5 :: a6 :: a7 :: a8 :: a9 :: a10 :: a11 :: a12 :: a13 :: a14 :: a15 :: some (vI z) :: t) (i := 16) (v := vI z) rfl)
    refine lv_iinc (v := Int32.ofInt (z + n)) (k := j) hS.1 hS.2.1 hd hk.has hj (by rw [Int32.ofInt_add]) (hk.lt (i := 16) (by simp only [List.length_cons]; omega)) rfl (fun ls' h' => kk ls' ?_)
    exact hk.set1 (i := 16) (v := vI (z + n)) (fun j hj => by obtain rfl : j = 15 := (by omega); exact hn) h') k
theorem gs_ild17 {a0 a1 a2 a3 a4 a5 a6 a7 a8 a9 a10 a11 a12 a13 a14 a15 a16 : Option AV} {t : List (Option AV)} {z : Int} (hd : decode fi.2.1 pc = .ok (.iload 17, 2)) (k : G X fi d (pc + 2) (a0 :: a1 :: a2 :: a3 :: a4 :: a5 :: a6 :: a7 :: a8 :: a9 :: a10 :: a11 :: a12 :: a13 :: a14 :: a15 :: a16 :: some (vI z) :: t) (vI z :: st) hp Q) : G X fi d pc (a0 :: a1 :: a2 :: a3 :: a4 :: a5 :: a6 :: a7 :: a8 :: a9 :: a10 :: a11 :: a12 :: a13 :: a14 :: a15 :: a16 :: some (vI z) :: t) st hp Q :=
  G.step (fun p e R s m args below meth c H locs cells slots ls QQ hS hR hk kk => lv_iload hS.1 hS.2.1 hd (hk.at (i := 17) (v := vI z) rfl) (kk ls hk)) k
theorem gs_ald17 {a0 a1 a2 a3 a4 a5 a6 a7 a8 a9 a10 a11 a12 a13 a14 a15 a16 : Option AV} {t : List (Option AV)} {r : Option Nat} (hd : decode fi.2.1 pc = .ok (.aload 17, 2)) (k : G X fi d (pc + 2) (a0 :: a1 :: a2 :: a3 :: a4 :: a5 :: a6 :: a7 :: a8 :: a9 :: a10 :: a11 :: a12 :: a13 :: a14 :: a15 :: a16 :: some (vR r) :: t) (vR r :: st) hp Q) : G X fi d pc (a0 :: a1 :: a2 :: a3 :: a4 :: a5 :: a6 :: a7 :: a8 :: a9 :: a10 :: a11 :: a12 :: a13 :: a14 :: a15 :: a16 :: some (vR r) :: t) st hp Q :=
  G.step (fun p e R s m args below meth c H locs cells slots ls QQ hS hR hk kk => by
    cases r with
    | none => exact lv_aloadN hS.1 hS.2.1 hd (hk.at (i := 17) (v := vR none) rfl) (kk ls hk)
    | some x => exact lv_aload hS.1 hS.2.1 hd (hk.at (i := 17) (v := vR (some x)) rfl) (kk ls hk)) k
theorem gs_ist17 {a0 a1 a2 a3 a4 a5 a6 a7 a8 a9 a10 a11 a12 a13 a14 a15 a16 : Option AV} {b : Option AV} {t : List (Option AV)} {z : Int} (hd : decode fi.2.1 pc = .ok (.istore 17, 2)) (hn : nolg a16 = true) (k : G X fi d (pc + 2) (a0 :: a1 :: a2 :: a3 :: a4 :: a5 :: a6 :: a7 :: a8 :: a9 :: a10 :: a11 :: a12 :: a13 :: a14 :: a15 :: a16 :: some (vI z) :: t) st hp Q) : G X fi d pc (a0 :: a1 :: a2 :: a3 :: a4 :: a5 :: a6 :: a7 :: a8 :: a9 :: a10 :: a11 :: a12 :: a13 :: a14 :: a15 :: a16 :: b :: t) (vI z :: st) hp Q :=
  G.step (fun p e R s m args below meth c H locs cells slots ls QQ hS hR hk kk => by
    refine lv_istore hS.1 hS.2.1 hd hk.has (hk.lt (i := 17) (by simp only [List.length_cons]; omega)) rfl (fun ls' h' => kk ls' ?_)
    exact hk.set1 (i := 17) (v := vI z) (fun j hj => by obtain rfl : j = 16 := (by omega); exact hn) h') k
theorem gs_ast17 {a0 a1 a2 a3 a4 a5 a6 a7 a8 a9 a10 a11 a12 a13 a14 a15 a16 : Option AV} {b : Option AV} {t : List (Option AV)} {r : Option Nat} (hd : decode fi.2.1 pc = .ok (.astore 17, 2)) (hn : nolg a16 = true) (k : G X fi d (pc + 2) (a0 :: a1 :: a2 :: a3 :: a4 :: a5 :: a6 :: a7 :: a8 :: a9 :: a10 :: a11 :: a12 :: a13 :: a14 :: a15 :: a16 :: some (vR r) :: t) st hp Q) : G X fi d pc (a0 :: a1 :: a2 :: a3 :: a4 :: a5 :: a6 :: a7 :: a8 :: a9 :: a10 :: a11 :: a12 :: a13 :: a14 :: a15 :: a16 :: b :: t) (vR r :: st) hp Q :=
  G.step (fun p e R s m args below meth c H locs cells slots ls QQ hS hR hk kk => by
    cases r with
    | none =>
      refine lv_astoreN hS.1 hS.2.1 hd hk.has (hk.lt (i := 17) (by simp only [List.length_cons]; omega)) rfl (fun ls' h' => kk ls' ?_)
      exact hk.set1 (i := 17) (v := vR none) (fun j hj => by obtain rfl : j = 16 := (by omega); exact hn) h'
    | some x =>
      refine lv_astore hS.1 hS.2.1 hd hk.has (hk.lt (i := 17) (by simp only [List.length_cons]; omega)) rfl (fun ls' h' => kk ls' ?_)
      exact hk.set1 (i := 17) (v := vR (some x)) (fun j hj => by obtain rfl : j = 16 := (by omega); exact hn) h') k
theorem gs_inc17 {a0 a1 a2 a3 a4 a5 a6 a7 a8 a9 a10 a11 a12 a13 a14 a15 a16 : Option AV} {t : List (Option AV)} {z n : Int} (hd : decode fi.2.1 pc = .ok (.iinc 17 n, 3)) (hn : nolg a16 = true) (k : G X fi d (pc + 3) (a0 :: a1 :: a2 :: a3 :: a4 :: a5 :: a6 :: a7 :: a8 :: a9 :: a10 :: a11 :: a12 :: a13 :: a14 :: a15 :: a16 :: some (vI (z + n)) :: t) st hp Q) : G X fi d pc (a0 :: a1 :: a2 :: a3 :: a4 :: a5 :: a6 :: a7 :: a8 :: a9 :: a10 :: a11 :: a12 :: a13 :: a14 :: a15 :: a16 :: some (vI z) :: t) st hp Q :=
  G.step (fun p e R s m args below meth c H locs cells slots ls QQ hS hR hk kk => by
    obtain ⟨j, hj⟩ := List.getElem?_of_mem (las_mem (L := a0 :: a1 :: a2 :: a3 :: a4 :: a5 :: a6 :: a7 :: a8 :: a9 :: a10 :: a11 :: a12 :: a13 :: a14 :: a15 :: a16 :: some (vI z) :: t) (i := 17) (v := vI z) rfl)
    refine lv_iinc (v := Int32.ofInt (z + n)) (k := j) hS.1 hS.2.1 hd hk.has hj (by rw [Int32.ofInt_add]) (hk.lt (i := 17) (by simp only [List.length_cons]; omega)) rfl (fun ls' h' => kk ls' ?_)
    exact hk.set1 (i := 17) (v := vI (z + n)) (fun j hj => by obtain rfl : j = 16 := (by omega); exact hn) h') k
theorem gs_ild18 {a0 a1 a2 a3 a4 a5 a6 a7 a8 a9 a10 a11 a12 a13 a14 a15 a16 a17 : Option AV} {t : List (Option AV)} {z : Int} (hd : decode fi.2.1 pc = .ok (.iload 18, 2)) (k : G X fi d (pc + 2) (a0 :: a1 :: a2 :: a3 :: a4 :: a5 :: a6 :: a7 :: a8 :: a9 :: a10 :: a11 :: a12 :: a13 :: a14 :: a15 :: a16 :: a17 :: some (vI z) :: t) (vI z :: st) hp Q) : G X fi d pc (a0 :: a1 :: a2 :: a3 :: a4 :: a5 :: a6 :: a7 :: a8 :: a9 :: a10 :: a11 :: a12 :: a13 :: a14 :: a15 :: a16 :: a17 :: some (vI z) :: t) st hp Q :=
  G.step (fun p e R s m args below meth c H locs cells slots ls QQ hS hR hk kk => lv_iload hS.1 hS.2.1 hd (hk.at (i := 18) (v := vI z) rfl) (kk ls hk)) k
theorem gs_ald18 {a0 a1 a2 a3 a4 a5 a6 a7 a8 a9 a10 a11 a12 a13 a14 a15 a16 a17 : Option AV} {t : List (Option AV)} {r : Option Nat} (hd : decode fi.2.1 pc = .ok (.aload 18, 2)) (k : G X fi d (pc + 2) (a0 :: a1 :: a2 :: a3 :: a4 :: a5 :: a6 :: a7 :: a8 :: a9 :: a10 :: a11 :: a12 :: a13 :: a14 :: a15 :: a16 :: a17 :: some (vR r) :: t) (vR r :: st) hp Q) : G X fi d pc (a0 :: a1 :: a2 :: a3 :: a4 :: a5 :: a6 :: a7 :: a8 :: a9 :: a10 :: a11 :: a12 :: a13 :: a14 :: a15 :: a16 :: a17 :: some (vR r) :: t) st hp Q :=
  G.step (fun p e R s m args below meth c H locs cells slots ls QQ hS hR hk kk => by
    cases r with
    | none => exact lv_aloadN hS.1 hS.2.1 hd (hk.at (i := 18) (v := vR none) rfl) (kk ls hk)
    | some x => exact lv_aload hS.1 hS.2.1 hd (hk.at (i := 18) (v := vR (some x)) rfl) (kk ls hk)) k
theorem gs_ist18 {a0 a1 a2 a3 a4 a5 a6 a7 a8 a9 a10 a11 a12 a13 a14 a15 a16 a17 : Option AV} {b : Option AV} {t : List (Option AV)} {z : Int} (hd : decode fi.2.1 pc = .ok (.istore 18, 2)) (hn : nolg a17 = true) (k : G X fi d (pc + 2) (a0 :: a1 :: a2 :: a3 :: a4 :: a5 :: a6 :: a7 :: a8 :: a9 :: a10 :: a11 :: a12 :: a13 :: a14 :: a15 :: a16 :: a17 :: some (vI z) :: t) st hp Q) : G X fi d pc (a0 :: a1 :: a2 :: a3 :: a4 :: a5 :: a6 :: a7 :: a8 :: a9 :: a10 :: a11 :: a12 :: a13 :: a14 :: a15 :: a16 :: a17 :: b :: t) (vI z :: st) hp Q :=
  G.step (fun p e R s m args below meth c H locs cells slots ls QQ hS hR hk kk => by
    refine lv_istore hS.1 hS.2.1 hd hk.has (hk.lt (i := 18) (by simp only [List.length_cons]; omega)) rfl (fun ls' h' => kk ls' ?_)
    exact hk.set1 (i := 18) (v := vI z) (fun j hj => by obtain rfl : j = 17 := (by omega); exact hn) h') k
theorem gs_ast18 {a0 a1 a2 a3 a4 a5 a6 a7 a8 a9 a10 a11 a12 a13 a14 a15 a16 a17 : Option AV} {b : Option AV} {t : List (Option AV)} {r : Option Nat} (hd : decode fi.2.1 pc = .ok (.astore 18, 2)) (hn : nolg a17 = true) (k : G X fi d (pc + 2) (a0 :: a1 :: a2 :: a3 :: a4 :: a5 :: a6 :: a7 :: a8 :: a9 :: a10 :: a11 :: a12 :: a13 :: a14 :: a15 :: a16 :: a17 :: some (vR r) :: t) st hp Q) : G X fi d pc (a0 :: a1 :: a2 :: a3 :: a4 :: a5 :: a6 :: a7 :: a8 :: a9 :: a10 :: a11 :: a12 :: a13 :: a14 :: a15 :: a16 :: a17 :: b :: t) (vR r :: st) hp Q :=
  G.step (fun p e R s m args below meth c H locs cells slots ls QQ hS hR hk kk => by
    cases r with
    | none =>
      refine lv_astoreN hS.1 hS.2.1 hd hk.has (hk.lt (i := 18) (by simp only [List.length_cons]; omega)) rfl (fun ls' h' => kk ls' ?_)
      exact hk.set1 (i := 18) (v := vR none) (fun j hj => by obtain rfl : j = 17 := (by omega); exact hn) h'
    | some x =>
      refine lv_astore hS.1 hS.2.1 hd hk.has (hk.lt (i := 18) (by simp only [List.length_cons]; omega)) rfl (fun ls' h' => kk ls' ?_)
      exact hk.set1 (i := 18) (v := vR (some x)) (fun j hj => by obtain rfl : j = 17 := (by omega); exact hn) h') k
theorem gs_inc18 {a0 a1 a2 a3 a4 a5 a6 a7 a8 a9 a10 a11 a12 a13 a14 a15 a16 a17 : Option AV} {t : List (Option AV)} {z n : Int} (hd : decode fi.2.1 pc = .ok (.iinc 18 n, 3)) (hn : nolg a17 = true) (k : G X fi d (pc + 3) (a0 :: a1 :: a2 :: a3 :: a4 :: a5 :: a6 :: a7 :: a8 :: a9 :: a10 :: a11 :: a12 :: a13 :: a14 :: a15 :: a16 :: a17 :: some (vI (z + n)) :: t) st hp Q) : G X fi d pc (a0 :: a1 :: a2 :: a3 :: a4 :: a5 :: a6 :: a7 :: a8 :: a9 :: a10 :: a11 :: a12 :: a13 :: a14 :: a15 :: a16 :: a17 :: some (vI z) :: t) st hp Q :=
  G.step (fun p e R s m args below meth c H locs cells slots ls QQ hS hR hk kk => by
    obtain ⟨j, hj⟩ := List.getElem?_of_mem (las_mem (L := a0 :: a1 :: a2 :: a3 :: a4 :: a5 :: a6 :: a7 :: a8 :: a9 :: a10 :: a11 :: a12 :: a13 :: a14 :: a15 :: a16 :: a17 :: some (vI z) :: t) (i := 18) (v := vI z) rfl)
    refine lv_iinc (v := Int32.ofInt (z + n)) (k := j) hS.1 hS.2.1 hd hk.has hj (by rw [Int32.ofInt_add]) (hk.lt (i := 18) (by simp only [List.length_cons]; omega)) rfl (fun ls' h' => kk ls' ?_)
    exact hk.set1 (i := 18) (v := vI (z + n)) (fun j hj => by obtain rfl : j = 17 := (by omega); exact hn) h') k
theorem gs_ild19 {a0 a1 a2 a3 a4 a5 a6 a7 a8 a9 a10 a11 a12 a13 a14 a15 a16 a17 a18 : Option AV} {t : List (Option AV)} {z : Int} (hd : decode fi.2.1 pc = .ok (.iload 19, 2)) (k : G X fi d (pc + 2) (a0 :: a1 :: a2 :: a3 :: a4 :: a5 :: a6 :: a7 :: a8 :: a9 :: a10 :: a11 :: a12 :: a13 :: a14 :: a15 :: a16 :: a17 :: a18 :: some (vI z) :: t) (vI z :: st) hp Q) : G X fi d pc (a0 :: a1 :: a2 :: a3 :: a4 :: a5 :: a6 :: a7 :: a8 :: a9 :: a10 :: a11 :: a12 :: a13 :: a14 :: a15 :: a16 :: a17 :: a18 :: some (vI z) :: t) st hp Q :=
  G.step (fun p e R s m args below meth c H locs cells slots ls QQ hS hR hk kk => lv_iload hS.1 hS.2.1 hd (hk.at (i := 19) (v := vI z) rfl) (kk ls hk)) k
theorem gs_ald19 {a0 a1 a2 a3 a4 a5 a6 a7 a8 a9 a10 a11 a12 a13 a14 a15 a16 a17 a18 : Option AV} {t : List (Option AV)} {r : Option Nat} (hd : decode fi.2.1 pc = .ok (.aload 19, 2)) (k : G X fi d (pc + 2) (a0 :: a1 :: a2 :: a3 :: a4 :: a5 :: a6 :: a7 :: a8 :: a9 :: a10 :: a11 :: a12 :: a13 :: a14 :: a15 :: a16 :: a17 :: a18 :: some (vR r) :: t) (vR r :: st) hp Q) : G X fi d pc (a0 :: a1 :: a2 :: a3 :: a4 :: a5 :: a6 :: a7 :: a8 :: a9 :: a10 :: a11 :: a12 :: a13 :: a14 :: a15 :: a16 :: a17 :: a18 :: some (vR r) :: t) st hp Q :=
  G.step (fun p e R s m args below meth c H locs cells slots ls QQ hS hR hk kk => by
    cases r with
    | none => exact lv_aloadN hS.1 hS.2.1 hd (hk.at (i := 19) (v := vR none) rfl) (kk ls hk)
    | some x => exact lv_aload hS.1 hS.2.1 hd (hk.at (i := 19) (v := vR (some x)) rfl) (kk ls hk)) k
theorem gs_ist19 {a0 a1 a2 a3 a4 a5 a6 a7 a8 a9 a10 a11 a12 a13 a14 a15 a16 a17 a18 : Option AV} {b : Option AV} {t : List (Option AV)} {z : Int} (hd : decode fi.2.1 pc = .ok (.istore 19, 2)) (hn : nolg a18 = true) (k : G X fi d (pc + 2) (a0 :: a1 :: a2 :: a3 :: a4 :: a5 :: a6 :: a7 :: a8 :: a9 :: a10 :: a11 :: a12 :: a13 :: a14 :: a15 :: a16 :: a17 :: a18 :: some (vI z) :: t) st hp Q) : G X fi d pc (a0 :: a1 :: a2 :: a3 :: a4 :: a5 :: a6 :: a7 :: a8 :: a9 :: a10 :: a11 :: a12 :: a13 :: a14 :: a15 :: a16 :: a17 :: a18 :: b :: t) (vI z :: st) hp Q :=
  G.step (fun p e R s m args below meth c H locs cells slots ls QQ hS hR hk kk => by
    refine lv_istore hS.1 hS.2.1 hd hk.has (hk.lt (i := 19) (by simp only [List.length_cons]; omega)) rfl (fun ls' h' => kk ls' ?_)
    exact hk.set1 (i := 19) (v := vI z) (fun j hj => by obtain rfl : j = 18 := (by omega); exact hn) h') k
theorem gs_ast19 {a0 a1 a2 a3 a4 a5 a6 a7 a8 a9 a10 a11 a12 a13 a14 a15 a16 a17 a18 : Option AV} {b : Option AV} {t : List (Option AV)} {r : Option Nat} (hd : decode fi.2.1 pc = .ok (.astore 19, 2)) (hn : nolg a18 = true) (k : G X fi d (pc + 2) (a0 :: a1 :: a2 :: a3 :: a4 :: a5 :: a6 :: a7 :: a8 :: a9 :: a10 :: a11 :: a12 :: a13 :: a14 :: a15 :: a16 :: a17 :: a18 :: some (vR r) :: t) st hp Q) : G X fi d pc (a0 :: a1 :: a2 :: a3 :: a4 :: a5 :: a6 :: a7 :: a8 :: a9 :: a10 :: a11 :: a12 :: a13 :: a14 :: a15 :: a16 :: a17 :: a18 :: b :: t) (vR r :: st) hp Q :=
  G.step (fun p e R s m args below meth c H locs cells slots ls QQ hS hR hk kk => by
    cases r with
    | none =>
      refine lv_astoreN hS.1 hS.2.1 hd hk.has (hk.lt (i := 19) (by simp only [List.length_cons]; omega)) rfl (fun ls' h' => kk ls' ?_)
      exact hk.set1 (i := 19) (v := vR none) (fun j hj => by obtain rfl : j = 18 := (by omega); exact hn) h'
    | some x =>
      refine lv_astore hS.1 hS.2.1 hd hk.has (hk.lt (i := 19) (by simp only [List.length_cons]; omega)) rfl (fun ls' h' => kk ls' ?_)
      exact hk.set1 (i := 19) (v := vR (some x)) (fun j hj => by obtain rfl : j = 18 := (by omega); exact hn) h') k
theorem gs_inc19 {a0 a1 a2 a3 a4 a5 a6 a7 a8 a9 a10 a11 a12 a13 a14 a15 a16 a17 a18 : Option AV} {t : List (Option AV)} {z n : Int} (hd : decode fi.2.1 pc = .ok (.iinc 19 n, 3)) (hn : nolg a18 = true) (k : G X fi d (pc + 3) (a0 :: a1 :: a2 :: a3 :: a4 :: a5 :: a6 :: a7 :: a8 :: a9 :: a10 :: a11 :: a12 :: a13 :: a14 :: a15 :: a16 :: a17 :: a18 :: some (vI (z + n)) :: t) st hp Q) : G X fi d pc (a0 :: a1 :: a2 :: a3 :: a4 :: a5 :: a6 :: a7 :: a8 :: a9 :: a10 :: a11 :: a12 :: a13 :: a14 :: a15 :: a16 :: a17 :: a18 :: some (vI z) :: t) st hp Q :=
  G.step (fun p e R s m args below meth c H locs cells slots ls QQ hS hR hk kk => by
    obtain ⟨j, hj⟩ := List.getElem?_of_mem (las_mem (L := a0 :: a1 :: a2 :: a3 :: a4 :: a5 :: a6 :: a7 :: a8 :: a9 :: a10 :: a11 :: a12 :: a13 :: a14 :: a15 :: a16 :: a17 :: a18 :: some (vI z) :: t) (i := 19) (v := vI z) rfl)
    refine lv_iinc (v := Int32.ofInt (z + n)) (k := j) hS.1 hS.2.1 hd hk.has hj (by rw [Int32.ofInt_add]) (hk.lt (i := 19) (by simp only [List.length_cons]; omega)) rfl (fun ls' h' => kk ls' ?_)
    exact hk.set1 (i := 19) (v := vI (z + n)) (fun j hj => by obtain rfl : j = 18 := (by omega); exact hn) h') k
theorem gs_iconst {n : Int} (hd : decode fi.2.1 pc = .ok (.iconst n, 1)) (k : G X fi d (pc + 1) L (vI n :: st) hp Q) : G X fi d pc L (st) hp Q :=
  G.step (fun p e R s m args below meth c H locs cells slots ls QQ hS hR hk kk => lv_iconst hS.1 hS.2.1 hd rfl (kk ls hk)) k
theorem gs_bipush {n : Int} (hd : decode fi.2.1 pc = .ok (.bipush n, 2)) (hn : (Int8.ofInt n).toInt32 = Int32.ofInt n) (k : G X fi d (pc + 2) L (vI n :: st) hp Q) : G X fi d pc L (st) hp Q :=
  G.step (fun p e R s m args below meth c H locs cells slots ls QQ hS hR hk kk => lv_bipush hS.1 hS.2.1 hd hn (kk ls hk)) k
theorem gs_sipush {n : Int} (hd : decode fi.2.1 pc = .ok (.sipush n, 3)) (hn : (Int16.ofInt n).toInt32 = Int32.ofInt n) (k : G X fi d (pc + 3) L (vI n :: st) hp Q) : G X fi d pc L (st) hp Q :=
  G.step (fun p e R s m args below meth c H locs cells slots ls QQ hS hR hk kk => lv_sipush hS.1 hS.2.1 hd hn (kk ls hk)) k
theorem gs_lconst {n : Fin 2} (hd : decode fi.2.1 pc = .ok (.lconst n, 1)) (k : G X fi d (pc + 1) L (vL (Int64.ofNat (n : Nat)) :: st) hp Q) : G X fi d pc L (st) hp Q :=
  G.step (fun p e R s m args below meth c H locs cells slots ls QQ hS hR hk kk => lv_lconst hS.1 hS.2.1 hd rfl (kk ls hk)) k
theorem gs_null (hd : decode fi.2.1 pc = .ok (.aconst_null, 1)) (k : G X fi d (pc + 1) L (vR none :: st) hp Q) : G X fi d pc L (st) hp Q :=
  G.step (fun p e R s m args below meth c H locs cells slots ls QQ hS hR hk kk => lv_null hS.1 hS.2.1 hd (kk ls hk)) k
theorem gs_ldc {i : Nat} {z : Int} (hd : decode fi.2.1 pc = .ok (.ldc i, 2)) (hq : Cond.constant fi.1 i (Int32.ofInt z) ∈ lw_all) (k : G X fi d (pc + 2) L (vI z :: st) hp Q) : G X fi d pc L (st) hp Q :=
  G.step (fun p e R s m args below meth c H locs cells slots ls QQ hS hR hk kk => lv_ldc (v := Int32.ofInt z) hS.1 hS.2.1 hS.2.2.2.2.2.1 (hS.2.2.2.2.2.2.1 _ hq) hd (kk ls hk)) k
theorem gs_ldcw {i : Nat} {z : Int} (hd : decode fi.2.1 pc = .ok (.ldc_w i, 3)) (hq : Cond.constant fi.1 i (Int32.ofInt z) ∈ lw_all) (k : G X fi d (pc + 3) L (vI z :: st) hp Q) : G X fi d pc L (st) hp Q :=
  G.step (fun p e R s m args below meth c H locs cells slots ls QQ hS hR hk kk => lv_ldcw (v := Int32.ofInt z) hS.1 hS.2.1 hS.2.2.2.2.2.1 (hS.2.2.2.2.2.2.1 _ hq) hd (kk ls hk)) k
theorem gs_ldcf {i : Nat} {x : UInt32} (hd : decode fi.2.1 pc = .ok (.ldc i, 2)) (hq : Cond.constantFloat fi.1 i x ∈ lw_all) (k : G X fi d (pc + 2) L (vF x :: st) hp Q) : G X fi d pc L (st) hp Q :=
  G.step (fun p e R s m args below meth c H locs cells slots ls QQ hS hR hk kk => lv_ldcf (v := x) hS.1 hS.2.1 hS.2.2.2.2.2.1 (hS.2.2.2.2.2.2.1 _ hq) hd (kk ls hk)) k
theorem gs_ldc2 {i : Nat} {x : Int64} (hd : decode fi.2.1 pc = .ok (.ldc2_w i, 3)) (hq : Cond.constantLong fi.1 i x ∈ lw_all) (k : G X fi d (pc + 3) L (vL x :: st) hp Q) : G X fi d pc L (st) hp Q :=
  G.step (fun p e R s m args below meth c H locs cells slots ls QQ hS hR hk kk => lv_ldc2 (v := x) hS.1 hS.2.1 hS.2.2.2.2.2.1 (hS.2.2.2.2.2.2.1 _ hq) hd (kk ls hk)) k
theorem gs_dup {v : AV} (hd : decode fi.2.1 pc = .ok (.dup, 1)) (h1 : ct v = 1) (k : G X fi d (pc + 1) L (v :: v :: st) hp Q) : G X fi d pc L (v :: st) hp Q :=
  G.step (fun p e R s m args below meth c H locs cells slots ls QQ hS hR hk kk => lv_dup hS.1 hS.2.1 hd (by rw [ct_cv]; exact h1) (kk ls hk)) k
theorem gs_pop {v : AV} (hd : decode fi.2.1 pc = .ok (.pop, 1)) (h1 : ct v = 1) (k : G X fi d (pc + 1) L (st) hp Q) : G X fi d pc L (v :: st) hp Q :=
  G.step (fun p e R s m args below meth c H locs cells slots ls QQ hS hR hk kk => lv_pop hS.1 hS.2.1 hd (by rw [ct_cv]; exact h1) (kk ls hk)) k
theorem gs_dup_x1 {v w : AV} (hd : decode fi.2.1 pc = .ok (.dup_x1, 1)) (h1 : ct v = 1) (h2 : ct w = 1) (k : G X fi d (pc + 1) L (v :: w :: v :: st) hp Q) : G X fi d pc L (v :: w :: st) hp Q :=
  G.step (fun p e R s m args below meth c H locs cells slots ls QQ hS hR hk kk => lv_dup_x1 hS.1 hS.2.1 hd (by rw [ct_cv]; exact h1) (by rw [ct_cv]; exact h2) (kk ls hk)) k
theorem gs_dup_x2 {v w u : AV} (hd : decode fi.2.1 pc = .ok (.dup_x2, 1)) (h1 : ct v = 1) (h2 : ct w = 1) (h3 : ct u = 1) (k : G X fi d (pc + 1) L (v :: w :: u :: v :: st) hp Q) : G X fi d pc L (v :: w :: u :: st) hp Q :=
  G.step (fun p e R s m args below meth c H locs cells slots ls QQ hS hR hk kk => lv_dup_x2 hS.1 hS.2.1 hd (by rw [ct_cv]; exact h1) (by rw [ct_cv]; exact h2) (by rw [ct_cv]; exact h3) (kk ls hk)) k
theorem gs_dup2 {v w : AV} (hd : decode fi.2.1 pc = .ok (.dup2, 1)) (h1 : ct v = 1) (h2 : ct w = 1) (k : G X fi d (pc + 1) L (v :: w :: v :: w :: st) hp Q) : G X fi d pc L (v :: w :: st) hp Q :=
  G.step (fun p e R s m args below meth c H locs cells slots ls QQ hS hR hk kk => lv_dup2_11 hS.1 hS.2.1 hd (by rw [ct_cv]; exact h1) (by rw [ct_cv]; exact h2) (kk ls hk)) k
theorem gs_iadd {x y : Int} (hd : decode fi.2.1 pc = .ok (.iadd, 1)) (k : G X fi d (pc + 1) L (vI (x + y) :: st) hp Q) : G X fi d pc L (vI y :: vI x :: st) hp Q :=
  G.step (fun p e R s m args below meth c H locs cells slots ls QQ hS hR hk kk => lv_iadd hS.1 hS.2.1 hd (by rw [← Int32.ofInt_add]; exact kk ls hk)) k
theorem gs_isub {x y : Int} (hd : decode fi.2.1 pc = .ok (.isub, 1)) (k : G X fi d (pc + 1) L (vI (x - y) :: st) hp Q) : G X fi d pc L (vI y :: vI x :: st) hp Q :=
  G.step (fun p e R s m args below meth c H locs cells slots ls QQ hS hR hk kk => lv_isub hS.1 hS.2.1 hd (by rw [← Int32.ofInt_sub]; exact kk ls hk)) k
theorem gs_imul {x y : Int} (hd : decode fi.2.1 pc = .ok (.imul, 1)) (k : G X fi d (pc + 1) L (vI (x * y) :: st) hp Q) : G X fi d pc L (vI y :: vI x :: st) hp Q :=
  G.step (fun p e R s m args below meth c H locs cells slots ls QQ hS hR hk kk => lv_imul hS.1 hS.2.1 hd (by rw [← Int32.ofInt_mul]; exact kk ls hk)) k
theorem gs_ineg {x : Int} (hd : decode fi.2.1 pc = .ok (.ineg, 1)) (k : G X fi d (pc + 1) L (vI (-x) :: st) hp Q) : G X fi d pc L (vI x :: st) hp Q :=
  G.step (fun p e R s m args below meth c H locs cells slots ls QQ hS hR hk kk => lv_ineg hS.1 hS.2.1 hd (by rw [← Int32.ofInt_neg]; exact kk ls hk)) k
theorem gs_iand {x y z : Int} (hd : decode fi.2.1 pc = .ok (.iand, 1)) (hz : Int32.ofInt x &&& Int32.ofInt y = Int32.ofInt z) (k : G X fi d (pc + 1) L (vI z :: st) hp Q) : G X fi d pc L (vI y :: vI x :: st) hp Q :=
  G.step (fun p e R s m args below meth c H locs cells slots ls QQ hS hR hk kk => lv_iand hS.1 hS.2.1 hd (by rw [hz]; exact kk ls hk)) k
theorem gs_ior {x y z : Int} (hd : decode fi.2.1 pc = .ok (.ior, 1)) (hz : Int32.ofInt x ||| Int32.ofInt y = Int32.ofInt z) (k : G X fi d (pc + 1) L (vI z :: st) hp Q) : G X fi d pc L (vI y :: vI x :: st) hp Q :=
  G.step (fun p e R s m args below meth c H locs cells slots ls QQ hS hR hk kk => lv_ior hS.1 hS.2.1 hd (by rw [hz]; exact kk ls hk)) k
theorem gs_ixor {x y z : Int} (hd : decode fi.2.1 pc = .ok (.ixor, 1)) (hz : Int32.ofInt x ^^^ Int32.ofInt y = Int32.ofInt z) (k : G X fi d (pc + 1) L (vI z :: st) hp Q) : G X fi d pc L (vI y :: vI x :: st) hp Q :=
  G.step (fun p e R s m args below meth c H locs cells slots ls QQ hS hR hk kk => lv_ixor hS.1 hS.2.1 hd (by rw [hz]; exact kk ls hk)) k
theorem gs_ishl {x y z : Int} (hd : decode fi.2.1 pc = .ok (.ishl, 1)) (hz : Int32.ofInt x <<< (Int32.ofInt y &&& 31) = Int32.ofInt z) (k : G X fi d (pc + 1) L (vI z :: st) hp Q) : G X fi d pc L (vI y :: vI x :: st) hp Q :=
  G.step (fun p e R s m args below meth c H locs cells slots ls QQ hS hR hk kk => lv_ishl hS.1 hS.2.1 hd (by rw [hz]; exact kk ls hk)) k
theorem gs_ishr {x y z : Int} (hd : decode fi.2.1 pc = .ok (.ishr, 1)) (hz : Int32.ofInt x >>> (Int32.ofInt y &&& 31) = Int32.ofInt z) (k : G X fi d (pc + 1) L (vI z :: st) hp Q) : G X fi d pc L (vI y :: vI x :: st) hp Q :=
  G.step (fun p e R s m args below meth c H locs cells slots ls QQ hS hR hk kk => lv_ishr hS.1 hS.2.1 hd (by rw [hz]; exact kk ls hk)) k
theorem gs_iushr {x y z : Int} (hd : decode fi.2.1 pc = .ok (.iushr, 1)) (hz : ((Int32.ofInt x).toUInt32 >>> ((Int32.ofInt y).toUInt32 &&& Int32.toUInt32 31)).toInt32 = Int32.ofInt z) (k : G X fi d (pc + 1) L (vI z :: st) hp Q) : G X fi d pc L (vI y :: vI x :: st) hp Q :=
  G.step (fun p e R s m args below meth c H locs cells slots ls QQ hS hR hk kk => lv_iushr hS.1 hS.2.1 hd hz (kk ls hk)) k
theorem gs_irem {x y z : Int} (hd : decode fi.2.1 pc = .ok (.irem, 1)) (hy : ¬ Int32.ofInt y = 0) (hz : Int32.ofInt x - Int32.ofInt x / Int32.ofInt y * Int32.ofInt y = Int32.ofInt z) (k : G X fi d (pc + 1) L (vI z :: st) hp Q) : G X fi d pc L (vI y :: vI x :: st) hp Q :=
  G.step (fun p e R s m args below meth c H locs cells slots ls QQ hS hR hk kk => lv_irem hS.1 hS.2.1 hd hy (by rw [hz]; exact kk ls hk)) k
theorem gs_i2b {x z : Int} (hd : decode fi.2.1 pc = .ok (.i2b, 1)) (hz : (Int32.ofInt x).toInt8.toInt32 = Int32.ofInt z) (k : G X fi d (pc + 1) L (vI z :: st) hp Q) : G X fi d pc L (vI x :: st) hp Q :=
  G.step (fun p e R s m args below meth c H locs cells slots ls QQ hS hR hk kk => lv_i2b hS.1 hS.2.1 hd hz (kk ls hk)) k
theorem gs_i2c {x z : Int} (hd : decode fi.2.1 pc = .ok (.i2c, 1)) (hz : ((Int32.ofInt x).toUInt32 % 65536).toInt32 = Int32.ofInt z) (k : G X fi d (pc + 1) L (vI z :: st) hp Q) : G X fi d pc L (vI x :: st) hp Q :=
  G.step (fun p e R s m args below meth c H locs cells slots ls QQ hS hR hk kk => lv_i2c hS.1 hS.2.1 hd hz (kk ls hk)) k
theorem gs_i2l {x : Int} (hd : decode fi.2.1 pc = .ok (.i2l, 1)) (k : G X fi d (pc + 1) L (vL (Int32.ofInt x).toInt64 :: st) hp Q) : G X fi d pc L (vI x :: st) hp Q :=
  G.step (fun p e R s m args below meth c H locs cells slots ls QQ hS hR hk kk => lv_i2l hS.1 hS.2.1 hd rfl (kk ls hk)) k
theorem gs_ladd {x y : Int64} (hd : decode fi.2.1 pc = .ok (.ladd, 1)) (k : G X fi d (pc + 1) L (vL (x + y) :: st) hp Q) : G X fi d pc L (vL y :: vL x :: st) hp Q :=
  G.step (fun p e R s m args below meth c H locs cells slots ls QQ hS hR hk kk => lv_ladd hS.1 hS.2.1 hd (kk ls hk)) k
theorem gs_lmul {x y : Int64} (hd : decode fi.2.1 pc = .ok (.lmul, 1)) (k : G X fi d (pc + 1) L (vL (x * y) :: st) hp Q) : G X fi d pc L (vL y :: vL x :: st) hp Q :=
  G.step (fun p e R s m args below meth c H locs cells slots ls QQ hS hR hk kk => lv_lmul hS.1 hS.2.1 hd (kk ls hk)) k
theorem gs_lsub {x y : Int64} (hd : decode fi.2.1 pc = .ok (.lsub, 1)) (k : G X fi d (pc + 1) L (vL (x - y) :: st) hp Q) : G X fi d pc L (vL y :: vL x :: st) hp Q :=
  G.step (fun p e R s m args below meth c H locs cells slots ls QQ hS hR hk kk => lv_lsub hS.1 hS.2.1 hd (kk ls hk)) k
theorem gs_lcmp {x y : Int64} (hd : decode fi.2.1 pc = .ok (.lcmp, 1)) (k : ∀ z : Int, Int32.ofInt z = lg_cmp x y → G X fi d (pc + 1) L (vI z :: st) hp Q) : G X fi d pc L (vL y :: vL x :: st) hp Q :=
  G.step (fun p e R s m args below meth c H locs cells slots ls QQ hS hR hk kk => W.lcmp hS.1 hS.2.1 hd (by rw [← (Int32.ofInt_toInt (lg_cmp x y))]; exact kk ls hk)) (k (lg_cmp x y).toInt (Int32.ofInt_toInt _))
theorem gs_r {x : Int} (h : -2147483648 ≤ x ∧ x ≤ 2147483647) : (Int32.ofInt x).toInt = x := Int32.toInt_ofInt_of_le (by omega) (by omega)
theorem gs_lt {x y : Int} (h : -2147483648 ≤ x ∧ x ≤ 2147483647) (h2 : -2147483648 ≤ y ∧ y ≤ 2147483647) : Int32.ofInt x < Int32.ofInt y ↔ x < y := by rw [Int32.lt_iff_toInt_lt, gs_r h, gs_r h2]
theorem gs_le {x y : Int} (h : -2147483648 ≤ x ∧ x ≤ 2147483647) (h2 : -2147483648 ≤ y ∧ y ≤ 2147483647) : Int32.ofInt x ≤ Int32.ofInt y ↔ x ≤ y := by rw [Int32.le_iff_toInt_le, gs_r h, gs_r h2]
theorem gs_eq {x y : Int} (h : -2147483648 ≤ x ∧ x ≤ 2147483647) (h2 : -2147483648 ≤ y ∧ y ≤ 2147483647) : Int32.ofInt x = Int32.ofInt y ↔ x = y := ⟨fun e => by rw [← gs_r h, ← gs_r h2, e], fun e => by rw [e]⟩
theorem gs_if_eq {x off : Int} {tgt : Nat} (hd : decode fi.2.1 pc = .ok (.ifCond .eq off, 3)) (ht : (pc : Int) + off = (tgt : Int)) (hx : -2147483648 ≤ x ∧ x ≤ 2147483647) (kt : x = 0 → G X fi d tgt L st hp Q) (kf : ¬ (x = 0) → G X fi d (pc + 3) L st hp Q) : G X fi d pc L (vI x :: st) hp Q := by
  have he := gs_eq (y := 0) hx ⟨by omega, by omega⟩
  by_cases h : x = 0
  · exact G.step (fun p e R s m args below meth c H locs cells slots ls QQ hS hR hk kk => lv_if_eq hS.1 hS.2.1 hd ht (fun _ => kk ls hk) (fun q => absurd (he.mpr h) q)) (kt h)
  · exact G.step (fun p e R s m args below meth c H locs cells slots ls QQ hS hR hk kk => lv_if_eq hS.1 hS.2.1 hd ht (fun q => absurd (he.mp q) h) (fun _ => kk ls hk)) (kf h)
theorem gs_ic_eq {x y off : Int} {tgt : Nat} (hd : decode fi.2.1 pc = .ok (.if_icmp .eq off, 3)) (ht : (pc : Int) + off = (tgt : Int)) (hx : (-2147483648 ≤ x ∧ x ≤ 2147483647) ∧ -2147483648 ≤ y ∧ y ≤ 2147483647) (kt : x = y → G X fi d tgt L st hp Q) (kf : ¬ (x = y) → G X fi d (pc + 3) L st hp Q) : G X fi d pc L (vI y :: vI x :: st) hp Q := by
  have he := gs_eq hx.1 hx.2
  by_cases h : x = y
  · exact G.step (fun p e R s m args below meth c H locs cells slots ls QQ hS hR hk kk => lv_icmp_eq hS.1 hS.2.1 hd ht (fun _ => kk ls hk) (fun q => absurd (he.mpr h) q)) (kt h)
  · exact G.step (fun p e R s m args below meth c H locs cells slots ls QQ hS hR hk kk => lv_icmp_eq hS.1 hS.2.1 hd ht (fun q => absurd (he.mp q) h) (fun _ => kk ls hk)) (kf h)
theorem gs_if_ne {x off : Int} {tgt : Nat} (hd : decode fi.2.1 pc = .ok (.ifCond .ne off, 3)) (ht : (pc : Int) + off = (tgt : Int)) (hx : -2147483648 ≤ x ∧ x ≤ 2147483647) (kt : ¬ x = 0 → G X fi d tgt L st hp Q) (kf : x = 0 → G X fi d (pc + 3) L st hp Q) : G X fi d pc L (vI x :: st) hp Q := by
  have he := gs_eq (y := 0) hx ⟨by omega, by omega⟩
  by_cases h : x = 0
  · exact G.step (fun p e R s m args below meth c H locs cells slots ls QQ hS hR hk kk => lv_if_ne hS.1 hS.2.1 hd ht (fun q => absurd (he.mpr h) q) (fun _ => kk ls hk)) (kf h)
  · exact G.step (fun p e R s m args below meth c H locs cells slots ls QQ hS hR hk kk => lv_if_ne hS.1 hS.2.1 hd ht (fun _ => kk ls hk) (fun q => absurd (he.mp q) h)) (kt h)
theorem gs_ic_ne {x y off : Int} {tgt : Nat} (hd : decode fi.2.1 pc = .ok (.if_icmp .ne off, 3)) (ht : (pc : Int) + off = (tgt : Int)) (hx : (-2147483648 ≤ x ∧ x ≤ 2147483647) ∧ -2147483648 ≤ y ∧ y ≤ 2147483647) (kt : ¬ x = y → G X fi d tgt L st hp Q) (kf : x = y → G X fi d (pc + 3) L st hp Q) : G X fi d pc L (vI y :: vI x :: st) hp Q := by
  have he := gs_eq hx.1 hx.2
  by_cases h : x = y
  · exact G.step (fun p e R s m args below meth c H locs cells slots ls QQ hS hR hk kk => lv_icmp_ne hS.1 hS.2.1 hd ht (fun q => absurd (he.mpr h) q) (fun _ => kk ls hk)) (kf h)
  · exact G.step (fun p e R s m args below meth c H locs cells slots ls QQ hS hR hk kk => lv_icmp_ne hS.1 hS.2.1 hd ht (fun _ => kk ls hk) (fun q => absurd (he.mp q) h)) (kt h)
theorem gs_if_lt {x off : Int} {tgt : Nat} (hd : decode fi.2.1 pc = .ok (.ifCond .lt off, 3)) (ht : (pc : Int) + off = (tgt : Int)) (hx : -2147483648 ≤ x ∧ x ≤ 2147483647) (kt : x < 0 → G X fi d tgt L st hp Q) (kf : ¬ (x < 0) → G X fi d (pc + 3) L st hp Q) : G X fi d pc L (vI x :: st) hp Q := by
  have he := gs_lt (y := 0) hx ⟨by omega, by omega⟩
  by_cases h : x < 0
  · exact G.step (fun p e R s m args below meth c H locs cells slots ls QQ hS hR hk kk => lv_if_lt hS.1 hS.2.1 hd ht (fun _ => kk ls hk) (fun q => absurd (he.mpr h) q)) (kt h)
  · exact G.step (fun p e R s m args below meth c H locs cells slots ls QQ hS hR hk kk => lv_if_lt hS.1 hS.2.1 hd ht (fun q => absurd (he.mp q) h) (fun _ => kk ls hk)) (kf h)
theorem gs_ic_lt {x y off : Int} {tgt : Nat} (hd : decode fi.2.1 pc = .ok (.if_icmp .lt off, 3)) (ht : (pc : Int) + off = (tgt : Int)) (hx : (-2147483648 ≤ x ∧ x ≤ 2147483647) ∧ -2147483648 ≤ y ∧ y ≤ 2147483647) (kt : x < y → G X fi d tgt L st hp Q) (kf : ¬ (x < y) → G X fi d (pc + 3) L st hp Q) : G X fi d pc L (vI y :: vI x :: st) hp Q := by
  have he := gs_lt hx.1 hx.2
  by_cases h : x < y
  · exact G.step (fun p e R s m args below meth c H locs cells slots ls QQ hS hR hk kk => lv_icmp_lt hS.1 hS.2.1 hd ht (fun _ => kk ls hk) (fun q => absurd (he.mpr h) q)) (kt h)
  · exact G.step (fun p e R s m args below meth c H locs cells slots ls QQ hS hR hk kk => lv_icmp_lt hS.1 hS.2.1 hd ht (fun q => absurd (he.mp q) h) (fun _ => kk ls hk)) (kf h)
theorem gs_if_ge {x off : Int} {tgt : Nat} (hd : decode fi.2.1 pc = .ok (.ifCond .ge off, 3)) (ht : (pc : Int) + off = (tgt : Int)) (hx : -2147483648 ≤ x ∧ x ≤ 2147483647) (kt : 0 ≤ x → G X fi d tgt L st hp Q) (kf : ¬ (0 ≤ x) → G X fi d (pc + 3) L st hp Q) : G X fi d pc L (vI x :: st) hp Q := by
  have he := gs_le (x := 0) (y := x) ⟨by omega, by omega⟩ hx
  by_cases h : 0 ≤ x
  · exact G.step (fun p e R s m args below meth c H locs cells slots ls QQ hS hR hk kk => lv_if_ge hS.1 hS.2.1 hd ht (fun _ => kk ls hk) (fun q => absurd (he.mpr h) q)) (kt h)
  · exact G.step (fun p e R s m args below meth c H locs cells slots ls QQ hS hR hk kk => lv_if_ge hS.1 hS.2.1 hd ht (fun q => absurd (he.mp q) h) (fun _ => kk ls hk)) (kf h)
theorem gs_ic_ge {x y off : Int} {tgt : Nat} (hd : decode fi.2.1 pc = .ok (.if_icmp .ge off, 3)) (ht : (pc : Int) + off = (tgt : Int)) (hx : (-2147483648 ≤ x ∧ x ≤ 2147483647) ∧ -2147483648 ≤ y ∧ y ≤ 2147483647) (kt : y ≤ x → G X fi d tgt L st hp Q) (kf : ¬ (y ≤ x) → G X fi d (pc + 3) L st hp Q) : G X fi d pc L (vI y :: vI x :: st) hp Q := by
  have he := gs_le hx.2 hx.1
  by_cases h : y ≤ x
  · exact G.step (fun p e R s m args below meth c H locs cells slots ls QQ hS hR hk kk => lv_icmp_ge hS.1 hS.2.1 hd ht (fun _ => kk ls hk) (fun q => absurd (he.mpr h) q)) (kt h)
  · exact G.step (fun p e R s m args below meth c H locs cells slots ls QQ hS hR hk kk => lv_icmp_ge hS.1 hS.2.1 hd ht (fun q => absurd (he.mp q) h) (fun _ => kk ls hk)) (kf h)
theorem gs_if_gt {x off : Int} {tgt : Nat} (hd : decode fi.2.1 pc = .ok (.ifCond .gt off, 3)) (ht : (pc : Int) + off = (tgt : Int)) (hx : -2147483648 ≤ x ∧ x ≤ 2147483647) (kt : 0 < x → G X fi d tgt L st hp Q) (kf : ¬ (0 < x) → G X fi d (pc + 3) L st hp Q) : G X fi d pc L (vI x :: st) hp Q := by
  have he := gs_lt (x := 0) (y := x) ⟨by omega, by omega⟩ hx
  by_cases h : 0 < x
  · exact G.step (fun p e R s m args below meth c H locs cells slots ls QQ hS hR hk kk => lv_if_gt hS.1 hS.2.1 hd ht (fun _ => kk ls hk) (fun q => absurd (he.mpr h) q)) (kt h)
  · exact G.step (fun p e R s m args below meth c H locs cells slots ls QQ hS hR hk kk => lv_if_gt hS.1 hS.2.1 hd ht (fun q => absurd (he.mp q) h) (fun _ => kk ls hk)) (kf h)
theorem gs_ic_gt {x y off : Int} {tgt : Nat} (hd : decode fi.2.1 pc = .ok (.if_icmp .gt off, 3)) (ht : (pc : Int) + off = (tgt : Int)) (hx : (-2147483648 ≤ x ∧ x ≤ 2147483647) ∧ -2147483648 ≤ y ∧ y ≤ 2147483647) (kt : y < x → G X fi d tgt L st hp Q) (kf : ¬ (y < x) → G X fi d (pc + 3) L st hp Q) : G X fi d pc L (vI y :: vI x :: st) hp Q := by
  have he := gs_lt hx.2 hx.1
  by_cases h : y < x
  · exact G.step (fun p e R s m args below meth c H locs cells slots ls QQ hS hR hk kk => lv_icmp_gt hS.1 hS.2.1 hd ht (fun _ => kk ls hk) (fun q => absurd (he.mpr h) q)) (kt h)
  · exact G.step (fun p e R s m args below meth c H locs cells slots ls QQ hS hR hk kk => lv_icmp_gt hS.1 hS.2.1 hd ht (fun q => absurd (he.mp q) h) (fun _ => kk ls hk)) (kf h)
theorem gs_if_le {x off : Int} {tgt : Nat} (hd : decode fi.2.1 pc = .ok (.ifCond .le off, 3)) (ht : (pc : Int) + off = (tgt : Int)) (hx : -2147483648 ≤ x ∧ x ≤ 2147483647) (kt : x ≤ 0 → G X fi d tgt L st hp Q) (kf : ¬ (x ≤ 0) → G X fi d (pc + 3) L st hp Q) : G X fi d pc L (vI x :: st) hp Q := by
  have he := gs_le (y := 0) hx ⟨by omega, by omega⟩
  by_cases h : x ≤ 0
  · exact G.step (fun p e R s m args below meth c H locs cells slots ls QQ hS hR hk kk => lv_if_le hS.1 hS.2.1 hd ht (fun _ => kk ls hk) (fun q => absurd (he.mpr h) q)) (kt h)
  · exact G.step (fun p e R s m args below meth c H locs cells slots ls QQ hS hR hk kk => lv_if_le hS.1 hS.2.1 hd ht (fun q => absurd (he.mp q) h) (fun _ => kk ls hk)) (kf h)
theorem gs_ic_le {x y off : Int} {tgt : Nat} (hd : decode fi.2.1 pc = .ok (.if_icmp .le off, 3)) (ht : (pc : Int) + off = (tgt : Int)) (hx : (-2147483648 ≤ x ∧ x ≤ 2147483647) ∧ -2147483648 ≤ y ∧ y ≤ 2147483647) (kt : x ≤ y → G X fi d tgt L st hp Q) (kf : ¬ (x ≤ y) → G X fi d (pc + 3) L st hp Q) : G X fi d pc L (vI y :: vI x :: st) hp Q := by
  have he := gs_le hx.1 hx.2
  by_cases h : x ≤ y
  · exact G.step (fun p e R s m args below meth c H locs cells slots ls QQ hS hR hk kk => lv_icmp_le hS.1 hS.2.1 hd ht (fun _ => kk ls hk) (fun q => absurd (he.mpr h) q)) (kt h)
  · exact G.step (fun p e R s m args below meth c H locs cells slots ls QQ hS hR hk kk => lv_icmp_le hS.1 hS.2.1 hd ht (fun q => absurd (he.mp q) h) (fun _ => kk ls hk)) (kf h)
theorem gs_goto {off : Int} {tgt : Nat} (hd : decode fi.2.1 pc = .ok (.goto off, 3)) (ht : (pc : Int) + off = (tgt : Int)) (k : G X fi d tgt L st hp Q) : G X fi d pc L st hp Q :=
  G.step (fun p e R s m args below meth c H locs cells slots ls QQ hS hR hk kk => lv_goto hS.1 hS.2.1 hd ht (kk ls hk)) k
theorem gs_ifnull {r : Option Nat} {off : Int} {tgt : Nat} (hd : decode fi.2.1 pc = .ok (.ifnull off, 3)) (ht : (pc : Int) + off = (tgt : Int)) (kt : r = none → G X fi d tgt L st hp Q) (kf : ∀ a, r = some a → G X fi d (pc + 3) L st hp Q) : G X fi d pc L (vR r :: st) hp Q := by
  cases r with
  | none => exact G.step (fun p e R s m args below meth c H locs cells slots ls QQ hS hR hk kk => lv_ifnullN hS.1 hS.2.1 hd ht (kk ls hk)) (kt rfl)
  | some a => exact G.step (fun p e R s m args below meth c H locs cells slots ls QQ hS hR hk kk => lv_ifnull hS.1 hS.2.1 hd (kk ls hk)) (kf a rfl)
theorem gs_ifnonnull {r : Option Nat} {off : Int} {tgt : Nat} (hd : decode fi.2.1 pc = .ok (.ifnonnull off, 3)) (ht : (pc : Int) + off = (tgt : Int)) (kt : ∀ a, r = some a → G X fi d tgt L st hp Q) (kf : r = none → G X fi d (pc + 3) L st hp Q) : G X fi d pc L (vR r :: st) hp Q := by
  cases r with
  | none => exact G.step (fun p e R s m args below meth c H locs cells slots ls QQ hS hR hk kk => lv_ifnonnullN hS.1 hS.2.1 hd (kk ls hk)) (kf rfl)
  | some a => exact G.step (fun p e R s m args below meth c H locs cells slots ls QQ hS hR hk kk => lv_ifnonnull hS.1 hS.2.1 hd ht (kk ls hk)) (kt a rfl)
theorem gs_acmp_eq {rx ry : Option Nat} {off : Int} {tgt : Nat} (hd : decode fi.2.1 pc = .ok (.if_acmp .eq off, 3)) (ht : (pc : Int) + off = (tgt : Int)) (kt : rx = ry → G X fi d tgt L st hp Q) (kf : ¬ rx = ry → G X fi d (pc + 3) L st hp Q) : G X fi d pc L (vR ry :: vR rx :: st) hp Q := by
  by_cases h : rx = ry
  · exact G.step (fun p e R s m args below meth c H locs cells slots ls QQ hS hR hk kk => lv_acmp_eq hS.1 hS.2.1 hd ht (fun _ => kk ls hk) (fun q => absurd h q)) (kt h)
  · exact G.step (fun p e R s m args below meth c H locs cells slots ls QQ hS hR hk kk => lv_acmp_eq hS.1 hS.2.1 hd ht (fun q => absurd q h) (fun _ => kk ls hk)) (kf h)
theorem gs_acmp_ne {rx ry : Option Nat} {off : Int} {tgt : Nat} (hd : decode fi.2.1 pc = .ok (.if_acmp .ne off, 3)) (ht : (pc : Int) + off = (tgt : Int)) (kt : ¬ rx = ry → G X fi d tgt L st hp Q) (kf : rx = ry → G X fi d (pc + 3) L st hp Q) : G X fi d pc L (vR ry :: vR rx :: st) hp Q := by
  by_cases h : rx = ry
  · exact G.step (fun p e R s m args below meth c H locs cells slots ls QQ hS hR hk kk => lv_acmp_ne hS.1 hS.2.1 hd ht (fun q => absurd h q) (fun _ => kk ls hk)) (kf h)
  · exact G.step (fun p e R s m args below meth c H locs cells slots ls QQ hS hR hk kk => lv_acmp_ne hS.1 hS.2.1 hd ht (fun _ => kk ls hk) (fun q => absurd q h)) (kt h)
theorem gs_tableIn {dflt lo hi : Int} {offs : Array Int} {len : Nat} {x off : Int} {tgt : Nat} (hd : decode fi.2.1 pc = .ok (.tableswitch dflt lo hi offs, len)) (hx : -2147483648 ≤ x ∧ x ≤ 2147483647) (h1 : ¬ x < lo) (h2 : ¬ hi < x) (ho : offs[(x - lo).toNat]? = some off) (ht : (pc : Int) + off = (tgt : Int)) (k : G X fi d tgt L st hp Q) : G X fi d pc L (vI x :: st) hp Q :=
  G.step (fun p e R s m args below meth c H locs cells slots ls QQ hS hR hk kk => lv_tableIn hS.1 hS.2.1 hd (by rw [gs_r hx]; exact h1) (by rw [gs_r hx]; exact h2) (by rw [gs_r hx]; exact ho) ht (kk ls hk)) k
theorem gs_tableOut {dflt lo hi : Int} {offs : Array Int} {len : Nat} {x : Int} {tgt : Nat} (hd : decode fi.2.1 pc = .ok (.tableswitch dflt lo hi offs, len)) (hx : -2147483648 ≤ x ∧ x ≤ 2147483647) (h1 : x < lo ∨ hi < x) (ht : (pc : Int) + dflt = (tgt : Int)) (k : G X fi d tgt L st hp Q) : G X fi d pc L (vI x :: st) hp Q :=
  G.step (fun p e R s m args below meth c H locs cells slots ls QQ hS hR hk kk => lv_tableOut hS.1 hS.2.1 hd (by rw [gs_r hx]; exact h1) ht (kk ls hk)) k
end GC
