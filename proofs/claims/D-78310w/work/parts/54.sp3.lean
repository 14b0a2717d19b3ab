/-! THE SPECIFICATION, part 3: the calls. -/
/-- the present state, past ones (the oldest first), images, the text buffer -/
abbrev AS : Type := SS × List SS × Option SS × Option SS × List Int
def as0 : AS := (([], fun _ => none, 4, 0, 35), [], none, none, [])
def nL (S : SS) : Nat := S.1.length
/-- a change: the present state is remembered -/
def chg (A : AS) (S : SS) : AS := (S, (if A.2.1.length = 8 then A.2.1.drop 1 else A.2.1) ++ [A.1], A.2.2)
def isL (A : AS) (i : Int) : Bool := decide (0 ≤ i ∧ i < A.1.1.length)
def lnA (S : SS) (i : Nat) : Ln := S.1.getD i (0, [], false)
def lead (s : List Int) : Nat := (s.takeWhile (fun c => decide (c = 32))).length
def bare (s : List Int) : List Int := ((s.dropWhile (fun c => decide (c = 32))).reverse.dropWhile (fun c => decide (c = 32))).reverse
/-- the text buffer as a line -/
def typL (t : List Int) : Option (Int × List Int) := if bare t = [] then some (0, []) else if 40 < lead t ∨ 32 < (bare t).length then none else some (lead t, bare t)
def upL (S : SS) (i : Nat) (l : Ln) : SS := (S.1.set i l, S.2)
def sp_type (A : AS) (c : Int) : Int × AS := if 32 ≤ c ∧ c ≤ 126 then (if A.2.2.2.2.length = 72 then (-3, A) else ((A.2.2.2.2.length : Int) + 1, (A.1, A.2.1, A.2.2.1, A.2.2.2.1, A.2.2.2.2 ++ [c]))) else (-1, A)
def sp_clear (A : AS) : Int × AS := (A.2.2.2.2.length, (A.1, A.2.1, A.2.2.1, A.2.2.2.1, []))
def sp_insert (A : AS) (i : Int) : Int × AS := if 0 ≤ i ∧ i ≤ nL A.1 then (match typL A.2.2.2.2 with
  | some l => if nL A.1 = 20 then (-3, A) else ((nL A.1 : Int) + 1, chg A (A.1.1.take i.toNat ++ (l.1, l.2, false) :: A.1.1.drop i.toNat, A.1.2))
  | none => (-3, A)) else (-1, A)
def sp_replace (A : AS) (i : Int) : Int × AS := if isL A i then (match typL A.2.2.2.2 with
  | some l => ((lnA A.1 i.toNat).1, chg A (upL A.1 i.toNat (l.1, l.2, (lnA A.1 i.toNat).2.2)))
  | none => (-3, A)) else (-1, A)
def sp_remove (A : AS) (i : Int) : Int × AS := if isL A i then ((nL A.1 : Int) - 1, chg A (A.1.1.eraseIdx i.toNat, A.1.2)) else (-1, A)
/-- the state behind a split, the new line's indentation not yet found -/
def splS (S : SS) (i k : Nat) : SS := (S.1.take i ++ ((lnA S i).1, bare ((lnA S i).2.1.take k), (lnA S i).2.2) :: (0, bare ((lnA S i).2.1.drop k), false) :: S.1.drop (i + 1), S.2)
def sp_split (A : AS) (i k : Int) : Int × AS := if isL A i ∧ 1 ≤ k ∧ k < (lnA A.1 i.toNat).2.1.length then (if nL A.1 = 20 then (-3, A) else
    (let S1 := splS A.1 i.toNat k.toNat
     let c := if freL S1 (i.toNat + 1) then (dcS S1 S1.2.2.1 S1.2.2.2.1 (i.toNat + 1)).1 else 0
     (c, chg A (upL S1 (i.toNat + 1) (c, (lnA S1 (i.toNat + 1)).2))))) else (-1, A)
def sp_join (A : AS) (i : Int) : Int × AS := if isL A i ∧ isL A (i + 1) then
    (let x := lnA A.1 i.toNat
     let y := lnA A.1 (i.toNat + 1)
     let j := if x.2.1 = [] then y.2.1 else if y.2.1 = [] then x.2.1 else x.2.1 ++ 32 :: y.2.1
     if 32 < j.length then (-3, A) else ((j.length : Int), chg A ((A.1.1.set i.toNat (if x.2.1 = [] then y.1 else x.1, j, x.2.2)).eraseIdx (i.toNat + 1), A.1.2))) else (-1, A)
def rngB (A : AS) (f t : Int) : Bool := decide (0 ≤ f ∧ f ≤ t ∧ t ≤ nL A.1)
def sp_shift (A : AS) (f t d : Int) : Int × AS := if rngB A f t ∧ -40 ≤ d ∧ d ≤ 40 then
    (let R := (List.range (t.toNat - f.toNat)).map (· + f.toNat)
     if R.all (fun i => blkL A.1 i || decide (0 ≤ (lnA A.1 i).1 + d ∧ (lnA A.1 i).1 + d ≤ 40)) then
       (((R.filter (fun i => !blkL A.1 i)).length : Int), chg A (A.1.1.mapIdx (fun i l => if f ≤ i ∧ (i : Int) < t ∧ l.2.1 ≠ [] then (l.1 + d, l.2) else l), A.1.2))
     else (-2, A)) else (-1, A)
def sp_pin (A : AS) (i : Int) : Int × AS := if isL A i then (b2i (!pinB A.1 i.toNat), chg A (upL A.1 i.toNat ((lnA A.1 i.toNat).1, (lnA A.1 i.toNat).2.1, !pinB A.1 i.toNat))) else (-1, A)
def sp_reindent (A : AS) (f t : Int) : Int × AS := if rngB A f t then
    (let q := rei A.1 A.1.2.2.1 A.1.2.2.2.1 f.toNat (t.toNat - f.toNat)
     ((cntN q.2 (nL A.1) : Int), chg A (A.1.1.mapIdx (fun i l => if f ≤ i ∧ (i : Int) < t then (q.1 i, l.2) else l), A.1.2))) else (-1, A)
def sp_lines (A : AS) : Int := nL A.1
def sp_indentation (A : AS) (i : Int) : Int := if isL A i then (lnA A.1 i.toNat).1 else -1
def sp_length (A : AS) (i : Int) : Int := if isL A i then (lnA A.1 i.toNat).2.1.length else -1
def sp_byteAt (A : AS) (i k : Int) : Int := if isL A i ∧ 0 ≤ k then (lnA A.1 i.toNat).2.1.getD k.toNat (-9) else -1
def sp_isProtected (A : AS) (i : Int) : Int := if isL A i then b2i (prot A.1 i.toNat) else -1
def sp_isPinned (A : AS) (i : Int) : Int := if isL A i then b2i (pinB A.1 i.toNat) else -1
def sp_setStep (A : AS) (v : Int) : Int × AS := if 1 ≤ v ∧ v ≤ 8 then (A.1.2.2.1, chg A (A.1.1, A.1.2.1, v, A.1.2.2.2)) else (-1, A)
def sp_setBase (A : AS) (v : Int) : Int × AS := if 0 ≤ v ∧ v ≤ 20 then (A.1.2.2.2.1, chg A (A.1.1, A.1.2.1, A.1.2.2.1, v, A.1.2.2.2.2)) else (-1, A)
def cmOk (c : Int) : Bool := decide (c = 0) || (inB c 33 126 && !decide (c = 34) && !wordB c)
def sp_setComment (A : AS) (c : Int) : Int × AS := if cmOk c then (A.1.2.2.2.2, chg A (A.1.1, A.1.2.1, A.1.2.2.1, A.1.2.2.2.1, c)) else (-1, A)
/-- the next text of a rule from a place on: its end and itself, or the fault's place -/
def rdT (t : List Int) (p : Nat) : (Nat × List Int) ⊕ Nat :=
  let q := p + lead (t.drop p)
  let n := wrdS (t.drop q)
  if 8 < n then .inr (q + 8) else if 0 < n then .inl (q + n, (t.drop q).take n) else if t.length ≤ q then .inr q else if t.getD q 0 = 34 then .inr q else .inl (q + 1, [t.getD q 0])
/-- nothing may follow: the fault's place -/
def rdE (t : List Int) (p : Nat) : Option Nat := if t.length ≤ p + lead (t.drop p) then none else some (p + lead (t.drop p))
def rlB (r p : Int) : Bool := inB r 0 11 && inB p 0 9
def lay (A : AS) (r : Int) (R : Rl) : Int × AS := (b2i (A.1.2.1 r.toNat).isSome, chg A (A.1.1, (fun k => if k = r.toNat then some R else A.1.2.1 k), A.1.2.2))
def sp_pair (A : AS) (r p s m c : Int) : Int × AS := if rlB r p && inB s 0 4 && inB m 0 1 && inB c 0 2 then (match rdT A.2.2.2.2 0 with
  | .inr f => (-10 - (f : Int), A)
  | .inl x => (match rdT A.2.2.2.2 x.1 with
    | .inr f => (-10 - (f : Int), A)
    | .inl y => (match rdE A.2.2.2.2 y.1 with
      | some f => (-10 - (f : Int), A)
      | none => lay A r (1, p, s, m, c, x.2, y.2)))) else (-1, A)
def sp_single (A : AS) (so r p s : Int) : Int × AS := if rlB r p && inB s (-4) 4 then (match rdT A.2.2.2.2 0 with
  | .inr f => (-10 - (f : Int), A)
  | .inl x => (match rdE A.2.2.2.2 x.1 with
    | some f => (-10 - (f : Int), A)
    | none => lay A r (so, p, s, 0, 0, x.2, []))) else (-1, A)
def sp_dropRule (A : AS) (r : Int) : Int × AS := if inB r 0 11 && (A.1.2.1 r.toNat).isSome then ((((List.range 12).filter (fun k => decide (k ≠ r.toNat) && (A.1.2.1 k).isSome)).length : Int), chg A (A.1.1, (fun k => if k = r.toNat then none else A.1.2.1 k), A.1.2.2)) else (-1, A)
def sp_dec (A : AS) (w : Dc → Int) (i : Int) : Int := if isL A i then (if freL A.1 i.toNat then w (dcS A.1 A.1.2.2.1 A.1.2.2.2.1 i.toNat) else -9) else -1
def sp_wouldChange (A : AS) : Int := setN (rei A.1 A.1.2.2.1 A.1.2.2.2.1 0 (nL A.1)).2 (nL A.1)
def chB (S : SS) (stp bse : Int) : Int := cntN (rei S stp bse 0 (nL S)).2 (nL S)
def sp_changesWith (A : AS) (s b : Int) : Int := if 1 ≤ s ∧ s ≤ 8 ∧ 0 ≤ b ∧ b ≤ 20 then chB A.1 s b else -1
/-- the best of the first n settings (by 21 bases) -/
def bst (S : SS) : Nat → Int × Int
  | 0 => (1, 0)
  | n + 1 => if chB S (1 + (n / 21 : Nat)) (n % 21 : Nat) < chB S (bst S n).1 (bst S n).2 then (1 + (n / 21 : Nat), (n % 21 : Nat)) else bst S n
def sp_fewest (A : AS) : Int := chB A.1 (bst A.1 168).1 (bst A.1 168).2
def sp_bestStep (A : AS) : Int := (bst A.1 168).1
def sp_bestBase (A : AS) : Int := (bst A.1 168).2
def tkN (S : SS) (i : Nat) : Nat := fstO S (i + 1) - fstO S i
def isT (A : AS) (i k : Int) : Bool := isL A i && decide (0 ≤ k ∧ k < tkN A.1 i.toNat)
def sp_tokens (A : AS) (i : Int) : Int := if isL A i then tkN A.1 i.toNat else -1
def sp_tok (A : AS) (w : Tok → Nat) (i k : Int) : Int := if isT A i k then (w (tA (toks A.1) (fstO A.1 i.toNat + k.toNat)) : Int) else -1
def plc (S : SS) (z : Int) : Int := if z = -9 then -9 else 100 * ((tA (toks S) z.toNat).1 : Int) + z - fstO S (tA (toks S) z.toNat).1
def wkA (S : SS) (i : Nat) : Wk := wkN S (toks S) (fstO S i)
def sp_part (A : AS) (w : Wk → Nat → Int) (i k : Int) : Int := if isT A i k then plc A.1 (w (wkA A.1 (nL A.1)) (fstO A.1 i.toNat + k.toNat)) else -1
def sp_depth (A : AS) (i : Int) : Int := if 0 ≤ i ∧ i ≤ nL A.1 then ((wkA A.1 i.toNat).1.length : Int) else -1
def isBk (A : AS) (i k : Int) : Bool := decide (0 ≤ i ∧ i ≤ nL A.1 ∧ 0 ≤ k ∧ k < (wkA A.1 i.toNat).1.length)
def sp_blockRule (A : AS) (i k : Int) : Int := if isBk A i k then prT A.1 (toks A.1) (opK (wkA A.1 i.toNat).1 k.toNat) else -1
def sp_blockOpening (A : AS) (i k : Int) : Int := if isBk A i k then (let t := tA (toks A.1) (opK (wkA A.1 i.toNat).1 k.toNat); 100 * (t.1 : Int) + indS A.1 t.1 + t.2.1) else -1
def sp_contentColumn (A : AS) (i k : Int) : Int := if isBk A i k then colB A.1 (toks A.1) (indS A.1) A.1.2.2.1 (opK (wkA A.1 i.toNat).1 k.toNat) else -1
def sp_strays (A : AS) : Int := (wkA A.1 (nL A.1)).2.2.2.2.1
def sp_lost (A : AS) : Int := (wkA A.1 (nL A.1)).2.2.2.2.2
