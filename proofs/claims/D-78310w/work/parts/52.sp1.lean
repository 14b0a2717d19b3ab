/-! THE SPECIFICATION, part 1: lines, rules, states, tokens. Plain Lean, no program in sight. -/
/-- a line: indentation, content, whether it is pinned -/
abbrev Ln : Type := Int × List Int × Bool
/-- a rule: sort (1 pair, 2 starter, 3 joiner), precedence, steps, mode, closing mode, text, closer -/
abbrev Rl : Type := Int × Int × Int × Int × Int × List Int × List Int
/-- a state: lines, rules, step, base, comment byte -/
abbrev SS : Type := List Ln × (Nat → Option Rl) × Int × Int × Int
/-- three quotation marks -/
def trip (s : List Int) : Bool := decide (s.getD 0 0 = 34 ∧ s.getD 1 0 = 34 ∧ s.getD 2 0 = 34)
/-- how far it is to behind the next three quotation marks -/
def litS : List Int → Option Nat
  | [] => none
  | c :: t => if trip (c :: t) then some 3 else (litS t).map (· + 1)
/-- how far it is to behind a string's end -/
def strS : List Int → Nat
  | [] => 0
  | c :: t => if c = 34 then 1 else if c = 92 then (match t with
    | [] => 1
    | _ :: u => 2 + strS u) else 1 + strS t
def wrdS (s : List Int) : Nat := (s.takeWhile wordB).length
/-- a token of a line: place, length, kind (0 word, 1 sign, 2 quoted) -/
abbrev Tk : Type := Nat × Nat × Nat
def tk (cm : Int) : Nat → Nat → List Int → List Tk × Bool
  | 0, _, _ => ([], false)
  | _ + 1, _, [] => ([], false)
  | f + 1, p, c :: t =>
    if c = 32 then tk cm f (p + 1) t
    else if c = cm then ([], false)
    else if trip (c :: t) then (match litS (t.drop 2) with
      | some n => ((p, 3 + n, 2) :: (tk cm f (p + 3 + n) (t.drop (2 + n))).1, (tk cm f (p + 3 + n) (t.drop (2 + n))).2)
      | none => ([(p, (c :: t).length, 2)], true))
    else if c = 34 then ((p, 1 + strS t, 2) :: (tk cm f (p + 1 + strS t) (t.drop (strS t))).1, (tk cm f (p + 1 + strS t) (t.drop (strS t))).2)
    else if wordB c then ((p, 1 + wrdS t, 0) :: (tk cm f (p + 1 + wrdS t) (t.drop (wrdS t))).1, (tk cm f (p + 1 + wrdS t) (t.drop (wrdS t))).2)
    else ((p, 1, 1) :: (tk cm f (p + 1) t).1, (tk cm f (p + 1) t).2)
/-- a line's tokens, and whether a literal goes on behind it; op: whether one goes on into it -/
def lt (cm : Int) (op : Bool) (s : List Int) : List Tk × Bool := if op then (match litS s with
  | none => ([], true)
  | some n => tk cm 33 n (s.drop n)) else tk cm 33 0 s
/-- by line: its tokens, whether it is protected -/
def tks (cm : Int) : Bool → List Ln → List (List Tk × Bool)
  | _, [] => []
  | op, l :: ls => ((lt cm op l.2.1).1, op && !l.2.1.isEmpty) :: tks cm (lt cm op l.2.1).2 ls
/-- a token: line, place, length, kind, text (of a quoted one: none) -/
abbrev Tok : Type := Nat × Nat × Nat × Nat × List Int
def mkT (i : Nat) (s : List Int) (k : Tk) : Tok := (i, k.1, k.2.1, k.2.2, if k.2.2 < 2 then (s.drop k.1).take k.2.1 else [])
def flt : Nat → List Ln → List (List Tk × Bool) → List Tok
  | i, l :: ls, r :: rs => r.1.map (mkT i l.2.1) ++ flt (i + 1) ls rs
  | _, _, _ => []
/-- all tokens of a state -/
def toks (S : SS) : List Tok := flt 0 S.1 (tks S.2.2.2.2 false S.1)
/-- the number of tokens ahead of line i -/
def fstO (S : SS) (i : Nat) : Nat := (((tks S.2.2.2.2 false S.1).take i).map (fun r => r.1.length)).sum
def prot (S : SS) (i : Nat) : Bool := ((tks S.2.2.2.2 false S.1).getD i ([], false)).2
def rPr (S : SS) (b : Int) : Int := match S.2.1 b.toNat with
  | some R => R.2.1
  | none => 0
/-- the rule of a sort that is used for a text; none: -9 -/
def rfor (S : SS) (so : Int) (x : List Int) : Nat → Int
  | 0 => -9
  | r + 1 => match S.2.1 r with
    | some R => if R.1 = so ∧ R.2.2.2.2.2.1 = x ∧ (rfor S so x r = -9 ∨ rPr S (rfor S so x r) < R.2.1) then (r : Int) else rfor S so x r
    | none => rfor S so x r
/-- whether a text closes some pair -/
def clsT (S : SS) (x : List Int) : Bool := (List.range 12).any (fun r => match S.2.1 r with
  | some R => decide (R.1 = 1 ∧ R.2.2.2.2.2.2 = x)
  | none => false)
