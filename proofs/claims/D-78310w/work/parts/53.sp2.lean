/-! THE SPECIFICATION, part 2: the walk over the tokens; what is decided for a line. -/
def tkD : Tok := (0, 0, 0, 0, [])
/-- the k-th token; its pair (none: -9) -/
def tA (T : List Tok) (k : Nat) : Tok := T.getD k tkD
def prT (S : SS) (T : List Tok) (k : Nat) : Int := rfor S 1 (tA T k).2.2.2.2 12
def rlD : Rl := (0, 0, 0, 0, 0, [], [])
def rlA (S : SS) (r : Int) : Rl := (S.2.1 r.toNat).getD rlD
/-- the rule of the block that token k opens -/
def blR (S : SS) (T : List Tok) (k : Nat) : Rl := rlA S (prT S T k)
def held (z : Int) : Int := max 0 (min 40 z)
/-- the greatest b < n with p b -/
def topB (p : Nat → Bool) : Nat → Option Nat
  | 0 => none
  | n + 1 => if p n then some n else topB p n
/-- the k-th block's opening token, the lowest first -/
def opK (st : List Nat) (b : Nat) : Nat := st.getD b 0
/-- which of the lowest n blocks a text closes -/
def cloB (S : SS) (T : List Tok) (st : List Nat) (x : List Int) (n : Nat) : Option Nat := match topB (fun b => decide ((blR S T (opK st b)).2.2.2.2.2.2 = x)) n with
  | none => none
  | some b => if (List.range n).all (fun c => decide (b < c → (blR S T (opK st c)).2.1 < (blR S T (opK st b)).2.1)) then some b else none
/-- stack (numbers of opening tokens), opened by, closed by, which tokens opened, strays, lost -/
abbrev Wk : Type := List Nat × (Nat → Int) × (Nat → Int) × (Nat → Bool) × Int × Int
def wk0 : Wk := ([], fun _ => -9, fun _ => -9, fun _ => false, 0, 0)
def nup (f : Nat → Int) (k : Nat) (v : Int) : Nat → Int := fun j => if j = k then v else f j
/-- whether a block's content begins at a token's column -/
def alB (S : SS) (T : List Tok) (k : Nat) : Bool := decide ((blR S T k).2.2.2.1 = 1 ∧ k + 1 < fstO S ((tA T k).1 + 1))
/-- the content's column of the block that token k opens -/
def colB (S : SS) (T : List Tok) (ind : Nat → Int) (stp : Int) (k : Nat) : Int := if alB S T k then ind (tA T k).1 + (tA T (k + 1)).2.1 else held (ind (tA T k).1 + (blR S T k).2.2.1 * stp)
def wkS1 (S : SS) (T : List Tok) (W : Wk) (k : Nat) : Wk := match cloB S T W.1 (tA T k).2.2.2.2 W.1.length with
  | some b => (W.1.take b, nup W.2.1 k (opK W.1 b), nup W.2.2.1 (opK W.1 b) k, W.2.2.2.1, W.2.2.2.2.1, W.2.2.2.2.2 + ((W.1.length : Int) - 1 - b))
  | none => (W.1, W.2.1, W.2.2.1, W.2.2.2.1, W.2.2.2.2.1 + b2i (clsT S (tA T k).2.2.2.2), W.2.2.2.2.2)
def opnB (S : SS) (T : List Tok) (k n : Nat) : Bool := decide (prT S T k ≠ -9 ∧ n < 12)
def wkO (S : SS) (T : List Tok) (V : Wk) (k : Nat) : Wk := (if opnB S T k V.1.length then V.1 ++ [k] else V.1, V.2.1, V.2.2.1, fun j => if j = k then opnB S T k V.1.length else V.2.2.2.1 j, V.2.2.2.2)
def wkS (S : SS) (T : List Tok) (W : Wk) (k : Nat) : Wk := wkO S T (wkS1 S T W k) k
/-- the first n tokens are passed -/
def wkN (S : SS) (T : List Tok) : Nat → Wk
  | 0 => wk0
  | n + 1 => wkS S T (wkN S T n) n
/-- which blocks a line closes at its beginning: how many stay, which was the last closed, whether it goes on -/
def dcL (S : SS) (T : List Tok) (st : List Nat) (lo : Nat) : Nat → Nat × Option Nat × Bool
  | 0 => (st.length, none, true)
  | n + 1 => if (dcL S T st lo n).2.2 then (match cloB S T st (tA T (lo + n)).2.2.2.2 (dcL S T st lo n).1 with
    | some b => (b, some b, !opnB S T (lo + n) b)
    | none => ((dcL S T st lo n).1, (dcL S T st lo n).2.1, false)) else dcL S T st lo n
/-- column, reason, rule, with the greatest precedence so far -/
abbrev Dc : Type := Int × Int × Int
/-- the base of what is decided: ground, reason, rule -/
def dc0 (S : SS) (T : List Tok) (ind : Nat → Int) (stp bse : Int) (st : List Nat) (m : Nat) : Dc := if m = 0 then (bse, 0, -9) else (colB S T ind stp (opK st (m - 1)), if alB S T (opK st (m - 1)) then 2 else 1, prT S T (opK st (m - 1)))
/-- where a closer of the block of token k goes -/
def dcC (S : SS) (T : List Tok) (ind : Nat → Int) (stp : Int) (k : Nat) : Int := if (blR S T k).2.2.2.2.1 = 0 then ind (tA T k).1 else if (blR S T k).2.2.2.2.1 = 1 then colB S T ind stp k else ind (tA T k).1 + (tA T k).2.1
/-- a rule r (none: -9) takes, if its precedence is greater: precedence, decision -/
def dcT (S : SS) (gr stp why : Int) (r : Int) (q : Int × Dc) : Int × Dc := if r ≠ -9 ∧ q.1 < (rlA S r).2.1 then ((rlA S r).2.1, (gr + (rlA S r).2.2.1 * stp, why, r)) else q
def dcd (S : SS) (T : List Tok) (ind : Nat → Int) (stp bse : Int) (i : Nat) : Dc :=
  let lo := fstO S i
  let hi := fstO S (i + 1)
  let W := wkN S T lo
  let q := dcL S T W.1 lo (hi - lo)
  let d0 := dc0 S T ind stp bse W.1 q.1
  let d1 : Int × Dc := match q.2.1 with
    | some b => ((blR S T (opK W.1 b)).2.1, (dcC S T ind stp (opK W.1 b), 3, prT S T (opK W.1 b)))
    | none => (-1, d0)
  let d2 := dcT S d0.1 stp 4 (if lo < hi then rfor S 2 (tA T lo).2.2.2.2 12 else -9) d1
  let d3 := dcT S d0.1 stp 5 (if lo < hi ∧ 0 < lo ∧ W.2.2.2.1 (lo - 1) = false then rfor S 3 (tA T (lo - 1)).2.2.2.2 12 else -9) d2
  (held d3.2.1, d3.2.2.1, d3.2.2.2)
/-- the state's own indentations -/
def indS (S : SS) (i : Nat) : Int := (S.1.getD i (0, [], false)).1
def blkL (S : SS) (i : Nat) : Bool := (S.1.getD i (0, [], false)).2.1.isEmpty
def pinB (S : SS) (i : Nat) : Bool := (S.1.getD i (0, [], false)).2.2
def freL (S : SS) (i : Nat) : Bool := !blkL S i && !prot S i
/-- a line is decided for with the state's indentations -/
def dcS (S : SS) (stp bse : Int) (i : Nat) : Dc := dcd S (toks S) (indS S) stp bse i
/-- line i is indented anew: indentations, the set of changed ones -/
def reS (S : SS) (stp bse : Int) (i : Nat) (q : (Nat → Int) × (Nat → Bool)) : (Nat → Int) × (Nat → Bool) :=
  if freL S i && !pinB S i then (nup q.1 i (dcd S (toks S) q.1 stp bse i).1, fun j => if j = i then decide (q.1 i ≠ (dcd S (toks S) q.1 stp bse i).1) else q.2 j) else q
/-- lines lo .. lo + n - 1 -/
def rei (S : SS) (stp bse : Int) (lo : Nat) : Nat → (Nat → Int) × (Nat → Bool)
  | 0 => (indS S, fun _ => false)
  | n + 1 => reS S stp bse (lo + n) (rei S stp bse lo n)
def setN (f : Nat → Bool) : Nat → Nat
  | 0 => 0
  | n + 1 => setN f n + (if f n then 2 ^ n else 0)
def cntN (f : Nat → Bool) : Nat → Nat
  | 0 => 0
  | n + 1 => cntN f n + (if f n then 1 else 0)
