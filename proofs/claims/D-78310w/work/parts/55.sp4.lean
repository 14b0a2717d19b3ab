/-! THE SPECIFICATION, part 4: counts, history, drawing, the digest. -/
/-- the texts of the tokens that are not quoted, in order -/
def txs (S : SS) : List (List Int) := ((toks S).filter (fun t => decide (t.2.2.2.1 < 2))).map (fun t => t.2.2.2.2)
/-- the different ones, in the order in which they occur first -/
def dst (L : List (List Int)) : List (List Int) := L.foldl (fun acc x => if x ∈ acc then acc else acc ++ [x]) []
def cmn (L : List (List Int)) : Option (List Int) × Nat := (dst L).foldl (fun q x => if q.2 < L.count x then (some x, L.count x) else q) (none, 0)
def sp_vocabulary (A : AS) : Int := (dst (txs A.1)).length
def sp_commonestCount (A : AS) : Int := if (cmn (txs A.1)).1 = none then -9 else (cmn (txs A.1)).2
def sp_commonestByte (A : AS) (k : Int) : Int := if k < 0 then -1 else (match (cmn (txs A.1)).1 with
  | none => -9
  | some x => x.getD k.toNat (-9))
def sp_undo (A : AS) : Int × AS := match A.2.1.getLast? with
  | none => (-2, A)
  | some S => ((A.2.1.length : Int) - 1, (S, A.2.1.dropLast, A.2.2))
def img (A : AS) (k : Int) : Option SS := if k = 0 then A.2.2.1 else if k = 1 then A.2.2.2.1 else none
def sp_keep (A : AS) (k : Int) : Int × AS := if k = 0 then (b2i A.2.2.1.isSome, (A.1, A.2.1, some A.1, A.2.2.2)) else if k = 1 then (b2i A.2.2.2.1.isSome, (A.1, A.2.1, A.2.2.1, some A.1, A.2.2.2.2)) else (-1, A)
def sp_back (A : AS) (k : Int) : Int × AS := match img A k with
  | none => (-1, A)
  | some S => ((nL S : Int), (S, [], A.2.2))
/-- the next number of the generator; what is drawn with it -/
def nxD (z : Int) : Int := z * 1103515245 + 12345
def outD (z : Int) : Int := z / 65536 % 32768
def pcs (k : Nat) : List Int := match k with
  | 0 => [97, 40]
  | 1 => [41]
  | 2 => [123]
  | 3 => [125]
  | 4 => [91, 120, 44]
  | 5 => [93]
  | 6 => [98, 101, 103, 105, 110]
  | 7 => [101, 110, 100]
  | 8 => [99, 97, 115, 101]
  | 9 => [34, 115, 34]
  | 10 => [35, 99]
  | 11 => [121, 43]
  | 12 => [34, 34, 34]
  | 13 => [122]
  | 14 => [102, 40, 98, 44]
  | _ => [59]
/-- n pieces: the generator, the text -/
def drP (z : Int) : Nat → Int × List Int
  | 0 => (z, [])
  | n + 1 => (nxD (drP z n).1, (drP z n).2 ++ ((if n = 0 then [] else [32]) ++ pcs (outD (nxD (drP z n).1) % 16).toNat))
def drL (z : Int) : Int × Ln := ((drP (nxD (nxD z)) (1 + outD (nxD (nxD z)) % 3).toNat).1, (outD (nxD z) % 12, (drP (nxD (nxD z)) (1 + outD (nxD (nxD z)) % 3).toNat).2, false))
/-- n lines -/
def drN (z : Int) : Nat → Int × List Ln
  | 0 => (z, [])
  | n + 1 => ((drL (drN z n).1).1, (drN z n).2 ++ [(drL (drN z n).1).2])
def sp_draw (A : AS) (z n : Int) : Int × AS := if 1 ≤ n ∧ n ≤ 12 then (let q := min n.toNat (20 - nL A.1); ((q : Int), chg A (A.1.1 ++ (drN z q).2, A.1.2))) else (-1, A)
def mx (h : Int64) (v : Int) : Int64 := 31 * h + (Int32.ofInt v).toInt64
def mxT (h : Int64) (s : List Int) : Int64 := s.foldl mx h
def mxR (h : Int64) (o : Option Rl) : Int64 := match o with
  | none => mx h 0
  | some R => if R.1 = 1 then mxT (mx (mxT (mx (mx (mx (mx (mx h R.1) R.2.1) R.2.2.1) R.2.2.2.1) R.2.2.2.2.1) R.2.2.2.2.2.1) 32) R.2.2.2.2.2.2 else mxT (mx (mx (mx h R.1) R.2.1) R.2.2.1) R.2.2.2.2.2.1
def mxL (A : AS) (h : Int64) : Nat → Int64
  | 0 => h
  | n + 1 => mx (mx (mxT (mx (mx (mxL A h n) (lnA A.1 n).1) (lnA A.1 n).2.1.length) (lnA A.1 n).2.1) (b2i (lnA A.1 n).2.2)) (sp_dec A (fun d => d.1) n)
def mxRs (S : SS) (h : Int64) : Nat → Int64
  | 0 => h
  | n + 1 => mxR (mxRs S h n) (S.2.1 n)
def sp_digest (A : AS) : Int64 := mx (mx (mx (mxRs A.1 (mx (mx (mx (mxL A (mx 18310 (nL A.1)) (nL A.1)) A.1.2.2.1) A.1.2.2.2.1) A.1.2.2.2.2) 12) A.2.1.length) (b2i A.2.2.1.isSome + b2i A.2.2.2.1.isSome)) A.2.2.2.2.length
/-! what always holds of a state -/
def txOk (x : List Int) : Prop := 1 ≤ x.length ∧ x.length ≤ 8 ∧ ∀ c ∈ x, 33 ≤ c ∧ c ≤ 126
def lnOk (l : Ln) : Prop := 0 ≤ l.1 ∧ l.1 ≤ 40 ∧ l.2.1.length ≤ 32 ∧ (∀ c ∈ l.2.1, 32 ≤ c ∧ c ≤ 126) ∧ (l.2.1 = [] → l.1 = 0) ∧ l.2.1.head? ≠ some 32 ∧ l.2.1.getLast? ≠ some 32
def rlOk (R : Rl) : Prop := (1 ≤ R.1 ∧ R.1 ≤ 3) ∧ (0 ≤ R.2.1 ∧ R.2.1 ≤ 9) ∧ (-4 ≤ R.2.2.1 ∧ R.2.2.1 ≤ 4) ∧ (R.1 = 1 → 0 ≤ R.2.2.1) ∧ (0 ≤ R.2.2.2.1 ∧ R.2.2.2.1 ≤ 1) ∧ (0 ≤ R.2.2.2.2.1 ∧ R.2.2.2.2.1 ≤ 2) ∧ txOk R.2.2.2.2.2.1 ∧ (R.1 = 1 → txOk R.2.2.2.2.2.2)
def ssOk (S : SS) : Prop := S.1.length ≤ 20 ∧ (∀ l ∈ S.1, lnOk l) ∧ (∀ r R, S.2.1 r = some R → rlOk R) ∧ (1 ≤ S.2.2.1 ∧ S.2.2.1 ≤ 8) ∧ (0 ≤ S.2.2.2.1 ∧ S.2.2.2.1 ≤ 20) ∧ cmOk S.2.2.2.2 = true
def asOk (A : AS) : Prop := ssOk A.1 ∧ (A.2.1.length ≤ 8 ∧ ∀ S ∈ A.2.1, ssOk S) ∧ (∀ S, A.2.2.1 = some S → ssOk S) ∧ (∀ S, A.2.2.2.1 = some S → ssOk S) ∧ A.2.2.2.2.length ≤ 72 ∧ ∀ c ∈ A.2.2.2.2, 32 ≤ c ∧ c ≤ 126
