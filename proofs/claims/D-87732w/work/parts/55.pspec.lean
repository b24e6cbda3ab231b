/-! THE SPEC of what is read: routines. A reader's state is the place of the token at hand -/
set_option maxRecDepth 100000
abbrev Flt : Type := Nat × Nat
section PS
variable (tp : Nat → Nat) (td : Nat)
/-- the next token's place -/
def nx (f : Nat) : Nat := skp tp td (tEnd tp td f)
def flt (f n : Nat) : Flt := (if srt tp td f = 4 then 1 else n, f)
def isS (f c : Nat) : Bool := decide (srt tp td f = 3) && decide (tp f = c)
def sameW : List Nat → Nat → Bool
  | [], _ => true
  | c :: w, i => decide (tp i = c) && sameW w (i + 1)
def isW (f : Nat) (w : List Nat) : Bool := decide (srt tp td f = 1) && (decide (rnE tp td f = f + w.length) && sameW tp w f)
abbrev wTell : List Nat := [116, 101, 108, 108]
abbrev wGo : List Nat := [103, 111]
abbrev wIf : List Nat := [105, 102]
abbrev wLeave : List Nat := [108, 101, 97, 118, 101]
/-- a letter, and the number behind it -/
def numb (f c most : Nat) : Option Nat :=
  if srt tp td f = 1 ∧ tp f = c ∧ wDg tp td f = f + 1 ∧ wDg tp td f < rnE tp td f ∧ ¬ (f + 2 < rnE tp td f ∧ tp (f + 1) = 48) ∧ dec tp (rnE tp td f - (f + 1)) (f + 1) 0 ≤ most then some (dec tp (rnE tp td f - (f + 1)) (f + 1) 0) else none
def nmA (f : Nat) : Option Nat := match numb tp td f 118 15 with
  | some v => some v
  | none => match numb tp td f 116 31 with
    | some t => some (16 + t)
    | none => none
abbrev Opd : Type := Int32 × Int32
def opnd (f : Nat) : Except Flt (Opd × Nat) := match nmA tp td f with
  | some n => .ok ((nn n, 0), nx tp td f)
  | none =>
    if isS tp td f 45 then (if srt tp td (nx tp td f) = 2 then .ok ((-1, - nn (nVal tp td (nx tp td f))), nx tp td (nx tp td f)) else .error (flt tp td (nx tp td f) 2))
    else if srt tp td f = 2 then .ok ((-1, nn (nVal tp td f)), nx tp td f) else .error (flt tp td f 2)
def sgx (f c : Nat) : Except Flt Nat := if isS tp td f c then .ok (nx tp td f) else .error (flt tp td f 2)
def tgt (f : Nat) : Except Flt (Nat × Nat) := match numb tp td f 98 39 with
  | some b => .ok (b, nx tp td f)
  | none => .error (flt tp td f 2)
/-- a sum: its sign; for a row's place the sign is 114, the first is (-1, row) -/
abbrev Sm : Type := Int32 × Opd × Opd
/-- kind, name, row, operands, sum, blocks that it names with their places -/
abbrev Itm : Type := Nat × Int32 × Int32 × Opd × Opd × Option Sm × List (Nat × Nat)
def isOp9 (f : Nat) : Bool := decide (srt tp td f = 3) && [43, 45, 42, 47, 38, 94].contains (tp f)
def valu (n : Nat) (f : Nat) : Except Flt (Itm × Nat) := match numb tp td f 114 1 with
  | some row => do
    let g ← sgx tp td (nx tp td f) 91
    let (a, g) ← opnd tp td g
    let g ← sgx tp td g 93
    .ok ((0, nn n, 0, (0, 0), (0, 0), some (114, (-1, nn row), a), []), g)
  | none => do
    let (a, g) ← opnd tp td f
    if isOp9 tp td g then do
      let (b, g') ← opnd tp td (nx tp td g)
      .ok ((0, nn n, 0, (0, 0), (0, 0), some (nn (tp g), a, b), []), g')
    else .ok ((1, nn n, 0, a, (0, 0), none, []), g)
def line9 (f : Nat) : Except Flt (Itm × Nat) := match nmA tp td f with
  | some n => do
    let g ← sgx tp td (nx tp td f) 61
    valu tp td n g
  | none => match numb tp td f 114 1 with
    | some row => do
      let g ← sgx tp td (nx tp td f) 91
      let (a, g) ← opnd tp td g
      let g ← sgx tp td g 93
      let g ← sgx tp td g 61
      let (b, g) ← opnd tp td g
      .ok ((2, -1, nn row, a, b, none, []), g)
    | none =>
      if isW tp td f wTell then do
        let (a, g) ← opnd tp td (nx tp td f)
        .ok ((3, -1, 0, a, (0, 0), none, []), g)
      else if isW tp td f wGo then do
        let (b, g) ← tgt tp td (nx tp td f)
        .ok ((4, -1, 0, (0, 0), (0, 0), none, [(nx tp td f, b)]), g)
      else if isW tp td f wIf then do
        let (a, g) ← opnd tp td (nx tp td f)
        let g ← sgx tp td g 60
        let (b, g) ← opnd tp td g
        let (t1, g1) ← tgt tp td g
        let (t2, g2) ← tgt tp td g1
        .ok ((5, -1, 0, a, b, none, [(g, t1), (g1, t2)]), g2)
      else .ok ((6, -1, 0, (0, 0), (0, 0), none, []), nx tp td f)
def begs (f : Nat) : Bool := (nmA tp td f).isSome || (numb tp td f 114 1).isSome || isW tp td f wTell || isW tp td f wGo || isW tp td f wIf || isW tp td f wLeave
/-- a line with its ';', when l lines are read -/
def stmt (f l : Nat) : Except Flt (Itm × Nat) :=
  if begs tp td f = false then .error (flt tp td f 2) else if 160 ≤ l then .error (flt tp td f 3) else do
    let (it, g) ← line9 tp td f
    let g ← sgx tp td g 59
    .ok (it, g)
/-- the lines of a block, up to its end -/
def body : Nat → Nat → Nat → Except Flt (List Itm × Nat)
  | 0, f, _ => .error (flt tp td f 3)
  | n + 1, f, l => do
    let (it, g) ← stmt tp td f l
    if 4 ≤ it.1 then .ok ([it], g) else do
      let (its, g) ← body n g (l + 1)
      .ok (it :: its, g)
/-- a block: where its head is, its lines -/
abbrev Blk : Type := Nat × List Itm
def blk (f nb l : Nat) : Except Flt (Blk × Nat) :=
  if 40 ≤ nb then .error (flt tp td f 3) else if numb tp td f 98 39 ≠ some nb then .error (flt tp td f 2) else do
    let g ← sgx tp td (nx tp td f) 58
    let (its, g) ← body tp td (161 - l) g l
    .ok ((f, its), g)
def blks : Nat → Nat → Nat → Nat → Except Flt (List Blk)
  | 0, f, _, _ => .error (flt tp td f 3)
  | n + 1, f, nb, l => do
    let (b, g) ← blk tp td f nb l
    if srt tp td g = 0 then .ok [b] else do
      let bs ← blks n g (nb + 1) (l + b.2.length)
      .ok (b :: bs)
end PS
