/-! THE SPEC of what is read: tokens -/
set_option maxRecDepth 100000
def bk (c : Nat) : Bool := c == 32 || c == 10
def lt9 (c : Nat) : Bool := decide (97 ≤ c) && decide (c ≤ 122)
def dg9 (c : Nat) : Bool := decide (48 ≤ c) && decide (c ≤ 57)
def ald (c : Nat) : Bool := lt9 c || dg9 c
/-- on from q while P holds, at most n -/
def adv (P : Nat → Bool) : Nat → Nat → Nat
  | 0, q => q
  | n + 1, q => if P q then adv P n (q + 1) else q
theorem adv_ge (P : Nat → Bool) : ∀ n q, q ≤ adv P n q
  | 0, q => Nat.le_refl q
  | n + 1, q => by unfold adv; split; exact Nat.le_trans (Nat.le_succ q) (adv_ge P n (q + 1)); exact Nat.le_refl q
theorem adv_le (P : Nat → Bool) : ∀ n q, adv P n q ≤ q + n
  | 0, q => Nat.le_refl q
  | n + 1, q => by
    unfold adv; split
    · have := adv_le P n (q + 1); omega
    · omega
theorem adv_all (P : Nat → Bool) : ∀ n q i, q ≤ i → i < adv P n q → P i = true
  | 0, q, i, h1, h2 => by simp [adv] at h2; omega
  | n + 1, q, i, h1, h2 => by
    unfold adv at h2
    split at h2
    · next h => by_cases e : i = q
                · subst e; exact h
                · exact adv_all P n (q + 1) i (by omega) h2
    · omega
theorem adv_end (P : Nat → Bool) : ∀ n q, adv P n q = q + n ∨ P (adv P n q) = false
  | 0, q => Or.inl rfl
  | n + 1, q => by
    unfold adv; split
    · rcases adv_end P n (q + 1) with h | h
      · left; omega
      · right; exact h
    · next h => right; simpa using h
/-- where the token behind q begins; where a token that begins at f ends -/
def skp (tp : Nat → Nat) (td q : Nat) : Nat := adv (fun i => bk (tp i)) (td - q) q
def rnE (tp : Nat → Nat) (td f : Nat) : Nat := adv (fun i => ald (tp i)) (td - f) f
def sgn9 (c : Nat) : Bool := [58, 59, 61, 43, 45, 42, 47, 38, 94, 60, 91, 93].contains c
def tEnd (tp : Nat → Nat) (td f : Nat) : Nat := if td ≤ f then f else if ald (tp f) then rnE tp td f else f + 1
/-- all of P from i up to j -/
def allF (P : Nat → Bool) (i j : Nat) : Bool := decide (j ≤ adv P (j - i) i)
/-- the digits of a word begin -/
def wDg (tp : Nat → Nat) (td f : Nat) : Nat := adv (fun i => lt9 (tp i)) (rnE tp td f - f) f
/-- 0 end, 1 word, 2 number, 3 sign, 4 none -/
def srt (tp : Nat → Nat) (td f : Nat) : Nat :=
  if td ≤ f then 0 else if lt9 (tp f) then (if rnE tp td f - f ≤ 8 ∧ allF (fun i => dg9 (tp i)) (wDg tp td f) (rnE tp td f) = true then 1 else 4)
  else if dg9 (tp f) then (if rnE tp td f - f ≤ 9 ∧ allF (fun i => dg9 (tp i)) f (rnE tp td f) = true then 2 else 4)
  else if sgn9 (tp f) then 3 else 4
/-- the digits from i, n of them, as a number -/
def dec (tp : Nat → Nat) : Nat → Nat → Nat → Nat
  | 0, _, v => v
  | n + 1, i, v => dec tp n (i + 1) (10 * v + (tp i - 48))
def nVal (tp : Nat → Nat) (td f : Nat) : Nat := dec tp (rnE tp td f - f) f 0
