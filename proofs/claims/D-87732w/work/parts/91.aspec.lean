/-! THE SPEC of a whole: places, and what is asked -/
set_option maxRecDepth 100000
def ix (x : Int32) (n : Nat) : Option Nat := if 0 ≤ x.toInt ∧ x.toInt < n then some x.toInt.toNat else none
theorem ix_some {x : Int32} {n q : Nat} (h : ix x n = some q) : x = nn q ∧ q < n ∧ q < 2147483648 := by
  unfold ix at h
  split at h
  · next c =>
    cases h
    have h1 := Int32.toInt_lt x
    have h2 : x.toInt.toNat < 2147483648 := by omega
    refine ⟨?_, by omega, h2⟩
    rw [← Int32.toInt_inj, nn_toInt h2]; omega
  · cases h
theorem ix_none {x : Int32} {n : Nat} (h : ix x n = none) (hn : n < 2147483648) : x < 0 ∨ nn n ≤ x := by
  unfold ix at h
  split at h
  · cases h
  · next c =>
    rw [Int32.lt_iff_toInt_lt, Int32.le_iff_toInt_le, nn_toInt hn, Int32.toInt_zero]
    omega
theorem ix_nn {q n : Nat} (hq : q < n) (hn : q < 2147483648) : ix (nn q) n = some q := by
  unfold ix; rw [nn_toInt hn, if_pos (by omega)]; simp
abbrev PlA : Type := Option (Rt × List Nat)
def pl9 (P : Nat → PlA) (p : Int32) : PlA := match ix p 4 with
  | some q => P q
  | none => none
def qAbout (R : Rt) (w : Int32) : Int32 := if w = 0 then nn R.2.length else if w = 1 then nn (nds R).length else if w = 2 then nn (sms R.1).length else if w = 3 then nn ((nds R).length - R.1.length) else if w = 4 then nn R.1.length else -1
noncomputable def qNode (R : Rt) (k : Nat) (w : Int32) : Int32 := if w = 0 then nn (nK (ndA (nds R) k)) else if w = 1 then nn (nB (ndA (nds R) k)) else if w = 2 then onn (nSm (ndA (nds R) k)) else if w = 3 then onn (t1R R k) else if w = 4 then onn (t2R R k) else if w = 5 then nn (cntT (nds R).length (fun a => b9 (t1R R a = some k ∨ t2R R a = some k))) else -1
def codO (o : Opd) : Int32 := if o.1 < 0 then (if 999 < o.2 then 999 else if o.2 < -999 then -999 else o.2) else if o.1 < 16 then 1000 + o.1 else 2000 + o.1 - 16
noncomputable def qSum (R : Rt) (e : Nat) (w : Int32) : Int32 := if w = 0 then (smA R e).1 else if w = 1 then codO (smA R e).2.1 else if w = 2 then codO (smA R e).2.2 else if w = 3 then b2i (b9 (boldS (smA R e))) 1 else if w = 4 then nn (cntT (nds R).length (fun k => b9 (wkP R e k))) else -1
noncomputable def qAt (R : Rt) (e k w : Nat) : Int32 := b2i (b9 (fct R e w k)) 1
def setP (R : Rt) (pl e k : Nat) : Prop := (pl = 1 ∧ fct R e 4 k) ∨ (pl = 2 ∧ fct R e 6 k ∧ ¬ fct R e 7 k)
def tknP (R : Rt) (pl e k : Nat) : Prop := fct R e 0 k ∧ (pl = 1 ∨ pl = 2 ∧ ¬ (fct R e 6 k ∧ fct R e 7 k))
def alvP (R : Rt) (pl e k : Nat) : Prop := ∀ S : Nat → Prop, (∀ j, j < (nds R).length → ¬ setP R pl e j → (tknP R pl e j ∨ ∃ i, (t1R R j = some i ∨ t2R R j = some i) ∧ S i) → S j) → S k
noncomputable def qPlaced (R : Rt) (pl e k w : Nat) : Int32 := if w = 0 then b2i (b9 (setP R pl e k)) 1 else if w = 1 then b2i (b9 (tknP R pl e k)) 1 else b2i (b9 (alvP R pl e k)) 1
noncomputable def qLife (R : Rt) (pl e : Nat) : Int32 := nn (cntT (nds R).length (fun k => b9 (alvP R pl e k)))
noncomputable def qPlaces (R : Rt) (pl e w : Nat) : Int32 := nn (cntT (nds R).length (fun k => b9 (if w = 0 then setP R pl e k else tknP R pl e k)))
/-- the answers, by place -/
def sAbout (P : Nat → PlA) (p w : Int32) : Int32 := match pl9 P p with
  | some x => qAbout x.1 w
  | none => -1
noncomputable def sNode (P : Nat → PlA) (p k w : Int32) : Int32 := match pl9 P p with
  | some x => (match ix k (nds x.1).length with
    | some k => qNode x.1 k w
    | none => -1)
  | none => -1
noncomputable def sSum (P : Nat → PlA) (p e w : Int32) : Int32 := match pl9 P p with
  | some x => (match ix e (sms x.1.1).length with
    | some e => qSum x.1 e w
    | none => -1)
  | none => -1
noncomputable def sAt (P : Nat → PlA) (p e k w : Int32) : Int32 := match pl9 P p with
  | some x => (match ix e (sms x.1.1).length, ix k (nds x.1).length, ix w 8 with
    | some e, some k, some w => qAt x.1 e k w
    | _, _, _ => -1)
  | none => -1
noncomputable def sPlaced (P : Nat → PlA) (p pl e k w : Int32) : Int32 := match pl9 P p with
  | some x => (match ix e (sms x.1.1).length, ix pl 3, ix k (nds x.1).length, ix w 3 with
    | some e, some pl, some k, some w => qPlaced x.1 pl e k w
    | _, _, _, _ => -1)
  | none => -1
noncomputable def sLife (P : Nat → PlA) (p pl e : Int32) : Int32 := match pl9 P p with
  | some x => (match ix e (sms x.1.1).length, ix pl 3 with
    | some e, some pl => qLife x.1 pl e
    | _, _ => -1)
  | none => -1
noncomputable def sPlaces (P : Nat → PlA) (p pl e w : Int32) : Int32 := match pl9 P p with
  | some x => (match ix e (sms x.1.1).length, ix pl 3, ix w 2 with
    | some e, some pl, some w => qPlaces x.1 pl e w
    | _, _, _ => -1)
  | none => -1
/-- x leads into block t -/
def inB (R : Rt) (t x : Nat) : Prop := x = fstN R.2 t ∨ nK (ndA (nds R) x) = 7 ∧ nT1 (ndA (nds R) x) = some (fstN R.2 t)
/-- the node to which the end of block b leads on its way to block t -/
noncomputable def psN (R : Rt) (b t : Nat) : Option Nat := if b9 (∃ x, t1R R (lastN R b) = some x ∧ inB R t x) = true then t1R R (lastN R b) else if b9 (∃ x, t2R R (lastN R b) = some x ∧ inB R t x) = true then t2R R (lastN R b) else none
def WyOk (R : Rt) (way : List Nat) : Prop := ∀ i a b, way[i]? = some a → way[i + 1]? = some b → ∃ x, psN R a b = some x
def PlOk (x : Rt × List Nat) : Prop := WfR x.1 ∧ TgOk x.1 ∧ (sms x.1.1).length ≤ 32 ∧ 0 < x.1.2.length ∧ x.2.length ≤ 60 ∧ (∀ b ∈ x.2, b < x.1.2.length) ∧ WyOk x.1 x.2
/-- a place of the Model -/
def MPl (ms : MS) (p : Nat) (x : PlA) : Prop := match x with
  | none => ms.2.2 8 p = 0
  | some x => PlOk x ∧ PlM ms p x.1 ∧ ms.2.2 57 p = nn x.2.length ∧ ∀ i b, x.2[i]? = some b → ms.2.2 58 (60 * p + i) = nn b
def MPs (ms : MS) (P : Nat → PlA) : Prop := ∀ p, p < 4 → MPl ms p (P p)
