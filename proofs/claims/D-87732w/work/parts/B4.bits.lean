/-! PLAIN: bits of longs; sets that are narrowed -/
set_option maxRecDepth 100000
/-- the bits of a long -/
def LB (v : Int64) (f : Nat → Bool) : Prop := ∀ e, e < 64 → v.toBitVec.getLsbD e = f e
theorem LB.and {a b : Int64} {f g : Nat → Bool} (h : LB a f) (h' : LB b g) : LB (a &&& b) (fun e => f e && g e) := fun e he => by
  rw [Int64.toBitVec_and, BitVec.getLsbD_and, h e he, h' e he]
theorem LB.or {a b : Int64} {f g : Nat → Bool} (h : LB a f) (h' : LB b g) : LB (a ||| b) (fun e => f e || g e) := fun e he => by
  rw [Int64.toBitVec_or, BitVec.getLsbD_or, h e he, h' e he]
theorem LB.not {a : Int64} {f : Nat → Bool} (h : LB a f) : LB (a ^^^ -1) (fun e => !f e) := fun e he => by
  rw [Int64.toBitVec_xor, BitVec.getLsbD_xor, h e he]
  have : (-1 : Int64).toBitVec.getLsbD e = true := by
    have : ∀ e, e < 64 → (-1 : Int64).toBitVec.getLsbD e = true := by decide +kernel
    exact this e he
  rw [this]
  show (f e ^^ true) = !f e
  cases f e <;> rfl
theorem LB.zero : LB 0 (fun _ => false) := by
  unfold LB; decide +kernel
theorem LB.bit : ∀ k, k < 64 → LB (1 <<< ((nn k).toInt64 &&& 63)) (fun e => decide (e = k)) := by
  unfold LB; decide +kernel
theorem LB.all9 : ∀ n, n < 33 → LB ((1 <<< ((nn n).toInt64 &&& 63)) - 1) (fun e => decide (e < n)) := by
  unfold LB; decide +kernel
theorem LB.congr {a : Int64} {f g : Nat → Bool} (h : LB a f) (e : ∀ k, k < 64 → f k = g k) : LB a g := fun k hk => (h k hk).trans (e k hk)
theorem LB.eq_iff {a b : Int64} {f g : Nat → Bool} (h : LB a f) (h' : LB b g) : a = b ↔ ∀ e, e < 64 → f e = g e := by
  constructor
  · intro q e he
    rw [← h e he, ← h' e he, q]
  · intro q
    apply Int64.toBitVec_inj.1
    apply BitVec.eq_of_getLsbD_eq
    intro i hi
    rw [h i hi, h' i hi, q i hi]
theorem lcmp_0 {a b : Int64} : lg_cmp a b = 0 ↔ a = b := by
  unfold lg_cmp
  constructor
  · intro h
    split at h
    · exact absurd h (by decide)
    · split at h
      · next q => exact q
      · exact absurd h (by decide)
  · intro h
    subst h
    rw [if_neg (fun q => Int64.lt_irrefl q), if_pos rfl]
theorem shr_bit : ∀ k, k < 64 → (((nn k).toInt64 &&& 63).toBitVec.smod 64).toNat = k := by decide +kernel
/-- the bit e of a long, as an int -/
theorem LB.get0 {v : Int64} {f : Nat → Bool} (h : LB v f) {k : Nat} (hk : k < 64) : ((v >>> ((nn k).toInt64 &&& 63)) &&& 1) = if f k = true then 1 else 0 := by
  apply Int64.toBitVec_inj.1
  apply BitVec.eq_of_getLsbD_eq
  intro i hi
  rw [Int64.toBitVec_and, BitVec.getLsbD_and]
  have e1 : ∀ i, i < 64 → (1 : Int64).toBitVec.getLsbD i = decide (i = 0) := by decide +kernel
  rw [e1 i hi]
  by_cases c : i = 0
  · subst c
    have e2 : (v >>> ((nn k).toInt64 &&& 63)).toBitVec.getLsbD 0 = v.toBitVec.getLsbD k := by
      rw [Int64.toBitVec_shiftRight, BitVec.getLsbD_sshiftRight', shr_bit k hk]
      simp [hk]
    rw [e2, h k hk]
    cases f k <;> decide
  · have : decide (i = 0) = false := by simp [c]
    rw [this, Bool.and_false]
    split
    · rw [e1 i hi]; simp [c]
    · have : ∀ i, i < 64 → (0 : Int64).toBitVec.getLsbD i = false := by decide +kernel
      rw [this i hi]
theorem LB.get {v : Int64} {f : Nat → Bool} (h : LB v f) {k : Nat} (hk : k < 64) : ((v >>> ((nn k).toInt64 &&& 63)) &&& 1).toInt32 = b2i (f k) 1 := by
  have h1 := h.get0 hk
  rw [h1]
  cases f k <;> rfl
/-! sets of bits by nodes, narrowed by a rule -/
def updM (X : Nat → Nat → Bool) (k : Nat) (f : Nat → Bool) : Nat → Nat → Bool := fun j => if j = k then f else X j
theorem updM_eq (X : Nat → Nat → Bool) (k : Nat) (f : Nat → Bool) : updM X k f k = f := by unfold updM; rw [if_pos rfl]
theorem updM_ne (X : Nat → Nat → Bool) {k j : Nat} (f : Nat → Bool) (h : j ≠ k) : updM X k f j = X j := by unfold updM; rw [if_neg h]
section NA
variable {n ns : Nat} {F : (Nat → Nat → Bool) → Nat → Nat → Bool} {G : Nat → (Nat → Prop) → Nat → Prop}
/-- the rule F works out G, sum by sum; beyond the sums nothing -/
def Rul (n ns : Nat) (F : (Nat → Nat → Bool) → Nat → Nat → Bool) (G : Nat → (Nat → Prop) → Nat → Prop) : Prop := (∀ X k e, k < n → e < ns → (F X k e = true ↔ G e (fun j => j < n ∧ X j e = true) k)) ∧ (∀ X k e, k < n → ns ≤ e → e < 64 → F X k e = false) ∧ (∀ e (X Y : Nat → Prop), (∀ j, X j → Y j) → ∀ k, G e X k → G e Y k) ∧ (∀ e X k, G e X k → k < n)
def NInv (n ns : Nat) (F : (Nat → Nat → Bool) → Nat → Nat → Bool) (G : Nat → (Nat → Prop) → Nat → Prop) (X : Nat → Nat → Bool) : Prop := (∀ k e, k < n → e < 64 → F X k e = true → X k e = true) ∧ ∀ k e, k < n → e < ns → gfp9 (G e) k → X k e = true
theorem NInv.start (h : Rul n ns F G) : NInv n ns F G (fun _ e => decide (e < ns)) := by
  refine ⟨fun k e hk he hf => ?_, fun k e hk he _ => by simp [he]⟩
  by_cases c : e < ns
  · simp [c]
  · rw [h.2.1 _ k e hk (by omega) he] at hf; cases hf
theorem F_mono (h : Rul n ns F G) {X Y : Nat → Nat → Bool} (hXY : ∀ j e, j < n → e < 64 → X j e = true → Y j e = true) (hns : ns ≤ 64) {k e : Nat} (hk : k < n) (he : e < 64) (hf : F X k e = true) : F Y k e = true := by
  by_cases c : e < ns
  · rw [h.1 Y k e hk c]
    refine h.2.2.1 e _ _ (fun j hj => ?_) k ((h.1 X k e hk c).1 hf)
    exact ⟨hj.1, hXY j e hj.1 he hj.2⟩
  · rw [h.2.1 _ k e hk (by omega) he] at hf; cases hf
theorem NInv.step (h : Rul n ns F G) (hns : ns ≤ 64) {X : Nat → Nat → Bool} (hX : NInv n ns F G X) {k : Nat} (hk : k < n) : NInv n ns F G (updM X k (F X k)) := by
  have hle : ∀ j e, j < n → e < 64 → updM X k (F X k) j e = true → X j e = true := fun j e hj he q => by
    by_cases c : j = k
    · subst c; rw [updM_eq] at q; exact hX.1 j e hj he q
    · rw [updM_ne _ _ c] at q; exact q
  refine ⟨fun j e hj he hf => ?_, fun j e hj he hg => ?_⟩
  · have hf' := F_mono h hle hns hj he hf
    by_cases c : j = k
    · subst c; rw [updM_eq]; exact hf'
    · rw [updM_ne _ _ c]; exact hX.1 j e hj he hf'
  · by_cases c : j = k
    · subst c
      rw [updM_eq, h.1 X j e hj he]
      refine h.2.2.1 e _ _ (fun i hi => ?_) j (gfp9_unf (h.2.2.1 e) hg)
      have hil := h.2.2.2 e _ i (gfp9_unf (h.2.2.1 e) hi)
      exact ⟨hil, hX.2 i e hil he hi⟩
    · rw [updM_ne _ _ c]; exact hX.2 j e hj he hg
/-- when nothing changes, it is the greatest -/
theorem NInv.done (h : Rul n ns F G) {X : Nat → Nat → Bool} (hX : NInv n ns F G X) (hfx : ∀ k e, k < n → e < 64 → F X k e = X k e) : ∀ k e, k < n → e < 64 → X k e = (decide (e < ns) && b9 (gfp9 (G e) k)) := by
  intro k e hk he
  by_cases c : e < ns
  · simp only [c, decide_true, Bool.true_and]
    cases hx : X k e with
    | true =>
      symm
      rw [b9_iff]
      refine gfp9_top (X := fun j => j < n ∧ X j e = true) (fun j hj => ?_) ⟨hk, hx⟩
      exact (h.1 X j e hj.1 c).1 ((hfx j e hj.1 he).trans hj.2)
    | false =>
      symm
      rw [b9_not]
      intro q
      rw [hX.2 k e hk c q] at hx; cases hx
  · rw [← hfx k e hk he, h.2.1 X k e hk (by omega) he]
    simp [c]
/-- how much is left -/
def muM (n : Nat) (X : Nat → Nat → Bool) : Nat := sumN (fun k => cntT 64 (X k)) n
theorem sumN_le {f g : Nat → Nat} : ∀ n, (∀ p, p < n → f p ≤ g p) → sumN f n ≤ sumN g n
  | 0, _ => Nat.le_refl _
  | n + 1, h => by
    have := sumN_le n (fun p hp => h p (by omega))
    have := h n (by omega)
    unfold sumN; omega
theorem sumN_lt {f g : Nat → Nat} {k : Nat} : ∀ n, (∀ p, p < n → f p ≤ g p) → k < n → f k < g k → sumN f n < sumN g n
  | 0, _, h, _ => by omega
  | n + 1, h, hk, hlt => by
    have h1 := sumN_le n (fun p hp => h p (by omega))
    have h2 := h n (by omega)
    unfold sumN
    by_cases c : k = n
    · subst c; omega
    · have := sumN_lt n (fun p hp => h p (by omega)) (show k < n by omega) hlt; omega
theorem muM_step {X : Nat → Nat → Bool} (hX : NInv n ns F G X) {k : Nat} (hk : k < n) : muM n (updM X k (F X k)) ≤ muM n X ∧ ((∃ e, e < 64 ∧ F X k e ≠ X k e) → muM n (updM X k (F X k)) < muM n X) := by
  have hle : ∀ p, p < n → cntT 64 (updM X k (F X k) p) ≤ cntT 64 (X p) := fun p hp => by
    by_cases c : p = k
    · subst c; rw [updM_eq]; exact cntT_mono9 64 (fun e he q => hX.1 p e hp he q)
    · rw [updM_ne _ _ c]; exact Nat.le_refl _
  refine ⟨sumN_le n hle, fun ⟨e, he, hne⟩ => ?_⟩
  refine sumN_lt n hle hk ?_
  show cntT 64 (updM X k (F X k) k) < cntT 64 (X k)
  rw [updM_eq]
  refine cntT_strict 64 (fun e he q => hX.1 k e hk he q) ⟨e, he, ?_, ?_⟩
  · cases hf : F X k e with
    | false => rfl
    | true => exact absurd (hf.trans (hX.1 k e hk he hf).symm) hne
  · cases hx : X k e with
    | true => rfl
    | false =>
      cases hf : F X k e with
      | false => exact absurd (hf.trans hx.symm) hne
      | true => have := hX.1 k e hk he hf; rw [hx] at this; cases this
end NA
