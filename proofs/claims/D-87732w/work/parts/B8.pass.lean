/-! PLAIN: a pass of narrowing -/
set_option maxRecDepth 100000
section PA
variable {n ns : Nat} {F : (Nat → Nat → Bool) → Nat → Nat → Bool} {G : Nat → (Nat → Prop) → Nat → Prop}
theorem F_col (h : Rul n ns F G) {X Y : Nat → Nat → Bool} {k e : Nat} (hk : k < n) (he : e < 64) (hXY : ∀ j, j < n → X j e = Y j e) : F X k e = F Y k e := by
  by_cases c : e < ns
  · have : (fun j => j < n ∧ X j e = true) = (fun j => j < n ∧ Y j e = true) := by
      funext j
      apply propext
      constructor
      · rintro ⟨h1, h2⟩; exact ⟨h1, by rw [← hXY j h1]; exact h2⟩
      · rintro ⟨h1, h2⟩; exact ⟨h1, by rw [hXY j h1]; exact h2⟩
    have h1 := h.1 X k e hk c
    have h2 := h.1 Y k e hk c
    rw [this] at h1
    cases hx : F X k e with
    | true => exact (h2.2 (h1.1 hx)).symm
    | false =>
      cases hy : F Y k e with
      | false => rfl
      | true => rw [h1.2 (h2.1 hy)] at hx; cases hx
  · rw [h.2.1 X k e hk (by omega) he, h.2.1 Y k e hk (by omega) he]
/-- what a pass has shown of the nodes P; mo: something changed -/
def PsI (n ns : Nat) (F : (Nat → Nat → Bool) → Nat → Nat → Bool) (G : Nat → (Nat → Prop) → Nat → Prop) (P : Nat → Prop) (mo : Bool) (X X0 : Nat → Nat → Bool) : Prop := NInv n ns F G X ∧ (mo = false → ∀ k e, k < n → P k → e < 64 → F X k e = X k e) ∧ (mo = true → muM n X < muM n X0) ∧ muM n X ≤ muM n X0
noncomputable def chg (F : (Nat → Nat → Bool) → Nat → Nat → Bool) (X : Nat → Nat → Bool) (k : Nat) : Bool := b9 (∃ e, e < 64 ∧ F X k e ≠ X k e)
theorem PsI.start {X : Nat → Nat → Bool} (h : NInv n ns F G X) : PsI n ns F G (fun _ => False) false X X := ⟨h, fun _ k e _ q => q.elim, fun q => (by cases q), Nat.le_refl _⟩
theorem PsI.step (h : Rul n ns F G) (hns : ns ≤ 64) {P : Nat → Prop} {mo : Bool} {X X0 : Nat → Nat → Bool} (hP : PsI n ns F G P mo X X0) {k : Nat} (hk : k < n) : PsI n ns F G (fun j => P j ∨ j = k) (mo || chg F X k) (updM X k (F X k)) X0 := by
  obtain ⟨h1, h2, h3, h4⟩ := hP
  obtain ⟨m1, m2⟩ := muM_step h1 hk
  refine ⟨h1.step h hns hk, fun hmo j e hj hPj he => ?_, fun hmo => ?_, by omega⟩
  · have hm : mo = false := by cases mo with
      | false => rfl
      | true => cases hmo
    have hc : chg F X k = false := by rw [hm] at hmo; simpa using hmo
    have hno := b9_not.1 hc
    have same : ∀ i e, e < 64 → updM X k (F X k) i e = X i e := fun i e he => by
      by_cases q : i = k
      · subst q
        rw [updM_eq]
        exact Classical.byContradiction fun z => hno ⟨e, he, z⟩
      · rw [updM_ne _ _ q]
    rw [F_col h hj he (fun i _ => same i e he), same j e he]
    rcases hPj with q | q
    · exact h2 hm j e hj q he
    · subst q
      exact Classical.byContradiction fun z => hno ⟨e, he, z⟩
  · cases hm : mo with
    | true => have := h3 hm; omega
    | false =>
      rw [hm] at hmo
      have hc : chg F X k = true := by simpa using hmo
      have := m2 (b9_iff.1 hc)
      omega
theorem PsI.imp {P P' : Nat → Prop} {mo : Bool} {X X0 : Nat → Nat → Bool} (hP : PsI n ns F G P mo X X0) (hi' : ∀ j, j < n → P' j → P j) : PsI n ns F G P' mo X X0 := ⟨hP.1, fun hmo k e hk q he => hP.2.1 hmo k e hk (hi' k hk q) he, hP.2.2⟩
end PA
theorem i32_m1 (a : Int32) : a + (-1) = a - 1 := by rw [Int32.sub_eq_add_neg]
theorem nn_0m1 : nn 0 - 1 = (-1 : Int32) := by decide
