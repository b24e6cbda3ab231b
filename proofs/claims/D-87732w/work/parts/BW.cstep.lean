/-! THE COMPONENT: step and home -/
set_option maxRecDepth 100000
section SP
variable {κ : Nat → Option Nat} {Q : Ret AH} {σ σ' : AH} {o c s r h9 : Nat} {l : List Nat} {P : Nat → PlA} {wr : Int32} {bg : Nat → Int32} {rn : RnA} {RA : Nat → Option Nat} {H : Nat → Nat} {R : Rt}
/-- a way is set anew -/
theorem CC.way (h : CC κ σ o l P wr bg rn RA H) {q : Nat} {x : Rt × List Nat} {way : List Nat} (hq : q < 4) (hr : RA q = some r) (hx : P q = some x) (F : HL κ (EqM (r + 4)) NoM c s σ σ') (hw : WayC κ σ' r way) (hp : PlOk (x.1, way)) : CC κ σ' o l (upP P q (some (x.1, way))) wr bg rn RA H := by
  have hk := h.ok
  have t := h.t0
  obtain ⟨a1, a2, a3, a4⟩ := h.f2
  obtain ⟨b1, b2, b3, b4⟩ := h.f3
  obtain ⟨c1, c2, c3, c4, c5, c6, c7, c8, c9⟩ := h.f6
  have hpq := h.pl q hq
  rw [hr, hx] at hpq
  obtain ⟨p1, p2, p3, p4⟩ := hpq
  have ne : ∀ b, b < o + 7 → ¬ EqM (r + 4) b := fun b hb => by show ¬ b = r + 4; omega
  have gi : ∀ b t, b < o + 7 → hT σ b = t → t ≠ 0 ∧ t ≠ 19 ∧ t ≠ 104 ∧ t < 150 ∧ t ≠ 60 ∧ t ≠ 61 → ∀ j, hI σ' b j = hI σ b j := fun b t hb ht h0 j => by
    sorry
  have gr : ∀ b t, hT σ b = t → t ≠ 0 ∧ t ≠ 19 ∧ t ≠ 104 ∧ t < 150 ∧ t ≠ 60 ∧ t ≠ 61 → ∀ j, hR σ' b j = hR σ b j := fun b t ht h0 j => by
    sorry
  sorry
end SP
