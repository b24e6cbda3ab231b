/-! THE COMPONENT's heap: frames -/
set_option maxRecDepth 100000
section HP
variable (σ : AH) (a k b j : Nat)
theorem hT_sI (v : Int32) : hT (hsI σ a k v) = hT σ := rfl
theorem hT_sR (v : Option Nat) : hT (hsR σ a k v) = hT σ := rfl
theorem hT_sG (v : Int64) : hT (hsG σ a k v) = hT σ := rfl
theorem hL_sI (v : Int32) : hL (hsI σ a k v) = hL σ := rfl
theorem hL_sR (v : Option Nat) : hL (hsR σ a k v) = hL σ := rfl
theorem hL_sG (v : Int64) : hL (hsG σ a k v) = hL σ := rfl
theorem hI_sI (v : Int32) : hI (hsI σ a k v) b j = if b = a ∧ j = k then v else hI σ b j := rfl
theorem hI_sR (v : Option Nat) : hI (hsR σ a k v) = hI σ := rfl
theorem hI_sG (v : Int64) : hI (hsG σ a k v) = hI σ := rfl
theorem hG_sI (v : Int32) : hG (hsI σ a k v) = hG σ := rfl
theorem hG_sR (v : Option Nat) : hG (hsR σ a k v) = hG σ := rfl
theorem hG_sG (v : Int64) : hG (hsG σ a k v) b j = if b = a ∧ j = k then v else hG σ b j := rfl
theorem hR_sI (v : Int32) : hR (hsI σ a k v) = hR σ := rfl
theorem hR_sR (v : Option Nat) : hR (hsR σ a k v) b j = if b = a ∧ j = k then v else hR σ b j := rfl
theorem hR_sG (v : Int64) : hR (hsG σ a k v) = hR σ := rfl
theorem hN_sI (v : Int32) : hN (hsI σ a k v) = hN σ := rfl
theorem hN_sR (v : Option Nat) : hN (hsR σ a k v) = hN σ := rfl
theorem hN_sG (v : Int64) : hN (hsG σ a k v) = hN σ := rfl
theorem hC_sI (v : Int32) : hC (hsI σ a k v) = hC σ := rfl
theorem hC_sR (v : Option Nat) : hC (hsR σ a k v) = hC σ := rfl
theorem hC_sG (v : Int64) : hC (hsG σ a k v) = hC σ := rfl
theorem hS_sI (v : Int32) : hS (hsI σ a k v) = hS σ := rfl
theorem hS_sR (v : Option Nat) : hS (hsR σ a k v) = hS σ := rfl
theorem hS_sG (v : Int64) : hS (hsG σ a k v) = hS σ := rfl
theorem hT_nw (t n s : Nat) : hT (hnw σ t n s) b = if b = hN σ then t else hT σ b := rfl
theorem hL_nw (t n s : Nat) : hL (hnw σ t n s) b = if b = hN σ then n else hL σ b := rfl
theorem hI_nw (t n s : Nat) : hI (hnw σ t n s) = hI σ := rfl
theorem hG_nw (t n s : Nat) : hG (hnw σ t n s) = hG σ := rfl
theorem hR_nw (t n s : Nat) : hR (hnw σ t n s) = hR σ := rfl
theorem hN_nw (t n s : Nat) : hN (hnw σ t n s) = hN σ + 1 := rfl
theorem hC_nw (t n s : Nat) : hC (hnw σ t n s) = hC σ - 1 := rfl
theorem hS_nw (t n s : Nat) : hS (hnw σ t n s) = hS σ - s := rfl
end HP
/-- what isn't there yet is empty -/
def Fsh (σ : AH) : Prop := ∀ a, hN σ ≤ a → hT σ a = 0 ∧ ∀ k, hI σ a k = 0 ∧ hG σ a k = 0 ∧ hR σ a k = none
/-- two lists share no row -/
def Unq (σ : AH) : Prop := (∀ a d, hT σ a = 19 → hR σ a 1 = some d → d < hN σ) ∧ ∀ a b d, hT σ a = 19 → hT σ b = 19 → hR σ a 1 = some d → hR σ b 1 = some d → hT σ d = 104 → a = b
/-- tags of what is never written -/
def KTg (t : Nat) : Prop := t = 60 ∨ t = 61 ∨ 150 ≤ t
/-- from σ to σ': what was there stays; only places of M are written, c cells and s slots are taken at most -/
def HF (M : Nat → Prop) (c s : Nat) (σ σ' : AH) : Prop := hN σ ≤ hN σ' ∧ (∀ a, a < hN σ → hT σ' a = hT σ a ∧ hL σ' a = hL σ a) ∧ (∀ a, a < hN σ → (¬ M a ∨ KTg (hT σ a)) → ∀ k, hI σ' a k = hI σ a k ∧ hG σ' a k = hG σ a k ∧ hR σ' a k = hR σ a k) ∧ hC σ ≤ hC σ' + c ∧ hS σ ≤ hS σ' + s
theorem Fsh.lt {σ : AH} (h : Fsh σ) {a : Nat} (ha : hT σ a ≠ 0) : a < hN σ := Classical.byContradiction fun q => ha (h a (by omega)).1
theorem HF.rfl9 {M : Nat → Prop} {σ : AH} : HF M 0 0 σ σ := ⟨Nat.le_refl _, fun _ _ => ⟨rfl, rfl⟩, fun _ _ _ _ => ⟨rfl, rfl, rfl⟩, by omega, by omega⟩
theorem HF.trans {M : Nat → Prop} {c s c' s' : Nat} {σ σ1 σ2 : AH} (h : HF M c s σ σ1) (h' : HF M c' s' σ1 σ2) : HF M (c + c') (s + s') σ σ2 := by
  obtain ⟨a1, a2, a3, a4, a5⟩ := h
  obtain ⟨b1, b2, b3, b4, b5⟩ := h'
  refine ⟨by omega, fun a ha => ?_, fun a ha hm k => ?_, by omega, by omega⟩
  · have := a2 a ha
    have := b2 a (by omega)
    omega
  · obtain ⟨x1, x2, x3⟩ := a3 a ha hm k
    have ht := (a2 a ha).1
    obtain ⟨y1, y2, y3⟩ := b3 a (by omega) (by rw [ht]; exact hm) k
    exact ⟨y1.trans x1, y2.trans x2, y3.trans x3⟩
theorem HF.mono {M M' : Nat → Prop} {c s c' s' : Nat} {σ σ' : AH} (h : HF M c s σ σ') (hM : ∀ a, a < hN σ → M a → M' a) (hc : c ≤ c') (hs : s ≤ s') : HF M' c' s' σ σ' := by
  obtain ⟨a1, a2, a3, a4, a5⟩ := h
  exact ⟨a1, a2, fun a ha hm => a3 a ha (hm.imp (fun q z => q (hM a ha z)) id), by omega, by omega⟩
theorem HF.tag {M : Nat → Prop} {c s : Nat} {σ σ' : AH} (hf : Fsh σ) (h : HF M c s σ σ') {a : Nat} (ha : hT σ a ≠ 0) : hT σ' a = hT σ a ∧ hL σ' a = hL σ a := h.2.1 a (hf.lt ha)
theorem HF.get {M : Nat → Prop} {c s : Nat} {σ σ' : AH} (hf : Fsh σ) (h : HF M c s σ σ') {a : Nat} (ha : hT σ a ≠ 0) (hm : ¬ M a ∨ KTg (hT σ a)) (k : Nat) : hI σ' a k = hI σ a k ∧ hG σ' a k = hG σ a k ∧ hR σ' a k = hR σ a k := h.2.2.1 a (hf.lt ha) hm k
/-! one write, one new cell -/
theorem HF.sI {M : Nat → Prop} {c s : Nat} {σ σ' : AH} (hf : Fsh σ) (h : HF M c s σ σ') {a k : Nat} {v : Int32} (hm : M a ∨ hN σ ≤ a) (ht : ¬ KTg (hT σ' a)) : HF M c s σ (hsI σ' a k v) := by
  obtain ⟨a1, a2, a3, a4, a5⟩ := h
  refine ⟨a1, a2, fun b hb hm' j => ?_, a4, a5⟩
  obtain ⟨x1, x2, x3⟩ := a3 b hb hm' j
  refine ⟨?_, x2, x3⟩
  rw [hI_sI, if_neg ?_]
  · exact x1
  · rintro ⟨rfl, -⟩
    rcases hm with hm | hm
    · rcases hm' with q | q
      · exact q hm
      · rw [(a2 b hb).1] at ht; exact ht q
    · omega
theorem HF.sR {M : Nat → Prop} {c s : Nat} {σ σ' : AH} (hf : Fsh σ) (h : HF M c s σ σ') {a k : Nat} {v : Option Nat} (hm : M a ∨ hN σ ≤ a) (ht : ¬ KTg (hT σ' a)) : HF M c s σ (hsR σ' a k v) := by
  obtain ⟨a1, a2, a3, a4, a5⟩ := h
  refine ⟨a1, a2, fun b hb hm' j => ?_, a4, a5⟩
  obtain ⟨x1, x2, x3⟩ := a3 b hb hm' j
  refine ⟨x1, x2, ?_⟩
  rw [hR_sR, if_neg ?_]
  · exact x3
  · rintro ⟨rfl, -⟩
    rcases hm with hm | hm
    · rcases hm' with q | q
      · exact q hm
      · rw [(a2 b hb).1] at ht; exact ht q
    · omega
theorem HF.sG {M : Nat → Prop} {c s : Nat} {σ σ' : AH} (hf : Fsh σ) (h : HF M c s σ σ') {a k : Nat} {v : Int64} (hm : M a ∨ hN σ ≤ a) (ht : ¬ KTg (hT σ' a)) : HF M c s σ (hsG σ' a k v) := by
  obtain ⟨a1, a2, a3, a4, a5⟩ := h
  refine ⟨a1, a2, fun b hb hm' j => ?_, a4, a5⟩
  obtain ⟨x1, x2, x3⟩ := a3 b hb hm' j
  refine ⟨x1, ?_, x3⟩
  rw [hG_sG, if_neg ?_]
  · exact x2
  · rintro ⟨rfl, -⟩
    rcases hm with hm | hm
    · rcases hm' with q | q
      · exact q hm
      · rw [(a2 b hb).1] at ht; exact ht q
    · omega
theorem HF.nw {M : Nat → Prop} {c s : Nat} {σ σ' : AH} (h : HF M c s σ σ') {t n m : Nat} : HF M (c + 1) (s + m) σ (hnw σ' t n m) := by
  obtain ⟨a1, a2, a3, a4, a5⟩ := h
  refine ⟨by rw [hN_nw]; omega, fun b hb => ?_, fun b hb hm' j => a3 b hb hm' j, by rw [hC_nw]; omega, by rw [hS_nw]; omega⟩
  rw [hT_nw, hL_nw, if_neg (by omega), if_neg (by omega)]; exact a2 b hb
theorem Fsh.sI {σ : AH} (h : Fsh σ) {a k : Nat} {v : Int32} (ha : hT σ a ≠ 0) : Fsh (hsI σ a k v) := fun b hb => by
  have hlt := h.lt ha
  obtain ⟨x1, x2⟩ := h b hb
  refine ⟨x1, fun j => ?_⟩
  rw [hI_sI, if_neg (by rintro ⟨rfl, -⟩; rw [hN_sI] at hb; omega)]; exact x2 j
theorem Fsh.sR {σ : AH} (h : Fsh σ) {a k : Nat} {v : Option Nat} (ha : hT σ a ≠ 0) : Fsh (hsR σ a k v) := fun b hb => by
  have hlt := h.lt ha
  obtain ⟨x1, x2⟩ := h b hb
  refine ⟨x1, fun j => ?_⟩
  rw [hR_sR, if_neg (by rintro ⟨rfl, -⟩; rw [hN_sR] at hb; omega)]; exact x2 j
theorem Fsh.sG {σ : AH} (h : Fsh σ) {a k : Nat} {v : Int64} (ha : hT σ a ≠ 0) : Fsh (hsG σ a k v) := fun b hb => by
  have hlt := h.lt ha
  obtain ⟨x1, x2⟩ := h b hb
  refine ⟨x1, fun j => ?_⟩
  rw [hG_sG, if_neg (by rintro ⟨rfl, -⟩; rw [hN_sG] at hb; omega)]; exact x2 j
theorem Fsh.nw {σ : AH} (h : Fsh σ) {t n m : Nat} : Fsh (hnw σ t n m) := fun b hb => by
  rw [hN_nw] at hb
  obtain ⟨x1, x2⟩ := h b (by omega)
  rw [hT_nw, if_neg (by omega)]
  exact ⟨x1, x2⟩
/-- the heap as it always is -/
def Hok (κ : Nat → Option Nat) (σ : AH) : Prop := Fsh σ ∧ Unq σ ∧ ∃ d, κ 30 = some d ∧ hT σ d = 154 ∧ hL σ d = 0
/-- a list: what it holds -/
def AL (κ : Nat → Option Nat) (σ : AH) (a : Nat) (l : List Nat) : Prop := hT σ a = 19 ∧ hI σ a 2 = nn l.length ∧ (∀ x ∈ l, hT σ x ∈ objTs ++ [60]) ∧ ∃ d, hR σ a 1 = some d ∧ ((l = [] ∧ κ 30 = some d) ∨ (hT σ d = 104 ∧ l.length ≤ hL σ d ∧ 10 ≤ hL σ d ∧ hL σ d ≤ 1000 ∧ ∀ i, hR σ d i = l[i]?))
theorem tag_ne {t : Nat} (h : t ∈ objTs ++ [60]) : t ≠ 0 := by
  intro q; subst q; simp [objTs] at h
theorem AL.fr {κ : Nat → Option Nat} {M : Nat → Prop} {c s : Nat} {σ σ' : AH} {a : Nat} {l : List Nat} (hf : Fsh σ) (h : AL κ σ a l) (hF : HF M c s σ σ') (hM : ¬ M a) (hM2 : ∀ d, hR σ a 1 = some d → hT σ d = 104 → ¬ M d) : AL κ σ' a l := by
  obtain ⟨h1, h2, h3, d, h4, h5⟩ := h
  have ha : hT σ a ≠ 0 := by rw [h1]; decide
  obtain ⟨g1, g2, g3⟩ := hF.get hf ha (Or.inl hM) 2
  obtain ⟨g4, g5, g6⟩ := hF.get hf ha (Or.inl hM) 1
  refine ⟨(hF.tag hf ha).1.trans h1, g1.trans h2, fun x hx => ?_, d, g6.trans h4, ?_⟩
  · rw [(hF.tag hf (tag_ne (h3 x hx))).1]; exact h3 x hx
  · rcases h5 with h5 | ⟨k1, k2, k3, k4, k5⟩
    · exact Or.inl h5
    · have hd : hT σ d ≠ 0 := by rw [k1]; decide
      obtain ⟨t1, t2⟩ := hF.tag hf hd
      refine Or.inr ⟨t1.trans k1, by rw [t2]; exact k2, by rw [t2]; exact k3, by rw [t2]; exact k4, fun i => ?_⟩
      rw [(hF.get hf hd (Or.inl (hM2 d h4 k1)) i).2.2]; exact k5 i
