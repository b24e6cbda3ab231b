/-! THE SPEC of what holds at nodes, of one sum: greatest fixed points; and that what is taken was set -/
section FL
variable (n : Nat) (t1 t2 : Nat → Option Nat) (W K BS : Nat → Prop)
/-- a leads to k -/
def ld (a k : Nat) : Prop := a < n ∧ (t1 a = some k ∨ t2 a = some k)
/-- there is a next one, and all have it -/
def nxA (X : Nat → Prop) (k : Nat) : Prop := (∃ j, t1 k = some j ∧ X j) ∧ ∀ j, t2 k = some j → X j
def gfp9 (F : (Nat → Prop) → Nat → Prop) (k : Nat) : Prop := ∃ X : Nat → Prop, X k ∧ ∀ j, X j → F X j
def fWan (X : Nat → Prop) (k : Nat) : Prop := k < n ∧ (W k ∨ ¬ K k ∧ nxA t1 t2 X k ∧ ¬ BS k)
def gWan : Nat → Prop := gfp9 (fWan n t1 t2 W K BS)
def fThe (X : Nat → Prop) (k : Nat) : Prop := k < n ∧ 0 < k ∧ ∀ a, ld n t1 t2 a k → ¬ K a ∧ (W a ∨ X a)
def gThe : Nat → Prop := gfp9 (fThe n t1 t2 W K)
def gEar (k : Nat) : Prop := gWan n t1 t2 W K BS k ∧ (k = 0 ∨ ∃ a, ld n t1 t2 a k ∧ (K a ∨ ¬ gThe n t1 t2 W K a ∧ ¬ gWan n t1 t2 W K BS a))
def fDel (Ea : Nat → Prop) (X : Nat → Prop) (k : Nat) : Prop := k < n ∧ (Ea k ∨ 0 < k ∧ ∀ a, ld n t1 t2 a k → X a ∧ ¬ W a)
def gDel : Nat → Prop := gfp9 (fDel n t1 t2 W (gEar n t1 t2 W K BS))
def gLat (k : Nat) : Prop := gDel n t1 t2 W K BS k ∧ (W k ∨ ¬ nxA t1 t2 (gDel n t1 t2 W K BS) k)
def fAlo (La : Nat → Prop) (X : Nat → Prop) (k : Nat) : Prop := k < n ∧ ∀ j, (t1 k = some j ∨ t2 k = some j) → La j ∨ ¬ W j ∧ X j
def gAlo : Nat → Prop := gfp9 (fAlo n t1 t2 W (gLat n t1 t2 W K BS))
end FL
theorem nxA_mono {t1 t2 : Nat → Option Nat} {X Y : Nat → Prop} (h : ∀ j, X j → Y j) {k : Nat} (q : nxA t1 t2 X k) : nxA t1 t2 Y k :=
  ⟨q.1.elim fun j hj => ⟨j, hj.1, h j hj.2⟩, fun j hj => h j (q.2 j hj)⟩
theorem gfp9_unf {F : (Nat → Prop) → Nat → Prop} (hm : ∀ X Y : Nat → Prop, (∀ j, X j → Y j) → ∀ k, F X k → F Y k) {k : Nat} (h : gfp9 F k) : F (gfp9 F) k := by
  obtain ⟨X, h1, h2⟩ := h
  exact hm X _ (fun j hj => ⟨X, hj, h2⟩) k (h2 k h1)
theorem gfp9_fld {F : (Nat → Prop) → Nat → Prop} (hm : ∀ X Y : Nat → Prop, (∀ j, X j → Y j) → ∀ k, F X k → F Y k) {k : Nat} (h : F (gfp9 F) k) : gfp9 F k :=
  ⟨fun j => F (gfp9 F) j, h, fun j hj => hm _ _ (fun _ q => gfp9_unf hm q) j hj⟩
theorem gfp9_iff {F : (Nat → Prop) → Nat → Prop} (hm : ∀ X Y : Nat → Prop, (∀ j, X j → Y j) → ∀ k, F X k → F Y k) (k : Nat) : gfp9 F k ↔ F (gfp9 F) k := ⟨gfp9_unf hm, gfp9_fld hm⟩
theorem gfp9_top {F : (Nat → Prop) → Nat → Prop} {X : Nat → Prop} (h : ∀ j, X j → F X j) {k : Nat} (q : X k) : gfp9 F k := ⟨X, q, h⟩
section FM
variable {n : Nat} {t1 t2 : Nat → Option Nat} {W K BS : Nat → Prop}
theorem fWan_mono (X Y : Nat → Prop) (h : ∀ j, X j → Y j) (k : Nat) (q : fWan n t1 t2 W K BS X k) : fWan n t1 t2 W K BS Y k :=
  ⟨q.1, q.2.imp id (fun r => ⟨r.1, nxA_mono h r.2.1, r.2.2⟩)⟩
theorem fThe_mono (X Y : Nat → Prop) (h : ∀ j, X j → Y j) (k : Nat) (q : fThe n t1 t2 W K X k) : fThe n t1 t2 W K Y k :=
  ⟨q.1, q.2.1, fun a ha => ⟨(q.2.2 a ha).1, (q.2.2 a ha).2.imp id (h a)⟩⟩
theorem fDel_mono {Ea : Nat → Prop} (X Y : Nat → Prop) (h : ∀ j, X j → Y j) (k : Nat) (q : fDel n t1 t2 W Ea X k) : fDel n t1 t2 W Ea Y k :=
  ⟨q.1, q.2.imp id (fun r => ⟨r.1, fun a ha => ⟨h a (r.2 a ha).1, (r.2 a ha).2⟩⟩)⟩
theorem fAlo_mono {La : Nat → Prop} (X Y : Nat → Prop) (h : ∀ j, X j → Y j) (k : Nat) (q : fAlo n t1 t2 W La X k) : fAlo n t1 t2 W La Y k :=
  ⟨q.1, fun j hj => (q.2 j hj).imp id (fun r => ⟨r.1, h j r.2⟩)⟩
theorem gWan_iff (k : Nat) : gWan n t1 t2 W K BS k ↔ fWan n t1 t2 W K BS (gWan n t1 t2 W K BS) k := gfp9_iff fWan_mono k
theorem gThe_iff (k : Nat) : gThe n t1 t2 W K k ↔ fThe n t1 t2 W K (gThe n t1 t2 W K) k := gfp9_iff fThe_mono k
theorem gDel_iff (k : Nat) : gDel n t1 t2 W K BS k ↔ fDel n t1 t2 W (gEar n t1 t2 W K BS) (gDel n t1 t2 W K BS) k := gfp9_iff fDel_mono k
theorem gAlo_iff (k : Nat) : gAlo n t1 t2 W K BS k ↔ fAlo n t1 t2 W (gLat n t1 t2 W K BS) (gAlo n t1 t2 W K BS) k := gfp9_iff fAlo_mono k
/-- not set so far, early: on the way into k -/
def un1 (n : Nat) (t1 t2 : Nat → Option Nat) (W K BS : Nat → Prop) (k : Nat) : Prop := k = 0 ∨ ∃ a, ld n t1 t2 a k ∧ ¬ gWan n t1 t2 W K BS a ∧ ¬ gThe n t1 t2 W K a
theorem un1_at {k : Nat} (hk : k < n) (h : un1 n t1 t2 W K BS k) (he : ¬ gEar n t1 t2 W K BS k) : ¬ gWan n t1 t2 W K BS k ∧ ¬ gThe n t1 t2 W K k := by
  rcases h with rfl | ⟨a, ha, h1, h2⟩
  · refine ⟨fun q => he ⟨q, Or.inl rfl⟩, fun q => ?_⟩
    have := ((gThe_iff 0).1 q).2.1
    omega
  · refine ⟨fun q => he ⟨q, Or.inr ⟨a, ha, Or.inr ⟨h2, h1⟩⟩⟩, fun q => ?_⟩
    have hW : ¬ W a := fun w => h1 ((gWan_iff a).2 ⟨ha.1, Or.inl w⟩)
    rcases (((gThe_iff k).1 q).2.2 a ha).2 with w | w
    · exact hW w
    · exact h2 w
theorem un1_step {k : Nat} (hk : k < n) (h : un1 n t1 t2 W K BS k) (he : ¬ gEar n t1 t2 W K BS k) : ¬ W k ∧ ∀ j, ld n t1 t2 k j → un1 n t1 t2 W K BS j := by
  have := un1_at hk h he
  exact ⟨fun w => this.1 ((gWan_iff k).2 ⟨hk, Or.inl w⟩), fun j hj => Or.inr ⟨k, hj, this⟩⟩
/-- not set so far, latest -/
def un2s (n : Nat) (t1 t2 : Nat → Option Nat) (W K BS : Nat → Prop) (a : Nat) : Prop := (¬ gWan n t1 t2 W K BS a ∧ ¬ gThe n t1 t2 W K a ∧ ¬ gDel n t1 t2 W K BS a) ∨ (gDel n t1 t2 W K BS a ∧ ¬ gLat n t1 t2 W K BS a) ∨ (gAlo n t1 t2 W K BS a ∧ (W a → gLat n t1 t2 W K BS a))
def un2 (n : Nat) (t1 t2 : Nat → Option Nat) (W K BS : Nat → Prop) (k : Nat) : Prop := k = 0 ∨ ∃ a, ld n t1 t2 a k ∧ un2s n t1 t2 W K BS a
theorem un2_at {k : Nat} (hk : k < n) (h : un2 n t1 t2 W K BS k) (he : ¬ (gLat n t1 t2 W K BS k ∧ ¬ gAlo n t1 t2 W K BS k)) : un2s n t1 t2 W K BS k := by
  have hL : gLat n t1 t2 W K BS k → un2s n t1 t2 W K BS k := fun l => Or.inr (Or.inr ⟨Classical.byContradiction fun q => he ⟨l, q⟩, fun _ => l⟩)
  have hD : gDel n t1 t2 W K BS k → un2s n t1 t2 W K BS k := fun d => by
    by_cases l : gLat n t1 t2 W K BS k
    · exact hL l
    · exact Or.inr (Or.inl ⟨d, l⟩)
  have hE : gEar n t1 t2 W K BS k → un2s n t1 t2 W K BS k := fun e => hD ((gDel_iff k).2 ⟨hk, Or.inl e⟩)
  by_cases e : gEar n t1 t2 W K BS k
  · exact hE e
  by_cases d : gDel n t1 t2 W K BS k
  · exact hD d
  rcases h with h | ⟨a, ha, h⟩
  · have := un1_at hk (Or.inl h) e
    exact Or.inl ⟨this.1, this.2, d⟩
  · rcases h with ⟨h1, h2, -⟩ | ⟨h1, h2⟩ | ⟨h1, -⟩
    · have := un1_at hk (Or.inr ⟨a, ha, h1, h2⟩) e
      exact Or.inl ⟨this.1, this.2, d⟩
    · have hn : nxA t1 t2 (gDel n t1 t2 W K BS) a := Classical.byContradiction fun q => h2 ⟨h1, Or.inr q⟩
      rcases ha.2 with q | q
      · obtain ⟨j, hj, hd⟩ := hn.1
        rw [q] at hj; cases hj; exact absurd hd d
      · exact absurd (hn.2 k q) d
    · rcases ((gAlo_iff a).1 h1).2 k ha.2 with q | ⟨q, q'⟩
      · exact absurd q.1 d
      · exact Or.inr (Or.inr ⟨q', fun w => absurd w q⟩)
theorem un2_step {k : Nat} (hk : k < n) (h : un2 n t1 t2 W K BS k) (he : ¬ (gLat n t1 t2 W K BS k ∧ ¬ gAlo n t1 t2 W K BS k)) : (W k → gLat n t1 t2 W K BS k ∧ gAlo n t1 t2 W K BS k) ∧ ∀ j, ld n t1 t2 k j → un2 n t1 t2 W K BS j := by
  have hs := un2_at hk h he
  refine ⟨fun w => ?_, fun j hj => Or.inr ⟨k, hj, hs⟩⟩
  rcases hs with ⟨h1, -⟩ | ⟨h1, h2⟩ | ⟨h1, h2⟩
  · exact absurd ((gWan_iff k).2 ⟨hk, Or.inl w⟩) h1
  · exact absurd ⟨h1, Or.inl w⟩ h2
  · exact ⟨h2 w, h1⟩
end FM
