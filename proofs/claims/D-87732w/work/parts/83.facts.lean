/-! THE SPEC of facts; words of eight bits -/
set_option maxRecDepth 100000
def b2i (b : Bool) (x : Int32) : Int32 := if b then x else 0
def wdX (b0 b1 b2 b3 b4 b5 b6 b7 : Bool) : Int32 := b2i b0 1 ||| b2i b1 2 ||| b2i b2 4 ||| b2i b3 8 ||| b2i b4 16 ||| b2i b5 32 ||| b2i b6 64 ||| b2i b7 128
def wd8 (g : Nat → Bool) : Int32 := wdX (g 0) (g 1) (g 2) (g 3) (g 4) (g 5) (g 6) (g 7)
def p2 : Nat → Int32
  | 0 => 1
  | 1 => 2
  | 2 => 4
  | 3 => 8
  | 4 => 16
  | 5 => 32
  | 6 => 64
  | _ => 128
def updB (g : Nat → Bool) (i : Nat) (b : Bool) : Nat → Bool := fun j => if j = i then b else g j
theorem wdX_and : ∀ b0 b1 b2 b3 b4 b5 b6 b7 : Bool, ((wdX b0 b1 b2 b3 b4 b5 b6 b7 &&& 1 = 0) ↔ b0 = false) ∧ ((wdX b0 b1 b2 b3 b4 b5 b6 b7 &&& 2 = 0) ↔ b1 = false) ∧ ((wdX b0 b1 b2 b3 b4 b5 b6 b7 &&& 4 = 0) ↔ b2 = false) ∧ ((wdX b0 b1 b2 b3 b4 b5 b6 b7 &&& 8 = 0) ↔ b3 = false) ∧ ((wdX b0 b1 b2 b3 b4 b5 b6 b7 &&& 16 = 0) ↔ b4 = false) ∧ ((wdX b0 b1 b2 b3 b4 b5 b6 b7 &&& 32 = 0) ↔ b5 = false) ∧ ((wdX b0 b1 b2 b3 b4 b5 b6 b7 &&& 64 = 0) ↔ b6 = false) ∧ ((wdX b0 b1 b2 b3 b4 b5 b6 b7 &&& 128 = 0) ↔ b7 = false) := by decide +kernel
theorem wdX_or : ∀ b0 b1 b2 b3 b4 b5 b6 b7 : Bool, (wdX b0 b1 b2 b3 b4 b5 b6 b7 ||| 16 = wdX b0 b1 b2 b3 true b5 b6 b7) ∧ (wdX b0 b1 b2 b3 b4 b5 b6 b7 ||| 64 = wdX b0 b1 b2 b3 b4 b5 true b7) := by decide +kernel
theorem wdX_not : ∀ b0 b1 b2 b3 b4 b5 b6 b7 : Bool, (wdX b0 b1 b2 b3 b4 b5 b6 b7 &&& (4 ^^^ -1) = wdX b0 b1 false b3 b4 b5 b6 b7) ∧ (wdX b0 b1 b2 b3 b4 b5 b6 b7 &&& (8 ^^^ -1) = wdX b0 b1 b2 false b4 b5 b6 b7) ∧ (wdX b0 b1 b2 b3 b4 b5 b6 b7 &&& (32 ^^^ -1) = wdX b0 b1 b2 b3 b4 false b6 b7) ∧ (wdX b0 b1 b2 b3 b4 b5 b6 b7 &&& (128 ^^^ -1) = wdX b0 b1 b2 b3 b4 b5 b6 false) := by decide +kernel
theorem wdX_0 : ∀ b0 b1 : Bool, b2i b0 1 ||| b2i b1 2 ||| 4 ||| 8 ||| 32 ||| 128 = wdX b0 b1 true true false true false true := by decide +kernel
theorem wdX_shr : ∀ b0 b1 b2 b3 b4 b5 b6 b7 : Bool, ((wdX b0 b1 b2 b3 b4 b5 b6 b7 >>> 0) &&& 1 = b2i b0 1) ∧ ((wdX b0 b1 b2 b3 b4 b5 b6 b7 >>> 1) &&& 1 = b2i b1 1) ∧ ((wdX b0 b1 b2 b3 b4 b5 b6 b7 >>> 2) &&& 1 = b2i b2 1) ∧ ((wdX b0 b1 b2 b3 b4 b5 b6 b7 >>> 3) &&& 1 = b2i b3 1) ∧ ((wdX b0 b1 b2 b3 b4 b5 b6 b7 >>> 4) &&& 1 = b2i b4 1) ∧ ((wdX b0 b1 b2 b3 b4 b5 b6 b7 >>> 5) &&& 1 = b2i b5 1) ∧ ((wdX b0 b1 b2 b3 b4 b5 b6 b7 >>> 6) &&& 1 = b2i b6 1) ∧ ((wdX b0 b1 b2 b3 b4 b5 b6 b7 >>> 7) &&& 1 = b2i b7 1) := by decide +kernel
theorem i8_cases {i : Nat} (h : i < 8) : i = 0 ∨ i = 1 ∨ i = 2 ∨ i = 3 ∨ i = 4 ∨ i = 5 ∨ i = 6 ∨ i = 7 := by omega
theorem wd8_and (g : Nat → Bool) {i : Nat} (h : i < 8) : (wd8 g &&& p2 i = 0) ↔ g i = false := by
  obtain ⟨h0, h1, h2, h3, h4, h5, h6, h7⟩ := wdX_and (g 0) (g 1) (g 2) (g 3) (g 4) (g 5) (g 6) (g 7)
  rcases i8_cases h with rfl | rfl | rfl | rfl | rfl | rfl | rfl | rfl
  · exact h0
  · exact h1
  · exact h2
  · exact h3
  · exact h4
  · exact h5
  · exact h6
  · exact h7
theorem wd8_shr (g : Nat → Bool) {i : Nat} (h : i < 8) : (wd8 g >>> (nn i)) &&& 1 = b2i (g i) 1 := by
  obtain ⟨h0, h1, h2, h3, h4, h5, h6, h7⟩ := wdX_shr (g 0) (g 1) (g 2) (g 3) (g 4) (g 5) (g 6) (g 7)
  rcases i8_cases h with rfl | rfl | rfl | rfl | rfl | rfl | rfl | rfl
  · exact h0
  · exact h1
  · exact h2
  · exact h3
  · exact h4
  · exact h5
  · exact h6
  · exact h7
theorem wd8_or (g : Nat → Bool) {i : Nat} (h : i = 4 ∨ i = 6) : wd8 g ||| p2 i = wd8 (updB g i true) := by
  obtain ⟨h0, h1⟩ := wdX_or (g 0) (g 1) (g 2) (g 3) (g 4) (g 5) (g 6) (g 7)
  rcases h with rfl | rfl
  · exact h0
  · exact h1
theorem wd8_not (g : Nat → Bool) {i : Nat} (h : i = 2 ∨ i = 3 ∨ i = 5 ∨ i = 7) : wd8 g &&& (p2 i ^^^ -1) = wd8 (updB g i false) := by
  obtain ⟨h0, h1, h2, h3⟩ := wdX_not (g 0) (g 1) (g 2) (g 3) (g 4) (g 5) (g 6) (g 7)
  rcases h with rfl | rfl | rfl | rfl
  · exact h0
  · exact h1
  · exact h2
  · exact h3
/-! facts of a sum e at a node k -/
def t1R (R : Rt) (k : Nat) : Option Nat := nT1 (ndA (nds R) k)
def t2R (R : Rt) (k : Nat) : Option Nat := nT2 (ndA (nds R) k)
def smA (R : Rt) (e : Nat) : Sm := (sms R.1).getD e (0, (0, 0), (0, 0))
def killN (x : Nd) (s : Sm) : Prop := if nK x = 2 then s.1 = 114 ∧ s.2.1.2 = nRw x else ¬ nNm x < 0 ∧ (s.2.1.1 = nNm x ∨ s.2.2.1 = nNm x)
def boldS (s : Sm) : Prop := s.1 = 47 ∨ s.1 = 114
def seenN (R : Rt) (x : Nd) : Prop := nK x = 3 ∨ nK x = 2 ∨ nK x = 0 ∧ ∃ e, nSm x = some e ∧ boldS (smA R e)
def wkP (R : Rt) (e k : Nat) : Prop := nSm (ndA (nds R) k) = some e
def klP (R : Rt) (e k : Nat) : Prop := killN (ndA (nds R) k) (smA R e)
def bsP (R : Rt) (e k : Nat) : Prop := boldS (smA R e) ∧ seenN R (ndA (nds R) k)
def fct (R : Rt) (e : Nat) : Nat → Nat → Prop
  | 0 => wkP R e
  | 1 => klP R e
  | 2 => gWan (nds R).length (t1R R) (t2R R) (wkP R e) (klP R e) (bsP R e)
  | 3 => gThe (nds R).length (t1R R) (t2R R) (wkP R e) (klP R e)
  | 4 => gEar (nds R).length (t1R R) (t2R R) (wkP R e) (klP R e) (bsP R e)
  | 5 => gDel (nds R).length (t1R R) (t2R R) (wkP R e) (klP R e) (bsP R e)
  | 6 => gLat (nds R).length (t1R R) (t2R R) (wkP R e) (klP R e) (bsP R e)
  | _ => gAlo (nds R).length (t1R R) (t2R R) (wkP R e) (klP R e) (bsP R e)
noncomputable def fwd (R : Rt) (e k : Nat) : Int32 := wd8 (fun i => b9 (fct R e i k))
/-- all that is named is there -/
def TgOk (R : Rt) : Prop := ∀ x ∈ R.1, ∀ t ∈ iT x.2, t.2 < R.2.length
def NdOk (R : Rt) (k : Nat) (x : Nd) : Prop := nK x ≤ 7 ∧ (∀ j, nT1 x = some j → j < (nds R).length) ∧ (∀ j, nT2 x = some j → j < (nds R).length) ∧ (∀ e, nSm x = some e → e < (sms R.1).length) ∧ nB x < R.2.length ∧ (nNm x = -1 ∨ ∃ n, n < 48 ∧ nNm x = nn n) ∧ (nK x = 0 → ∃ e, nSm x = some e) ∧ (nK x ≠ 0 → nSm x = none) ∧ (nK x = 6 → nT1 x = none ∧ nT2 x = none) ∧ (nK x ≠ 6 → ∃ j, nT1 x = some j) ∧ (nK x < 2 ↔ nNm x ≠ -1) ∧ OOk (nOa x) ∧ OOk (nOb x) ∧ (nK x = 2 → ∃ r, r < 2 ∧ nRw x = nn r) ∧ (nK x = 5 ↔ ∃ j, nT2 x = some j) ∧ (R.1.length ≤ k ↔ nK x = 7)
theorem thr_lt {R : Rt} (w : WfR R) {t : Nat} {ow : List Nat} {wy : Nat → Nat} (ht : t < R.2.length) {m : Nat} (hm : R.1.length + (thr R.1.length (fstN R.2) wy t ow).2.length ≤ m) : (thr R.1.length (fstN R.2) wy t ow).1 < m := by
  have h1 := w.2.2.1 t ht
  unfold thr at hm ⊢
  split
  · next h => rw [if_pos h] at hm; simp only at hm ⊢; omega
  · next h => rw [if_neg h] at hm; simp at hm ⊢; omega
theorem led_le {n0 : Nat} {fst wy : Nat → Nat} : ∀ suf k ow, ow.length ≤ (led n0 fst wy k suf ow).2.length := by
  intro suf
  induction suf with
  | nil => intro k ow; exact Nat.le_refl _
  | cons x suf ih =>
    intro k ow
    rw [led_cons]
    refine Nat.le_trans ?_ (ih _ _)
    unfold ldx
    split
    · exact Nat.le_refl _
    · split
      · exact Nat.le_refl _
      · next t u _ =>
        have h1 := thr_len (n0 := n0) (fst := fst) (wy := wy) (t := t.2) (ow := ow)
        have h2 := thr_len (n0 := n0) (fst := fst) (wy := wy) (t := u.2) (ow := (thr n0 fst wy t.2 ow).2)
        simp only; omega
      · exact Nat.le_refl _
/-- where lines lead, and the blocks of nodes on the way -/
theorem led_ok {R : Rt} (w : WfR R) (hT : TgOk R) : ∀ suf k ow m, (∀ j, suf[j]? = R.1[k + j]?) → (∀ b ∈ ow, b < R.2.length) → R.1.length + (led R.1.length (fstN R.2) (wyE R) k suf ow).2.length ≤ m →
    (∀ (j : Nat) (t : Option Nat × Option Nat) (x : FIt), (led R.1.length (fstN R.2) (wyE R) k suf ow).1[j]? = some t → suf[j]? = some x → (∀ i, t.1 = some i → i < m) ∧ (∀ i, t.2 = some i → i < m) ∧ (x.2.1 = 6 → t = (none, none)) ∧ (x.2.1 ≠ 6 → ∃ i, t.1 = some i) ∧ (x.2.1 = 5 ↔ ∃ i, t.2 = some i)) ∧ ∀ b ∈ (led R.1.length (fstN R.2) (wyE R) k suf ow).2, b < R.2.length := by
  intro suf
  induction suf with
  | nil => intro k ow m _ hb _; exact ⟨fun j t x h => by simp [led] at h, hb⟩
  | cons x suf ih =>
    intro k ow m hs hb hm
    rw [led_cons] at hm ⊢
    have hx : R.1[k]? = some x := (hs 0).symm
    have hmem := List.mem_of_getElem? hx
    have hkl := (List.getElem?_eq_some_iff.1 hx).1
    obtain ⟨x1, x2, x3, x4, hok⟩ := w.2.2.2.2.1 k x hx
    have hle := led_le (n0 := R.1.length) (fst := fstN R.2) (wy := wyE R) suf (k + 1) (ldx R.1.length (fstN R.2) (wyE R) k x.2 ow).2
    have hcase : x.2.1 < 4 ∨ x.2.1 = 4 ∨ x.2.1 = 5 ∨ x.2.1 = 6 := by have := hok.1; omega
    have key : ((∀ i, (ldx R.1.length (fstN R.2) (wyE R) k x.2 ow).1.1 = some i → i < m) ∧ (∀ i, (ldx R.1.length (fstN R.2) (wyE R) k x.2 ow).1.2 = some i → i < m) ∧ (x.2.1 = 6 → (ldx R.1.length (fstN R.2) (wyE R) k x.2 ow).1 = (none, none)) ∧ (x.2.1 ≠ 6 → ∃ i, (ldx R.1.length (fstN R.2) (wyE R) k x.2 ow).1.1 = some i) ∧ (x.2.1 = 5 ↔ ∃ i, (ldx R.1.length (fstN R.2) (wyE R) k x.2 ow).1.2 = some i)) ∧ ∀ b ∈ (ldx R.1.length (fstN R.2) (wyE R) k x.2 ow).2, b < R.2.length := by
      rcases hcase with hk | hk | hk | hk
      · have hl : ldx R.1.length (fstN R.2) (wyE R) k x.2 ow = ((some (k + 1), none), ow) := by unfold ldx; rw [if_pos hk]
        rw [hl] at hle hm ⊢
        simp only at hm
        refine ⟨⟨fun i h => ?_, fun i h => (by simp at h), fun h => (by omega), fun _ => ⟨_, rfl⟩, ⟨fun h => (by omega), fun ⟨i, h⟩ => (by simp at h)⟩⟩, hb⟩
        simp at h
        subst h
        have h9 : ¬ (k + 1 = nxtN R x.1) := fun q => by have := x4.2 q; omega
        have := (w.2.2.1 x.1 x1).2
        omega
      · obtain ⟨t, ht⟩ := hok.2.2.2.2.2.2.2.2.1 hk
        have htl := hT x hmem t (by rw [ht]; simp)
        have hl : ldx R.1.length (fstN R.2) (wyE R) k x.2 ow = ((some (fstN R.2 t.2), none), ow) := by unfold ldx; rw [if_neg (by omega), ht]
        rw [hl] at hle hm ⊢
        simp only at hm
        refine ⟨⟨fun i h => ?_, fun i h => (by simp at h), fun h => (by omega), fun _ => ⟨_, rfl⟩, ⟨fun h => (by omega), fun ⟨i, h⟩ => (by simp at h)⟩⟩, hb⟩
        simp at h
        subst h
        have := w.2.2.1 t.2 htl
        omega
      · obtain ⟨t, u, ht⟩ := hok.2.2.2.2.2.2.2.2.2.1 hk
        have htl := hT x hmem t (by rw [ht]; simp)
        have hul := hT x hmem u (by rw [ht]; simp)
        have hl : ldx R.1.length (fstN R.2) (wyE R) k x.2 ow = ((some (thr R.1.length (fstN R.2) (wyE R) t.2 ow).1, some (thr R.1.length (fstN R.2) (wyE R) u.2 (thr R.1.length (fstN R.2) (wyE R) t.2 ow).2).1), (thr R.1.length (fstN R.2) (wyE R) u.2 (thr R.1.length (fstN R.2) (wyE R) t.2 ow).2).2) := by
          unfold ldx; rw [if_neg (by omega), ht]
        rw [hl] at hle hm ⊢
        simp only at hm hle
        have l2 := thr_len (n0 := R.1.length) (fst := fstN R.2) (wy := wyE R) (t := u.2) (ow := (thr R.1.length (fstN R.2) (wyE R) t.2 ow).2)
        have mem : ∀ (t : Nat) (ow : List Nat), t < R.2.length → (∀ b ∈ ow, b < R.2.length) → ∀ b ∈ (thr R.1.length (fstN R.2) (wyE R) t ow).2, b < R.2.length := by
          intro t ow h1 h2 b hb
          unfold thr at hb
          split at hb
          · exact h2 b hb
          · simp at hb
            rcases hb with hb | hb
            · exact h2 b hb
            · subst hb; exact h1
        refine ⟨⟨fun i h => ?_, fun i h => ?_, fun h => (by omega), fun _ => ⟨_, rfl⟩, ⟨fun h => ⟨_, rfl⟩, fun _ => hk⟩⟩, mem u.2 _ hul (mem t.2 _ htl hb)⟩
        · simp at h; subst h; exact thr_lt w htl (by omega)
        · simp at h; subst h; exact thr_lt w hul (by omega)
      · have hT0 : iT x.2 = [] := hok.2.2.2.2.2.2.2.2.2.2.1 (by omega) (by omega)
        have hl : ldx R.1.length (fstN R.2) (wyE R) k x.2 ow = ((none, none), ow) := by unfold ldx; rw [if_neg (by omega), hT0]
        rw [hl]
        exact ⟨⟨fun i h => (by simp at h), fun i h => (by simp at h), fun _ => rfl, fun h => absurd hk h, ⟨fun h => (by omega), fun ⟨i, h⟩ => (by simp at h)⟩⟩, hb⟩
    have := ih (k + 1) (ldx R.1.length (fstN R.2) (wyE R) k x.2 ow).2 m (fun j => by have := hs (j + 1); rw [show k + (j + 1) = k + 1 + j by omega] at this; exact this) key.2 hm
    refine ⟨fun j t y hj hy => ?_, this.2⟩
    cases j with
    | zero =>
      have h1 := Option.some.inj hj
      have h2 := Option.some.inj hy
      subst h1; subst h2
      exact key.1
    | succ j => exact this.1 j t y hj hy
theorem nds_ok {R : Rt} (w : WfR R) (hT : TgOk R) {k : Nat} {x : Nd} (h : (nds R)[k]? = some x) : NdOk R k x := by
  obtain ⟨h1, h2⟩ := led_ok w hT R.1 0 [] (nds R).length (fun j => by simp) (fun b hb => by simp at hb) (by rw [nds_len]; exact Nat.le_refl _)
  by_cases c : k < R.1.length
  · rw [nds_lt c] at h
    have h' := Option.some.inj h
    have hg : R.1[k]? = some (R.1.getD k fit0) := by rw [List.getD_eq_getElem?_getD, List.getElem?_eq_getElem c]; rfl
    have hg2 : (ledR R).1[k]? = some ((ledR R).1.getD k (none, none)) := by rw [List.getD_eq_getElem?_getD, List.getElem?_eq_getElem (by rw [ledR_len]; exact c)]; rfl
    obtain ⟨c1, c2, c3, c4, c5⟩ := h1 k _ _ hg2 hg
    obtain ⟨x1, x2, x3, x4, hok⟩ := w.2.2.2.2.1 k _ hg
    subst h'
    unfold NdOk nd1 nK nB nNm nSm nT1 nT2 nOa nOb nRw
    simp only
    refine ⟨by have := hok.1; omega, c1, c2, fun e he => ?_, x1, ?_, fun h0 => ?_, fun h0 => ?_, fun h6 => ?_, c4, ?_, hok.2.2.2.2.1, hok.2.2.2.2.2.1, hok.2.2.2.1, c5, ⟨fun q => by omega, fun q => by have := hok.1; omega⟩⟩
    · rw [Option.map_eq_some_iff] at he
      obtain ⟨s, hs1, hs2⟩ := he
      subst hs2
      exact List.idxOf_lt_length_of_mem (sms_mem (List.mem_of_getElem? hg) hs1)
    · by_cases q : (R.1.getD k fit0).2.1 < 2
      · exact Or.inr (hok.2.1 q)
      · exact Or.inl (hok.2.2.1 (by omega))
    · obtain ⟨s, hs1, hs2⟩ := hok.2.2.2.2.2.2.1 h0
      exact ⟨_, by rw [hs1]; rfl⟩
    · rw [hok.2.2.2.2.2.2.2.1 h0]; rfl
    · have := c3 h6; rw [this]; exact ⟨rfl, rfl⟩
    · constructor
      · intro q q'
        obtain ⟨n, hn1, hn2⟩ := hok.2.1 q
        rw [hn2] at q'
        exact (nn_neg1 (by omega)).1 q'
      · intro q
        refine Classical.byContradiction fun q' => q (hok.2.2.1 (by omega))
  · rw [nds_ge (by omega)] at h
    rw [Option.map_eq_some_iff] at h
    obtain ⟨b, hb1, hb2⟩ := h
    have hb := h2 b (List.mem_of_getElem? hb1)
    have hf := w.2.2.1 b hb
    subst hb2
    refine ⟨Nat.le_refl 7, fun j hj => ?_, fun j hj => (nomatch hj), fun e he => (nomatch he), hb, Or.inl rfl, fun q => absurd q (show ¬ (7 : Nat) = 0 by omega), fun _ => rfl, fun q => absurd q (show ¬ (7 : Nat) = 6 by omega), fun _ => ⟨_, rfl⟩, ⟨fun q => absurd q (show ¬ (7 : Nat) < 2 by omega), fun q => absurd rfl q⟩, OOk0, OOk0, fun q => absurd q (show ¬ (7 : Nat) = 2 by omega), ⟨fun q => absurd q (show ¬ (7 : Nat) = 5 by omega), fun ⟨j, hj⟩ => (nomatch hj)⟩, ⟨fun _ => rfl, fun _ => by omega⟩⟩
    cases hj
    rw [nds_len]; omega
theorem nds_240 {R : Rt} (w : WfR R) : (nds R).length ≤ 240 := by
  rw [nds_len]; have := w.1; have := ledR_ow w; omega
