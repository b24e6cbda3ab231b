/-! THE COMPONENT: a routine, closed -/
set_option maxRecDepth 100000
/-- what a node's object says -/
def NdD (σ : AH) (a : Nat) (x : Nd) (ss : List Nat) (lo hi : Nat) : Prop := (nK x < 2 → hI σ a 4 = nNm x) ∧ (nK x = 0 → ∃ e y, nSm x = some e ∧ ss[e]? = some y ∧ hR σ a 5 = some y) ∧ (nK x = 1 → ∃ y, hR σ a 5 = some y ∧ OpdI σ y (nOa x) lo hi) ∧ (nK x = 2 → hI σ a 4 = nRw x ∧ ∃ y z, hR σ a 5 = some y ∧ hR σ a 6 = some z ∧ OpdI σ y (nOa x) lo hi ∧ OpdI σ z (nOb x) lo hi) ∧ (nK x = 3 → ∃ y, hR σ a 4 = some y ∧ OpdI σ y (nOa x) lo hi) ∧ (nK x = 5 → ∃ y z, hR σ a 4 = some y ∧ hR σ a 5 = some z ∧ OpdI σ y (nOa x) lo hi ∧ OpdI σ z (nOb x) lo hi)
def RtB (κ : Nat → Option Nat) (σ : AH) (r : Nat) (R : Rt) (wss : List (Nat × List Nat)) (A NX BF : Nat → Nat) (B : Nat → List Nat) (ss : List Nat) (h9 : Nat) : Prop := (WfR R ∧ TgOk R ∧ 0 < R.2.length) ∧ (hT σ r = 4) ∧ (∀ i, i < 4 → hR σ r i = some (r + 1 + i)) ∧ (r + 8 ≤ h9 ∧ h9 ≤ hN σ) ∧ (AL κ σ (r + 1) (wss.map (·.1))) ∧ (wss.length = R.2.length) ∧ (∀ (b : Nat) (w : Nat × List Nat), wss[b]? = some w → AL κ σ w.1 w.2 ∧ r + 8 ≤ w.1 ∧ w.1 < h9 ∧ w.2.length = nxtN R b - fstN R.2 b ∧ ∀ j, j < w.2.length → w.2[j]? = some (A (fstN R.2 b + j))) ∧ (AL κ σ (r + 2) ((List.range (nds R).length).map A)) ∧ (AL κ σ (r + 3) ss) ∧ (ss.length = (sms R.1).length) ∧ (hI σ r 4 = nn R.1.length) ∧ (hI σ r 5 = nn ((nds R).length - R.1.length)) ∧ (∀ k, k < (nds R).length → r + 8 ≤ A k ∧ A k < h9 ∧ r + 8 ≤ NX k ∧ NX k < h9 ∧ r + 8 ≤ BF k ∧ BF k < h9) ∧ (∀ k, k < (nds R).length → hT σ (A k) = 7 + nK (ndA (nds R) k) ∧ hI σ (A k) 0 = nn k ∧ hI σ (A k) 1 = nn (nB (ndA (nds R) k)) ∧ hR σ (A k) 2 = some (NX k) ∧ hR σ (A k) 3 = some (BF k) ∧ AL κ σ (NX k) ((tl9 (t1R R k, t2R R k)).map A) ∧ AL κ σ (BF k) ((B k).map A)) ∧ (∀ k, k < (nds R).length → (∀ p, p ∈ B k ↔ ld (nds R).length (t1R R) (t2R R) p k) ∧ (B k).length = cntT (nds R).length (fun a => b9 (t1R R a = some k ∨ t2R R a = some k))) ∧ (∀ k, k < (nds R).length → NdD σ (A k) (ndA (nds R) k) ss (r + 8) h9) ∧ (∀ b, b < R.2.length → EndA σ R b (A (lastN R b))) ∧ (∀ e, e < (sms R.1).length → ∃ y, ss[e]? = some y ∧ SumI σ y (smA R e) (r + 8) h9 ∧ hI σ y 0 = nn e)
theorem RtB.wf {κ : Nat → Option Nat} {σ : AH} {r : Nat} {R : Rt} {wss : List (Nat × List Nat)} {A NX BF : Nat → Nat} {B : Nat → List Nat} {ss : List Nat} {h9 : Nat} (h : RtB κ σ r R wss A NX BF B ss h9) : WfR R ∧ TgOk R ∧ 0 < R.2.length := h.1
theorem RtB.tr {κ : Nat → Option Nat} {σ : AH} {r : Nat} {R : Rt} {wss : List (Nat × List Nat)} {A NX BF : Nat → Nat} {B : Nat → List Nat} {ss : List Nat} {h9 : Nat} (h : RtB κ σ r R wss A NX BF B ss h9) : hT σ r = 4 := h.2.1
theorem RtB.rr {κ : Nat → Option Nat} {σ : AH} {r : Nat} {R : Rt} {wss : List (Nat × List Nat)} {A NX BF : Nat → Nat} {B : Nat → List Nat} {ss : List Nat} {h9 : Nat} (h : RtB κ σ r R wss A NX BF B ss h9) : ∀ i, i < 4 → hR σ r i = some (r + 1 + i) := h.2.2.1
theorem RtB.r9 {κ : Nat → Option Nat} {σ : AH} {r : Nat} {R : Rt} {wss : List (Nat × List Nat)} {A NX BF : Nat → Nat} {B : Nat → List Nat} {ss : List Nat} {h9 : Nat} (h : RtB κ σ r R wss A NX BF B ss h9) : r + 8 ≤ h9 ∧ h9 ≤ hN σ := h.2.2.2.1
theorem RtB.al {κ : Nat → Option Nat} {σ : AH} {r : Nat} {R : Rt} {wss : List (Nat × List Nat)} {A NX BF : Nat → Nat} {B : Nat → List Nat} {ss : List Nat} {h9 : Nat} (h : RtB κ σ r R wss A NX BF B ss h9) : AL κ σ (r + 1) (wss.map (·.1)) := h.2.2.2.2.1
theorem RtB.wl {κ : Nat → Option Nat} {σ : AH} {r : Nat} {R : Rt} {wss : List (Nat × List Nat)} {A NX BF : Nat → Nat} {B : Nat → List Nat} {ss : List Nat} {h9 : Nat} (h : RtB κ σ r R wss A NX BF B ss h9) : wss.length = R.2.length := h.2.2.2.2.2.1
theorem RtB.rows {κ : Nat → Option Nat} {σ : AH} {r : Nat} {R : Rt} {wss : List (Nat × List Nat)} {A NX BF : Nat → Nat} {B : Nat → List Nat} {ss : List Nat} {h9 : Nat} (h : RtB κ σ r R wss A NX BF B ss h9) : ∀ (b : Nat) (w : Nat × List Nat), wss[b]? = some w → AL κ σ w.1 w.2 ∧ r + 8 ≤ w.1 ∧ w.1 < h9 ∧ w.2.length = nxtN R b - fstN R.2 b ∧ ∀ j, j < w.2.length → w.2[j]? = some (A (fstN R.2 b + j)) := h.2.2.2.2.2.2.1
theorem RtB.ns {κ : Nat → Option Nat} {σ : AH} {r : Nat} {R : Rt} {wss : List (Nat × List Nat)} {A NX BF : Nat → Nat} {B : Nat → List Nat} {ss : List Nat} {h9 : Nat} (h : RtB κ σ r R wss A NX BF B ss h9) : AL κ σ (r + 2) ((List.range (nds R).length).map A) := h.2.2.2.2.2.2.2.1
theorem RtB.sl {κ : Nat → Option Nat} {σ : AH} {r : Nat} {R : Rt} {wss : List (Nat × List Nat)} {A NX BF : Nat → Nat} {B : Nat → List Nat} {ss : List Nat} {h9 : Nat} (h : RtB κ σ r R wss A NX BF B ss h9) : AL κ σ (r + 3) ss := h.2.2.2.2.2.2.2.2.1
theorem RtB.sn {κ : Nat → Option Nat} {σ : AH} {r : Nat} {R : Rt} {wss : List (Nat × List Nat)} {A NX BF : Nat → Nat} {B : Nat → List Nat} {ss : List Nat} {h9 : Nat} (h : RtB κ σ r R wss A NX BF B ss h9) : ss.length = (sms R.1).length := h.2.2.2.2.2.2.2.2.2.1
theorem RtB.i4 {κ : Nat → Option Nat} {σ : AH} {r : Nat} {R : Rt} {wss : List (Nat × List Nat)} {A NX BF : Nat → Nat} {B : Nat → List Nat} {ss : List Nat} {h9 : Nat} (h : RtB κ σ r R wss A NX BF B ss h9) : hI σ r 4 = nn R.1.length := h.2.2.2.2.2.2.2.2.2.2.1
theorem RtB.i5 {κ : Nat → Option Nat} {σ : AH} {r : Nat} {R : Rt} {wss : List (Nat × List Nat)} {A NX BF : Nat → Nat} {B : Nat → List Nat} {ss : List Nat} {h9 : Nat} (h : RtB κ σ r R wss A NX BF B ss h9) : hI σ r 5 = nn ((nds R).length - R.1.length) := h.2.2.2.2.2.2.2.2.2.2.2.1
theorem RtB.iv {κ : Nat → Option Nat} {σ : AH} {r : Nat} {R : Rt} {wss : List (Nat × List Nat)} {A NX BF : Nat → Nat} {B : Nat → List Nat} {ss : List Nat} {h9 : Nat} (h : RtB κ σ r R wss A NX BF B ss h9) : ∀ k, k < (nds R).length → r + 8 ≤ A k ∧ A k < h9 ∧ r + 8 ≤ NX k ∧ NX k < h9 ∧ r + 8 ≤ BF k ∧ BF k < h9 := h.2.2.2.2.2.2.2.2.2.2.2.2.1
theorem RtB.nd {κ : Nat → Option Nat} {σ : AH} {r : Nat} {R : Rt} {wss : List (Nat × List Nat)} {A NX BF : Nat → Nat} {B : Nat → List Nat} {ss : List Nat} {h9 : Nat} (h : RtB κ σ r R wss A NX BF B ss h9) : ∀ k, k < (nds R).length → hT σ (A k) = 7 + nK (ndA (nds R) k) ∧ hI σ (A k) 0 = nn k ∧ hI σ (A k) 1 = nn (nB (ndA (nds R) k)) ∧ hR σ (A k) 2 = some (NX k) ∧ hR σ (A k) 3 = some (BF k) ∧ AL κ σ (NX k) ((tl9 (t1R R k, t2R R k)).map A) ∧ AL κ σ (BF k) ((B k).map A) := h.2.2.2.2.2.2.2.2.2.2.2.2.2.1
theorem RtB.bf {κ : Nat → Option Nat} {σ : AH} {r : Nat} {R : Rt} {wss : List (Nat × List Nat)} {A NX BF : Nat → Nat} {B : Nat → List Nat} {ss : List Nat} {h9 : Nat} (h : RtB κ σ r R wss A NX BF B ss h9) : ∀ k, k < (nds R).length → (∀ p, p ∈ B k ↔ ld (nds R).length (t1R R) (t2R R) p k) ∧ (B k).length = cntT (nds R).length (fun a => b9 (t1R R a = some k ∨ t2R R a = some k)) := h.2.2.2.2.2.2.2.2.2.2.2.2.2.2.1
theorem RtB.dt {κ : Nat → Option Nat} {σ : AH} {r : Nat} {R : Rt} {wss : List (Nat × List Nat)} {A NX BF : Nat → Nat} {B : Nat → List Nat} {ss : List Nat} {h9 : Nat} (h : RtB κ σ r R wss A NX BF B ss h9) : ∀ k, k < (nds R).length → NdD σ (A k) (ndA (nds R) k) ss (r + 8) h9 := h.2.2.2.2.2.2.2.2.2.2.2.2.2.2.2.1
theorem RtB.en {κ : Nat → Option Nat} {σ : AH} {r : Nat} {R : Rt} {wss : List (Nat × List Nat)} {A NX BF : Nat → Nat} {B : Nat → List Nat} {ss : List Nat} {h9 : Nat} (h : RtB κ σ r R wss A NX BF B ss h9) : ∀ b, b < R.2.length → EndA σ R b (A (lastN R b)) := h.2.2.2.2.2.2.2.2.2.2.2.2.2.2.2.2.1
theorem RtB.sm {κ : Nat → Option Nat} {σ : AH} {r : Nat} {R : Rt} {wss : List (Nat × List Nat)} {A NX BF : Nat → Nat} {B : Nat → List Nat} {ss : List Nat} {h9 : Nat} (h : RtB κ σ r R wss A NX BF B ss h9) : ∀ e, e < (sms R.1).length → ∃ y, ss[e]? = some y ∧ SumI σ y (smA R e) (r + 8) h9 ∧ hI σ y 0 = nn e := h.2.2.2.2.2.2.2.2.2.2.2.2.2.2.2.2.2
section RB
variable {κ : Nat → Option Nat} {M MR : Nat → Prop} {σ σ' : AH} {r c s h9 : Nat} {R : Rt} {wss : List (Nat × List Nat)} {A NX BF : Nat → Nat} {B : Nat → List Nat} {ss : List Nat}
theorem NdD.hl {a lo hi : Nat} {x : Nd} (h : NdD σ a x ss lo hi) (ht : hT σ a = 7 + nK x) (h7 : nK x ≤ 7) (hk : Hok κ σ) (F : HL κ M MR c s σ σ') (m1 : ¬ M a) (m2 : ¬ MR a) (ho : Off M MR lo hi) : NdD σ' a x ss lo hi := by
  obtain ⟨g1, g2, g3, g4, g5, g6⟩ := h
  have t0 : 7 + nK x ≠ 0 ∧ 7 + nK x ≠ 19 ∧ 7 + nK x ≠ 104 := by omega
  have gi := fun j => F.int hk ht t0 m1 j
  have gr := fun j => F.ref hk ht t0 m2 j
  refine ⟨fun q => (gi 4).trans (g1 q), fun q => ?_, fun q => ?_, fun q => ?_, fun q => ?_, fun q => ?_⟩
  · obtain ⟨e, y, e1, e2, e3⟩ := g2 q
    exact ⟨e, y, e1, e2, (gr 5).trans e3⟩
  · obtain ⟨y, e1, e2⟩ := g3 q
    exact ⟨y, (gr 5).trans e1, e2.hl hk F ho⟩
  · obtain ⟨e0, x, y, e1, e2, e3, e4⟩ := g4 q
    exact ⟨(gi 4).trans e0, x, y, (gr 5).trans e1, (gr 6).trans e2, e3.hl hk F ho, e4.hl hk F ho⟩
  · obtain ⟨x, e1, e2⟩ := g5 q
    exact ⟨x, (gr 4).trans e1, e2.hl hk F ho⟩
  · obtain ⟨x, y, e1, e2, e3, e4⟩ := g6 q
    exact ⟨x, y, (gr 4).trans e1, (gr 5).trans e2, e3.hl hk F ho, e4.hl hk F ho⟩
theorem RtB.ndk (h : RtB κ σ r R wss A NX BF B ss h9) {k : Nat} (hk : k < (nds R).length) : NdOk R k (ndA (nds R) k) := by
  have hg : (nds R)[k]? = some (ndA (nds R) k) := by unfold ndA; rw [List.getD_eq_getElem?_getD, List.getElem?_eq_getElem hk]; rfl
  exact nds_ok h.wf.1 h.wf.2.1 hg
theorem RtB.hl (h : RtB κ σ r R wss A NX BF B ss h9) (hk : Hok κ σ) (F : HL κ M MR c s σ σ') (hm : ∀ a, r ≤ a → a < h9 → a ≠ r + 4 → ¬ M a ∧ ¬ MR a) : RtB κ σ' r R wss A NX BF B ss h9 := by
  have r9 := h.r9
  have ho : Off M MR (r + 8) h9 := fun a h1 h2 => hm a (by omega) h2 (by omega)
  obtain ⟨mr1, mr2⟩ := hm r (Nat.le_refl _) (by omega) (by omega)
  refine ⟨h.wf, F.tg hk h.tr (by decide), fun i hi' => (F.ref hk h.tr (by decide) mr2 i).trans (h.rr i hi'), ⟨r9.1, by have := F.lt; omega⟩, F.al h.al (hm _ (by omega) (by omega) (by omega)).1, h.wl, fun b w hb => ?_, F.al h.ns (hm _ (by omega) (by omega) (by omega)).1, F.al h.sl (hm _ (by omega) (by omega) (by omega)).1, h.sn, (F.int hk h.tr (by decide) mr1 4).trans h.i4, (F.int hk h.tr (by decide) mr1 5).trans h.i5, h.iv, fun k hk' => ?_, h.bf, fun k hk' => ?_, fun b hb => ?_, fun e he => ?_⟩
  · obtain ⟨q1, q2, q3, q4⟩ := h.rows b w hb
    exact ⟨F.al q1 (ho _ q2 q3).1, q2, q3, q4⟩
  · obtain ⟨t, i0, i1, r2, r3, a1, a2⟩ := h.nd k hk'
    obtain ⟨v1, v2, v3, v4, v5, v6⟩ := h.iv k hk'
    obtain ⟨n1, n2⟩ := ho _ v1 v2
    have h7 := (h.ndk hk').1
    have t0 : 7 + nK (ndA (nds R) k) ≠ 0 ∧ 7 + nK (ndA (nds R) k) ≠ 19 ∧ 7 + nK (ndA (nds R) k) ≠ 104 := by omega
    exact ⟨F.tg hk t t0.1, (F.int hk t t0 n1 0).trans i0, (F.int hk t t0 n1 1).trans i1, (F.ref hk t t0 n2 2).trans r2, (F.ref hk t t0 n2 3).trans r3, F.al a1 (ho _ v3 v4).1, F.al a2 (ho _ v5 v6).1⟩
  · obtain ⟨v1, v2, -⟩ := h.iv k hk'
    obtain ⟨n1, n2⟩ := ho _ v1 v2
    exact (h.dt k hk').hl (h.nd k hk').1 (h.ndk hk').1 hk F n1 n2 ho
  · have hl := (end_get h.wf.1 hb).2.1
    have hn : lastN R b < (nds R).length := by rw [nds_len]; omega
    obtain ⟨v1, v2, -⟩ := h.iv _ hn
    exact (h.en b hb).hl hk F (ho _ v1 v2).1
  · obtain ⟨y, e1, e2, e3⟩ := h.sm e he
    refine ⟨y, e1, e2.hl hk F ho, ?_⟩
    have n1 := (ho y e2.1 e2.2.1).1
    rcases e2.tg with t | t
    · exact (F.int hk t (by decide) n1 0).trans e3
    · exact (F.int hk t (by decide) n1 0).trans e3
theorem RtB.endV (h : RtB κ σ r R wss A NX BF B ss h9) : EndV κ σ r R wss := by
  have w := h.wf.1
  refine ⟨r + 1, h.tr, h.rr 0 (by omega), h.al, h.wl, w.2.1, fun b ww hb => ?_⟩
  have hbl := (List.getElem?_eq_some_iff.1 hb).1
  have hbr : b < R.2.length := by rw [← h.wl]; exact hbl
  obtain ⟨q1, q2, q3, q4, q5⟩ := h.rows b _ hb
  have hw := w.2.2.1 b hbr
  refine ⟨q1, by omega, ?_⟩
  have e : eA wss b = A (lastN R b) := by
    have hl := q5 (ww.2.length - 1) (by omega)
    show (wss.getD b (0, [])).2.getLastD 0 = _
    rw [List.getD_eq_getElem?_getD, hb]
    simp only [Option.getD_some]
    rw [List.getLastD_eq_getLast?, List.getLast?_eq_getElem?, hl]
    unfold lastN
    simp only [Option.getD_some]
    congr 1
    omega
  rw [e]
  exact h.en b hbr
theorem bkO_nB {k : Nat} (hk : k < (nds R).length) : bkO R (ledR R).2 k = nB (ndA (nds R) k) := by
  rw [nds_len] at hk
  unfold bkO
  by_cases c : k < R.1.length
  · rw [if_pos c, ndA_lt c]; rfl
  · have hg : (ledR R).2[k - R.1.length]? = some ((ledR R).2[k - R.1.length]'(by omega)) := List.getElem?_eq_getElem _
    rw [if_neg c, ndA_ge (by omega) hg, List.getD_eq_getElem?_getD, hg]; rfl
/-- close leaves a routine -/
theorem P5.rt {σ0 : AH} {lo hi : Nat → Nat} {E : Edg} (h : P5 κ σ0 σ r R wss A lo hi NX BF (ledR R).2 E (R.1.length + (ledR R).2.length) ss) (hJ : JInv R R.2.length (ledR R).2 E) (w : WfR R) (hT9 : TgOk R) (h0 : 0 < R.2.length) : RtB κ σ r R wss A NX BF (inE E) ss (hN σ) := by
  have C := h.cs
  have hnl := nds_len R
  have htk : R.1.take (R.1.length + (ledR R).2.length) = R.1 := List.take_of_length_le (by omega)
  have hsn := h.sn
  have hsm := h.sm
  have hs1 := h.s1
  rw [htk] at hsn hsm hs1
  have h00 := w.2.2.1 0 h0
  have iv0 := C.iv 0 (by omega)
  have ns := h.ns
  rw [← hnl] at ns C
  have tgl : ∀ k, k < (nds R).length → hT σ (A k) = 7 + nK (ndA (nds R) k) := fun k hk => by
    rw [hnl] at hk
    by_cases c : k < R.1.length
    · have hx : R.1[k]? = some (R.1.getD k fit0) := by rw [List.getD_eq_getElem?_getD, List.getElem?_eq_getElem c]; rfl
      rw [(h.ig k _ hx).2.1, ndA_lt c]; rfl
    · have hg : (ledR R).2[k - R.1.length]? = some ((ledR R).2[k - R.1.length]'(by omega)) := List.getElem?_eq_getElem _
      rw [h.tg k (by omega) hk, ndA_ge (by omega) hg]; rfl
  refine ⟨⟨w, hT9, h0⟩, C.tr, C.rr, ⟨by omega, Nat.le_refl _⟩, C.al, C.wl, fun b ww hb => ?_, ns, h.sl, hsn, h.i4, ?_, fun k hk => ?_, fun k hk => ?_, fun k hk => hJ.inn w hT9 k, fun k hk => ?_, fun b hb => ?_, fun e he => ?_⟩
  · obtain ⟨q1, q2, q3, q4, q5⟩ := C.rows b ww hb
    exact ⟨q1, q2, C.ok.1.lt (by rw [q1.1]; decide), q3, q4⟩
  · rw [h.i5, hnl]; congr 1; omega
  · have := C.iv k hk; omega
  · have e := C.nd k hk
    have nm := h.nm k (by rw [← hnl]; exact hk)
    rw [bkO_nB hk] at nm
    rw [hJ.out w hk] at e
    exact ⟨tgl k hk, nm.1, nm.2, e.2.1, e.2.2.1, e.2.2.2.1, e.2.2.2.2⟩
  · rw [hnl] at hk
    by_cases c : k < R.1.length
    · have hx : R.1[k]? = some (R.1.getD k fit0) := by rw [List.getD_eq_getElem?_getD, List.getElem?_eq_getElem c]; rfl
      have ivk := C.iv k (by rw [hnl]; exact hk)
      have wd : ∀ y o, OpdI σ y o (lo k) (hi k) → OpdI σ y o (r + 8) (hN σ) := fun y o q => q.wd (by omega) (by omega)
      obtain ⟨h0', t, g1, g3, g4, g5, g6, g7⟩ := h.ig k _ hx
      rw [ndA_lt c]
      generalize hxx : R.1.getD k fit0 = x at *
      refine ⟨g1, fun q => ?_, fun q => ?_, fun q => ?_, fun q => ?_, fun q => ?_⟩
      · obtain ⟨z, y, e1, e2, e3, e4⟩ := hs1 k x (by omega) hx q
        exact ⟨_, y, by show (iS x.2).map _ = _; rw [e1]; rfl, e3, e4⟩
      · obtain ⟨y, e1, e2⟩ := g3 q
        exact ⟨y, e1, wd _ _ e2⟩
      · obtain ⟨e0, x, y, e1, e2, e3, e4⟩ := g4 q
        exact ⟨e0, x, y, e1, e2, wd _ _ e3, wd _ _ e4⟩
      · obtain ⟨y, e1, e2⟩ := g5 q
        exact ⟨y, e1, wd _ _ e2⟩
      · obtain ⟨⟨x, y, e1, e2, e3, e4⟩, -⟩ := g7 q
        exact ⟨x, y, e1, e2, wd _ _ e3, wd _ _ e4⟩
    · have hg : (ledR R).2[k - R.1.length]? = some ((ledR R).2[k - R.1.length]'(by omega)) := List.getElem?_eq_getElem _
      rw [ndA_ge (by omega) hg]
      have n7 : nK (nd7 (fstN R.2) ((ledR R).2[k - R.1.length]'(by omega))) = 7 := rfl
      exact ⟨fun q => by omega, fun q => by omega, fun q => by omega, fun q => by omega, fun q => by omega, fun q => by omega⟩
  · obtain ⟨e1, e2, e3, e4⟩ := end_get w hb
    obtain ⟨h0', t, g1, g3, g4, g5, g6, g7⟩ := h.ig _ _ e1
    exact ⟨t, e3, h0', g6, fun q => (g7 q).2, fun q => e4.2.2.2.2.2.2.2.2.2.2.1 (by rw [q]; decide) (by rw [q]; decide)⟩
  · have hg : (sms R.1)[e]? = some (smA R e) := by unfold smA; rw [List.getD_eq_getElem?_getD, List.getElem?_eq_getElem he]; rfl
    obtain ⟨y, i, q1, q2, q3, q4, q5⟩ := hsm e _ hg
    have ivk := C.iv i (by rw [hnl]; omega)
    exact ⟨y, q1, q4.wd (by omega) (by omega), q5⟩
end RB
