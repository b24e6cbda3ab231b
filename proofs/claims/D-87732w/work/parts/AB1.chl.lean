/-! THE COMPONENT: frames that know lists -/
set_option maxRecDepth 100000
theorem Hok.nx {κ : Nat → Option Nat} {rd : Nat} {σ σ' : AH} (h : Hok κ σ) (h1 : hT σ rd = 3) (hn : NxC rd σ σ') : Hok κ σ' ∧ HF (fun b => b = rd) 0 0 σ σ' := by
  obtain ⟨f1, f2, dk, f3, f4, f5⟩ := h
  obtain ⟨n1, n2, n3, n4, n5⟩ := hn
  have eN : hN σ' = hN σ := by unfold hN; rw [n1]
  have eC : hC σ' = hC σ := by unfold hC; rw [n1]
  have eS : hS σ' = hS σ := by unfold hS; rw [n1]
  have eT : hT σ' = hT σ := n2
  have eL : hL σ' = hL σ := n3
  have eR : hR σ' = hR σ := by unfold hR; rw [n4]
  have eG : hG σ' = hG σ := by unfold hG; rw [n4]
  have hlt := f1.lt (a := rd) (by rw [h1]; decide)
  refine ⟨⟨fun b hb => ?_, ⟨fun a d => by rw [eT, eR, eN]; exact f2.1 a d, fun a b d => by rw [eT, eR]; exact f2.2 a b d⟩, dk, f3, by rw [eT]; exact f4, by rw [eL]; exact f5⟩, by omega, fun a _ => by rw [eT, eL]; exact ⟨rfl, rfl⟩, fun a ha hm j => ?_, by omega, by omega⟩
  · rw [eN] at hb
    obtain ⟨x1, x2⟩ := f1 b hb
    refine ⟨by rw [eT]; exact x1, fun j => ?_⟩
    rw [n5 b j (fun q => by omega), eG, eR]; exact x2 j
  · have hne : a ≠ rd := by
      rcases hm with q | q
      · exact q
      · rintro rfl; rw [h1] at q; unfold KTg at q; omega
    rw [n5 a j (fun q => hne q.1), eG, eR]; exact ⟨rfl, rfl, rfl⟩
/-- what was there stays; ints of M, references of MR and lists of M may be others; rows belong to their lists -/
def HL (κ : Nat → Option Nat) (M MR : Nat → Prop) (c s : Nat) (σ σ' : AH) : Prop := Hok κ σ' ∧ hN σ ≤ hN σ' ∧ (∀ a, a < hN σ → hT σ' a = hT σ a ∧ hL σ' a = hL σ a) ∧ (∀ a, a < hN σ → hT σ a ≠ 19 → hT σ a ≠ 104 → ((¬ M a ∨ KTg (hT σ a)) → ∀ k, hI σ' a k = hI σ a k ∧ hG σ' a k = hG σ a k) ∧ ((¬ MR a ∨ KTg (hT σ a)) → ∀ k, hR σ' a k = hR σ a k)) ∧ (∀ a l, ¬ M a → AL κ σ a l → AL κ σ' a l) ∧ hC σ ≤ hC σ' + c ∧ hS σ ≤ hS σ' + s
abbrev NoM : Nat → Prop := fun _ => False
section HLs
variable {κ : Nat → Option Nat} {M MR M' MR' : Nat → Prop} {c s c' s' : Nat} {σ σ' σ1 σ2 : AH}
theorem HL.ok (h : HL κ M MR c s σ σ') : Hok κ σ' := h.1
theorem HL.rfl9 (h : Hok κ σ) : HL κ M MR 0 0 σ σ := ⟨h, Nat.le_refl _, fun _ _ => ⟨rfl, rfl⟩, fun _ _ _ _ => ⟨fun _ _ => ⟨rfl, rfl⟩, fun _ _ => rfl⟩, fun _ _ _ q => q, by omega, by omega⟩
theorem HL.trans (h : HL κ M MR c s σ σ1) (h' : HL κ M MR c' s' σ1 σ2) : HL κ M MR (c + c') (s + s') σ σ2 := by
  obtain ⟨a0, a1, a2, a3, a4, a5, a6⟩ := h
  obtain ⟨b0, b1, b2, b3, b4, b5, b6⟩ := h'
  refine ⟨b0, by omega, fun a ha => ?_, fun a ha t1 t2 => ⟨fun hm k => ?_, fun hm k => ?_⟩, fun a l hm q => b4 a l hm (a4 a l hm q), by omega, by omega⟩
  · have := a2 a ha
    have := b2 a (by omega)
    omega
  · have ht := (a2 a ha).1
    obtain ⟨x1, x2⟩ := (a3 a ha t1 t2).1 hm k
    obtain ⟨y1, y2⟩ := (b3 a (by omega) (by rw [ht]; exact t1) (by rw [ht]; exact t2)).1 (by rw [ht]; exact hm) k
    exact ⟨y1.trans x1, y2.trans x2⟩
  · have ht := (a2 a ha).1
    exact ((b3 a (by omega) (by rw [ht]; exact t1) (by rw [ht]; exact t2)).2 (by rw [ht]; exact hm) k).trans ((a3 a ha t1 t2).2 hm k)
theorem HL.mono (h : HL κ M MR c s σ σ') (hM : ∀ a, M a → M' a ∨ hN σ ≤ a) (hMR : ∀ a, MR a → MR' a ∨ hN σ ≤ a) (hf : Fsh σ) (hc : c ≤ c') (hs : s ≤ s') : HL κ M' MR' c' s' σ σ' := by
  obtain ⟨a0, a1, a2, a3, a4, a5, a6⟩ := h
  refine ⟨a0, a1, a2, fun a ha t1 t2 => ⟨fun hm => (a3 a ha t1 t2).1 (hm.imp (fun q z => (hM a z).elim q (fun y => by omega)) id), fun hm => (a3 a ha t1 t2).2 (hm.imp (fun q z => (hMR a z).elim q (fun y => by omega)) id)⟩, fun a l hm q => a4 a l (fun z => (hM a z).elim hm (fun y => ?_)) q, by omega, by omega⟩
  have := hf.lt (a := a) (by rw [q.1]; decide)
  omega
theorem HL.up (h : HL κ M MR c s σ σ') (hc : c ≤ c') (hs : s ≤ s') : HL κ M MR c' s' σ σ' := by
  obtain ⟨a0, a1, a2, a3, a4, a5, a6⟩ := h
  exact ⟨a0, a1, a2, a3, a4, by omega, by omega⟩
theorem HL.wk (h : HL κ NoM NoM c s σ σ') : HL κ M MR c s σ σ' := by
  obtain ⟨a0, a1, a2, a3, a4, a5, a6⟩ := h
  exact ⟨a0, a1, a2, fun a ha t1 t2 => ⟨fun _ => (a3 a ha t1 t2).1 (Or.inl id), fun _ => (a3 a ha t1 t2).2 (Or.inl id)⟩, fun a l _ q => a4 a l id q, a5, a6⟩
theorem HL.imp (h : HL κ M MR c s σ σ') (hM : ∀ a, M a → M' a) (hMR : ∀ a, MR a → MR' a) : HL κ M' MR' c s σ σ' := by
  obtain ⟨a0, a1, a2, a3, a4, a5, a6⟩ := h
  exact ⟨a0, a1, a2, fun a ha t1 t2 => ⟨fun hm => (a3 a ha t1 t2).1 (hm.imp (fun q z => q (hM a z)) id), fun hm => (a3 a ha t1 t2).2 (hm.imp (fun q z => q (hMR a z)) id)⟩, fun a l hm q => a4 a l (fun z => hm (hM a z)) q, a5, a6⟩
theorem HL.C (h : HL κ M MR c s σ σ') : hC σ ≤ hC σ' + c := h.2.2.2.2.2.1
theorem HL.S (h : HL κ M MR c s σ σ') : hS σ ≤ hS σ' + s := h.2.2.2.2.2.2
theorem HL.tag (h : HL κ M MR c s σ σ') (hk : Hok κ σ) {a : Nat} (ha : hT σ a ≠ 0) : hT σ' a = hT σ a := (h.2.2.1 a (hk.1.lt ha)).1
theorem HL.len (h : HL κ M MR c s σ σ') (hk : Hok κ σ) {a : Nat} (ha : hT σ a ≠ 0) : hL σ' a = hL σ a := (h.2.2.1 a (hk.1.lt ha)).2
theorem HL.tg (h : HL κ M MR c s σ σ') (hk : Hok κ σ) {a t : Nat} (ha : hT σ a = t) (ht : t ≠ 0) : hT σ' a = t := (h.tag hk (by rw [ha]; exact ht)).trans ha
theorem HL.int (h : HL κ M MR c s σ σ') (hk : Hok κ σ) {a t : Nat} (ha : hT σ a = t) (h0 : t ≠ 0 ∧ t ≠ 19 ∧ t ≠ 104) (hm : ¬ M a) (k : Nat) : hI σ' a k = hI σ a k := ((h.2.2.2.1 a (hk.1.lt (by rw [ha]; exact h0.1)) (by rw [ha]; exact h0.2.1) (by rw [ha]; exact h0.2.2)).1 (Or.inl hm) k).1
theorem HL.lng (h : HL κ M MR c s σ σ') (hk : Hok κ σ) {a t : Nat} (ha : hT σ a = t) (h0 : t ≠ 0 ∧ t ≠ 19 ∧ t ≠ 104) (hm : ¬ M a) (k : Nat) : hG σ' a k = hG σ a k := ((h.2.2.2.1 a (hk.1.lt (by rw [ha]; exact h0.1)) (by rw [ha]; exact h0.2.1) (by rw [ha]; exact h0.2.2)).1 (Or.inl hm) k).2
theorem HL.ref (h : HL κ M MR c s σ σ') (hk : Hok κ σ) {a t : Nat} (ha : hT σ a = t) (h0 : t ≠ 0 ∧ t ≠ 19 ∧ t ≠ 104) (hm : ¬ MR a) (k : Nat) : hR σ' a k = hR σ a k := (h.2.2.2.1 a (hk.1.lt (by rw [ha]; exact h0.1)) (by rw [ha]; exact h0.2.1) (by rw [ha]; exact h0.2.2)).2 (Or.inl hm) k
theorem HL.al (h : HL κ M MR c s σ σ') {a : Nat} {l : List Nat} (q : AL κ σ a l) (hm : ¬ M a) : AL κ σ' a l := h.2.2.2.2.1 a l hm q
/-- by a plain frame that touches no list -/
theorem HL.ofHF (hf : HF M c s σ σ') (hk : Hok κ σ) (hk' : Hok κ σ') (h1 : ∀ a, a < hN σ → M a → hT σ a ≠ 19 ∧ hT σ a ≠ 104) (h2 : ∀ a, a < hN σ → M a → ¬ MR a → ∀ k, hR σ' a k = hR σ a k) : HL κ M MR c s σ σ' := by
  obtain ⟨a1, a2, a3, a4, a5⟩ := id hf
  refine ⟨hk', a1, a2, fun a ha t1 t2 => ⟨fun hm k => ⟨(a3 a ha hm k).1, (a3 a ha hm k).2.1⟩, fun hm k => ?_⟩, fun a l hm q => q.fr hk.1 hf hm (fun d hd hd1 z => (h1 d (hk.1.lt (by rw [hd1]; decide)) z).2 hd1), a4, a5⟩
  rcases hm with hm | hm
  · by_cases c : M a
    · exact h2 a ha c hm k
    · exact (a3 a ha (Or.inl c) k).2.2
  · exact (a3 a ha (Or.inr hm) k).2.2
theorem HL.ofNo (hf : HF (fun _ => False) c s σ σ') (hk : Hok κ σ) (hk' : Hok κ σ') : HL κ M MR c s σ σ' := HL.wk (HL.ofHF (M := NoM) hf hk hk' (fun _ _ q => q.elim) (fun _ _ q => q.elim))
theorem HL.ofAdd {a : Nat} {l : List Nat} (hf : HF (fun b => b = a ∨ (hR σ a 1 = some b ∧ hT σ b = 104)) c s σ σ') (hk : Hok κ σ) (hk' : Hok κ σ') (ha : AL κ σ a l) : HL κ (fun b => b = a) NoM c s σ σ' := by
  obtain ⟨a1, a2, a3, a4, a5⟩ := id hf
  have hm9 : ∀ b, hT σ b ≠ 19 → hT σ b ≠ 104 → ¬ (b = a ∨ (hR σ a 1 = some b ∧ hT σ b = 104)) := fun b t1 t2 q => q.elim (fun q => by subst q; exact t1 ha.1) (fun q => t2 q.2)
  refine ⟨hk', a1, a2, fun b hb t1 t2 => ⟨fun hm k => ⟨(a3 b hb (Or.inl (hm9 b t1 t2)) k).1, (a3 b hb (Or.inl (hm9 b t1 t2)) k).2.1⟩, fun hm k => (a3 b hb (Or.inl (hm9 b t1 t2)) k).2.2⟩, fun b l' hm q => q.fr hk.1 hf (fun z => z.elim hm (fun z => by rw [q.1] at z; exact absurd z.2 (by decide))) (fun d hd hd1 z => ?_), a4, a5⟩
  rcases z with z | z
  · subst z; rw [ha.1] at hd1; cases hd1
  · exact hm (hk.2.1.2 b a d q.1 ha.1 hd z.1 hd1)
theorem HL.nx {rd : Nat} (hk : Hok κ σ) (h1 : hT σ rd = 3) (hn : NxC rd σ σ') : HL κ (fun b => b = rd) NoM 0 0 σ σ' := by
  obtain ⟨k1, f1⟩ := hk.nx h1 hn
  obtain ⟨n1, n2, n3, n4, n5⟩ := hn
  have eR : hR σ' = hR σ := by unfold hR; rw [n4]
  exact HL.ofHF f1 hk k1 (fun a _ q => by subst q; rw [h1]; decide) (fun a _ _ _ k => by rw [eR])
theorem Kst.hl (h : Kst κ σ) (hk : Hok κ σ) (hF : HL κ M MR c s σ σ') : Kst κ σ' := by
  obtain ⟨a0, a1, a2, a3, a4, a5, a6⟩ := hF
  have g9 : ∀ a t, hT σ a = t → (t = 60 ∨ t = 61 ∨ 150 ≤ t) → hT σ' a = t ∧ hL σ' a = hL σ a ∧ ∀ k, hI σ' a k = hI σ a k ∧ hR σ' a k = hR σ a k := by
    intro a t ha ht
    have hlt := hk.1.lt (a := a) (by rw [ha]; omega)
    have h3 := a3 a hlt (by omega) (by omega)
    have kk : KTg (hT σ a) := by rw [ha]; exact ht
    exact ⟨(a2 a hlt).1.trans ha, (a2 a hlt).2, fun k => ⟨(h3.1 (Or.inr kk) k).1, h3.2 (Or.inr kk) k⟩⟩
  obtain ⟨⟨c0, g1, g2, g3, g4⟩, h2⟩ := h
  obtain ⟨t1, t2, t3⟩ := g9 c0 158 g2 (by omega)
  refine ⟨⟨c0, g1, t1, t2.trans g3, fun i hi => ?_⟩, fun i hi => ?_⟩
  · obtain ⟨y, y1, y2, y3⟩ := g4 i hi
    obtain ⟨u1, u2, u3⟩ := g9 y 60 y2 (by omega)
    exact ⟨y, (t3 i).2.trans y1, u1, (u3 0).1.trans y3⟩
  · obtain ⟨a, e1, e2, e3, b, e4, e5, e6, e7⟩ := h2 i hi
    obtain ⟨u1, u2, u3⟩ := g9 a 61 e2 (by omega)
    obtain ⟨v1, v2, v3⟩ := g9 b 152 e5 (by omega)
    exact ⟨a, e1, u1, (u3 1).1.trans e3, b, (u3 0).2.trans e4, v1, v2.trans e6, fun j x hx => by rw [(v3 j).1]; exact e7 j x hx⟩
theorem IntO.hl {x : Nat} {v : Int32} (h : IntO σ x v) (hk : Hok κ σ) (hF : HL κ M MR c s σ σ') (hm : ¬ M x) : IntO σ' x v := by
  obtain ⟨h1, h2⟩ := h
  rcases h1 with h1 | h1
  · exact ⟨Or.inl (hF.tg hk h1 (by decide)), (hF.int hk h1 (by decide) hm 0).trans h2⟩
  · exact ⟨Or.inr (hF.tg hk h1 (by decide)), (hF.int hk h1 (by decide) hm 0).trans h2⟩
theorem FltC.hl {a : Nat} {e : Flt} (h : FltC σ a e) (hk : Hok κ σ) (hF : HL κ M MR c s σ σ') (hm : ¬ M a) : FltC σ' a e := ⟨hF.tg hk h.1 (by decide), (hF.int hk h.1 (by decide) hm 6).trans h.2.1, (hF.int hk h.1 (by decide) hm 7).trans h.2.2⟩
theorem TapeC.hl {o : Nat} {l : List Nat} (h : TapeC σ o l) (hk : Hok κ σ) (hF : HL κ M MR c s σ σ') (hm : ∀ b, M b ∨ MR b → hT σ b ≠ 1 ∧ hT σ b ≠ 102) : TapeC σ' o l := by
  obtain ⟨g1, g2, g3, b, g4, g5, g6, g7⟩ := h
  refine ⟨hF.tg hk g1 (by decide), (hF.int hk g1 (by decide) (fun z => (hm o (Or.inl z)).1 g1) 1).trans g2, g3, b, (hF.ref hk g1 (by decide) (fun z => (hm o (Or.inr z)).1 g1) 0).trans g4, hF.tg hk g5 (by decide), (hF.len hk (by rw [g5]; decide)).trans g6, fun i c hc => ?_⟩
  rw [hF.int hk g5 (by decide) (fun z => (hm b (Or.inl z)).2 g5) i]; exact g7 i c hc
theorem RdrC.hl {rd o : Nat} {l : List Nat} (h : RdrC σ rd o l) (hk : Hok κ σ) (hF : HL κ M MR c s σ σ') (hm : ∀ b, M b ∨ MR b → hT σ b ≠ 1 ∧ hT σ b ≠ 102) (hr : ¬ MR rd) : RdrC σ' rd o l := ⟨hF.tg hk h.1 (by decide), (hF.ref hk h.1 (by decide) hr 8).trans h.2.1, h.2.2.hl hk hF hm⟩
theorem TokC.hl {rd td f : Nat} {tp : Nat → Nat} (h : TokC σ rd tp td f) (h1 : hT σ rd = 3) (hk : Hok κ σ) (hF : HL κ M MR c s σ σ') (hm : ¬ M rd) : TokC σ' rd tp td f := by
  obtain ⟨k1, k2, k3, k4, k5⟩ := h
  have g := fun j => hF.int hk h1 (by decide) hm j
  exact ⟨k1, (g 2).trans k2, (g 3).trans k3, (g 1).trans k4, fun q => (g 4).trans (k5 q)⟩
end HLs
/-- a new list's cell -/
theorem Hok.nw19 {κ : Nat → Option Nat} {σ : AH} {n m : Nat} (h : Hok κ σ) : Hok κ (hnw σ 19 n m) := by
  obtain ⟨f1, f2, dk, f3, f4, f5⟩ := h
  have hdk := f1.lt (a := dk) (by rw [f4]; decide)
  have hno : hR σ (hN σ) 1 = none := ((f1 _ (Nat.le_refl _)).2 1).2.2
  refine ⟨f1.nw, ⟨fun b e hb hb1 => ?_, fun b c e hb hc hb1 hc1 he => ?_⟩, dk, f3, ?_, ?_⟩
  · rw [hT_nw] at hb
    rw [hR_nw] at hb1
    rw [hN_nw]
    split at hb
    · next q => rw [q, hno] at hb1; cases hb1
    · have := f2.1 b e hb hb1; omega
  · rw [hT_nw] at hb hc he
    rw [hR_nw] at hb1 hc1
    split at hb
    · next q => rw [q, hno] at hb1; cases hb1
    · split at hc
      · next q => rw [q, hno] at hc1; cases hc1
      · have := f2.1 b e hb hb1
        rw [if_neg (by omega)] at he
        exact f2.2 b c e hb hc hb1 hc1 he
  · rw [hT_nw, if_neg (by omega)]; exact f4
  · rw [hL_nw, if_neg (by omega)]; exact f5
