/-! THE COMPONENT: close numbers sums -/
set_option maxRecDepth 100000
/-- what a line's object says, but for its sum -/
def ItmG (σ : AH) (a : Nat) (it : Itm) (lo hi : Nat) : Prop := it.1 ≤ 6 ∧ hT σ a = 7 + it.1 ∧ (it.1 < 2 → hI σ a 4 = it.2.1) ∧ (it.1 = 1 → ∃ x, hR σ a 5 = some x ∧ OpdI σ x it.2.2.2.1 lo hi) ∧ (it.1 = 2 → hI σ a 4 = it.2.2.1 ∧ ∃ x y, hR σ a 5 = some x ∧ hR σ a 6 = some y ∧ OpdI σ x it.2.2.2.1 lo hi ∧ OpdI σ y it.2.2.2.2.1 lo hi) ∧ (it.1 = 3 → ∃ x, hR σ a 4 = some x ∧ OpdI σ x it.2.2.2.1 lo hi) ∧ (it.1 = 4 → ∃ t, iT it = [t] ∧ hI σ a 4 = nn t.2) ∧ (it.1 = 5 → (∃ x y, hR σ a 4 = some x ∧ hR σ a 5 = some y ∧ OpdI σ x it.2.2.2.1 lo hi ∧ OpdI σ y it.2.2.2.2.1 lo hi) ∧ ∃ t u, iT it = [t, u] ∧ hI σ a 6 = nn t.2 ∧ hI σ a 7 = nn u.2)
theorem ItmF.g {σ : AH} {a : Nat} {it : Itm} {lo hi : Nat} (h : ItmF σ a it lo hi) : ItmG σ a it lo hi := ⟨h.1, h.2.1, h.2.2.1, h.2.2.2.2.1, h.2.2.2.2.2.1, h.2.2.2.2.2.2.1, h.2.2.2.2.2.2.2.1, h.2.2.2.2.2.2.2.2⟩
section IG
variable {κ : Nat → Option Nat} {σ σ' : AH} {a b j lo hi c s : Nat} {it : Itm} {M : Nat → Prop}
theorem ItmG.sI {v : Int32} (h : ItmG σ a it lo hi) (hb : hT σ b = 15 ∨ hT σ b = 16) : ItmG (hsI σ b j v) a it lo hi := by
  obtain ⟨h0, t, g1, g3, g4, g5, g6, g7⟩ := h
  have ne : ¬ a = b := fun q => by rw [← q, t] at hb; omega
  have gi : ∀ k, hI (hsI σ b j v) a k = hI σ a k := fun k => by rw [hI_sI, if_neg (fun q => ne q.1)]
  have hb7 : hT σ b ≠ 17 := by omega
  refine ⟨h0, t, fun q => (gi 4).trans (g1 q), fun q => ?_, fun q => ?_, fun q => ?_, fun q => ?_, fun q => ?_⟩
  · obtain ⟨x, e1, e2⟩ := g3 q
    exact ⟨x, e1, e2.sI hb7⟩
  · obtain ⟨e0, x, y, e1, e2, e3, e4⟩ := g4 q
    exact ⟨(gi 4).trans e0, x, y, e1, e2, e3.sI hb7, e4.sI hb7⟩
  · obtain ⟨x, e1, e2⟩ := g5 q
    exact ⟨x, e1, e2.sI hb7⟩
  · obtain ⟨t', e1, e2⟩ := g6 q
    exact ⟨t', e1, (gi 4).trans e2⟩
  · obtain ⟨⟨x, y, e1, e2, e3, e4⟩, t', u, e5, e6, e7⟩ := g7 q
    exact ⟨⟨x, y, e1, e2, e3.sI hb7, e4.sI hb7⟩, t', u, e5, (gi 6).trans e6, (gi 7).trans e7⟩
theorem ItmG.sR {v : Option Nat} (h : ItmG σ a it lo hi) (hb : hT σ b = 7) (hj : j = 5) : ItmG (hsR σ b j v) a it lo hi := by
  obtain ⟨h0, t, g1, g3, g4, g5, g6, g7⟩ := h
  have gr : ∀ k, 1 ≤ it.1 → hR (hsR σ b j v) a k = hR σ a k := fun k hk => by rw [hR_sR, if_neg (fun q => by rw [← q.1, t] at hb; omega)]
  refine ⟨h0, t, g1, fun q => ?_, fun q => ?_, fun q => ?_, g6, fun q => ?_⟩
  · obtain ⟨x, e1, e2⟩ := g3 q
    exact ⟨x, (gr 5 (by omega)).trans e1, e2⟩
  · obtain ⟨e0, x, y, e1, e2, e3, e4⟩ := g4 q
    exact ⟨e0, x, y, (gr 5 (by omega)).trans e1, (gr 6 (by omega)).trans e2, e3, e4⟩
  · obtain ⟨x, e1, e2⟩ := g5 q
    exact ⟨x, (gr 4 (by omega)).trans e1, e2⟩
  · obtain ⟨⟨x, y, e1, e2, e3, e4⟩, e5⟩ := g7 q
    exact ⟨⟨x, y, (gr 4 (by omega)).trans e1, (gr 5 (by omega)).trans e2, e3, e4⟩, e5⟩
theorem SumI.sR {v : Option Nat} {x : Sm} (h : SumI σ a x lo hi) (hb : hT σ b = 7) : SumI (hsR σ b j v) a x lo hi := by
  obtain ⟨h1, h2, h3⟩ := h
  refine ⟨h1, h2, ?_⟩
  rcases h3 with ⟨t, i1, i2, u, w, r1, r2, o1, o2⟩ | ⟨t, i1, i2, w, r1, o1⟩
  · have gr : ∀ k, hR (hsR σ b j v) a k = hR σ a k := fun k => by rw [hR_sR, if_neg (fun q => by rw [← q.1, t] at hb; omega)]
    exact Or.inl ⟨t, i1, i2, u, w, (gr 2).trans r1, (gr 3).trans r2, o1, o2⟩
  · have gr : ∀ k, hR (hsR σ b j v) a k = hR σ a k := fun k => by rw [hR_sR, if_neg (fun q => by rw [← q.1, t] at hb; omega)]
    exact Or.inr ⟨t, i1, i2, w, (gr 2).trans r1, o1⟩
theorem ItmG.ls (h : ItmG σ a it lo hi) (hk : Hok κ σ) (F : HL κ M NoM c s σ σ') (hm : ∀ b, M b → hT σ b = 19) : ItmG σ' a it lo hi := by
  obtain ⟨h0, t, g1, g3, g4, g5, g6, g7⟩ := h
  have t0 : 7 + it.1 ≠ 0 ∧ 7 + it.1 ≠ 19 ∧ 7 + it.1 ≠ 104 := by omega
  have m1 : ¬ M a := fun z => by have := hm a z; omega
  have gi := fun j => F.int hk t t0 m1 j
  have gr := fun j => F.ref hk t t0 id j
  refine ⟨h0, F.tg hk t t0.1, fun q => (gi 4).trans (g1 q), fun q => ?_, fun q => ?_, fun q => ?_, fun q => ?_, fun q => ?_⟩
  · obtain ⟨x, e1, e2⟩ := g3 q
    exact ⟨x, (gr 5).trans e1, e2.ls hk F hm⟩
  · obtain ⟨e0, x, y, e1, e2, e3, e4⟩ := g4 q
    exact ⟨(gi 4).trans e0, x, y, (gr 5).trans e1, (gr 6).trans e2, e3.ls hk F hm, e4.ls hk F hm⟩
  · obtain ⟨x, e1, e2⟩ := g5 q
    exact ⟨x, (gr 4).trans e1, e2.ls hk F hm⟩
  · obtain ⟨t', e1, e2⟩ := g6 q
    exact ⟨t', e1, (gi 4).trans e2⟩
  · obtain ⟨⟨x, y, e1, e2, e3, e4⟩, t', u, e5, e6, e7⟩ := g7 q
    exact ⟨⟨x, y, (gr 4).trans e1, (gr 5).trans e2, e3.ls hk F hm, e4.ls hk F hm⟩, t', u, e5, (gi 6).trans e6, (gi 7).trans e7⟩
end IG
/-- close, with the sums of the first k nodes numbered -/
def P5 (κ : Nat → Option Nat) (σ0 σ : AH) (r : Nat) (R : Rt) (wss : List (Nat × List Nat)) (A lo hi NX BF : Nat → Nat) (ow : List Nat) (E : Edg) (k : Nat) (ss : List Nat) : Prop := (CS κ σ r R wss (R.1.length + ow.length) A lo hi NX BF E) ∧ (∀ i x, R.1[i]? = some x → ItmG σ (A i) x.2 (lo i) (hi i)) ∧ (AL κ σ (r + 2) ((List.range (R.1.length + ow.length)).map A)) ∧ (∀ i, i < R.1.length + ow.length → hI σ (A i) 0 = nn i ∧ hI σ (A i) 1 = nn (bkO R ow i)) ∧ (∀ i, R.1.length ≤ i → i < R.1.length + ow.length → hT σ (A i) = 14) ∧ (AL κ σ (r + 4) []) ∧ (hI σ r 4 = nn R.1.length) ∧ (hI σ r 5 = nn ow.length) ∧ (AL κ σ (r + 3) ss) ∧ (ss.length = (sms (R.1.take k)).length) ∧ (∀ (e : Nat) (z : Sm), (sms (R.1.take k))[e]? = some z → ∃ y i, ss[e]? = some y ∧ i < k ∧ i < R.1.length ∧ SumI σ y z (lo i) (hi i) ∧ hI σ y 0 = nn e) ∧ (∀ i x, i < k → R.1[i]? = some x → x.2.1 = 0 → ∃ z y, iS x.2 = some z ∧ z ∈ sms (R.1.take k) ∧ ss[(sms (R.1.take k)).idxOf z]? = some y ∧ hR σ (A i) 5 = some y) ∧ (∀ i x, k ≤ i → R.1[i]? = some x → x.2.1 = 0 → ∃ z y, iS x.2 = some z ∧ hR σ (A i) 5 = some y ∧ SumI σ y z (lo i) (hi i)) ∧ (HL κ (GeM r) (GeM r) (1140 + ss.length) (99900 + (ss.length * ss.length + 9 * ss.length)) σ0 σ)
theorem P5.cs {κ : Nat → Option Nat} {σ0 σ : AH} {r : Nat} {R : Rt} {wss : List (Nat × List Nat)} {A lo hi NX BF : Nat → Nat} {ow : List Nat} {E : Edg} {k : Nat} {ss : List Nat} (h : P5 κ σ0 σ r R wss A lo hi NX BF ow E k ss) : CS κ σ r R wss (R.1.length + ow.length) A lo hi NX BF E := h.1
theorem P5.ig {κ : Nat → Option Nat} {σ0 σ : AH} {r : Nat} {R : Rt} {wss : List (Nat × List Nat)} {A lo hi NX BF : Nat → Nat} {ow : List Nat} {E : Edg} {k : Nat} {ss : List Nat} (h : P5 κ σ0 σ r R wss A lo hi NX BF ow E k ss) : ∀ i x, R.1[i]? = some x → ItmG σ (A i) x.2 (lo i) (hi i) := h.2.1
theorem P5.ns {κ : Nat → Option Nat} {σ0 σ : AH} {r : Nat} {R : Rt} {wss : List (Nat × List Nat)} {A lo hi NX BF : Nat → Nat} {ow : List Nat} {E : Edg} {k : Nat} {ss : List Nat} (h : P5 κ σ0 σ r R wss A lo hi NX BF ow E k ss) : AL κ σ (r + 2) ((List.range (R.1.length + ow.length)).map A) := h.2.2.1
theorem P5.nm {κ : Nat → Option Nat} {σ0 σ : AH} {r : Nat} {R : Rt} {wss : List (Nat × List Nat)} {A lo hi NX BF : Nat → Nat} {ow : List Nat} {E : Edg} {k : Nat} {ss : List Nat} (h : P5 κ σ0 σ r R wss A lo hi NX BF ow E k ss) : ∀ i, i < R.1.length + ow.length → hI σ (A i) 0 = nn i ∧ hI σ (A i) 1 = nn (bkO R ow i) := h.2.2.2.1
theorem P5.tg {κ : Nat → Option Nat} {σ0 σ : AH} {r : Nat} {R : Rt} {wss : List (Nat × List Nat)} {A lo hi NX BF : Nat → Nat} {ow : List Nat} {E : Edg} {k : Nat} {ss : List Nat} (h : P5 κ σ0 σ r R wss A lo hi NX BF ow E k ss) : ∀ i, R.1.length ≤ i → i < R.1.length + ow.length → hT σ (A i) = 14 := h.2.2.2.2.1
theorem P5.wy {κ : Nat → Option Nat} {σ0 σ : AH} {r : Nat} {R : Rt} {wss : List (Nat × List Nat)} {A lo hi NX BF : Nat → Nat} {ow : List Nat} {E : Edg} {k : Nat} {ss : List Nat} (h : P5 κ σ0 σ r R wss A lo hi NX BF ow E k ss) : AL κ σ (r + 4) [] := h.2.2.2.2.2.1
theorem P5.i4 {κ : Nat → Option Nat} {σ0 σ : AH} {r : Nat} {R : Rt} {wss : List (Nat × List Nat)} {A lo hi NX BF : Nat → Nat} {ow : List Nat} {E : Edg} {k : Nat} {ss : List Nat} (h : P5 κ σ0 σ r R wss A lo hi NX BF ow E k ss) : hI σ r 4 = nn R.1.length := h.2.2.2.2.2.2.1
theorem P5.i5 {κ : Nat → Option Nat} {σ0 σ : AH} {r : Nat} {R : Rt} {wss : List (Nat × List Nat)} {A lo hi NX BF : Nat → Nat} {ow : List Nat} {E : Edg} {k : Nat} {ss : List Nat} (h : P5 κ σ0 σ r R wss A lo hi NX BF ow E k ss) : hI σ r 5 = nn ow.length := h.2.2.2.2.2.2.2.1
theorem P5.sl {κ : Nat → Option Nat} {σ0 σ : AH} {r : Nat} {R : Rt} {wss : List (Nat × List Nat)} {A lo hi NX BF : Nat → Nat} {ow : List Nat} {E : Edg} {k : Nat} {ss : List Nat} (h : P5 κ σ0 σ r R wss A lo hi NX BF ow E k ss) : AL κ σ (r + 3) ss := h.2.2.2.2.2.2.2.2.1
theorem P5.sn {κ : Nat → Option Nat} {σ0 σ : AH} {r : Nat} {R : Rt} {wss : List (Nat × List Nat)} {A lo hi NX BF : Nat → Nat} {ow : List Nat} {E : Edg} {k : Nat} {ss : List Nat} (h : P5 κ σ0 σ r R wss A lo hi NX BF ow E k ss) : ss.length = (sms (R.1.take k)).length := h.2.2.2.2.2.2.2.2.2.1
theorem P5.sm {κ : Nat → Option Nat} {σ0 σ : AH} {r : Nat} {R : Rt} {wss : List (Nat × List Nat)} {A lo hi NX BF : Nat → Nat} {ow : List Nat} {E : Edg} {k : Nat} {ss : List Nat} (h : P5 κ σ0 σ r R wss A lo hi NX BF ow E k ss) : ∀ (e : Nat) (z : Sm), (sms (R.1.take k))[e]? = some z → ∃ y i, ss[e]? = some y ∧ i < k ∧ i < R.1.length ∧ SumI σ y z (lo i) (hi i) ∧ hI σ y 0 = nn e := h.2.2.2.2.2.2.2.2.2.2.1
theorem P5.s1 {κ : Nat → Option Nat} {σ0 σ : AH} {r : Nat} {R : Rt} {wss : List (Nat × List Nat)} {A lo hi NX BF : Nat → Nat} {ow : List Nat} {E : Edg} {k : Nat} {ss : List Nat} (h : P5 κ σ0 σ r R wss A lo hi NX BF ow E k ss) : ∀ i x, i < k → R.1[i]? = some x → x.2.1 = 0 → ∃ z y, iS x.2 = some z ∧ z ∈ sms (R.1.take k) ∧ ss[(sms (R.1.take k)).idxOf z]? = some y ∧ hR σ (A i) 5 = some y := h.2.2.2.2.2.2.2.2.2.2.2.1
theorem P5.s2 {κ : Nat → Option Nat} {σ0 σ : AH} {r : Nat} {R : Rt} {wss : List (Nat × List Nat)} {A lo hi NX BF : Nat → Nat} {ow : List Nat} {E : Edg} {k : Nat} {ss : List Nat} (h : P5 κ σ0 σ r R wss A lo hi NX BF ow E k ss) : ∀ i x, k ≤ i → R.1[i]? = some x → x.2.1 = 0 → ∃ z y, iS x.2 = some z ∧ hR σ (A i) 5 = some y ∧ SumI σ y z (lo i) (hi i) := h.2.2.2.2.2.2.2.2.2.2.2.2.1
theorem P5.fr {κ : Nat → Option Nat} {σ0 σ : AH} {r : Nat} {R : Rt} {wss : List (Nat × List Nat)} {A lo hi NX BF : Nat → Nat} {ow : List Nat} {E : Edg} {k : Nat} {ss : List Nat} (h : P5 κ σ0 σ r R wss A lo hi NX BF ow E k ss) : HL κ (GeM r) (GeM r) (1140 + ss.length) (99900 + (ss.length * ss.length + 9 * ss.length)) σ0 σ := h.2.2.2.2.2.2.2.2.2.2.2.2.2
section P5s
variable {κ : Nat → Option Nat} {Q : Ret AH} {σ σ0 σ' : AH} {r k : Nat} {R : Rt} {wss : List (Nat × List Nat)} {A lo hi NX BF : Nat → Nat} {ow : List Nat} {E : Edg} {ss : List Nat}
theorem P5.start (h : P3 κ σ0 σ r R wss A lo hi NX BF ow E 1140 99900) : P5 κ σ0 σ r R wss A lo hi NX BF ow E 0 [] := by
  refine ⟨h.cs, fun i x hx => (h.it i x hx).g, h.ns, h.nm, h.tg, h.wy, h.i4, h.i5, h.ss, by simp [sms], fun e z he => by simp [sms] at he, fun i x hi' => by omega, fun i x _ hx h0 => ?_, h.fr.up (by simp) (by simp)⟩
  obtain ⟨s', y, e1, e2, e3⟩ := (h.it i x hx).2.2.2.1 h0
  exact ⟨s', y, e1, e2, e3⟩
theorem CS.sR5 {m i : Nat} {v : Option Nat} (h : CS κ σ r R wss m A lo hi NX BF E) (hi' : i < m) : CS κ (hsR σ (A i) 5 v) r R wss m A lo hi NX BF E ∧ HL κ NoM (EqM (A i)) 0 0 σ (hsR σ (A i) 5 v) := by
  have t := h.tgA hi'
  have F : HL κ NoM (EqM (A i)) 0 0 σ (hsR σ (A i) 5 v) := (HL.rfl9 h.ok).sR (Or.inl rfl) rfl (by omega)
  have iv := h.iv i hi'
  refine ⟨⟨F.ok, h.tr, fun j hj => ?_, F.al h.al id, h.wl, fun b w hb => ⟨F.al (h.rows b w hb).1 id, (h.rows b w hb).2⟩, h.ch, h.iv, fun k hk => ?_⟩, F⟩
  · rw [hR_sR, if_neg (fun q => by omega)]; exact h.rr j hj
  · obtain ⟨t1, e2, e3, a1, a2⟩ := h.nd k hk
    refine ⟨t1, ?_, ?_, F.al a1 id, F.al a2 id⟩
    · rw [hR_sR, if_neg (fun q => by omega)]; exact e2
    · rw [hR_sR, if_neg (fun q => by omega)]; exact e3
theorem take_sms {x : FIt} (hx : R.1[k]? = some x) : sms (R.1.take (k + 1)) = sAdd (sms (R.1.take k)) (iS x.2) := by
  rw [List.take_succ, hx]
  exact sms_snoc _ _
/-- a node that works no sum -/
theorem P5.skip (h : P5 κ σ0 σ r R wss A lo hi NX BF ow E k ss) (hn : ∀ x, R.1[k]? = some x → iS x.2 = none ∧ x.2.1 ≠ 0) : P5 κ σ0 σ r R wss A lo hi NX BF ow E (k + 1) ss := by
  have es : sms (R.1.take (k + 1)) = sms (R.1.take k) := by
    cases hx : R.1[k]? with
    | none => rw [List.take_succ, hx]; simp
    | some x => rw [take_sms hx, (hn x hx).1]; rfl
  refine ⟨h.cs, h.ig, h.ns, h.nm, h.tg, h.wy, h.i4, h.i5, h.sl, by rw [es]; exact h.sn, fun e z he => ?_, fun i x hi' hx h0 => ?_, fun i x hi' hx h0 => h.s2 i x (by omega) hx h0, h.fr⟩
  · rw [es] at he
    obtain ⟨y, i, q1, q2, q3⟩ := h.sm e z he
    exact ⟨y, i, q1, by omega, q3⟩
  · by_cases e : i = k
    · subst e; exact absurd h0 (hn x hx).2
    · rw [es]; exact h.s1 i x (by omega) hx h0
theorem ct_numS {x : FIt} {z : Sm} (h : P5 κ σ0 σ r R wss A lo hi NX BF ow E k ss) (w : WfR R) (hx : R.1[k]? = some x) (h0 : x.2.1 = 0) (hz : iS x.2 = some z) (r1 : 5000 ≤ hC σ0) (r2 : 130000 ≤ hS σ0)
    (kk : ∀ σ' ss', P5 κ σ0 σ' r R wss A lo hi NX BF ow E (k + 1) ss' → Q (.inl none) σ') : pX4_number κ [.ref r, .ref (A k)] σ Q := by
  have hkl := (List.getElem?_eq_some_iff.1 hx).1
  have hkm : k < R.1.length + ow.length := by omega
  have C := h.cs
  have hk := C.ok
  have rr2 := C.rr 2 (by omega)
  obtain ⟨z', y, ez, ey, SI⟩ := h.s2 k x (Nat.le_refl _) hx h0
  rw [hz] at ez
  cases ez
  have tk : hT σ (A k) = 7 := by rw [(h.ig k x hx).2.1, h0]
  have hln := w.1
  have hsl : ss.length ≤ k := by
    rw [h.sn]
    have : ∀ (l : List FIt) (a : List Sm), (l.foldl (fun l x => sAdd l (iS x.2)) a).length ≤ a.length + l.length := by
      intro l
      induction l with
      | nil => intro a; exact Nat.le_refl _
      | cons q l ih =>
        intro a
        have h1 := ih (sAdd a (iS q.2))
        have h2 : (sAdd a (iS q.2)).length ≤ a.length + 1 := by
          unfold sAdd; split
          · split <;> simp
          · simp
        simp only [List.foldl_cons, List.length_cons]
        omega
    have := this (R.1.take k) []
    unfold sms
    simp at this
    omega
  have ty := SI.tg
  have es := take_sms hx
  rw [hz] at es
  simp [pX4_number, bX4_number_0, o_ic, o_lc, o_null, o_il, o_ll, o_al, o_dup, o_pop, o_dup_x1, o_dup2, o_iadd, o_isub, o_imul, o_iand, o_ior, o_ixor, o_ishl, o_ishr, o_idiv, o_irem, o_ineg, o_ladd, o_lsub, o_lmul, o_land, o_lor, o_lxor, o_ldiv, o_lrem, o_lneg, o_lcmp, o_i2l, o_l2i, o_i2b, o_i2c, o_iushr, o_lshl, o_lshr, o_if_eq, o_if_ne, o_if_lt, o_if_ge, o_if_gt, o_if_le, o_icmp_eq, o_icmp_ne, o_icmp_lt, o_icmp_ge, o_icmp_gt, o_icmp_le, o_ifnull, o_ifnonnull, o_acmp_eq, o_acmp_ne, o_is, o_ls, o_as, o_iinc, o_kill, o_sw, o_ireturn, o_zreturn, o_nreturn, o_lreturn, o_areturn, o_return, o_athrow, o_call, entP, lg_sl, Value.category, st1, st2, List.set, List.getElem?_cons_zero, List.getElem?_cons_succ, List.foldl, popN, aft]
  unfold bX4_number_2
  intro X hX
  have main : ∀ m e, e + m = ss.length → (∀ (e' : Nat), e' < e → (sms (R.1.take k))[e']? ≠ some z) → X [some (.ref r), some (.ref (A k)), some (.int (nn e)), none] [] σ := by
    intro m
    induction m with
    | zero =>
      intro e he hno
      have hnm : z ∉ sms (R.1.take k) := fun q => by
        have hi9 := idx_get q
        have hl9 := (List.getElem?_eq_some_iff.1 hi9).1
        exact hno _ (by have := h.sn; omega) hi9
      have es' : sms (R.1.take (k + 1)) = sms (R.1.take k) ++ [z] := by rw [es]; unfold sAdd; simp [hnm]
      apply hX
      have b1 : e < 2147483648 := by omega
      have b2 : ss.length < 2147483648 := by omega
      have le : ss.length ≤ e := by omega
      simp [o_ic, o_lc, o_null, o_il, o_ll, o_al, o_dup, o_pop, o_dup_x1, o_dup2, o_iadd, o_isub, o_imul, o_iand, o_ior, o_ixor, o_ishl, o_ishr, o_idiv, o_irem, o_ineg, o_ladd, o_lsub, o_lmul, o_land, o_lor, o_lxor, o_ldiv, o_lrem, o_lneg, o_lcmp, o_i2l, o_l2i, o_i2b, o_i2c, o_iushr, o_lshl, o_lshr, o_if_eq, o_if_ne, o_if_lt, o_if_ge, o_if_gt, o_if_le, o_icmp_eq, o_icmp_ne, o_icmp_lt, o_icmp_ge, o_icmp_gt, o_icmp_le, o_ifnull, o_ifnonnull, o_acmp_eq, o_acmp_ne, o_is, o_ls, o_as, o_iinc, o_kill, o_sw, o_ireturn, o_zreturn, o_nreturn, o_lreturn, o_areturn, o_return, o_athrow, o_call, entP, lg_sl, Value.category, st1, st2, List.set, List.getElem?_cons_zero, List.getElem?_cons_succ, List.foldl, popN, aft, o_gI, o_gR, o_pI, o_pN, o_pR, o_aI, o_aG, o_aR, o_len, o_aR8, o_sI, o_sB, o_sZ, o_sG, o_new, o_newA, o_cast, o_inst, o_cst, o_oi, o_sR, o_gIc, o_gSv, o_gSc, o_getc, o_dead, o_acopy, o_castA, o_castI, o_sR7, o_mna, o_mmax, o_mmin, o_mabs, C.tr, rr2, va_rf]
      refine hv_size h.sl ?_
      simp [o_ic, o_lc, o_null, o_il, o_ll, o_al, o_dup, o_pop, o_dup_x1, o_dup2, o_iadd, o_isub, o_imul, o_iand, o_ior, o_ixor, o_ishl, o_ishr, o_idiv, o_irem, o_ineg, o_ladd, o_lsub, o_lmul, o_land, o_lor, o_lxor, o_ldiv, o_lrem, o_lneg, o_lcmp, o_i2l, o_l2i, o_i2b, o_i2c, o_iushr, o_lshl, o_lshr, o_if_eq, o_if_ne, o_if_lt, o_if_ge, o_if_gt, o_if_le, o_icmp_eq, o_icmp_ne, o_icmp_lt, o_icmp_ge, o_icmp_gt, o_icmp_le, o_ifnull, o_ifnonnull, o_acmp_eq, o_acmp_ne, o_is, o_ls, o_as, o_iinc, o_kill, o_sw, o_ireturn, o_zreturn, o_nreturn, o_lreturn, o_areturn, o_return, o_athrow, o_call, entP, lg_sl, Value.category, st1, st2, List.set, List.getElem?_cons_zero, List.getElem?_cons_succ, List.foldl, popN, aft, o_gI, o_gR, o_pI, o_pN, o_pR, o_aI, o_aG, o_aR, o_len, o_aR8, o_sI, o_sB, o_sZ, o_sG, o_new, o_newA, o_cast, o_inst, o_cst, o_oi, o_sR, o_gIc, o_gSv, o_gSc, o_getc, o_dead, o_acopy, o_castA, o_castI, o_sR7, o_mna, o_mmax, o_mmin, o_mabs, nn_eqL, nn_ltL, nn_leL, nn_Llt, nn_Lle, nn_lt, nn_le, nn_eq, nn_in, nn_clamp, nn_succ, nn_pos, nn_neg1, b1, b2, le, bX4_number_51, tk, ey, C.tr, rr2, va_rf]
      refine hv_size h.sl ?_
      -- the number
      have F1 : HL κ (EqM y) NoM 0 0 σ (hsI σ y 0 (nn ss.length)) := (HL.rfl9 hk).sI (Or.inl rfl) rfl (by omega)
      have ivk := C.iv k hkm
      have sy := SI.1
      have sy2 := SI.2.1
      have nr : ¬ r = y := by omega
      have C1 : CS κ (hsI σ y 0 (nn ss.length)) r R wss (R.1.length + ow.length) A lo hi NX BF E := by
        refine C.fr F1 (by show ¬ r + 1 = y; omega) id (fun b ww hb => ?_) (fun i hi' => ?_) (fun _ _ => id)
        · have := (C.rows b ww hb).2.2.2.2 k hkm; show ¬ ww.1 = y; omega
        · have e := C.nd i hi'
          have t1 := e.2.2.2.1.1
          have t2 := e.2.2.2.2.1
          exact ⟨fun q => by have q : NX i = y := q; rw [q] at t1; omega, fun q => by have q : BF i = y := q; rw [q] at t2; omega⟩
      have sl1 : AL κ (hsI σ y 0 (nn ss.length)) (r + 3) ss := F1.al h.sl (by show ¬ r + 3 = y; omega)
      have ho : hT (hsI σ y 0 (nn ss.length)) y ∈ objTs ++ [60] := by
        show hT σ y ∈ _
        simp [objTs]; omega
      simp [o_ic, o_lc, o_null, o_il, o_ll, o_al, o_dup, o_pop, o_dup_x1, o_dup2, o_iadd, o_isub, o_imul, o_iand, o_ior, o_ixor, o_ishl, o_ishr, o_idiv, o_irem, o_ineg, o_ladd, o_lsub, o_lmul, o_land, o_lor, o_lxor, o_ldiv, o_lrem, o_lneg, o_lcmp, o_i2l, o_l2i, o_i2b, o_i2c, o_iushr, o_lshl, o_lshr, o_if_eq, o_if_ne, o_if_lt, o_if_ge, o_if_gt, o_if_le, o_icmp_eq, o_icmp_ne, o_icmp_lt, o_icmp_ge, o_icmp_gt, o_icmp_le, o_ifnull, o_ifnonnull, o_acmp_eq, o_acmp_ne, o_is, o_ls, o_as, o_iinc, o_kill, o_sw, o_ireturn, o_zreturn, o_nreturn, o_lreturn, o_areturn, o_return, o_athrow, o_call, entP, lg_sl, Value.category, st1, st2, List.set, List.getElem?_cons_zero, List.getElem?_cons_succ, List.foldl, popN, aft, o_gI, o_gR, o_pI, o_pN, o_pR, o_aI, o_aG, o_aR, o_len, o_aR8, o_sI, o_sB, o_sZ, o_sG, o_new, o_newA, o_cast, o_inst, o_cst, o_oi, o_sR, o_gIc, o_gSv, o_gSc, o_getc, o_dead, o_acopy, o_castA, o_castI, o_sR7, o_mna, o_mmax, o_mmin, o_mabs, ty, hT_sI, C.tr, hR_sI, rr2, tk, ey, va_rf, hvc, dspI, h.sl.1]
      have sq := sq_le hsl
      have sqk := sq_le (show k ≤ 160 by omega)
      refine cq_add C1.ok sl1 ho (by omega) (by have := h.fr.C; show 1 ≤ hC σ; omega) (by have := h.fr.S; show _ ≤ hS σ; omega) (fun σ2 k2 f2 A2 => ?_)
      have F2 := HL.ofAdd f2 C1.ok k2 sl1
      simp [o_ic, o_lc, o_null, o_il, o_ll, o_al, o_dup, o_pop, o_dup_x1, o_dup2, o_iadd, o_isub, o_imul, o_iand, o_ior, o_ixor, o_ishl, o_ishr, o_idiv, o_irem, o_ineg, o_ladd, o_lsub, o_lmul, o_land, o_lor, o_lxor, o_ldiv, o_lrem, o_lneg, o_lcmp, o_i2l, o_l2i, o_i2b, o_i2c, o_iushr, o_lshl, o_lshr, o_if_eq, o_if_ne, o_if_lt, o_if_ge, o_if_gt, o_if_le, o_icmp_eq, o_icmp_ne, o_icmp_lt, o_icmp_ge, o_icmp_gt, o_icmp_le, o_ifnull, o_ifnonnull, o_acmp_eq, o_acmp_ne, o_is, o_ls, o_as, o_iinc, o_kill, o_sw, o_ireturn, o_zreturn, o_nreturn, o_lreturn, o_areturn, o_return, o_athrow, o_call, entP, lg_sl, Value.category, st1, st2, List.set, List.getElem?_cons_zero, List.getElem?_cons_succ, List.foldl, popN, aft]
      have hm2 : ∀ b, EqM (r + 3) b → hT (hsI σ y 0 (nn ss.length)) b = 19 := fun b q => by rw [show b = r + 3 from q]; exact sl1.1
      refine kk σ2 (ss ++ [y]) ⟨?_, fun i x' hx' => ((h.ig i x' hx').sI ty).ls C1.ok F2 hm2, ?_, fun i hi' => ?_, fun i h1 h2 => F2.tg C1.ok (h.tg i h1 h2) (by decide), ?_, ?_, ?_, A2, by rw [es']; simp [h.sn], fun e z1 he => ?_, fun i x' hi' hx' h0' => ?_, fun i x' hi' hx' h0' => ?_, ?_⟩
      · refine C1.fr F2 (by show ¬ r + 1 = r + 3; omega) id (fun b ww hb => ?_) (fun i hi' => ?_) (fun _ _ => id)
        · have := (C.rows b ww hb).2.1; show ¬ ww.1 = r + 3; omega
        · have := C.iv i hi'
          exact ⟨by show ¬ NX i = r + 3; omega, by show ¬ BF i = r + 3; omega⟩
      · exact F2.al (F1.al h.ns (by show ¬ r + 2 = y; omega)) (by show ¬ r + 2 = r + 3; omega)
      · have t := C.tgA hi'
        have iv := C.iv i hi'
        have g := fun j => F2.int C1.ok (a := A i) rfl (by show hT σ (A i) ≠ 0 ∧ hT σ (A i) ≠ 19 ∧ hT σ (A i) ≠ 104; omega) (M := EqM (r + 3)) (by show ¬ A i = r + 3; omega) j
        have ne : ¬ A i = y := fun q => by rw [q] at t; omega
        rw [g 0, g 1, hI_sI, hI_sI, if_neg (fun q => ne q.1), if_neg (fun q => ne q.1)]
        exact h.nm i hi'
      · exact F2.al (F1.al h.wy (by show ¬ r + 4 = y; omega)) (by show ¬ r + 4 = r + 3; omega)
      · rw [F2.int C1.ok C1.tr (by decide) (M := EqM (r + 3)) (by show ¬ r = r + 3; omega) 4, hI_sI, if_neg (fun q => nr q.1)]; exact h.i4
      · rw [F2.int C1.ok C1.tr (by decide) (M := EqM (r + 3)) (by show ¬ r = r + 3; omega) 5, hI_sI, if_neg (fun q => nr q.1)]; exact h.i5
      · rw [es'] at he
        by_cases ce : e < (sms (R.1.take k)).length
        · rw [List.getElem?_append_left ce] at he
          obtain ⟨y', i, q1, q2, q3, q4, q5⟩ := h.sm e z1 he
          have ne : y' ≠ y := C.ne (i := i) (j := k) (by omega) hkm ⟨q4.1, q4.2.1⟩ ⟨sy, sy2⟩ (by omega)
          refine ⟨y', i, by rw [List.getElem?_append_left (by have := h.sn; omega)]; exact q1, by omega, q3, (q4.sI (by omega) (Or.inr rfl)).ls C1.ok F2 hm2, ?_⟩
          have t' := q4.tg
          rw [F2.int C1.ok (a := y') rfl (by show hT σ y' ≠ 0 ∧ hT σ y' ≠ 19 ∧ hT σ y' ≠ 104; omega) (M := EqM (r + 3)) (by have := C.iv i (by omega); have := q4.1; show ¬ y' = r + 3; omega) 0, hI_sI, if_neg (fun q => ne q.1)]
          exact q5
        · have hl9 := (List.getElem?_eq_some_iff.1 he).1
          simp at hl9
          have e9 : e = (sms (R.1.take k)).length := by omega
          subst e9
          simp at he
          subst he
          refine ⟨y, k, by rw [← h.sn]; simp, by omega, hkl, (SI.sI (by omega) (Or.inr rfl)).ls C1.ok F2 hm2, ?_⟩
          rw [F2.int C1.ok (a := y) rfl (by show hT σ y ≠ 0 ∧ hT σ y ≠ 19 ∧ hT σ y ≠ 104; omega) (M := EqM (r + 3)) (by show ¬ y = r + 3; omega) 0, hI_sI, if_pos ⟨rfl, rfl⟩, h.sn]
      · have hil := (List.getElem?_eq_some_iff.1 hx').1
        have t7 : hT σ (A i) = 7 := by rw [(h.ig i x' hx').2.1, h0']
        have gR := F2.ref C1.ok (a := A i) (t := 7) t7 (by decide) id 5
        have gR' : hR σ2 (A i) 5 = hR σ (A i) 5 := gR
        rw [es', gR']
        by_cases ei : i = k
        · subst ei
          rw [hx] at hx'
          cases hx'
          refine ⟨z, y, hz, by simp, ?_, ey⟩
          rw [List.idxOf_append, if_neg hnm]
          simp [h.sn]
        · obtain ⟨z2, y2, q1, q2, q3, q4⟩ := h.s1 i x' (by omega) hx' h0'
          refine ⟨z2, y2, q1, by simp [q2], ?_, q4⟩
          rw [idx_pre q2, List.getElem?_append_left (List.getElem?_eq_some_iff.1 q3).1]
          exact q3
      · obtain ⟨z2, y2, q1, q2, q3⟩ := h.s2 i x' (by omega) hx' h0'
        have t7 : hT σ (A i) = 7 := by rw [(h.ig i x' hx').2.1, h0']
        have gR : hR σ2 (A i) 5 = hR σ (A i) 5 := F2.ref C1.ok (a := A i) (t := 7) t7 (by decide) id 5
        exact ⟨z2, y2, q1, gR.trans q2, (q3.sI (by omega) (Or.inr rfl)).ls C1.ok F2 hm2⟩
      · have G1 := h.fr.trans (F1.imp (M' := GeM r) (MR' := GeM r) (fun b q => by have : b = y := q; show r ≤ b; omega) (fun _ q => q.elim))
        have G2 := G1.trans (F2.imp (M' := GeM r) (MR' := GeM r) (fun b q => by have : b = r + 3 := q; show r ≤ b; omega) (fun _ q => q.elim))
        refine G2.up (by simp; omega) ?_
        rw [show (ss ++ [y]).length = ss.length + 1 by simp, sq_1]
        omega
    | succ m ih =>
      intro e he hno
      apply hX
      have b1 : e < 2147483648 := by omega
      have b2 : ss.length < 2147483648 := by omega
      have nle : ¬ ss.length ≤ e := by omega
      have hel : e < (sms (R.1.take k)).length := by have := h.sn; omega
      have hg : (sms (R.1.take k))[e]? = some (sms (R.1.take k))[e] := List.getElem?_eq_getElem hel
      obtain ⟨y', i, q1, q2, q3, q4, q5⟩ := h.sm e _ hg
      generalize (sms (R.1.take k))[e] = z1 at hg q4
      have t' := q4.tg
      simp [o_ic, o_lc, o_null, o_il, o_ll, o_al, o_dup, o_pop, o_dup_x1, o_dup2, o_iadd, o_isub, o_imul, o_iand, o_ior, o_ixor, o_ishl, o_ishr, o_idiv, o_irem, o_ineg, o_ladd, o_lsub, o_lmul, o_land, o_lor, o_lxor, o_ldiv, o_lrem, o_lneg, o_lcmp, o_i2l, o_l2i, o_i2b, o_i2c, o_iushr, o_lshl, o_lshr, o_if_eq, o_if_ne, o_if_lt, o_if_ge, o_if_gt, o_if_le, o_icmp_eq, o_icmp_ne, o_icmp_lt, o_icmp_ge, o_icmp_gt, o_icmp_le, o_ifnull, o_ifnonnull, o_acmp_eq, o_acmp_ne, o_is, o_ls, o_as, o_iinc, o_kill, o_sw, o_ireturn, o_zreturn, o_nreturn, o_lreturn, o_areturn, o_return, o_athrow, o_call, entP, lg_sl, Value.category, st1, st2, List.set, List.getElem?_cons_zero, List.getElem?_cons_succ, List.foldl, popN, aft, o_gI, o_gR, o_pI, o_pN, o_pR, o_aI, o_aG, o_aR, o_len, o_aR8, o_sI, o_sB, o_sZ, o_sG, o_new, o_newA, o_cast, o_inst, o_cst, o_oi, o_sR, o_gIc, o_gSv, o_gSc, o_getc, o_dead, o_acopy, o_castA, o_castI, o_sR7, o_mna, o_mmax, o_mmin, o_mabs, C.tr, rr2, va_rf]
      refine hv_size h.sl ?_
      simp [o_ic, o_lc, o_null, o_il, o_ll, o_al, o_dup, o_pop, o_dup_x1, o_dup2, o_iadd, o_isub, o_imul, o_iand, o_ior, o_ixor, o_ishl, o_ishr, o_idiv, o_irem, o_ineg, o_ladd, o_lsub, o_lmul, o_land, o_lor, o_lxor, o_ldiv, o_lrem, o_lneg, o_lcmp, o_i2l, o_l2i, o_i2b, o_i2c, o_iushr, o_lshl, o_lshr, o_if_eq, o_if_ne, o_if_lt, o_if_ge, o_if_gt, o_if_le, o_icmp_eq, o_icmp_ne, o_icmp_lt, o_icmp_ge, o_icmp_gt, o_icmp_le, o_ifnull, o_ifnonnull, o_acmp_eq, o_acmp_ne, o_is, o_ls, o_as, o_iinc, o_kill, o_sw, o_ireturn, o_zreturn, o_nreturn, o_lreturn, o_areturn, o_return, o_athrow, o_call, entP, lg_sl, Value.category, st1, st2, List.set, List.getElem?_cons_zero, List.getElem?_cons_succ, List.foldl, popN, aft, o_gI, o_gR, o_pI, o_pN, o_pR, o_aI, o_aG, o_aR, o_len, o_aR8, o_sI, o_sB, o_sZ, o_sG, o_new, o_newA, o_cast, o_inst, o_cst, o_oi, o_sR, o_gIc, o_gSv, o_gSc, o_getc, o_dead, o_acopy, o_castA, o_castI, o_sR7, o_mna, o_mmax, o_mmin, o_mabs, nn_eqL, nn_ltL, nn_leL, nn_Llt, nn_Lle, nn_lt, nn_le, nn_eq, nn_in, nn_clamp, nn_succ, nn_pos, nn_neg1, b1, b2, nle, C.tr, rr2, va_rf]
      refine hv_get h.sl q1 ?_
      simp [o_ic, o_lc, o_null, o_il, o_ll, o_al, o_dup, o_pop, o_dup_x1, o_dup2, o_iadd, o_isub, o_imul, o_iand, o_ior, o_ixor, o_ishl, o_ishr, o_idiv, o_irem, o_ineg, o_ladd, o_lsub, o_lmul, o_land, o_lor, o_lxor, o_ldiv, o_lrem, o_lneg, o_lcmp, o_i2l, o_l2i, o_i2b, o_i2c, o_iushr, o_lshl, o_lshr, o_if_eq, o_if_ne, o_if_lt, o_if_ge, o_if_gt, o_if_le, o_icmp_eq, o_icmp_ne, o_icmp_lt, o_icmp_ge, o_icmp_gt, o_icmp_le, o_ifnull, o_ifnonnull, o_acmp_eq, o_acmp_ne, o_is, o_ls, o_as, o_iinc, o_kill, o_sw, o_ireturn, o_zreturn, o_nreturn, o_lreturn, o_areturn, o_return, o_athrow, o_call, entP, lg_sl, Value.category, st1, st2, List.set, List.getElem?_cons_zero, List.getElem?_cons_succ, List.foldl, popN, aft, o_gI, o_gR, o_pI, o_pN, o_pR, o_aI, o_aG, o_aR, o_len, o_aR8, o_sI, o_sB, o_sZ, o_sG, o_new, o_newA, o_cast, o_inst, o_cst, o_oi, o_sR, o_gIc, o_gSv, o_gSc, o_getc, o_dead, o_acopy, o_castA, o_castI, o_sR7, o_mna, o_mmax, o_mmin, o_mabs, t', tk, ey, va_rf]
      refine ct_sLike q4 SI ?_
      by_cases c : z1 = z
      · subst c
        rw [if_pos rfl]
        have hmem : z1 ∈ sms (R.1.take k) := List.mem_of_getElem? hg
        have es' : sms (R.1.take (k + 1)) = sms (R.1.take k) := by rw [es]; unfold sAdd; simp [hmem]
        have hidx : (sms (R.1.take k)).idxOf z1 = e := by
          have l1 := idx_le_get hg
          refine Classical.byContradiction fun q => ?_
          exact hno _ (by omega) (idx_get hmem)
        simp [o_ic, o_lc, o_null, o_il, o_ll, o_al, o_dup, o_pop, o_dup_x1, o_dup2, o_iadd, o_isub, o_imul, o_iand, o_ior, o_ixor, o_ishl, o_ishr, o_idiv, o_irem, o_ineg, o_ladd, o_lsub, o_lmul, o_land, o_lor, o_lxor, o_ldiv, o_lrem, o_lneg, o_lcmp, o_i2l, o_l2i, o_i2b, o_i2c, o_iushr, o_lshl, o_lshr, o_if_eq, o_if_ne, o_if_lt, o_if_ge, o_if_gt, o_if_le, o_icmp_eq, o_icmp_ne, o_icmp_lt, o_icmp_ge, o_icmp_gt, o_icmp_le, o_ifnull, o_ifnonnull, o_acmp_eq, o_acmp_ne, o_is, o_ls, o_as, o_iinc, o_kill, o_sw, o_ireturn, o_zreturn, o_nreturn, o_lreturn, o_areturn, o_return, o_athrow, o_call, entP, lg_sl, Value.category, st1, st2, List.set, List.getElem?_cons_zero, List.getElem?_cons_succ, List.foldl, popN, aft, o_gI, o_gR, o_pI, o_pN, o_pR, o_aI, o_aG, o_aR, o_len, o_aR8, o_sI, o_sB, o_sZ, o_sG, o_new, o_newA, o_cast, o_inst, o_cst, o_oi, o_sR, o_gIc, o_gSv, o_gSc, o_getc, o_dead, o_acopy, o_castA, o_castI, o_sR7, o_mna, o_mmax, o_mmin, o_mabs, bX4_number_39, tk]
        obtain ⟨C1, F1⟩ := C.sR5 (i := k) (v := some y') hkm
        refine kk _ ss ⟨C1, fun i x' hx' => (h.ig i x' hx').sR tk rfl, F1.al h.ns id, h.nm, h.tg, F1.al h.wy id, h.i4, h.i5, F1.al h.sl id, by rw [es']; exact h.sn, fun e z2 he => ?_, fun i x' hi' hx' h0' => ?_, fun i x' hi' hx' h0' => ?_, ?_⟩
        · rw [es'] at he
          obtain ⟨y2, i2, p1, p2, p3, p4, p5⟩ := h.sm e z2 he
          exact ⟨y2, i2, p1, by omega, p3, p4.sR tk, p5⟩
        · rw [es']
          by_cases ei : i = k
          · subst ei
            rw [hx] at hx'
            cases hx'
            exact ⟨z1, y', hz, hmem, by rw [hidx]; exact q1, by simp [hT_sI, hT_sR, hT_sG, hL_sI, hL_sR, hL_sG, hI_sI, hI_sR, hI_sG, hG_sI, hG_sR, hG_sG, hR_sI, hR_sR, hR_sG, hN_sI, hN_sR, hN_sG, hC_sI, hC_sR, hC_sG, hS_sI, hS_sR, hS_sG, hT_nw, hL_nw, hI_nw, hG_nw, hR_nw, hN_nw, hC_nw, hS_nw, hvc, hvi, dspI, vref, va_rf]⟩
          · have hil := (List.getElem?_eq_some_iff.1 hx').1
            obtain ⟨z2, y2, p1, p2, p3, p4⟩ := h.s1 i x' (by omega) hx' h0'
            refine ⟨z2, y2, p1, p2, p3, ?_⟩
            rw [hR_sR, if_neg (fun q => ei (C.a_inj (by omega) hkm q.1))]; exact p4
        · have hil := (List.getElem?_eq_some_iff.1 hx').1
          obtain ⟨z2, y2, p1, p2, p3⟩ := h.s2 i x' (by omega) hx' h0'
          refine ⟨z2, y2, p1, ?_, p3.sR tk⟩
          rw [hR_sR, if_neg (fun q => by have := C.a_inj (i := i) (j := k) (by omega) hkm q.1; omega)]; exact p2
        · have ivk := C.iv k hkm
          exact (h.fr.trans (F1.imp (M' := GeM r) (MR' := GeM r) (fun _ q => q.elim) (fun b q => by have : b = A k := q; show r ≤ b; omega))).up (by omega) (by omega)
      · rw [if_neg c]
        simp [o_ic, o_lc, o_null, o_il, o_ll, o_al, o_dup, o_pop, o_dup_x1, o_dup2, o_iadd, o_isub, o_imul, o_iand, o_ior, o_ixor, o_ishl, o_ishr, o_idiv, o_irem, o_ineg, o_ladd, o_lsub, o_lmul, o_land, o_lor, o_lxor, o_ldiv, o_lrem, o_lneg, o_lcmp, o_i2l, o_l2i, o_i2b, o_i2c, o_iushr, o_lshl, o_lshr, o_if_eq, o_if_ne, o_if_lt, o_if_ge, o_if_gt, o_if_le, o_icmp_eq, o_icmp_ne, o_icmp_lt, o_icmp_ge, o_icmp_gt, o_icmp_le, o_ifnull, o_ifnonnull, o_acmp_eq, o_acmp_ne, o_is, o_ls, o_as, o_iinc, o_kill, o_sw, o_ireturn, o_zreturn, o_nreturn, o_lreturn, o_areturn, o_return, o_athrow, o_call, entP, lg_sl, Value.category, st1, st2, List.set, List.getElem?_cons_zero, List.getElem?_cons_succ, List.foldl, popN, aft, bX4_number_45, nn_succ]
        refine ih (e + 1) (by omega) (fun e' he' => ?_)
        by_cases q : e' = e
        · subst q; rw [hg]; exact fun z => c (Option.some.inj z)
        · exact hno e' (by omega)
  exact main ss.length 0 (by omega) (fun e' he' => by omega)
theorem hv_works7 {a : Nat} {v : Option Nat} (h : hT σ a = 7) (hv : hR σ a 5 = v) (k : Q (.inl (some (va_rf v))) σ) : hvc [(7, pX15_works κ), (8, pX6_works κ), (9, pX6_works κ), (10, pX6_works κ), (11, pX6_works κ), (12, pX6_works κ), (13, pX6_works κ), (14, pX6_works κ)] [.ref a] σ Q := by
  cases v with
  | none => simpa [hvc, dspI, h, pX15_works, bX15_works_0, o_ic, o_lc, o_null, o_il, o_ll, o_al, o_dup, o_pop, o_dup_x1, o_dup2, o_iadd, o_isub, o_imul, o_iand, o_ior, o_ixor, o_ishl, o_ishr, o_idiv, o_irem, o_ineg, o_ladd, o_lsub, o_lmul, o_land, o_lor, o_lxor, o_ldiv, o_lrem, o_lneg, o_lcmp, o_i2l, o_l2i, o_i2b, o_i2c, o_iushr, o_lshl, o_lshr, o_if_eq, o_if_ne, o_if_lt, o_if_ge, o_if_gt, o_if_le, o_icmp_eq, o_icmp_ne, o_icmp_lt, o_icmp_ge, o_icmp_gt, o_icmp_le, o_ifnull, o_ifnonnull, o_acmp_eq, o_acmp_ne, o_is, o_ls, o_as, o_iinc, o_kill, o_sw, o_ireturn, o_zreturn, o_nreturn, o_lreturn, o_areturn, o_return, o_athrow, o_call, entP, lg_sl, Value.category, st1, st2, List.set, List.getElem?_cons_zero, List.getElem?_cons_succ, List.foldl, popN, aft, o_gI, o_gR, o_pI, o_pN, o_pR, o_aI, o_aG, o_aR, o_len, o_aR8, o_sI, o_sB, o_sZ, o_sG, o_new, o_newA, o_cast, o_inst, o_cst, o_oi, o_sR, o_gIc, o_gSv, o_gSc, o_getc, o_dead, o_acopy, o_castA, o_castI, o_sR7, o_mna, o_mmax, o_mmin, o_mabs, hv, va_rf] using k
  | some y => simpa [hvc, dspI, h, pX15_works, bX15_works_0, o_ic, o_lc, o_null, o_il, o_ll, o_al, o_dup, o_pop, o_dup_x1, o_dup2, o_iadd, o_isub, o_imul, o_iand, o_ior, o_ixor, o_ishl, o_ishr, o_idiv, o_irem, o_ineg, o_ladd, o_lsub, o_lmul, o_land, o_lor, o_lxor, o_ldiv, o_lrem, o_lneg, o_lcmp, o_i2l, o_l2i, o_i2b, o_i2c, o_iushr, o_lshl, o_lshr, o_if_eq, o_if_ne, o_if_lt, o_if_ge, o_if_gt, o_if_le, o_icmp_eq, o_icmp_ne, o_icmp_lt, o_icmp_ge, o_icmp_gt, o_icmp_le, o_ifnull, o_ifnonnull, o_acmp_eq, o_acmp_ne, o_is, o_ls, o_as, o_iinc, o_kill, o_sw, o_ireturn, o_zreturn, o_nreturn, o_lreturn, o_areturn, o_return, o_athrow, o_call, entP, lg_sl, Value.category, st1, st2, List.set, List.getElem?_cons_zero, List.getElem?_cons_succ, List.foldl, popN, aft, o_gI, o_gR, o_pI, o_pN, o_pR, o_aI, o_aG, o_aR, o_len, o_aR8, o_sI, o_sB, o_sZ, o_sG, o_new, o_newA, o_cast, o_inst, o_cst, o_oi, o_sR, o_gIc, o_gSv, o_gSc, o_getc, o_dead, o_acopy, o_castA, o_castI, o_sR7, o_mna, o_mmax, o_mmin, o_mabs, hv, va_rf] using k
theorem hv_works0 {a : Nat} (h : hT σ a = 8 ∨ hT σ a = 9 ∨ hT σ a = 10 ∨ hT σ a = 11 ∨ hT σ a = 12 ∨ hT σ a = 13 ∨ hT σ a = 14) (k : Q (.inl (some .null)) σ) : hvc [(7, pX15_works κ), (8, pX6_works κ), (9, pX6_works κ), (10, pX6_works κ), (11, pX6_works κ), (12, pX6_works κ), (13, pX6_works κ), (14, pX6_works κ)] [.ref a] σ Q := by
  rcases h with h | h | h | h | h | h | h <;> simpa [hvc, dspI, h, pX6_works, bX6_works_0, o_ic, o_lc, o_null, o_il, o_ll, o_al, o_dup, o_pop, o_dup_x1, o_dup2, o_iadd, o_isub, o_imul, o_iand, o_ior, o_ixor, o_ishl, o_ishr, o_idiv, o_irem, o_ineg, o_ladd, o_lsub, o_lmul, o_land, o_lor, o_lxor, o_ldiv, o_lrem, o_lneg, o_lcmp, o_i2l, o_l2i, o_i2b, o_i2c, o_iushr, o_lshl, o_lshr, o_if_eq, o_if_ne, o_if_lt, o_if_ge, o_if_gt, o_if_le, o_icmp_eq, o_icmp_ne, o_icmp_lt, o_icmp_ge, o_icmp_gt, o_icmp_le, o_ifnull, o_ifnonnull, o_acmp_eq, o_acmp_ne, o_is, o_ls, o_as, o_iinc, o_kill, o_sw, o_ireturn, o_zreturn, o_nreturn, o_lreturn, o_areturn, o_return, o_athrow, o_call, entP, lg_sl, Value.category, st1, st2, List.set, List.getElem?_cons_zero, List.getElem?_cons_succ, List.foldl, popN, aft, o_gI, o_gR, o_pI, o_pN, o_pR, o_aI, o_aG, o_aR, o_len, o_aR8, o_sI, o_sB, o_sZ, o_sG, o_new, o_newA, o_cast, o_inst, o_cst, o_oi, o_sR, o_gIc, o_gSv, o_gSc, o_getc, o_dead, o_acopy, o_castA, o_castI, o_sR7, o_mna, o_mmax, o_mmin, o_mabs] using k
theorem cl_sums (w : WfR R) (how : ow.length ≤ 80) (r1 : 5000 ≤ hC σ0) (r2 : 130000 ≤ hS σ0) (hP : P5 κ σ0 σ r R wss A lo hi NX BF ow E 0 [])
    (kk : ∀ σ' ss', P5 κ σ0 σ' r R wss A lo hi NX BF ow E (R.1.length + ow.length) ss' → Q (.inl none) σ') : bX4_close_227 κ Q [some (.ref r), some (.int (nn R.2.length)), none, none] [] σ := by
  simp [bX4_close_227, o_ic, o_lc, o_null, o_il, o_ll, o_al, o_dup, o_pop, o_dup_x1, o_dup2, o_iadd, o_isub, o_imul, o_iand, o_ior, o_ixor, o_ishl, o_ishr, o_idiv, o_irem, o_ineg, o_ladd, o_lsub, o_lmul, o_land, o_lor, o_lxor, o_ldiv, o_lrem, o_lneg, o_lcmp, o_i2l, o_l2i, o_i2b, o_i2c, o_iushr, o_lshl, o_lshr, o_if_eq, o_if_ne, o_if_lt, o_if_ge, o_if_gt, o_if_le, o_icmp_eq, o_icmp_ne, o_icmp_lt, o_icmp_ge, o_icmp_gt, o_icmp_le, o_ifnull, o_ifnonnull, o_acmp_eq, o_acmp_ne, o_is, o_ls, o_as, o_iinc, o_kill, o_sw, o_ireturn, o_zreturn, o_nreturn, o_lreturn, o_areturn, o_return, o_athrow, o_call, entP, lg_sl, Value.category, st1, st2, List.set, List.getElem?_cons_zero, List.getElem?_cons_succ, List.foldl, popN, aft]
  unfold bX4_close_229
  intro X hX
  have hln := w.1
  have main : ∀ m k (σ : AH) ss, k + m = R.1.length + ow.length → P5 κ σ0 σ r R wss A lo hi NX BF ow E k ss → X [some (.ref r), some (.int (nn k)), none, none] [] σ := by
    intro m
    induction m with
    | zero =>
      intro k σ ss hk h
      apply hX
      have rr1 := h.cs.rr 1 (by omega)
      have b1 : k < 2147483648 := by omega
      have b2 : R.1.length + ow.length < 2147483648 := by omega
      have le : R.1.length + ow.length ≤ k := by omega
      simp [o_ic, o_lc, o_null, o_il, o_ll, o_al, o_dup, o_pop, o_dup_x1, o_dup2, o_iadd, o_isub, o_imul, o_iand, o_ior, o_ixor, o_ishl, o_ishr, o_idiv, o_irem, o_ineg, o_ladd, o_lsub, o_lmul, o_land, o_lor, o_lxor, o_ldiv, o_lrem, o_lneg, o_lcmp, o_i2l, o_l2i, o_i2b, o_i2c, o_iushr, o_lshl, o_lshr, o_if_eq, o_if_ne, o_if_lt, o_if_ge, o_if_gt, o_if_le, o_icmp_eq, o_icmp_ne, o_icmp_lt, o_icmp_ge, o_icmp_gt, o_icmp_le, o_ifnull, o_ifnonnull, o_acmp_eq, o_acmp_ne, o_is, o_ls, o_as, o_iinc, o_kill, o_sw, o_ireturn, o_zreturn, o_nreturn, o_lreturn, o_areturn, o_return, o_athrow, o_call, entP, lg_sl, Value.category, st1, st2, List.set, List.getElem?_cons_zero, List.getElem?_cons_succ, List.foldl, popN, aft, o_gI, o_gR, o_pI, o_pN, o_pR, o_aI, o_aG, o_aR, o_len, o_aR8, o_sI, o_sB, o_sZ, o_sG, o_new, o_newA, o_cast, o_inst, o_cst, o_oi, o_sR, o_gIc, o_gSv, o_gSc, o_getc, o_dead, o_acopy, o_castA, o_castI, o_sR7, o_mna, o_mmax, o_mmin, o_mabs, h.cs.tr, rr1, va_rf]
      refine hv_size h.ns ?_
      simp [o_ic, o_lc, o_null, o_il, o_ll, o_al, o_dup, o_pop, o_dup_x1, o_dup2, o_iadd, o_isub, o_imul, o_iand, o_ior, o_ixor, o_ishl, o_ishr, o_idiv, o_irem, o_ineg, o_ladd, o_lsub, o_lmul, o_land, o_lor, o_lxor, o_ldiv, o_lrem, o_lneg, o_lcmp, o_i2l, o_l2i, o_i2b, o_i2c, o_iushr, o_lshl, o_lshr, o_if_eq, o_if_ne, o_if_lt, o_if_ge, o_if_gt, o_if_le, o_icmp_eq, o_icmp_ne, o_icmp_lt, o_icmp_ge, o_icmp_gt, o_icmp_le, o_ifnull, o_ifnonnull, o_acmp_eq, o_acmp_ne, o_is, o_ls, o_as, o_iinc, o_kill, o_sw, o_ireturn, o_zreturn, o_nreturn, o_lreturn, o_areturn, o_return, o_athrow, o_call, entP, lg_sl, Value.category, st1, st2, List.set, List.getElem?_cons_zero, List.getElem?_cons_succ, List.foldl, popN, aft, o_gI, o_gR, o_pI, o_pN, o_pR, o_aI, o_aG, o_aR, o_len, o_aR8, o_sI, o_sB, o_sZ, o_sG, o_new, o_newA, o_cast, o_inst, o_cst, o_oi, o_sR, o_gIc, o_gSv, o_gSc, o_getc, o_dead, o_acopy, o_castA, o_castI, o_sR7, o_mna, o_mmax, o_mmin, o_mabs, nn_eqL, nn_ltL, nn_leL, nn_Llt, nn_Lle, nn_lt, nn_le, nn_eq, nn_in, nn_clamp, nn_succ, nn_pos, nn_neg1, b1, b2, le, bX4_close_273]
      have e : k = R.1.length + ow.length := by omega
      subst e
      exact kk σ ss h
    | succ m ih =>
      intro k σ ss hk h
      apply hX
      have rr1 := h.cs.rr 1 (by omega)
      have b1 : k < 2147483648 := by omega
      have b2 : R.1.length + ow.length < 2147483648 := by omega
      have nle : ¬ R.1.length + ow.length ≤ k := by omega
      have hkm : k < R.1.length + ow.length := by omega
      have t := h.cs.tgA hkm
      have hg : ((List.range (R.1.length + ow.length)).map A)[k]? = some (A k) := by rw [List.getElem?_map, List.getElem?_range hkm]; rfl
      simp [o_ic, o_lc, o_null, o_il, o_ll, o_al, o_dup, o_pop, o_dup_x1, o_dup2, o_iadd, o_isub, o_imul, o_iand, o_ior, o_ixor, o_ishl, o_ishr, o_idiv, o_irem, o_ineg, o_ladd, o_lsub, o_lmul, o_land, o_lor, o_lxor, o_ldiv, o_lrem, o_lneg, o_lcmp, o_i2l, o_l2i, o_i2b, o_i2c, o_iushr, o_lshl, o_lshr, o_if_eq, o_if_ne, o_if_lt, o_if_ge, o_if_gt, o_if_le, o_icmp_eq, o_icmp_ne, o_icmp_lt, o_icmp_ge, o_icmp_gt, o_icmp_le, o_ifnull, o_ifnonnull, o_acmp_eq, o_acmp_ne, o_is, o_ls, o_as, o_iinc, o_kill, o_sw, o_ireturn, o_zreturn, o_nreturn, o_lreturn, o_areturn, o_return, o_athrow, o_call, entP, lg_sl, Value.category, st1, st2, List.set, List.getElem?_cons_zero, List.getElem?_cons_succ, List.foldl, popN, aft, o_gI, o_gR, o_pI, o_pN, o_pR, o_aI, o_aG, o_aR, o_len, o_aR8, o_sI, o_sB, o_sZ, o_sG, o_new, o_newA, o_cast, o_inst, o_cst, o_oi, o_sR, o_gIc, o_gSv, o_gSc, o_getc, o_dead, o_acopy, o_castA, o_castI, o_sR7, o_mna, o_mmax, o_mmin, o_mabs, h.cs.tr, rr1, va_rf]
      refine hv_size h.ns ?_
      simp [o_ic, o_lc, o_null, o_il, o_ll, o_al, o_dup, o_pop, o_dup_x1, o_dup2, o_iadd, o_isub, o_imul, o_iand, o_ior, o_ixor, o_ishl, o_ishr, o_idiv, o_irem, o_ineg, o_ladd, o_lsub, o_lmul, o_land, o_lor, o_lxor, o_ldiv, o_lrem, o_lneg, o_lcmp, o_i2l, o_l2i, o_i2b, o_i2c, o_iushr, o_lshl, o_lshr, o_if_eq, o_if_ne, o_if_lt, o_if_ge, o_if_gt, o_if_le, o_icmp_eq, o_icmp_ne, o_icmp_lt, o_icmp_ge, o_icmp_gt, o_icmp_le, o_ifnull, o_ifnonnull, o_acmp_eq, o_acmp_ne, o_is, o_ls, o_as, o_iinc, o_kill, o_sw, o_ireturn, o_zreturn, o_nreturn, o_lreturn, o_areturn, o_return, o_athrow, o_call, entP, lg_sl, Value.category, st1, st2, List.set, List.getElem?_cons_zero, List.getElem?_cons_succ, List.foldl, popN, aft, o_gI, o_gR, o_pI, o_pN, o_pR, o_aI, o_aG, o_aR, o_len, o_aR8, o_sI, o_sB, o_sZ, o_sG, o_new, o_newA, o_cast, o_inst, o_cst, o_oi, o_sR, o_gIc, o_gSv, o_gSc, o_getc, o_dead, o_acopy, o_castA, o_castI, o_sR7, o_mna, o_mmax, o_mmin, o_mabs, nn_eqL, nn_ltL, nn_leL, nn_Llt, nn_Lle, nn_lt, nn_le, nn_eq, nn_in, nn_clamp, nn_succ, nn_pos, nn_neg1, b1, b2, nle, h.cs.tr, rr1, va_rf]
      refine hv_get h.ns hg ?_
      simp [o_ic, o_lc, o_null, o_il, o_ll, o_al, o_dup, o_pop, o_dup_x1, o_dup2, o_iadd, o_isub, o_imul, o_iand, o_ior, o_ixor, o_ishl, o_ishr, o_idiv, o_irem, o_ineg, o_ladd, o_lsub, o_lmul, o_land, o_lor, o_lxor, o_ldiv, o_lrem, o_lneg, o_lcmp, o_i2l, o_l2i, o_i2b, o_i2c, o_iushr, o_lshl, o_lshr, o_if_eq, o_if_ne, o_if_lt, o_if_ge, o_if_gt, o_if_le, o_icmp_eq, o_icmp_ne, o_icmp_lt, o_icmp_ge, o_icmp_gt, o_icmp_le, o_ifnull, o_ifnonnull, o_acmp_eq, o_acmp_ne, o_is, o_ls, o_as, o_iinc, o_kill, o_sw, o_ireturn, o_zreturn, o_nreturn, o_lreturn, o_areturn, o_return, o_athrow, o_call, entP, lg_sl, Value.category, st1, st2, List.set, List.getElem?_cons_zero, List.getElem?_cons_succ, List.foldl, popN, aft, o_gI, o_gR, o_pI, o_pN, o_pR, o_aI, o_aG, o_aR, o_len, o_aR8, o_sI, o_sB, o_sZ, o_sG, o_new, o_newA, o_cast, o_inst, o_cst, o_oi, o_sR, o_gIc, o_gSv, o_gSc, o_getc, o_dead, o_acopy, o_castA, o_castI, o_sR7, o_mna, o_mmax, o_mmin, o_mabs, t]
      by_cases c : hT σ (A k) = 7
      · have hkl : k < R.1.length := by
          refine Classical.byContradiction fun q => ?_
          have := h.tg k (by omega) hkm
          omega
        have hx : R.1[k]? = some (R.1[k]) := List.getElem?_eq_getElem hkl
        generalize R.1[k] = x at hx
        have h0 : x.2.1 = 0 := by have := (h.ig k x hx).2.1; omega
        obtain ⟨z, y, ez, ey, SI⟩ := h.s2 k x (Nat.le_refl _) hx h0
        refine hv_works7 c ey ?_
        simp [o_ic, o_lc, o_null, o_il, o_ll, o_al, o_dup, o_pop, o_dup_x1, o_dup2, o_iadd, o_isub, o_imul, o_iand, o_ior, o_ixor, o_ishl, o_ishr, o_idiv, o_irem, o_ineg, o_ladd, o_lsub, o_lmul, o_land, o_lor, o_lxor, o_ldiv, o_lrem, o_lneg, o_lcmp, o_i2l, o_l2i, o_i2b, o_i2c, o_iushr, o_lshl, o_lshr, o_if_eq, o_if_ne, o_if_lt, o_if_ge, o_if_gt, o_if_le, o_icmp_eq, o_icmp_ne, o_icmp_lt, o_icmp_ge, o_icmp_gt, o_icmp_le, o_ifnull, o_ifnonnull, o_acmp_eq, o_acmp_ne, o_is, o_ls, o_as, o_iinc, o_kill, o_sw, o_ireturn, o_zreturn, o_nreturn, o_lreturn, o_areturn, o_return, o_athrow, o_call, entP, lg_sl, Value.category, st1, st2, List.set, List.getElem?_cons_zero, List.getElem?_cons_succ, List.foldl, popN, aft, o_gI, o_gR, o_pI, o_pN, o_pR, o_aI, o_aG, o_aR, o_len, o_aR8, o_sI, o_sB, o_sZ, o_sG, o_new, o_newA, o_cast, o_inst, o_cst, o_oi, o_sR, o_gIc, o_gSv, o_gSc, o_getc, o_dead, o_acopy, o_castA, o_castI, o_sR7, o_mna, o_mmax, o_mmin, o_mabs, va_rf, c, hvc, dspI, h.cs.tr]
        refine ct_numS h w hx h0 ez r1 r2 (fun σ' ss' h' => ?_)
        simp [o_ic, o_lc, o_null, o_il, o_ll, o_al, o_dup, o_pop, o_dup_x1, o_dup2, o_iadd, o_isub, o_imul, o_iand, o_ior, o_ixor, o_ishl, o_ishr, o_idiv, o_irem, o_ineg, o_ladd, o_lsub, o_lmul, o_land, o_lor, o_lxor, o_ldiv, o_lrem, o_lneg, o_lcmp, o_i2l, o_l2i, o_i2b, o_i2c, o_iushr, o_lshl, o_lshr, o_if_eq, o_if_ne, o_if_lt, o_if_ge, o_if_gt, o_if_le, o_icmp_eq, o_icmp_ne, o_icmp_lt, o_icmp_ge, o_icmp_gt, o_icmp_le, o_ifnull, o_ifnonnull, o_acmp_eq, o_acmp_ne, o_is, o_ls, o_as, o_iinc, o_kill, o_sw, o_ireturn, o_zreturn, o_nreturn, o_lreturn, o_areturn, o_return, o_athrow, o_call, entP, lg_sl, Value.category, st1, st2, List.set, List.getElem?_cons_zero, List.getElem?_cons_succ, List.foldl, popN, aft, bX4_close_267, nn_succ]
        exact ih (k + 1) σ' ss' (by omega) h'
      · refine hv_works0 (by omega) ?_
        simp [o_ic, o_lc, o_null, o_il, o_ll, o_al, o_dup, o_pop, o_dup_x1, o_dup2, o_iadd, o_isub, o_imul, o_iand, o_ior, o_ixor, o_ishl, o_ishr, o_idiv, o_irem, o_ineg, o_ladd, o_lsub, o_lmul, o_land, o_lor, o_lxor, o_ldiv, o_lrem, o_lneg, o_lcmp, o_i2l, o_l2i, o_i2b, o_i2c, o_iushr, o_lshl, o_lshr, o_if_eq, o_if_ne, o_if_lt, o_if_ge, o_if_gt, o_if_le, o_icmp_eq, o_icmp_ne, o_icmp_lt, o_icmp_ge, o_icmp_gt, o_icmp_le, o_ifnull, o_ifnonnull, o_acmp_eq, o_acmp_ne, o_is, o_ls, o_as, o_iinc, o_kill, o_sw, o_ireturn, o_zreturn, o_nreturn, o_lreturn, o_areturn, o_return, o_athrow, o_call, entP, lg_sl, Value.category, st1, st2, List.set, List.getElem?_cons_zero, List.getElem?_cons_succ, List.foldl, popN, aft, bX4_close_267, nn_succ]
        refine ih (k + 1) σ ss (by omega) (h.skip (fun x hx => ?_))
        have q := (h.ig k x hx).2.1
        have hok := (w.2.2.2.2.1 k x hx).2.2.2.2
        have h0 : x.2.1 ≠ 0 := by omega
        exact ⟨hok.2.2.2.2.2.2.2.1 h0, h0⟩
  exact main (R.1.length + ow.length) 0 σ [] (by omega) hP
end P5s
