/-! THE SPEC of a run -/
set_option maxRecDepth 100000
/-- names, rows, kept, worked, worked in all, told, came -/
abbrev RS : Type := (Nat → Int32) × (Nat → Int32) × (Nat → Int32) × (Nat → Nat) × Nat × List Int32 × Nat
def wth (now : Nat → Int32) (o : Opd) : Int32 := if o.1 < 0 then o.2 else now o.1.toNatClampNeg
def wrk (s : Sm) (now rows : Nat → Int32) : Option Int32 :=
  if s.1 = 114 then (if wth now s.2.2 < 0 ∨ 7 < wth now s.2.2 then none else some (rows (8 * s.2.1.2 + wth now s.2.2).toNatClampNeg))
  else if s.1 = 38 then some (wth now s.2.1 &&& wth now s.2.2)
  else if s.1 = 42 then some (wth now s.2.1 * wth now s.2.2)
  else if s.1 = 43 then some (wth now s.2.1 + wth now s.2.2)
  else if s.1 = 45 then some (wth now s.2.1 - wth now s.2.2)
  else if s.1 = 94 then some (wth now s.2.1 ^^^ wth now s.2.2)
  else if wth now s.2.2 = 0 then none
  else if wth now s.2.2 = -1 then some (- wth now s.2.1)
  else some (wth now s.2.1 / wth now s.2.2)
def updN (f : Nat → Nat) (i x : Nat) : Nat → Nat := fun j => if j = i then x else f j
/-- a sum is worked: counted -/
def bump (st : RS) (e : Nat) : RS := (st.1, st.2.1, st.2.2.1, updN st.2.2.2.1 e (st.2.2.2.1 e + 1), st.2.2.2.2.1 + 1, st.2.2.2.2.2.1, st.2.2.2.2.2.2)
def rKeep (st : RS) (e : Nat) (v : Int32) : RS := (st.1, st.2.1, upd9 st.2.2.1 e v, st.2.2.2)
def rNow (st : RS) (n : Int32) (v : Int32) : RS := (upd9 st.1 n.toNatClampNeg v, st.2)
def rRow (st : RS) (i : Int32) (v : Int32) : RS := (st.1, upd9 st.2.1 i.toNatClampNeg v, st.2.2)
def rTell (st : RS) (v : Int32) : RS := (st.1, st.2.1, st.2.2.1, st.2.2.2.1, st.2.2.2.2.1, st.2.2.2.2.2.1 ++ [v], st.2.2.2.2.2.2)
def rCame (st : RS) : RS := (st.1, st.2.1, st.2.2.1, st.2.2.2.1, st.2.2.2.2.1, st.2.2.2.2.2.1, st.2.2.2.2.2.2 + 1)
/-- what is set ahead of a node, from sum e on, m of them; whether it is refused -/
noncomputable def setF (R : Rt) (pl k : Nat) : Nat → Nat → RS → RS × Bool
  | 0, _, st => (st, false)
  | m + 1, e, st => if b9 (setP R pl e k) = true then (match wrk (smA R e) st.1 st.2.1 with
    | none => (bump st e, true)
    | some v => setF R pl k m (e + 1) (rKeep (bump st e) e v)) else setF R pl k m (e + 1) st
/-- a node: where it leads, or how it ends (0 left, 1 refused) -/
noncomputable def doesF (R : Rt) (pl k : Nat) (st : RS) : RS × Except Nat Nat :=
  let x := ndA (nds R) k
  let on := (Except.ok ((nT1 x).getD 0) : Except Nat Nat)
  if nK x = 0 then (match nSm x with
    | none => (st, .error 1)
    | some e => if b9 (tknP R pl e k) = true then (rNow st (nNm x) (st.2.2.1 e), on) else match wrk (smA R e) st.1 st.2.1 with
      | none => (bump st e, .error 1)
      | some v => (rNow (bump st e) (nNm x) v, on))
  else if nK x = 1 then (rNow st (nNm x) (wth st.1 (nOa x)), on)
  else if nK x = 2 then (if wth st.1 (nOa x) < 0 ∨ 7 < wth st.1 (nOa x) then (st, .error 1) else (rRow st (8 * nRw x + wth st.1 (nOa x)) (wth st.1 (nOb x)), on))
  else if nK x = 3 then (rTell st (wth st.1 (nOa x)), on)
  else if nK x = 5 then (st, if wth st.1 (nOa x) < wth st.1 (nOb x) then on else .ok ((nT2 x).getD 0))
  else if nK x = 6 then (st, .error 0)
  else (st, on)
def st1F (R : Rt) (k : Nat) (st : RS) : RS := if nK (ndA (nds R) k) = 7 then st else rCame st
noncomputable def stepF (R : Rt) (pl k : Nat) (st : RS) : RS × Except Nat Nat :=
  if (setF R pl k (sms R.1).length 0 (st1F R k st)).2 = true then ((setF R pl k (sms R.1).length 0 (st1F R k st)).1, .error 1) else doesF R pl k (setF R pl k (sms R.1).length 0 (st1F R k st)).1
noncomputable def runF (R : Rt) (pl : Nat) : Nat → Nat → RS → (Int32 × Int32) × RS
  | 0, _, st => ((-1, -1), st)
  | m + 1, k, st => if nK (ndA (nds R) k) ≠ 7 ∧ st.2.2.2.2.2.2 = 1000 then ((2, -1), st) else match (stepF R pl k st).2 with
    | .ok k' => runF R pl m k' (stepF R pl k st).1
    | .error h => ((if h = 0 then (0, -1) else (1, nn (nB (ndA (nds R) k)))), (stepF R pl k st).1)
def rs0 (begins kept : Nat → Int32) : RS := (begins, fun _ => 0, kept, fun _ => 0, 0, [], 0)
noncomputable def runA (R : Rt) (pl : Nat) (begins kept : Nat → Int32) : (Int32 × Int32) × RS := runF R pl 2100 0 (rs0 begins kept)
theorem nd7_t1 {R : Rt} (w : WfR R) (hT : TgOk R) {k : Nat} (hk : k < (nds R).length) (h7 : nK (ndA (nds R) k) = 7) : ∃ j, nT1 (ndA (nds R) k) = some j ∧ j < R.1.length := by
  have hg : (nds R)[k]? = some (ndA (nds R) k) := by unfold ndA; rw [List.getD_eq_getElem?_getD, List.getElem?_eq_getElem hk]; rfl
  have ok := nds_ok w hT hg
  have hge := ok.2.2.2.2.2.2.2.2.2.2.2.2.2.2.2.2 h7
  rw [nds_ge hge] at hg
  rw [Option.map_eq_some_iff] at hg
  obtain ⟨b, hb1, hb2⟩ := hg
  have hb := ok.2.2.2.2.1
  rw [← hb2] at hb ⊢
  exact ⟨_, rfl, by have := w.2.2.1 b hb; omega⟩
/-- a bound of what is still to come -/
def mu (R : Rt) (k : Nat) (st : RS) : Nat := 2 * (1001 - st.2.2.2.2.2.2) + if nK (ndA (nds R) k) = 7 then 1 else 0
theorem setF_same (R : Rt) (pl k : Nat) : ∀ m e st, (setF R pl k m e st).1.1 = st.1 ∧ (setF R pl k m e st).1.2.1 = st.2.1 ∧ (setF R pl k m e st).1.2.2.2.2.2 = st.2.2.2.2.2 := by
  intro m
  induction m with
  | zero => intro e st; exact ⟨rfl, rfl, rfl⟩
  | succ m ih =>
    intro e st
    unfold setF
    split
    · split
      · exact ⟨rfl, rfl, rfl⟩
      · exact ih _ _
    · exact ih _ _
theorem doesF_came (R : Rt) (pl k : Nat) (st : RS) : (doesF R pl k st).1.2.2.2.2.2.2 = st.2.2.2.2.2.2 := by
  unfold doesF
  simp only
  repeat' split
  all_goals rfl
theorem stepF_came (R : Rt) (pl k : Nat) (st : RS) : (stepF R pl k st).1.2.2.2.2.2.2 = st.2.2.2.2.2.2 + if nK (ndA (nds R) k) = 7 then 0 else 1 := by
  unfold stepF
  have h := (setF_same R pl k (sms R.1).length 0 (st1F R k st)).2.2
  have h1 : (st1F R k st).2.2.2.2.2.2 = st.2.2.2.2.2.2 + if nK (ndA (nds R) k) = 7 then 0 else 1 := by unfold st1F; split <;> rfl
  split
  · show (setF R pl k (sms R.1).length 0 (st1F R k st)).1.2.2.2.2.2.2 = _
    rw [h]; exact h1
  · rw [doesF_came, h]; exact h1
theorem doesF_next {R : Rt} (w : WfR R) (hT : TgOk R) {pl k k' : Nat} {st : RS} (hk : k < (nds R).length) (h : (doesF R pl k st).2 = .ok k') : k' < (nds R).length ∧ (nT1 (ndA (nds R) k) = some k' ∨ nT2 (ndA (nds R) k) = some k') ∧ nK (ndA (nds R) k) ≠ 6 := by
  have hg : (nds R)[k]? = some (ndA (nds R) k) := by unfold ndA; rw [List.getD_eq_getElem?_getD, List.getElem?_eq_getElem hk]; rfl
  have ok := nds_ok w hT hg
  have on : nK (ndA (nds R) k) ≠ 6 → (Except.ok ((nT1 (ndA (nds R) k)).getD 0) : Except Nat Nat) = .ok k' → k' < (nds R).length ∧ (nT1 (ndA (nds R) k) = some k' ∨ nT2 (ndA (nds R) k) = some k') ∧ nK (ndA (nds R) k) ≠ 6 := by
    intro h6 h
    obtain ⟨j, hj⟩ := ok.2.2.2.2.2.2.2.2.2.1 h6
    rw [hj] at h
    have : j = k' := Except.ok.inj h
    subst this
    exact ⟨ok.2.1 j hj, Or.inl hj, h6⟩
  unfold doesF at h
  simp only at h
  split at h
  · next c =>
    split at h
    · cases h
    · split at h
      · exact on (by omega) h
      · split at h
        · cases h
        · exact on (by omega) h
  · split at h
    · exact on (by omega) h
    · split at h
      · split at h
        · cases h
        · exact on (by omega) h
      · split at h
        · exact on (by omega) h
        · split at h
          · next c5 =>
            simp only at h
            split at h
            · exact on (by omega) h
            · obtain ⟨j, hj⟩ := ok.2.2.2.2.2.2.2.2.2.2.2.2.2.2.1.1 c5
              rw [hj] at h
              have : j = k' := Except.ok.inj h
              subst this
              exact ⟨ok.2.2.1 j hj, Or.inr hj, by omega⟩
          · split at h
            · cases h
            · next c6 => exact on c6 h
theorem stepF_next {R : Rt} (w : WfR R) (hT : TgOk R) {pl k k' : Nat} {st : RS} (hk : k < (nds R).length) (h : (stepF R pl k st).2 = .ok k') : k' < (nds R).length ∧ (nT1 (ndA (nds R) k) = some k' ∨ nT2 (ndA (nds R) k) = some k') ∧ nK (ndA (nds R) k) ≠ 6 := by
  unfold stepF at h
  split at h
  · cases h
  · exact doesF_next w hT hk h
theorem mu_lt {R : Rt} (w : WfR R) (hT : TgOk R) {pl k k' : Nat} {st : RS} (hk : k < (nds R).length) (hc : ¬ (nK (ndA (nds R) k) ≠ 7 ∧ st.2.2.2.2.2.2 = 1000)) (hle : st.2.2.2.2.2.2 ≤ 1000) (h : (stepF R pl k st).2 = .ok k') : mu R k' (stepF R pl k st).1 < mu R k st ∧ (stepF R pl k st).1.2.2.2.2.2.2 ≤ 1000 := by
  have hs := stepF_came R pl k st
  obtain ⟨h1, h2, h3⟩ := stepF_next w hT hk h
  unfold mu
  by_cases c : nK (ndA (nds R) k) = 7
  · obtain ⟨j, hj1, hj2⟩ := nd7_t1 w hT hk c
    have hg : (nds R)[k]? = some (ndA (nds R) k) := by unfold ndA; rw [List.getD_eq_getElem?_getD, List.getElem?_eq_getElem hk]; rfl
    have ok := nds_ok w hT hg
    have e2 : nT2 (ndA (nds R) k) = none := by
      cases h9 : nT2 (ndA (nds R) k) with
      | none => rfl
      | some i => have := ok.2.2.2.2.2.2.2.2.2.2.2.2.2.2.1.2 ⟨i, h9⟩; omega
    have ek : k' = j := by
      rcases h2 with h2 | h2
      · rw [hj1] at h2; cases h2; rfl
      · rw [e2] at h2; cases h2
    subst ek
    have hg' : (nds R)[k']? = some (ndA (nds R) k') := by unfold ndA; rw [List.getD_eq_getElem?_getD, List.getElem?_eq_getElem h1]; rfl
    have ok' := nds_ok w hT hg'
    have n7 : ¬ nK (ndA (nds R) k') = 7 := fun z => by have := ok'.2.2.2.2.2.2.2.2.2.2.2.2.2.2.2.2 z; omega
    rw [if_pos c] at hs
    rw [if_neg n7, if_pos c, hs]
    exact ⟨by omega, by omega⟩
  · rw [if_neg c] at hs
    have : st.2.2.2.2.2.2 < 1000 := by
      refine Classical.byContradiction fun z => hc ⟨c, by omega⟩
    rw [hs, if_neg c]
    refine ⟨?_, by omega⟩
    split <;> omega
