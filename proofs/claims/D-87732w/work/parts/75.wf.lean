/-! THE SPEC: a routine that is read is well made -/
set_option maxRecDepth 100000
def OOk (o : Opd) : Prop := (∃ n, n < 48 ∧ o = (nn n, 0)) ∨ ∃ m, m < 1000000000 ∧ (o = (-1, nn m) ∨ o = (-1, - nn m))
def SOk (s : Sm) : Prop := (s.1 = 114 ∧ (∃ r, r < 2 ∧ s.2.1 = (-1, nn r)) ∧ OOk s.2.2) ∨ ((s.1 = 43 ∨ s.1 = 45 ∨ s.1 = 42 ∨ s.1 = 47 ∨ s.1 = 38 ∨ s.1 = 94) ∧ OOk s.2.1 ∧ OOk s.2.2)
def IOk (it : Itm) : Prop := it.1 ≤ 6 ∧ (it.1 < 2 → ∃ n, n < 48 ∧ it.2.1 = nn n) ∧ (2 ≤ it.1 → it.2.1 = -1) ∧ (it.1 = 2 → ∃ r, r < 2 ∧ it.2.2.1 = nn r) ∧ OOk it.2.2.2.1 ∧ OOk it.2.2.2.2.1 ∧ (it.1 = 0 → ∃ s, iS it = some s ∧ SOk s) ∧ (it.1 ≠ 0 → iS it = none) ∧ (it.1 = 4 → ∃ t, iT it = [t]) ∧ (it.1 = 5 → ∃ t u, iT it = [t, u]) ∧ (it.1 ≠ 4 → it.1 ≠ 5 → iT it = []) ∧ ∀ t ∈ iT it, t.2 < 40
theorem nVal_lt {tp : Nat → Nat} {td f : Nat} (h : srt tp td f = 2) : nVal tp td f < 1000000000 := by
  unfold srt at h
  split at h
  · omega
  · split at h
    · split at h <;> omega
    · split at h
      · split at h
        · next h1 =>
          obtain ⟨h1, h2⟩ := h1
          have hd := dec_lt tp (rnE tp td f - f) f 0 (fun j a b => by
            have := adv_all (fun i => dg9 (tp i)) (rnE tp td f - f) f j a (by
              have h3 : rnE tp td f ≤ adv (fun i => dg9 (tp i)) (rnE tp td f - f) f := by simpa [allF] using h2
              omega)
            exact this)
          unfold nVal
          have h4 : 10 ^ (rnE tp td f - f) ≤ 10 ^ 9 := Nat.pow_le_pow_right (by omega) h1
          omega
        · omega
      · split at h <;> omega
theorem opnd_ok {tp : Nat → Nat} {td f g : Nat} {o : Opd} (h : opnd tp td f = .ok (o, g)) : OOk o := by
  unfold opnd at h
  split at h
  · next n hn => cases h; exact Or.inl ⟨n, (nmA_srt hn).2, rfl⟩
  · split at h
    · split at h
      · next h2 => cases h; exact Or.inr ⟨_, nVal_lt h2, Or.inr rfl⟩
      · cases h
    · split at h
      · next h2 => cases h; exact Or.inr ⟨_, nVal_lt h2, Or.inl rfl⟩
      · cases h
theorem OOk0 : OOk (0, 0) := Or.inl ⟨0, by omega, rfl⟩
theorem tgt_ok {tp : Nat → Nat} {td f g b : Nat} (h : tgt tp td f = .ok (b, g)) : b < 40 := by
  unfold tgt at h
  split at h
  · next n hn => cases h; have := numb_le hn; omega
  · cases h
theorem isOp9_ok {tp : Nat → Nat} {td f : Nat} (h : isOp9 tp td f = true) : nn (tp f) = 43 ∨ nn (tp f) = 45 ∨ nn (tp f) = 42 ∨ nn (tp f) = 47 ∨ nn (tp f) = 38 ∨ nn (tp f) = 94 := by
  unfold isOp9 at h
  simp at h
  obtain ⟨-, h | h | h | h | h | h⟩ := h
  all_goals rw [h]; simp [nn]
theorem valu_ok {tp : Nat → Nat} {td n f g : Nat} {it : Itm} (hn : n < 48) (h : valu tp td n f = .ok (it, g)) : IOk it ∧ it.1 < 2 := by
  unfold valu at h
  cases hr : numb tp td f 114 1 with
  | some row =>
    rw [hr] at h
    have br := numb_le hr
    simp only [bind, Except.bind] at h
    cases h1 : sgx tp td (nx tp td f) 91 with
    | error e => rw [h1] at h; cases h
    | ok g1 =>
      rw [h1] at h; simp only at h
      cases h2 : opnd tp td g1 with
      | error e => rw [h2] at h; cases h
      | ok x =>
        rw [h2] at h; simp only at h
        cases h3 : sgx tp td x.2 93 with
        | error e => rw [h3] at h; cases h
        | ok g3 =>
          rw [h3] at h; cases h
          refine ⟨⟨by simp, fun _ => ⟨n, hn, rfl⟩, fun q => by simp at q, fun q => by simp at q, OOk0, OOk0, fun _ => ⟨_, rfl, Or.inl ⟨rfl, ⟨row, by omega, rfl⟩, opnd_ok h2⟩⟩, fun q => absurd rfl q, fun q => by simp at q, fun q => by simp at q, fun _ _ => rfl, fun t ht => by simp [iT] at ht⟩, by simp⟩
  | none =>
    rw [hr] at h
    simp only [bind, Except.bind] at h
    cases h2 : opnd tp td f with
    | error e => rw [h2] at h; cases h
    | ok x =>
      rw [h2] at h; simp only at h
      split at h
      · next ho =>
        cases h3 : opnd tp td (nx tp td x.2) with
        | error e => rw [h3] at h; cases h
        | ok y =>
          rw [h3] at h; cases h
          refine ⟨⟨by simp, fun _ => ⟨n, hn, rfl⟩, fun q => by simp at q, fun q => by simp at q, OOk0, OOk0, fun _ => ⟨_, rfl, Or.inr ⟨isOp9_ok ho, opnd_ok h2, opnd_ok h3⟩⟩, fun q => absurd rfl q, fun q => by simp at q, fun q => by simp at q, fun _ _ => rfl, fun t ht => by simp [iT] at ht⟩, by simp⟩
      · cases h
        refine ⟨⟨by simp, fun _ => ⟨n, hn, rfl⟩, fun q => by simp at q, fun q => by simp at q, opnd_ok h2, OOk0, fun q => by simp at q, fun _ => rfl, fun q => by simp at q, fun q => by simp at q, fun _ _ => rfl, fun t ht => by simp [iT] at ht⟩, by simp⟩
theorem line9_ok {tp : Nat → Nat} {td f g : Nat} {it : Itm} (h : line9 tp td f = .ok (it, g)) : IOk it := by
  unfold line9 at h
  cases hnm : nmA tp td f with
  | some n =>
    rw [hnm] at h
    simp only [bind, Except.bind] at h
    cases h1 : sgx tp td (nx tp td f) 61 with
    | error e => rw [h1] at h; cases h
    | ok g1 => rw [h1] at h; exact (valu_ok (nmA_srt hnm).2 h).1
  | none =>
    rw [hnm] at h
    cases hr : numb tp td f 114 1 with
    | some row =>
      rw [hr] at h
      have br := numb_le hr
      simp only [bind, Except.bind] at h
      cases h1 : sgx tp td (nx tp td f) 91 with
      | error e => rw [h1] at h; cases h
      | ok g1 =>
        rw [h1] at h; simp only at h
        cases h2 : opnd tp td g1 with
        | error e => rw [h2] at h; cases h
        | ok x =>
          rw [h2] at h; simp only at h
          cases h3 : sgx tp td x.2 93 with
          | error e => rw [h3] at h; cases h
          | ok g3 =>
            rw [h3] at h; simp only at h
            cases h4 : sgx tp td g3 61 with
            | error e => rw [h4] at h; cases h
            | ok g4 =>
              rw [h4] at h; simp only at h
              cases h5 : opnd tp td g4 with
              | error e => rw [h5] at h; cases h
              | ok y =>
                rw [h5] at h; cases h
                exact ⟨by simp, fun q => by simp at q, fun _ => rfl, fun _ => ⟨row, by omega, rfl⟩, opnd_ok h2, opnd_ok h5, fun q => by simp at q, fun _ => rfl, fun q => by simp at q, fun q => by simp at q, fun _ _ => rfl, fun t ht => by simp [iT] at ht⟩
    | none =>
      rw [hr] at h
      simp only [bind, Except.bind] at h
      split at h
      · cases h2 : opnd tp td (nx tp td f) with
        | error e => rw [h2] at h; cases h
        | ok x =>
          rw [h2] at h; cases h
          exact ⟨by simp, fun q => by simp at q, fun _ => rfl, fun q => by simp at q, opnd_ok h2, OOk0, fun q => by simp at q, fun _ => rfl, fun q => by simp at q, fun q => by simp at q, fun _ _ => rfl, fun t ht => by simp [iT] at ht⟩
      · split at h
        · cases h2 : tgt tp td (nx tp td f) with
          | error e => rw [h2] at h; cases h
          | ok x =>
            rw [h2] at h; cases h
            exact ⟨by simp, fun q => by simp at q, fun _ => rfl, fun q => by simp at q, OOk0, OOk0, fun q => by simp at q, fun _ => rfl, fun _ => ⟨_, rfl⟩, fun q => by simp at q, fun q => by simp at q, fun t ht => by simp [iT] at ht; subst ht; exact tgt_ok h2⟩
        · split at h
          · cases h2 : opnd tp td (nx tp td f) with
            | error e => rw [h2] at h; cases h
            | ok x =>
              rw [h2] at h; simp only at h
              cases h3 : sgx tp td x.2 60 with
              | error e => rw [h3] at h; cases h
              | ok g3 =>
                rw [h3] at h; simp only at h
                cases h4 : opnd tp td g3 with
                | error e => rw [h4] at h; cases h
                | ok y =>
                  rw [h4] at h; simp only at h
                  cases h5 : tgt tp td y.2 with
                  | error e => rw [h5] at h; cases h
                  | ok t =>
                    rw [h5] at h; simp only at h
                    cases h6 : tgt tp td t.2 with
                    | error e => rw [h6] at h; cases h
                    | ok u =>
                      rw [h6] at h; cases h
                      exact ⟨by simp, fun q => by simp at q, fun _ => rfl, fun q => by simp at q, opnd_ok h2, opnd_ok h4, fun q => by simp at q, fun _ => rfl, fun q => by simp at q, fun _ => ⟨_, _, rfl⟩, fun _ q => by simp at q, fun z hz => by
                        simp [iT] at hz
                        rcases hz with hz | hz
                        · subst hz; exact tgt_ok h5
                        · subst hz; exact tgt_ok h6⟩
          · cases h
            exact ⟨by simp, fun q => by simp at q, fun _ => rfl, fun q => by simp at q, OOk0, OOk0, fun q => by simp at q, fun _ => rfl, fun q => by simp at q, fun q => by simp at q, fun _ _ => rfl, fun t ht => by simp [iT] at ht⟩
theorem stmt_ok {tp : Nat → Nat} {td f g l : Nat} {it : Itm} (h : stmt tp td f l = .ok (it, g)) : IOk it ∧ l < 160 := by
  unfold stmt at h
  split at h
  · cases h
  · split at h
    · cases h
    · cases h9 : line9 tp td f with
      | error e => rw [h9] at h; cases h
      | ok x =>
        rw [h9] at h
        simp only [bind, Except.bind] at h
        split at h
        · cases h
        · cases h; exact ⟨line9_ok h9, by omega⟩
theorem body_ok {tp : Nat → Nat} {td : Nat} : ∀ n g l its g', body tp td n g l = .ok (its, g') → ∃ pre e, its = pre ++ [e] ∧ (∀ x ∈ pre, x.1 < 4) ∧ 4 ≤ e.1 ∧ (∀ x ∈ its, IOk x) ∧ l + its.length ≤ 160 := by
  intro n
  induction n with
  | zero => intro g l its g' h; cases h
  | succ n ih =>
    intro g l its g' h
    unfold body at h
    cases h1 : stmt tp td g l with
    | error e => rw [h1] at h; cases h
    | ok x =>
      rw [h1] at h
      have hx := stmt_ok h1
      change (if 4 ≤ x.1.1 then Except.ok ([x.1], x.2) else (body tp td n x.2 (l + 1)).bind (fun y => .ok (x.1 :: y.1, y.2))) = _ at h
      by_cases h4 : 4 ≤ x.1.1
      · rw [if_pos h4] at h; cases h
        exact ⟨[], x.1, rfl, fun y hy => by simp at hy, h4, fun y hy => by simp at hy; subst hy; exact hx.1, by simp; omega⟩
      · rw [if_neg h4] at h
        cases h2 : body tp td n x.2 (l + 1) with
        | error e => rw [h2] at h; cases h
        | ok y =>
          rw [h2] at h; cases h
          obtain ⟨pre, e, e1, e2, e3, e4, e5⟩ := ih _ _ _ _ h2
          refine ⟨x.1 :: pre, e, by simp [e1], fun z hz => ?_, e3, fun z hz => ?_, by simp; omega⟩
          · simp at hz; rcases hz with hz | hz
            · subst hz; omega
            · exact e2 z hz
          · simp at hz; rcases hz with hz | hz
            · subst hz; exact hx.1
            · exact e4 z hz
/-- where the nodes behind a block's begin -/
def nxtN (R : Rt) (b : Nat) : Nat := if b + 1 < R.2.length then fstN R.2 (b + 1) else R.1.length
def WfR (R : Rt) : Prop := R.1.length ≤ 160 ∧ R.2.length ≤ 40 ∧ (∀ b, b < R.2.length → fstN R.2 b < nxtN R b ∧ nxtN R b ≤ R.1.length) ∧ (0 < R.2.length → fstN R.2 0 = 0) ∧ (∀ k x, R.1[k]? = some x → x.1 < R.2.length ∧ fstN R.2 x.1 ≤ k ∧ k < nxtN R x.1 ∧ (4 ≤ x.2.1 ↔ k + 1 = nxtN R x.1) ∧ IOk x.2) ∧ (∀ b, b < R.2.length → ∀ k, fstN R.2 b ≤ k → k < nxtN R b → ∃ it, R.1[k]? = some (b, it))
theorem WfR_nil : WfR ([], []) := by
  refine ⟨by simp, by simp, fun b h => by simp at h, fun h => by simp at h, fun k x h => by simp at h, fun b h => by simp at h⟩
theorem WfR_add {R : Rt} {f : Nat} {pre : List Itm} {e : Itm} (h : WfR R) (hb : R.2.length < 40) (h1 : ∀ x ∈ pre, x.1 < 4) (h2 : 4 ≤ e.1) (h3 : ∀ x ∈ pre ++ [e], IOk x) (h4 : R.1.length + (pre ++ [e]).length ≤ 160) : WfR (addB R (f, pre ++ [e])) := by
  obtain ⟨fs, hs⟩ := R
  obtain ⟨a1, a2, a3, a4, a5, a6⟩ := h
  simp only at *
  have hl : (hs ++ [(f, fs.length)]).length = hs.length + 1 := by simp
  have hlf : (fs ++ (pre ++ [e]).map (fun it => (hs.length, it))).length = fs.length + (pre.length + 1) := by simp
  have ef : ∀ b, b < hs.length → fstN (hs ++ [(f, fs.length)]) b = fstN hs b := fun b hb => by simp [fstN, List.getD_eq_getElem?_getD, List.getElem?_append_left hb]
  have ef2 : fstN (hs ++ [(f, fs.length)]) hs.length = fs.length := by simp [fstN, List.getD_eq_getElem?_getD]
  have en : ∀ b, b < hs.length → nxtN (addB (fs, hs) (f, pre ++ [e])) b = nxtN (fs, hs) b := fun b hb => by
    unfold nxtN addB
    simp only [hl]
    by_cases c : b + 1 < hs.length
    · rw [if_pos (by omega), if_pos c]; exact ef _ c
    · rw [if_pos (by omega), if_neg c, show b + 1 = hs.length by omega]; exact ef2
  have en2 : nxtN (addB (fs, hs) (f, pre ++ [e])) hs.length = fs.length + (pre.length + 1) := by
    unfold nxtN addB
    simp only [hl, hlf]
    rw [if_neg (by omega)]
  have hlen : (pre ++ [e]).length = pre.length + 1 := by simp
  refine ⟨?_, ?_, fun b hb => ?_, fun _ => ?_, fun k x hx => ?_, fun b hb k k1 k2 => ?_⟩
  · show (fs ++ (pre ++ [e]).map (fun it => (hs.length, it))).length ≤ 160
    rw [hlf]; omega
  · show (hs ++ [(f, fs.length)]).length ≤ 40
    rw [hl]; omega
  · change b < (hs ++ [(f, fs.length)]).length at hb
    change fstN (hs ++ [(f, fs.length)]) b < _ ∧ _ ≤ (fs ++ (pre ++ [e]).map (fun it => (hs.length, it))).length
    rw [hl] at hb
    rw [hlf]
    by_cases c : b < hs.length
    · rw [ef b c, en b c]; have := a3 b c; omega
    · have c' : b = hs.length := by omega
      subst c'
      rw [ef2, en2]; omega
  · change fstN (hs ++ [(f, fs.length)]) 0 = 0
    by_cases c : 0 < hs.length
    · rw [ef 0 c]; exact a4 c
    · have c' : hs.length = 0 := by omega
      have e0 : fs = [] := by
        cases fs with
        | nil => rfl
        | cons x r => have := (a5 0 x rfl).1; omega
      have := ef2
      rw [c', e0] at this
      rw [e0]; exact this
  · change (fs ++ (pre ++ [e]).map (fun it => (hs.length, it)))[k]? = some x at hx
    change x.1 < (hs ++ [(f, fs.length)]).length ∧ fstN (hs ++ [(f, fs.length)]) x.1 ≤ k ∧ _
    by_cases c : k < fs.length
    · rw [List.getElem?_append_left c] at hx
      obtain ⟨u1, u2, u3, u4, u5⟩ := a5 k x hx
      rw [hl, ef _ u1, en _ u1]
      exact ⟨by omega, u2, u3, u4, u5⟩
    · rw [List.getElem?_append_right (by omega)] at hx
      rw [List.getElem?_map] at hx
      cases hx2 : (pre ++ [e])[k - fs.length]? with
      | none => rw [hx2] at hx; cases hx
      | some it =>
        rw [hx2] at hx
        have hx' : (hs.length, it) = x := Option.some.inj hx
        subst hx'
        simp only
        have hk := (List.getElem?_eq_some_iff.1 hx2).1
        rw [hlen] at hk
        rw [hl, ef2, en2]
        refine ⟨by omega, by omega, by omega, ?_, h3 it (List.mem_of_getElem? hx2)⟩
        by_cases c2 : k - fs.length < pre.length
        · rw [List.getElem?_append_left c2] at hx2
          have := h1 it (List.mem_of_getElem? hx2)
          constructor
          · intro q; omega
          · intro q; omega
        · have : k - fs.length = pre.length := by omega
          rw [this] at hx2
          simp at hx2
          subst hx2
          constructor
          · intro q; omega
          · intro q; exact h2
  · change b < (hs ++ [(f, fs.length)]).length at hb
    change fstN (hs ++ [(f, fs.length)]) b ≤ k at k1
    change ∃ it, (fs ++ (pre ++ [e]).map (fun it => (hs.length, it)))[k]? = some (b, it)
    rw [hl] at hb
    by_cases c : b < hs.length
    · rw [ef b c] at k1; rw [en b c] at k2
      obtain ⟨it, hit⟩ := a6 b c k k1 k2
      exact ⟨it, by rw [List.getElem?_append_left (by have := a3 b c; omega)]; exact hit⟩
    · have c' : b = hs.length := by omega
      subst c'
      rw [ef2] at k1; rw [en2] at k2
      refine ⟨(pre ++ [e])[k - fs.length]'(by rw [hlen]; omega), ?_⟩
      rw [List.getElem?_append_right k1, List.getElem?_map, List.getElem?_eq_getElem (by rw [hlen]; omega)]
      rfl
theorem blks_wf {tp : Nat → Nat} {td : Nat} : ∀ n f (R : Rt) bs, WfR R → blks tp td n f R.2.length R.1.length = .ok bs → WfR (bs.foldl addB R) ∧ R.2.length < (bs.foldl addB R).2.length := by
  intro n
  induction n with
  | zero => intro f R bs h q; cases q
  | succ n ih =>
    intro f R bs h q
    unfold blks at q
    cases h1 : blk tp td f R.2.length R.1.length with
    | error e => rw [h1] at q; cases q
    | ok x =>
      rw [h1] at q
      change (if srt tp td x.2 = 0 then Except.ok [x.1] else (blks tp td n x.2 (R.2.length + 1) (R.1.length + x.1.2.length)).bind (fun bs => .ok (x.1 :: bs))) = _ at q
      have hx : WfR (addB R x.1) := by
        unfold blk at h1
        split at h1
        · cases h1
        · split at h1
          · cases h1
          · next h40 _ =>
            simp only [bind, Except.bind] at h1
            split at h1
            · cases h1
            · split at h1
              · cases h1
              · next y hy =>
                cases h1
                obtain ⟨pre, e, e1, e2, e3, e4, e5⟩ := body_ok _ _ _ y.1 y.2 hy
                simp only [e1] at e4 e5 ⊢
                exact WfR_add h (by omega) e2 e3 e4 e5
      have hl : (addB R x.1).2.length = R.2.length + 1 := by simp [addB]
      have hl2 : (addB R x.1).1.length = R.1.length + x.1.2.length := by simp [addB]
      by_cases c : srt tp td x.2 = 0
      · rw [if_pos c] at q; cases q
        exact ⟨hx, by show R.2.length < (addB R x.1).2.length; omega⟩
      · rw [if_neg c] at q
        cases h2 : blks tp td n x.2 (R.2.length + 1) (R.1.length + x.1.2.length) with
        | error e => rw [h2] at q; cases q
        | ok bs' =>
          rw [h2] at q; cases q
          have := ih x.2 (addB R x.1) bs' hx (by rw [hl, hl2]; exact h2)
          exact ⟨this.1, by have h9 := this.2; rw [hl] at h9; show R.2.length < (bs'.foldl addB (addB R x.1)).2.length; omega⟩
theorem rdR_wf {tp : Nat → Nat} {td : Nat} {R : Rt} (h : rdR tp td = .ok R) : WfR R ∧ 0 < R.2.length := by
  unfold rdR at h
  cases h1 : blks tp td 41 (skp tp td 0) 0 0 with
  | error e => rw [h1] at h; cases h
  | ok bs =>
    rw [h1] at h; cases h
    exact blks_wf 41 _ ([], []) bs WfR_nil h1
