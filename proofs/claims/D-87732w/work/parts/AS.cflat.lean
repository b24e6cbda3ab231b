/-! THE COMPONENT: all lines in one row -/
set_option maxRecDepth 100000
def FlC (κ : Nat → Option Nat) (σ : AH) : List Nat → List Itm → List (Nat × Nat) → Nat → Nat → Prop
  | [], [], [], lo, hi => lo ≤ hi
  | a :: as, it :: its, p :: ps, lo, hi => lo ≤ p.1 ∧ ItmC κ σ a it p.1 p.2 ∧ FlC κ σ as its ps p.2 hi
  | _, _, _, _, _ => False
section FL
variable {κ : Nat → Option Nat} {σ : AH}
theorem FlC.le : ∀ {as : List Nat} {its : List Itm} {ps : List (Nat × Nat)} {lo hi : Nat}, FlC κ σ as its ps lo hi → lo ≤ hi
  | [], [], [], _, _, h => h
  | a :: as, it :: its, p :: ps, lo, hi, h => by
    obtain ⟨h1, h2, h3⟩ := h
    have := FlC.le h3
    have := h2.1
    have := h2.2.1
    omega
theorem FlC.len : ∀ {as : List Nat} {its : List Itm} {ps : List (Nat × Nat)} {lo hi : Nat}, FlC κ σ as its ps lo hi → as.length = its.length ∧ ps.length = its.length
  | [], [], [], _, _, h => ⟨rfl, rfl⟩
  | a :: as, it :: its, p :: ps, lo, hi, h => by
    have := FlC.len h.2.2
    simp; omega
theorem FlC.lo {lo' : Nat} : ∀ {as : List Nat} {its : List Itm} {ps : List (Nat × Nat)} {lo hi : Nat}, lo' ≤ lo → FlC κ σ as its ps lo hi → FlC κ σ as its ps lo' hi
  | [], [], [], _, _, q, h => Nat.le_trans q h
  | a :: as, it :: its, p :: ps, lo, hi, q, h => ⟨Nat.le_trans q h.1, h.2.1, h.2.2⟩
theorem FlC.app {as' : List Nat} {its' : List Itm} {ps' : List (Nat × Nat)} {mid hi : Nat} (q : FlC κ σ as' its' ps' mid hi) : ∀ {as : List Nat} {its : List Itm} {ps : List (Nat × Nat)} {lo : Nat}, FlC κ σ as its ps lo mid → FlC κ σ (as ++ as') (its ++ its') (ps ++ ps') lo hi
  | [], [], [], lo, h => q.lo h
  | a :: as, it :: its, p :: ps, lo, h => ⟨h.1, h.2.1, FlC.app q h.2.2⟩
theorem ItsC.flat : ∀ {as : List Nat} {its : List Itm} {lo hi : Nat}, ItsC κ σ as its lo hi → ∃ ps, FlC κ σ as its ps lo hi ∧ ∀ p ∈ ps, lo ≤ p.1 ∧ p.2 ≤ hi
  | [], [], lo, hi, h => ⟨[], h, fun p hp => by simp at hp⟩
  | a :: as, it :: its, lo, hi, h => by
    obtain ⟨mid, h1, h2⟩ := h
    obtain ⟨ps, h3, h4⟩ := ItsC.flat h2
    have hm : lo ≤ mid := by have := h1.1; have := h1.2.1; omega
    have hle := ItsC.le h2
    refine ⟨(lo, mid) :: ps, ⟨Nat.le_refl _, h1, h3⟩, fun p hp => ?_⟩
    simp at hp
    rcases hp with rfl | hp
    · exact ⟨Nat.le_refl _, hle⟩
    · have := h4 p hp; omega
  | [], _ :: _, _, _, h => h.elim
  | _ :: _, [], _, _, h => h.elim
theorem BksC.flat : ∀ {ws : List (Nat × List Nat)} {bs : List (List Itm)} {lo hi : Nat}, BksC κ σ ws bs lo hi → ∃ ps, FlC κ σ (ws.flatMap (·.2)) bs.flatten ps lo hi ∧ (∀ p ∈ ps, lo ≤ p.1 ∧ p.2 ≤ hi) ∧ ∀ w ∈ ws, lo ≤ w.1 ∧ ∀ p ∈ ps, ¬ (p.1 ≤ w.1 ∧ w.1 < p.2)
  | [], [], lo, hi, h => ⟨[], h, fun p hp => by simp at hp, fun w hw => by simp at hw⟩
  | w :: ws, its :: bs, lo, hi, h => by
    obtain ⟨mid, ⟨h1, h2, h3⟩, h4⟩ := h
    obtain ⟨ps1, q1, q2⟩ := ItsC.flat h3
    obtain ⟨ps2, q3, q4, q5⟩ := BksC.flat h4
    have l1 := ItsC.le h3
    have l2 := BksC.le h4
    refine ⟨ps1 ++ ps2, ?_, fun p hp => ?_, fun x hx => ?_⟩
    · simp only [List.flatMap_cons, List.flatten_cons]
      exact FlC.app q3 (q1.lo (by omega))
    · simp at hp
      rcases hp with hp | hp
      · have := q2 p hp; omega
      · have := q4 p hp; omega
    · simp at hx
      rcases hx with rfl | hx
      · refine ⟨h1, fun p hp => ?_⟩
        simp at hp
        rcases hp with hp | hp
        · have := q2 p hp; omega
        · have := q4 p hp; omega
      · have := q5 x hx
        refine ⟨by omega, fun p hp => ?_⟩
        simp at hp
        rcases hp with hp | hp
        · have := q2 p hp; omega
        · exact this.2 p hp
  | [], _ :: _, _, _, h => h.elim
  | _ :: _, [], _, _, h => h.elim
theorem FlC.get : ∀ {as : List Nat} {its : List Itm} {ps : List (Nat × Nat)} {lo hi k a : Nat} {it : Itm} {p : Nat × Nat}, FlC κ σ as its ps lo hi → as[k]? = some a → its[k]? = some it → ps[k]? = some p → lo ≤ p.1 ∧ p.2 ≤ hi ∧ ItmC κ σ a it p.1 p.2
  | [], [], [], _, _, _, _, _, _, _, h1, _, _ => by simp at h1
  | a :: as, it :: its, p :: ps, lo, hi, 0, _, _, _, h, h1, h2, h3 => by
    simp at h1 h2 h3
    subst h1; subst h2; subst h3
    exact ⟨h.1, FlC.le h.2.2, h.2.1⟩
  | a :: as, it :: its, p :: ps, lo, hi, k + 1, _, _, _, h, h1, h2, h3 => by
    simp at h1 h2 h3
    obtain ⟨e1, e2, e3⟩ := FlC.get h.2.2 h1 h2 h3
    have := h.1
    have := h.2.1.1
    have := h.2.1.2.1
    exact ⟨by omega, e2, e3⟩
theorem FlC.chain : ∀ {as : List Nat} {its : List Itm} {ps : List (Nat × Nat)} {lo hi i j : Nat} {p q : Nat × Nat}, FlC κ σ as its ps lo hi → i < j → ps[i]? = some p → ps[j]? = some q → p.2 ≤ q.1
  | [], [], [], _, _, _, _, _, _, _, _, h1, _ => by simp at h1
  | a :: as, it :: its, p :: ps, lo, hi, 0, j + 1, _, _, h, _, h1, h2 => by
    simp at h1 h2
    subst h1
    have hl := FlC.len h.2.2
    have hj := (List.getElem?_eq_some_iff.1 h2).1
    obtain ⟨e1, e2, e3⟩ := FlC.get h.2.2 (k := j) (a := as[j]'(by omega)) (it := its[j]'(by omega)) (List.getElem?_eq_getElem _) (List.getElem?_eq_getElem _) h2
    exact e1
  | a :: as, it :: its, p :: ps, lo, hi, i + 1, j + 1, _, _, h, hij, h1, h2 => by
    simp at h1 h2
    exact FlC.chain h.2.2 (by omega) h1 h2
end FL
theorem foldB_its : ∀ n (bks : List Blk), bks.length = n → (foldB bks).1.map (·.2) = (bks.map (·.2)).flatten := by
  intro n
  induction n with
  | zero =>
    intro bks hn
    have : bks = [] := List.length_eq_zero_iff.1 hn
    subst this
    rfl
  | succ n ih =>
    intro bks hn
    rcases List.eq_nil_or_concat bks with rfl | ⟨bs, x, rfl⟩
    · simp at hn
    · rw [List.concat_eq_append] at hn ⊢
      rw [foldB_snoc]
      simp only [addB, List.map_append, List.map_map]
      rw [ih bs (by simpa using hn)]
      simp [List.flatten_append]
      exact List.map_id' _
theorem foldB_len1 (bks : List Blk) : (foldB bks).1.length = ((bks.map (·.2)).flatten).length := by
  rw [← foldB_its _ bks rfl]; simp
theorem flat_get {wss : List (Nat × List Nat)} {bks : List Blk} (hl : wss.length = bks.length) (hh : ∀ (b : Nat) (w : Nat × List Nat) (x : Blk), wss[b]? = some w → bks[b]? = some x → w.2.length = x.2.length) {b j : Nat} {w : Nat × List Nat} (hb : wss[b]? = some w) (hj : j < w.2.length) : (wss.flatMap (·.2))[offB bks b + j]? = w.2[j]? := by
  have key : ∀ (wss : List (Nat × List Nat)) (bks : List Blk), wss.length = bks.length → (∀ (b : Nat) (w : Nat × List Nat) (x : Blk), wss[b]? = some w → bks[b]? = some x → w.2.length = x.2.length) → ((bks.map (·.2)).flatten).length = (wss.flatMap (·.2)).length := by
    intro wss
    induction wss with
    | nil => intro bks h _; have : bks = [] := List.length_eq_zero_iff.1 h.symm; subst this; rfl
    | cons w wss ih =>
      intro bks h hh
      cases bks with
      | nil => simp at h
      | cons x bks =>
        have h0 := hh 0 w x rfl rfl
        have := ih bks (by simpa using h) (fun b w' x' h1 h2 => hh (b + 1) w' x' h1 h2)
        simp only [List.map_cons, List.flatten_cons, List.flatMap_cons, List.length_append]
        omega
  have hbl := (List.getElem?_eq_some_iff.1 hb).1
  have hoff : offB bks b = ((wss.take b).flatMap (·.2)).length := by
    unfold offB
    rw [foldB_len1]
    refine key (wss.take b) (bks.take b) (by simp; omega) (fun i w' x' h1 h2 => ?_)
    rw [List.getElem?_take] at h1 h2
    split at h1
    · next q => rw [if_pos q] at h2; exact hh i w' x' h1 h2
    · cases h1
  have hsp : wss = wss.take b ++ w :: wss.drop (b + 1) := by
    have e : wss[b] = w := by have := (List.getElem?_eq_some_iff.1 hb).2; exact this
    rw [← e, ← List.drop_eq_getElem_cons hbl, List.take_append_drop]
  rw [hoff]
  generalize hT0 : (wss.take b) = pre at hsp
  rw [hsp]
  simp only [List.flatMap_append, List.flatMap_cons]
  rw [List.getElem?_append_right (by omega), show (pre.flatMap (·.2)).length + j - (pre.flatMap (·.2)).length = j by omega, List.getElem?_append_left hj]
/-- the nodes, as close finds them -/
theorem CS.start {κ : Nat → Option Nat} {σ : AH} {rd ln : Nat} {ws hds : List Nat} {bks : List Blk} {wss : List (Nat × List Nat)} {h9 : Nat} (hk : Hok κ σ) (C : CX κ σ rd ln (wss.map (·.1)) hds) (B : BksC κ σ wss (bks.map (·.2)) (rd + 9) h9) (hh9 : h9 ≤ hN σ) : ∃ A lo hi NX BF : Nat → Nat, CS κ σ (rd + 1) (foldB bks) wss (foldB bks).1.length A lo hi NX BF [] ∧ ∀ k x, (foldB bks).1[k]? = some x → ItmF σ (A k) x.2 (lo k) (hi k) := by
  obtain ⟨ps, f1, f2, f3⟩ := B.flat
  have hl := f1.len
  have eb := B.len
  simp only [List.length_map] at eb
  have hlen := foldB_len1 bks
  have hits := foldB_its _ bks rfl
  obtain ⟨a1, a2, a3, a4, a5, a6, a7, a8, a9, b1, -⟩ := C
  have get : ∀ k x, (foldB bks).1[k]? = some x → ItmC κ σ ((wss.flatMap (·.2)).getD k 0) x.2 (ps.getD k (0, 0)).1 (ps.getD k (0, 0)).2 ∧ rd + 9 ≤ (ps.getD k (0, 0)).1 ∧ (ps.getD k (0, 0)).2 ≤ h9 := by
    intro k x hx
    have hkl := (List.getElem?_eq_some_iff.1 hx).1
    have e1 : (wss.flatMap (·.2))[k]? = some ((wss.flatMap (·.2)).getD k 0) := by rw [List.getD_eq_getElem?_getD, List.getElem?_eq_getElem (by omega)]; rfl
    have e3 : ps[k]? = some (ps.getD k (0, 0)) := by rw [List.getD_eq_getElem?_getD, List.getElem?_eq_getElem (by omega)]; rfl
    have e2 : ((bks.map (·.2)).flatten)[k]? = some x.2 := by rw [← hits, List.getElem?_map, hx]; rfl
    obtain ⟨q1, q2, q3⟩ := f1.get e1 e2 e3
    exact ⟨q3, q1, q2⟩
  refine ⟨fun k => (wss.flatMap (·.2)).getD k 0, fun k => (ps.getD k (0, 0)).1, fun k => (ps.getD k (0, 0)).2, fun k => (hR σ ((wss.flatMap (·.2)).getD k 0) 2).getD 0, fun k => (hR σ ((wss.flatMap (·.2)).getD k 0) 3).getD 0, ⟨hk, a3, ?_, b1, by rw [foldB_len2]; exact eb, ?_, ?_, ?_, ?_⟩, fun k x hx => (get k x hx).1.2.2.1⟩
  · intro i hi'
    have : i = 0 ∨ i = 1 ∨ i = 2 ∨ i = 3 := by omega
    rcases this with rfl | rfl | rfl | rfl
    · exact a4
    · exact a5
    · exact a6
    · exact a7
  · intro b w hb
    have hbl := (List.getElem?_eq_some_iff.1 hb).1
    have hx : bks[b]? = some (bks[b]'(by omega)) := List.getElem?_eq_getElem _
    obtain ⟨q1, q2, mm, q3, q4⟩ := B.get (b := b) hb (by rw [List.getElem?_map, hx]; rfl)
    obtain ⟨e1, e2, e3⟩ := foldB_fst (hd := (bks[b]'(by omega)).1) (its := (bks[b]'(by omega)).2) hx
    have hln : w.2.length = (bks[b]'(by omega)).2.length := q4.len
    refine ⟨q2, by omega, by rw [e1, e3]; omega, fun j hj => ?_, fun k hk' => ?_⟩
    · dsimp only
      rw [e1, List.getD_eq_getElem?_getD]
      rw [flat_get (bks := bks) eb (fun b' w' x' h1 h2 => ?_) hb hj]
      · rw [List.getElem?_eq_getElem hj]; rfl
      · obtain ⟨-, -, mm', -, q4'⟩ := B.get (b := b') h1 (by rw [List.getElem?_map, h2]; rfl)
        exact q4'.len
    · have hm := f3 w (List.mem_of_getElem? hb)
      have e3 : ps[k]? = some (ps.getD k (0, 0)) := by rw [List.getD_eq_getElem?_getD, List.getElem?_eq_getElem (by omega)]; rfl
      exact hm.2 _ (List.mem_of_getElem? e3)
  · intro i j hij hj
    have e1 : ps[i]? = some (ps.getD i (0, 0)) := by rw [List.getD_eq_getElem?_getD, List.getElem?_eq_getElem (by omega)]; rfl
    have e2 : ps[j]? = some (ps.getD j (0, 0)) := by rw [List.getD_eq_getElem?_getD, List.getElem?_eq_getElem (by omega)]; rfl
    exact f1.chain hij e1 e2
  · intro k hk'
    obtain ⟨⟨q1, q2, q3, q4, q5⟩, q6, q7⟩ := get k _ (List.getElem?_eq_getElem hk')
    obtain ⟨x, y, e1, e2, e3, e4, e5, e6, e7, e8, e9⟩ := q4
    dsimp only
    rw [e1, e2]
    simp only [Option.getD_some]
    exact ⟨by omega, q1, q2, e6, e7, e8, e9, e5, by omega⟩
  · intro k hk'
    obtain ⟨⟨q1, q2, q3, q4, q5⟩, q6, q7⟩ := get k _ (List.getElem?_eq_getElem hk')
    obtain ⟨x, y, e1, e2, e3, e4, e5, e6, e7, e8, e9⟩ := q4
    have := q3.1
    have ht := q3.2.1
    dsimp only
    refine ⟨by rw [ht]; omega, ?_, ?_, ?_, ?_⟩
    · rw [e1]; rfl
    · rw [e2]; rfl
    · rw [e1]; exact e3
    · rw [e2]; exact e4
