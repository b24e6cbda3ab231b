/-! PLAIN: the edges that joining makes are where nodes lead -/
set_option maxRecDepth 100000
theorem led_app (n0 : Nat) (fst wy : Nat → Nat) : ∀ (xs ys : List FIt) k ow, led n0 fst wy k (xs ++ ys) ow = ((led n0 fst wy k xs ow).1 ++ (led n0 fst wy (k + xs.length) ys (led n0 fst wy k xs ow).2).1, (led n0 fst wy (k + xs.length) ys (led n0 fst wy k xs ow).2).2)
  | [], ys, k, ow => by simp [led]
  | x :: xs, ys, k, ow => by
    simp only [List.cons_append, led_cons]
    rw [led_app n0 fst wy xs ys (k + 1)]
    simp only [List.length_cons, List.cons_append]
    rw [show k + 1 + xs.length = k + (xs.length + 1) by omega]
/-- nodes on the way ahead of line k -/
def owAt (R : Rt) (k : Nat) : List Nat := (led R.1.length (fstN R.2) (wyE R) 0 (R.1.take k) []).2
def lxK (R : Rt) (k : Nat) : (Option Nat × Option Nat) × List Nat := ldx R.1.length (fstN R.2) (wyE R) k (R.1.getD k fit0).2 (owAt R k)
theorem owAt_0 (R : Rt) : owAt R 0 = [] := by unfold owAt; simp [led]
theorem owAt_end (R : Rt) : owAt R R.1.length = (ledR R).2 := by unfold owAt ledR; rw [List.take_length]
theorem owAt_succ {R : Rt} {k : Nat} (h : k < R.1.length) : owAt R (k + 1) = (lxK R k).2 := by
  have e : R.1.take (k + 1) = R.1.take k ++ [R.1.getD k fit0] := by
    rw [List.take_succ, List.getElem?_eq_getElem h]
    simp [List.getD_eq_getElem?_getD, List.getElem?_eq_getElem h]
  unfold owAt lxK
  rw [e, led_app]
  simp only [led_cons, led, List.length_take]
  rw [show 0 + min k R.1.length = k by omega]
  rfl
theorem led_at {R : Rt} {k : Nat} (h : k < R.1.length) : (ledR R).1[k]? = some (lxK R k).1 := by
  have e : R.1 = R.1.take k ++ R.1.getD k fit0 :: R.1.drop (k + 1) := by
    have q : R.1.getD k fit0 = R.1[k] := by rw [List.getD_eq_getElem?_getD, List.getElem?_eq_getElem h]; rfl
    rw [q, ← List.drop_eq_getElem_cons h, List.take_append_drop]
  have hl : ∀ n0 fst wy ow, (led n0 fst wy 0 (R.1.take k) ow).1.length = k := fun n0 fst wy ow => by rw [led_len]; simp; omega
  have e2 : ledR R = led R.1.length (fstN R.2) (wyE R) 0 (R.1.take k ++ R.1.getD k fit0 :: R.1.drop (k + 1)) [] := by
    unfold ledR
    rw [← e]
  rw [e2, led_app]
  simp only
  rw [List.getElem?_append_right (by rw [hl]; exact Nat.le_refl _), hl, Nat.sub_self]
  simp only [led_cons, List.getElem?_cons_zero, List.length_take]
  rw [show 0 + min k R.1.length = k by omega]
  rfl
theorem lx_lt {R : Rt} {k : Nat} (h : (R.1.getD k fit0).2.1 < 4) : lxK R k = ((some (k + 1), none), owAt R k) := by
  unfold lxK ldx; rw [if_pos h]
theorem owAt_blk {R : Rt} (w : WfR R) {b : Nat} (hb : b < R.2.length) : ∀ j, fstN R.2 b + j ≤ lastN R b → owAt R (fstN R.2 b + j) = owAt R (fstN R.2 b)
  | 0, _ => rfl
  | j + 1, h => by
    have hw := w.2.2.1 b hb
    unfold lastN at h
    have ih := owAt_blk w hb j (by unfold lastN; omega)
    rw [show fstN R.2 b + (j + 1) = fstN R.2 b + j + 1 by omega, owAt_succ (by omega)]
    have k4 := w.k4 hb (k := fstN R.2 b + j) (by omega) (by omega)
    rw [lx_lt (by omega)]
    exact ih
def pos9 (R : Rt) (b : Nat) : Nat := if b < R.2.length then fstN R.2 b else R.1.length
theorem pos9_succ {R : Rt} (b : Nat) : pos9 R (b + 1) = nxtN R b := rfl
theorem owAt_last {R : Rt} (w : WfR R) {b : Nat} (hb : b < R.2.length) : owAt R (lastN R b) = owAt R (pos9 R b) ∧ owAt R (pos9 R (b + 1)) = (lxK R (lastN R b)).2 ∧ (R.1.getD (lastN R b) fit0).2 = endI R b := by
  have hw := w.2.2.1 b hb
  have hl := (end_get w hb).2.1
  refine ⟨?_, ?_, rfl⟩
  · have := owAt_blk w hb (lastN R b - fstN R.2 b) (by unfold lastN; omega)
    rw [show fstN R.2 b + (lastN R b - fstN R.2 b) = lastN R b by unfold lastN; omega] at this
    rw [this]; unfold pos9; rw [if_pos hb]
  · rw [pos9_succ, ← owAt_succ hl]
    unfold lastN
    rw [show nxtN R b - 1 + 1 = nxtN R b by omega]
theorem lastN_inj {R : Rt} (w : WfR R) {b b' : Nat} (hb : b < R.2.length) (hb' : b' < R.2.length) (h : lastN R b = lastN R b') : b = b' := by
  obtain ⟨e1, -⟩ := end_get w hb
  obtain ⟨e2, -⟩ := end_get w hb'
  rw [h, e2] at e1
  have := Option.some.inj e1
  exact (Prod.mk.inj this).1.symm
def tl9 (x : Option Nat × Option Nat) : List Nat := x.1.toList ++ x.2.toList
/-- what holds when the ends of the blocks ahead of b are joined -/
def JInv (R : Rt) (b : Nat) (ow : List Nat) (E : Edg) : Prop := (ow = owAt R (pos9 R b)) ∧ (EdOk E (R.1.length + ow.length)) ∧ (∀ k, k < R.1.length → (R.1.getD k fit0).2.1 < 4 → outE E k = [k + 1]) ∧ (∀ b', b' < R.2.length → outE E (lastN R b') = if b' < b then tl9 (lxK R (lastN R b')).1 else []) ∧ (∀ p t, ow[p]? = some t → outE E (R.1.length + p) = [fstN R.2 t]) ∧ (ow.length ≤ 2 * b) ∧ (∀ t, t < R.2.length → (inE E (fstN R.2 t)).length ≤ 2 * (2 * b)) ∧ (E.length ≤ (e3 R R.1.length).length + 2 * (2 * b))
theorem JInv.o {R : Rt} {b : Nat} {ow : List Nat} {E : Edg} (h : JInv R b ow E) : ow = owAt R (pos9 R b) := h.1
theorem JInv.ed {R : Rt} {b : Nat} {ow : List Nat} {E : Edg} (h : JInv R b ow E) : EdOk E (R.1.length + ow.length) := h.2.1
theorem JInv.ln {R : Rt} {b : Nat} {ow : List Nat} {E : Edg} (h : JInv R b ow E) : ∀ k, k < R.1.length → (R.1.getD k fit0).2.1 < 4 → outE E k = [k + 1] := h.2.2.1
theorem JInv.en {R : Rt} {b : Nat} {ow : List Nat} {E : Edg} (h : JInv R b ow E) : ∀ b', b' < R.2.length → outE E (lastN R b') = if b' < b then tl9 (lxK R (lastN R b')).1 else [] := h.2.2.2.1
theorem JInv.on {R : Rt} {b : Nat} {ow : List Nat} {E : Edg} (h : JInv R b ow E) : ∀ p t, ow[p]? = some t → outE E (R.1.length + p) = [fstN R.2 t] := h.2.2.2.2.1
theorem JInv.q1 {R : Rt} {b : Nat} {ow : List Nat} {E : Edg} (h : JInv R b ow E) : ow.length ≤ 2 * b := h.2.2.2.2.2.1
theorem JInv.q2 {R : Rt} {b : Nat} {ow : List Nat} {E : Edg} (h : JInv R b ow E) : ∀ t, t < R.2.length → (inE E (fstN R.2 t)).length ≤ 2 * (2 * b) := h.2.2.2.2.2.2.1
theorem JInv.q3 {R : Rt} {b : Nat} {ow : List Nat} {E : Edg} (h : JInv R b ow E) : E.length ≤ (e3 R R.1.length).length + 2 * (2 * b) := h.2.2.2.2.2.2.2
theorem e3_out {R : Rt} : ∀ n k, k < n → outE (e3 R n) k = if (R.1.getD k fit0).2.1 < 4 then [k + 1] else []
  | 0, k, h => by omega
  | n + 1, k, h => by
    unfold e3
    by_cases c : (R.1.getD n fit0).2.1 < 4
    · rw [if_pos c, outE_snoc]
      by_cases e : n = k
      · subst e
        rw [if_pos rfl, if_pos c, outE_nil (fun e he => by have := e3_lt R _ e he; omega)]; rfl
      · rw [if_neg e]; exact e3_out n k (by omega)
    · rw [if_neg c, List.append_nil]
      by_cases e : n = k
      · subst e
        rw [if_neg c, outE_nil (fun e he => by have := e3_lt R _ e he; omega)]
      · exact e3_out n k (by omega)
theorem JInv.start {R : Rt} (w : WfR R) (h0 : 0 < R.2.length) : JInv R 0 [] (e3 R R.1.length) := by
  have z_o : ([] : List Nat) = owAt R (pos9 R 0) := by unfold pos9; rw [if_pos h0, w.2.2.2.1 h0, owAt_0]
  have z_ed : EdOk (e3 R R.1.length) (R.1.length + ([] : List Nat).length) := fun e he => by
    obtain ⟨h1, h2, h3⟩ := e3_lt R _ e he
    have hx : R.1[e.1]? = some (R.1.getD e.1 fit0) := by rw [List.getD_eq_getElem?_getD, List.getElem?_eq_getElem h1]; rfl
    obtain ⟨x1, x2, x3, x4, -⟩ := w.2.2.2.2.1 _ _ hx
    have := w.2.2.1 _ x1
    simp only [List.length_nil]
    have : e.1 + 1 ≠ nxtN R (R.1.getD e.1 fit0).1 := fun q => by have := x4.2 q; omega
    omega
  have z_ln : ∀ k, k < R.1.length → (R.1.getD k fit0).2.1 < 4 → outE (e3 R R.1.length) k = [k + 1] := fun k hk h4 => by rw [e3_out _ k hk, if_pos h4]
  have z_en : ∀ b', b' < R.2.length → outE (e3 R R.1.length) (lastN R b') = if b' < 0 then tl9 (lxK R (lastN R b')).1 else [] := fun b' hb' => by
    have hl := end_get w hb'
    rw [if_neg (by omega), e3_out _ _ hl.2.1, if_neg]
    have : (R.1.getD (lastN R b') fit0).2 = endI R b' := rfl
    rw [this]; have := hl.2.2.1; omega
  have z_on : ∀ (p t : Nat), ([] : List Nat)[p]? = some t → outE (e3 R R.1.length) (R.1.length + p) = [fstN R.2 t] := fun p t h => by simp at h
  have z_q1 : ([] : List Nat).length ≤ 2 * 0 := by simp
  have z_q2 : ∀ t, t < R.2.length → (inE (e3 R R.1.length) (fstN R.2 t)).length ≤ 2 * (2 * 0) := fun t ht => by
    rw [inE_nil]
    · simp
    · intro e he q
      obtain ⟨h1, h2, h3⟩ := e3_lt R _ e he
      have hx : R.1[e.1]? = some (R.1.getD e.1 fit0) := by rw [List.getD_eq_getElem?_getD, List.getElem?_eq_getElem h1]; rfl
      obtain ⟨x1, x2, x3, x4, -⟩ := w.2.2.2.2.1 _ _ hx
      have hne : e.1 + 1 ≠ nxtN R (R.1.getD e.1 fit0).1 := fun q => by have := x4.2 q; omega
      have ht2 := w.2.2.1 t ht
      generalize (R.1.getD e.1 fit0).1 = bb at *
      by_cases c1 : bb < t
      · have := w.mono t bb c1 ht; omega
      · by_cases c2 : t < bb
        · have := w.mono bb t c2 x1; omega
        · have : bb = t := by omega
          subst this; omega
  have z_q3 : (e3 R R.1.length).length ≤ (e3 R R.1.length).length + 2 * (2 * 0) := by omega
  exact ⟨z_o, z_ed, z_ln, z_en, z_on, z_q1, z_q2, z_q3⟩
/-- what one way more does to the edges -/
theorem jn1_out {R : Rt} {k nw t : Nat} {ow : List Nat} {E : Edg} (hE : EdOk E (R.1.length + ow.length)) (hk : k < R.1.length) (ht : fstN R.2 t < R.1.length) (x : Nat) :
    outE (jn1 R k nw t ow E).2 x = if x = k then outE E k ++ [if nw < 2 ∨ wyE R t < 2 then fstN R.2 t else R.1.length + ow.length] else if (nw < 2 ∨ wyE R t < 2) ∨ x ≠ R.1.length + ow.length then outE E x else [fstN R.2 t] := by
  unfold jn1
  by_cases c : nw < 2 ∨ wyE R t < 2
  · rw [if_pos c, if_pos c]
    simp only
    rw [outE_snoc]
    by_cases e : x = k
    · subst e; rw [if_pos rfl, if_pos rfl]
    · rw [if_neg (fun q => e q.symm), if_neg e, if_pos (Or.inl c)]
  · rw [if_neg c, if_neg c]
    simp only
    rw [show E ++ [(k, R.1.length + ow.length), (R.1.length + ow.length, fstN R.2 t)] = (E ++ [(k, R.1.length + ow.length)]) ++ [(R.1.length + ow.length, fstN R.2 t)] by simp, outE_snoc, outE_snoc]
    by_cases e : x = k
    · subst e; rw [if_neg (by omega), if_pos rfl, if_pos rfl]
    · by_cases e2 : x = R.1.length + ow.length
      · subst e2
        rw [if_pos rfl, if_neg (by omega), if_neg e, if_neg (by rintro (q | q); exact c q; exact q rfl), outE_nil (fun e he => by have := hE e he; omega)]
        rfl
      · rw [if_neg (fun q => e2 q.symm), if_neg (fun q => e q.symm), if_neg e, if_pos (Or.inr e2)]
theorem jn1_ed {R : Rt} {k nw t : Nat} {ow : List Nat} {E : Edg} (hE : EdOk E (R.1.length + ow.length)) (hk : k < R.1.length) (ht : fstN R.2 t < R.1.length) : EdOk (jn1 R k nw t ow E).2 (R.1.length + (jn1 R k nw t ow E).1.length) ∧ (∀ x, x < R.1.length → (inE (jn1 R k nw t ow E).2 x).length ≤ (inE E x).length + 1) ∧ (jn1 R k nw t ow E).2.length ≤ E.length + 2 ∧ (jn1 R k nw t ow E).1.length ≤ ow.length + 1 := by
  unfold jn1
  split
  · refine ⟨fun e he => ?_, fun x hx => ?_, by simp, by simp⟩
    · simp at he
      rcases he with he | he
      · exact hE e he
      · subst he; simp; omega
    · simp only
      rw [inE_snoc]
      split
      · simp
      · omega
  · refine ⟨fun e he => ?_, fun x hx => ?_, by simp, by simp⟩
    · simp at he ⊢
      rcases he with he | he | he
      · have := hE e he; omega
      · subst he; simp; omega
      · subst he; simp; omega
    · simp only
      rw [show E ++ [(k, R.1.length + ow.length), (R.1.length + ow.length, fstN R.2 t)] = (E ++ [(k, R.1.length + ow.length)]) ++ [(R.1.length + ow.length, fstN R.2 t)] by simp, inE_snoc, inE_snoc, if_neg (show ¬ R.1.length + ow.length = x by omega)]
      split
      · simp
      · omega
/-- an end's ways, all of them -/
def jnE (R : Rt) (b : Nat) (ow : List Nat) (E : Edg) : List Nat × Edg := match iT (endI R b) with
  | [t] => jn1 R (lastN R b) 1 t.2 ow E
  | [t, u] => jn1 R (lastN R b) 2 u.2 (jn1 R (lastN R b) 2 t.2 ow E).1 (jn1 R (lastN R b) 2 t.2 ow E).2
  | _ => (ow, E)
theorem JInv.step {R : Rt} {b : Nat} {ow : List Nat} {E : Edg} (h : JInv R b ow E) (w : WfR R) (hT : TgOk R) (hb : b < R.2.length) : JInv R (b + 1) (jnE R b ow E).1 (jnE R b ow E).2 := by
  obtain ⟨e1, e2, e3', e4⟩ := end_get w hb
  obtain ⟨l1, l2, l3⟩ := owAt_last w hb
  have ho := h.o
  have htg : ∀ t ∈ iT (endI R b), t.2 < R.2.length ∧ fstN R.2 t.2 < R.1.length := fun t ht => by
    have q := hT (b, endI R b) (List.mem_of_getElem? e1) t ht
    have := w.2.2.1 _ q
    exact ⟨q, by omega⟩
  have ne4 : ∀ k, k < R.1.length → (R.1.getD k fit0).2.1 < 4 → k ≠ lastN R b := fun k hk h4 q => by
    subst q; rw [l3] at h4; omega
  have lx : lxK R (lastN R b) = ldx R.1.length (fstN R.2) (wyE R) (lastN R b) (endI R b) ow := by
    unfold lxK; rw [l3, l1, ← ho]
  have hen := h.en b hb
  rw [if_neg (by omega)] at hen
  have hc : (endI R b).1 = 4 ∨ (endI R b).1 = 5 ∨ (endI R b).1 = 6 := by have := e4.1; omega
  have n4 : ¬ (endI R b).1 < 4 := by omega
  rcases hc with c | c | c
  · obtain ⟨t, et⟩ := e4.2.2.2.2.2.2.2.2.1 c
    have tt := htg t (by rw [et]; simp)
    have ej : jnE R b ow E = jn1 R (lastN R b) 1 t.2 ow E := by unfold jnE; rw [et]
    have jo : (jn1 R (lastN R b) 1 t.2 ow E).1 = ow := by unfold jn1; rw [if_pos (Or.inl (by omega))]
    have lx' : lxK R (lastN R b) = ((some (fstN R.2 t.2), none), ow) := by rw [lx]; unfold ldx; rw [if_neg n4, et]
    obtain ⟨d1, d2, d3, d4⟩ := jn1_ed (nw := 1) (t := t.2) h.ed e2 tt.2
    have out := jn1_out (nw := 1) (t := t.2) h.ed e2 tt.2
    rw [ej]
    refine ⟨?_, d1, fun k hk h4 => ?_, fun b' hb' => ?_, fun p u hp => ?_, ?_, fun u hu => ?_, ?_⟩
    · rw [jo, l2, lx']
    · rw [out, if_neg (ne4 k hk h4), if_pos (Or.inl (Or.inl (by omega)))]; exact h.ln k hk h4
    · rw [out]
      by_cases z : b' = b
      · subst z
        rw [if_pos rfl, hen, if_pos (show 1 < 2 ∨ wyE R t.2 < 2 from Or.inl (by omega)), if_pos (show b' < b' + 1 by omega), lx']; rfl
      · rw [if_neg (fun q => z (lastN_inj w hb' hb q)), if_pos (Or.inl (Or.inl (by omega))), h.en b' hb']
        by_cases z2 : b' < b
        · rw [if_pos z2, if_pos (by omega)]
        · rw [if_neg z2, if_neg (by omega)]
    · rw [jo] at hp
      rw [out, if_neg (by omega), if_pos (Or.inl (Or.inl (by omega)))]
      exact h.on p u hp
    · rw [jo]; have := h.q1; omega
    · have hu2 := w.2.2.1 u hu
      have := d2 (fstN R.2 u) (by omega); have := h.q2 u hu; omega
    · have := h.q3; omega
  · obtain ⟨t, u, et⟩ := e4.2.2.2.2.2.2.2.2.2.1 c
    have tt := htg t (by rw [et]; simp)
    have tu := htg u (by rw [et]; simp)
    have ej : jnE R b ow E = jn1 R (lastN R b) 2 u.2 (jn1 R (lastN R b) 2 t.2 ow E).1 (jn1 R (lastN R b) 2 t.2 ow E).2 := by unfold jnE; rw [et]
    have thrE : ∀ x (ow : List Nat) (E : Edg), (jn1 R (lastN R b) 2 x ow E).1 = (thr R.1.length (fstN R.2) (wyE R) x ow).2 ∧ (if 2 < 2 ∨ wyE R x < 2 then fstN R.2 x else R.1.length + ow.length) = (thr R.1.length (fstN R.2) (wyE R) x ow).1 := fun x ow E => by
      unfold jn1 thr
      by_cases z : wyE R x < 2
      · simp [z]
      · simp [z]
    have lx' : lxK R (lastN R b) = ((some (thr R.1.length (fstN R.2) (wyE R) t.2 ow).1, some (thr R.1.length (fstN R.2) (wyE R) u.2 (thr R.1.length (fstN R.2) (wyE R) t.2 ow).2).1), (thr R.1.length (fstN R.2) (wyE R) u.2 (thr R.1.length (fstN R.2) (wyE R) t.2 ow).2).2) := by rw [lx]; unfold ldx; rw [if_neg n4, et]
    obtain ⟨a1, a2⟩ := thrE t.2 ow E
    obtain ⟨d1, d2, d3, d4⟩ := jn1_ed (nw := 2) (t := t.2) h.ed e2 tt.2
    have out1 := jn1_out (nw := 2) (t := t.2) h.ed e2 tt.2
    generalize hj1 : jn1 R (lastN R b) 2 t.2 ow E = J1 at *
    obtain ⟨b1, b2⟩ := thrE u.2 J1.1 J1.2
    obtain ⟨f1, f2, f3, f4⟩ := jn1_ed (nw := 2) (t := u.2) d1 e2 tu.2
    have out2 := jn1_out (nw := 2) (t := u.2) d1 e2 tu.2
    rw [ej]
    have ow1 : ∃ r, J1.1 = ow ++ r := by
      rw [a1]; unfold thr; split
      · exact ⟨[], by simp⟩
      · exact ⟨[t.2], rfl⟩
    have on1 : ∀ p z, J1.1[p]? = some z → outE J1.2 (R.1.length + p) = [fstN R.2 z] := fun p z hp => by
      rw [out1, if_neg (by omega)]
      by_cases zz : (2 < 2 ∨ wyE R t.2 < 2) ∨ R.1.length + p ≠ R.1.length + ow.length
      · rw [if_pos zz]
        refine h.on p z ?_
        rw [a1] at hp
        unfold thr at hp
        split at hp
        · exact hp
        · next q =>
          have : p ≠ ow.length := by omega
          simp only at hp
          by_cases pl : p < ow.length
          · rw [List.getElem?_append_left pl] at hp; exact hp
          · rw [List.getElem?_eq_none_iff.2 (by simp; omega)] at hp; cases hp
      · rw [if_neg zz]
        have hp9 : p = ow.length := by omega
        have hwy : ¬ wyE R t.2 < 2 := by omega
        rw [a1] at hp
        unfold thr at hp
        rw [if_neg hwy] at hp
        simp only at hp
        rw [hp9] at hp
        simp at hp
        rw [hp]
    refine ⟨?_, f1, fun k hk h4 => ?_, fun b' hb' => ?_, fun p z hp => ?_, ?_, fun z hz => ?_, ?_⟩
    · rw [b1, l2, lx', a1]
    · rw [out2, if_neg (ne4 k hk h4)]
      rw [if_pos (Or.inr (by omega)), out1, if_neg (ne4 k hk h4), if_pos (Or.inr (by omega))]; exact h.ln k hk h4
    · have hl' := (end_get w hb').2.1
      rw [out2]
      by_cases z : b' = b
      · subst z
        rw [if_pos rfl, out1, if_pos rfl, hen, a2, b2, if_pos (show b' < b' + 1 by omega), lx', a1]; rfl
      · have z' : ¬ lastN R b' = lastN R b := fun q => z (lastN_inj w hb' hb q)
        rw [if_neg z', if_pos (Or.inr (by omega)), out1, if_neg z', if_pos (Or.inr (by omega)), h.en b' hb']
        by_cases z2 : b' < b
        · rw [if_pos z2, if_pos (by omega)]
        · rw [if_neg z2, if_neg (by omega)]
    · rw [out2, if_neg (by omega)]
      by_cases zz : (2 < 2 ∨ wyE R u.2 < 2) ∨ R.1.length + p ≠ R.1.length + J1.1.length
      · rw [if_pos zz]
        refine on1 p z ?_
        rw [b1] at hp
        unfold thr at hp
        split at hp
        · exact hp
        · next q =>
          have : p ≠ J1.1.length := by omega
          simp only at hp
          by_cases pl : p < J1.1.length
          · rw [List.getElem?_append_left pl] at hp; exact hp
          · rw [List.getElem?_eq_none_iff.2 (by simp; omega)] at hp; cases hp
      · rw [if_neg zz]
        have hp9 : p = J1.1.length := by omega
        have hwy : ¬ wyE R u.2 < 2 := by omega
        rw [b1] at hp
        unfold thr at hp
        rw [if_neg hwy] at hp
        simp only at hp
        rw [hp9] at hp
        simp at hp
        rw [hp]
    · have := h.q1; omega
    · have hu2 := w.2.2.1 z hz
      have := d2 (fstN R.2 z) (by omega); have := f2 (fstN R.2 z) (by omega); have := h.q2 z hz; omega
    · have := h.q3; omega
  · have et := e4.2.2.2.2.2.2.2.2.2.2.1 (by omega) (by omega)
    have ej : jnE R b ow E = (ow, E) := by unfold jnE; rw [et]
    have lx' : lxK R (lastN R b) = ((none, none), ow) := by rw [lx]; unfold ldx; rw [if_neg n4, et]
    rw [ej]
    refine ⟨by rw [l2, lx'], h.ed, h.ln, fun b' hb' => ?_, h.on, by have := h.q1; show ow.length ≤ _; omega, fun u hu => by have := h.q2 u hu; show (inE E _).length ≤ _; omega, by have := h.q3; show E.length ≤ _; omega⟩
    by_cases z : b' = b
    · subst z; rw [hen, if_pos (by omega), lx']; rfl
    · rw [h.en b' hb']
      by_cases z2 : b' < b
      · rw [if_pos z2, if_pos (by omega)]
      · rw [if_neg z2, if_neg (by omega)]
