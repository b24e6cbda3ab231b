/-! PLAIN: the end of a block leads to its two targets -/
set_option maxRecDepth 100000
theorem thr_pre (n0 : Nat) (fst wy : Nat → Nat) (t : Nat) (ow : List Nat) : ow <+: (thr n0 fst wy t ow).2 := by
  unfold thr
  split
  · exact List.prefix_refl _
  · exact List.prefix_append _ _
theorem ldx_pre (n0 : Nat) (fst wy : Nat → Nat) (k : Nat) (it : Itm) (ow : List Nat) : ow <+: (ldx n0 fst wy k it ow).2 := by
  unfold ldx
  split
  · exact List.prefix_refl _
  · split
    · exact List.prefix_refl _
    · exact (thr_pre _ _ _ _ _).trans (thr_pre _ _ _ _ _)
    · exact List.prefix_refl _
theorem owAt_pre {R : Rt} : ∀ m k, k + m = R.1.length → owAt R k <+: (ledR R).2
  | 0, k, h => by rw [show k = R.1.length by omega, owAt_end]; exact List.prefix_refl _
  | m + 1, k, h => by
    have := owAt_pre (R := R) m (k + 1) (by omega)
    rw [owAt_succ (by omega)] at this
    exact (ldx_pre _ _ _ _ _ _).trans this
theorem thr_in {R : Rt} (w : WfR R) (hT9 : TgOk R) {t t' : Nat} {ow : List Nat} (hp : (thr R.1.length (fstN R.2) (wyE R) t ow).2 <+: (ledR R).2) (ht : t < R.2.length) (ht' : t' < R.2.length) : inB R t' (thr R.1.length (fstN R.2) (wyE R) t ow).1 ↔ t' = t := by
  have wt := w.2.2.1 t ht
  have wt' := w.2.2.1 t' ht'
  unfold thr at hp ⊢
  unfold inB
  by_cases c : wyE R t < 2
  · simp only [if_pos c] at hp ⊢
    have hl : fstN R.2 t < R.1.length := by omega
    have hl2 : fstN R.2 t < (nds R).length := by rw [nds_len]; omega
    have hg : (nds R)[fstN R.2 t]? = some (ndA (nds R) (fstN R.2 t)) := by unfold ndA; rw [List.getD_eq_getElem?_getD, List.getElem?_eq_getElem hl2]; rfl
    have ok := nds_ok w hT9 hg
    have n7 : nK (ndA (nds R) (fstN R.2 t)) ≠ 7 := fun z => by
      have := ok.2.2.2.2.2.2.2.2.2.2.2.2.2.2.2.2 z
      omega
    constructor
    · rintro (z | ⟨z, -⟩)
      · exact (fstN_inj w ht ht' z).symm
      · exact absurd z n7
    · rintro rfl; exact Or.inl rfl
  · simp only [if_neg c] at hp ⊢
    have hg : (ledR R).2[ow.length]? = some t := by
      obtain ⟨z, hz⟩ := hp
      rw [← hz]; simp
    have e : ndA (nds R) (R.1.length + ow.length) = nd7 (fstN R.2) t := ndA_ge (by omega) (by rw [show R.1.length + ow.length - R.1.length = ow.length by omega]; exact hg)
    rw [e]
    constructor
    · rintro (z | ⟨-, z⟩)
      · omega
      · have z' : fstN R.2 t = fstN R.2 t' := Option.some.inj z
        exact (fstN_inj w ht ht' z').symm
    · rintro rfl; exact Or.inr ⟨rfl, rfl⟩
/-- where the end of a block leads -/
theorem end_in {R : Rt} (w : WfR R) (hT9 : TgOk R) {b : Nat} (hb : b < R.2.length) : (∀ t', t' < R.2.length → ((∃ x, t1R R (lastN R b) = some x ∧ inB R t' x) ↔ et1 R b = some t')) ∧ (∀ t', t' < R.2.length → ((∃ x, t2R R (lastN R b) = some x ∧ inB R t' x) ↔ et2 R b = some t')) := by
  obtain ⟨e1, e2, e3', e4⟩ := end_get w hb
  have hl : (ledR R).1.getD (lastN R b) (none, none) = (lxK R (lastN R b)).1 := by rw [List.getD_eq_getElem?_getD, led_at e2]; rfl
  have x1 : t1R R (lastN R b) = (lxK R (lastN R b)).1.1 := by unfold t1R; rw [ndA_lt e2, hl]; rfl
  have x2 : t2R R (lastN R b) = (lxK R (lastN R b)).1.2 := by unfold t2R; rw [ndA_lt e2, hl]; rfl
  have hpre := owAt_pre (R := R) (R.1.length - (lastN R b + 1)) (lastN R b + 1) (by omega)
  rw [owAt_succ e2] at hpre
  rw [x1, x2]
  have lx : lxK R (lastN R b) = ldx R.1.length (fstN R.2) (wyE R) (lastN R b) (endI R b) (owAt R (lastN R b)) := rfl
  generalize owAt R (lastN R b) = ow at lx
  rw [lx] at hpre ⊢
  unfold et1 et2
  unfold ldx at hpre ⊢
  rw [if_neg (by omega)] at hpre ⊢
  have hc : (endI R b).1 = 4 ∨ (endI R b).1 = 5 ∨ (endI R b).1 = 6 := by have := e4.1; omega
  rcases hc with cc | cc | cc
  · obtain ⟨t, et⟩ := e4.2.2.2.2.2.2.2.2.1 cc
    have tt := hT9 (b, endI R b) (List.mem_of_getElem? e1) t (by rw [et]; simp)
    have wt := w.2.2.1 _ tt
    rw [et]
    simp only
    refine ⟨fun t' ht' => ?_, fun t' ht' => by simp⟩
    have n7 := thr_in w hT9 (ow := []) (t := t.2) (t' := t')
    have hl2 : fstN R.2 t.2 < (nds R).length := by rw [nds_len]; omega
    have hg : (nds R)[fstN R.2 t.2]? = some (ndA (nds R) (fstN R.2 t.2)) := by unfold ndA; rw [List.getD_eq_getElem?_getD, List.getElem?_eq_getElem hl2]; rfl
    have ok := nds_ok w hT9 hg
    have n7 : nK (ndA (nds R) (fstN R.2 t.2)) ≠ 7 := fun z => by
      have := ok.2.2.2.2.2.2.2.2.2.2.2.2.2.2.2.2 z
      omega
    simp only [Option.some.injEq, List.getElem?_cons_zero, Option.map_some]
    constructor
    · rintro ⟨x, rfl, z | ⟨z, -⟩⟩
      · exact fstN_inj w tt ht' z
      · exact absurd z n7
    · rintro rfl; exact ⟨_, rfl, Or.inl rfl⟩
  · obtain ⟨t, u, et⟩ := e4.2.2.2.2.2.2.2.2.2.1 cc
    have tt := hT9 (b, endI R b) (List.mem_of_getElem? e1) t (by rw [et]; simp)
    have tu := hT9 (b, endI R b) (List.mem_of_getElem? e1) u (by rw [et]; simp)
    rw [et] at hpre ⊢
    simp only at hpre ⊢
    refine ⟨fun t' ht' => ?_, fun t' ht' => ?_⟩
    · have q := thr_in w hT9 (ow := ow) ((thr_pre _ _ _ _ _).trans hpre) tt ht'
      simp only [Option.some.injEq, List.getElem?_cons_zero, Option.map_some]
      constructor
      · rintro ⟨x, rfl, z⟩; exact (q.1 z).symm
      · rintro z; exact ⟨_, rfl, q.2 z.symm⟩
    · have q := thr_in w hT9 hpre tu ht'
      simp only [Option.some.injEq, List.getElem?_cons_succ, List.getElem?_cons_zero, Option.map_some]
      constructor
      · rintro ⟨x, rfl, z⟩; exact (q.1 z).symm
      · rintro z; exact ⟨_, rfl, q.2 z.symm⟩
  · have et := e4.2.2.2.2.2.2.2.2.2.2.1 (by omega) (by omega)
    rw [et]
    simp
theorem ps_law {R : Rt} (w : WfR R) (hT9 : TgOk R) {b t : Nat} (hb : b < R.2.length) (ht : t < R.2.length) : psN R b t = if et1 R b = some t then t1R R (lastN R b) else if et2 R b = some t then t2R R (lastN R b) else none := by
  obtain ⟨h1, h2⟩ := end_in w hT9 hb
  unfold psN
  by_cases c1 : et1 R b = some t
  · rw [if_pos c1, if_pos (b9_iff.2 ((h1 t ht).2 c1))]
  · rw [if_neg c1, if_neg (fun z => c1 ((h1 t ht).1 (b9_iff.1 z)))]
    by_cases c2 : et2 R b = some t
    · rw [if_pos c2, if_pos (b9_iff.2 ((h2 t ht).2 c2))]
    · rw [if_neg c2, if_neg (fun z => c2 ((h2 t ht).1 (b9_iff.1 z)))]
theorem ps_ex {R : Rt} (w : WfR R) (hT9 : TgOk R) {b t : Nat} (hb : b < R.2.length) (ht : t < R.2.length) : (∃ x, psN R b t = some x) ↔ (et1 R b = some t ∨ et2 R b = some t) := by
  obtain ⟨h1, h2⟩ := end_in w hT9 hb
  rw [ps_law w hT9 hb ht]
  by_cases c1 : et1 R b = some t
  · rw [if_pos c1]
    obtain ⟨x, hx, -⟩ := (h1 t ht).2 c1
    exact ⟨fun _ => Or.inl c1, fun _ => ⟨x, hx⟩⟩
  · rw [if_neg c1]
    by_cases c2 : et2 R b = some t
    · rw [if_pos c2]
      obtain ⟨x, hx, -⟩ := (h2 t ht).2 c2
      exact ⟨fun _ => Or.inr c2, fun _ => ⟨x, hx⟩⟩
    · rw [if_neg c2]
      exact ⟨fun q => by (obtain ⟨x, hx⟩ := q; cases hx), fun z => (z.elim c1 c2).elim⟩
