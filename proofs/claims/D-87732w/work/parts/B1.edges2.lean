/-! PLAIN: what the edges are in the end -/
set_option maxRecDepth 100000
def sumN (f : Nat → Nat) : Nat → Nat
  | 0 => 0
  | n + 1 => sumN f n + f n
theorem sumN_congr {f g : Nat → Nat} : ∀ n, (∀ p, p < n → f p = g p) → sumN f n = sumN g n
  | 0, _ => rfl
  | n + 1, h => by unfold sumN; rw [sumN_congr n (fun p hp => h p (by omega)), h n (by omega)]
theorem sumN_zero : ∀ n, sumN (fun _ => 0) n = 0
  | 0 => rfl
  | n + 1 => by unfold sumN; rw [sumN_zero n]
theorem sumN_add1 {f : Nat → Nat} {a : Nat} : ∀ n, a < n → sumN (fun p => f p + if p = a then 1 else 0) n = sumN f n + 1
  | 0, h => by omega
  | n + 1, h => by
    unfold sumN
    by_cases c : a = n
    · subst c
      have : sumN (fun p => f p + if p = a then 1 else 0) a = sumN f a := sumN_congr a (fun p hp => by rw [if_neg (by omega)]; rfl)
      rw [this, if_pos rfl]; omega
    · rw [sumN_add1 n (by omega), if_neg (fun q => c q.symm)]; omega
theorem sumN_cnt {X : Nat → Bool} : ∀ n, sumN (fun p => if X p = true then 1 else 0) n = cntT n X
  | 0 => rfl
  | n + 1 => by rw [cntT_succ, ← sumN_cnt n]; rfl
/-- how many lead to k -/
theorem inE_len (k n : Nat) : ∀ m (E : Edg), E.length = m → EdOk E n → (inE E k).length = sumN (fun p => (outE E p).count k) n := by
  intro m
  induction m with
  | zero =>
    intro E hm hE
    have : E = [] := List.length_eq_zero_iff.1 hm
    subst this
    have : sumN (fun p => (outE [] p).count k) n = sumN (fun _ => 0) n := sumN_congr n (fun p _ => by simp [outE])
    rw [this, sumN_zero]; rfl
  | succ m ih =>
    intro E hm hE
    rcases List.eq_nil_or_concat E with rfl | ⟨E', e, rfl⟩
    · simp at hm
    · rw [List.concat_eq_append] at hm hE ⊢
      have hE' : EdOk E' n := fun x hx => hE x (by simp [hx])
      have he := hE e (by simp)
      have h1 := ih E' (by simpa using hm) hE'
      obtain ⟨a, b⟩ := e
      simp only at he
      rw [inE_snoc]
      by_cases c : b = k
      · rw [if_pos c]
        have : sumN (fun p => (outE (E' ++ [(a, b)]) p).count k) n = sumN (fun p => (outE E' p).count k + if p = a then 1 else 0) n := sumN_congr n (fun p _ => by
          rw [outE_snoc]
          by_cases q : a = p
          · rw [if_pos q, if_pos q.symm, List.count_append, c]; simp
          · rw [if_neg q, if_neg (fun z => q z.symm)]; rfl)
        rw [this, sumN_add1 n he.1, ← h1]; simp
      · rw [if_neg c]
        have : sumN (fun p => (outE (E' ++ [(a, b)]) p).count k) n = sumN (fun p => (outE E' p).count k) n := sumN_congr n (fun p _ => by
          rw [outE_snoc]
          by_cases q : a = p
          · rw [if_pos q, List.count_append, List.count_cons_of_ne (fun z => c z)]; simp
          · rw [if_neg q])
        rw [this]; exact h1
theorem outE_iff {E : Edg} {k x : Nat} : x ∈ outE E k ↔ (k, x) ∈ E := by
  refine ⟨outE_mem, fun h => ?_⟩
  unfold outE
  rw [List.mem_filterMap]
  exact ⟨(k, x), h, by simp⟩
theorem inE_iff {E : Edg} {k x : Nat} : x ∈ inE E k ↔ (x, k) ∈ E := by
  refine ⟨inE_mem, fun h => ?_⟩
  unfold inE
  rw [List.mem_filterMap]
  exact ⟨(x, k), h, by simp⟩
theorem ndA_lt {R : Rt} {k : Nat} (h : k < R.1.length) : ndA (nds R) k = nd1 (sms R.1) (R.1.getD k fit0) ((ledR R).1.getD k (none, none)) := by
  unfold ndA; rw [List.getD_eq_getElem?_getD, nds_lt h]; rfl
theorem ndA_ge {R : Rt} {k t : Nat} (h : R.1.length ≤ k) (ht : (ledR R).2[k - R.1.length]? = some t) : ndA (nds R) k = nd7 (fstN R.2) t := by
  unfold ndA; rw [List.getD_eq_getElem?_getD, nds_ge h, ht]; rfl
theorem JInv.out {R : Rt} {E : Edg} (h : JInv R R.2.length (ledR R).2 E) (w : WfR R) {k : Nat} (hk : k < (nds R).length) : outE E k = tl9 (t1R R k, t2R R k) := by
  rw [nds_len] at hk
  unfold t1R t2R
  by_cases c : k < R.1.length
  · rw [ndA_lt c]
    have hl : (ledR R).1.getD k (none, none) = (lxK R k).1 := by rw [List.getD_eq_getElem?_getD, led_at c]; rfl
    rw [hl]
    show outE E k = tl9 ((lxK R k).1.1, (lxK R k).1.2)
    by_cases c4 : (R.1.getD k fit0).2.1 < 4
    · rw [h.ln k c c4, lx_lt c4]; rfl
    · have hx : R.1[k]? = some (R.1.getD k fit0) := by rw [List.getD_eq_getElem?_getD, List.getElem?_eq_getElem c]; rfl
      obtain ⟨x1, x2, x3, x4, -⟩ := w.2.2.2.2.1 k _ hx
      have e := x4.1 (by omega)
      have hlast : lastN R (R.1.getD k fit0).1 = k := by unfold lastN; omega
      have := h.en _ x1
      rw [if_pos x1, hlast] at this
      exact this
  · have hg : (ledR R).2[k - R.1.length]? = some ((ledR R).2[k - R.1.length]'(by omega)) := List.getElem?_eq_getElem _
    rw [ndA_ge (by omega) hg]
    have := h.on _ _ hg
    rw [show R.1.length + (k - R.1.length) = k by omega] at this
    rw [this]; rfl
theorem wyC_two {R : Rt} {a b t : Nat} (h1 : et1 R a = some t) (h2 : et2 R a = some t) (ha : a < b) : 2 ≤ wyC R t b := by
  induction b with
  | zero => omega
  | succ b ih =>
    unfold wyC
    by_cases c : a = b
    · subst c; rw [if_pos h1, if_pos h2]; omega
    · have := ih (by omega); omega
theorem fstN_inj {R : Rt} (w : WfR R) {a b : Nat} (ha : a < R.2.length) (hb : b < R.2.length) (h : fstN R.2 a = fstN R.2 b) : a = b := by
  refine Classical.byContradiction fun q => ?_
  have wa := w.2.2.1 a ha
  have wb := w.2.2.1 b hb
  by_cases c : a < b
  · have := w.mono b a c hb; omega
  · have := w.mono a b (by omega) ha; omega
/-- no node leads twice to another -/
theorem t12_ne {R : Rt} (w : WfR R) (hT : TgOk R) {k j : Nat} (hk : k < (nds R).length) (h1 : t1R R k = some j) : t2R R k ≠ some j := by
  intro h2
  rw [nds_len] at hk
  unfold t1R at h1
  unfold t2R at h2
  by_cases c : k < R.1.length
  · rw [ndA_lt c] at h1 h2
    have hl : (ledR R).1.getD k (none, none) = (lxK R k).1 := by rw [List.getD_eq_getElem?_getD, led_at c]; rfl
    rw [hl] at h1 h2
    have h1 : (lxK R k).1.1 = some j := h1
    have h2 : (lxK R k).1.2 = some j := h2
    by_cases c4 : (R.1.getD k fit0).2.1 < 4
    · rw [lx_lt c4] at h2; cases h2
    · have hx : R.1[k]? = some (R.1.getD k fit0) := by rw [List.getD_eq_getElem?_getD, List.getElem?_eq_getElem c]; rfl
      obtain ⟨x1, x2, x3, x4, -⟩ := w.2.2.2.2.1 k _ hx
      have e := x4.1 (by omega)
      have hlast : lastN R (R.1.getD k fit0).1 = k := by unfold lastN; omega
      have hend : endI R (R.1.getD k fit0).1 = (R.1.getD k fit0).2 := by unfold endI; rw [hlast]
      generalize hb : (R.1.getD k fit0).1 = b at *
      unfold lxK ldx at h1 h2
      rw [if_neg c4, ← hend] at h1 h2
      obtain ⟨e1, e2, e3', e4⟩ := end_get w x1
      have hc : (endI R b).1 = 4 ∨ (endI R b).1 = 5 ∨ (endI R b).1 = 6 := by have := e4.1; omega
      rcases hc with cc | cc | cc
      · obtain ⟨t, et⟩ := e4.2.2.2.2.2.2.2.2.1 cc
        rw [et] at h2; cases h2
      · obtain ⟨t, u, et⟩ := e4.2.2.2.2.2.2.2.2.2.1 cc
        rw [et] at h1 h2
        simp only [Option.some.injEq] at h1 h2
        have tt := hT (b, endI R b) (List.mem_of_getElem? e1) t (by rw [et]; simp)
        have tu := hT (b, endI R b) (List.mem_of_getElem? e1) u (by rw [et]; simp)
        have wt := w.2.2.1 _ tt
        have wu := w.2.2.1 _ tu
        unfold thr at h1 h2
        by_cases z1 : wyE R t.2 < 2
        · rw [if_pos z1] at h1 h2
          by_cases z2 : wyE R u.2 < 2
          · rw [if_pos z2] at h2
            simp only at h1 h2
            have hq := fstN_inj w tt tu (h1.trans h2.symm)
            have q1 : et1 R b = some t.2 := by unfold et1; rw [et]; rfl
            have q2 : et2 R b = some t.2 := by unfold et2; rw [et, hq]; rfl
            have := wyC_two q1 q2 x1
            unfold wyE at z1
            omega
          · rw [if_neg z2] at h2
            simp only at h1 h2
            omega
        · rw [if_neg z1] at h1 h2
          by_cases z2 : wyE R u.2 < 2
          · rw [if_pos z2] at h2
            simp only at h1 h2
            omega
          · rw [if_neg z2] at h2
            simp only [List.length_append, List.length_cons, List.length_nil] at h1 h2
            omega
      · have et := e4.2.2.2.2.2.2.2.2.2.2.1 (by omega) (by omega)
        rw [et] at h2; cases h2
  · have hg : (ledR R).2[k - R.1.length]? = some ((ledR R).2[k - R.1.length]'(by omega)) := List.getElem?_eq_getElem _
    rw [ndA_ge (by omega) hg] at h2
    cases h2
/-- the nodes ahead of k -/
theorem JInv.inn {R : Rt} {E : Edg} (h : JInv R R.2.length (ledR R).2 E) (w : WfR R) (hT : TgOk R) (k : Nat) : (∀ p, p ∈ inE E k ↔ ld (nds R).length (t1R R) (t2R R) p k) ∧ (inE E k).length = cntT (nds R).length (fun a => b9 (t1R R a = some k ∨ t2R R a = some k)) := by
  have hE := h.ed
  rw [← nds_len] at hE
  have ho : ∀ p, p < (nds R).length → ∀ x, x ∈ outE E p ↔ t1R R p = some x ∨ t2R R p = some x := fun p hp x => by
    rw [h.out w hp]
    unfold tl9
    simp [Option.mem_toList]
  refine ⟨fun p => ?_, ?_⟩
  · unfold ld
    rw [inE_iff]
    constructor
    · intro q
      have hp := (hE _ q).1
      exact ⟨hp, (ho p hp k).1 (outE_iff.2 q)⟩
    · rintro ⟨hp, q⟩
      exact outE_iff.1 ((ho p hp k).2 q)
  · rw [inE_len k (nds R).length E.length E rfl hE, ← sumN_cnt]
    refine sumN_congr _ (fun p hp => ?_)
    rw [h.out w hp]
    unfold tl9
    rw [List.count_append]
    simp only
    cases h1 : t1R R p with
    | none =>
      cases h2 : t2R R p with
      | none => rw [if_neg (by rw [b9_iff]; simp)]; rfl
      | some y =>
        by_cases c : y = k
        · subst c; rw [if_pos (by rw [b9_iff]; simp)]; simp
        · rw [if_neg (by rw [b9_iff]; simp [c])]; simp [c]
    | some x =>
      have ne := t12_ne w hT hp h1
      cases h2 : t2R R p with
      | none =>
        by_cases c : x = k
        · subst c; rw [if_pos (by rw [b9_iff]; simp)]; simp
        · rw [if_neg (by rw [b9_iff]; simp [c])]; simp [c]
      | some y =>
        rw [h2] at ne
        have ne' : y ≠ x := fun q => ne (by rw [q])
        by_cases c : x = k
        · subst c
          rw [if_pos (by rw [b9_iff]; simp)]
          simp [ne']
        · by_cases c2 : y = k
          · subst c2
            rw [if_pos (by rw [b9_iff]; simp)]
            simp [c]
          · rw [if_neg (by rw [b9_iff]; simp [c, c2])]
            simp [c, c2]
