/-! THE COMPONENT: close numbers nodes -/
set_option maxRecDepth 100000
section SI
variable {σ : AH} {a b j lo hi : Nat} {v : Int32}
theorem OpdI.sI {o : Opd} (h : OpdI σ a o lo hi) (hb : hT σ b ≠ 17) : OpdI (hsI σ b j v) a o lo hi := by
  obtain ⟨h1, h2, h3, h4⟩ := h
  have ne : ∀ k, ¬ (a = b ∧ k = j) := fun k q => hb (by rw [← q.1]; exact h3)
  refine ⟨h1, h2, h3, ?_⟩
  rw [hI_sI, hI_sI, if_neg (ne 0), if_neg (ne 1)]; exact h4
theorem SumI.sI {x : Sm} (h : SumI σ a x lo hi) (hb : hT σ b ≠ 17) (hs : (hT σ b ≠ 15 ∧ hT σ b ≠ 16) ∨ j = 0) : SumI (hsI σ b j v) a x lo hi := by
  obtain ⟨h1, h2, h3⟩ := h
  refine ⟨h1, h2, ?_⟩
  rcases h3 with ⟨t, i1, i2, u, w, r1, r2, o1, o2⟩ | ⟨t, i1, i2, w, r1, o1⟩
  · refine Or.inl ⟨t, ?_, i2, u, w, r1, r2, o1.sI hb, o2.sI hb⟩
    rw [hI_sI, if_neg]
    · exact i1
    · rintro ⟨rfl, q⟩; omega
  · refine Or.inr ⟨t, i1, ?_, w, r1, o1.sI hb⟩
    rw [hI_sI, if_neg]
    · exact i2
    · rintro ⟨rfl, q⟩; omega
/-- the number or the block of a node, or a sum's number, or the routine's own -/
theorem ItmF.sI {it : Itm} (h : ItmF σ a it lo hi) (hb : hT σ b ≠ 17) (hs : (hT σ b ≠ 15 ∧ hT σ b ≠ 16) ∨ j = 0) (hj : hT σ b = 4 ∨ j < 2) : ItmF (hsI σ b j v) a it lo hi := by
  obtain ⟨h0, t, g1, g2, g3, g4, g5, g6, g7⟩ := h
  have ne : ∀ k, 4 ≤ k → ¬ (a = b ∧ k = j) := fun k hk q => by
    rcases hj with hj | hj
    · rw [← q.1] at hj; omega
    · omega
  have gi : ∀ k, 4 ≤ k → hI (hsI σ b j v) a k = hI σ a k := fun k hk => by rw [hI_sI, if_neg (ne k hk)]
  refine ⟨h0, t, fun q => (gi 4 (by omega)).trans (g1 q), fun q => ?_, fun q => ?_, fun q => ?_, fun q => ?_, fun q => ?_, fun q => ?_⟩
  · obtain ⟨u, x, e1, e2, e3⟩ := g2 q
    exact ⟨u, x, e1, e2, e3.sI hb hs⟩
  · obtain ⟨x, e1, e2⟩ := g3 q
    exact ⟨x, e1, e2.sI hb⟩
  · obtain ⟨e0, x, y, e1, e2, e3, e4⟩ := g4 q
    exact ⟨(gi 4 (by omega)).trans e0, x, y, e1, e2, e3.sI hb, e4.sI hb⟩
  · obtain ⟨x, e1, e2⟩ := g5 q
    exact ⟨x, e1, e2.sI hb⟩
  · obtain ⟨t', e1, e2⟩ := g6 q
    exact ⟨t', e1, (gi 4 (by omega)).trans e2⟩
  · obtain ⟨⟨x, y, e1, e2, e3, e4⟩, t', u, e5, e6, e7⟩ := g7 q
    exact ⟨⟨x, y, e1, e2, e3.sI hb, e4.sI hb⟩, t', u, e5, (gi 6 (by omega)).trans e6, (gi 7 (by omega)).trans e7⟩
end SI
abbrev GeM (r : Nat) : Nat → Prop := fun b => r ≤ b
def bkI (R : Rt) (k : Nat) : Nat := (R.1.getD k fit0).1
/-- close, with k nodes in the list -/
def P1 (κ : Nat → Option Nat) (σ0 σ : AH) (r : Nat) (R : Rt) (wss : List (Nat × List Nat)) (A lo hi NX BF : Nat → Nat) (k : Nat) : Prop := (CS κ σ r R wss R.1.length A lo hi NX BF []) ∧ (∀ i x, R.1[i]? = some x → ItmF σ (A i) x.2 (lo i) (hi i)) ∧ (AL κ σ (r + 2) ((List.range k).map A)) ∧ (∀ i, i < k → hI σ (A i) 0 = nn i ∧ hI σ (A i) 1 = nn (bkI R i)) ∧ (AL κ σ (r + 3) []) ∧ (AL κ σ (r + 4) []) ∧ (hI σ r 5 = 0) ∧ (HL κ (GeM r) (GeM r) k (k * k + 9 * k) σ0 σ)
theorem P1.cs {κ : Nat → Option Nat} {σ0 σ : AH} {r : Nat} {R : Rt} {wss : List (Nat × List Nat)} {A lo hi NX BF : Nat → Nat} {k : Nat} (h : P1 κ σ0 σ r R wss A lo hi NX BF k) : CS κ σ r R wss R.1.length A lo hi NX BF [] := h.1
theorem P1.it {κ : Nat → Option Nat} {σ0 σ : AH} {r : Nat} {R : Rt} {wss : List (Nat × List Nat)} {A lo hi NX BF : Nat → Nat} {k : Nat} (h : P1 κ σ0 σ r R wss A lo hi NX BF k) : ∀ i x, R.1[i]? = some x → ItmF σ (A i) x.2 (lo i) (hi i) := h.2.1
theorem P1.ns {κ : Nat → Option Nat} {σ0 σ : AH} {r : Nat} {R : Rt} {wss : List (Nat × List Nat)} {A lo hi NX BF : Nat → Nat} {k : Nat} (h : P1 κ σ0 σ r R wss A lo hi NX BF k) : AL κ σ (r + 2) ((List.range k).map A) := h.2.2.1
theorem P1.nm {κ : Nat → Option Nat} {σ0 σ : AH} {r : Nat} {R : Rt} {wss : List (Nat × List Nat)} {A lo hi NX BF : Nat → Nat} {k : Nat} (h : P1 κ σ0 σ r R wss A lo hi NX BF k) : ∀ i, i < k → hI σ (A i) 0 = nn i ∧ hI σ (A i) 1 = nn (bkI R i) := h.2.2.2.1
theorem P1.ss {κ : Nat → Option Nat} {σ0 σ : AH} {r : Nat} {R : Rt} {wss : List (Nat × List Nat)} {A lo hi NX BF : Nat → Nat} {k : Nat} (h : P1 κ σ0 σ r R wss A lo hi NX BF k) : AL κ σ (r + 3) [] := h.2.2.2.2.1
theorem P1.wy {κ : Nat → Option Nat} {σ0 σ : AH} {r : Nat} {R : Rt} {wss : List (Nat × List Nat)} {A lo hi NX BF : Nat → Nat} {k : Nat} (h : P1 κ σ0 σ r R wss A lo hi NX BF k) : AL κ σ (r + 4) [] := h.2.2.2.2.2.1
theorem P1.i5 {κ : Nat → Option Nat} {σ0 σ : AH} {r : Nat} {R : Rt} {wss : List (Nat × List Nat)} {A lo hi NX BF : Nat → Nat} {k : Nat} (h : P1 κ σ0 σ r R wss A lo hi NX BF k) : hI σ r 5 = 0 := h.2.2.2.2.2.2.1
theorem P1.fr {κ : Nat → Option Nat} {σ0 σ : AH} {r : Nat} {R : Rt} {wss : List (Nat × List Nat)} {A lo hi NX BF : Nat → Nat} {k : Nat} (h : P1 κ σ0 σ r R wss A lo hi NX BF k) : HL κ (GeM r) (GeM r) k (k * k + 9 * k) σ0 σ := h.2.2.2.2.2.2.2
section P1s
variable {κ : Nat → Option Nat} {Q : Ret AH} {σ σ0 : AH} {r k : Nat} {R : Rt} {wss : List (Nat × List Nat)} {A lo hi NX BF : Nat → Nat}
theorem CS.tgA {m : Nat} {E : Edg} (h : CS κ σ r R wss m A lo hi NX BF E) {i : Nat} (hi' : i < m) : hT σ (A i) = 7 ∨ hT σ (A i) = 8 ∨ hT σ (A i) = 9 ∨ hT σ (A i) = 10 ∨ hT σ (A i) = 11 ∨ hT σ (A i) = 12 ∨ hT σ (A i) = 13 ∨ hT σ (A i) = 14 := by
  have := (h.nd i hi').1; omega
/-- ints of a node -/
theorem CS.sI {m : Nat} {E : Edg} (h : CS κ σ r R wss m A lo hi NX BF E) {i j : Nat} {v : Int32} (hi' : i < m) : CS κ (hsI σ (A i) j v) r R wss m A lo hi NX BF E ∧ HL κ (EqM (A i)) NoM 0 0 σ (hsI σ (A i) j v) := by
  have t := h.tgA hi'
  have F : HL κ (EqM (A i)) NoM 0 0 σ (hsI σ (A i) j v) := (HL.rfl9 h.ok).sI (Or.inl rfl) rfl (by omega)
  have q := h.iv i hi'
  refine ⟨h.fr F (by show ¬ r + 1 = A i; omega) id (fun b w hb => ?_) (fun k hk => ?_) (fun _ _ => id), F⟩
  · have := (h.rows b w hb).2.2.2.2 i hi'
    show ¬ w.1 = A i
    omega
  · have e := h.nd k hk
    have t1 := e.2.2.2.1.1
    have t2 := e.2.2.2.2.1
    exact ⟨fun z => by have z : NX k = A i := z; rw [z] at t1; omega, fun z => by have z : BF k = A i := z; rw [z] at t2; omega⟩
theorem P1.step {b : Nat} (h : P1 κ σ0 σ r R wss A lo hi NX BF k) (hk0 : Hok κ σ0) (hk : k < R.1.length) (hb : bkI R k = b) (hkl : k < 240) (r1 : 1 ≤ hC σ) (r2 : 10 + 2 * k ≤ hS σ) {Q : Ret AH}
    (kk : ∀ σ', P1 κ σ0 σ' r R wss A lo hi NX BF (k + 1) → Q (.inl (some (.int 1))) σ') : pJ2_add κ [.ref (r + 2), .ref (A k)] (hsI (hsI σ (A k) 0 (nn k)) (A k) 1 (nn b)) Q := by
  obtain ⟨c1, F1⟩ := h.cs.sI (i := k) (j := 0) (v := nn k) hk
  obtain ⟨c2, F2⟩ := c1.sI (i := k) (j := 1) (v := nn b) hk
  have t := h.cs.tgA hk
  have iv := h.cs.iv k hk
  have F := F1.trans F2
  have ns2 : AL κ (hsI (hsI σ (A k) 0 (nn k)) (A k) 1 (nn b)) (r + 2) ((List.range k).map A) := F.al h.ns (by show ¬ r + 2 = A k; omega)
  have ho : hT (hsI (hsI σ (A k) 0 (nn k)) (A k) 1 (nn b)) (A k) ∈ objTs ++ [60] := by
    have : hT (hsI (hsI σ (A k) 0 (nn k)) (A k) 1 (nn b)) (A k) = hT σ (A k) := rfl
    rw [this]; simp [objTs]; omega
  refine cq_add c2.ok ns2 ho (by simp; omega) r1 (by simp only [List.length_map, List.length_range]; exact r2) (fun σ3 k3 f3 A3 => ?_)
  simp only [List.length_map, List.length_range] at f3
  have F3 := HL.ofAdd f3 c2.ok k3 ns2
  have it2 : ∀ i x, R.1[i]? = some x → ItmF (hsI (hsI σ (A k) 0 (nn k)) (A k) 1 (nn b)) (A i) x.2 (lo i) (hi i) := fun i x hx => ((h.it i x hx).sI (by omega) (Or.inl (by omega)) (Or.inr (by omega))).sI (by rw [hT_sI]; omega) (Or.inl (by rw [hT_sI]; omega)) (Or.inr (by omega))
  have nm2 : ∀ i, i < k + 1 → hI (hsI (hsI σ (A k) 0 (nn k)) (A k) 1 (nn b)) (A i) 0 = nn i ∧ hI (hsI (hsI σ (A k) 0 (nn k)) (A k) 1 (nn b)) (A i) 1 = nn (bkI R i) := by
    intro i hi'
    by_cases e : i = k
    · subst e; rw [hb]; simp [hT_sI, hT_sR, hT_sG, hL_sI, hL_sR, hL_sG, hI_sI, hI_sR, hI_sG, hG_sI, hG_sR, hG_sG, hR_sI, hR_sR, hR_sG, hN_sI, hN_sR, hN_sG, hC_sI, hC_sR, hC_sG, hS_sI, hS_sR, hS_sG, hT_nw, hL_nw, hI_nw, hG_nw, hR_nw, hN_nw, hC_nw, hS_nw, hvc, hvi, dspI, vref, va_rf]
    · have ne : ¬ A i = A k := fun z => e (h.cs.a_inj (by omega) hk z)
      simp [hT_sI, hT_sR, hT_sG, hL_sI, hL_sR, hL_sG, hI_sI, hI_sR, hI_sG, hG_sI, hG_sR, hG_sG, hR_sI, hR_sR, hR_sG, hN_sI, hN_sR, hN_sG, hC_sI, hC_sR, hC_sG, hS_sI, hS_sR, hS_sG, hT_nw, hL_nw, hI_nw, hG_nw, hR_nw, hN_nw, hC_nw, hS_nw, hvc, hvi, dspI, vref, va_rf, ne]
      exact h.nm i (by omega)
  refine kk σ3 ⟨?_, fun i x hx => (it2 i x hx).ls c2.ok F3 (fun b q => by rw [show b = r + 2 from q]; exact ns2.1), ?_, fun i hi' => ?_, ?_, ?_, ?_, ?_⟩
  · refine c2.fr F3 (by show ¬ r + 1 = r + 2; omega) id (fun b w hb => ?_) (fun i hi' => ?_) (fun _ _ => id)
    · have := (h.cs.rows b w hb).2.1; show ¬ w.1 = r + 2; omega
    · have := h.cs.iv i hi'
      exact ⟨by show ¬ NX i = r + 2; omega, by show ¬ BF i = r + 2; omega⟩
  · rw [List.range_succ, List.map_append]; exact A3
  · have hi2 : i < R.1.length := by omega
    have iv2 := h.cs.iv i hi2
    have t2 := h.cs.tgA hi2
    have t2' : hT (hsI (hsI σ (A k) 0 (nn k)) (A k) 1 (nn b)) (A i) = hT σ (A i) := rfl
    have g := fun j => F3.int c2.ok t2' (by omega) (M := EqM (r + 2)) (by show ¬ A i = r + 2; omega) j
    rw [g 0, g 1]; exact nm2 i hi'
  · exact F3.al (F.al h.ss (by show ¬ r + 3 = A k; omega)) (by show ¬ r + 3 = r + 2; omega)
  · exact F3.al (F.al h.wy (by show ¬ r + 4 = A k; omega)) (by show ¬ r + 4 = r + 2; omega)
  · have e1 := F3.int c2.ok c2.tr (by decide) (M := EqM (r + 2)) (by show ¬ r = r + 2; omega) 5
    have e2 := F.int h.cs.ok h.cs.tr (by decide) (M := EqM (A k)) (by show ¬ r = A k; omega) 5
    rw [e1, e2]; exact h.i5
  · have G1 : HL κ (GeM r) (GeM r) (0 + 0) (0 + 0) σ _ := F.imp (fun b q => by have : b = A k := q; show r ≤ b; omega) (fun _ q => q.elim)
    have G3 : HL κ (GeM r) (GeM r) 1 (10 + 2 * k) _ σ3 := F3.imp (fun b q => by have : b = r + 2 := q; show r ≤ b; omega) (fun _ q => q.elim)
    exact ((h.fr.trans G1).trans G3).up (by omega) (by have := sq_1 k; omega)
/-- what a row's place is -/
theorem WfR.bk9 {R : Rt} (w : WfR R) {b k : Nat} (hb : b < R.2.length) (h1 : fstN R.2 b ≤ k) (h2 : k < nxtN R b) : bkI R k = b ∧ k < R.1.length := by
  obtain ⟨it, e⟩ := w.2.2.2.2.2 b hb k h1 h2
  exact ⟨by unfold bkI; rw [List.getD_eq_getElem?_getD, e]; rfl, (List.getElem?_eq_some_iff.1 e).1⟩
/-- the nodes of a block -/
theorem cl_num {b : Nat} {J2 : Cont AH} (w : WfR R) (hk0 : Hok κ σ0) (hb : b < R.2.length) (r1 : 5000 ≤ hC σ0) (r2 : 30000 ≤ hS σ0) : ∀ m j (σ : AH), j + m = nxtN R b - fstN R.2 b → P1 κ σ0 σ r R wss A lo hi NX BF (fstN R.2 b + j) →
    (∀ σ', P1 κ σ0 σ' r R wss A lo hi NX BF (nxtN R b) → J2 [some (.ref r), some (.int (nn (b + 1))), none, none] [] σ') →
    bX4_close_15 κ Q J2 [some (.ref r), some (.int (nn b)), some (.int (nn j)), none] [] σ := by
  intro m j σ hm hP kk
  unfold bX4_close_15
  intro X hX
  revert j σ
  have hw2 := w.2.2.1 b hb
  have hln := w.1
  have hnb := w.2.1
  induction m with
  | zero =>
    intro j σ hm hP
    apply hX
    have C := hP.cs
    have hbl : b < wss.length := by rw [C.wl]; exact hb
    have hg : wss[b]? = some wss[b] := List.getElem?_eq_getElem hbl
    have hgm : (wss.map (·.1))[b]? = some wss[b].1 := by rw [List.getElem?_map, hg]; rfl
    obtain ⟨q1, q2, q3, q4, q5⟩ := C.rows b _ hg
    have r0 := C.rr 0 (by omega)
    have b1 : j < 2147483648 := by omega
    have b2 : wss[b].2.length < 2147483648 := by omega
    have le : wss[b].2.length ≤ j := by omega
    simp [o_ic, o_lc, o_null, o_il, o_ll, o_al, o_dup, o_pop, o_dup_x1, o_dup2, o_iadd, o_isub, o_imul, o_iand, o_ior, o_ixor, o_ishl, o_ishr, o_idiv, o_irem, o_ineg, o_ladd, o_lsub, o_lmul, o_land, o_lor, o_lxor, o_ldiv, o_lrem, o_lneg, o_lcmp, o_i2l, o_l2i, o_i2b, o_i2c, o_iushr, o_lshl, o_lshr, o_if_eq, o_if_ne, o_if_lt, o_if_ge, o_if_gt, o_if_le, o_icmp_eq, o_icmp_ne, o_icmp_lt, o_icmp_ge, o_icmp_gt, o_icmp_le, o_ifnull, o_ifnonnull, o_acmp_eq, o_acmp_ne, o_is, o_ls, o_as, o_iinc, o_kill, o_sw, o_ireturn, o_zreturn, o_nreturn, o_lreturn, o_areturn, o_return, o_athrow, o_call, entP, lg_sl, Value.category, st1, st2, List.set, List.getElem?_cons_zero, List.getElem?_cons_succ, List.foldl, popN, aft, o_gI, o_gR, o_pI, o_pN, o_pR, o_aI, o_aG, o_aR, o_len, o_aR8, o_sI, o_sB, o_sZ, o_sG, o_new, o_newA, o_cast, o_inst, o_cst, o_oi, o_sR, o_gIc, o_gSv, o_gSc, o_getc, o_dead, o_acopy, o_castA, o_castI, o_sR7, o_mna, o_mmax, o_mmin, o_mabs, C.tr, r0, va_rf]
    refine hv_get C.al hgm ?_
    simp [o_ic, o_lc, o_null, o_il, o_ll, o_al, o_dup, o_pop, o_dup_x1, o_dup2, o_iadd, o_isub, o_imul, o_iand, o_ior, o_ixor, o_ishl, o_ishr, o_idiv, o_irem, o_ineg, o_ladd, o_lsub, o_lmul, o_land, o_lor, o_lxor, o_ldiv, o_lrem, o_lneg, o_lcmp, o_i2l, o_l2i, o_i2b, o_i2c, o_iushr, o_lshl, o_lshr, o_if_eq, o_if_ne, o_if_lt, o_if_ge, o_if_gt, o_if_le, o_icmp_eq, o_icmp_ne, o_icmp_lt, o_icmp_ge, o_icmp_gt, o_icmp_le, o_ifnull, o_ifnonnull, o_acmp_eq, o_acmp_ne, o_is, o_ls, o_as, o_iinc, o_kill, o_sw, o_ireturn, o_zreturn, o_nreturn, o_lreturn, o_areturn, o_return, o_athrow, o_call, entP, lg_sl, Value.category, st1, st2, List.set, List.getElem?_cons_zero, List.getElem?_cons_succ, List.foldl, popN, aft, o_gI, o_gR, o_pI, o_pN, o_pR, o_aI, o_aG, o_aR, o_len, o_aR8, o_sI, o_sB, o_sZ, o_sG, o_new, o_newA, o_cast, o_inst, o_cst, o_oi, o_sR, o_gIc, o_gSv, o_gSc, o_getc, o_dead, o_acopy, o_castA, o_castI, o_sR7, o_mna, o_mmax, o_mmin, o_mabs, q1.1]
    refine hv_size q1 ?_
    simp [o_ic, o_lc, o_null, o_il, o_ll, o_al, o_dup, o_pop, o_dup_x1, o_dup2, o_iadd, o_isub, o_imul, o_iand, o_ior, o_ixor, o_ishl, o_ishr, o_idiv, o_irem, o_ineg, o_ladd, o_lsub, o_lmul, o_land, o_lor, o_lxor, o_ldiv, o_lrem, o_lneg, o_lcmp, o_i2l, o_l2i, o_i2b, o_i2c, o_iushr, o_lshl, o_lshr, o_if_eq, o_if_ne, o_if_lt, o_if_ge, o_if_gt, o_if_le, o_icmp_eq, o_icmp_ne, o_icmp_lt, o_icmp_ge, o_icmp_gt, o_icmp_le, o_ifnull, o_ifnonnull, o_acmp_eq, o_acmp_ne, o_is, o_ls, o_as, o_iinc, o_kill, o_sw, o_ireturn, o_zreturn, o_nreturn, o_lreturn, o_areturn, o_return, o_athrow, o_call, entP, lg_sl, Value.category, st1, st2, List.set, List.getElem?_cons_zero, List.getElem?_cons_succ, List.foldl, popN, aft, o_gI, o_gR, o_pI, o_pN, o_pR, o_aI, o_aG, o_aR, o_len, o_aR8, o_sI, o_sB, o_sZ, o_sG, o_new, o_newA, o_cast, o_inst, o_cst, o_oi, o_sR, o_gIc, o_gSv, o_gSc, o_getc, o_dead, o_acopy, o_castA, o_castI, o_sR7, o_mna, o_mmax, o_mmin, o_mabs, nn_eqL, nn_ltL, nn_leL, nn_Llt, nn_Lle, nn_lt, nn_le, nn_eq, nn_in, nn_clamp, nn_succ, nn_pos, nn_neg1, b1, b2, le, bX4_close_83, nn_succ]
    rw [show fstN R.2 b + j = nxtN R b by omega] at hP
    exact kk σ hP
  | succ m ih =>
    intro j σ hm hP
    apply hX
    have C := hP.cs
    have hbl : b < wss.length := by rw [C.wl]; exact hb
    have hg : wss[b]? = some wss[b] := List.getElem?_eq_getElem hbl
    have hgm : (wss.map (·.1))[b]? = some wss[b].1 := by rw [List.getElem?_map, hg]; rfl
    obtain ⟨q1, q2, q3, q4, q5⟩ := C.rows b _ hg
    have r0 := C.rr 0 (by omega)
    have r1' := C.rr 1 (by omega)
    have b1 : j < 2147483648 := by omega
    have b2 : wss[b].2.length < 2147483648 := by omega
    have nle : ¬ wss[b].2.length ≤ j := by omega
    have hj := q4 j (by omega)
    obtain ⟨e1, e2⟩ := w.bk9 hb (k := fstN R.2 b + j) (by omega) (by omega)
    have t := C.tgA e2
    have iv := C.iv _ e2
    have nr : ¬ r = A (fstN R.2 b + j) := by omega
    have sq := sq_le (show fstN R.2 b + j ≤ 160 by omega)
    simp [o_ic, o_lc, o_null, o_il, o_ll, o_al, o_dup, o_pop, o_dup_x1, o_dup2, o_iadd, o_isub, o_imul, o_iand, o_ior, o_ixor, o_ishl, o_ishr, o_idiv, o_irem, o_ineg, o_ladd, o_lsub, o_lmul, o_land, o_lor, o_lxor, o_ldiv, o_lrem, o_lneg, o_lcmp, o_i2l, o_l2i, o_i2b, o_i2c, o_iushr, o_lshl, o_lshr, o_if_eq, o_if_ne, o_if_lt, o_if_ge, o_if_gt, o_if_le, o_icmp_eq, o_icmp_ne, o_icmp_lt, o_icmp_ge, o_icmp_gt, o_icmp_le, o_ifnull, o_ifnonnull, o_acmp_eq, o_acmp_ne, o_is, o_ls, o_as, o_iinc, o_kill, o_sw, o_ireturn, o_zreturn, o_nreturn, o_lreturn, o_areturn, o_return, o_athrow, o_call, entP, lg_sl, Value.category, st1, st2, List.set, List.getElem?_cons_zero, List.getElem?_cons_succ, List.foldl, popN, aft, o_gI, o_gR, o_pI, o_pN, o_pR, o_aI, o_aG, o_aR, o_len, o_aR8, o_sI, o_sB, o_sZ, o_sG, o_new, o_newA, o_cast, o_inst, o_cst, o_oi, o_sR, o_gIc, o_gSv, o_gSc, o_getc, o_dead, o_acopy, o_castA, o_castI, o_sR7, o_mna, o_mmax, o_mmin, o_mabs, C.tr, r0, va_rf]
    refine hv_get C.al hgm ?_
    simp [o_ic, o_lc, o_null, o_il, o_ll, o_al, o_dup, o_pop, o_dup_x1, o_dup2, o_iadd, o_isub, o_imul, o_iand, o_ior, o_ixor, o_ishl, o_ishr, o_idiv, o_irem, o_ineg, o_ladd, o_lsub, o_lmul, o_land, o_lor, o_lxor, o_ldiv, o_lrem, o_lneg, o_lcmp, o_i2l, o_l2i, o_i2b, o_i2c, o_iushr, o_lshl, o_lshr, o_if_eq, o_if_ne, o_if_lt, o_if_ge, o_if_gt, o_if_le, o_icmp_eq, o_icmp_ne, o_icmp_lt, o_icmp_ge, o_icmp_gt, o_icmp_le, o_ifnull, o_ifnonnull, o_acmp_eq, o_acmp_ne, o_is, o_ls, o_as, o_iinc, o_kill, o_sw, o_ireturn, o_zreturn, o_nreturn, o_lreturn, o_areturn, o_return, o_athrow, o_call, entP, lg_sl, Value.category, st1, st2, List.set, List.getElem?_cons_zero, List.getElem?_cons_succ, List.foldl, popN, aft, o_gI, o_gR, o_pI, o_pN, o_pR, o_aI, o_aG, o_aR, o_len, o_aR8, o_sI, o_sB, o_sZ, o_sG, o_new, o_newA, o_cast, o_inst, o_cst, o_oi, o_sR, o_gIc, o_gSv, o_gSc, o_getc, o_dead, o_acopy, o_castA, o_castI, o_sR7, o_mna, o_mmax, o_mmin, o_mabs, q1.1]
    refine hv_size q1 ?_
    simp [o_ic, o_lc, o_null, o_il, o_ll, o_al, o_dup, o_pop, o_dup_x1, o_dup2, o_iadd, o_isub, o_imul, o_iand, o_ior, o_ixor, o_ishl, o_ishr, o_idiv, o_irem, o_ineg, o_ladd, o_lsub, o_lmul, o_land, o_lor, o_lxor, o_ldiv, o_lrem, o_lneg, o_lcmp, o_i2l, o_l2i, o_i2b, o_i2c, o_iushr, o_lshl, o_lshr, o_if_eq, o_if_ne, o_if_lt, o_if_ge, o_if_gt, o_if_le, o_icmp_eq, o_icmp_ne, o_icmp_lt, o_icmp_ge, o_icmp_gt, o_icmp_le, o_ifnull, o_ifnonnull, o_acmp_eq, o_acmp_ne, o_is, o_ls, o_as, o_iinc, o_kill, o_sw, o_ireturn, o_zreturn, o_nreturn, o_lreturn, o_areturn, o_return, o_athrow, o_call, entP, lg_sl, Value.category, st1, st2, List.set, List.getElem?_cons_zero, List.getElem?_cons_succ, List.foldl, popN, aft, o_gI, o_gR, o_pI, o_pN, o_pR, o_aI, o_aG, o_aR, o_len, o_aR8, o_sI, o_sB, o_sZ, o_sG, o_new, o_newA, o_cast, o_inst, o_cst, o_oi, o_sR, o_gIc, o_gSv, o_gSc, o_getc, o_dead, o_acopy, o_castA, o_castI, o_sR7, o_mna, o_mmax, o_mmin, o_mabs, nn_eqL, nn_ltL, nn_leL, nn_Llt, nn_Lle, nn_lt, nn_le, nn_eq, nn_in, nn_clamp, nn_succ, nn_pos, nn_neg1, b1, b2, nle, C.tr, r0, va_rf]
    refine hv_get C.al hgm ?_
    simp [o_ic, o_lc, o_null, o_il, o_ll, o_al, o_dup, o_pop, o_dup_x1, o_dup2, o_iadd, o_isub, o_imul, o_iand, o_ior, o_ixor, o_ishl, o_ishr, o_idiv, o_irem, o_ineg, o_ladd, o_lsub, o_lmul, o_land, o_lor, o_lxor, o_ldiv, o_lrem, o_lneg, o_lcmp, o_i2l, o_l2i, o_i2b, o_i2c, o_iushr, o_lshl, o_lshr, o_if_eq, o_if_ne, o_if_lt, o_if_ge, o_if_gt, o_if_le, o_icmp_eq, o_icmp_ne, o_icmp_lt, o_icmp_ge, o_icmp_gt, o_icmp_le, o_ifnull, o_ifnonnull, o_acmp_eq, o_acmp_ne, o_is, o_ls, o_as, o_iinc, o_kill, o_sw, o_ireturn, o_zreturn, o_nreturn, o_lreturn, o_areturn, o_return, o_athrow, o_call, entP, lg_sl, Value.category, st1, st2, List.set, List.getElem?_cons_zero, List.getElem?_cons_succ, List.foldl, popN, aft, o_gI, o_gR, o_pI, o_pN, o_pR, o_aI, o_aG, o_aR, o_len, o_aR8, o_sI, o_sB, o_sZ, o_sG, o_new, o_newA, o_cast, o_inst, o_cst, o_oi, o_sR, o_gIc, o_gSv, o_gSc, o_getc, o_dead, o_acopy, o_castA, o_castI, o_sR7, o_mna, o_mmax, o_mmin, o_mabs, q1.1]
    refine hv_get q1 hj ?_
    simp [o_ic, o_lc, o_null, o_il, o_ll, o_al, o_dup, o_pop, o_dup_x1, o_dup2, o_iadd, o_isub, o_imul, o_iand, o_ior, o_ixor, o_ishl, o_ishr, o_idiv, o_irem, o_ineg, o_ladd, o_lsub, o_lmul, o_land, o_lor, o_lxor, o_ldiv, o_lrem, o_lneg, o_lcmp, o_i2l, o_l2i, o_i2b, o_i2c, o_iushr, o_lshl, o_lshr, o_if_eq, o_if_ne, o_if_lt, o_if_ge, o_if_gt, o_if_le, o_icmp_eq, o_icmp_ne, o_icmp_lt, o_icmp_ge, o_icmp_gt, o_icmp_le, o_ifnull, o_ifnonnull, o_acmp_eq, o_acmp_ne, o_is, o_ls, o_as, o_iinc, o_kill, o_sw, o_ireturn, o_zreturn, o_nreturn, o_lreturn, o_areturn, o_return, o_athrow, o_call, entP, lg_sl, Value.category, st1, st2, List.set, List.getElem?_cons_zero, List.getElem?_cons_succ, List.foldl, popN, aft, o_gI, o_gR, o_pI, o_pN, o_pR, o_aI, o_aG, o_aR, o_len, o_aR8, o_sI, o_sB, o_sZ, o_sG, o_new, o_newA, o_cast, o_inst, o_cst, o_oi, o_sR, o_gIc, o_gSv, o_gSc, o_getc, o_dead, o_acopy, o_castA, o_castI, o_sR7, o_mna, o_mmax, o_mmin, o_mabs, t, C.tr, r1', va_rf]
    refine hv_size hP.ns ?_
    simp [o_ic, o_lc, o_null, o_il, o_ll, o_al, o_dup, o_pop, o_dup_x1, o_dup2, o_iadd, o_isub, o_imul, o_iand, o_ior, o_ixor, o_ishl, o_ishr, o_idiv, o_irem, o_ineg, o_ladd, o_lsub, o_lmul, o_land, o_lor, o_lxor, o_ldiv, o_lrem, o_lneg, o_lcmp, o_i2l, o_l2i, o_i2b, o_i2c, o_iushr, o_lshl, o_lshr, o_if_eq, o_if_ne, o_if_lt, o_if_ge, o_if_gt, o_if_le, o_icmp_eq, o_icmp_ne, o_icmp_lt, o_icmp_ge, o_icmp_gt, o_icmp_le, o_ifnull, o_ifnonnull, o_acmp_eq, o_acmp_ne, o_is, o_ls, o_as, o_iinc, o_kill, o_sw, o_ireturn, o_zreturn, o_nreturn, o_lreturn, o_areturn, o_return, o_athrow, o_call, entP, lg_sl, Value.category, st1, st2, List.set, List.getElem?_cons_zero, List.getElem?_cons_succ, List.foldl, popN, aft, o_gI, o_gR, o_pI, o_pN, o_pR, o_aI, o_aG, o_aR, o_len, o_aR8, o_sI, o_sB, o_sZ, o_sG, o_new, o_newA, o_cast, o_inst, o_cst, o_oi, o_sR, o_gIc, o_gSv, o_gSc, o_getc, o_dead, o_acopy, o_castA, o_castI, o_sR7, o_mna, o_mmax, o_mmin, o_mabs, hT_sI, hT_sR, hT_sG, hL_sI, hL_sR, hL_sG, hI_sI, hI_sR, hI_sG, hG_sI, hG_sR, hG_sG, hR_sI, hR_sR, hR_sG, hN_sI, hN_sR, hN_sG, hC_sI, hC_sR, hC_sG, hS_sI, hS_sR, hS_sG, hT_nw, hL_nw, hI_nw, hG_nw, hR_nw, hN_nw, hC_nw, hS_nw, hvc, hvi, dspI, vref, va_rf, t, C.tr, r1', va_rf, hP.ns.1]
    refine hP.step hk0 e2 e1 (by omega) (by have := hP.fr.C; omega) (by have := hP.fr.S; omega) (fun σ' hP' => ?_)
    simp [o_ic, o_lc, o_null, o_il, o_ll, o_al, o_dup, o_pop, o_dup_x1, o_dup2, o_iadd, o_isub, o_imul, o_iand, o_ior, o_ixor, o_ishl, o_ishr, o_idiv, o_irem, o_ineg, o_ladd, o_lsub, o_lmul, o_land, o_lor, o_lxor, o_ldiv, o_lrem, o_lneg, o_lcmp, o_i2l, o_l2i, o_i2b, o_i2c, o_iushr, o_lshl, o_lshr, o_if_eq, o_if_ne, o_if_lt, o_if_ge, o_if_gt, o_if_le, o_icmp_eq, o_icmp_ne, o_icmp_lt, o_icmp_ge, o_icmp_gt, o_icmp_le, o_ifnull, o_ifnonnull, o_acmp_eq, o_acmp_ne, o_is, o_ls, o_as, o_iinc, o_kill, o_sw, o_ireturn, o_zreturn, o_nreturn, o_lreturn, o_areturn, o_return, o_athrow, o_call, entP, lg_sl, Value.category, st1, st2, List.set, List.getElem?_cons_zero, List.getElem?_cons_succ, List.foldl, popN, aft, nn_succ]
    exact ih (j + 1) σ' (by omega) hP'
/-- all nodes are numbered -/
theorem cl_nums (w : WfR R) (hk0 : Hok κ σ0) (h0 : 0 < R.2.length) (r1 : 5000 ≤ hC σ0) (r2 : 30000 ≤ hS σ0) (hP : P1 κ σ0 σ r R wss A lo hi NX BF 0)
    (kk : ∀ σ', P1 κ σ0 σ' r R wss A lo hi NX BF R.1.length → bX4_close_89 κ Q [some (.ref r), some (.int (nn R.2.length)), none, none] [] σ') : pX4_close κ [.ref r] σ Q := by
  simp [pX4_close, bX4_close_0, o_ic, o_lc, o_null, o_il, o_ll, o_al, o_dup, o_pop, o_dup_x1, o_dup2, o_iadd, o_isub, o_imul, o_iand, o_ior, o_ixor, o_ishl, o_ishr, o_idiv, o_irem, o_ineg, o_ladd, o_lsub, o_lmul, o_land, o_lor, o_lxor, o_ldiv, o_lrem, o_lneg, o_lcmp, o_i2l, o_l2i, o_i2b, o_i2c, o_iushr, o_lshl, o_lshr, o_if_eq, o_if_ne, o_if_lt, o_if_ge, o_if_gt, o_if_le, o_icmp_eq, o_icmp_ne, o_icmp_lt, o_icmp_ge, o_icmp_gt, o_icmp_le, o_ifnull, o_ifnonnull, o_acmp_eq, o_acmp_ne, o_is, o_ls, o_as, o_iinc, o_kill, o_sw, o_ireturn, o_zreturn, o_nreturn, o_lreturn, o_areturn, o_return, o_athrow, o_call, entP, lg_sl, Value.category, st1, st2, List.set, List.getElem?_cons_zero, List.getElem?_cons_succ, List.foldl, popN, aft]
  unfold bX4_close_2
  intro X hX
  have hnb := w.2.1
  have hln := w.1
  have main : ∀ m b (σ : AH) k, b + m = R.2.length → k = (if b < R.2.length then fstN R.2 b else R.1.length) → P1 κ σ0 σ r R wss A lo hi NX BF k → X [some (.ref r), some (.int (nn b)), none, none] [] σ := by
    intro m
    induction m with
    | zero =>
      intro b σ k hb hk hP
      apply hX
      have C := hP.cs
      have r0 := C.rr 0 (by omega)
      have b1 : b < 2147483648 := by omega
      have b2 : wss.length < 2147483648 := by rw [C.wl]; omega
      have le : wss.length ≤ b := by rw [C.wl]; omega
      simp [o_ic, o_lc, o_null, o_il, o_ll, o_al, o_dup, o_pop, o_dup_x1, o_dup2, o_iadd, o_isub, o_imul, o_iand, o_ior, o_ixor, o_ishl, o_ishr, o_idiv, o_irem, o_ineg, o_ladd, o_lsub, o_lmul, o_land, o_lor, o_lxor, o_ldiv, o_lrem, o_lneg, o_lcmp, o_i2l, o_l2i, o_i2b, o_i2c, o_iushr, o_lshl, o_lshr, o_if_eq, o_if_ne, o_if_lt, o_if_ge, o_if_gt, o_if_le, o_icmp_eq, o_icmp_ne, o_icmp_lt, o_icmp_ge, o_icmp_gt, o_icmp_le, o_ifnull, o_ifnonnull, o_acmp_eq, o_acmp_ne, o_is, o_ls, o_as, o_iinc, o_kill, o_sw, o_ireturn, o_zreturn, o_nreturn, o_lreturn, o_areturn, o_return, o_athrow, o_call, entP, lg_sl, Value.category, st1, st2, List.set, List.getElem?_cons_zero, List.getElem?_cons_succ, List.foldl, popN, aft, o_gI, o_gR, o_pI, o_pN, o_pR, o_aI, o_aG, o_aR, o_len, o_aR8, o_sI, o_sB, o_sZ, o_sG, o_new, o_newA, o_cast, o_inst, o_cst, o_oi, o_sR, o_gIc, o_gSv, o_gSc, o_getc, o_dead, o_acopy, o_castA, o_castI, o_sR7, o_mna, o_mmax, o_mmin, o_mabs, C.tr, r0, va_rf]
      refine hv_size C.al ?_
      simp [o_ic, o_lc, o_null, o_il, o_ll, o_al, o_dup, o_pop, o_dup_x1, o_dup2, o_iadd, o_isub, o_imul, o_iand, o_ior, o_ixor, o_ishl, o_ishr, o_idiv, o_irem, o_ineg, o_ladd, o_lsub, o_lmul, o_land, o_lor, o_lxor, o_ldiv, o_lrem, o_lneg, o_lcmp, o_i2l, o_l2i, o_i2b, o_i2c, o_iushr, o_lshl, o_lshr, o_if_eq, o_if_ne, o_if_lt, o_if_ge, o_if_gt, o_if_le, o_icmp_eq, o_icmp_ne, o_icmp_lt, o_icmp_ge, o_icmp_gt, o_icmp_le, o_ifnull, o_ifnonnull, o_acmp_eq, o_acmp_ne, o_is, o_ls, o_as, o_iinc, o_kill, o_sw, o_ireturn, o_zreturn, o_nreturn, o_lreturn, o_areturn, o_return, o_athrow, o_call, entP, lg_sl, Value.category, st1, st2, List.set, List.getElem?_cons_zero, List.getElem?_cons_succ, List.foldl, popN, aft, o_gI, o_gR, o_pI, o_pN, o_pR, o_aI, o_aG, o_aR, o_len, o_aR8, o_sI, o_sB, o_sZ, o_sG, o_new, o_newA, o_cast, o_inst, o_cst, o_oi, o_sR, o_gIc, o_gSv, o_gSc, o_getc, o_dead, o_acopy, o_castA, o_castI, o_sR7, o_mna, o_mmax, o_mmin, o_mabs, nn_eqL, nn_ltL, nn_leL, nn_Llt, nn_Lle, nn_lt, nn_le, nn_eq, nn_in, nn_clamp, nn_succ, nn_pos, nn_neg1, b1, b2, le]
      rw [if_neg (by omega)] at hk
      rw [hk] at hP
      rw [show b = R.2.length by omega]
      exact kk σ hP
    | succ m ih =>
      intro b σ k hb hk hP
      apply hX
      have C := hP.cs
      have r0 := C.rr 0 (by omega)
      have b1 : b < 2147483648 := by omega
      have b2 : wss.length < 2147483648 := by rw [C.wl]; omega
      have nle : ¬ wss.length ≤ b := by rw [C.wl]; omega
      simp [o_ic, o_lc, o_null, o_il, o_ll, o_al, o_dup, o_pop, o_dup_x1, o_dup2, o_iadd, o_isub, o_imul, o_iand, o_ior, o_ixor, o_ishl, o_ishr, o_idiv, o_irem, o_ineg, o_ladd, o_lsub, o_lmul, o_land, o_lor, o_lxor, o_ldiv, o_lrem, o_lneg, o_lcmp, o_i2l, o_l2i, o_i2b, o_i2c, o_iushr, o_lshl, o_lshr, o_if_eq, o_if_ne, o_if_lt, o_if_ge, o_if_gt, o_if_le, o_icmp_eq, o_icmp_ne, o_icmp_lt, o_icmp_ge, o_icmp_gt, o_icmp_le, o_ifnull, o_ifnonnull, o_acmp_eq, o_acmp_ne, o_is, o_ls, o_as, o_iinc, o_kill, o_sw, o_ireturn, o_zreturn, o_nreturn, o_lreturn, o_areturn, o_return, o_athrow, o_call, entP, lg_sl, Value.category, st1, st2, List.set, List.getElem?_cons_zero, List.getElem?_cons_succ, List.foldl, popN, aft, o_gI, o_gR, o_pI, o_pN, o_pR, o_aI, o_aG, o_aR, o_len, o_aR8, o_sI, o_sB, o_sZ, o_sG, o_new, o_newA, o_cast, o_inst, o_cst, o_oi, o_sR, o_gIc, o_gSv, o_gSc, o_getc, o_dead, o_acopy, o_castA, o_castI, o_sR7, o_mna, o_mmax, o_mmin, o_mabs, C.tr, r0, va_rf]
      refine hv_size C.al ?_
      simp [o_ic, o_lc, o_null, o_il, o_ll, o_al, o_dup, o_pop, o_dup_x1, o_dup2, o_iadd, o_isub, o_imul, o_iand, o_ior, o_ixor, o_ishl, o_ishr, o_idiv, o_irem, o_ineg, o_ladd, o_lsub, o_lmul, o_land, o_lor, o_lxor, o_ldiv, o_lrem, o_lneg, o_lcmp, o_i2l, o_l2i, o_i2b, o_i2c, o_iushr, o_lshl, o_lshr, o_if_eq, o_if_ne, o_if_lt, o_if_ge, o_if_gt, o_if_le, o_icmp_eq, o_icmp_ne, o_icmp_lt, o_icmp_ge, o_icmp_gt, o_icmp_le, o_ifnull, o_ifnonnull, o_acmp_eq, o_acmp_ne, o_is, o_ls, o_as, o_iinc, o_kill, o_sw, o_ireturn, o_zreturn, o_nreturn, o_lreturn, o_areturn, o_return, o_athrow, o_call, entP, lg_sl, Value.category, st1, st2, List.set, List.getElem?_cons_zero, List.getElem?_cons_succ, List.foldl, popN, aft, o_gI, o_gR, o_pI, o_pN, o_pR, o_aI, o_aG, o_aR, o_len, o_aR8, o_sI, o_sB, o_sZ, o_sG, o_new, o_newA, o_cast, o_inst, o_cst, o_oi, o_sR, o_gIc, o_gSv, o_gSc, o_getc, o_dead, o_acopy, o_castA, o_castI, o_sR7, o_mna, o_mmax, o_mmin, o_mabs, nn_eqL, nn_ltL, nn_leL, nn_Llt, nn_Lle, nn_lt, nn_le, nn_eq, nn_in, nn_clamp, nn_succ, nn_pos, nn_neg1, b1, b2, nle]
      rw [if_pos (by omega)] at hk
      rw [hk] at hP
      refine cl_num w hk0 (by omega) r1 r2 (nxtN R b - fstN R.2 b) 0 σ (by omega) hP (fun σ' hP' => ?_)
      refine ih (b + 1) σ' _ (by omega) ?_ hP'
      unfold nxtN
      rfl
  refine main R.2.length 0 σ 0 (by omega) ?_ hP
  rw [if_pos h0, w.2.2.2.1 h0]
end P1s
