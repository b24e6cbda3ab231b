/-! THE COMPONENT: nodes that are joined -/
set_option maxRecDepth 100000
/-- edges: from, to -/
abbrev Edg : Type := List (Nat × Nat)
def outE (E : Edg) (k : Nat) : List Nat := E.filterMap (fun e => if e.1 = k then some e.2 else none)
def inE (E : Edg) (j : Nat) : List Nat := E.filterMap (fun e => if e.2 = j then some e.1 else none)
theorem outE_snoc (E : Edg) (a b k : Nat) : outE (E ++ [(a, b)]) k = if a = k then outE E k ++ [b] else outE E k := by
  unfold outE
  rw [List.filterMap_append]
  by_cases h : a = k
  · simp [h]
  · simp [h]
theorem inE_snoc (E : Edg) (a b k : Nat) : inE (E ++ [(a, b)]) k = if b = k then inE E k ++ [a] else inE E k := by
  unfold inE
  rw [List.filterMap_append]
  by_cases h : b = k
  · simp [h]
  · simp [h]
/-- the nodes m so far: their objects, where they lie, their lists, the edges -/
def CS (κ : Nat → Option Nat) (σ : AH) (r : Nat) (R : Rt) (wss : List (Nat × List Nat)) (m : Nat) (A lo hi NX BF : Nat → Nat) (E : Edg) : Prop := (Hok κ σ) ∧ (hT σ r = 4) ∧ (∀ i, i < 4 → hR σ r i = some (r + 1 + i)) ∧ (AL κ σ (r + 1) (wss.map (·.1))) ∧ (wss.length = R.2.length) ∧ (∀ (b : Nat) (w : Nat × List Nat), wss[b]? = some w → AL κ σ w.1 w.2 ∧ r + 8 ≤ w.1 ∧ w.2.length = nxtN R b - fstN R.2 b ∧ (∀ j, j < w.2.length → w.2[j]? = some (A (fstN R.2 b + j))) ∧ ∀ k, k < m → ¬ (lo k ≤ w.1 ∧ w.1 < hi k)) ∧ (∀ i j, i < j → j < m → hi i ≤ lo j) ∧ (∀ k, k < m → r + 8 ≤ lo k ∧ lo k ≤ A k ∧ A k < hi k ∧ lo k ≤ NX k ∧ NX k < hi k ∧ lo k ≤ BF k ∧ BF k < hi k ∧ NX k ≠ BF k ∧ hi k ≤ hN σ) ∧ (∀ k, k < m → (7 ≤ hT σ (A k) ∧ hT σ (A k) ≤ 14) ∧ hR σ (A k) 2 = some (NX k) ∧ hR σ (A k) 3 = some (BF k) ∧ AL κ σ (NX k) ((outE E k).map A) ∧ AL κ σ (BF k) ((inE E k).map A))
theorem CS.ok {κ : Nat → Option Nat} {σ : AH} {r : Nat} {R : Rt} {wss : List (Nat × List Nat)} {m : Nat} {A lo hi NX BF : Nat → Nat} {E : Edg} (h : CS κ σ r R wss m A lo hi NX BF E) : Hok κ σ := h.1
theorem CS.tr {κ : Nat → Option Nat} {σ : AH} {r : Nat} {R : Rt} {wss : List (Nat × List Nat)} {m : Nat} {A lo hi NX BF : Nat → Nat} {E : Edg} (h : CS κ σ r R wss m A lo hi NX BF E) : hT σ r = 4 := h.2.1
theorem CS.rr {κ : Nat → Option Nat} {σ : AH} {r : Nat} {R : Rt} {wss : List (Nat × List Nat)} {m : Nat} {A lo hi NX BF : Nat → Nat} {E : Edg} (h : CS κ σ r R wss m A lo hi NX BF E) : ∀ i, i < 4 → hR σ r i = some (r + 1 + i) := h.2.2.1
theorem CS.al {κ : Nat → Option Nat} {σ : AH} {r : Nat} {R : Rt} {wss : List (Nat × List Nat)} {m : Nat} {A lo hi NX BF : Nat → Nat} {E : Edg} (h : CS κ σ r R wss m A lo hi NX BF E) : AL κ σ (r + 1) (wss.map (·.1)) := h.2.2.2.1
theorem CS.wl {κ : Nat → Option Nat} {σ : AH} {r : Nat} {R : Rt} {wss : List (Nat × List Nat)} {m : Nat} {A lo hi NX BF : Nat → Nat} {E : Edg} (h : CS κ σ r R wss m A lo hi NX BF E) : wss.length = R.2.length := h.2.2.2.2.1
theorem CS.rows {κ : Nat → Option Nat} {σ : AH} {r : Nat} {R : Rt} {wss : List (Nat × List Nat)} {m : Nat} {A lo hi NX BF : Nat → Nat} {E : Edg} (h : CS κ σ r R wss m A lo hi NX BF E) : ∀ (b : Nat) (w : Nat × List Nat), wss[b]? = some w → AL κ σ w.1 w.2 ∧ r + 8 ≤ w.1 ∧ w.2.length = nxtN R b - fstN R.2 b ∧ (∀ j, j < w.2.length → w.2[j]? = some (A (fstN R.2 b + j))) ∧ ∀ k, k < m → ¬ (lo k ≤ w.1 ∧ w.1 < hi k) := h.2.2.2.2.2.1
theorem CS.ch {κ : Nat → Option Nat} {σ : AH} {r : Nat} {R : Rt} {wss : List (Nat × List Nat)} {m : Nat} {A lo hi NX BF : Nat → Nat} {E : Edg} (h : CS κ σ r R wss m A lo hi NX BF E) : ∀ i j, i < j → j < m → hi i ≤ lo j := h.2.2.2.2.2.2.1
theorem CS.iv {κ : Nat → Option Nat} {σ : AH} {r : Nat} {R : Rt} {wss : List (Nat × List Nat)} {m : Nat} {A lo hi NX BF : Nat → Nat} {E : Edg} (h : CS κ σ r R wss m A lo hi NX BF E) : ∀ k, k < m → r + 8 ≤ lo k ∧ lo k ≤ A k ∧ A k < hi k ∧ lo k ≤ NX k ∧ NX k < hi k ∧ lo k ≤ BF k ∧ BF k < hi k ∧ NX k ≠ BF k ∧ hi k ≤ hN σ := h.2.2.2.2.2.2.2.1
theorem CS.nd {κ : Nat → Option Nat} {σ : AH} {r : Nat} {R : Rt} {wss : List (Nat × List Nat)} {m : Nat} {A lo hi NX BF : Nat → Nat} {E : Edg} (h : CS κ σ r R wss m A lo hi NX BF E) : ∀ k, k < m → (7 ≤ hT σ (A k) ∧ hT σ (A k) ≤ 14) ∧ hR σ (A k) 2 = some (NX k) ∧ hR σ (A k) 3 = some (BF k) ∧ AL κ σ (NX k) ((outE E k).map A) ∧ AL κ σ (BF k) ((inE E k).map A) := h.2.2.2.2.2.2.2.2
section CSs
variable {κ : Nat → Option Nat} {Q : Ret AH} {σ σ' : AH} {r m : Nat} {R : Rt} {wss : List (Nat × List Nat)} {A lo hi NX BF : Nat → Nat} {E : Edg} {c s : Nat} {M MR : Nat → Prop}
theorem CS.ne {i j : Nat} (h : CS κ σ r R wss m A lo hi NX BF E) (hi' : i < m) (hj : j < m) {x y : Nat} (hx : lo i ≤ x ∧ x < hi i) (hy : lo j ≤ y ∧ y < hi j) (hn : i ≠ j) : x ≠ y := by
  by_cases q : i < j
  · have := h.ch i j q hj; omega
  · have := h.ch j i (by omega) hi'; omega
theorem CS.nx_inj (h : CS κ σ r R wss m A lo hi NX BF E) {i j : Nat} (hi' : i < m) (hj : j < m) (e : NX i = NX j) : i = j := Classical.byContradiction fun q => h.ne hi' hj (x := NX i) (y := NX j) ⟨(h.iv i hi').2.2.2.1, (h.iv i hi').2.2.2.2.1⟩ ⟨(h.iv j hj).2.2.2.1, (h.iv j hj).2.2.2.2.1⟩ q e
theorem CS.bf_inj (h : CS κ σ r R wss m A lo hi NX BF E) {i j : Nat} (hi' : i < m) (hj : j < m) (e : BF i = BF j) : i = j := Classical.byContradiction fun q => h.ne hi' hj (x := BF i) (y := BF j) ⟨(h.iv i hi').2.2.2.2.2.1, (h.iv i hi').2.2.2.2.2.2.1⟩ ⟨(h.iv j hj).2.2.2.2.2.1, (h.iv j hj).2.2.2.2.2.2.1⟩ q e
theorem CS.a_inj (h : CS κ σ r R wss m A lo hi NX BF E) {i j : Nat} (hi' : i < m) (hj : j < m) (e : A i = A j) : i = j := Classical.byContradiction fun q => h.ne hi' hj (x := A i) (y := A j) ⟨(h.iv i hi').2.1, (h.iv i hi').2.2.1⟩ ⟨(h.iv j hj).2.1, (h.iv j hj).2.2.1⟩ q e
theorem CS.nb (h : CS κ σ r R wss m A lo hi NX BF E) {i j : Nat} (hi' : i < m) (hj : j < m) : NX i ≠ BF j := by
  intro e
  by_cases q : i = j
  · subst q; exact (h.iv i hi').2.2.2.2.2.2.2.1 e
  · exact h.ne hi' hj (x := NX i) (y := BF j) ⟨(h.iv i hi').2.2.2.1, (h.iv i hi').2.2.2.2.1⟩ ⟨(h.iv j hj).2.2.2.2.2.1, (h.iv j hj).2.2.2.2.2.2.1⟩ q e
/-- what touches no list of nodes -/
theorem CS.fr (h : CS κ σ r R wss m A lo hi NX BF E) (F : HL κ M MR c s σ σ') (m1 : ¬ M (r + 1)) (m0 : ¬ MR r) (mw : ∀ (b : Nat) (w : Nat × List Nat), wss[b]? = some w → ¬ M w.1) (mn : ∀ k, k < m → ¬ M (NX k) ∧ ¬ M (BF k)) (ma : ∀ k, k < m → ¬ MR (A k)) : CS κ σ' r R wss m A lo hi NX BF E := by
  refine ⟨F.ok, F.tg h.ok h.tr (by decide), fun i hi' => (F.ref h.ok h.tr (by decide) m0 i).trans (h.rr i hi'), F.al h.al m1, h.wl, fun b w hb => ⟨F.al (h.rows b w hb).1 (mw b w hb), (h.rows b w hb).2⟩, h.ch, fun k hk => by have := h.iv k hk; have := F.lt; omega, fun k hk => ?_⟩
  · skip
    obtain ⟨⟨t1, t2⟩, e2, e3, a1, a2⟩ := h.nd k hk
    have tg := F.tag h.ok (a := A k) (by omega)
    refine ⟨by rw [tg]; exact ⟨t1, t2⟩, ?_, ?_, F.al a1 (mn k hk).1, F.al a2 (mn k hk).2⟩
    · rw [F.ref h.ok rfl (by omega) (ma k hk) 2]; exact e2
    · rw [F.ref h.ok rfl (by omega) (ma k hk) 3]; exact e3
theorem CS.row_ne (h : CS κ σ r R wss m A lo hi NX BF E) {b k : Nat} {w : Nat × List Nat} (hb : wss[b]? = some w) (hk : k < m) : w.1 ≠ NX k ∧ w.1 ≠ BF k := by
  have h1 := (h.rows b w hb).2.2.2.2 k hk
  have h2 := h.iv k hk
  omega
theorem ct_leadsTo {k j : Nat} (h : CS κ σ r R wss m A lo hi NX BF E) (hk : k < m) (hj : j < m) (l1 : (outE E k).length < 600) (l2 : (inE E j).length < 600) (r1 : 2 ≤ hC σ) (r2 : 20 + 2 * (outE E k).length + 2 * (inE E j).length ≤ hS σ)
    (kk : ∀ σ', HL κ (fun b => b = NX k ∨ b = BF j) NoM 2 (20 + 2 * (outE E k).length + 2 * (inE E j).length) σ σ' → CS κ σ' r R wss m A lo hi NX BF (E ++ [(k, j)]) → Q (.inl none) σ') : pX6_leadsTo κ [.ref (A k), .ref (A j)] σ Q := by
  obtain ⟨⟨t1, t2⟩, e2, e3, a1, a2⟩ := h.nd k hk
  obtain ⟨⟨u1, u2⟩, f2, f3, b1, b2⟩ := h.nd j hj
  have ht : hT σ (A k) = 7 ∨ hT σ (A k) = 8 ∨ hT σ (A k) = 9 ∨ hT σ (A k) = 10 ∨ hT σ (A k) = 11 ∨ hT σ (A k) = 12 ∨ hT σ (A k) = 13 ∨ hT σ (A k) = 14 := by omega
  have hjo : hT σ (A j) ∈ objTs ++ [60] := by simp [objTs]; omega
  simp [pX6_leadsTo, bX6_leadsTo_0, o_ic, o_lc, o_null, o_il, o_ll, o_al, o_dup, o_pop, o_dup_x1, o_dup2, o_iadd, o_isub, o_imul, o_iand, o_ior, o_ixor, o_ishl, o_ishr, o_idiv, o_irem, o_ineg, o_ladd, o_lsub, o_lmul, o_land, o_lor, o_lxor, o_ldiv, o_lrem, o_lneg, o_lcmp, o_i2l, o_l2i, o_i2b, o_i2c, o_iushr, o_lshl, o_lshr, o_if_eq, o_if_ne, o_if_lt, o_if_ge, o_if_gt, o_if_le, o_icmp_eq, o_icmp_ne, o_icmp_lt, o_icmp_ge, o_icmp_gt, o_icmp_le, o_ifnull, o_ifnonnull, o_acmp_eq, o_acmp_ne, o_is, o_ls, o_as, o_iinc, o_kill, o_sw, o_ireturn, o_zreturn, o_nreturn, o_lreturn, o_areturn, o_return, o_athrow, o_call, entP, lg_sl, Value.category, st1, st2, List.set, List.getElem?_cons_zero, List.getElem?_cons_succ, List.foldl, popN, aft, o_gI, o_gR, o_pI, o_pN, o_pR, o_aI, o_aG, o_aR, o_len, o_aR8, o_sI, o_sB, o_sZ, o_sG, o_new, o_newA, o_cast, o_inst, o_cst, o_oi, o_sR, o_gIc, o_gSv, o_gSc, o_getc, o_dead, o_acopy, o_castA, o_castI, o_sR7, o_mna, o_mmax, o_mmin, o_mabs, hT_sI, hT_sR, hT_sG, hL_sI, hL_sR, hL_sG, hI_sI, hI_sR, hI_sG, hG_sI, hG_sR, hG_sG, hR_sI, hR_sR, hR_sG, hN_sI, hN_sR, hN_sG, hC_sI, hC_sR, hC_sG, hS_sI, hS_sR, hS_sG, hT_nw, hL_nw, hI_nw, hG_nw, hR_nw, hN_nw, hC_nw, hS_nw, hvc, hvi, dspI, vref, va_rf, ht, e2, a1.1]
  refine cq_add h.ok a1 hjo (by simpa using l1) (by omega) (by simp only [List.length_map]; omega) (fun σ1 k1 f1 A1 => ?_)
  simp only [List.length_map] at f1
  have F1 := HL.ofAdd f1 h.ok k1 a1
  have nkb : BF j ≠ NX k := fun q => h.nb hk hj q.symm
  have B1 : AL κ σ1 (BF j) ((inE E j).map A) := F1.al b2 nkb
  have T1 : hT σ1 (A j) = hT σ (A j) := F1.tag h.ok (by omega)
  have T1k : hT σ1 (A k) = hT σ (A k) := F1.tag h.ok (by omega)
  have ht1 : hT σ1 (A j) = 7 ∨ hT σ1 (A j) = 8 ∨ hT σ1 (A j) = 9 ∨ hT σ1 (A j) = 10 ∨ hT σ1 (A j) = 11 ∨ hT σ1 (A j) = 12 ∨ hT σ1 (A j) = 13 ∨ hT σ1 (A j) = 14 := by omega
  have g3 : hR σ1 (A j) 3 = some (BF j) := by rw [F1.ref h.ok rfl (by omega) id 3]; exact f3
  have hko : hT σ1 (A k) ∈ objTs ++ [60] := by simp [objTs]; omega
  simp [o_ic, o_lc, o_null, o_il, o_ll, o_al, o_dup, o_pop, o_dup_x1, o_dup2, o_iadd, o_isub, o_imul, o_iand, o_ior, o_ixor, o_ishl, o_ishr, o_idiv, o_irem, o_ineg, o_ladd, o_lsub, o_lmul, o_land, o_lor, o_lxor, o_ldiv, o_lrem, o_lneg, o_lcmp, o_i2l, o_l2i, o_i2b, o_i2c, o_iushr, o_lshl, o_lshr, o_if_eq, o_if_ne, o_if_lt, o_if_ge, o_if_gt, o_if_le, o_icmp_eq, o_icmp_ne, o_icmp_lt, o_icmp_ge, o_icmp_gt, o_icmp_le, o_ifnull, o_ifnonnull, o_acmp_eq, o_acmp_ne, o_is, o_ls, o_as, o_iinc, o_kill, o_sw, o_ireturn, o_zreturn, o_nreturn, o_lreturn, o_areturn, o_return, o_athrow, o_call, entP, lg_sl, Value.category, st1, st2, List.set, List.getElem?_cons_zero, List.getElem?_cons_succ, List.foldl, popN, aft, o_gI, o_gR, o_pI, o_pN, o_pR, o_aI, o_aG, o_aR, o_len, o_aR8, o_sI, o_sB, o_sZ, o_sG, o_new, o_newA, o_cast, o_inst, o_cst, o_oi, o_sR, o_gIc, o_gSv, o_gSc, o_getc, o_dead, o_acopy, o_castA, o_castI, o_sR7, o_mna, o_mmax, o_mmin, o_mabs, hT_sI, hT_sR, hT_sG, hL_sI, hL_sR, hL_sG, hI_sI, hI_sR, hI_sG, hG_sI, hG_sR, hG_sG, hR_sI, hR_sR, hR_sG, hN_sI, hN_sR, hN_sG, hC_sI, hC_sR, hC_sG, hS_sI, hS_sR, hS_sG, hT_nw, hL_nw, hI_nw, hG_nw, hR_nw, hN_nw, hC_nw, hS_nw, hvc, hvi, dspI, vref, va_rf, ht1, g3, B1.1]
  refine cq_add k1 B1 hko (by simpa using l2) (by have := F1.C; omega) (by simp only [List.length_map]; have := F1.S; omega) (fun σ2 k2 f2 A2 => ?_)
  simp only [List.length_map] at f2
  have F2 := HL.ofAdd f2 k1 k2 B1
  simp [o_ic, o_lc, o_null, o_il, o_ll, o_al, o_dup, o_pop, o_dup_x1, o_dup2, o_iadd, o_isub, o_imul, o_iand, o_ior, o_ixor, o_ishl, o_ishr, o_idiv, o_irem, o_ineg, o_ladd, o_lsub, o_lmul, o_land, o_lor, o_lxor, o_ldiv, o_lrem, o_lneg, o_lcmp, o_i2l, o_l2i, o_i2b, o_i2c, o_iushr, o_lshl, o_lshr, o_if_eq, o_if_ne, o_if_lt, o_if_ge, o_if_gt, o_if_le, o_icmp_eq, o_icmp_ne, o_icmp_lt, o_icmp_ge, o_icmp_gt, o_icmp_le, o_ifnull, o_ifnonnull, o_acmp_eq, o_acmp_ne, o_is, o_ls, o_as, o_iinc, o_kill, o_sw, o_ireturn, o_zreturn, o_nreturn, o_lreturn, o_areturn, o_return, o_athrow, o_call, entP, lg_sl, Value.category, st1, st2, List.set, List.getElem?_cons_zero, List.getElem?_cons_succ, List.foldl, popN, aft]
  have F : HL κ (fun b => b = NX k ∨ b = BF j) NoM 2 (20 + 2 * (outE E k).length + 2 * (inE E j).length) σ σ2 := ((F1.imp (M' := fun b => b = NX k ∨ b = BF j) (fun _ z => Or.inl z) (fun _ z => z)).trans (F2.imp (fun _ z => Or.inr z) (fun _ z => z))).up (by omega) (by omega)
  refine kk σ2 F ⟨k2, F.tg h.ok h.tr (by decide), fun i hi' => (F.ref h.ok h.tr (by decide) id i).trans (h.rr i hi'), F.al h.al ?_, h.wl, fun b w hb => ⟨F.al (h.rows b w hb).1 ?_, (h.rows b w hb).2⟩, h.ch, fun i hi' => by have := h.iv i hi'; have := F.lt; omega, fun i hi' => ?_⟩
  · have := h.iv k hk; have := h.iv j hj
    intro q; rcases q with q | q <;> omega
  · have q1 := h.row_ne hb hk; have q2 := h.row_ne hb hj
    intro q; rcases q with q | q <;> omega
  · obtain ⟨⟨v1, v2⟩, w2, w3, c1, c2⟩ := h.nd i hi'
    have tg := F.tag h.ok (a := A i) (by omega)
    refine ⟨by rw [tg]; exact ⟨v1, v2⟩, ?_, ?_, ?_, ?_⟩
    · rw [F.ref h.ok rfl (by omega) id 2]; exact w2
    · rw [F.ref h.ok rfl (by omega) id 3]; exact w3
    · rw [outE_snoc]
      by_cases q : k = i
      · subst q
        rw [if_pos rfl, List.map_append]
        exact F2.al A1 (fun z => nkb z.symm)
      · rw [if_neg q]
        exact F2.al (F1.al c1 (fun z => q (h.nx_inj hi' hk z).symm)) (fun z => h.nb hi' hj z)
    · rw [inE_snoc]
      by_cases q : j = i
      · subst q
        rw [if_pos rfl, List.map_append]
        exact A2
      · rw [if_neg q]
        exact F2.al (F1.al c2 (fun z => h.nb hk hi' z.symm)) (fun z => q (h.bf_inj hi' hj z).symm)
end CSs
section LT
variable {κ : Nat → Option Nat} {σ σ' : AH} {c s lo hi : Nat} {M : Nat → Prop} {a : Nat}
theorem OpdI.ls {o : Opd} (h : OpdI σ a o lo hi) (hk : Hok κ σ) (F : HL κ M NoM c s σ σ') (hm : ∀ b, M b → hT σ b = 19) : OpdI σ' a o lo hi := ⟨h.1, h.2.1, h.2.2.hl hk F (fun z => by have := hm a z; have := h.2.2.1; omega)⟩
theorem SumI.ls {x : Sm} (h : SumI σ a x lo hi) (hk : Hok κ σ) (F : HL κ M NoM c s σ σ') (hm : ∀ b, M b → hT σ b = 19) : SumI σ' a x lo hi := by
  obtain ⟨h1, h2, h3⟩ := h
  refine ⟨h1, h2, ?_⟩
  rcases h3 with ⟨t, i1, i2, u, v, r1, r2, o1, o2⟩ | ⟨t, i1, i2, v, r1, o1⟩
  · have m1 : ¬ M a := fun z => by have := hm a z; omega
    exact Or.inl ⟨F.tg hk t (by decide), (F.int hk t (by decide) m1 1).trans i1, i2, u, v, (F.ref hk t (by decide) id 2).trans r1, (F.ref hk t (by decide) id 3).trans r2, o1.ls hk F hm, o2.ls hk F hm⟩
  · have m1 : ¬ M a := fun z => by have := hm a z; omega
    exact Or.inr ⟨F.tg hk t (by decide), i1, by rw [F.int hk t (by decide) m1 1]; exact i2, v, (F.ref hk t (by decide) id 2).trans r1, o1.ls hk F hm⟩
theorem ItmF.ls {it : Itm} (h : ItmF σ a it lo hi) (hk : Hok κ σ) (F : HL κ M NoM c s σ σ') (hm : ∀ b, M b → hT σ b = 19) : ItmF σ' a it lo hi := by
  obtain ⟨h0, t, g1, g2, g3, g4, g5, g6, g7⟩ := h
  have t0 : 7 + it.1 ≠ 0 ∧ 7 + it.1 ≠ 19 ∧ 7 + it.1 ≠ 104 := by omega
  have m1 : ¬ M a := fun z => by have := hm a z; omega
  have gi := fun j => F.int hk t t0 m1 j
  have gr := fun j => F.ref hk t t0 id j
  refine ⟨h0, F.tg hk t t0.1, fun q => (gi 4).trans (g1 q), fun q => ?_, fun q => ?_, fun q => ?_, fun q => ?_, fun q => ?_, fun q => ?_⟩
  · obtain ⟨u, x, e1, e2, e3⟩ := g2 q
    exact ⟨u, x, e1, (gr 5).trans e2, e3.ls hk F hm⟩
  · obtain ⟨x, e1, e2⟩ := g3 q
    exact ⟨x, (gr 5).trans e1, e2.ls hk F hm⟩
  · obtain ⟨e0, x, y, e1, e2, e3, e4⟩ := g4 q
    exact ⟨(gi 4).trans e0, x, y, (gr 5).trans e1, (gr 6).trans e2, e3.ls hk F hm, e4.ls hk F hm⟩
  · obtain ⟨x, e1, e2⟩ := g5 q
    exact ⟨x, (gr 4).trans e1, e2.ls hk F hm⟩
  · obtain ⟨t', e1, e2⟩ := g6 q
    exact ⟨t', e1, (gi 4).trans e2⟩
  · obtain ⟨⟨x, y, e1, e2, e3, e4⟩, t', u, e5, e6, e7⟩ := g7 q
    exact ⟨⟨x, y, (gr 4).trans e1, (gr 5).trans e2, e3.ls hk F hm, e4.ls hk F hm⟩, t', u, e5, (gi 6).trans e6, (gi 7).trans e7⟩
end LT
