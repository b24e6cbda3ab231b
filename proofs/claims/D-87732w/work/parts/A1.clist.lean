/-! THE COMPONENT's lists -/
set_option maxRecDepth 100000
theorem AL.len {κ : Nat → Option Nat} {σ : AH} {a : Nat} {l : List Nat} (h : AL κ σ a l) : l.length ≤ 1000 := by
  obtain ⟨h1, h2, h3, d, h4, h5⟩ := h
  rcases h5 with ⟨rfl, -⟩ | ⟨k1, k2, k3, k4, k5⟩
  · simp
  · omega
theorem cq_size {κ : Nat → Option Nat} {Q : Ret AH} {σ : AH} {a : Nat} {l : List Nat} (h : AL κ σ a l) (k : Q (.inl (some (.int (nn l.length)))) σ) : pJ2_size κ [.ref a] σ Q := by
  obtain ⟨h1, h2, h3, d, h4, h5⟩ := h
  simp [pJ2_size, bJ2_size_0, o_ic, o_lc, o_null, o_il, o_ll, o_al, o_dup, o_pop, o_dup_x1, o_dup2, o_iadd, o_isub, o_imul, o_iand, o_ior, o_ixor, o_ishl, o_ishr, o_idiv, o_irem, o_ineg, o_ladd, o_lsub, o_lmul, o_land, o_lor, o_lxor, o_ldiv, o_lrem, o_lneg, o_lcmp, o_i2l, o_l2i, o_i2b, o_i2c, o_iushr, o_lshl, o_lshr, o_if_eq, o_if_ne, o_if_lt, o_if_ge, o_if_gt, o_if_le, o_icmp_eq, o_icmp_ne, o_icmp_lt, o_icmp_ge, o_icmp_gt, o_icmp_le, o_ifnull, o_ifnonnull, o_acmp_eq, o_acmp_ne, o_is, o_ls, o_as, o_iinc, o_kill, o_sw, o_ireturn, o_zreturn, o_nreturn, o_lreturn, o_areturn, o_return, o_athrow, o_call, entP, lg_sl, Value.category, st1, st2, List.set, List.getElem?_cons_zero, List.getElem?_cons_succ, List.foldl, popN, aft, o_gI, o_gR, o_pI, o_pN, o_pR, o_aI, o_aG, o_aR, o_len, o_aR8, o_sI, o_sB, o_sZ, o_sG, o_new, o_newA, o_cast, o_inst, o_cst, o_oi, o_sR, o_gIc, o_gSv, o_gSc, o_getc, o_dead, o_acopy, o_castA, o_castI, o_sR7, o_mna, o_mmax, o_mmin, o_mabs, hT_sI, hT_sR, hT_sG, hL_sI, hL_sR, hL_sG, hI_sI, hI_sR, hI_sG, hG_sI, hG_sR, hG_sG, hR_sI, hR_sR, hR_sG, hN_sI, hN_sR, hN_sG, hC_sI, hC_sR, hC_sG, hS_sI, hS_sR, hS_sG, hT_nw, hL_nw, hI_nw, hG_nw, hR_nw, hN_nw, hC_nw, hS_nw, hvc, hvi, dspI, vref, va_rf, h1, h2]
  exact k
theorem cq_checkIndex {κ : Nat → Option Nat} {Q : Ret AH} {σ : AH} {i n : Nat} (hi : i < n) (hn : n < 2147483648) (k : Q (.inl (some (.int (nn i)))) σ) : pJ16_checkIndex κ [.int (nn i), .int (nn n)] σ Q := by
  have b1 : i < 2147483648 := by omega
  simp [pJ16_checkIndex, bJ16_checkIndex_0, pJ7_checkIndex, bJ7_checkIndex_9, bJ7_checkIndex_16, bJ7_checkIndex_0, o_ic, o_lc, o_null, o_il, o_ll, o_al, o_dup, o_pop, o_dup_x1, o_dup2, o_iadd, o_isub, o_imul, o_iand, o_ior, o_ixor, o_ishl, o_ishr, o_idiv, o_irem, o_ineg, o_ladd, o_lsub, o_lmul, o_land, o_lor, o_lxor, o_ldiv, o_lrem, o_lneg, o_lcmp, o_i2l, o_l2i, o_i2b, o_i2c, o_iushr, o_lshl, o_lshr, o_if_eq, o_if_ne, o_if_lt, o_if_ge, o_if_gt, o_if_le, o_icmp_eq, o_icmp_ne, o_icmp_lt, o_icmp_ge, o_icmp_gt, o_icmp_le, o_ifnull, o_ifnonnull, o_acmp_eq, o_acmp_ne, o_is, o_ls, o_as, o_iinc, o_kill, o_sw, o_ireturn, o_zreturn, o_nreturn, o_lreturn, o_areturn, o_return, o_athrow, o_call, entP, lg_sl, Value.category, st1, st2, List.set, List.getElem?_cons_zero, List.getElem?_cons_succ, List.foldl, popN, aft, o_gI, o_gR, o_pI, o_pN, o_pR, o_aI, o_aG, o_aR, o_len, o_aR8, o_sI, o_sB, o_sZ, o_sG, o_new, o_newA, o_cast, o_inst, o_cst, o_oi, o_sR, o_gIc, o_gSv, o_gSc, o_getc, o_dead, o_acopy, o_castA, o_castI, o_sR7, o_mna, o_mmax, o_mmin, o_mabs, hT_sI, hT_sR, hT_sG, hL_sI, hL_sR, hL_sG, hI_sI, hI_sR, hI_sG, hG_sI, hG_sR, hG_sG, hR_sI, hR_sR, hR_sG, hN_sI, hN_sR, hN_sG, hC_sI, hC_sR, hC_sG, hS_sI, hS_sR, hS_sG, hT_nw, hL_nw, hI_nw, hG_nw, hR_nw, hN_nw, hC_nw, hS_nw, hvc, hvi, dspI, vref, va_rf, nn_eqL, nn_ltL, nn_leL, nn_Llt, nn_Lle, nn_lt, nn_le, nn_eq, nn_in, nn_clamp, nn_succ, nn_pos, nn_neg1, b1, hn, hi]
  exact k
theorem cq_get {κ : Nat → Option Nat} {Q : Ret AH} {σ : AH} {a i x : Nat} {l : List Nat} (h : AL κ σ a l) (hx : l[i]? = some x) (k : Q (.inl (some (.ref x))) σ) : pJ2_get κ [.ref a, .int (nn i)] σ Q := by
  have hlen := h.len
  have hi := (List.getElem?_eq_some_iff.1 hx).1
  obtain ⟨h1, h2, h3, d, h4, h5⟩ := h
  have b1 : i < 2147483648 := by omega
  rcases h5 with ⟨rfl, -⟩ | ⟨k1, k2, k3, k4, k5⟩
  · simp at hx
  · have b2 : i < hL σ d := by omega
    simp [pJ2_get, bJ2_get_0, o_ic, o_lc, o_null, o_il, o_ll, o_al, o_dup, o_pop, o_dup_x1, o_dup2, o_iadd, o_isub, o_imul, o_iand, o_ior, o_ixor, o_ishl, o_ishr, o_idiv, o_irem, o_ineg, o_ladd, o_lsub, o_lmul, o_land, o_lor, o_lxor, o_ldiv, o_lrem, o_lneg, o_lcmp, o_i2l, o_l2i, o_i2b, o_i2c, o_iushr, o_lshl, o_lshr, o_if_eq, o_if_ne, o_if_lt, o_if_ge, o_if_gt, o_if_le, o_icmp_eq, o_icmp_ne, o_icmp_lt, o_icmp_ge, o_icmp_gt, o_icmp_le, o_ifnull, o_ifnonnull, o_acmp_eq, o_acmp_ne, o_is, o_ls, o_as, o_iinc, o_kill, o_sw, o_ireturn, o_zreturn, o_nreturn, o_lreturn, o_areturn, o_return, o_athrow, o_call, entP, lg_sl, Value.category, st1, st2, List.set, List.getElem?_cons_zero, List.getElem?_cons_succ, List.foldl, popN, aft, o_gI, o_gR, o_pI, o_pN, o_pR, o_aI, o_aG, o_aR, o_len, o_aR8, o_sI, o_sB, o_sZ, o_sG, o_new, o_newA, o_cast, o_inst, o_cst, o_oi, o_sR, o_gIc, o_gSv, o_gSc, o_getc, o_dead, o_acopy, o_castA, o_castI, o_sR7, o_mna, o_mmax, o_mmin, o_mabs, hT_sI, hT_sR, hT_sG, hL_sI, hL_sR, hL_sG, hI_sI, hI_sR, hI_sG, hG_sI, hG_sR, hG_sG, hR_sI, hR_sR, hR_sG, hN_sI, hN_sR, hN_sG, hC_sI, hC_sR, hC_sG, hS_sI, hS_sR, hS_sG, hT_nw, hL_nw, hI_nw, hG_nw, hR_nw, hN_nw, hC_nw, hS_nw, hvc, hvi, dspI, vref, va_rf, h1, h2]
    refine cq_checkIndex hi (by omega) ?_
    simp [pJ2_elementData, bJ2_elementData_0, o_ic, o_lc, o_null, o_il, o_ll, o_al, o_dup, o_pop, o_dup_x1, o_dup2, o_iadd, o_isub, o_imul, o_iand, o_ior, o_ixor, o_ishl, o_ishr, o_idiv, o_irem, o_ineg, o_ladd, o_lsub, o_lmul, o_land, o_lor, o_lxor, o_ldiv, o_lrem, o_lneg, o_lcmp, o_i2l, o_l2i, o_i2b, o_i2c, o_iushr, o_lshl, o_lshr, o_if_eq, o_if_ne, o_if_lt, o_if_ge, o_if_gt, o_if_le, o_icmp_eq, o_icmp_ne, o_icmp_lt, o_icmp_ge, o_icmp_gt, o_icmp_le, o_ifnull, o_ifnonnull, o_acmp_eq, o_acmp_ne, o_is, o_ls, o_as, o_iinc, o_kill, o_sw, o_ireturn, o_zreturn, o_nreturn, o_lreturn, o_areturn, o_return, o_athrow, o_call, entP, lg_sl, Value.category, st1, st2, List.set, List.getElem?_cons_zero, List.getElem?_cons_succ, List.foldl, popN, aft, o_gI, o_gR, o_pI, o_pN, o_pR, o_aI, o_aG, o_aR, o_len, o_aR8, o_sI, o_sB, o_sZ, o_sG, o_new, o_newA, o_cast, o_inst, o_cst, o_oi, o_sR, o_gIc, o_gSv, o_gSc, o_getc, o_dead, o_acopy, o_castA, o_castI, o_sR7, o_mna, o_mmax, o_mmin, o_mabs, hT_sI, hT_sR, hT_sG, hL_sI, hL_sR, hL_sG, hI_sI, hI_sR, hI_sG, hG_sI, hG_sR, hG_sG, hR_sI, hR_sR, hR_sG, hN_sI, hN_sR, hN_sG, hC_sI, hC_sR, hC_sG, hS_sI, hS_sR, hS_sG, hT_nw, hL_nw, hI_nw, hG_nw, hR_nw, hN_nw, hC_nw, hS_nw, hvc, hvi, dspI, vref, va_rf, h1, h4, k1, nn_eqL, nn_ltL, nn_leL, nn_Llt, nn_Lle, nn_lt, nn_le, nn_eq, nn_in, nn_clamp, nn_succ, nn_pos, nn_neg1, b1, b2, k5 i, hx]
    exact k
theorem cq_init {κ : Nat → Option Nat} {Q : Ret AH} {σ : AH} {a : Nat} (hk : Hok κ σ) (h1 : hT σ a = 19) (h2 : hI σ a 2 = 0)
    (k : ∀ σ', Hok κ σ' → HF (fun b => b = a) 0 0 σ σ' → AL κ σ' a [] → Q (.inl none) σ') : pJ2_init κ [.ref a] σ Q := by
  obtain ⟨f1, f2, d, f3, f4, f5⟩ := hk
  have nk : ¬ KTg (hT σ a) := by rw [h1]; unfold KTg; omega
  have ha : hT σ a ≠ 0 := by rw [h1]; decide
  simp [pJ2_init, bJ2_init_0, pJ1_init, bJ1_init_0, pJ0_init, bJ0_init_0, o_ic, o_lc, o_null, o_il, o_ll, o_al, o_dup, o_pop, o_dup_x1, o_dup2, o_iadd, o_isub, o_imul, o_iand, o_ior, o_ixor, o_ishl, o_ishr, o_idiv, o_irem, o_ineg, o_ladd, o_lsub, o_lmul, o_land, o_lor, o_lxor, o_ldiv, o_lrem, o_lneg, o_lcmp, o_i2l, o_l2i, o_i2b, o_i2c, o_iushr, o_lshl, o_lshr, o_if_eq, o_if_ne, o_if_lt, o_if_ge, o_if_gt, o_if_le, o_icmp_eq, o_icmp_ne, o_icmp_lt, o_icmp_ge, o_icmp_gt, o_icmp_le, o_ifnull, o_ifnonnull, o_acmp_eq, o_acmp_ne, o_is, o_ls, o_as, o_iinc, o_kill, o_sw, o_ireturn, o_zreturn, o_nreturn, o_lreturn, o_areturn, o_return, o_athrow, o_call, entP, lg_sl, Value.category, st1, st2, List.set, List.getElem?_cons_zero, List.getElem?_cons_succ, List.foldl, popN, aft, o_gI, o_gR, o_pI, o_pN, o_pR, o_aI, o_aG, o_aR, o_len, o_aR8, o_sI, o_sB, o_sZ, o_sG, o_new, o_newA, o_cast, o_inst, o_cst, o_oi, o_sR, o_gIc, o_gSv, o_gSc, o_getc, o_dead, o_acopy, o_castA, o_castI, o_sR7, o_mna, o_mmax, o_mmin, o_mabs, hT_sI, hT_sR, hT_sG, hL_sI, hL_sR, hL_sG, hI_sI, hI_sR, hI_sG, hG_sI, hG_sR, hG_sG, hR_sI, hR_sR, hR_sG, hN_sI, hN_sR, hN_sG, hC_sI, hC_sR, hC_sG, hS_sI, hS_sR, hS_sG, hT_nw, hL_nw, hI_nw, hG_nw, hR_nw, hN_nw, hC_nw, hS_nw, hvc, hvi, dspI, vref, va_rf, h1, f3]
  have hdl := f1.lt (a := d) (by rw [f4]; decide)
  refine k _ ⟨(f1.sI ha).sR (by rw [hT_sI]; exact ha), ⟨?_, ?_⟩, d, f3, f4, f5⟩ (((HF.rfl9 (M := fun b => b = a)).sI f1 (Or.inl rfl) nk).sR f1 (Or.inl rfl) (by rw [hT_sI]; exact nk)) ⟨h1, ?_, fun x hx => by simp at hx, d, ?_, Or.inl ⟨rfl, f3⟩⟩
  · intro b e hb hb1
    rw [hR_sR, hR_sI] at hb1
    rw [hT_sR, hT_sI] at hb
    rw [hN_sR, hN_sI]
    split at hb1
    · cases hb1; exact hdl
    · exact f2.1 b e hb hb1
  · intro b c e hb hc hb1 hc1 he
    rw [hR_sR, hR_sI] at hb1 hc1
    rw [hT_sR, hT_sI] at hb hc he
    by_cases cb : b = a
    · subst cb
      simp at hb1
      subst hb1
      rw [f4] at he
      omega
    · by_cases cc : c = a
      · subst cc
        simp at hc1
        subst hc1
        rw [f4] at he
        omega
      · rw [if_neg (fun q => cb q.1)] at hb1
        rw [if_neg (fun q => cc q.1)] at hc1
        exact f2.2 b c e hb hc hb1 hc1 he
  · rw [hI_sR, hI_sI, if_neg (by omega)]; rw [h2]; rfl
  · rw [hR_sR, if_pos ⟨rfl, rfl⟩]
theorem nn_shr1 : ∀ a, a < 600 → nn a >>> (1 &&& 31) = nn (a / 2) := by decide +kernel
theorem cq_newLength {κ : Nat → Option Nat} {Q : Ret AH} {σ : AH} {a : Nat} (h : 10 ≤ a) (h2 : a < 600) (k : Q (.inl (some (.int (nn (a + a / 2))))) σ) : pJ14_newLength κ [.int (nn a), .int (nn 1), .int (nn (a / 2))] σ Q := by
  have b1 : a / 2 < 2147483648 := by omega
  have b2 : 1 < a / 2 := by omega
  have b3 : a + a / 2 < 2147483648 := by omega
  have b4 : a + a / 2 ≤ 2147483639 := by omega
  have b5 : 0 < a + a / 2 := by omega
  have b6 : ¬ 2147483639 < a + a / 2 := by omega
  have m1 : nn 1 < nn (a / 2) := (nn_lt (by omega) b1).2 b2
  have m2 : 0 < nn (a + a / 2) := (nn_lt (a := 0) (by omega) b3).2 b5
  have m3 : ¬ 2147483639 < nn (a + a / 2) := fun z => b6 ((nn_lt (a := 2147483639) (by omega) b3).1 z)
  have m2' : ¬ nn (a + a / 2) ≤ 0 := fun z => ab2 m2 z
  have m3' : nn (a + a / 2) ≤ 2147483639 := (nn_le (b := 2147483639) b3 (by omega)).2 b4
  simp [pJ14_newLength, bJ14_newLength_0, o_ic, o_lc, o_null, o_il, o_ll, o_al, o_dup, o_pop, o_dup_x1, o_dup2, o_iadd, o_isub, o_imul, o_iand, o_ior, o_ixor, o_ishl, o_ishr, o_idiv, o_irem, o_ineg, o_ladd, o_lsub, o_lmul, o_land, o_lor, o_lxor, o_ldiv, o_lrem, o_lneg, o_lcmp, o_i2l, o_l2i, o_i2b, o_i2c, o_iushr, o_lshl, o_lshr, o_if_eq, o_if_ne, o_if_lt, o_if_ge, o_if_gt, o_if_le, o_icmp_eq, o_icmp_ne, o_icmp_lt, o_icmp_ge, o_icmp_gt, o_icmp_le, o_ifnull, o_ifnonnull, o_acmp_eq, o_acmp_ne, o_is, o_ls, o_as, o_iinc, o_kill, o_sw, o_ireturn, o_zreturn, o_nreturn, o_lreturn, o_areturn, o_return, o_athrow, o_call, entP, lg_sl, Value.category, st1, st2, List.set, List.getElem?_cons_zero, List.getElem?_cons_succ, List.foldl, popN, aft, o_gI, o_gR, o_pI, o_pN, o_pR, o_aI, o_aG, o_aR, o_len, o_aR8, o_sI, o_sB, o_sZ, o_sG, o_new, o_newA, o_cast, o_inst, o_cst, o_oi, o_sR, o_gIc, o_gSv, o_gSc, o_getc, o_dead, o_acopy, o_castA, o_castI, o_sR7, o_mna, o_mmax, o_mmin, o_mabs, hT_sI, hT_sR, hT_sG, hL_sI, hL_sR, hL_sG, hI_sI, hI_sR, hI_sG, hG_sI, hG_sR, hG_sG, hR_sI, hR_sR, hR_sG, hN_sI, hN_sR, hN_sG, hC_sI, hC_sR, hC_sG, hS_sI, hS_sR, hS_sG, hT_nw, hL_nw, hI_nw, hG_nw, hR_nw, hN_nw, hC_nw, hS_nw, hvc, hvi, dspI, vref, va_rf, m1, nn_add, m2, m3, m2', m3']
  first
    | exact k
    | exact ⟨fun z => absurd m2 (by simpa using z), fun _ => k⟩
    | exact ⟨fun z => (m2' z).elim, fun _ => k⟩
theorem cq_copyOf2 {κ : Nat → Option Nat} {Q : Ret AH} {σ : AH} {d n cap : Nat} (f1 : Fsh σ) (h1 : hT σ d = 104) (h2 : hL σ d = n) (hn : n ≤ cap) (hc : cap ≤ 1000) (r1 : 1 ≤ hC σ) (r2 : cap ≤ hS σ) (ht : ∀ i, i < n → ∀ b, hR σ d i = some b → hT σ b ∈ objTs ++ [60])
    (k : ∀ σ', σ'.1 = (hnw σ 104 cap cap).1 → hT σ' = hT (hnw σ 104 cap cap) → hL σ' = hL (hnw σ 104 cap cap) → hI σ' = hI σ → hG σ' = hG σ → (∀ b j, hR σ' b j = if b = hN σ then (if j < n then hR σ d j else none) else hR σ b j) → Q (.inl (some (.ref (hN σ)))) σ') : pJ15_copyOf_2 κ [.ref d, .int (nn cap), va_rf (κ 40)] σ Q := by
  have hdl := f1.lt (a := d) (by rw [h1]; decide)
  have bc : cap < 2147483648 := by omega
  have bn : n < 2147483648 := by omega
  have c1 : cap ≤ 65536 := by omega
  have c3 : ¬ nn cap < 0 := by rw [nn_pos bc]; exact id
  have c3' : (0 : Int32) ≤ nn cap := (nn_le (a := 0) (by omega) bc).2 (by omega)
  have c4 : ¬ nn cap < nn n := fun z => by have := (nn_lt bc bn).1 z; omega
  have c6 : ¬ nn n < 0 := by rw [nn_pos bn]; exact id
  have c6' : (0 : Int32) ≤ nn n := (nn_le (a := 0) (by omega) bn).2 (by omega)
  have hnd : ¬ hN σ = d := by omega
  have hnd2 : ¬ d = hN σ := by omega
  have e3 : nI n = nn n := rfl
  have tg : ∀ i, i < n → ∀ b, hR σ d i = some b → ((if b = hN σ then 104 else hT σ b) ∈ objTs ++ [60]) := fun i hi b hb => by
    have h9 := ht i hi b hb
    have := f1.lt (tag_ne h9)
    rw [if_neg (by omega)]; exact h9
  have fin : ∀ (σ' : AH), σ'.1 = (hnw σ 104 cap cap).1 → hT σ' = hT (hnw σ 104 cap cap) → hL σ' = hL (hnw σ 104 cap cap) → hI σ' = hI σ → hG σ' = hG σ → (∀ b j, hR σ' b j = if b = hN σ then va_cpy (hR σ d) (hR σ (hN σ)) 0 0 n j else hR σ b j) → Q (.inl (some (.ref (hN σ)))) σ' := by
    intro σ' g1 g2 g3 g4 g5 g6
    refine k σ' g1 g2 g3 g4 g5 (fun b j => ?_)
    rw [g6]
    by_cases cb : b = hN σ
    · rw [if_pos cb, if_pos cb]
      unfold va_cpy
      by_cases cj : j < n
      · rw [if_pos cj, if_pos ⟨by omega, by omega⟩]; simp
      · rw [if_neg cj, if_neg (by omega)]
        exact ((f1 _ (Nat.le_refl _)).2 j).2.2
    · rw [if_neg cb, if_neg cb]
  have tg' := tg
  simp [objTs] at tg'
  cases hκ : κ 40 with
  | none =>
    simp only [va_rf]
    simp [pJ15_copyOf_2, bJ15_copyOf_2_0, bJ15_copyOf_2_24, o_ic, o_lc, o_null, o_il, o_ll, o_al, o_dup, o_pop, o_dup_x1, o_dup2, o_iadd, o_isub, o_imul, o_iand, o_ior, o_ixor, o_ishl, o_ishr, o_idiv, o_irem, o_ineg, o_ladd, o_lsub, o_lmul, o_land, o_lor, o_lxor, o_ldiv, o_lrem, o_lneg, o_lcmp, o_i2l, o_l2i, o_i2b, o_i2c, o_iushr, o_lshl, o_lshr, o_if_eq, o_if_ne, o_if_lt, o_if_ge, o_if_gt, o_if_le, o_icmp_eq, o_icmp_ne, o_icmp_lt, o_icmp_ge, o_icmp_gt, o_icmp_le, o_ifnull, o_ifnonnull, o_acmp_eq, o_acmp_ne, o_is, o_ls, o_as, o_iinc, o_kill, o_sw, o_ireturn, o_zreturn, o_nreturn, o_lreturn, o_areturn, o_return, o_athrow, o_call, entP, lg_sl, Value.category, st1, st2, List.set, List.getElem?_cons_zero, List.getElem?_cons_succ, List.foldl, popN, aft, o_gI, o_gR, o_pI, o_pN, o_pR, o_aI, o_aG, o_aR, o_len, o_aR8, o_sI, o_sB, o_sZ, o_sG, o_new, o_newA, o_cast, o_inst, o_cst, o_oi, o_sR, o_gIc, o_gSv, o_gSc, o_getc, o_dead, o_acopy, o_castA, o_castI, o_sR7, o_mna, o_mmax, o_mmin, o_mabs, hT_sI, hT_sR, hT_sG, hL_sI, hL_sR, hL_sG, hI_sI, hI_sR, hI_sG, hG_sI, hG_sR, hG_sG, hR_sI, hR_sR, hR_sG, hN_sI, hN_sR, hN_sG, hC_sI, hC_sR, hC_sG, hS_sI, hS_sR, hS_sG, hT_nw, hL_nw, hI_nw, hG_nw, hR_nw, hN_nw, hC_nw, hS_nw, hvc, hvi, dspI, vref, va_rf, hκ, r1, r2, nn_clamp bc, nn_clamp bn, c1, c3', hnd, hnd2, h1, h2, e3, c4, c6', hn, objTs, -Prod.forall]
    exact ⟨tg', fun σ' => fin σ'⟩
  | some mi =>
    simp only [va_rf]
    simp [pJ15_copyOf_2, bJ15_copyOf_2_0, bJ15_copyOf_2_24, o_ic, o_lc, o_null, o_il, o_ll, o_al, o_dup, o_pop, o_dup_x1, o_dup2, o_iadd, o_isub, o_imul, o_iand, o_ior, o_ixor, o_ishl, o_ishr, o_idiv, o_irem, o_ineg, o_ladd, o_lsub, o_lmul, o_land, o_lor, o_lxor, o_ldiv, o_lrem, o_lneg, o_lcmp, o_i2l, o_l2i, o_i2b, o_i2c, o_iushr, o_lshl, o_lshr, o_if_eq, o_if_ne, o_if_lt, o_if_ge, o_if_gt, o_if_le, o_icmp_eq, o_icmp_ne, o_icmp_lt, o_icmp_ge, o_icmp_gt, o_icmp_le, o_ifnull, o_ifnonnull, o_acmp_eq, o_acmp_ne, o_is, o_ls, o_as, o_iinc, o_kill, o_sw, o_ireturn, o_zreturn, o_nreturn, o_lreturn, o_areturn, o_return, o_athrow, o_call, entP, lg_sl, Value.category, st1, st2, List.set, List.getElem?_cons_zero, List.getElem?_cons_succ, List.foldl, popN, aft, o_gI, o_gR, o_pI, o_pN, o_pR, o_aI, o_aG, o_aR, o_len, o_aR8, o_sI, o_sB, o_sZ, o_sG, o_new, o_newA, o_cast, o_inst, o_cst, o_oi, o_sR, o_gIc, o_gSv, o_gSc, o_getc, o_dead, o_acopy, o_castA, o_castI, o_sR7, o_mna, o_mmax, o_mmin, o_mabs, hT_sI, hT_sR, hT_sG, hL_sI, hL_sR, hL_sG, hI_sI, hI_sR, hI_sG, hG_sI, hG_sR, hG_sG, hR_sI, hR_sR, hR_sG, hN_sI, hN_sR, hN_sG, hC_sI, hC_sR, hC_sG, hS_sI, hS_sR, hS_sG, hT_nw, hL_nw, hI_nw, hG_nw, hR_nw, hN_nw, hC_nw, hS_nw, hvc, hvi, dspI, vref, va_rf, hκ, r1, r2, nn_clamp bc, nn_clamp bn, c1, c3', hnd, hnd2, h1, h2, e3, c4, c6', hn, objTs, -Prod.forall]
    exact ⟨tg', fun σ' => fin σ'⟩
/-- room for one more -/
theorem cq_grow {κ : Nat → Option Nat} {Q : Ret AH} {σ : AH} {a : Nat} {l : List Nat} {d0 : Nat} (hk : Hok κ σ) (h : AL κ σ a l) (hd0 : hR σ a 1 = some d0) (hfull : hL σ d0 = l.length) (hl : l.length < 600) (hc : 1 ≤ hC σ) (hs : 10 + 2 * l.length ≤ hS σ)
    (k : ∀ σ' d, Hok κ σ' → HF (fun b => b = a) 1 (10 + 2 * l.length) σ σ' → AL κ σ' a l → hR σ' a 1 = some d → hT σ' d = 104 → hN σ ≤ d → l.length < hL σ' d → hI σ' a 0 = hI σ a 0 → Q (.inl (some (.ref d))) σ') : pJ2_grow κ [.ref a] σ Q := by
  obtain ⟨f1, f2, dk, f3, f4, f5⟩ := id hk
  obtain ⟨h1, h2, h3, d, h4, h5⟩ := id h
  rw [hd0] at h4
  cases h4
  have nk : ¬ KTg (hT σ a) := by rw [h1]; unfold KTg; omega
  have ha : hT σ a ≠ 0 := by rw [h1]; decide
  have halt := f1.lt ha
  have hne : ¬ a = hN σ := by omega
  have bl : l.length < 2147483648 := by omega
  have bl1 : l.length + 1 < 2147483648 := by omega
  -- behind: a new row d = hN σ that holds l
  have fin : ∀ σ', hN σ' = hN σ + 1 → hC σ' = hC σ - 1 → (∃ m, m ≤ 10 + 2 * l.length ∧ hS σ' = hS σ - m) → (∃ cap, l.length < cap ∧ 10 ≤ cap ∧ cap ≤ 1000 ∧ hL σ' = va_up (hL σ) (hN σ) cap) → hT σ' = va_up (hT σ) (hN σ) 104 → hI σ' = hI σ → hG σ' = hG σ → (∀ b j, hR σ' b j = if b = a ∧ j = 1 then some (hN σ) else if b = hN σ then l[j]? else hR σ b j) → Q (.inl (some (.ref (hN σ)))) σ' := by
    intro σ' e1 e2 e3 e4 e5 e6 e7 e8
    obtain ⟨m, hm1, hm2⟩ := e3
    obtain ⟨cap, hc1, hc2, hc3, hc4⟩ := e4
    have tg : ∀ b, hT σ' b = if b = hN σ then 104 else hT σ b := fun b => by rw [e5]; rfl
    have ln : ∀ b, hL σ' b = if b = hN σ then cap else hL σ b := fun b => by rw [hc4]; rfl
    have rr : ∀ b j, b ≠ a → b ≠ hN σ → hR σ' b j = hR σ b j := fun b j q1 q2 => by rw [e8, if_neg (fun z => q1 z.1), if_neg q2]
    refine k σ' (hN σ) ⟨fun b hb => ?_, ⟨?_, ?_⟩, dk, f3, ?_, ?_⟩ ⟨by omega, fun b hb => ?_, fun b hb hm' j => ?_, by omega, by omega⟩ ⟨?_, by rw [e6]; exact h2, fun x hx => ?_, hN σ, ?_, Or.inr ⟨?_, ?_, ?_, ?_, fun i => ?_⟩⟩ ?_ ?_ (Nat.le_refl _) ?_ (by rw [e6])
    · rw [e1] at hb
      obtain ⟨x1, x2⟩ := f1 b (by omega)
      refine ⟨by rw [tg, if_neg (by omega)]; exact x1, fun j => ?_⟩
      rw [e6, e7, rr b j (by omega) (by omega)]; exact x2 j
    · intro b e hb hb1
      rw [tg] at hb
      rw [e1]
      by_cases cb : b = a
      · subst cb
        rw [e8, if_pos ⟨rfl, rfl⟩] at hb1
        cases hb1; omega
      · by_cases cn : b = hN σ
        · rw [if_pos cn] at hb; omega
        · rw [if_neg cn] at hb
          rw [rr b 1 cb cn] at hb1
          have := f2.1 b e hb hb1; omega
    · intro b c e hb hc hb1 hc1 he
      rw [tg] at hb hc he
      have cn : ¬ b = hN σ := fun q => by rw [if_pos q] at hb; omega
      have cn2 : ¬ c = hN σ := fun q => by rw [if_pos q] at hc; omega
      rw [if_neg cn] at hb
      rw [if_neg cn2] at hc
      by_cases cb : b = a
      · by_cases cc : c = a
        · omega
        · exfalso
          subst cb
          rw [e8, if_pos ⟨rfl, rfl⟩] at hb1
          cases hb1
          rw [rr c 1 cc cn2] at hc1
          have := f2.1 c _ hc hc1; omega
      · by_cases cc : c = a
        · exfalso
          subst cc
          rw [e8, if_pos ⟨rfl, rfl⟩] at hc1
          cases hc1
          rw [rr b 1 cb cn] at hb1
          have := f2.1 b _ hb hb1; omega
        · rw [rr b 1 cb cn] at hb1
          rw [rr c 1 cc cn2] at hc1
          have := f2.1 b _ hb hb1
          rw [if_neg (by omega)] at he
          exact f2.2 b c e hb hc hb1 hc1 he
    · rw [tg, if_neg ?_]
      · exact f4
      · have := f1.lt (a := dk) (by rw [f4]; decide); omega
    · rw [ln, if_neg ?_]
      · exact f5
      · have := f1.lt (a := dk) (by rw [f4]; decide); omega
    · rw [tg, ln, if_neg (by omega), if_neg (by omega)]; exact ⟨rfl, rfl⟩
    · rw [e6, e7]
      refine ⟨rfl, rfl, ?_⟩
      by_cases cb : b = a
      · subst cb
        rcases hm' with q | q
        · exact absurd rfl q
        · exact absurd q nk
      · exact rr b j cb (by omega)
    · rw [tg, if_neg hne]; exact h1
    · have hx' := f1.lt (tag_ne (h3 x hx))
      rw [tg, if_neg (by omega)]; exact h3 x hx
    · rw [e8, if_pos ⟨rfl, rfl⟩]
    · rw [tg, if_pos rfl]
    · rw [ln, if_pos rfl]; omega
    · rw [ln, if_pos rfl]; exact hc2
    · rw [ln, if_pos rfl]; exact hc3
    · rw [e8, if_neg (by omega), if_pos rfl]
    · rw [e8, if_pos ⟨rfl, rfl⟩]
    · rw [tg, if_pos rfl]
    · rw [ln, if_pos rfl]; exact hc1
  rcases h5 with ⟨rfl, hk30⟩ | ⟨k1, k2, k3, k4, k5⟩
  · -- the first row
    have e0 : d0 = dk := by rw [f3] at hk30; exact (Option.some.inj hk30).symm
    subst e0
    have hin : (10 : Int32).toNatClampNeg = 10 := by decide
    have h10 : 10 ≤ hS σ := by simp at hs; omega
    have hlt : ¬ (10 : Int32) < nn 1 := by decide
    have hh2 : hI σ a 2 = 0 := h2
    simp [pJ2_grow, bJ2_grow_0, pJ2_grow_2, bJ2_grow_2_20, bJ2_grow_2_45, bJ2_grow_2_0, o_ic, o_lc, o_null, o_il, o_ll, o_al, o_dup, o_pop, o_dup_x1, o_dup2, o_iadd, o_isub, o_imul, o_iand, o_ior, o_ixor, o_ishl, o_ishr, o_idiv, o_irem, o_ineg, o_ladd, o_lsub, o_lmul, o_land, o_lor, o_lxor, o_ldiv, o_lrem, o_lneg, o_lcmp, o_i2l, o_l2i, o_i2b, o_i2c, o_iushr, o_lshl, o_lshr, o_if_eq, o_if_ne, o_if_lt, o_if_ge, o_if_gt, o_if_le, o_icmp_eq, o_icmp_ne, o_icmp_lt, o_icmp_ge, o_icmp_gt, o_icmp_le, o_ifnull, o_ifnonnull, o_acmp_eq, o_acmp_ne, o_is, o_ls, o_as, o_iinc, o_kill, o_sw, o_ireturn, o_zreturn, o_nreturn, o_lreturn, o_areturn, o_return, o_athrow, o_call, entP, lg_sl, Value.category, st1, st2, List.set, List.getElem?_cons_zero, List.getElem?_cons_succ, List.foldl, popN, aft, o_gI, o_gR, o_pI, o_pN, o_pR, o_aI, o_aG, o_aR, o_len, o_aR8, o_sI, o_sB, o_sZ, o_sG, o_new, o_newA, o_cast, o_inst, o_cst, o_oi, o_sR, o_gIc, o_gSv, o_gSc, o_getc, o_dead, o_acopy, o_castA, o_castI, o_sR7, o_mna, o_mmax, o_mmin, o_mabs, hT_sI, hT_sR, hT_sG, hL_sI, hL_sR, hL_sG, hI_sI, hI_sR, hI_sG, hG_sI, hG_sR, hG_sG, hR_sI, hR_sR, hR_sG, hN_sI, hN_sR, hN_sG, hC_sI, hC_sR, hC_sG, hS_sI, hS_sR, hS_sG, hT_nw, hL_nw, hI_nw, hG_nw, hR_nw, hN_nw, hC_nw, hS_nw, hvc, hvi, dspI, vref, va_rf, h1, hd0, hh2, f4, f5, nI, f3, hc, h10, hne]
    refine fin _ rfl rfl ⟨10, by simp, rfl⟩ ⟨10, by simp, by omega, by omega, rfl⟩ rfl rfl rfl (fun b j => ?_)
    rw [hR_sR, hR_nw]
    by_cases cb : b = hN σ
    · subst cb
      rw [if_neg (by omega), if_neg (by omega), if_pos rfl]
      exact ((f1 _ (Nat.le_refl _)).2 j).2.2
    · rw [if_neg cb]
  · -- a longer row
    have hlen10 : 10 ≤ l.length := by omega
    have e1 : nn (l.length + 1) - nn l.length = nn 1 := by rw [nn_sub (by omega)]; congr 1; omega
    have e2 : nn l.length >>> (1 &&& 31) = nn (l.length / 2) := nn_shr1 _ hl
    have hpos : 0 < nn l.length := (nn_lt (a := 0) (by omega) bl).2 (by omega)
    have e3 : nI (hL σ d0) = nn l.length := by rw [hfull]; rfl
    have hd0lt := f1.lt (a := d0) (by rw [k1]; decide)
    simp [pJ2_grow, bJ2_grow_0, pJ2_grow_2, bJ2_grow_2_0, o_ic, o_lc, o_null, o_il, o_ll, o_al, o_dup, o_pop, o_dup_x1, o_dup2, o_iadd, o_isub, o_imul, o_iand, o_ior, o_ixor, o_ishl, o_ishr, o_idiv, o_irem, o_ineg, o_ladd, o_lsub, o_lmul, o_land, o_lor, o_lxor, o_ldiv, o_lrem, o_lneg, o_lcmp, o_i2l, o_l2i, o_i2b, o_i2c, o_iushr, o_lshl, o_lshr, o_if_eq, o_if_ne, o_if_lt, o_if_ge, o_if_gt, o_if_le, o_icmp_eq, o_icmp_ne, o_icmp_lt, o_icmp_ge, o_icmp_gt, o_icmp_le, o_ifnull, o_ifnonnull, o_acmp_eq, o_acmp_ne, o_is, o_ls, o_as, o_iinc, o_kill, o_sw, o_ireturn, o_zreturn, o_nreturn, o_lreturn, o_areturn, o_return, o_athrow, o_call, entP, lg_sl, Value.category, st1, st2, List.set, List.getElem?_cons_zero, List.getElem?_cons_succ, List.foldl, popN, aft, o_gI, o_gR, o_pI, o_pN, o_pR, o_aI, o_aG, o_aR, o_len, o_aR8, o_sI, o_sB, o_sZ, o_sG, o_new, o_newA, o_cast, o_inst, o_cst, o_oi, o_sR, o_gIc, o_gSv, o_gSc, o_getc, o_dead, o_acopy, o_castA, o_castI, o_sR7, o_mna, o_mmax, o_mmin, o_mabs, hT_sI, hT_sR, hT_sG, hL_sI, hL_sR, hL_sG, hI_sI, hI_sR, hI_sG, hG_sI, hG_sR, hG_sG, hR_sI, hR_sR, hR_sG, hN_sI, hN_sR, hN_sG, hC_sI, hC_sR, hC_sG, hS_sI, hS_sR, hS_sG, hT_nw, hL_nw, hI_nw, hG_nw, hR_nw, hN_nw, hC_nw, hS_nw, hvc, hvi, dspI, vref, va_rf, h1, hd0, h2, k1, e3, vpL, nn_addL, nn_addR, nn_mulL, nn_add, nn_mul, nn_succ, hpos]
    simp [bJ2_grow_2_20, o_ic, o_lc, o_null, o_il, o_ll, o_al, o_dup, o_pop, o_dup_x1, o_dup2, o_iadd, o_isub, o_imul, o_iand, o_ior, o_ixor, o_ishl, o_ishr, o_idiv, o_irem, o_ineg, o_ladd, o_lsub, o_lmul, o_land, o_lor, o_lxor, o_ldiv, o_lrem, o_lneg, o_lcmp, o_i2l, o_l2i, o_i2b, o_i2c, o_iushr, o_lshl, o_lshr, o_if_eq, o_if_ne, o_if_lt, o_if_ge, o_if_gt, o_if_le, o_icmp_eq, o_icmp_ne, o_icmp_lt, o_icmp_ge, o_icmp_gt, o_icmp_le, o_ifnull, o_ifnonnull, o_acmp_eq, o_acmp_ne, o_is, o_ls, o_as, o_iinc, o_kill, o_sw, o_ireturn, o_zreturn, o_nreturn, o_lreturn, o_areturn, o_return, o_athrow, o_call, entP, lg_sl, Value.category, st1, st2, List.set, List.getElem?_cons_zero, List.getElem?_cons_succ, List.foldl, popN, aft, o_gI, o_gR, o_pI, o_pN, o_pR, o_aI, o_aG, o_aR, o_len, o_aR8, o_sI, o_sB, o_sZ, o_sG, o_new, o_newA, o_cast, o_inst, o_cst, o_oi, o_sR, o_gIc, o_gSv, o_gSc, o_getc, o_dead, o_acopy, o_castA, o_castI, o_sR7, o_mna, o_mmax, o_mmin, o_mabs, hT_sI, hT_sR, hT_sG, hL_sI, hL_sR, hL_sG, hI_sI, hI_sR, hI_sG, hG_sI, hG_sR, hG_sG, hR_sI, hR_sR, hR_sG, hN_sI, hN_sR, hN_sG, hC_sI, hC_sR, hC_sG, hS_sI, hS_sR, hS_sG, hT_nw, hL_nw, hI_nw, hG_nw, hR_nw, hN_nw, hC_nw, hS_nw, hvc, hvi, dspI, vref, va_rf, e1, e2]
    refine cq_newLength hlen10 hl ?_
    generalize hcap : l.length + l.length / 2 = cap
    have bc : cap < 2147483648 := by omega
    have c1 : cap ≤ 65536 := by omega
    have c2 : cap ≤ hS σ := by omega
    have c3 : ¬ nn cap < 0 := by rw [nn_pos bc]; exact id
    have c4 : ¬ nn cap < nn l.length := fun z => by have := (nn_lt bc bl).1 z; omega
    have hnd : ¬ hN σ = d0 := by omega
    have hnd2 : ¬ d0 = hN σ := by omega
    have c5 : nn l.length ≤ nn cap := (nn_le bl bc).2 (by omega)
    have tgx : ∀ i, i < l.length → ∀ b, hR σ d0 i = some b → hT σ b ∈ objTs ++ [60] := fun i hi b hb => by
      rw [k5 i] at hb; exact h3 b (List.mem_of_getElem? hb)
    have tgn : ∀ i, i < l.length → ∀ b, hR σ d0 i = some b → b ≠ hN σ := fun i hi b hb q => by
      have := f1.lt (tag_ne (tgx i hi b hb)); omega
    simp [o_ic, o_lc, o_null, o_il, o_ll, o_al, o_dup, o_pop, o_dup_x1, o_dup2, o_iadd, o_isub, o_imul, o_iand, o_ior, o_ixor, o_ishl, o_ishr, o_idiv, o_irem, o_ineg, o_ladd, o_lsub, o_lmul, o_land, o_lor, o_lxor, o_ldiv, o_lrem, o_lneg, o_lcmp, o_i2l, o_l2i, o_i2b, o_i2c, o_iushr, o_lshl, o_lshr, o_if_eq, o_if_ne, o_if_lt, o_if_ge, o_if_gt, o_if_le, o_icmp_eq, o_icmp_ne, o_icmp_lt, o_icmp_ge, o_icmp_gt, o_icmp_le, o_ifnull, o_ifnonnull, o_acmp_eq, o_acmp_ne, o_is, o_ls, o_as, o_iinc, o_kill, o_sw, o_ireturn, o_zreturn, o_nreturn, o_lreturn, o_areturn, o_return, o_athrow, o_call, entP, lg_sl, Value.category, st1, st2, List.set, List.getElem?_cons_zero, List.getElem?_cons_succ, List.foldl, popN, aft, o_gI, o_gR, o_pI, o_pN, o_pR, o_aI, o_aG, o_aR, o_len, o_aR8, o_sI, o_sB, o_sZ, o_sG, o_new, o_newA, o_cast, o_inst, o_cst, o_oi, o_sR, o_gIc, o_gSv, o_gSc, o_getc, o_dead, o_acopy, o_castA, o_castI, o_sR7, o_mna, o_mmax, o_mmin, o_mabs, hT_sI, hT_sR, hT_sG, hL_sI, hL_sR, hL_sG, hI_sI, hI_sR, hI_sG, hG_sI, hG_sR, hG_sG, hR_sI, hR_sR, hR_sG, hN_sI, hN_sR, hN_sG, hC_sI, hC_sR, hC_sG, hS_sI, hS_sR, hS_sG, hT_nw, hL_nw, hI_nw, hG_nw, hR_nw, hN_nw, hC_nw, hS_nw, hvc, hvi, dspI, vref, va_rf, h1, hd0]
    simp only [pJ15_copyOf, bJ15_copyOf_0]
    simp [o_ic, o_lc, o_null, o_il, o_ll, o_al, o_dup, o_pop, o_dup_x1, o_dup2, o_iadd, o_isub, o_imul, o_iand, o_ior, o_ixor, o_ishl, o_ishr, o_idiv, o_irem, o_ineg, o_ladd, o_lsub, o_lmul, o_land, o_lor, o_lxor, o_ldiv, o_lrem, o_lneg, o_lcmp, o_i2l, o_l2i, o_i2b, o_i2c, o_iushr, o_lshl, o_lshr, o_if_eq, o_if_ne, o_if_lt, o_if_ge, o_if_gt, o_if_le, o_icmp_eq, o_icmp_ne, o_icmp_lt, o_icmp_ge, o_icmp_gt, o_icmp_le, o_ifnull, o_ifnonnull, o_acmp_eq, o_acmp_ne, o_is, o_ls, o_as, o_iinc, o_kill, o_sw, o_ireturn, o_zreturn, o_nreturn, o_lreturn, o_areturn, o_return, o_athrow, o_call, entP, lg_sl, Value.category, st1, st2, List.set, List.getElem?_cons_zero, List.getElem?_cons_succ, List.foldl, popN, aft, o_gI, o_gR, o_pI, o_pN, o_pR, o_aI, o_aG, o_aR, o_len, o_aR8, o_sI, o_sB, o_sZ, o_sG, o_new, o_newA, o_cast, o_inst, o_cst, o_oi, o_sR, o_gIc, o_gSv, o_gSc, o_getc, o_dead, o_acopy, o_castA, o_castI, o_sR7, o_mna, o_mmax, o_mmin, o_mabs, hvc, hvi, dspI, vref, k1]
    refine cq_copyOf2 (n := l.length) f1 k1 hfull (by omega) (by omega) hc c2 tgx (fun σ' g1 g2 g3 g4 g5 g6 => ?_)
    have t1 : hT σ' a = 19 := by rw [g2, hT_nw, if_neg hne]; exact h1
    simp [o_ic, o_lc, o_null, o_il, o_ll, o_al, o_dup, o_pop, o_dup_x1, o_dup2, o_iadd, o_isub, o_imul, o_iand, o_ior, o_ixor, o_ishl, o_ishr, o_idiv, o_irem, o_ineg, o_ladd, o_lsub, o_lmul, o_land, o_lor, o_lxor, o_ldiv, o_lrem, o_lneg, o_lcmp, o_i2l, o_l2i, o_i2b, o_i2c, o_iushr, o_lshl, o_lshr, o_if_eq, o_if_ne, o_if_lt, o_if_ge, o_if_gt, o_if_le, o_icmp_eq, o_icmp_ne, o_icmp_lt, o_icmp_ge, o_icmp_gt, o_icmp_le, o_ifnull, o_ifnonnull, o_acmp_eq, o_acmp_ne, o_is, o_ls, o_as, o_iinc, o_kill, o_sw, o_ireturn, o_zreturn, o_nreturn, o_lreturn, o_areturn, o_return, o_athrow, o_call, entP, lg_sl, Value.category, st1, st2, List.set, List.getElem?_cons_zero, List.getElem?_cons_succ, List.foldl, popN, aft, o_gI, o_gR, o_pI, o_pN, o_pR, o_aI, o_aG, o_aR, o_len, o_aR8, o_sI, o_sB, o_sZ, o_sG, o_new, o_newA, o_cast, o_inst, o_cst, o_oi, o_sR, o_gIc, o_gSv, o_gSc, o_getc, o_dead, o_acopy, o_castA, o_castI, o_sR7, o_mna, o_mmax, o_mmin, o_mabs, hT_sI, hT_sR, hT_sG, hL_sI, hL_sR, hL_sG, hI_sI, hI_sR, hI_sG, hG_sI, hG_sR, hG_sG, hR_sI, hR_sR, hR_sG, hN_sI, hN_sR, hN_sG, hC_sI, hC_sR, hC_sG, hS_sI, hS_sR, hS_sG, hT_nw, hL_nw, hI_nw, hG_nw, hR_nw, hN_nw, hC_nw, hS_nw, hvc, hvi, dspI, vref, va_rf, t1]
    refine fin _ ?_ ?_ ⟨cap, by omega, ?_⟩ ⟨cap, by omega, by omega, by omega, ?_⟩ ?_ ?_ ?_ (fun b j => ?_)
    · show σ'.1.1 = _; rw [g1]; rfl
    · show σ'.1.2.1 = _; rw [g1]; rfl
    · show σ'.1.2.2 = _; rw [g1]; rfl
    · rw [hL_sR, g3]; rfl
    · rw [hT_sR, g2]; rfl
    · rw [hI_sR, g4]
    · rw [hG_sR, g5]
    · rw [hR_sR, g6]
      by_cases c8 : b = a ∧ j = 1
      · rw [if_pos c8, if_pos c8]
      · rw [if_neg c8, if_neg c8]
        by_cases c9 : b = hN σ
        · rw [if_pos c9, if_pos c9]
          by_cases cj : j < l.length
          · rw [if_pos cj, k5]
          · rw [if_neg cj]; symm; rw [List.getElem?_eq_none_iff]; omega
        · rw [if_neg c9, if_neg c9]
