/-! THE MODEL reads what is assigned -/
set_option maxRecDepth 100000
/-- what the reader of a line may write, beside ints -/
def PL (n : Nat) : Nat → Nat → Prop := fun k i => ((15 ≤ k ∧ k ≤ 25) ∧ i = n) ∨ k = 39 ∨ k = 40 ∨ (k = 12 ∧ i = 4) ∨ ((26 ≤ k ∧ k ≤ 30) ∧ 128 ≤ i)
/-- what the reader of a setting may write -/
def PV (n : Nat) : Nat → Nat → Prop := fun k i => ((k = 15 ∨ k = 17 ∨ k = 18 ∨ k = 21 ∨ k = 22) ∧ i = n) ∨ (k = 12 ∧ i = 4) ∨ ((26 ≤ k ∧ k ≤ 30) ∧ 128 ≤ i)
abbrev ksV : List Nat := [32, 33, 35, 36, 38]
abbrev ksL : List Nat := [32, 33, 35, 36, 38, 41]
theorem FrG.L {P : Nat → Nat → Prop} {ks : List Nat} {a b : MS} {n : Nat} (h : FrG P ks a b) (hk : ∀ k ∈ ks, k ∈ ksV) (hP : ∀ k i, P k i → PV n k i) : FrG (PV n) ksV a b := h.mono hk hP
theorem FrK.L {ks : List Nat} {a b : MS} {n : Nat} (h : FrK ks a b) (hk : ∀ k ∈ ks, k ∈ ksV) : FrG (PV n) ksV a b := h.G.mono hk (fun _ _ q => q)
theorem PN_L {n : Nat} {ks : List Nat} (h : ∀ k ∈ ks, k = 15 ∨ k = 17 ∨ k = 18 ∨ k = 21 ∨ k = 22) : ∀ k i, PN n ks k i → PV n k i := fun k i q => Or.inl ⟨h k q.1, q.2⟩
theorem PSum_L {n : Nat} : ∀ k i, PSum n k i → PV n k i := by
  rintro k i (⟨h1 | h1, h2⟩ | ⟨h1, h2⟩ | ⟨h1, h2⟩)
  · exact Or.inl ⟨by omega, h2⟩
  · exact Or.inl ⟨by omega, h2⟩
  · exact Or.inr (Or.inl ⟨h1, h2⟩)
  · exact Or.inr (Or.inr ⟨by omega, h2⟩)
theorem FrG.tapeL {n : Nat} {ms ms' : MS} {tp : Nat → Nat} {td : Nat} (h : FrG (PV n) ksV ms ms') (hT : TapeM ms tp td) : TapeM ms' tp td := h.tape (by simp) (by simp [PV]) hT
theorem SumM.fr {P : Nat → Nat → Prop} {ks : List Nat} {ms ms' : MS} {sm : List Sm} (h : SumM ms sm) (hf : FrG P ks ms ms') (h1 : 38 ∉ ks) (h2 : ¬ P 12 4) (h3 : ∀ k i, 26 ≤ k → k ≤ 30 → ¬ P k i) : SumM ms' sm := by
  obtain ⟨a, b, c⟩ := h
  refine ⟨(hf.2 12 4 h2).trans a, (hf.1 38 (by omega) h1).trans b, fun e s he hs => ?_⟩
  rw [hf.2 26 _ (h3 26 _ (by omega) (by omega)), hf.2 27 _ (h3 27 _ (by omega) (by omega)), hf.2 28 _ (h3 28 _ (by omega) (by omega)), hf.2 29 _ (h3 29 _ (by omega) (by omega)), hf.2 30 _ (h3 30 _ (by omega) (by omega))]
  exact c e s he hs
theorem m_isOp {mo : Nat} {Q : Ret MS} {tp : Nat → Nat} {td : Nat} {ms : MS} {f : Nat} (hT : TapeM ms tp td) (hk : TokM ms tp td f) (k : Q (.inl (some (.int (if isOp9 tp td f then 1 else 0)))) ms) : pX2_isOp mo [.ref mo] ms Q := by
  have hc : isOp9 tp td f = (isS tp td f 43 || isS tp td f 45 || isS tp td f 42 || isS tp td f 38 || isS tp td f 94 || isS tp td f 47) := by
    unfold isOp9 isS
    by_cases h : srt tp td f = 3
    · simp [h]
      by_cases h1 : tp f = 43 <;> by_cases h2 : tp f = 45 <;> by_cases h3 : tp f = 42 <;> by_cases h4 : tp f = 38 <;> by_cases h5 : tp f = 94 <;> by_cases h6 : tp f = 47 <;> simp [*]
    · simp [h]
  rw [hc] at k
  simp [pX2_isOp, bX2_isOp_59, bX2_isOp_54, bX2_isOp_58, bX2_isOp_0, o_ic, o_lc, o_null, o_il, o_ll, o_al, o_dup, o_pop, o_dup_x1, o_dup2, o_iadd, o_isub, o_imul, o_iand, o_ior, o_ixor, o_ishl, o_ishr, o_idiv, o_irem, o_ineg, o_ladd, o_lsub, o_lmul, o_land, o_lor, o_lxor, o_ldiv, o_lrem, o_lneg, o_lcmp, o_i2l, o_l2i, o_i2b, o_i2c, o_iushr, o_lshl, o_lshr, o_if_eq, o_if_ne, o_if_lt, o_if_ge, o_if_gt, o_if_le, o_icmp_eq, o_icmp_ne, o_icmp_lt, o_icmp_ge, o_icmp_gt, o_icmp_le, o_ifnull, o_ifnonnull, o_acmp_eq, o_acmp_ne, o_is, o_ls, o_as, o_iinc, o_kill, o_sw, o_ireturn, o_zreturn, o_nreturn, o_lreturn, o_areturn, o_return, o_athrow, o_call, entP, lg_sl, Value.category, st1, st2, List.set, List.getElem?_cons_zero, List.getElem?_cons_succ, List.foldl, popN, aft, o_mg, o_mgl, o_mga, o_mp, o_mpz, o_mpl, o_mia, o_mis, o_mbs, o_mc, mput_get, mput_arr, mput_let, mput_put, mset_get, mset_int, mset_let, mputL_get, mputL_arr, mputL_let, mputL_put, i64_8, mLen]
  refine m_isSign (c := 43) hT hk (by omega) ?_
  by_cases h1 : isS tp td f 43 = true
  · simp [h1] at k; simp [o_ic, o_lc, o_null, o_il, o_ll, o_al, o_dup, o_pop, o_dup_x1, o_dup2, o_iadd, o_isub, o_imul, o_iand, o_ior, o_ixor, o_ishl, o_ishr, o_idiv, o_irem, o_ineg, o_ladd, o_lsub, o_lmul, o_land, o_lor, o_lxor, o_ldiv, o_lrem, o_lneg, o_lcmp, o_i2l, o_l2i, o_i2b, o_i2c, o_iushr, o_lshl, o_lshr, o_if_eq, o_if_ne, o_if_lt, o_if_ge, o_if_gt, o_if_le, o_icmp_eq, o_icmp_ne, o_icmp_lt, o_icmp_ge, o_icmp_gt, o_icmp_le, o_ifnull, o_ifnonnull, o_acmp_eq, o_acmp_ne, o_is, o_ls, o_as, o_iinc, o_kill, o_sw, o_ireturn, o_zreturn, o_nreturn, o_lreturn, o_areturn, o_return, o_athrow, o_call, entP, lg_sl, Value.category, st1, st2, List.set, List.getElem?_cons_zero, List.getElem?_cons_succ, List.foldl, popN, aft, h1]; exact k
  simp [o_ic, o_lc, o_null, o_il, o_ll, o_al, o_dup, o_pop, o_dup_x1, o_dup2, o_iadd, o_isub, o_imul, o_iand, o_ior, o_ixor, o_ishl, o_ishr, o_idiv, o_irem, o_ineg, o_ladd, o_lsub, o_lmul, o_land, o_lor, o_lxor, o_ldiv, o_lrem, o_lneg, o_lcmp, o_i2l, o_l2i, o_i2b, o_i2c, o_iushr, o_lshl, o_lshr, o_if_eq, o_if_ne, o_if_lt, o_if_ge, o_if_gt, o_if_le, o_icmp_eq, o_icmp_ne, o_icmp_lt, o_icmp_ge, o_icmp_gt, o_icmp_le, o_ifnull, o_ifnonnull, o_acmp_eq, o_acmp_ne, o_is, o_ls, o_as, o_iinc, o_kill, o_sw, o_ireturn, o_zreturn, o_nreturn, o_lreturn, o_areturn, o_return, o_athrow, o_call, entP, lg_sl, Value.category, st1, st2, List.set, List.getElem?_cons_zero, List.getElem?_cons_succ, List.foldl, popN, aft, o_mg, o_mgl, o_mga, o_mp, o_mpz, o_mpl, o_mia, o_mis, o_mbs, o_mc, h1]
  refine m_isSign (c := 45) hT hk (by omega) ?_
  by_cases h2 : isS tp td f 45 = true
  · simp [h2] at k; simp [o_ic, o_lc, o_null, o_il, o_ll, o_al, o_dup, o_pop, o_dup_x1, o_dup2, o_iadd, o_isub, o_imul, o_iand, o_ior, o_ixor, o_ishl, o_ishr, o_idiv, o_irem, o_ineg, o_ladd, o_lsub, o_lmul, o_land, o_lor, o_lxor, o_ldiv, o_lrem, o_lneg, o_lcmp, o_i2l, o_l2i, o_i2b, o_i2c, o_iushr, o_lshl, o_lshr, o_if_eq, o_if_ne, o_if_lt, o_if_ge, o_if_gt, o_if_le, o_icmp_eq, o_icmp_ne, o_icmp_lt, o_icmp_ge, o_icmp_gt, o_icmp_le, o_ifnull, o_ifnonnull, o_acmp_eq, o_acmp_ne, o_is, o_ls, o_as, o_iinc, o_kill, o_sw, o_ireturn, o_zreturn, o_nreturn, o_lreturn, o_areturn, o_return, o_athrow, o_call, entP, lg_sl, Value.category, st1, st2, List.set, List.getElem?_cons_zero, List.getElem?_cons_succ, List.foldl, popN, aft, h2]; exact k
  simp [o_ic, o_lc, o_null, o_il, o_ll, o_al, o_dup, o_pop, o_dup_x1, o_dup2, o_iadd, o_isub, o_imul, o_iand, o_ior, o_ixor, o_ishl, o_ishr, o_idiv, o_irem, o_ineg, o_ladd, o_lsub, o_lmul, o_land, o_lor, o_lxor, o_ldiv, o_lrem, o_lneg, o_lcmp, o_i2l, o_l2i, o_i2b, o_i2c, o_iushr, o_lshl, o_lshr, o_if_eq, o_if_ne, o_if_lt, o_if_ge, o_if_gt, o_if_le, o_icmp_eq, o_icmp_ne, o_icmp_lt, o_icmp_ge, o_icmp_gt, o_icmp_le, o_ifnull, o_ifnonnull, o_acmp_eq, o_acmp_ne, o_is, o_ls, o_as, o_iinc, o_kill, o_sw, o_ireturn, o_zreturn, o_nreturn, o_lreturn, o_areturn, o_return, o_athrow, o_call, entP, lg_sl, Value.category, st1, st2, List.set, List.getElem?_cons_zero, List.getElem?_cons_succ, List.foldl, popN, aft, o_mg, o_mgl, o_mga, o_mp, o_mpz, o_mpl, o_mia, o_mis, o_mbs, o_mc, h2]
  refine m_isSign (c := 42) hT hk (by omega) ?_
  by_cases h3 : isS tp td f 42 = true
  · simp [h3] at k; simp [o_ic, o_lc, o_null, o_il, o_ll, o_al, o_dup, o_pop, o_dup_x1, o_dup2, o_iadd, o_isub, o_imul, o_iand, o_ior, o_ixor, o_ishl, o_ishr, o_idiv, o_irem, o_ineg, o_ladd, o_lsub, o_lmul, o_land, o_lor, o_lxor, o_ldiv, o_lrem, o_lneg, o_lcmp, o_i2l, o_l2i, o_i2b, o_i2c, o_iushr, o_lshl, o_lshr, o_if_eq, o_if_ne, o_if_lt, o_if_ge, o_if_gt, o_if_le, o_icmp_eq, o_icmp_ne, o_icmp_lt, o_icmp_ge, o_icmp_gt, o_icmp_le, o_ifnull, o_ifnonnull, o_acmp_eq, o_acmp_ne, o_is, o_ls, o_as, o_iinc, o_kill, o_sw, o_ireturn, o_zreturn, o_nreturn, o_lreturn, o_areturn, o_return, o_athrow, o_call, entP, lg_sl, Value.category, st1, st2, List.set, List.getElem?_cons_zero, List.getElem?_cons_succ, List.foldl, popN, aft, h3]; exact k
  simp [o_ic, o_lc, o_null, o_il, o_ll, o_al, o_dup, o_pop, o_dup_x1, o_dup2, o_iadd, o_isub, o_imul, o_iand, o_ior, o_ixor, o_ishl, o_ishr, o_idiv, o_irem, o_ineg, o_ladd, o_lsub, o_lmul, o_land, o_lor, o_lxor, o_ldiv, o_lrem, o_lneg, o_lcmp, o_i2l, o_l2i, o_i2b, o_i2c, o_iushr, o_lshl, o_lshr, o_if_eq, o_if_ne, o_if_lt, o_if_ge, o_if_gt, o_if_le, o_icmp_eq, o_icmp_ne, o_icmp_lt, o_icmp_ge, o_icmp_gt, o_icmp_le, o_ifnull, o_ifnonnull, o_acmp_eq, o_acmp_ne, o_is, o_ls, o_as, o_iinc, o_kill, o_sw, o_ireturn, o_zreturn, o_nreturn, o_lreturn, o_areturn, o_return, o_athrow, o_call, entP, lg_sl, Value.category, st1, st2, List.set, List.getElem?_cons_zero, List.getElem?_cons_succ, List.foldl, popN, aft, o_mg, o_mgl, o_mga, o_mp, o_mpz, o_mpl, o_mia, o_mis, o_mbs, o_mc, h3]
  refine m_isSign (c := 38) hT hk (by omega) ?_
  by_cases h4 : isS tp td f 38 = true
  · simp [h4] at k; simp [o_ic, o_lc, o_null, o_il, o_ll, o_al, o_dup, o_pop, o_dup_x1, o_dup2, o_iadd, o_isub, o_imul, o_iand, o_ior, o_ixor, o_ishl, o_ishr, o_idiv, o_irem, o_ineg, o_ladd, o_lsub, o_lmul, o_land, o_lor, o_lxor, o_ldiv, o_lrem, o_lneg, o_lcmp, o_i2l, o_l2i, o_i2b, o_i2c, o_iushr, o_lshl, o_lshr, o_if_eq, o_if_ne, o_if_lt, o_if_ge, o_if_gt, o_if_le, o_icmp_eq, o_icmp_ne, o_icmp_lt, o_icmp_ge, o_icmp_gt, o_icmp_le, o_ifnull, o_ifnonnull, o_acmp_eq, o_acmp_ne, o_is, o_ls, o_as, o_iinc, o_kill, o_sw, o_ireturn, o_zreturn, o_nreturn, o_lreturn, o_areturn, o_return, o_athrow, o_call, entP, lg_sl, Value.category, st1, st2, List.set, List.getElem?_cons_zero, List.getElem?_cons_succ, List.foldl, popN, aft, h4]; exact k
  simp [o_ic, o_lc, o_null, o_il, o_ll, o_al, o_dup, o_pop, o_dup_x1, o_dup2, o_iadd, o_isub, o_imul, o_iand, o_ior, o_ixor, o_ishl, o_ishr, o_idiv, o_irem, o_ineg, o_ladd, o_lsub, o_lmul, o_land, o_lor, o_lxor, o_ldiv, o_lrem, o_lneg, o_lcmp, o_i2l, o_l2i, o_i2b, o_i2c, o_iushr, o_lshl, o_lshr, o_if_eq, o_if_ne, o_if_lt, o_if_ge, o_if_gt, o_if_le, o_icmp_eq, o_icmp_ne, o_icmp_lt, o_icmp_ge, o_icmp_gt, o_icmp_le, o_ifnull, o_ifnonnull, o_acmp_eq, o_acmp_ne, o_is, o_ls, o_as, o_iinc, o_kill, o_sw, o_ireturn, o_zreturn, o_nreturn, o_lreturn, o_areturn, o_return, o_athrow, o_call, entP, lg_sl, Value.category, st1, st2, List.set, List.getElem?_cons_zero, List.getElem?_cons_succ, List.foldl, popN, aft, o_mg, o_mgl, o_mga, o_mp, o_mpz, o_mpl, o_mia, o_mis, o_mbs, o_mc, h4]
  refine m_isSign (c := 94) hT hk (by omega) ?_
  by_cases h5 : isS tp td f 94 = true
  · simp [h5] at k; simp [o_ic, o_lc, o_null, o_il, o_ll, o_al, o_dup, o_pop, o_dup_x1, o_dup2, o_iadd, o_isub, o_imul, o_iand, o_ior, o_ixor, o_ishl, o_ishr, o_idiv, o_irem, o_ineg, o_ladd, o_lsub, o_lmul, o_land, o_lor, o_lxor, o_ldiv, o_lrem, o_lneg, o_lcmp, o_i2l, o_l2i, o_i2b, o_i2c, o_iushr, o_lshl, o_lshr, o_if_eq, o_if_ne, o_if_lt, o_if_ge, o_if_gt, o_if_le, o_icmp_eq, o_icmp_ne, o_icmp_lt, o_icmp_ge, o_icmp_gt, o_icmp_le, o_ifnull, o_ifnonnull, o_acmp_eq, o_acmp_ne, o_is, o_ls, o_as, o_iinc, o_kill, o_sw, o_ireturn, o_zreturn, o_nreturn, o_lreturn, o_areturn, o_return, o_athrow, o_call, entP, lg_sl, Value.category, st1, st2, List.set, List.getElem?_cons_zero, List.getElem?_cons_succ, List.foldl, popN, aft, h5]; exact k
  simp [o_ic, o_lc, o_null, o_il, o_ll, o_al, o_dup, o_pop, o_dup_x1, o_dup2, o_iadd, o_isub, o_imul, o_iand, o_ior, o_ixor, o_ishl, o_ishr, o_idiv, o_irem, o_ineg, o_ladd, o_lsub, o_lmul, o_land, o_lor, o_lxor, o_ldiv, o_lrem, o_lneg, o_lcmp, o_i2l, o_l2i, o_i2b, o_i2c, o_iushr, o_lshl, o_lshr, o_if_eq, o_if_ne, o_if_lt, o_if_ge, o_if_gt, o_if_le, o_icmp_eq, o_icmp_ne, o_icmp_lt, o_icmp_ge, o_icmp_gt, o_icmp_le, o_ifnull, o_ifnonnull, o_acmp_eq, o_acmp_ne, o_is, o_ls, o_as, o_iinc, o_kill, o_sw, o_ireturn, o_zreturn, o_nreturn, o_lreturn, o_areturn, o_return, o_athrow, o_call, entP, lg_sl, Value.category, st1, st2, List.set, List.getElem?_cons_zero, List.getElem?_cons_succ, List.foldl, popN, aft, o_mg, o_mgl, o_mga, o_mp, o_mpz, o_mpl, o_mia, o_mis, o_mbs, o_mc, h5]
  refine m_isSign (c := 47) hT hk (by omega) ?_
  by_cases h6 : isS tp td f 47 = true
  · simp [h6] at k; simp [o_ic, o_lc, o_null, o_il, o_ll, o_al, o_dup, o_pop, o_dup_x1, o_dup2, o_iadd, o_isub, o_imul, o_iand, o_ior, o_ixor, o_ishl, o_ishr, o_idiv, o_irem, o_ineg, o_ladd, o_lsub, o_lmul, o_land, o_lor, o_lxor, o_ldiv, o_lrem, o_lneg, o_lcmp, o_i2l, o_l2i, o_i2b, o_i2c, o_iushr, o_lshl, o_lshr, o_if_eq, o_if_ne, o_if_lt, o_if_ge, o_if_gt, o_if_le, o_icmp_eq, o_icmp_ne, o_icmp_lt, o_icmp_ge, o_icmp_gt, o_icmp_le, o_ifnull, o_ifnonnull, o_acmp_eq, o_acmp_ne, o_is, o_ls, o_as, o_iinc, o_kill, o_sw, o_ireturn, o_zreturn, o_nreturn, o_lreturn, o_areturn, o_return, o_athrow, o_call, entP, lg_sl, Value.category, st1, st2, List.set, List.getElem?_cons_zero, List.getElem?_cons_succ, List.foldl, popN, aft, h6]; exact k
  simp [h1, h2, h3, h4, h5, h6] at k
  simp [o_ic, o_lc, o_null, o_il, o_ll, o_al, o_dup, o_pop, o_dup_x1, o_dup2, o_iadd, o_isub, o_imul, o_iand, o_ior, o_ixor, o_ishl, o_ishr, o_idiv, o_irem, o_ineg, o_ladd, o_lsub, o_lmul, o_land, o_lor, o_lxor, o_ldiv, o_lrem, o_lneg, o_lcmp, o_i2l, o_l2i, o_i2b, o_i2c, o_iushr, o_lshl, o_lshr, o_if_eq, o_if_ne, o_if_lt, o_if_ge, o_if_gt, o_if_le, o_icmp_eq, o_icmp_ne, o_icmp_lt, o_icmp_ge, o_icmp_gt, o_icmp_le, o_ifnull, o_ifnonnull, o_acmp_eq, o_acmp_ne, o_is, o_ls, o_as, o_iinc, o_kill, o_sw, o_ireturn, o_zreturn, o_nreturn, o_lreturn, o_areturn, o_return, o_athrow, o_call, entP, lg_sl, Value.category, st1, st2, List.set, List.getElem?_cons_zero, List.getElem?_cons_succ, List.foldl, popN, aft, o_mg, o_mgl, o_mga, o_mp, o_mpz, o_mpl, o_mia, o_mis, o_mbs, o_mc, h6]; exact k
/-- what stands of an item that is a setting -/
def ItV (ms0 ms : MS) (n : Nat) (sm : List Sm) (it : Itm) : Prop := ms.2.2 15 n = nn it.1 ∧ ms.2.2 17 n = it.2.1 ∧ SumM ms (sAdd sm (iS it)) ∧ (ms.2.2 18 n = match iS it with
  | some s => nn (smI (sAdd sm (iS it)) s)
  | none => ms0.2.2 18 n) ∧ (it.1 = 1 → ms.2.2 21 n = it.2.2.2.1.1 ∧ ms.2.2 22 n = it.2.2.2.1.2)
theorem BadM.ne {ms : MS} {e : Flt} (h : BadM ms e) : ms.1 32 = nn e.1 ∧ e.1 < 2147483648 ∧ e.1 ≠ 0 ∧ 0 < e.1 := ⟨h.1, by have := h.2.2.2; omega, by have := h.2.2.1; omega, h.2.2.1⟩
/-- the end of a read of a row's place -/
theorem x_as88 {mo : Nat} {Q : Ret MS} {tp : Nat → Nat} {td : Nat} {ms : MS} {g n row : Nat} {sm : List Sm} {nm : Int32} (hn : n < 1200) (hT : TapeM ms tp td) (hp : TokM ms tp td g) (hb : ms.1 32 = 0) (hS : SumM ms sm) (hr : numb tp td g 114 1 = some row) (h17 : ms.2.2 17 n = nm)
    (k : ∀ ms', FrG (PV n) ksV ms ms' → PM tp td (((sgx tp td (nx tp td g) 91).bind (opnd tp td)).bind (fun x => (sgx tp td x.2 93))) ms' → (∀ x g', (sgx tp td (nx tp td g) 91).bind (opnd tp td) = .ok x → sgx tp td x.2 93 = .ok g' → ItV ms ms' n sm (0, nm, 0, (0, 0), (0, 0), some (114, (-1, nn row), x.1), [])) → Q (.inl none) ms') :
    bX2_assigned_32 mo Q [some (.ref mo), some (.int (nn n)), some (.int nm), none, none] [] ms := by
  have b1 : n < 2147483648 := by omega
  have br := numb_le hr
  have b2 : row < 2147483648 := by omega
  simp [bX2_assigned_32, bX2_assigned_88, o_ic, o_lc, o_null, o_il, o_ll, o_al, o_dup, o_pop, o_dup_x1, o_dup2, o_iadd, o_isub, o_imul, o_iand, o_ior, o_ixor, o_ishl, o_ishr, o_idiv, o_irem, o_ineg, o_ladd, o_lsub, o_lmul, o_land, o_lor, o_lxor, o_ldiv, o_lrem, o_lneg, o_lcmp, o_i2l, o_l2i, o_i2b, o_i2c, o_iushr, o_lshl, o_lshr, o_if_eq, o_if_ne, o_if_lt, o_if_ge, o_if_gt, o_if_le, o_icmp_eq, o_icmp_ne, o_icmp_lt, o_icmp_ge, o_icmp_gt, o_icmp_le, o_ifnull, o_ifnonnull, o_acmp_eq, o_acmp_ne, o_is, o_ls, o_as, o_iinc, o_kill, o_sw, o_ireturn, o_zreturn, o_nreturn, o_lreturn, o_areturn, o_return, o_athrow, o_call, entP, lg_sl, Value.category, st1, st2, List.set, List.getElem?_cons_zero, List.getElem?_cons_succ, List.foldl, popN, aft, o_mg, o_mgl, o_mga, o_mp, o_mpz, o_mpl, o_mia, o_mis, o_mbs, o_mc, mput_get, mput_arr, mput_let, mput_put, mset_get, mset_int, mset_let, mputL_get, mputL_arr, mputL_let, mputL_put, i64_8, mLen]
  refine m_numbered (c := 114) (most := 1) hT hp (by omega) (by omega) ?_
  rw [hr]
  simp [o_ic, o_lc, o_null, o_il, o_ll, o_al, o_dup, o_pop, o_dup_x1, o_dup2, o_iadd, o_isub, o_imul, o_iand, o_ior, o_ixor, o_ishl, o_ishr, o_idiv, o_irem, o_ineg, o_ladd, o_lsub, o_lmul, o_land, o_lor, o_lxor, o_ldiv, o_lrem, o_lneg, o_lcmp, o_i2l, o_l2i, o_i2b, o_i2c, o_iushr, o_lshl, o_lshr, o_if_eq, o_if_ne, o_if_lt, o_if_ge, o_if_gt, o_if_le, o_icmp_eq, o_icmp_ne, o_icmp_lt, o_icmp_ge, o_icmp_gt, o_icmp_le, o_ifnull, o_ifnonnull, o_acmp_eq, o_acmp_ne, o_is, o_ls, o_as, o_iinc, o_kill, o_sw, o_ireturn, o_zreturn, o_nreturn, o_lreturn, o_areturn, o_return, o_athrow, o_call, entP, lg_sl, Value.category, st1, st2, List.set, List.getElem?_cons_zero, List.getElem?_cons_succ, List.foldl, popN, aft, o_mg, o_mgl, o_mga, o_mp, o_mpz, o_mpl, o_mia, o_mis, o_mbs, o_mc, onn, vpL, nn_addL, nn_addR, nn_mulL, nn_add, nn_mul, nn_eqL, nn_ltL, nn_leL, nn_Llt, nn_Lle, nn_lt, nn_le, nn_eq, nn_in, nn_clamp, nn_succ, nn_pos, nn_neg1, b2]
  refine x_next hT hp (fun ms1 f1 t1 => ?_)
  have hT1 := f1.tape hT
  simp [o_ic, o_lc, o_null, o_il, o_ll, o_al, o_dup, o_pop, o_dup_x1, o_dup2, o_iadd, o_isub, o_imul, o_iand, o_ior, o_ixor, o_ishl, o_ishr, o_idiv, o_irem, o_ineg, o_ladd, o_lsub, o_lmul, o_land, o_lor, o_lxor, o_ldiv, o_lrem, o_lneg, o_lcmp, o_i2l, o_l2i, o_i2b, o_i2c, o_iushr, o_lshl, o_lshr, o_if_eq, o_if_ne, o_if_lt, o_if_ge, o_if_gt, o_if_le, o_icmp_eq, o_icmp_ne, o_icmp_lt, o_icmp_ge, o_icmp_gt, o_icmp_le, o_ifnull, o_ifnonnull, o_acmp_eq, o_acmp_ne, o_is, o_ls, o_as, o_iinc, o_kill, o_sw, o_ireturn, o_zreturn, o_nreturn, o_lreturn, o_areturn, o_return, o_athrow, o_call, entP, lg_sl, Value.category, st1, st2, List.set, List.getElem?_cons_zero, List.getElem?_cons_succ, List.foldl, popN, aft, o_mg, o_mgl, o_mga, o_mp, o_mpz, o_mpl, o_mia, o_mis, o_mbs, o_mc]
  refine x_take (r := .ok (nx tp td g)) (c := 91) hT1 ⟨t1, (f1.tok 32 (by omega)).trans hb⟩ (by omega) (fun ms2 f2 p2 => ?_)
  have hT2 := f2.tape (by simp) hT1
  simp [o_ic, o_lc, o_null, o_il, o_ll, o_al, o_dup, o_pop, o_dup_x1, o_dup2, o_iadd, o_isub, o_imul, o_iand, o_ior, o_ixor, o_ishl, o_ishr, o_idiv, o_irem, o_ineg, o_ladd, o_lsub, o_lmul, o_land, o_lor, o_lxor, o_ldiv, o_lrem, o_lneg, o_lcmp, o_i2l, o_l2i, o_i2b, o_i2c, o_iushr, o_lshl, o_lshr, o_if_eq, o_if_ne, o_if_lt, o_if_ge, o_if_gt, o_if_le, o_icmp_eq, o_icmp_ne, o_icmp_lt, o_icmp_ge, o_icmp_gt, o_icmp_le, o_ifnull, o_ifnonnull, o_acmp_eq, o_acmp_ne, o_is, o_ls, o_as, o_iinc, o_kill, o_sw, o_ireturn, o_zreturn, o_nreturn, o_lreturn, o_areturn, o_return, o_athrow, o_call, entP, lg_sl, Value.category, st1, st2, List.set, List.getElem?_cons_zero, List.getElem?_cons_succ, List.foldl, popN, aft, o_mg, o_mgl, o_mga, o_mp, o_mpz, o_mpl, o_mia, o_mis, o_mbs, o_mc]
  refine x_operand hT2 p2 (fun ms3 f3 p3 => ?_)
  have hT3 := f3.tape (by simp) hT2
  simp [o_ic, o_lc, o_null, o_il, o_ll, o_al, o_dup, o_pop, o_dup_x1, o_dup2, o_iadd, o_isub, o_imul, o_iand, o_ior, o_ixor, o_ishl, o_ishr, o_idiv, o_irem, o_ineg, o_ladd, o_lsub, o_lmul, o_land, o_lor, o_lxor, o_ldiv, o_lrem, o_lneg, o_lcmp, o_i2l, o_l2i, o_i2b, o_i2c, o_iushr, o_lshl, o_lshr, o_if_eq, o_if_ne, o_if_lt, o_if_ge, o_if_gt, o_if_le, o_icmp_eq, o_icmp_ne, o_icmp_lt, o_icmp_ge, o_icmp_gt, o_icmp_le, o_ifnull, o_ifnonnull, o_acmp_eq, o_acmp_ne, o_is, o_ls, o_as, o_iinc, o_kill, o_sw, o_ireturn, o_zreturn, o_nreturn, o_lreturn, o_areturn, o_return, o_athrow, o_call, entP, lg_sl, Value.category, st1, st2, List.set, List.getElem?_cons_zero, List.getElem?_cons_succ, List.foldl, popN, aft, o_mg, o_mgl, o_mga, o_mp, o_mpz, o_mpl, o_mia, o_mis, o_mbs, o_mc]
  refine x_take (c := 93) hT3 p3.pm (by omega) (fun ms4 f4 p4 => ?_)
  have hT4 := f4.tape (by simp) hT3
  have fr : FrG (PV n) ksV ms ms4 := (((f1.G (P := PV n) (ks := ksV)).trans (f2.L (by simp))).trans (f3.L (by simp))).trans (f4.L (by simp))
  have fr' : FrG (fun _ _ => False) ksO ms ms4 := (((f1.G (P := fun _ _ => False) (ks := ksO)).trans (f2.G.mono (by simp) (fun _ _ q => q))).trans f3.G).trans (f4.G.mono (by simp) (fun _ _ q => q))
  have hS4 : SumM ms4 sm := hS.fr fr' (by simp) (by simp) (by simp)
  have p3' : PMo tp td ((sgx tp td (nx tp td g) 91).bind (opnd tp td)) ms3 := p3
  have p4' : PM tp td (((sgx tp td (nx tp td g) 91).bind (opnd tp td)).map (·.2) |>.bind (fun f => sgx tp td f 93)) ms4 := p4
  generalize (sgx tp td (nx tp td g) 91).bind (opnd tp td) = r at k p3' p4'
  cases r with
  | error e =>
    have hB : BadM ms4 e := p4'
    obtain ⟨q1, q2, q3, q4⟩ := hB.ne
    simp [o_ic, o_lc, o_null, o_il, o_ll, o_al, o_dup, o_pop, o_dup_x1, o_dup2, o_iadd, o_isub, o_imul, o_iand, o_ior, o_ixor, o_ishl, o_ishr, o_idiv, o_irem, o_ineg, o_ladd, o_lsub, o_lmul, o_land, o_lor, o_lxor, o_ldiv, o_lrem, o_lneg, o_lcmp, o_i2l, o_l2i, o_i2b, o_i2c, o_iushr, o_lshl, o_lshr, o_if_eq, o_if_ne, o_if_lt, o_if_ge, o_if_gt, o_if_le, o_icmp_eq, o_icmp_ne, o_icmp_lt, o_icmp_ge, o_icmp_gt, o_icmp_le, o_ifnull, o_ifnonnull, o_acmp_eq, o_acmp_ne, o_is, o_ls, o_as, o_iinc, o_kill, o_sw, o_ireturn, o_zreturn, o_nreturn, o_lreturn, o_areturn, o_return, o_athrow, o_call, entP, lg_sl, Value.category, st1, st2, List.set, List.getElem?_cons_zero, List.getElem?_cons_succ, List.foldl, popN, aft, o_mg, o_mgl, o_mga, o_mp, o_mpz, o_mpl, o_mia, o_mis, o_mbs, o_mc, q1, vpL, nn_addL, nn_addR, nn_mulL, nn_add, nn_mul, nn_eqL, nn_ltL, nn_leL, nn_Llt, nn_Lle, nn_lt, nn_le, nn_eq, nn_in, nn_clamp, nn_succ, nn_pos, nn_neg1, q2, q3]
    exact k ms4 fr hB (fun x g' h => by cases h)
  | ok x =>
    have p5 : PM tp td (sgx tp td x.2 93) ms4 := p4'
    have k' : ∀ ms', FrG (PV n) ksV ms ms' → PM tp td (sgx tp td x.2 93) ms' → (∀ g', sgx tp td x.2 93 = .ok g' → ItV ms ms' n sm (0, nm, 0, (0, 0), (0, 0), some (114, (-1, nn row), x.1), [])) → Q (.inl none) ms' := fun ms' a b c => k ms' a b (fun x' g' h h' => by cases h; exact c g' h')
    generalize sgx tp td x.2 93 = r2 at k' p5
    cases r2 with
    | error e =>
      obtain ⟨q1, q2, q3, q4⟩ := BadM.ne p5
      simp [o_ic, o_lc, o_null, o_il, o_ll, o_al, o_dup, o_pop, o_dup_x1, o_dup2, o_iadd, o_isub, o_imul, o_iand, o_ior, o_ixor, o_ishl, o_ishr, o_idiv, o_irem, o_ineg, o_ladd, o_lsub, o_lmul, o_land, o_lor, o_lxor, o_ldiv, o_lrem, o_lneg, o_lcmp, o_i2l, o_l2i, o_i2b, o_i2c, o_iushr, o_lshl, o_lshr, o_if_eq, o_if_ne, o_if_lt, o_if_ge, o_if_gt, o_if_le, o_icmp_eq, o_icmp_ne, o_icmp_lt, o_icmp_ge, o_icmp_gt, o_icmp_le, o_ifnull, o_ifnonnull, o_acmp_eq, o_acmp_ne, o_is, o_ls, o_as, o_iinc, o_kill, o_sw, o_ireturn, o_zreturn, o_nreturn, o_lreturn, o_areturn, o_return, o_athrow, o_call, entP, lg_sl, Value.category, st1, st2, List.set, List.getElem?_cons_zero, List.getElem?_cons_succ, List.foldl, popN, aft, o_mg, o_mgl, o_mga, o_mp, o_mpz, o_mpl, o_mia, o_mis, o_mbs, o_mc, q1, vpL, nn_addL, nn_addR, nn_mulL, nn_add, nn_mul, nn_eqL, nn_ltL, nn_leL, nn_Llt, nn_Lle, nn_lt, nn_le, nn_eq, nn_in, nn_clamp, nn_succ, nn_pos, nn_neg1, q2, q3]
      exact k' ms4 fr p5 (fun g' h => by cases h)
    | ok g' =>
      have e35 : ms4.1 35 = x.1.1 := (f4.1 35 (by omega) (by simp)).trans p3'.2.2.1
      have e36 : ms4.1 36 = x.1.2 := (f4.1 36 (by omega) (by simp)).trans p3'.2.2.2
      simp [o_ic, o_lc, o_null, o_il, o_ll, o_al, o_dup, o_pop, o_dup_x1, o_dup2, o_iadd, o_isub, o_imul, o_iand, o_ior, o_ixor, o_ishl, o_ishr, o_idiv, o_irem, o_ineg, o_ladd, o_lsub, o_lmul, o_land, o_lor, o_lxor, o_ldiv, o_lrem, o_lneg, o_lcmp, o_i2l, o_l2i, o_i2b, o_i2c, o_iushr, o_lshl, o_lshr, o_if_eq, o_if_ne, o_if_lt, o_if_ge, o_if_gt, o_if_le, o_icmp_eq, o_icmp_ne, o_icmp_lt, o_icmp_ge, o_icmp_gt, o_icmp_le, o_ifnull, o_ifnonnull, o_acmp_eq, o_acmp_ne, o_is, o_ls, o_as, o_iinc, o_kill, o_sw, o_ireturn, o_zreturn, o_nreturn, o_lreturn, o_areturn, o_return, o_athrow, o_call, entP, lg_sl, Value.category, st1, st2, List.set, List.getElem?_cons_zero, List.getElem?_cons_succ, List.foldl, popN, aft, o_mg, o_mgl, o_mga, o_mp, o_mpz, o_mpl, o_mia, o_mis, o_mbs, o_mc, p5.2, e35, e36]
      refine m_summed (s := (114, (-1, nn row), x.1)) hn hS4 (fun ms5 f5 a1 a2 a3 a4 a5 => ?_)
      simp [o_ic, o_lc, o_null, o_il, o_ll, o_al, o_dup, o_pop, o_dup_x1, o_dup2, o_iadd, o_isub, o_imul, o_iand, o_ior, o_ixor, o_ishl, o_ishr, o_idiv, o_irem, o_ineg, o_ladd, o_lsub, o_lmul, o_land, o_lor, o_lxor, o_ldiv, o_lrem, o_lneg, o_lcmp, o_i2l, o_l2i, o_i2b, o_i2c, o_iushr, o_lshl, o_lshr, o_if_eq, o_if_ne, o_if_lt, o_if_ge, o_if_gt, o_if_le, o_icmp_eq, o_icmp_ne, o_icmp_lt, o_icmp_ge, o_icmp_gt, o_icmp_le, o_ifnull, o_ifnonnull, o_acmp_eq, o_acmp_ne, o_is, o_ls, o_as, o_iinc, o_kill, o_sw, o_ireturn, o_zreturn, o_nreturn, o_lreturn, o_areturn, o_return, o_athrow, o_call, entP, lg_sl, Value.category, st1, st2, List.set, List.getElem?_cons_zero, List.getElem?_cons_succ, List.foldl, popN, aft, o_mg, o_mgl, o_mga, o_mp, o_mpz, o_mpl, o_mia, o_mis, o_mbs, o_mc]
      refine k' ms5 (fr.trans (f5.L (by simp) PSum_L)) ⟨?_, ?_⟩ (fun g'' _ => ⟨a1, ?_, a3, a2, fun h => by simp at h⟩)
      · obtain ⟨k1, k2, k3, k4, k5, k6, k7⟩ := p5.1
        exact ⟨k1, (a5 3 (by omega)).trans k2, (a5 4 (by omega)).trans k3, (a5 2 (by omega)).trans k4, fun h => by rw [a4, a5 5 (by omega)]; exact k5 h, fun h => by rw [a5 6 (by omega)]; exact k6 h, fun h => by rw [a5 6 (by omega)]; exact k7 h⟩
      · exact (f5.1 32 (by omega) (by simp)).trans p5.2
      · rw [f5.2 17 n (by simp [PSum]), fr'.2 17 n (by simp)]; exact h17
theorem TokM.same {ms ms' : MS} {tp : Nat → Nat} {td f : Nat} (h : TokM ms tp td f) (h1 : ms'.2.1 = ms.2.1) (h2 : ∀ j, j < 8 → ms'.1 j = ms.1 j) : TokM ms' tp td f := by
  obtain ⟨k1, k2, k3, k4, k5, k6, k7⟩ := h
  exact ⟨k1, (h2 3 (by omega)).trans k2, (h2 4 (by omega)).trans k3, (h2 2 (by omega)).trans k4, fun h => by rw [h1, h2 5 (by omega)]; exact k5 h, fun h => by rw [h2 6 (by omega)]; exact k6 h, fun h => by rw [h2 6 (by omega)]; exact k7 h⟩
theorem isOp9_3 {tp : Nat → Nat} {td f : Nat} (h : isOp9 tp td f = true) : srt tp td f = 3 := by
  unfold isOp9 at h; simp at h; exact h.1
/-- an operand, a sign, an operand -/
theorem x_as89 {mo : Nat} {Q : Ret MS} {tp : Nat → Nat} {td : Nat} {ms : MS} {g n : Nat} {sm : List Sm} {nm z : Int32} (hn : n < 1200) (hT : TapeM ms tp td) (hp : TokM ms tp td g) (hb : ms.1 32 = 0) (hS : SumM ms sm) (h17 : ms.2.2 17 n = nm) (h15 : ms.2.2 15 n = 1)
    (k : ∀ ms' r, FrG (PV n) ksV ms ms' → (r = (opnd tp td g).bind (fun x => if isOp9 tp td x.2 then (opnd tp td (nx tp td x.2)).bind (fun y => .ok ((0, nm, 0, (0, 0), (0, 0), some (nn (tp x.2), x.1, y.1), []), y.2)) else .ok ((1, nm, 0, x.1, (0, 0), none, []), x.2))) → PM tp td (r.map (·.2)) ms' → (∀ it g', r = .ok (it, g') → ItV ms ms' n sm it) → Q (.inl none) ms') :
    bX2_assigned_89 mo Q [some (.ref mo), some (.int (nn n)), some (.int nm), some (.int z), none] [] ms := by
  have b1 : n < 2147483648 := by omega
  simp [bX2_assigned_89, bX2_assigned_108, o_ic, o_lc, o_null, o_il, o_ll, o_al, o_dup, o_pop, o_dup_x1, o_dup2, o_iadd, o_isub, o_imul, o_iand, o_ior, o_ixor, o_ishl, o_ishr, o_idiv, o_irem, o_ineg, o_ladd, o_lsub, o_lmul, o_land, o_lor, o_lxor, o_ldiv, o_lrem, o_lneg, o_lcmp, o_i2l, o_l2i, o_i2b, o_i2c, o_iushr, o_lshl, o_lshr, o_if_eq, o_if_ne, o_if_lt, o_if_ge, o_if_gt, o_if_le, o_icmp_eq, o_icmp_ne, o_icmp_lt, o_icmp_ge, o_icmp_gt, o_icmp_le, o_ifnull, o_ifnonnull, o_acmp_eq, o_acmp_ne, o_is, o_ls, o_as, o_iinc, o_kill, o_sw, o_ireturn, o_zreturn, o_nreturn, o_lreturn, o_areturn, o_return, o_athrow, o_call, entP, lg_sl, Value.category, st1, st2, List.set, List.getElem?_cons_zero, List.getElem?_cons_succ, List.foldl, popN, aft, o_mg, o_mgl, o_mga, o_mp, o_mpz, o_mpl, o_mia, o_mis, o_mbs, o_mc, mput_get, mput_arr, mput_let, mput_put, mset_get, mset_int, mset_let, mputL_get, mputL_arr, mputL_let, mputL_put, i64_8, mLen]
  refine x_first (r := .ok g) hn hT ⟨hp, hb⟩ (fun ms1 f1 p1 v1 => ?_)
  have p1' : PMo tp td (opnd tp td g) ms1 := p1
  have v1' : ∀ o g', opnd tp td g = .ok (o, g') → ms1.2.2 21 n = o.1 ∧ ms1.2.2 22 n = o.2 := v1
  have fr : FrG (PV n) ksV ms ms1 := f1.L (by simp) (PN_L (by simp))
  have hT1 := fr.tapeL hT
  have hS1 : SumM ms1 sm := hS.fr f1 (by simp) (by simp [PN]) (fun k i a b => by simp [PN]; omega)
  have e17 : ms1.2.2 17 n = nm := (f1.2 17 n (by simp [PN])).trans h17
  have e15 : ms1.2.2 15 n = 1 := (f1.2 15 n (by simp [PN])).trans h15
  have e18 : ms1.2.2 18 n = ms.2.2 18 n := f1.2 18 n (by simp [PN])
  generalize hr : opnd tp td g = r at k p1' v1'
  cases r with
  | error e =>
    obtain ⟨q1, q2, q3, q4⟩ := BadM.ne p1'
    simp [o_ic, o_lc, o_null, o_il, o_ll, o_al, o_dup, o_pop, o_dup_x1, o_dup2, o_iadd, o_isub, o_imul, o_iand, o_ior, o_ixor, o_ishl, o_ishr, o_idiv, o_irem, o_ineg, o_ladd, o_lsub, o_lmul, o_land, o_lor, o_lxor, o_ldiv, o_lrem, o_lneg, o_lcmp, o_i2l, o_l2i, o_i2b, o_i2c, o_iushr, o_lshl, o_lshr, o_if_eq, o_if_ne, o_if_lt, o_if_ge, o_if_gt, o_if_le, o_icmp_eq, o_icmp_ne, o_icmp_lt, o_icmp_ge, o_icmp_gt, o_icmp_le, o_ifnull, o_ifnonnull, o_acmp_eq, o_acmp_ne, o_is, o_ls, o_as, o_iinc, o_kill, o_sw, o_ireturn, o_zreturn, o_nreturn, o_lreturn, o_areturn, o_return, o_athrow, o_call, entP, lg_sl, Value.category, st1, st2, List.set, List.getElem?_cons_zero, List.getElem?_cons_succ, List.foldl, popN, aft, o_mg, o_mgl, o_mga, o_mp, o_mpz, o_mpl, o_mia, o_mis, o_mbs, o_mc, q1, vpL, nn_addL, nn_addR, nn_mulL, nn_add, nn_mul, nn_eqL, nn_ltL, nn_leL, nn_Llt, nn_Lle, nn_lt, nn_le, nn_eq, nn_in, nn_clamp, nn_succ, nn_pos, nn_neg1, q2, q3]
    exact fun _ => k ms1 (.error e) fr rfl p1' (fun it g' h => by cases h)
  | ok x =>
    have b0 := p1'.2.1
    simp [o_ic, o_lc, o_null, o_il, o_ll, o_al, o_dup, o_pop, o_dup_x1, o_dup2, o_iadd, o_isub, o_imul, o_iand, o_ior, o_ixor, o_ishl, o_ishr, o_idiv, o_irem, o_ineg, o_ladd, o_lsub, o_lmul, o_land, o_lor, o_lxor, o_ldiv, o_lrem, o_lneg, o_lcmp, o_i2l, o_l2i, o_i2b, o_i2c, o_iushr, o_lshl, o_lshr, o_if_eq, o_if_ne, o_if_lt, o_if_ge, o_if_gt, o_if_le, o_icmp_eq, o_icmp_ne, o_icmp_lt, o_icmp_ge, o_icmp_gt, o_icmp_le, o_ifnull, o_ifnonnull, o_acmp_eq, o_acmp_ne, o_is, o_ls, o_as, o_iinc, o_kill, o_sw, o_ireturn, o_zreturn, o_nreturn, o_lreturn, o_areturn, o_return, o_athrow, o_call, entP, lg_sl, Value.category, st1, st2, List.set, List.getElem?_cons_zero, List.getElem?_cons_succ, List.foldl, popN, aft, o_mg, o_mgl, o_mga, o_mp, o_mpz, o_mpl, o_mia, o_mis, o_mbs, o_mc, b0]
    refine m_isOp hT1 p1'.1 ?_
    by_cases hop : isOp9 tp td x.2 = true
    · rw [if_pos hop]
      simp [bX2_assigned_109, bX2_assigned_157, o_ic, o_lc, o_null, o_il, o_ll, o_al, o_dup, o_pop, o_dup_x1, o_dup2, o_iadd, o_isub, o_imul, o_iand, o_ior, o_ixor, o_ishl, o_ishr, o_idiv, o_irem, o_ineg, o_ladd, o_lsub, o_lmul, o_land, o_lor, o_lxor, o_ldiv, o_lrem, o_lneg, o_lcmp, o_i2l, o_l2i, o_i2b, o_i2c, o_iushr, o_lshl, o_lshr, o_if_eq, o_if_ne, o_if_lt, o_if_ge, o_if_gt, o_if_le, o_icmp_eq, o_icmp_ne, o_icmp_lt, o_icmp_ge, o_icmp_gt, o_icmp_le, o_ifnull, o_ifnonnull, o_acmp_eq, o_acmp_ne, o_is, o_ls, o_as, o_iinc, o_kill, o_sw, o_ireturn, o_zreturn, o_nreturn, o_lreturn, o_areturn, o_return, o_athrow, o_call, entP, lg_sl, Value.category, st1, st2, List.set, List.getElem?_cons_zero, List.getElem?_cons_succ, List.foldl, popN, aft, o_mg, o_mgl, o_mga, o_mp, o_mpz, o_mpl, o_mia, o_mis, o_mbs, o_mc, mput_get, mput_arr, mput_let, mput_put, mset_get, mset_int, mset_let, mputL_get, mputL_arr, mputL_let, mputL_put, i64_8, mLen]
      have k6 := p1'.1.2.2.2.2.2.2 (isOp9_3 hop)
      have hTx := hT1
      refine x_next hT1 p1'.1 (fun ms2 f2 t2 => ?_)
      have hT2 := f2.tape hT1
      simp [o_ic, o_lc, o_null, o_il, o_ll, o_al, o_dup, o_pop, o_dup_x1, o_dup2, o_iadd, o_isub, o_imul, o_iand, o_ior, o_ixor, o_ishl, o_ishr, o_idiv, o_irem, o_ineg, o_ladd, o_lsub, o_lmul, o_land, o_lor, o_lxor, o_ldiv, o_lrem, o_lneg, o_lcmp, o_i2l, o_l2i, o_i2b, o_i2c, o_iushr, o_lshl, o_lshr, o_if_eq, o_if_ne, o_if_lt, o_if_ge, o_if_gt, o_if_le, o_icmp_eq, o_icmp_ne, o_icmp_lt, o_icmp_ge, o_icmp_gt, o_icmp_le, o_ifnull, o_ifnonnull, o_acmp_eq, o_acmp_ne, o_is, o_ls, o_as, o_iinc, o_kill, o_sw, o_ireturn, o_zreturn, o_nreturn, o_lreturn, o_areturn, o_return, o_athrow, o_call, entP, lg_sl, Value.category, st1, st2, List.set, List.getElem?_cons_zero, List.getElem?_cons_succ, List.foldl, popN, aft, o_mg, o_mgl, o_mga, o_mp, o_mpz, o_mpl, o_mia, o_mis, o_mbs, o_mc, mput_get, mput_arr, mput_let, mput_put, mset_get, mset_int, mset_let, mputL_get, mputL_arr, mputL_let, mputL_put, i64_8, mLen]
      refine x_operand (r := .ok (nx tp td x.2)) hT2 ⟨t2, (f2.tok 32 (by omega)).trans b0⟩ (fun ms3 f3 p3 => ?_)
      have p3' : PMo tp td (opnd tp td (nx tp td x.2)) ms3 := p3
      have fr3 : FrG (PV n) ksV ms ms3 := (fr.trans f2.G).trans (f3.L (by simp))
      have fr13 : FrG (fun _ _ => False) ksO ms1 ms3 := (f2.G (P := fun _ _ => False) (ks := ksO)).trans f3.G
      have hS3 : SumM ms3 sm := hS1.fr fr13 (by simp) (by simp) (by simp)
      have k' : ∀ ms' r, FrG (PV n) ksV ms ms' → (r = (opnd tp td (nx tp td x.2)).bind (fun y => .ok ((0, nm, 0, (0, 0), (0, 0), some (nn (tp x.2), x.1, y.1), []), y.2))) → PM tp td (r.map (·.2)) ms' → (∀ it g', r = .ok (it, g') → ItV ms ms' n sm it) → Q (.inl none) ms' := fun ms' r a b c d => k ms' r a (by rw [b]; show _ = if isOp9 tp td x.2 = true then _ else _; rw [if_pos hop]) c d
      generalize opnd tp td (nx tp td x.2) = r3 at k' p3'
      cases r3 with
      | error e =>
        obtain ⟨q1, q2, q3, q4⟩ := BadM.ne p3'
        simp [o_ic, o_lc, o_null, o_il, o_ll, o_al, o_dup, o_pop, o_dup_x1, o_dup2, o_iadd, o_isub, o_imul, o_iand, o_ior, o_ixor, o_ishl, o_ishr, o_idiv, o_irem, o_ineg, o_ladd, o_lsub, o_lmul, o_land, o_lor, o_lxor, o_ldiv, o_lrem, o_lneg, o_lcmp, o_i2l, o_l2i, o_i2b, o_i2c, o_iushr, o_lshl, o_lshr, o_if_eq, o_if_ne, o_if_lt, o_if_ge, o_if_gt, o_if_le, o_icmp_eq, o_icmp_ne, o_icmp_lt, o_icmp_ge, o_icmp_gt, o_icmp_le, o_ifnull, o_ifnonnull, o_acmp_eq, o_acmp_ne, o_is, o_ls, o_as, o_iinc, o_kill, o_sw, o_ireturn, o_zreturn, o_nreturn, o_lreturn, o_areturn, o_return, o_athrow, o_call, entP, lg_sl, Value.category, st1, st2, List.set, List.getElem?_cons_zero, List.getElem?_cons_succ, List.foldl, popN, aft, o_mg, o_mgl, o_mga, o_mp, o_mpz, o_mpl, o_mia, o_mis, o_mbs, o_mc, q1, vpL, nn_addL, nn_addR, nn_mulL, nn_add, nn_mul, nn_eqL, nn_ltL, nn_leL, nn_Llt, nn_Lle, nn_lt, nn_le, nn_eq, nn_in, nn_clamp, nn_succ, nn_pos, nn_neg1, q2, q3]
        exact k' ms3 (.error e) fr3 rfl p3' (fun it g' h => by cases h)
      | ok y =>
        have w := v1' x.1 x.2 rfl
        have e21 : ms3.2.2 21 n = x.1.1 := (fr13.2 21 n (by simp)).trans w.1
        have e22 : ms3.2.2 22 n = x.1.2 := (fr13.2 22 n (by simp)).trans w.2
        simp [o_ic, o_lc, o_null, o_il, o_ll, o_al, o_dup, o_pop, o_dup_x1, o_dup2, o_iadd, o_isub, o_imul, o_iand, o_ior, o_ixor, o_ishl, o_ishr, o_idiv, o_irem, o_ineg, o_ladd, o_lsub, o_lmul, o_land, o_lor, o_lxor, o_ldiv, o_lrem, o_lneg, o_lcmp, o_i2l, o_l2i, o_i2b, o_i2c, o_iushr, o_lshl, o_lshr, o_if_eq, o_if_ne, o_if_lt, o_if_ge, o_if_gt, o_if_le, o_icmp_eq, o_icmp_ne, o_icmp_lt, o_icmp_ge, o_icmp_gt, o_icmp_le, o_ifnull, o_ifnonnull, o_acmp_eq, o_acmp_ne, o_is, o_ls, o_as, o_iinc, o_kill, o_sw, o_ireturn, o_zreturn, o_nreturn, o_lreturn, o_areturn, o_return, o_athrow, o_call, entP, lg_sl, Value.category, st1, st2, List.set, List.getElem?_cons_zero, List.getElem?_cons_succ, List.foldl, popN, aft, o_mg, o_mgl, o_mga, o_mp, o_mpz, o_mpl, o_mia, o_mis, o_mbs, o_mc, mput_get, mput_arr, mput_let, mput_put, mset_get, mset_int, mset_let, mputL_get, mputL_arr, mputL_let, mputL_put, i64_8, mLen, p3'.2.1, p3'.2.2.1, p3'.2.2.2, e21, e22, k6, vpL, nn_addL, nn_addR, nn_mulL, nn_add, nn_mul, nn_eqL, nn_ltL, nn_leL, nn_Llt, nn_Lle, nn_lt, nn_le, nn_eq, nn_in, nn_clamp, nn_succ, nn_pos, nn_neg1, b1, hn]
        refine m_summed (s := (nn (tp x.2), x.1, y.1)) hn hS3 (fun ms5 f5 a1 a2 a3 a4 a5 => ?_)
        simp [o_ic, o_lc, o_null, o_il, o_ll, o_al, o_dup, o_pop, o_dup_x1, o_dup2, o_iadd, o_isub, o_imul, o_iand, o_ior, o_ixor, o_ishl, o_ishr, o_idiv, o_irem, o_ineg, o_ladd, o_lsub, o_lmul, o_land, o_lor, o_lxor, o_ldiv, o_lrem, o_lneg, o_lcmp, o_i2l, o_l2i, o_i2b, o_i2c, o_iushr, o_lshl, o_lshr, o_if_eq, o_if_ne, o_if_lt, o_if_ge, o_if_gt, o_if_le, o_icmp_eq, o_icmp_ne, o_icmp_lt, o_icmp_ge, o_icmp_gt, o_icmp_le, o_ifnull, o_ifnonnull, o_acmp_eq, o_acmp_ne, o_is, o_ls, o_as, o_iinc, o_kill, o_sw, o_ireturn, o_zreturn, o_nreturn, o_lreturn, o_areturn, o_return, o_athrow, o_call, entP, lg_sl, Value.category, st1, st2, List.set, List.getElem?_cons_zero, List.getElem?_cons_succ, List.foldl, popN, aft, o_mg, o_mgl, o_mga, o_mp, o_mpz, o_mpl, o_mia, o_mis, o_mbs, o_mc]
        refine k' ms5 _ (fr3.trans (f5.L (by simp) PSum_L)) rfl ⟨p3'.1.same a4 a5, (f5.1 32 (by omega) (by simp)).trans p3'.2.1⟩ (fun it g' h => ?_)
        cases h
        refine ⟨a1, ?_, a3, a2, fun h => by simp at h⟩
        show _ = nm
        rw [f5.2 17 n (by simp [PSum]), fr13.2 17 n (by simp)]; exact e17
    · rw [if_neg hop]
      simp [o_ic, o_lc, o_null, o_il, o_ll, o_al, o_dup, o_pop, o_dup_x1, o_dup2, o_iadd, o_isub, o_imul, o_iand, o_ior, o_ixor, o_ishl, o_ishr, o_idiv, o_irem, o_ineg, o_ladd, o_lsub, o_lmul, o_land, o_lor, o_lxor, o_ldiv, o_lrem, o_lneg, o_lcmp, o_i2l, o_l2i, o_i2b, o_i2c, o_iushr, o_lshl, o_lshr, o_if_eq, o_if_ne, o_if_lt, o_if_ge, o_if_gt, o_if_le, o_icmp_eq, o_icmp_ne, o_icmp_lt, o_icmp_ge, o_icmp_gt, o_icmp_le, o_ifnull, o_ifnonnull, o_acmp_eq, o_acmp_ne, o_is, o_ls, o_as, o_iinc, o_kill, o_sw, o_ireturn, o_zreturn, o_nreturn, o_lreturn, o_areturn, o_return, o_athrow, o_call, entP, lg_sl, Value.category, st1, st2, List.set, List.getElem?_cons_zero, List.getElem?_cons_succ, List.foldl, popN, aft, o_mg, o_mgl, o_mga, o_mp, o_mpz, o_mpl, o_mia, o_mis, o_mbs, o_mc]
      refine k ms1 _ fr rfl ?_ (fun it g' h => ?_)
      · show PM tp td ((if isOp9 tp td x.2 = true then _ else _ : Except Flt (Itm × Nat)).map (·.2)) ms1
        rw [if_neg hop]; exact ⟨p1'.1, b0⟩
      · change (if isOp9 tp td x.2 = true then _ else _ : Except Flt (Itm × Nat)) = _ at h
        rw [if_neg hop] at h
        cases h
        refine ⟨e15, e17, hS1, e18, fun _ => v1' _ _ rfl⟩
/-- what is read of a setting -/
def asgR (tp : Nat → Nat) (td n f : Nat) : Except Flt (Itm × Nat) := (sgx tp td (nx tp td f) 61).bind (valu tp td n)
theorem x_assigned {mo : Nat} {Q : Ret MS} {tp : Nat → Nat} {td : Nat} {ms : MS} {f n nm : Nat} {sm : List Sm} (hn : n < 1200) (hT : TapeM ms tp td) (hp : TokM ms tp td f) (hb : ms.1 32 = 0) (hS : SumM ms sm) 
    (k : ∀ ms', FrG (PV n) ksV ms ms' → PM tp td ((asgR tp td nm f).map (·.2)) ms' → (∀ it g, asgR tp td nm f = .ok (it, g) → ItV ms ms' n sm it) → Q (.inl none) ms') : pX2_assigned mo [.ref mo, .int (nn n), .int (nn nm)] ms Q := by
  have b1 : n < 2147483648 := by omega
  simp [pX2_assigned, bX2_assigned_0, o_ic, o_lc, o_null, o_il, o_ll, o_al, o_dup, o_pop, o_dup_x1, o_dup2, o_iadd, o_isub, o_imul, o_iand, o_ior, o_ixor, o_ishl, o_ishr, o_idiv, o_irem, o_ineg, o_ladd, o_lsub, o_lmul, o_land, o_lor, o_lxor, o_ldiv, o_lrem, o_lneg, o_lcmp, o_i2l, o_l2i, o_i2b, o_i2c, o_iushr, o_lshl, o_lshr, o_if_eq, o_if_ne, o_if_lt, o_if_ge, o_if_gt, o_if_le, o_icmp_eq, o_icmp_ne, o_icmp_lt, o_icmp_ge, o_icmp_gt, o_icmp_le, o_ifnull, o_ifnonnull, o_acmp_eq, o_acmp_ne, o_is, o_ls, o_as, o_iinc, o_kill, o_sw, o_ireturn, o_zreturn, o_nreturn, o_lreturn, o_areturn, o_return, o_athrow, o_call, entP, lg_sl, Value.category, st1, st2, List.set, List.getElem?_cons_zero, List.getElem?_cons_succ, List.foldl, popN, aft, o_mg, o_mgl, o_mga, o_mp, o_mpz, o_mpl, o_mia, o_mis, o_mbs, o_mc, mput_get, mput_arr, mput_let, mput_put, mset_get, mset_int, mset_let, mputL_get, mputL_arr, mputL_let, mputL_put, i64_8, mLen, vpL, nn_addL, nn_addR, nn_mulL, nn_add, nn_mul, nn_eqL, nn_ltL, nn_leL, nn_Llt, nn_Lle, nn_lt, nn_le, nn_eq, nn_in, nn_clamp, nn_succ, nn_pos, nn_neg1, b1, hn]
  refine x_next (ms := mset (mset ms 15 n 1) 17 n (nn nm)) ((hT.set (by omega)).set (by omega)) hp.set.set (fun ms1 f1 t1 => ?_)
  have hT1 := f1.tape ((hT.set (k := 15) (i := n) (x := 1) (by omega)).set (k := 17) (i := n) (x := nn nm) (by omega))
  simp [o_ic, o_lc, o_null, o_il, o_ll, o_al, o_dup, o_pop, o_dup_x1, o_dup2, o_iadd, o_isub, o_imul, o_iand, o_ior, o_ixor, o_ishl, o_ishr, o_idiv, o_irem, o_ineg, o_ladd, o_lsub, o_lmul, o_land, o_lor, o_lxor, o_ldiv, o_lrem, o_lneg, o_lcmp, o_i2l, o_l2i, o_i2b, o_i2c, o_iushr, o_lshl, o_lshr, o_if_eq, o_if_ne, o_if_lt, o_if_ge, o_if_gt, o_if_le, o_icmp_eq, o_icmp_ne, o_icmp_lt, o_icmp_ge, o_icmp_gt, o_icmp_le, o_ifnull, o_ifnonnull, o_acmp_eq, o_acmp_ne, o_is, o_ls, o_as, o_iinc, o_kill, o_sw, o_ireturn, o_zreturn, o_nreturn, o_lreturn, o_areturn, o_return, o_athrow, o_call, entP, lg_sl, Value.category, st1, st2, List.set, List.getElem?_cons_zero, List.getElem?_cons_succ, List.foldl, popN, aft, o_mg, o_mgl, o_mga, o_mp, o_mpz, o_mpl, o_mia, o_mis, o_mbs, o_mc]
  refine x_take (r := .ok (nx tp td f)) (c := 61) hT1 ⟨t1, (f1.tok 32 (by omega)).trans hb⟩ (by omega) (fun ms2 f2 p2 => ?_)
  have hT2 := f2.tape (by simp) hT1
  have fr0 : FrG (PN n [15, 17]) [32, 33] ms ms2 := (((FrG.rfl9.set ⟨by simp, rfl⟩).set ⟨by simp, rfl⟩).trans f1.G).trans f2.G
  have fr : FrG (PV n) ksV ms ms2 := fr0.L (by simp) (PN_L (by simp))
  have hS2 : SumM ms2 sm := hS.fr fr0 (by simp) (by simp [PN]) (fun k i a b => by simp [PN]; omega)
  have e17 : ms2.2.2 17 n = nn nm := by rw [f2.2, f1.2]; simp [mput_get, mput_arr, mput_let, mput_put, mset_get, mset_int, mset_let, mputL_get, mputL_arr, mputL_let, mputL_put, i64_8, mLen]
  have e15 : ms2.2.2 15 n = 1 := by rw [f2.2, f1.2]; simp [mput_get, mput_arr, mput_let, mput_put, mset_get, mset_int, mset_let, mputL_get, mputL_arr, mputL_let, mputL_put, i64_8, mLen]
  have e18 : ms2.2.2 18 n = ms.2.2 18 n := by rw [f2.2, f1.2]; simp [mput_get, mput_arr, mput_let, mput_put, mset_get, mset_int, mset_let, mputL_get, mputL_arr, mputL_let, mputL_put, i64_8, mLen]
  have p2' : PM tp td (sgx tp td (nx tp td f) 61) ms2 := p2
  unfold asgR at k
  generalize sgx tp td (nx tp td f) 61 = r at k p2'
  have hv : ∀ ms' it, ItV ms2 ms' n sm it → ItV ms ms' n sm it := fun ms' it h => ⟨h.1, h.2.1, h.2.2.1, by rw [h.2.2.2.1, e18], h.2.2.2.2⟩
  cases r with
  | error e =>
    obtain ⟨q1, q2, q3, q4⟩ := BadM.ne p2'
    simp [o_ic, o_lc, o_null, o_il, o_ll, o_al, o_dup, o_pop, o_dup_x1, o_dup2, o_iadd, o_isub, o_imul, o_iand, o_ior, o_ixor, o_ishl, o_ishr, o_idiv, o_irem, o_ineg, o_ladd, o_lsub, o_lmul, o_land, o_lor, o_lxor, o_ldiv, o_lrem, o_lneg, o_lcmp, o_i2l, o_l2i, o_i2b, o_i2c, o_iushr, o_lshl, o_lshr, o_if_eq, o_if_ne, o_if_lt, o_if_ge, o_if_gt, o_if_le, o_icmp_eq, o_icmp_ne, o_icmp_lt, o_icmp_ge, o_icmp_gt, o_icmp_le, o_ifnull, o_ifnonnull, o_acmp_eq, o_acmp_ne, o_is, o_ls, o_as, o_iinc, o_kill, o_sw, o_ireturn, o_zreturn, o_nreturn, o_lreturn, o_areturn, o_return, o_athrow, o_call, entP, lg_sl, Value.category, st1, st2, List.set, List.getElem?_cons_zero, List.getElem?_cons_succ, List.foldl, popN, aft, o_mg, o_mgl, o_mga, o_mp, o_mpz, o_mpl, o_mia, o_mis, o_mbs, o_mc, q1, vpL, nn_addL, nn_addR, nn_mulL, nn_add, nn_mul, nn_eqL, nn_ltL, nn_leL, nn_Llt, nn_Lle, nn_lt, nn_le, nn_eq, nn_in, nn_clamp, nn_succ, nn_pos, nn_neg1, q2, q3]
    exact k ms2 fr p2' (fun it g' h => by cases h)
  | ok g =>
    have b0 := p2'.2
    simp [o_ic, o_lc, o_null, o_il, o_ll, o_al, o_dup, o_pop, o_dup_x1, o_dup2, o_iadd, o_isub, o_imul, o_iand, o_ior, o_ixor, o_ishl, o_ishr, o_idiv, o_irem, o_ineg, o_ladd, o_lsub, o_lmul, o_land, o_lor, o_lxor, o_ldiv, o_lrem, o_lneg, o_lcmp, o_i2l, o_l2i, o_i2b, o_i2c, o_iushr, o_lshl, o_lshr, o_if_eq, o_if_ne, o_if_lt, o_if_ge, o_if_gt, o_if_le, o_icmp_eq, o_icmp_ne, o_icmp_lt, o_icmp_ge, o_icmp_gt, o_icmp_le, o_ifnull, o_ifnonnull, o_acmp_eq, o_acmp_ne, o_is, o_ls, o_as, o_iinc, o_kill, o_sw, o_ireturn, o_zreturn, o_nreturn, o_lreturn, o_areturn, o_return, o_athrow, o_call, entP, lg_sl, Value.category, st1, st2, List.set, List.getElem?_cons_zero, List.getElem?_cons_succ, List.foldl, popN, aft, o_mg, o_mgl, o_mga, o_mp, o_mpz, o_mpl, o_mia, o_mis, o_mbs, o_mc, b0]
    have k1 : ∀ ms', FrG (PV n) ksV ms ms' → PM tp td ((valu tp td nm g).map (·.2)) ms' → (∀ it g', valu tp td nm g = .ok (it, g') → ItV ms2 ms' n sm it) → Q (.inl none) ms' := fun ms' a b c => k ms' a b (fun it g' h => hv ms' it (c it g' h))
    cases hr : numb tp td g 114 1 with
    | some row =>
      refine x_as88 hn hT2 p2'.1 b0 hS2 hr e17 (fun ms' fr' p' it' => ?_)
      have hvalu : valu tp td nm g = (((sgx tp td (nx tp td g) 91).bind (opnd tp td)).bind (fun x => (sgx tp td x.2 93).bind (fun g' => .ok ((0, nn nm, 0, (0, 0), (0, 0), some (114, (-1, nn row), x.1), []), g')))) := by
        unfold valu; rw [hr]
        simp only [bind, Except.bind]
        cases sgx tp td (nx tp td g) 91 <;> rfl
      rw [hvalu] at k1
      generalize (sgx tp td (nx tp td g) 91).bind (opnd tp td) = r1 at k1 p' it'
      cases r1 with
      | error e => exact k1 ms' (fr.trans fr') p' (fun it g' h => by cases h)
      | ok x =>
        have p'' : PM tp td (sgx tp td x.2 93) ms' := p'
        have it'' := fun g' => it' x g' rfl
        have k2 : ∀ ms', FrG (PV n) ksV ms ms' → PM tp td (((sgx tp td x.2 93).bind (fun g' => .ok (((0, nn nm, 0, (0, 0), (0, 0), some (114, (-1, nn row), x.1), []) : Itm), g'))).map (·.2)) ms' → (∀ it g', (sgx tp td x.2 93).bind (fun g' => .ok (((0, nn nm, 0, (0, 0), (0, 0), some (114, (-1, nn row), x.1), []) : Itm), g')) = .ok (it, g') → ItV ms2 ms' n sm it) → Q (.inl none) ms' := k1
        generalize sgx tp td x.2 93 = r2 at k2 p'' it''
        cases r2 with
        | error e => exact k2 ms' (fr.trans fr') p'' (fun it g' h => by cases h)
        | ok g2 => exact k2 ms' (fr.trans fr') p'' (fun it g' h => by cases h; exact it'' g2 rfl)
    | none =>
      simp [bX2_assigned_32, o_ic, o_lc, o_null, o_il, o_ll, o_al, o_dup, o_pop, o_dup_x1, o_dup2, o_iadd, o_isub, o_imul, o_iand, o_ior, o_ixor, o_ishl, o_ishr, o_idiv, o_irem, o_ineg, o_ladd, o_lsub, o_lmul, o_land, o_lor, o_lxor, o_ldiv, o_lrem, o_lneg, o_lcmp, o_i2l, o_l2i, o_i2b, o_i2c, o_iushr, o_lshl, o_lshr, o_if_eq, o_if_ne, o_if_lt, o_if_ge, o_if_gt, o_if_le, o_icmp_eq, o_icmp_ne, o_icmp_lt, o_icmp_ge, o_icmp_gt, o_icmp_le, o_ifnull, o_ifnonnull, o_acmp_eq, o_acmp_ne, o_is, o_ls, o_as, o_iinc, o_kill, o_sw, o_ireturn, o_zreturn, o_nreturn, o_lreturn, o_areturn, o_return, o_athrow, o_call, entP, lg_sl, Value.category, st1, st2, List.set, List.getElem?_cons_zero, List.getElem?_cons_succ, List.foldl, popN, aft, o_mg, o_mgl, o_mga, o_mp, o_mpz, o_mpl, o_mia, o_mis, o_mbs, o_mc, mput_get, mput_arr, mput_let, mput_put, mset_get, mset_int, mset_let, mputL_get, mputL_arr, mputL_let, mputL_put, i64_8, mLen]
      refine m_numbered (c := 114) (most := 1) hT2 p2'.1 (by omega) (by omega) ?_
      rw [hr]
      simp [o_ic, o_lc, o_null, o_il, o_ll, o_al, o_dup, o_pop, o_dup_x1, o_dup2, o_iadd, o_isub, o_imul, o_iand, o_ior, o_ixor, o_ishl, o_ishr, o_idiv, o_irem, o_ineg, o_ladd, o_lsub, o_lmul, o_land, o_lor, o_lxor, o_ldiv, o_lrem, o_lneg, o_lcmp, o_i2l, o_l2i, o_i2b, o_i2c, o_iushr, o_lshl, o_lshr, o_if_eq, o_if_ne, o_if_lt, o_if_ge, o_if_gt, o_if_le, o_icmp_eq, o_icmp_ne, o_icmp_lt, o_icmp_ge, o_icmp_gt, o_icmp_le, o_ifnull, o_ifnonnull, o_acmp_eq, o_acmp_ne, o_is, o_ls, o_as, o_iinc, o_kill, o_sw, o_ireturn, o_zreturn, o_nreturn, o_lreturn, o_areturn, o_return, o_athrow, o_call, entP, lg_sl, Value.category, st1, st2, List.set, List.getElem?_cons_zero, List.getElem?_cons_succ, List.foldl, popN, aft, o_mg, o_mgl, o_mga, o_mp, o_mpz, o_mpl, o_mia, o_mis, o_mbs, o_mc, onn]
      refine x_as89 hn hT2 p2'.1 b0 hS2 e17 e15 (fun ms' r fr' hr' p' it' => k1 ms' (fr.trans fr') ?_ (fun it g' h => it' it g' ?_))
      · have : valu tp td nm g = r := by rw [hr']; unfold valu; rw [hr]; rfl
        rw [this]; exact p'
      · have : valu tp td nm g = r := by rw [hr']; unfold valu; rw [hr]; rfl
        rw [← this]; exact h
