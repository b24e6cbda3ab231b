/-! THE MODEL's questions about facts -/
set_option maxRecDepth 100000
def TbM (ms : MS) (R : Rt) : Prop := NwM ms R ∧ WfR R ∧ TgOk R ∧ (sms R.1).length ≤ 32
/-- facts of a row -/
def FaM (ms : MS) (f n : Nat) (G : Nat → Nat → Bool) : Prop := ∀ k, k < n → ms.2.2 31 (f + k) = wd8 (G k)
theorem TbM.nd {ms : MS} {R : Rt} (h : TbM ms R) {k : Nat} (hk : k < (nds R).length) : NdM ms (960 + k) (ndA (nds R) k) ∧ NdOk R k (ndA (nds R) k) := by
  have hg : (nds R)[k]? = some (ndA (nds R) k) := by unfold ndA; rw [List.getD_eq_getElem?_getD, List.getElem?_eq_getElem hk]; rfl
  exact ⟨h.1.2.2.2.2.1 k _ hg, nds_ok h.2.1 h.2.2.1 hg⟩
theorem TbM.n {ms : MS} {R : Rt} (h : TbM ms R) : (nds R).length ≤ 240 ∧ ms.2.2 10 4 = nn (nds R).length := ⟨nds_240 h.2.1, h.1.2.1⟩
theorem TbM.sm {ms : MS} {R : Rt} (h : TbM ms R) {e : Nat} (he : e < (sms R.1).length) : ms.2.2 26 (128 + e) = (smA R e).1 ∧ ms.2.2 27 (128 + e) = (smA R e).2.1.1 ∧ ms.2.2 28 (128 + e) = (smA R e).2.1.2 ∧ ms.2.2 29 (128 + e) = (smA R e).2.2.1 ∧ ms.2.2 30 (128 + e) = (smA R e).2.2.2 := by
  have hg : (sms R.1)[e]? = some (smA R e) := by unfold smA; rw [List.getD_eq_getElem?_getD, List.getElem?_eq_getElem he]; rfl
  have := h.2.2.2
  exact h.1.2.2.2.2.2.2.2 e _ (by omega) hg
theorem b2i_if (b : Bool) : b2i b 1 = if b = true then 1 else 0 := rfl
theorem b2i_0 (b : Bool) : (b2i b 1 = 0) ↔ b = false := by cases b <;> simp [b2i]
theorem m_base {mo : Nat} {Q : Ret MS} {ms : MS} {p e : Nat} (k : Q (.inl (some (.int (nn ((32 * p + e) * 240))))) ms) : pX2_base mo [.ref mo, .int (nn p), .int (nn e)] ms Q := by
  simp [pX2_base, bX2_base_0, o_ic, o_lc, o_null, o_il, o_ll, o_al, o_dup, o_pop, o_dup_x1, o_dup2, o_iadd, o_isub, o_imul, o_iand, o_ior, o_ixor, o_ishl, o_ishr, o_idiv, o_irem, o_ineg, o_ladd, o_lsub, o_lmul, o_land, o_lor, o_lxor, o_ldiv, o_lrem, o_lneg, o_lcmp, o_i2l, o_l2i, o_i2b, o_i2c, o_iushr, o_lshl, o_lshr, o_if_eq, o_if_ne, o_if_lt, o_if_ge, o_if_gt, o_if_le, o_icmp_eq, o_icmp_ne, o_icmp_lt, o_icmp_ge, o_icmp_gt, o_icmp_le, o_ifnull, o_ifnonnull, o_acmp_eq, o_acmp_ne, o_is, o_ls, o_as, o_iinc, o_kill, o_sw, o_ireturn, o_zreturn, o_nreturn, o_lreturn, o_areturn, o_return, o_athrow, o_call, entP, lg_sl, Value.category, st1, st2, List.set, List.getElem?_cons_zero, List.getElem?_cons_succ, List.foldl, popN, aft, o_mg, o_mgl, o_mga, o_mp, o_mpz, o_mpl, o_mia, o_mis, o_mbs, o_mc, mput_get, mput_arr, mput_let, mput_put, mset_get, mset_int, mset_let, mputL_get, mputL_arr, mputL_let, mputL_put, i64_8, mLen, vpL, nn_addL, nn_addR, nn_mulL, nn_add, nn_mul]
  have e1 : nn (32 * p + e) * 240 = nn ((32 * p + e) * 240) := nn_mul _ _
  rw [e1]; exact k
theorem m_is {mo : Nat} {Q : Ret MS} {ms : MS} {f k i : Nat} {g : Nat → Bool} (hi : i < 8) (hb : f + k < 38400) (hf : ms.2.2 31 (f + k) = wd8 g) (kk : Q (.inl (some (.int (b2i (g i) 1)))) ms) : pX2_is mo [.ref mo, .int (nn f), .int (nn k), .int (p2 i)] ms Q := by
  have b1 : f + k < 2147483648 := by omega
  simp [pX2_is, bX2_is_0, bX2_is_17, bX2_is_18, o_ic, o_lc, o_null, o_il, o_ll, o_al, o_dup, o_pop, o_dup_x1, o_dup2, o_iadd, o_isub, o_imul, o_iand, o_ior, o_ixor, o_ishl, o_ishr, o_idiv, o_irem, o_ineg, o_ladd, o_lsub, o_lmul, o_land, o_lor, o_lxor, o_ldiv, o_lrem, o_lneg, o_lcmp, o_i2l, o_l2i, o_i2b, o_i2c, o_iushr, o_lshl, o_lshr, o_if_eq, o_if_ne, o_if_lt, o_if_ge, o_if_gt, o_if_le, o_icmp_eq, o_icmp_ne, o_icmp_lt, o_icmp_ge, o_icmp_gt, o_icmp_le, o_ifnull, o_ifnonnull, o_acmp_eq, o_acmp_ne, o_is, o_ls, o_as, o_iinc, o_kill, o_sw, o_ireturn, o_zreturn, o_nreturn, o_lreturn, o_areturn, o_return, o_athrow, o_call, entP, lg_sl, Value.category, st1, st2, List.set, List.getElem?_cons_zero, List.getElem?_cons_succ, List.foldl, popN, aft, o_mg, o_mgl, o_mga, o_mp, o_mpz, o_mpl, o_mia, o_mis, o_mbs, o_mc, mput_get, mput_arr, mput_let, mput_put, mset_get, mset_int, mset_let, mputL_get, mputL_arr, mputL_let, mputL_put, i64_8, mLen, vpL, nn_addL, nn_addR, nn_mulL, nn_add, nn_mul, nn_eqL, nn_ltL, nn_leL, nn_Llt, nn_Lle, nn_lt, nn_le, nn_eq, nn_in, nn_clamp, nn_succ, nn_pos, nn_neg1, b1, hb, hf]
  rw [wd8_and g hi]
  refine ⟨fun h => ?_, fun h => ?_⟩
  · rw [h] at kk; exact kk
  · rw [show g i = true by simpa using h] at kk; exact kk
theorem m_isBold {mo : Nat} {Q : Ret MS} {ms : MS} {p e : Nat} {s : Sm} (hb : 32 * p + e < 160) (hs : ms.2.2 26 (32 * p + e) = s.1) (k : Q (.inl (some (.int (b2i (b9 (boldS s)) 1)))) ms) : pX2_isBold mo [.ref mo, .int (nn p), .int (nn e)] ms Q := by
  have b1 : 32 * p + e < 2147483648 := by omega
  simp [pX2_isBold, bX2_isBold_37, bX2_isBold_32, bX2_isBold_36, bX2_isBold_0, o_ic, o_lc, o_null, o_il, o_ll, o_al, o_dup, o_pop, o_dup_x1, o_dup2, o_iadd, o_isub, o_imul, o_iand, o_ior, o_ixor, o_ishl, o_ishr, o_idiv, o_irem, o_ineg, o_ladd, o_lsub, o_lmul, o_land, o_lor, o_lxor, o_ldiv, o_lrem, o_lneg, o_lcmp, o_i2l, o_l2i, o_i2b, o_i2c, o_iushr, o_lshl, o_lshr, o_if_eq, o_if_ne, o_if_lt, o_if_ge, o_if_gt, o_if_le, o_icmp_eq, o_icmp_ne, o_icmp_lt, o_icmp_ge, o_icmp_gt, o_icmp_le, o_ifnull, o_ifnonnull, o_acmp_eq, o_acmp_ne, o_is, o_ls, o_as, o_iinc, o_kill, o_sw, o_ireturn, o_zreturn, o_nreturn, o_lreturn, o_areturn, o_return, o_athrow, o_call, entP, lg_sl, Value.category, st1, st2, List.set, List.getElem?_cons_zero, List.getElem?_cons_succ, List.foldl, popN, aft, o_mg, o_mgl, o_mga, o_mp, o_mpz, o_mpl, o_mia, o_mis, o_mbs, o_mc, mput_get, mput_arr, mput_let, mput_put, mset_get, mset_int, mset_let, mputL_get, mputL_arr, mputL_let, mputL_put, i64_8, mLen, vpL, nn_addL, nn_addR, nn_mulL, nn_add, nn_mul, nn_eqL, nn_ltL, nn_leL, nn_Llt, nn_Lle, nn_lt, nn_le, nn_eq, nn_in, nn_clamp, nn_succ, nn_pos, nn_neg1, b1, hb, hs]
  refine ⟨fun h => ?_, fun h => ⟨fun h2 => ?_, fun h2 => ?_⟩⟩
  · rw [b9_iff.2 (show boldS s from Or.inl h)] at k; exact k
  · rw [b9_not.2 (show ¬ boldS s from fun q => q.elim h h2)] at k; exact k
  · rw [b9_iff.2 (show boldS s from Or.inr h2)] at k; exact k
theorem m_kills {mo : Nat} {Q : Ret MS} {ms : MS} {R : Rt} {k e : Nat} (h : TbM ms R) (hk : k < (nds R).length) (he : e < (sms R.1).length) (kk : Q (.inl (some (.int (b2i (b9 (klP R e k)) 1)))) ms) : pX2_kills mo [.ref mo, .int (nn (960 + k)), .int (nn e)] ms Q := by
  have l := h.n.1
  have l2 := h.2.2.2
  obtain ⟨c1, c2, c3, c4, c5, c6, c7, c8, c9⟩ := (h.nd hk).1
  obtain ⟨s1, s2, s3, s4, s5⟩ := h.sm he
  have ok := (h.nd hk).2
  have b1 : 960 + k < 2147483648 := by omega
  have b2 : 960 + k < 1200 := by omega
  have b3 : 128 + e < 2147483648 := by omega
  have b4 : 128 + e < 160 := by omega
  have b5 : nK (ndA (nds R) k) < 2147483648 := by have := ok.1; omega
  unfold klP killN at kk
  simp [pX2_kills, bX2_kills_92, bX2_kills_91, bX2_kills_87, bX2_kills_48, bX2_kills_47, bX2_kills_46, bX2_kills_0, o_ic, o_lc, o_null, o_il, o_ll, o_al, o_dup, o_pop, o_dup_x1, o_dup2, o_iadd, o_isub, o_imul, o_iand, o_ior, o_ixor, o_ishl, o_ishr, o_idiv, o_irem, o_ineg, o_ladd, o_lsub, o_lmul, o_land, o_lor, o_lxor, o_ldiv, o_lrem, o_lneg, o_lcmp, o_i2l, o_l2i, o_i2b, o_i2c, o_iushr, o_lshl, o_lshr, o_if_eq, o_if_ne, o_if_lt, o_if_ge, o_if_gt, o_if_le, o_icmp_eq, o_icmp_ne, o_icmp_lt, o_icmp_ge, o_icmp_gt, o_icmp_le, o_ifnull, o_ifnonnull, o_acmp_eq, o_acmp_ne, o_is, o_ls, o_as, o_iinc, o_kill, o_sw, o_ireturn, o_zreturn, o_nreturn, o_lreturn, o_areturn, o_return, o_athrow, o_call, entP, lg_sl, Value.category, st1, st2, List.set, List.getElem?_cons_zero, List.getElem?_cons_succ, List.foldl, popN, aft, o_mg, o_mgl, o_mga, o_mp, o_mpz, o_mpl, o_mia, o_mis, o_mbs, o_mc, mput_get, mput_arr, mput_let, mput_put, mset_get, mset_int, mset_let, mputL_get, mputL_arr, mputL_let, mputL_put, i64_8, mLen, vpL, nn_addL, nn_addR, nn_mulL, nn_add, nn_mul, nn_eqL, nn_ltL, nn_leL, nn_Llt, nn_Lle, nn_lt, nn_le, nn_eq, nn_in, nn_clamp, nn_succ, nn_pos, nn_neg1, b1, b2, b3, b4, b5, c1, s1, s2, s3, s4, c3]
  by_cases q : nK (ndA (nds R) k) = 2
  · refine ⟨fun q' => absurd q q', fun _ => ?_⟩
    simp only [q, if_true] at kk
    rw [c9 q]
    refine ⟨fun h1 => ?_, fun h1 => ⟨fun h2 => ?_, fun h2 => ?_⟩⟩
    · rw [b9_not.2 (fun z => h1 z.1)] at kk; exact kk
    · rw [b9_not.2 (fun z => h2 z.2)] at kk; exact kk
    · rw [b9_iff.2 ⟨h1, h2⟩] at kk; exact kk
  · refine ⟨fun _ => ?_, fun q' => absurd q' q⟩
    simp only [q, if_false] at kk
    refine ⟨fun h1 => ?_, fun h1 => ⟨fun h2 => ?_, fun h2 => ⟨fun h3 => ?_, fun h3 => ?_⟩⟩⟩
    · rw [b9_not.2 (fun z => z.1 h1)] at kk; exact kk
    · have h1' : ¬ nNm (ndA (nds R) k) < 0 := by rw [Int32.not_lt]; exact h1
      rw [b9_iff.2 ⟨h1', Or.inl h2⟩] at kk; exact kk
    · rw [b9_not.2 (fun z => z.2.elim h2 h3)] at kk; exact kk
    · have h1' : ¬ nNm (ndA (nds R) k) < 0 := by rw [Int32.not_lt]; exact h1
      rw [b9_iff.2 ⟨h1', Or.inr h3⟩] at kk; exact kk
theorem m_isSeen {mo : Nat} {Q : Ret MS} {ms : MS} {R : Rt} {k : Nat} (h : TbM ms R) (hk : k < (nds R).length) (kk : Q (.inl (some (.int (b2i (b9 (seenN R (ndA (nds R) k))) 1)))) ms) : pX2_isSeen mo [.ref mo, .int (nn (960 + k))] ms Q := by
  have l := h.n.1
  have l2 := h.2.2.2
  obtain ⟨c1, c2, c3, c4, c5, c6, c7, c8, c9⟩ := (h.nd hk).1
  have ok := (h.nd hk).2
  have b1 : 960 + k < 2147483648 := by omega
  have b2 : 960 + k < 1200 := by omega
  have b5 : nK (ndA (nds R) k) < 2147483648 := by have := ok.1; omega
  unfold seenN at kk
  simp [pX2_isSeen, bX2_isSeen_48, bX2_isSeen_43, bX2_isSeen_47, bX2_isSeen_0, o_ic, o_lc, o_null, o_il, o_ll, o_al, o_dup, o_pop, o_dup_x1, o_dup2, o_iadd, o_isub, o_imul, o_iand, o_ior, o_ixor, o_ishl, o_ishr, o_idiv, o_irem, o_ineg, o_ladd, o_lsub, o_lmul, o_land, o_lor, o_lxor, o_ldiv, o_lrem, o_lneg, o_lcmp, o_i2l, o_l2i, o_i2b, o_i2c, o_iushr, o_lshl, o_lshr, o_if_eq, o_if_ne, o_if_lt, o_if_ge, o_if_gt, o_if_le, o_icmp_eq, o_icmp_ne, o_icmp_lt, o_icmp_ge, o_icmp_gt, o_icmp_le, o_ifnull, o_ifnonnull, o_acmp_eq, o_acmp_ne, o_is, o_ls, o_as, o_iinc, o_kill, o_sw, o_ireturn, o_zreturn, o_nreturn, o_lreturn, o_areturn, o_return, o_athrow, o_call, entP, lg_sl, Value.category, st1, st2, List.set, List.getElem?_cons_zero, List.getElem?_cons_succ, List.foldl, popN, aft, o_mg, o_mgl, o_mga, o_mp, o_mpz, o_mpl, o_mia, o_mis, o_mbs, o_mc, mput_get, mput_arr, mput_let, mput_put, mset_get, mset_int, mset_let, mputL_get, mputL_arr, mputL_let, mputL_put, i64_8, mLen, vpL, nn_addL, nn_addR, nn_mulL, nn_add, nn_mul, nn_eqL, nn_ltL, nn_leL, nn_Llt, nn_Lle, nn_lt, nn_le, nn_eq, nn_in, nn_clamp, nn_succ, nn_pos, nn_neg1, b1, b2, b5, c1]
  refine ⟨fun h1 => ?_, fun h1 => ⟨fun h2 => ?_, fun h2 => ⟨fun h3 => ?_, fun h3 => ?_⟩⟩⟩
  · rw [b9_iff.2 (Or.inl h1)] at kk; exact kk
  · rw [b9_iff.2 (Or.inr (Or.inl h2))] at kk; exact kk
  · rw [b9_not.2 (fun z => z.elim h1 (fun z => z.elim h2 (fun z => h3 z.1)))] at kk; exact kk
  · obtain ⟨e, he⟩ := ok.2.2.2.2.2.2.1 h3
    have hel := ok.2.2.2.1 e he
    rw [c4, he]
    simp only [onn]
    refine m_isBold (p := 4) (s := smA R e) (by omega) (h.sm hel).1 ?_
    simp [o_ic, o_lc, o_null, o_il, o_ll, o_al, o_dup, o_pop, o_dup_x1, o_dup2, o_iadd, o_isub, o_imul, o_iand, o_ior, o_ixor, o_ishl, o_ishr, o_idiv, o_irem, o_ineg, o_ladd, o_lsub, o_lmul, o_land, o_lor, o_lxor, o_ldiv, o_lrem, o_lneg, o_lcmp, o_i2l, o_l2i, o_i2b, o_i2c, o_iushr, o_lshl, o_lshr, o_if_eq, o_if_ne, o_if_lt, o_if_ge, o_if_gt, o_if_le, o_icmp_eq, o_icmp_ne, o_icmp_lt, o_icmp_ge, o_icmp_gt, o_icmp_le, o_ifnull, o_ifnonnull, o_acmp_eq, o_acmp_ne, o_is, o_ls, o_as, o_iinc, o_kill, o_sw, o_ireturn, o_zreturn, o_nreturn, o_lreturn, o_areturn, o_return, o_athrow, o_call, entP, lg_sl, Value.category, st1, st2, List.set, List.getElem?_cons_zero, List.getElem?_cons_succ, List.foldl, popN, aft, o_mg, o_mgl, o_mga, o_mp, o_mpz, o_mpl, o_mia, o_mis, o_mbs, o_mc, b2i_0]
    refine ⟨fun h4 => ?_, fun h4 => ?_⟩
    · rw [b9_not.2 (fun z => z.elim h1 (fun z => z.elim h2 (fun z => by
        obtain ⟨-, e', h5, h6⟩ := z
        rw [he] at h5; cases h5
        exact b9_not.1 h4 h6)))] at kk; exact kk
    · rw [b9_iff.2 (Or.inr (Or.inr ⟨h3, e, he, b9_iff.1 h4⟩))] at kk; exact kk
theorem m_allNext {mo : Nat} {Q : Ret MS} {ms : MS} {R : Rt} {f k i : Nat} {G : Nat → Nat → Bool} (h : TbM ms R) (hk : k < (nds R).length) (hi : i < 8) (hf : f + 240 ≤ 38400) (hF : FaM ms f (nds R).length G) (kk : Q (.inl (some (.int (b2i (b9 (nxA (t1R R) (t2R R) (fun j => G j i = true) k)) 1)))) ms) : pX2_allNext mo [.ref mo, .int (nn f), .int (nn k), .int (p2 i)] ms Q := by
  have l := h.n.1
  obtain ⟨c1, c2, c3, c4, c5, c6, -⟩ := (h.nd hk).1
  have ok := (h.nd hk).2
  have b1 : 960 + k < 2147483648 := by omega
  have b2 : 960 + k < 1200 := by omega
  simp [pX2_allNext, bX2_allNext_64, bX2_allNext_63, bX2_allNext_59, bX2_allNext_0, o_ic, o_lc, o_null, o_il, o_ll, o_al, o_dup, o_pop, o_dup_x1, o_dup2, o_iadd, o_isub, o_imul, o_iand, o_ior, o_ixor, o_ishl, o_ishr, o_idiv, o_irem, o_ineg, o_ladd, o_lsub, o_lmul, o_land, o_lor, o_lxor, o_ldiv, o_lrem, o_lneg, o_lcmp, o_i2l, o_l2i, o_i2b, o_i2c, o_iushr, o_lshl, o_lshr, o_if_eq, o_if_ne, o_if_lt, o_if_ge, o_if_gt, o_if_le, o_icmp_eq, o_icmp_ne, o_icmp_lt, o_icmp_ge, o_icmp_gt, o_icmp_le, o_ifnull, o_ifnonnull, o_acmp_eq, o_acmp_ne, o_is, o_ls, o_as, o_iinc, o_kill, o_sw, o_ireturn, o_zreturn, o_nreturn, o_lreturn, o_areturn, o_return, o_athrow, o_call, entP, lg_sl, Value.category, st1, st2, List.set, List.getElem?_cons_zero, List.getElem?_cons_succ, List.foldl, popN, aft, o_mg, o_mgl, o_mga, o_mp, o_mpz, o_mpl, o_mia, o_mis, o_mbs, o_mc, mput_get, mput_arr, mput_let, mput_put, mset_get, mset_int, mset_let, mputL_get, mputL_arr, mputL_let, mputL_put, i64_8, mLen, vpL, nn_addL, nn_addR, nn_mulL, nn_add, nn_mul, nn_eqL, nn_ltL, nn_leL, nn_Llt, nn_Lle, nn_lt, nn_le, nn_eq, nn_in, nn_clamp, nn_succ, nn_pos, nn_neg1, b1, b2, c5]
  cases h1 : nT1 (ndA (nds R) k) with
  | none =>
    rw [b9_not.2 (fun z => by obtain ⟨⟨j, hj, -⟩, -⟩ := z; unfold t1R at hj; rw [h1] at hj; cases hj)] at kk
    simp [onn]; exact kk
  | some j =>
    have hj := ok.2.1 j h1
    have b3 : j < 2147483648 := by omega
    simp [onn, nn_eqL, nn_ltL, nn_leL, nn_Llt, nn_Lle, nn_lt, nn_le, nn_eq, nn_in, nn_clamp, nn_succ, nn_pos, nn_neg1, b3]
    refine m_is hi (by omega) (hF j hj) ?_
    simp [o_ic, o_lc, o_null, o_il, o_ll, o_al, o_dup, o_pop, o_dup_x1, o_dup2, o_iadd, o_isub, o_imul, o_iand, o_ior, o_ixor, o_ishl, o_ishr, o_idiv, o_irem, o_ineg, o_ladd, o_lsub, o_lmul, o_land, o_lor, o_lxor, o_ldiv, o_lrem, o_lneg, o_lcmp, o_i2l, o_l2i, o_i2b, o_i2c, o_iushr, o_lshl, o_lshr, o_if_eq, o_if_ne, o_if_lt, o_if_ge, o_if_gt, o_if_le, o_icmp_eq, o_icmp_ne, o_icmp_lt, o_icmp_ge, o_icmp_gt, o_icmp_le, o_ifnull, o_ifnonnull, o_acmp_eq, o_acmp_ne, o_is, o_ls, o_as, o_iinc, o_kill, o_sw, o_ireturn, o_zreturn, o_nreturn, o_lreturn, o_areturn, o_return, o_athrow, o_call, entP, lg_sl, Value.category, st1, st2, List.set, List.getElem?_cons_zero, List.getElem?_cons_succ, List.foldl, popN, aft, o_mg, o_mgl, o_mga, o_mp, o_mpz, o_mpl, o_mia, o_mis, o_mbs, o_mc, b2i_0]
    refine ⟨fun g1 => ?_, fun g1 => ?_⟩
    · rw [b9_not.2 (fun z => by obtain ⟨⟨j', hj', z⟩, -⟩ := z; unfold t1R at hj'; rw [h1] at hj'; cases hj'; rw [g1] at z; cases z)] at kk
      exact kk
    · simp [o_ic, o_lc, o_null, o_il, o_ll, o_al, o_dup, o_pop, o_dup_x1, o_dup2, o_iadd, o_isub, o_imul, o_iand, o_ior, o_ixor, o_ishl, o_ishr, o_idiv, o_irem, o_ineg, o_ladd, o_lsub, o_lmul, o_land, o_lor, o_lxor, o_ldiv, o_lrem, o_lneg, o_lcmp, o_i2l, o_l2i, o_i2b, o_i2c, o_iushr, o_lshl, o_lshr, o_if_eq, o_if_ne, o_if_lt, o_if_ge, o_if_gt, o_if_le, o_icmp_eq, o_icmp_ne, o_icmp_lt, o_icmp_ge, o_icmp_gt, o_icmp_le, o_ifnull, o_ifnonnull, o_acmp_eq, o_acmp_ne, o_is, o_ls, o_as, o_iinc, o_kill, o_sw, o_ireturn, o_zreturn, o_nreturn, o_lreturn, o_areturn, o_return, o_athrow, o_call, entP, lg_sl, Value.category, st1, st2, List.set, List.getElem?_cons_zero, List.getElem?_cons_succ, List.foldl, popN, aft, o_mg, o_mgl, o_mga, o_mp, o_mpz, o_mpl, o_mia, o_mis, o_mbs, o_mc, mput_get, mput_arr, mput_let, mput_put, mset_get, mset_int, mset_let, mputL_get, mputL_arr, mputL_let, mputL_put, i64_8, mLen, vpL, nn_addL, nn_addR, nn_mulL, nn_add, nn_mul, nn_eqL, nn_ltL, nn_leL, nn_Llt, nn_Lle, nn_lt, nn_le, nn_eq, nn_in, nn_clamp, nn_succ, nn_pos, nn_neg1, b1, b2, c6]
      cases h2 : nT2 (ndA (nds R) k) with
      | none =>
        rw [b9_iff.2 ⟨⟨j, h1, by simpa using g1⟩, fun j' hj' => by unfold t2R at hj'; rw [h2] at hj'; cases hj'⟩] at kk
        simp [onn]; exact kk
      | some j2 =>
        have hj2 := ok.2.2.1 j2 h2
        have b4 : j2 < 2147483648 := by omega
        simp [onn, nn_eqL, nn_ltL, nn_leL, nn_Llt, nn_Lle, nn_lt, nn_le, nn_eq, nn_in, nn_clamp, nn_succ, nn_pos, nn_neg1, b4]
        refine m_is hi (by omega) (hF j2 hj2) ?_
        simp [o_ic, o_lc, o_null, o_il, o_ll, o_al, o_dup, o_pop, o_dup_x1, o_dup2, o_iadd, o_isub, o_imul, o_iand, o_ior, o_ixor, o_ishl, o_ishr, o_idiv, o_irem, o_ineg, o_ladd, o_lsub, o_lmul, o_land, o_lor, o_lxor, o_ldiv, o_lrem, o_lneg, o_lcmp, o_i2l, o_l2i, o_i2b, o_i2c, o_iushr, o_lshl, o_lshr, o_if_eq, o_if_ne, o_if_lt, o_if_ge, o_if_gt, o_if_le, o_icmp_eq, o_icmp_ne, o_icmp_lt, o_icmp_ge, o_icmp_gt, o_icmp_le, o_ifnull, o_ifnonnull, o_acmp_eq, o_acmp_ne, o_is, o_ls, o_as, o_iinc, o_kill, o_sw, o_ireturn, o_zreturn, o_nreturn, o_lreturn, o_areturn, o_return, o_athrow, o_call, entP, lg_sl, Value.category, st1, st2, List.set, List.getElem?_cons_zero, List.getElem?_cons_succ, List.foldl, popN, aft, o_mg, o_mgl, o_mga, o_mp, o_mpz, o_mpl, o_mia, o_mis, o_mbs, o_mc, b2i_0]
        refine ⟨fun g2 => ?_, fun g2 => ?_⟩
        · rw [b9_not.2 (fun z => by have := z.2 j2 h2; simp only at this; rw [g2] at this; cases this)] at kk
          exact kk
        · rw [b9_iff.2 ⟨⟨j, h1, by simpa using g1⟩, fun j' hj' => by unfold t2R at hj'; rw [h2] at hj'; cases hj'; simpa using g2⟩] at kk
          exact kk
theorem m_isAloneNext {mo : Nat} {Q : Ret MS} {ms : MS} {f k : Nat} {g : Nat → Bool} (hb : f + k < 38400) (hf : ms.2.2 31 (f + k) = wd8 g) (kk : Q (.inl (some (.int (b2i (g 6 || !g 0 && g 7) 1)))) ms) : pX2_isAloneNext mo [.ref mo, .int (nn f), .int (nn k)] ms Q := by
  simp [pX2_isAloneNext, bX2_isAloneNext_38, bX2_isAloneNext_33, bX2_isAloneNext_37, bX2_isAloneNext_0, o_ic, o_lc, o_null, o_il, o_ll, o_al, o_dup, o_pop, o_dup_x1, o_dup2, o_iadd, o_isub, o_imul, o_iand, o_ior, o_ixor, o_ishl, o_ishr, o_idiv, o_irem, o_ineg, o_ladd, o_lsub, o_lmul, o_land, o_lor, o_lxor, o_ldiv, o_lrem, o_lneg, o_lcmp, o_i2l, o_l2i, o_i2b, o_i2c, o_iushr, o_lshl, o_lshr, o_if_eq, o_if_ne, o_if_lt, o_if_ge, o_if_gt, o_if_le, o_icmp_eq, o_icmp_ne, o_icmp_lt, o_icmp_ge, o_icmp_gt, o_icmp_le, o_ifnull, o_ifnonnull, o_acmp_eq, o_acmp_ne, o_is, o_ls, o_as, o_iinc, o_kill, o_sw, o_ireturn, o_zreturn, o_nreturn, o_lreturn, o_areturn, o_return, o_athrow, o_call, entP, lg_sl, Value.category, st1, st2, List.set, List.getElem?_cons_zero, List.getElem?_cons_succ, List.foldl, popN, aft, o_mg, o_mgl, o_mga, o_mp, o_mpz, o_mpl, o_mia, o_mis, o_mbs, o_mc, mput_get, mput_arr, mput_let, mput_put, mset_get, mset_int, mset_let, mputL_get, mputL_arr, mputL_let, mputL_put, i64_8, mLen]
  refine m_is (i := 6) (by omega) hb hf ?_
  simp [o_ic, o_lc, o_null, o_il, o_ll, o_al, o_dup, o_pop, o_dup_x1, o_dup2, o_iadd, o_isub, o_imul, o_iand, o_ior, o_ixor, o_ishl, o_ishr, o_idiv, o_irem, o_ineg, o_ladd, o_lsub, o_lmul, o_land, o_lor, o_lxor, o_ldiv, o_lrem, o_lneg, o_lcmp, o_i2l, o_l2i, o_i2b, o_i2c, o_iushr, o_lshl, o_lshr, o_if_eq, o_if_ne, o_if_lt, o_if_ge, o_if_gt, o_if_le, o_icmp_eq, o_icmp_ne, o_icmp_lt, o_icmp_ge, o_icmp_gt, o_icmp_le, o_ifnull, o_ifnonnull, o_acmp_eq, o_acmp_ne, o_is, o_ls, o_as, o_iinc, o_kill, o_sw, o_ireturn, o_zreturn, o_nreturn, o_lreturn, o_areturn, o_return, o_athrow, o_call, entP, lg_sl, Value.category, st1, st2, List.set, List.getElem?_cons_zero, List.getElem?_cons_succ, List.foldl, popN, aft, o_mg, o_mgl, o_mga, o_mp, o_mpz, o_mpl, o_mia, o_mis, o_mbs, o_mc, b2i_0]
  refine ⟨fun h1 => ?_, fun h1 => ?_⟩
  · simp [h1, b2i] at kk; exact kk
  · refine m_is (i := 0) (by omega) hb hf ?_
    simp [o_ic, o_lc, o_null, o_il, o_ll, o_al, o_dup, o_pop, o_dup_x1, o_dup2, o_iadd, o_isub, o_imul, o_iand, o_ior, o_ixor, o_ishl, o_ishr, o_idiv, o_irem, o_ineg, o_ladd, o_lsub, o_lmul, o_land, o_lor, o_lxor, o_ldiv, o_lrem, o_lneg, o_lcmp, o_i2l, o_l2i, o_i2b, o_i2c, o_iushr, o_lshl, o_lshr, o_if_eq, o_if_ne, o_if_lt, o_if_ge, o_if_gt, o_if_le, o_icmp_eq, o_icmp_ne, o_icmp_lt, o_icmp_ge, o_icmp_gt, o_icmp_le, o_ifnull, o_ifnonnull, o_acmp_eq, o_acmp_ne, o_is, o_ls, o_as, o_iinc, o_kill, o_sw, o_ireturn, o_zreturn, o_nreturn, o_lreturn, o_areturn, o_return, o_athrow, o_call, entP, lg_sl, Value.category, st1, st2, List.set, List.getElem?_cons_zero, List.getElem?_cons_succ, List.foldl, popN, aft, o_mg, o_mgl, o_mga, o_mp, o_mpz, o_mpl, o_mia, o_mis, o_mbs, o_mc, b2i_0]
    refine ⟨fun h2 => ?_, fun h2 => ?_⟩
    · simp [h1, h2, b2i] at kk; exact kk
    · refine m_is (i := 7) (by omega) hb hf ?_
      simp [o_ic, o_lc, o_null, o_il, o_ll, o_al, o_dup, o_pop, o_dup_x1, o_dup2, o_iadd, o_isub, o_imul, o_iand, o_ior, o_ixor, o_ishl, o_ishr, o_idiv, o_irem, o_ineg, o_ladd, o_lsub, o_lmul, o_land, o_lor, o_lxor, o_ldiv, o_lrem, o_lneg, o_lcmp, o_i2l, o_l2i, o_i2b, o_i2c, o_iushr, o_lshl, o_lshr, o_if_eq, o_if_ne, o_if_lt, o_if_ge, o_if_gt, o_if_le, o_icmp_eq, o_icmp_ne, o_icmp_lt, o_icmp_ge, o_icmp_gt, o_icmp_le, o_ifnull, o_ifnonnull, o_acmp_eq, o_acmp_ne, o_is, o_ls, o_as, o_iinc, o_kill, o_sw, o_ireturn, o_zreturn, o_nreturn, o_lreturn, o_areturn, o_return, o_athrow, o_call, entP, lg_sl, Value.category, st1, st2, List.set, List.getElem?_cons_zero, List.getElem?_cons_succ, List.foldl, popN, aft, o_mg, o_mgl, o_mga, o_mp, o_mpz, o_mpl, o_mia, o_mis, o_mbs, o_mc, b2i_0]
      refine ⟨fun h3 => ?_, fun h3 => ?_⟩
      · simp [h1, h2, h3, b2i] at kk; exact kk
      · simp [h1, h2, h3, b2i] at kk; exact kk
theorem m_leads {mo : Nat} {Q : Ret MS} {ms : MS} {R : Rt} {a k : Nat} (h : TbM ms R) (ha : a < (nds R).length) (hk : k < 2147483648) (kk : Q (.inl (some (.int (b2i (b9 (t1R R a = some k ∨ t2R R a = some k)) 1)))) ms) : pX2_leads mo [.ref mo, .int (nn a), .int (nn k)] ms Q := by
  have l := h.n.1
  obtain ⟨c1, c2, c3, c4, c5, c6, -⟩ := (h.nd ha).1
  have ok := (h.nd ha).2
  have b1 : 960 + a < 2147483648 := by omega
  have b2 : 960 + a < 1200 := by omega
  have q : ∀ o : Option Nat, (∀ j, o = some j → j < (nds R).length) → (onn o = nn k ↔ o = some k) := by
    intro o ho
    cases o with
    | none => simp only [onn]; constructor
              · intro q; exact ((nn_neg1 hk).1 q.symm).elim
              · intro q; cases q
    | some t =>
      have := ho t rfl
      simp only [onn]; rw [nn_eq (by omega) hk]; simp
  have q1 := q _ ok.2.1
  have q2 := q _ ok.2.2.1
  unfold t1R t2R at kk
  simp [pX2_leads, bX2_leads_33, bX2_leads_28, bX2_leads_32, bX2_leads_0, o_ic, o_lc, o_null, o_il, o_ll, o_al, o_dup, o_pop, o_dup_x1, o_dup2, o_iadd, o_isub, o_imul, o_iand, o_ior, o_ixor, o_ishl, o_ishr, o_idiv, o_irem, o_ineg, o_ladd, o_lsub, o_lmul, o_land, o_lor, o_lxor, o_ldiv, o_lrem, o_lneg, o_lcmp, o_i2l, o_l2i, o_i2b, o_i2c, o_iushr, o_lshl, o_lshr, o_if_eq, o_if_ne, o_if_lt, o_if_ge, o_if_gt, o_if_le, o_icmp_eq, o_icmp_ne, o_icmp_lt, o_icmp_ge, o_icmp_gt, o_icmp_le, o_ifnull, o_ifnonnull, o_acmp_eq, o_acmp_ne, o_is, o_ls, o_as, o_iinc, o_kill, o_sw, o_ireturn, o_zreturn, o_nreturn, o_lreturn, o_areturn, o_return, o_athrow, o_call, entP, lg_sl, Value.category, st1, st2, List.set, List.getElem?_cons_zero, List.getElem?_cons_succ, List.foldl, popN, aft, o_mg, o_mgl, o_mga, o_mp, o_mpz, o_mpl, o_mia, o_mis, o_mbs, o_mc, mput_get, mput_arr, mput_let, mput_put, mset_get, mset_int, mset_let, mputL_get, mputL_arr, mputL_let, mputL_put, i64_8, mLen, vpL, nn_addL, nn_addR, nn_mulL, nn_add, nn_mul, nn_eqL, nn_ltL, nn_leL, nn_Llt, nn_Lle, nn_lt, nn_le, nn_eq, nn_in, nn_clamp, nn_succ, nn_pos, nn_neg1, b1, b2, c5, c6, q1, q2]
  refine ⟨fun h1 => ?_, fun h1 => ⟨fun h2 => ?_, fun h2 => ?_⟩⟩
  · rw [b9_iff.2 (Or.inl h1)] at kk; exact kk
  · rw [b9_not.2 (fun z => z.elim h1 h2)] at kk; exact kk
  · rw [b9_iff.2 (Or.inr h2)] at kk; exact kk
