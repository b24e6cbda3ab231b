/-! THE MODEL reads words and numbers -/
set_option maxRecDepth 100000
def wl (tp : Nat → Nat) : Nat → Nat → Int64 → Int64
  | 0, _, v => v
  | n + 1, i, v => wl tp n (i + 1) (v <<< 8 ||| (nn (tp i)).toInt64)
theorem m_letters {mo : Nat} {Q : Ret MS} {tp : Nat → Nat} {td : Nat} {ms : MS} (hT : TapeM ms tp td) {f e : Nat} (hf : ms.1 3 = nn f) (he : ms.1 4 = nn e) (hfe : f ≤ e) (hed : e ≤ td)
    (k : bX2_word_67 mo Q [some (.ref mo), some (.int (nn (adv (fun i => lt9 (tp i)) (min (e - f) 9) f))), none, none, none, none, none] [] (mputL ms (wl tp (adv (fun i => lt9 (tp i)) (min (e - f) 9) f - f) f 0))) :
    bX2_word_10 mo Q [some (.ref mo), some (.int (nn f)), none, none, none, none, none] [] (mputL ms 0) := by
  obtain ⟨h1, h2, h3⟩ := hT
  unfold bX2_word_10
  intro X hX
  have hind : ∀ n q v, f ≤ q → q + n = min e (f + 9) → bX2_word_67 mo Q [some (.ref mo), some (.int (nn (adv (fun i => lt9 (tp i)) n q))), none, none, none, none, none] [] (mputL ms (wl tp (adv (fun i => lt9 (tp i)) n q - q) q v)) → X [some (.ref mo), some (.int (nn q)), none, none, none, none, none] [] (mputL ms v) := by
    intro n
    induction n with
    | zero =>
      intro q v hq e9 k
      simp [adv, wl] at k
      apply hX
      have b1 : q < 2147483648 := by omega
      have b2 : e < 2147483648 := by omega
      simp [o_ic, o_lc, o_null, o_il, o_ll, o_al, o_dup, o_pop, o_dup_x1, o_dup2, o_iadd, o_isub, o_imul, o_iand, o_ior, o_ixor, o_ishl, o_ishr, o_idiv, o_irem, o_ineg, o_ladd, o_lsub, o_lmul, o_land, o_lor, o_lxor, o_ldiv, o_lrem, o_lneg, o_lcmp, o_i2l, o_l2i, o_i2b, o_i2c, o_iushr, o_lshl, o_lshr, o_if_eq, o_if_ne, o_if_lt, o_if_ge, o_if_gt, o_if_le, o_icmp_eq, o_icmp_ne, o_icmp_lt, o_icmp_ge, o_icmp_gt, o_icmp_le, o_ifnull, o_ifnonnull, o_acmp_eq, o_acmp_ne, o_is, o_ls, o_as, o_iinc, o_kill, o_sw, o_ireturn, o_zreturn, o_nreturn, o_lreturn, o_areturn, o_return, o_athrow, o_call, entP, lg_sl, Value.category, st1, st2, List.set, List.getElem?_cons_zero, List.getElem?_cons_succ, List.foldl, popN, aft, o_mg, o_mgl, o_mga, o_mp, o_mpz, o_mpl, o_mia, o_mis, o_mbs, o_mc, mput_get, mput_arr, mput_let, mput_put, mset_get, mset_int, mset_let, mputL_get, mputL_arr, mputL_let, mputL_put, i64_8, mLen, nn_eqL, nn_ltL, nn_leL, nn_Llt, nn_Lle, nn_lt, nn_le, nn_eq, nn_in, nn_clamp, nn_succ, nn_pos, nn_neg1, b1, b2, he, hf]
      refine ⟨fun _ => k, fun hlt => ?_⟩
      obtain ⟨h4, h5⟩ := h3 q (by omega)
      rw [h4]
      refine ⟨by omega, ?_⟩
      refine m_isLetter (by omega) ?_
      simp [o_ic, o_lc, o_null, o_il, o_ll, o_al, o_dup, o_pop, o_dup_x1, o_dup2, o_iadd, o_isub, o_imul, o_iand, o_ior, o_ixor, o_ishl, o_ishr, o_idiv, o_irem, o_ineg, o_ladd, o_lsub, o_lmul, o_land, o_lor, o_lxor, o_ldiv, o_lrem, o_lneg, o_lcmp, o_i2l, o_l2i, o_i2b, o_i2c, o_iushr, o_lshl, o_lshr, o_if_eq, o_if_ne, o_if_lt, o_if_ge, o_if_gt, o_if_le, o_icmp_eq, o_icmp_ne, o_icmp_lt, o_icmp_ge, o_icmp_gt, o_icmp_le, o_ifnull, o_ifnonnull, o_acmp_eq, o_acmp_ne, o_is, o_ls, o_as, o_iinc, o_kill, o_sw, o_ireturn, o_zreturn, o_nreturn, o_lreturn, o_areturn, o_return, o_athrow, o_call, entP, lg_sl, Value.category, st1, st2, List.set, List.getElem?_cons_zero, List.getElem?_cons_succ, List.foldl, popN, aft, o_mg, o_mgl, o_mga, o_mp, o_mpz, o_mpl, o_mia, o_mis, o_mbs, o_mc, mput_get, mput_arr, mput_let, mput_put, mset_get, mset_int, mset_let, mputL_get, mputL_arr, mputL_let, mputL_put, i64_8, mLen, nn_eqL, nn_ltL, nn_leL, nn_Llt, nn_Lle, nn_lt, nn_le, nn_eq, nn_in, nn_clamp, nn_succ, nn_pos, nn_neg1, b1, b2, he, hf]
      refine ⟨fun _ => k, fun _ => ?_⟩
      have b3 : q - f < 2147483648 := by omega
      simp [nn_sub hq, nn_eqL, nn_ltL, nn_leL, nn_Llt, nn_Lle, nn_lt, nn_le, nn_eq, nn_in, nn_clamp, nn_succ, nn_pos, nn_neg1, b3]
      exact ⟨fun _ => k, fun _ => by omega⟩
    | succ n ih =>
      intro q v hq e9 k
      apply hX
      obtain ⟨h4, h5⟩ := h3 q (by omega)
      have b1 : q < 2147483648 := by omega
      have b2 : e < 2147483648 := by omega
      have b3 : tp q < 2147483648 := by omega
      simp [o_ic, o_lc, o_null, o_il, o_ll, o_al, o_dup, o_pop, o_dup_x1, o_dup2, o_iadd, o_isub, o_imul, o_iand, o_ior, o_ixor, o_ishl, o_ishr, o_idiv, o_irem, o_ineg, o_ladd, o_lsub, o_lmul, o_land, o_lor, o_lxor, o_ldiv, o_lrem, o_lneg, o_lcmp, o_i2l, o_l2i, o_i2b, o_i2c, o_iushr, o_lshl, o_lshr, o_if_eq, o_if_ne, o_if_lt, o_if_ge, o_if_gt, o_if_le, o_icmp_eq, o_icmp_ne, o_icmp_lt, o_icmp_ge, o_icmp_gt, o_icmp_le, o_ifnull, o_ifnonnull, o_acmp_eq, o_acmp_ne, o_is, o_ls, o_as, o_iinc, o_kill, o_sw, o_ireturn, o_zreturn, o_nreturn, o_lreturn, o_areturn, o_return, o_athrow, o_call, entP, lg_sl, Value.category, st1, st2, List.set, List.getElem?_cons_zero, List.getElem?_cons_succ, List.foldl, popN, aft, o_mg, o_mgl, o_mga, o_mp, o_mpz, o_mpl, o_mia, o_mis, o_mbs, o_mc, mput_get, mput_arr, mput_let, mput_put, mset_get, mset_int, mset_let, mputL_get, mputL_arr, mputL_let, mputL_put, i64_8, mLen, nn_eqL, nn_ltL, nn_leL, nn_Llt, nn_Lle, nn_lt, nn_le, nn_eq, nn_in, nn_clamp, nn_succ, nn_pos, nn_neg1, b1, b2, he, hf, h4]
      refine ⟨fun _ => by omega, fun _ => ⟨by omega, ?_⟩⟩
      refine m_isLetter (by omega) ?_
      have b4 : q - f < 2147483648 := by omega
      unfold adv at k
      by_cases c : lt9 (tp q) = true
      · rw [if_pos c] at k
        have hge := adv_ge (fun i => lt9 (tp i)) n (q + 1)
        have e8 : adv (fun i => lt9 (tp i)) n (q + 1) - q = (adv (fun i => lt9 (tp i)) n (q + 1) - (q + 1)) + 1 := by omega
        rw [e8, wl] at k
        simp [o_ic, o_lc, o_null, o_il, o_ll, o_al, o_dup, o_pop, o_dup_x1, o_dup2, o_iadd, o_isub, o_imul, o_iand, o_ior, o_ixor, o_ishl, o_ishr, o_idiv, o_irem, o_ineg, o_ladd, o_lsub, o_lmul, o_land, o_lor, o_lxor, o_ldiv, o_lrem, o_lneg, o_lcmp, o_i2l, o_l2i, o_i2b, o_i2c, o_iushr, o_lshl, o_lshr, o_if_eq, o_if_ne, o_if_lt, o_if_ge, o_if_gt, o_if_le, o_icmp_eq, o_icmp_ne, o_icmp_lt, o_icmp_ge, o_icmp_gt, o_icmp_le, o_ifnull, o_ifnonnull, o_acmp_eq, o_acmp_ne, o_is, o_ls, o_as, o_iinc, o_kill, o_sw, o_ireturn, o_zreturn, o_nreturn, o_lreturn, o_areturn, o_return, o_athrow, o_call, entP, lg_sl, Value.category, st1, st2, List.set, List.getElem?_cons_zero, List.getElem?_cons_succ, List.foldl, popN, aft, o_mg, o_mgl, o_mga, o_mp, o_mpz, o_mpl, o_mia, o_mis, o_mbs, o_mc, mput_get, mput_arr, mput_let, mput_put, mset_get, mset_int, mset_let, mputL_get, mputL_arr, mputL_let, mputL_put, i64_8, mLen, nn_eqL, nn_ltL, nn_leL, nn_Llt, nn_Lle, nn_lt, nn_le, nn_eq, nn_in, nn_clamp, nn_succ, nn_pos, nn_neg1, b1, b2, b4, he, hf, c, nn_sub hq, h4]
        refine ⟨fun _ => by omega, fun _ => ⟨by omega, ?_⟩⟩
        exact ih _ _ (by omega) (by omega) k
      · rw [if_neg c] at k
        simp [o_ic, o_lc, o_null, o_il, o_ll, o_al, o_dup, o_pop, o_dup_x1, o_dup2, o_iadd, o_isub, o_imul, o_iand, o_ior, o_ixor, o_ishl, o_ishr, o_idiv, o_irem, o_ineg, o_ladd, o_lsub, o_lmul, o_land, o_lor, o_lxor, o_ldiv, o_lrem, o_lneg, o_lcmp, o_i2l, o_l2i, o_i2b, o_i2c, o_iushr, o_lshl, o_lshr, o_if_eq, o_if_ne, o_if_lt, o_if_ge, o_if_gt, o_if_le, o_icmp_eq, o_icmp_ne, o_icmp_lt, o_icmp_ge, o_icmp_gt, o_icmp_le, o_ifnull, o_ifnonnull, o_acmp_eq, o_acmp_ne, o_is, o_ls, o_as, o_iinc, o_kill, o_sw, o_ireturn, o_zreturn, o_nreturn, o_lreturn, o_areturn, o_return, o_athrow, o_call, entP, lg_sl, Value.category, st1, st2, List.set, List.getElem?_cons_zero, List.getElem?_cons_succ, List.foldl, popN, aft, o_mg, o_mgl, o_mga, o_mp, o_mpz, o_mpl, o_mia, o_mis, o_mbs, o_mc, mput_get, mput_arr, mput_let, mput_put, mset_get, mset_int, mset_let, mputL_get, mputL_arr, mputL_let, mputL_put, i64_8, mLen, nn_eqL, nn_ltL, nn_leL, nn_Llt, nn_Lle, nn_lt, nn_le, nn_eq, nn_in, nn_clamp, nn_succ, nn_pos, nn_neg1, b1, b2, he, hf, c]
        simpa [wl] using k
  exact hind _ _ _ (Nat.le_refl _) (by omega) k
def dl (tp : Nat → Nat) : Nat → Nat → Int64 → Int64
  | 0, _, v => v
  | n + 1, i, v => dl tp n (i + 1) (10 * v + (nn (tp i)).toInt64 - 48)
theorem allF_step (P : Nat → Bool) {i j : Nat} (h : i < j) : allF P i j = (P i && allF P (i + 1) j) := by
  unfold allF
  have e1 : j - i = (j - (i + 1)) + 1 := by omega
  rw [e1, adv]
  by_cases c : P i = true
  · rw [if_pos c, c]; simp
  · rw [if_neg c]; simp [c]; omega
theorem allF_nil (P : Nat → Bool) {i j : Nat} (h : j ≤ i) : allF P i j = true := by
  unfold allF
  have := adv_ge P (j - i) i
  simp; omega
theorem m_digs {mo : Nat} {Q : Ret MS} {tp : Nat → Nat} {td : Nat} {ms : MS} (hT : TapeM ms tp td) {e q : Nat} {b : Int32} {v : Int64} (he : ms.1 4 = nn e) (hqe : q ≤ e) (hed : e ≤ td)
    (k1 : allF (fun i => dg9 (tp i)) q e = true → bX2_word_147 mo Q [some (.ref mo), none, some (.int b), some (.long (dl tp (e - q) q v)), none, some (.int 1), some (.int (nn e))] [] ms)
    (k0 : allF (fun i => dg9 (tp i)) q e = false → ∀ v' j, bX2_word_147 mo Q [some (.ref mo), none, some (.int b), some (.long v'), none, some (.int 0), some (.int j)] [] ms) :
    bX2_word_95 mo Q [some (.ref mo), none, some (.int b), some (.long v), none, some (.int 1), some (.int (nn q))] [] ms := by
  obtain ⟨h1, h2, h3⟩ := hT
  unfold bX2_word_95
  intro X hX
  have hind : ∀ n q v, q + n = e → (allF (fun i => dg9 (tp i)) q e = true → bX2_word_147 mo Q [some (.ref mo), none, some (.int b), some (.long (dl tp n q v)), none, some (.int 1), some (.int (nn e))] [] ms) → (allF (fun i => dg9 (tp i)) q e = false → ∀ v' j, bX2_word_147 mo Q [some (.ref mo), none, some (.int b), some (.long v'), none, some (.int 0), some (.int j)] [] ms) → X [some (.ref mo), none, some (.int b), some (.long v), none, some (.int 1), some (.int (nn q))] [] ms := by
    intro n
    induction n with
    | zero =>
      intro q v e9 k1 k0
      have eq : q = e := by omega
      subst eq
      apply hX
      have b1 : q < 2147483648 := by omega
      simp [o_ic, o_lc, o_null, o_il, o_ll, o_al, o_dup, o_pop, o_dup_x1, o_dup2, o_iadd, o_isub, o_imul, o_iand, o_ior, o_ixor, o_ishl, o_ishr, o_idiv, o_irem, o_ineg, o_ladd, o_lsub, o_lmul, o_land, o_lor, o_lxor, o_ldiv, o_lrem, o_lneg, o_lcmp, o_i2l, o_l2i, o_i2b, o_i2c, o_iushr, o_lshl, o_lshr, o_if_eq, o_if_ne, o_if_lt, o_if_ge, o_if_gt, o_if_le, o_icmp_eq, o_icmp_ne, o_icmp_lt, o_icmp_ge, o_icmp_gt, o_icmp_le, o_ifnull, o_ifnonnull, o_acmp_eq, o_acmp_ne, o_is, o_ls, o_as, o_iinc, o_kill, o_sw, o_ireturn, o_zreturn, o_nreturn, o_lreturn, o_areturn, o_return, o_athrow, o_call, entP, lg_sl, Value.category, st1, st2, List.set, List.getElem?_cons_zero, List.getElem?_cons_succ, List.foldl, popN, aft, o_mg, o_mgl, o_mga, o_mp, o_mpz, o_mpl, o_mia, o_mis, o_mbs, o_mc, mput_get, mput_arr, mput_let, mput_put, mset_get, mset_int, mset_let, mputL_get, mputL_arr, mputL_let, mputL_put, i64_8, mLen, nn_eqL, nn_ltL, nn_leL, nn_Llt, nn_Lle, nn_lt, nn_le, nn_eq, nn_in, nn_clamp, nn_succ, nn_pos, nn_neg1, b1, he]
      exact k1 (allF_nil _ (Nat.le_refl _))
    | succ n ih =>
      intro q v e9 k1 k0
      apply hX
      obtain ⟨h4, h5⟩ := h3 q (by omega)
      have b1 : q < 2147483648 := by omega
      have b2 : e < 2147483648 := by omega
      have b3 : tp q < 2147483648 := by omega
      simp [o_ic, o_lc, o_null, o_il, o_ll, o_al, o_dup, o_pop, o_dup_x1, o_dup2, o_iadd, o_isub, o_imul, o_iand, o_ior, o_ixor, o_ishl, o_ishr, o_idiv, o_irem, o_ineg, o_ladd, o_lsub, o_lmul, o_land, o_lor, o_lxor, o_ldiv, o_lrem, o_lneg, o_lcmp, o_i2l, o_l2i, o_i2b, o_i2c, o_iushr, o_lshl, o_lshr, o_if_eq, o_if_ne, o_if_lt, o_if_ge, o_if_gt, o_if_le, o_icmp_eq, o_icmp_ne, o_icmp_lt, o_icmp_ge, o_icmp_gt, o_icmp_le, o_ifnull, o_ifnonnull, o_acmp_eq, o_acmp_ne, o_is, o_ls, o_as, o_iinc, o_kill, o_sw, o_ireturn, o_zreturn, o_nreturn, o_lreturn, o_areturn, o_return, o_athrow, o_call, entP, lg_sl, Value.category, st1, st2, List.set, List.getElem?_cons_zero, List.getElem?_cons_succ, List.foldl, popN, aft, o_mg, o_mgl, o_mga, o_mp, o_mpz, o_mpl, o_mia, o_mis, o_mbs, o_mc, mput_get, mput_arr, mput_let, mput_put, mset_get, mset_int, mset_let, mputL_get, mputL_arr, mputL_let, mputL_put, i64_8, mLen, nn_eqL, nn_ltL, nn_leL, nn_Llt, nn_Lle, nn_lt, nn_le, nn_eq, nn_in, nn_clamp, nn_succ, nn_pos, nn_neg1, b1, b2, he, h4]
      refine ⟨fun _ => by omega, fun _ => ⟨by omega, ?_⟩⟩
      refine m_isDigit (by omega) ?_
      rw [allF_step _ (by omega)] at k1 k0
      by_cases c : dg9 (tp q) = true
      · simp only [c, Bool.true_and] at k1 k0
        simp [o_ic, o_lc, o_null, o_il, o_ll, o_al, o_dup, o_pop, o_dup_x1, o_dup2, o_iadd, o_isub, o_imul, o_iand, o_ior, o_ixor, o_ishl, o_ishr, o_idiv, o_irem, o_ineg, o_ladd, o_lsub, o_lmul, o_land, o_lor, o_lxor, o_ldiv, o_lrem, o_lneg, o_lcmp, o_i2l, o_l2i, o_i2b, o_i2c, o_iushr, o_lshl, o_lshr, o_if_eq, o_if_ne, o_if_lt, o_if_ge, o_if_gt, o_if_le, o_icmp_eq, o_icmp_ne, o_icmp_lt, o_icmp_ge, o_icmp_gt, o_icmp_le, o_ifnull, o_ifnonnull, o_acmp_eq, o_acmp_ne, o_is, o_ls, o_as, o_iinc, o_kill, o_sw, o_ireturn, o_zreturn, o_nreturn, o_lreturn, o_areturn, o_return, o_athrow, o_call, entP, lg_sl, Value.category, st1, st2, List.set, List.getElem?_cons_zero, List.getElem?_cons_succ, List.foldl, popN, aft, o_mg, o_mgl, o_mga, o_mp, o_mpz, o_mpl, o_mia, o_mis, o_mbs, o_mc, mput_get, mput_arr, mput_let, mput_put, mset_get, mset_int, mset_let, mputL_get, mputL_arr, mputL_let, mputL_put, i64_8, mLen, nn_eqL, nn_ltL, nn_leL, nn_Llt, nn_Lle, nn_lt, nn_le, nn_eq, nn_in, nn_clamp, nn_succ, nn_pos, nn_neg1, b1, b2, he, c, h4]
        refine ⟨by omega, ?_⟩
        exact ih _ _ (by omega) k1 k0
      · have c' : dg9 (tp q) = false := by simpa using c
        simp only [c', Bool.false_and] at k1 k0
        simp [o_ic, o_lc, o_null, o_il, o_ll, o_al, o_dup, o_pop, o_dup_x1, o_dup2, o_iadd, o_isub, o_imul, o_iand, o_ior, o_ixor, o_ishl, o_ishr, o_idiv, o_irem, o_ineg, o_ladd, o_lsub, o_lmul, o_land, o_lor, o_lxor, o_ldiv, o_lrem, o_lneg, o_lcmp, o_i2l, o_l2i, o_i2b, o_i2c, o_iushr, o_lshl, o_lshr, o_if_eq, o_if_ne, o_if_lt, o_if_ge, o_if_gt, o_if_le, o_icmp_eq, o_icmp_ne, o_icmp_lt, o_icmp_ge, o_icmp_gt, o_icmp_le, o_ifnull, o_ifnonnull, o_acmp_eq, o_acmp_ne, o_is, o_ls, o_as, o_iinc, o_kill, o_sw, o_ireturn, o_zreturn, o_nreturn, o_lreturn, o_areturn, o_return, o_athrow, o_call, entP, lg_sl, Value.category, st1, st2, List.set, List.getElem?_cons_zero, List.getElem?_cons_succ, List.foldl, popN, aft, o_mg, o_mgl, o_mga, o_mp, o_mpz, o_mpl, o_mia, o_mis, o_mbs, o_mc, mput_get, mput_arr, mput_let, mput_put, mset_get, mset_int, mset_let, mputL_get, mputL_arr, mputL_let, mputL_put, i64_8, mLen, nn_eqL, nn_ltL, nn_leL, nn_Llt, nn_Lle, nn_lt, nn_le, nn_eq, nn_in, nn_clamp, nn_succ, nn_pos, nn_neg1, b1, b2, he, c', h4]
        refine ⟨by omega, ?_⟩
        apply hX
        have b5 : q + 1 < 2147483648 := by omega
        simp [o_ic, o_lc, o_null, o_il, o_ll, o_al, o_dup, o_pop, o_dup_x1, o_dup2, o_iadd, o_isub, o_imul, o_iand, o_ior, o_ixor, o_ishl, o_ishr, o_idiv, o_irem, o_ineg, o_ladd, o_lsub, o_lmul, o_land, o_lor, o_lxor, o_ldiv, o_lrem, o_lneg, o_lcmp, o_i2l, o_l2i, o_i2b, o_i2c, o_iushr, o_lshl, o_lshr, o_if_eq, o_if_ne, o_if_lt, o_if_ge, o_if_gt, o_if_le, o_icmp_eq, o_icmp_ne, o_icmp_lt, o_icmp_ge, o_icmp_gt, o_icmp_le, o_ifnull, o_ifnonnull, o_acmp_eq, o_acmp_ne, o_is, o_ls, o_as, o_iinc, o_kill, o_sw, o_ireturn, o_zreturn, o_nreturn, o_lreturn, o_areturn, o_return, o_athrow, o_call, entP, lg_sl, Value.category, st1, st2, List.set, List.getElem?_cons_zero, List.getElem?_cons_succ, List.foldl, popN, aft, o_mg, o_mgl, o_mga, o_mp, o_mpz, o_mpl, o_mia, o_mis, o_mbs, o_mc, mput_get, mput_arr, mput_let, mput_put, mset_get, mset_int, mset_let, mputL_get, mputL_arr, mputL_let, mputL_put, i64_8, mLen, nn_eqL, nn_ltL, nn_leL, nn_Llt, nn_Lle, nn_lt, nn_le, nn_eq, nn_in, nn_clamp, nn_succ, nn_pos, nn_neg1, b1, b2, b5, he]
        exact ⟨fun _ => k0 trivial _ _, fun _ => k0 trivial _ _⟩
  exact hind _ _ _ (by omega) k1 k0
theorem m_digs0 {mo : Nat} {Q : Ret MS} {ms : MS} {b : Int32} {v : Int64} {j : Int32} (k : bX2_word_147 mo Q [some (.ref mo), none, some (.int b), some (.long v), none, some (.int 0), some (.int j)] [] ms) :
    bX2_word_95 mo Q [some (.ref mo), none, some (.int b), some (.long v), none, some (.int 0), some (.int j)] [] ms := by
  unfold bX2_word_95
  intro X hX
  apply hX
  simp [o_ic, o_lc, o_null, o_il, o_ll, o_al, o_dup, o_pop, o_dup_x1, o_dup2, o_iadd, o_isub, o_imul, o_iand, o_ior, o_ixor, o_ishl, o_ishr, o_idiv, o_irem, o_ineg, o_ladd, o_lsub, o_lmul, o_land, o_lor, o_lxor, o_ldiv, o_lrem, o_lneg, o_lcmp, o_i2l, o_l2i, o_i2b, o_i2c, o_iushr, o_lshl, o_lshr, o_if_eq, o_if_ne, o_if_lt, o_if_ge, o_if_gt, o_if_le, o_icmp_eq, o_icmp_ne, o_icmp_lt, o_icmp_ge, o_icmp_gt, o_icmp_le, o_ifnull, o_ifnonnull, o_acmp_eq, o_acmp_ne, o_is, o_ls, o_as, o_iinc, o_kill, o_sw, o_ireturn, o_zreturn, o_nreturn, o_lreturn, o_areturn, o_return, o_athrow, o_call, entP, lg_sl, Value.category, st1, st2, List.set, List.getElem?_cons_zero, List.getElem?_cons_succ, List.foldl, popN, aft, o_mg, o_mgl, o_mga, o_mp, o_mpz, o_mpl, o_mia, o_mis, o_mbs, o_mc, mput_get, mput_arr, mput_let, mput_put, mset_get, mset_int, mset_let, mputL_get, mputL_arr, mputL_let, mputL_put, i64_8, mLen, nn_eqL, nn_ltL, nn_leL, nn_Llt, nn_Lle, nn_lt, nn_le, nn_eq, nn_in, nn_clamp, nn_succ, nn_pos, nn_neg1]
  exact ⟨fun _ => k, fun _ => k⟩
/-- the digits of a word: -1 none, -2 a 0 ahead of others -/
def wdig (tp : Nat → Nat) (td f : Nat) : Int32 :=
  if wDg tp td f = rnE tp td f then -1 else if 1 < rnE tp td f - wDg tp td f ∧ tp (wDg tp td f) = 48 then -2 else (dl tp (rnE tp td f - wDg tp td f) (wDg tp td f) 0).toInt32
theorem m_word {mo : Nat} {Q : Ret MS} {tp : Nat → Nat} {td : Nat} {ms : MS} (hT : TapeM ms tp td) {f : Nat} (hf : ms.1 3 = nn f) (he : ms.1 4 = nn (rnE tp td f)) (hft : f < td) (hl : lt9 (tp f) = true)
    (k : ∀ w d, (srt tp td f = 1 → w = wl tp (wDg tp td f - f) f 0 ∧ d = wdig tp td f) → Q (.inl none) (mput (mput (mputL ms w) 5 d) 2 (nn (srt tp td f)))) : pX2_word mo [.ref mo] ms Q := by
  have h1 := hT.1
  have g1 : f ≤ rnE tp td f := adv_ge _ _ _
  have g2 : rnE tp td f ≤ td := by have := adv_le (fun i => ald (tp i)) (td - f) f; unfold rnE; omega
  have b1 : f < 2147483648 := by omega
  have b2 : rnE tp td f < 2147483648 := by omega
  simp [pX2_word, bX2_word_0, o_ic, o_lc, o_null, o_il, o_ll, o_al, o_dup, o_pop, o_dup_x1, o_dup2, o_iadd, o_isub, o_imul, o_iand, o_ior, o_ixor, o_ishl, o_ishr, o_idiv, o_irem, o_ineg, o_ladd, o_lsub, o_lmul, o_land, o_lor, o_lxor, o_ldiv, o_lrem, o_lneg, o_lcmp, o_i2l, o_l2i, o_i2b, o_i2c, o_iushr, o_lshl, o_lshr, o_if_eq, o_if_ne, o_if_lt, o_if_ge, o_if_gt, o_if_le, o_icmp_eq, o_icmp_ne, o_icmp_lt, o_icmp_ge, o_icmp_gt, o_icmp_le, o_ifnull, o_ifnonnull, o_acmp_eq, o_acmp_ne, o_is, o_ls, o_as, o_iinc, o_kill, o_sw, o_ireturn, o_zreturn, o_nreturn, o_lreturn, o_areturn, o_return, o_athrow, o_call, entP, lg_sl, Value.category, st1, st2, List.set, List.getElem?_cons_zero, List.getElem?_cons_succ, List.foldl, popN, aft, o_mg, o_mgl, o_mga, o_mp, o_mpz, o_mpl, o_mia, o_mis, o_mbs, o_mc, mput_get, mput_arr, mput_let, mput_put, mset_get, mset_int, mset_let, mputL_get, mputL_arr, mputL_let, mputL_put, i64_8, mLen, nn_eqL, nn_ltL, nn_leL, nn_Llt, nn_Lle, nn_lt, nn_le, nn_eq, nn_in, nn_clamp, nn_succ, nn_pos, nn_neg1, b1, b2, he, hf]
  refine m_letters hT hf he g1 g2 ?_
  have hw := adv_ge (fun i => lt9 (tp i)) (min (rnE tp td f - f) 9) f
  have hw2 := adv_le (fun i => lt9 (tp i)) (min (rnE tp td f - f) 9) f
  have hmin : rnE tp td f - f ≤ 8 → adv (fun i => lt9 (tp i)) (min (rnE tp td f - f) 9) f = wDg tp td f := by
    intro h; unfold wDg; rw [show min (rnE tp td f - f) 9 = rnE tp td f - f by omega]
  generalize adv (fun i => lt9 (tp i)) (min (rnE tp td f - f) 9) f = z at hw hw2 hmin ⊢
  have b3 : z < 2147483648 := by omega
  have b4 : rnE tp td f - f < 2147483648 := by omega
  simp [bX2_word_67, bX2_word_89, bX2_word_90, o_ic, o_lc, o_null, o_il, o_ll, o_al, o_dup, o_pop, o_dup_x1, o_dup2, o_iadd, o_isub, o_imul, o_iand, o_ior, o_ixor, o_ishl, o_ishr, o_idiv, o_irem, o_ineg, o_ladd, o_lsub, o_lmul, o_land, o_lor, o_lxor, o_ldiv, o_lrem, o_lneg, o_lcmp, o_i2l, o_l2i, o_i2b, o_i2c, o_iushr, o_lshl, o_lshr, o_if_eq, o_if_ne, o_if_lt, o_if_ge, o_if_gt, o_if_le, o_icmp_eq, o_icmp_ne, o_icmp_lt, o_icmp_ge, o_icmp_gt, o_icmp_le, o_ifnull, o_ifnonnull, o_acmp_eq, o_acmp_ne, o_is, o_ls, o_as, o_iinc, o_kill, o_sw, o_ireturn, o_zreturn, o_nreturn, o_lreturn, o_areturn, o_return, o_athrow, o_call, entP, lg_sl, Value.category, st1, st2, List.set, List.getElem?_cons_zero, List.getElem?_cons_succ, List.foldl, popN, aft, o_mg, o_mgl, o_mga, o_mp, o_mpz, o_mpl, o_mia, o_mis, o_mbs, o_mc, mput_get, mput_arr, mput_let, mput_put, mset_get, mset_int, mset_let, mputL_get, mputL_arr, mputL_let, mputL_put, i64_8, mLen, nn_eqL, nn_ltL, nn_leL, nn_Llt, nn_Lle, nn_lt, nn_le, nn_eq, nn_in, nn_clamp, nn_succ, nn_pos, nn_neg1, b1, b2, b3, b4, he, hf, nn_sub g1]
  have hlt : ¬ td ≤ f := by omega
  have hs4 : ¬ (rnE tp td f - f ≤ 8 ∧ allF (fun i => dg9 (tp i)) (wDg tp td f) (rnE tp td f) = true) → srt tp td f = 4 := by
    intro h; unfold srt; rw [if_neg hlt, if_pos hl, if_neg h]
  have hs1 : (rnE tp td f - f ≤ 8 ∧ allF (fun i => dg9 (tp i)) (wDg tp td f) (rnE tp td f) = true) → srt tp td f = 1 := by
    intro h; unfold srt; rw [if_neg hlt, if_pos hl, if_pos h]
  have hend0 : srt tp td f = 4 → ∀ v j, bX2_word_147 mo Q [some (.ref mo), none, some (.int (nn z)), some (.long v), none, some (.int 0), some (.int j)] [] (mputL ms (wl tp (z - f) f 0)) := by
    intro h4 v j
    have kk : ∀ d, Q (.inl none) (mput (mput (mputL ms (wl tp (z - f) f 0)) 5 d) 2 4) := by
      intro d; have := k (wl tp (z - f) f 0) d (by rw [h4]; intro q; cases q); rw [h4] at this; exact this
    have g5 : z ≤ rnE tp td f := by omega
    have b6 : rnE tp td f - z < 2147483648 := by omega
    simp [bX2_word_147, bX2_word_160, bX2_word_186, bX2_word_188, bX2_word_201, bX2_word_202, o_ic, o_lc, o_null, o_il, o_ll, o_al, o_dup, o_pop, o_dup_x1, o_dup2, o_iadd, o_isub, o_imul, o_iand, o_ior, o_ixor, o_ishl, o_ishr, o_idiv, o_irem, o_ineg, o_ladd, o_lsub, o_lmul, o_land, o_lor, o_lxor, o_ldiv, o_lrem, o_lneg, o_lcmp, o_i2l, o_l2i, o_i2b, o_i2c, o_iushr, o_lshl, o_lshr, o_if_eq, o_if_ne, o_if_lt, o_if_ge, o_if_gt, o_if_le, o_icmp_eq, o_icmp_ne, o_icmp_lt, o_icmp_ge, o_icmp_gt, o_icmp_le, o_ifnull, o_ifnonnull, o_acmp_eq, o_acmp_ne, o_is, o_ls, o_as, o_iinc, o_kill, o_sw, o_ireturn, o_zreturn, o_nreturn, o_lreturn, o_areturn, o_return, o_athrow, o_call, entP, lg_sl, Value.category, st1, st2, List.set, List.getElem?_cons_zero, List.getElem?_cons_succ, List.foldl, popN, aft, o_mg, o_mgl, o_mga, o_mp, o_mpz, o_mpl, o_mia, o_mis, o_mbs, o_mc, mput_get, mput_arr, mput_let, mput_put, mset_get, mset_int, mset_let, mputL_get, mputL_arr, mputL_let, mputL_put, i64_8, mLen, nn_eqL, nn_ltL, nn_leL, nn_Llt, nn_Lle, nn_lt, nn_le, nn_eq, nn_in, nn_clamp, nn_succ, nn_pos, nn_neg1, b2, b3, b6, he, nn_sub g5, kk]
    intro hz hq
    omega
  refine ⟨fun h => m_digs0 (hend0 (hs4 (by omega)) _ _), fun h => ?_⟩
  have hz := hmin (by omega)
  subst hz
  refine m_digs (ms := mputL ms (wl tp (wDg tp td f - f) f 0)) (q := wDg tp td f) (tp := tp) (td := td) hT he (by omega) g2 (fun ha => ?_) (fun ha v' j => ?_)
  · have h1' := hs1 ⟨by omega, ha⟩
    have kk := k _ _ (fun _ => ⟨rfl, rfl⟩)
    rw [h1'] at kk
    unfold wdig at kk
    have g5 : wDg tp td f ≤ rnE tp td f := by omega
    have b6 : rnE tp td f - wDg tp td f < 2147483648 := by omega
    simp [bX2_word_147, bX2_word_160, bX2_word_186, bX2_word_188, bX2_word_201, bX2_word_202, o_ic, o_lc, o_null, o_il, o_ll, o_al, o_dup, o_pop, o_dup_x1, o_dup2, o_iadd, o_isub, o_imul, o_iand, o_ior, o_ixor, o_ishl, o_ishr, o_idiv, o_irem, o_ineg, o_ladd, o_lsub, o_lmul, o_land, o_lor, o_lxor, o_ldiv, o_lrem, o_lneg, o_lcmp, o_i2l, o_l2i, o_i2b, o_i2c, o_iushr, o_lshl, o_lshr, o_if_eq, o_if_ne, o_if_lt, o_if_ge, o_if_gt, o_if_le, o_icmp_eq, o_icmp_ne, o_icmp_lt, o_icmp_ge, o_icmp_gt, o_icmp_le, o_ifnull, o_ifnonnull, o_acmp_eq, o_acmp_ne, o_is, o_ls, o_as, o_iinc, o_kill, o_sw, o_ireturn, o_zreturn, o_nreturn, o_lreturn, o_areturn, o_return, o_athrow, o_call, entP, lg_sl, Value.category, st1, st2, List.set, List.getElem?_cons_zero, List.getElem?_cons_succ, List.foldl, popN, aft, o_mg, o_mgl, o_mga, o_mp, o_mpz, o_mpl, o_mia, o_mis, o_mbs, o_mc, mput_get, mput_arr, mput_let, mput_put, mset_get, mset_int, mset_let, mputL_get, mputL_arr, mputL_let, mputL_put, i64_8, mLen, nn_eqL, nn_ltL, nn_leL, nn_Llt, nn_Lle, nn_lt, nn_le, nn_eq, nn_in, nn_clamp, nn_succ, nn_pos, nn_neg1, b2, b3, b6, he, nn_sub g5]
    refine ⟨fun c => ⟨fun c2 => ?_, fun c2 => ⟨by omega, fun c3 => ?_, fun c3 => ?_⟩⟩, fun c => ?_⟩
    · rw [if_neg c, if_neg (by omega)] at kk; exact kk
    · obtain ⟨h6, h7⟩ := hT.2.2 (wDg tp td f) (by omega)
      rw [if_neg c, if_neg (fun h => c3 (by rw [h6, h.2]; rfl))] at kk; exact kk
    · obtain ⟨h6, h7⟩ := hT.2.2 (wDg tp td f) (by omega)
      rw [h6] at c3
      rw [if_neg c, if_pos ⟨by omega, (nn_eq (a := tp (wDg tp td f)) (b := 48) (by omega) (by omega)).mp c3⟩] at kk; exact kk
    · rw [if_pos c] at kk; exact kk
  · exact hend0 (hs4 (by rw [ha]; simp)) _ _
theorem nn_dec {v c : Nat} (hc : 48 ≤ c) : 10 * nn v + nn c - 48 = nn (10 * v + (c - 48)) := by
  show nn 10 * nn v + nn c - nn 48 = _
  rw [nn_mul, nn_add, nn_sub (by omega)]; congr 1; omega
theorem dg9_ge {c : Nat} (h : dg9 c = true) : 48 ≤ c := by simp [dg9] at h; omega
theorem m_nums {mo : Nat} {Q : Ret MS} {tp : Nat → Nat} {td : Nat} {ms : MS} (hT : TapeM ms tp td) {e q v : Nat} (he : ms.1 4 = nn e) (hqe : q ≤ e) (hed : e ≤ td)
    (k1 : allF (fun i => dg9 (tp i)) q e = true → bX2_number_80 mo Q [some (.ref mo), some (.int 1), some (.int (nn e))] [] (mput ms 6 (nn (dec tp (e - q) q v))))
    (k0 : allF (fun i => dg9 (tp i)) q e = false → ∀ v' j, bX2_number_80 mo Q [some (.ref mo), some (.int 0), some (.int j)] [] (mput ms 6 v')) :
    bX2_number_30 mo Q [some (.ref mo), some (.int 1), some (.int (nn q))] [] (mput ms 6 (nn v)) := by
  obtain ⟨h1, h2, h3⟩ := hT
  unfold bX2_number_30
  intro X hX
  have hind : ∀ n q v, q + n = e → (allF (fun i => dg9 (tp i)) q e = true → bX2_number_80 mo Q [some (.ref mo), some (.int 1), some (.int (nn e))] [] (mput ms 6 (nn (dec tp n q v)))) → (allF (fun i => dg9 (tp i)) q e = false → ∀ v' j, bX2_number_80 mo Q [some (.ref mo), some (.int 0), some (.int j)] [] (mput ms 6 v')) → X [some (.ref mo), some (.int 1), some (.int (nn q))] [] (mput ms 6 (nn v)) := by
    intro n
    induction n with
    | zero =>
      intro q v e9 k1 k0
      have eq : q = e := by omega
      subst eq
      apply hX
      have b1 : q < 2147483648 := by omega
      simp [o_ic, o_lc, o_null, o_il, o_ll, o_al, o_dup, o_pop, o_dup_x1, o_dup2, o_iadd, o_isub, o_imul, o_iand, o_ior, o_ixor, o_ishl, o_ishr, o_idiv, o_irem, o_ineg, o_ladd, o_lsub, o_lmul, o_land, o_lor, o_lxor, o_ldiv, o_lrem, o_lneg, o_lcmp, o_i2l, o_l2i, o_i2b, o_i2c, o_iushr, o_lshl, o_lshr, o_if_eq, o_if_ne, o_if_lt, o_if_ge, o_if_gt, o_if_le, o_icmp_eq, o_icmp_ne, o_icmp_lt, o_icmp_ge, o_icmp_gt, o_icmp_le, o_ifnull, o_ifnonnull, o_acmp_eq, o_acmp_ne, o_is, o_ls, o_as, o_iinc, o_kill, o_sw, o_ireturn, o_zreturn, o_nreturn, o_lreturn, o_areturn, o_return, o_athrow, o_call, entP, lg_sl, Value.category, st1, st2, List.set, List.getElem?_cons_zero, List.getElem?_cons_succ, List.foldl, popN, aft, o_mg, o_mgl, o_mga, o_mp, o_mpz, o_mpl, o_mia, o_mis, o_mbs, o_mc, mput_get, mput_arr, mput_let, mput_put, mset_get, mset_int, mset_let, mputL_get, mputL_arr, mputL_let, mputL_put, i64_8, mLen, nn_eqL, nn_ltL, nn_leL, nn_Llt, nn_Lle, nn_lt, nn_le, nn_eq, nn_in, nn_clamp, nn_succ, nn_pos, nn_neg1, b1, he]
      exact k1 (allF_nil _ (Nat.le_refl _))
    | succ n ih =>
      intro q v e9 k1 k0
      apply hX
      obtain ⟨h4, h5⟩ := h3 q (by omega)
      have b1 : q < 2147483648 := by omega
      have b2 : e < 2147483648 := by omega
      have b3 : tp q < 2147483648 := by omega
      simp [o_ic, o_lc, o_null, o_il, o_ll, o_al, o_dup, o_pop, o_dup_x1, o_dup2, o_iadd, o_isub, o_imul, o_iand, o_ior, o_ixor, o_ishl, o_ishr, o_idiv, o_irem, o_ineg, o_ladd, o_lsub, o_lmul, o_land, o_lor, o_lxor, o_ldiv, o_lrem, o_lneg, o_lcmp, o_i2l, o_l2i, o_i2b, o_i2c, o_iushr, o_lshl, o_lshr, o_if_eq, o_if_ne, o_if_lt, o_if_ge, o_if_gt, o_if_le, o_icmp_eq, o_icmp_ne, o_icmp_lt, o_icmp_ge, o_icmp_gt, o_icmp_le, o_ifnull, o_ifnonnull, o_acmp_eq, o_acmp_ne, o_is, o_ls, o_as, o_iinc, o_kill, o_sw, o_ireturn, o_zreturn, o_nreturn, o_lreturn, o_areturn, o_return, o_athrow, o_call, entP, lg_sl, Value.category, st1, st2, List.set, List.getElem?_cons_zero, List.getElem?_cons_succ, List.foldl, popN, aft, o_mg, o_mgl, o_mga, o_mp, o_mpz, o_mpl, o_mia, o_mis, o_mbs, o_mc, mput_get, mput_arr, mput_let, mput_put, mset_get, mset_int, mset_let, mputL_get, mputL_arr, mputL_let, mputL_put, i64_8, mLen, nn_eqL, nn_ltL, nn_leL, nn_Llt, nn_Lle, nn_lt, nn_le, nn_eq, nn_in, nn_clamp, nn_succ, nn_pos, nn_neg1, b1, b2, he, h4]
      refine ⟨fun _ => by omega, fun _ => ⟨by omega, ?_⟩⟩
      refine m_isDigit (by omega) ?_
      rw [allF_step _ (by omega)] at k1 k0
      by_cases c : dg9 (tp q) = true
      · simp only [c, Bool.true_and] at k1 k0
        simp [o_ic, o_lc, o_null, o_il, o_ll, o_al, o_dup, o_pop, o_dup_x1, o_dup2, o_iadd, o_isub, o_imul, o_iand, o_ior, o_ixor, o_ishl, o_ishr, o_idiv, o_irem, o_ineg, o_ladd, o_lsub, o_lmul, o_land, o_lor, o_lxor, o_ldiv, o_lrem, o_lneg, o_lcmp, o_i2l, o_l2i, o_i2b, o_i2c, o_iushr, o_lshl, o_lshr, o_if_eq, o_if_ne, o_if_lt, o_if_ge, o_if_gt, o_if_le, o_icmp_eq, o_icmp_ne, o_icmp_lt, o_icmp_ge, o_icmp_gt, o_icmp_le, o_ifnull, o_ifnonnull, o_acmp_eq, o_acmp_ne, o_is, o_ls, o_as, o_iinc, o_kill, o_sw, o_ireturn, o_zreturn, o_nreturn, o_lreturn, o_areturn, o_return, o_athrow, o_call, entP, lg_sl, Value.category, st1, st2, List.set, List.getElem?_cons_zero, List.getElem?_cons_succ, List.foldl, popN, aft, o_mg, o_mgl, o_mga, o_mp, o_mpz, o_mpl, o_mia, o_mis, o_mbs, o_mc, mput_get, mput_arr, mput_let, mput_put, mset_get, mset_int, mset_let, mputL_get, mputL_arr, mputL_let, mputL_put, i64_8, mLen, nn_eqL, nn_ltL, nn_leL, nn_Llt, nn_Lle, nn_lt, nn_le, nn_eq, nn_in, nn_clamp, nn_succ, nn_pos, nn_neg1, b1, b2, he, c, h4, nn_dec (dg9_ge c)]
        refine ⟨by omega, ?_⟩
        exact ih _ _ (by omega) k1 k0
      · have c' : dg9 (tp q) = false := by simpa using c
        simp only [c', Bool.false_and] at k1 k0
        simp [o_ic, o_lc, o_null, o_il, o_ll, o_al, o_dup, o_pop, o_dup_x1, o_dup2, o_iadd, o_isub, o_imul, o_iand, o_ior, o_ixor, o_ishl, o_ishr, o_idiv, o_irem, o_ineg, o_ladd, o_lsub, o_lmul, o_land, o_lor, o_lxor, o_ldiv, o_lrem, o_lneg, o_lcmp, o_i2l, o_l2i, o_i2b, o_i2c, o_iushr, o_lshl, o_lshr, o_if_eq, o_if_ne, o_if_lt, o_if_ge, o_if_gt, o_if_le, o_icmp_eq, o_icmp_ne, o_icmp_lt, o_icmp_ge, o_icmp_gt, o_icmp_le, o_ifnull, o_ifnonnull, o_acmp_eq, o_acmp_ne, o_is, o_ls, o_as, o_iinc, o_kill, o_sw, o_ireturn, o_zreturn, o_nreturn, o_lreturn, o_areturn, o_return, o_athrow, o_call, entP, lg_sl, Value.category, st1, st2, List.set, List.getElem?_cons_zero, List.getElem?_cons_succ, List.foldl, popN, aft, o_mg, o_mgl, o_mga, o_mp, o_mpz, o_mpl, o_mia, o_mis, o_mbs, o_mc, mput_get, mput_arr, mput_let, mput_put, mset_get, mset_int, mset_let, mputL_get, mputL_arr, mputL_let, mputL_put, i64_8, mLen, nn_eqL, nn_ltL, nn_leL, nn_Llt, nn_Lle, nn_lt, nn_le, nn_eq, nn_in, nn_clamp, nn_succ, nn_pos, nn_neg1, b1, b2, he, c', h4]
        refine ⟨by omega, ?_⟩
        apply hX
        have b5 : q + 1 < 2147483648 := by omega
        simp [o_ic, o_lc, o_null, o_il, o_ll, o_al, o_dup, o_pop, o_dup_x1, o_dup2, o_iadd, o_isub, o_imul, o_iand, o_ior, o_ixor, o_ishl, o_ishr, o_idiv, o_irem, o_ineg, o_ladd, o_lsub, o_lmul, o_land, o_lor, o_lxor, o_ldiv, o_lrem, o_lneg, o_lcmp, o_i2l, o_l2i, o_i2b, o_i2c, o_iushr, o_lshl, o_lshr, o_if_eq, o_if_ne, o_if_lt, o_if_ge, o_if_gt, o_if_le, o_icmp_eq, o_icmp_ne, o_icmp_lt, o_icmp_ge, o_icmp_gt, o_icmp_le, o_ifnull, o_ifnonnull, o_acmp_eq, o_acmp_ne, o_is, o_ls, o_as, o_iinc, o_kill, o_sw, o_ireturn, o_zreturn, o_nreturn, o_lreturn, o_areturn, o_return, o_athrow, o_call, entP, lg_sl, Value.category, st1, st2, List.set, List.getElem?_cons_zero, List.getElem?_cons_succ, List.foldl, popN, aft, o_mg, o_mgl, o_mga, o_mp, o_mpz, o_mpl, o_mia, o_mis, o_mbs, o_mc, mput_get, mput_arr, mput_let, mput_put, mset_get, mset_int, mset_let, mputL_get, mputL_arr, mputL_let, mputL_put, i64_8, mLen, nn_eqL, nn_ltL, nn_leL, nn_Llt, nn_Lle, nn_lt, nn_le, nn_eq, nn_in, nn_clamp, nn_succ, nn_pos, nn_neg1, b1, b2, b5, he]
        exact ⟨fun _ => k0 trivial _ _, fun _ => k0 trivial _ _⟩
  exact hind _ _ _ (by omega) k1 k0
theorem m_number {mo : Nat} {Q : Ret MS} {tp : Nat → Nat} {td : Nat} {ms : MS} (hT : TapeM ms tp td) {f : Nat} (hf : ms.1 3 = nn f) (he : ms.1 4 = nn (rnE tp td f)) (hft : f < td) (hl : lt9 (tp f) = false) (hd : dg9 (tp f) = true)
    (k : ∀ w, (srt tp td f = 2 → w = nn (nVal tp td f)) → Q (.inl none) (mput (mput ms 6 w) 2 (nn (srt tp td f)))) : pX2_number mo [.ref mo] ms Q := by
  have h1 := hT.1
  have g1 : f ≤ rnE tp td f := adv_ge _ _ _
  have g2 : rnE tp td f ≤ td := by have := adv_le (fun i => ald (tp i)) (td - f) f; unfold rnE; omega
  have b1 : f < 2147483648 := by omega
  have b2 : rnE tp td f < 2147483648 := by omega
  have b4 : rnE tp td f - f < 2147483648 := by omega
  simp [pX2_number, bX2_number_0, o_ic, o_lc, o_null, o_il, o_ll, o_al, o_dup, o_pop, o_dup_x1, o_dup2, o_iadd, o_isub, o_imul, o_iand, o_ior, o_ixor, o_ishl, o_ishr, o_idiv, o_irem, o_ineg, o_ladd, o_lsub, o_lmul, o_land, o_lor, o_lxor, o_ldiv, o_lrem, o_lneg, o_lcmp, o_i2l, o_l2i, o_i2b, o_i2c, o_iushr, o_lshl, o_lshr, o_if_eq, o_if_ne, o_if_lt, o_if_ge, o_if_gt, o_if_le, o_icmp_eq, o_icmp_ne, o_icmp_lt, o_icmp_ge, o_icmp_gt, o_icmp_le, o_ifnull, o_ifnonnull, o_acmp_eq, o_acmp_ne, o_is, o_ls, o_as, o_iinc, o_kill, o_sw, o_ireturn, o_zreturn, o_nreturn, o_lreturn, o_areturn, o_return, o_athrow, o_call, entP, lg_sl, Value.category, st1, st2, List.set, List.getElem?_cons_zero, List.getElem?_cons_succ, List.foldl, popN, aft, o_mg, o_mgl, o_mga, o_mp, o_mpz, o_mpl, o_mia, o_mis, o_mbs, o_mc, mput_get, mput_arr, mput_let, mput_put, mset_get, mset_int, mset_let, mputL_get, mputL_arr, mputL_let, mputL_put, i64_8, mLen, nn_eqL, nn_ltL, nn_leL, nn_Llt, nn_Lle, nn_lt, nn_le, nn_eq, nn_in, nn_clamp, nn_succ, nn_pos, nn_neg1, b1, b2, b4, he, hf, nn_sub g1]
  have hlt : ¬ td ≤ f := by omega
  have hs4 : ¬ (rnE tp td f - f ≤ 9 ∧ allF (fun i => dg9 (tp i)) f (rnE tp td f) = true) → srt tp td f = 4 := by
    intro h; unfold srt; rw [if_neg hlt, if_neg (by simp [hl]), if_pos hd, if_neg h]
  have hs2 : (rnE tp td f - f ≤ 9 ∧ allF (fun i => dg9 (tp i)) f (rnE tp td f) = true) → srt tp td f = 2 := by
    intro h; unfold srt; rw [if_neg hlt, if_neg (by simp [hl]), if_pos hd, if_pos h]
  have hend0 : srt tp td f = 4 → ∀ v j, bX2_number_80 mo Q [some (.ref mo), some (.int 0), some (.int j)] [] (mput ms 6 v) := by
    intro h4 v j
    have kk := k v (by rw [h4]; intro q; cases q)
    rw [h4] at kk
    simp [bX2_number_80, bX2_number_89, bX2_number_90, o_ic, o_lc, o_null, o_il, o_ll, o_al, o_dup, o_pop, o_dup_x1, o_dup2, o_iadd, o_isub, o_imul, o_iand, o_ior, o_ixor, o_ishl, o_ishr, o_idiv, o_irem, o_ineg, o_ladd, o_lsub, o_lmul, o_land, o_lor, o_lxor, o_ldiv, o_lrem, o_lneg, o_lcmp, o_i2l, o_l2i, o_i2b, o_i2c, o_iushr, o_lshl, o_lshr, o_if_eq, o_if_ne, o_if_lt, o_if_ge, o_if_gt, o_if_le, o_icmp_eq, o_icmp_ne, o_icmp_lt, o_icmp_ge, o_icmp_gt, o_icmp_le, o_ifnull, o_ifnonnull, o_acmp_eq, o_acmp_ne, o_is, o_ls, o_as, o_iinc, o_kill, o_sw, o_ireturn, o_zreturn, o_nreturn, o_lreturn, o_areturn, o_return, o_athrow, o_call, entP, lg_sl, Value.category, st1, st2, List.set, List.getElem?_cons_zero, List.getElem?_cons_succ, List.foldl, popN, aft, o_mg, o_mgl, o_mga, o_mp, o_mpz, o_mpl, o_mia, o_mis, o_mbs, o_mc, mput_get, mput_arr, mput_let, mput_put, mset_get, mset_int, mset_let, mputL_get, mputL_arr, mputL_let, mputL_put, i64_8, mLen]
    exact kk
  simp [bX2_number_18, bX2_number_19, o_ic, o_lc, o_null, o_il, o_ll, o_al, o_dup, o_pop, o_dup_x1, o_dup2, o_iadd, o_isub, o_imul, o_iand, o_ior, o_ixor, o_ishl, o_ishr, o_idiv, o_irem, o_ineg, o_ladd, o_lsub, o_lmul, o_land, o_lor, o_lxor, o_ldiv, o_lrem, o_lneg, o_lcmp, o_i2l, o_l2i, o_i2b, o_i2c, o_iushr, o_lshl, o_lshr, o_if_eq, o_if_ne, o_if_lt, o_if_ge, o_if_gt, o_if_le, o_icmp_eq, o_icmp_ne, o_icmp_lt, o_icmp_ge, o_icmp_gt, o_icmp_le, o_ifnull, o_ifnonnull, o_acmp_eq, o_acmp_ne, o_is, o_ls, o_as, o_iinc, o_kill, o_sw, o_ireturn, o_zreturn, o_nreturn, o_lreturn, o_areturn, o_return, o_athrow, o_call, entP, lg_sl, Value.category, st1, st2, List.set, List.getElem?_cons_zero, List.getElem?_cons_succ, List.foldl, popN, aft, o_mg, o_mgl, o_mga, o_mp, o_mpz, o_mpl, o_mia, o_mis, o_mbs, o_mc, mput_get, mput_arr, mput_let, mput_put, mset_get, mset_int, mset_let, mputL_get, mputL_arr, mputL_let, mputL_put, i64_8, mLen, hf]
  refine ⟨fun h => ?_, fun h => ?_⟩
  · unfold bX2_number_30
    intro X hX
    apply hX
    simp [o_ic, o_lc, o_null, o_il, o_ll, o_al, o_dup, o_pop, o_dup_x1, o_dup2, o_iadd, o_isub, o_imul, o_iand, o_ior, o_ixor, o_ishl, o_ishr, o_idiv, o_irem, o_ineg, o_ladd, o_lsub, o_lmul, o_land, o_lor, o_lxor, o_ldiv, o_lrem, o_lneg, o_lcmp, o_i2l, o_l2i, o_i2b, o_i2c, o_iushr, o_lshl, o_lshr, o_if_eq, o_if_ne, o_if_lt, o_if_ge, o_if_gt, o_if_le, o_icmp_eq, o_icmp_ne, o_icmp_lt, o_icmp_ge, o_icmp_gt, o_icmp_le, o_ifnull, o_ifnonnull, o_acmp_eq, o_acmp_ne, o_is, o_ls, o_as, o_iinc, o_kill, o_sw, o_ireturn, o_zreturn, o_nreturn, o_lreturn, o_areturn, o_return, o_athrow, o_call, entP, lg_sl, Value.category, st1, st2, List.set, List.getElem?_cons_zero, List.getElem?_cons_succ, List.foldl, popN, aft, o_mg, o_mgl, o_mga, o_mp, o_mpz, o_mpl, o_mia, o_mis, o_mbs, o_mc, mput_get, mput_arr, mput_let, mput_put, mset_get, mset_int, mset_let, mputL_get, mputL_arr, mputL_let, mputL_put, i64_8, mLen, nn_eqL, nn_ltL, nn_leL, nn_Llt, nn_Lle, nn_lt, nn_le, nn_eq, nn_in, nn_clamp, nn_succ, nn_pos, nn_neg1, b1, b2, he]
    exact ⟨fun _ => hend0 (hs4 (by omega)) _ _, fun _ => hend0 (hs4 (by omega)) _ _⟩
  · refine m_nums (v := 0) hT he g1 g2 (fun ha => ?_) (fun ha v' j => hend0 (hs4 (by rw [ha]; simp)) _ _)
    have h2 := hs2 ⟨by omega, ha⟩
    have kk := k _ (fun _ => rfl)
    rw [h2] at kk
    simp [bX2_number_80, bX2_number_89, bX2_number_90, o_ic, o_lc, o_null, o_il, o_ll, o_al, o_dup, o_pop, o_dup_x1, o_dup2, o_iadd, o_isub, o_imul, o_iand, o_ior, o_ixor, o_ishl, o_ishr, o_idiv, o_irem, o_ineg, o_ladd, o_lsub, o_lmul, o_land, o_lor, o_lxor, o_ldiv, o_lrem, o_lneg, o_lcmp, o_i2l, o_l2i, o_i2b, o_i2c, o_iushr, o_lshl, o_lshr, o_if_eq, o_if_ne, o_if_lt, o_if_ge, o_if_gt, o_if_le, o_icmp_eq, o_icmp_ne, o_icmp_lt, o_icmp_ge, o_icmp_gt, o_icmp_le, o_ifnull, o_ifnonnull, o_acmp_eq, o_acmp_ne, o_is, o_ls, o_as, o_iinc, o_kill, o_sw, o_ireturn, o_zreturn, o_nreturn, o_lreturn, o_areturn, o_return, o_athrow, o_call, entP, lg_sl, Value.category, st1, st2, List.set, List.getElem?_cons_zero, List.getElem?_cons_succ, List.foldl, popN, aft, o_mg, o_mgl, o_mga, o_mp, o_mpz, o_mpl, o_mia, o_mis, o_mbs, o_mc, mput_get, mput_arr, mput_let, mput_put, mset_get, mset_int, mset_let, mputL_get, mputL_arr, mputL_let, mputL_put, i64_8, mLen]
    exact kk
