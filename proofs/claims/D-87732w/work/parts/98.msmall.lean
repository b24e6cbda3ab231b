/-! THE MODEL: small acts -/
set_option maxRecDepth 100000
abbrev RnA : Type := (Int32 × Int32) × RS
def sRan (r : RnA) (w : Int32) : Int32 := if w = 0 then r.1.1 else if w = 1 then nn r.2.2.2.2.2.2.2 else if w = 2 then nn r.2.2.2.2.2.2.1.length else if w = 3 then r.1.2 else if w = 4 then nn r.2.2.2.2.2.1 else -1
def sTold (r : RnA) (i : Int32) : Int32 := match ix i (min r.2.2.2.2.2.2.1.length 100) with
  | some j => r.2.2.2.2.2.2.1.getD j 0
  | none => 0
def sValue (r : RnA) (k : Int32) : Int32 := match ix k 48 with
  | some j => r.2.1 j
  | none => 0
def sRow (r : RnA) (a i : Int32) : Int32 := match ix a 2, ix i 8 with
  | some a, some i => r.2.2.1 (8 * a + i)
  | _, _ => 0
def sWorked (r : RnA) (e : Int32) : Int32 := match ix e 32 with
  | some j => nn (r.2.2.2.2.1 j)
  | none => -1
theorem q_ran {mo : Nat} {Q : Ret MS} {ms : MS} {r : RnA} {w : Int32} (h : RunM ms r) (k : Q (.inl (some (.int (sRan r w)))) ms) : pX2_ran mo [.ref mo, .int w] ms Q := by
  obtain ⟨h1, h2, ⟨x1, x2, x3, x4, x5, x6, x7⟩, -, -⟩ := h
  unfold sRan at k
  simp [pX2_ran, bX2_ran_36, bX2_ran_41, bX2_ran_46, bX2_ran_51, bX2_ran_56, bX2_ran_61, bX2_ran_0, swR, o_ic, o_lc, o_null, o_il, o_ll, o_al, o_dup, o_pop, o_dup_x1, o_dup2, o_iadd, o_isub, o_imul, o_iand, o_ior, o_ixor, o_ishl, o_ishr, o_idiv, o_irem, o_ineg, o_ladd, o_lsub, o_lmul, o_land, o_lor, o_lxor, o_ldiv, o_lrem, o_lneg, o_lcmp, o_i2l, o_l2i, o_i2b, o_i2c, o_iushr, o_lshl, o_lshr, o_if_eq, o_if_ne, o_if_lt, o_if_ge, o_if_gt, o_if_le, o_icmp_eq, o_icmp_ne, o_icmp_lt, o_icmp_ge, o_icmp_gt, o_icmp_le, o_ifnull, o_ifnonnull, o_acmp_eq, o_acmp_ne, o_is, o_ls, o_as, o_iinc, o_kill, o_sw, o_ireturn, o_zreturn, o_nreturn, o_lreturn, o_areturn, o_return, o_athrow, o_call, entP, lg_sl, Value.category, st1, st2, List.set, List.getElem?_cons_zero, List.getElem?_cons_succ, List.foldl, popN, aft, o_mg, o_mgl, o_mga, o_mp, o_mpz, o_mpl, o_mia, o_mis, o_mbs, o_mc, mput_get, mput_arr, mput_let, mput_put, mset_get, mset_int, mset_let, mputL_get, mputL_arr, mputL_let, mputL_put, i64_8, mLen, h1, h2, x4, x5, x7]
  refine ⟨fun g1 => ?_, fun g1 => ⟨fun g2 => ?_, fun g2 => ⟨fun g3 => ?_, fun g3 => ⟨fun g4 => ?_, fun g4 => ⟨fun g5 => ?_, fun g5 => ?_⟩⟩⟩⟩⟩
  · rw [if_pos g1] at k; exact k
  · rw [if_neg g1, if_pos g2] at k; exact k
  · rw [if_neg g1, if_neg g2, if_pos g3] at k; exact k
  · rw [if_neg g1, if_neg g2, if_neg g3, if_pos g4] at k; exact k
  · rw [if_neg g1, if_neg g2, if_neg g3, if_neg g4, if_pos g5] at k; exact k
  · rw [if_neg g1, if_neg g2, if_neg g3, if_neg g4, if_neg g5] at k; exact k
theorem q_told {mo : Nat} {Q : Ret MS} {ms : MS} {r : RnA} {i : Int32} (h : RunM ms r) (k : Q (.inl (some (.int (sTold r i)))) ms) : pX2_told mo [.ref mo, .int i] ms Q := by
  obtain ⟨h1, h2, ⟨x1, x2, x3, x4, x5, x6, x7⟩, hl, -⟩ := h
  unfold sTold at k
  have bl : r.2.2.2.2.2.2.1.length < 2147483648 := by omega
  rcases ix_cases i (min r.2.2.2.2.2.2.1.length 100) (by omega) with ⟨j, hj, rfl, hi, bj⟩ | ⟨hi, hr⟩
  · rw [hi] at k
    simp only at k
    have n1 : ¬ r.2.2.2.2.2.2.1.length ≤ j := by omega
    have n2 : j < r.2.2.2.2.2.2.1.length := by omega
    have n3 : j < 100 := by omega
    have hg : r.2.2.2.2.2.2.1[j]? = some (r.2.2.2.2.2.2.1.getD j 0) := by rw [List.getD_eq_getElem?_getD, List.getElem?_eq_getElem n2]; rfl
    simp [pX2_told, bX2_told_28, bX2_told_18, bX2_told_22, bX2_told_0, o_ic, o_lc, o_null, o_il, o_ll, o_al, o_dup, o_pop, o_dup_x1, o_dup2, o_iadd, o_isub, o_imul, o_iand, o_ior, o_ixor, o_ishl, o_ishr, o_idiv, o_irem, o_ineg, o_ladd, o_lsub, o_lmul, o_land, o_lor, o_lxor, o_ldiv, o_lrem, o_lneg, o_lcmp, o_i2l, o_l2i, o_i2b, o_i2c, o_iushr, o_lshl, o_lshr, o_if_eq, o_if_ne, o_if_lt, o_if_ge, o_if_gt, o_if_le, o_icmp_eq, o_icmp_ne, o_icmp_lt, o_icmp_ge, o_icmp_gt, o_icmp_le, o_ifnull, o_ifnonnull, o_acmp_eq, o_acmp_ne, o_is, o_ls, o_as, o_iinc, o_kill, o_sw, o_ireturn, o_zreturn, o_nreturn, o_lreturn, o_areturn, o_return, o_athrow, o_call, entP, lg_sl, Value.category, st1, st2, List.set, List.getElem?_cons_zero, List.getElem?_cons_succ, List.foldl, popN, aft, o_mg, o_mgl, o_mga, o_mp, o_mpz, o_mpl, o_mia, o_mis, o_mbs, o_mc, mput_get, mput_arr, mput_let, mput_put, mset_get, mset_int, mset_let, mputL_get, mputL_arr, mputL_let, mputL_put, i64_8, mLen, vpL, nn_addL, nn_addR, nn_mulL, nn_add, nn_mul, nn_eqL, nn_ltL, nn_leL, nn_Llt, nn_Lle, nn_lt, nn_le, nn_eq, nn_in, nn_clamp, nn_succ, nn_pos, nn_neg1, x5, bl, bj, n1, n2, n3, x6 j _ n3 hg]
    rw [List.getD_eq_getElem?_getD, List.getElem?_eq_getElem n2] at k
    exact k
  · rw [hi] at k
    simp only at k
    simp [pX2_told, bX2_told_28, bX2_told_18, bX2_told_22, bX2_told_0, o_ic, o_lc, o_null, o_il, o_ll, o_al, o_dup, o_pop, o_dup_x1, o_dup2, o_iadd, o_isub, o_imul, o_iand, o_ior, o_ixor, o_ishl, o_ishr, o_idiv, o_irem, o_ineg, o_ladd, o_lsub, o_lmul, o_land, o_lor, o_lxor, o_ldiv, o_lrem, o_lneg, o_lcmp, o_i2l, o_l2i, o_i2b, o_i2c, o_iushr, o_lshl, o_lshr, o_if_eq, o_if_ne, o_if_lt, o_if_ge, o_if_gt, o_if_le, o_icmp_eq, o_icmp_ne, o_icmp_lt, o_icmp_ge, o_icmp_gt, o_icmp_le, o_ifnull, o_ifnonnull, o_acmp_eq, o_acmp_ne, o_is, o_ls, o_as, o_iinc, o_kill, o_sw, o_ireturn, o_zreturn, o_nreturn, o_lreturn, o_areturn, o_return, o_athrow, o_call, entP, lg_sl, Value.category, st1, st2, List.set, List.getElem?_cons_zero, List.getElem?_cons_succ, List.foldl, popN, aft, o_mg, o_mgl, o_mga, o_mp, o_mpz, o_mpl, o_mia, o_mis, o_mbs, o_mc, mput_get, mput_arr, mput_let, mput_put, mset_get, mset_int, mset_let, mputL_get, mputL_arr, mputL_let, mputL_put, i64_8, mLen, vpL, nn_addL, nn_addR, nn_mulL, nn_add, nn_mul, nn_eqL, nn_ltL, nn_leL, nn_Llt, nn_Lle, nn_lt, nn_le, nn_eq, nn_in, nn_clamp, nn_succ, nn_pos, nn_neg1, x5]
    refine ⟨fun _ => k, fun g1 => ⟨fun _ => k, fun g2 => ⟨fun g3 => ?_, fun _ => k⟩⟩⟩
    rcases hr with hr | hr
    · exact (ab1 hr g1).elim
    · rw [Int32.lt_iff_toInt_lt] at g2 g3
      rw [Int32.le_iff_toInt_le, nn_toInt (by omega)] at hr
      rw [nn_toInt bl] at g2
      have e : (100 : Int32).toInt = 100 := rfl
      omega
theorem le_lit {x : Int32} {n : Nat} (h : nn n ≤ x) (hn : n < 2147483648) : (n : Int) ≤ x.toInt := by rw [Int32.le_iff_toInt_le, nn_toInt hn] at h; exact h
theorem q_value {mo : Nat} {Q : Ret MS} {ms : MS} {r : RnA} {i : Int32} (h : RunM ms r) (k : Q (.inl (some (.int (sValue r i)))) ms) : pX2_value mo [.ref mo, .int i] ms Q := by
  obtain ⟨h1, h2, ⟨x1, x2, x3, x4, x5, x6, x7⟩, hl, -⟩ := h
  unfold sValue at k
  rcases ix_cases i 48 (by omega) with ⟨j, hj, rfl, hi, bj⟩ | ⟨hi, hr⟩
  · rw [hi] at k
    simp only at k
    have n1 : j ≤ 47 := by omega
    simp [pX2_value, bX2_value_20, bX2_value_10, bX2_value_14, bX2_value_0, o_ic, o_lc, o_null, o_il, o_ll, o_al, o_dup, o_pop, o_dup_x1, o_dup2, o_iadd, o_isub, o_imul, o_iand, o_ior, o_ixor, o_ishl, o_ishr, o_idiv, o_irem, o_ineg, o_ladd, o_lsub, o_lmul, o_land, o_lor, o_lxor, o_ldiv, o_lrem, o_lneg, o_lcmp, o_i2l, o_l2i, o_i2b, o_i2c, o_iushr, o_lshl, o_lshr, o_if_eq, o_if_ne, o_if_lt, o_if_ge, o_if_gt, o_if_le, o_icmp_eq, o_icmp_ne, o_icmp_lt, o_icmp_ge, o_icmp_gt, o_icmp_le, o_ifnull, o_ifnonnull, o_acmp_eq, o_acmp_ne, o_is, o_ls, o_as, o_iinc, o_kill, o_sw, o_ireturn, o_zreturn, o_nreturn, o_lreturn, o_areturn, o_return, o_athrow, o_call, entP, lg_sl, Value.category, st1, st2, List.set, List.getElem?_cons_zero, List.getElem?_cons_succ, List.foldl, popN, aft, o_mg, o_mgl, o_mga, o_mp, o_mpz, o_mpl, o_mia, o_mis, o_mbs, o_mc, mput_get, mput_arr, mput_let, mput_put, mset_get, mset_int, mset_let, mputL_get, mputL_arr, mputL_let, mputL_put, i64_8, mLen, vpL, nn_addL, nn_addR, nn_mulL, nn_add, nn_mul, nn_eqL, nn_ltL, nn_leL, nn_Llt, nn_Lle, nn_lt, nn_le, nn_eq, nn_in, nn_clamp, nn_succ, nn_pos, nn_neg1, bj, n1, hj, x1 j hj]
    first | exact k | exact ⟨fun _ => k, fun h => by omega⟩
  · rw [hi] at k
    simp only at k
    simp [pX2_value, bX2_value_20, bX2_value_10, bX2_value_14, bX2_value_0, o_ic, o_lc, o_null, o_il, o_ll, o_al, o_dup, o_pop, o_dup_x1, o_dup2, o_iadd, o_isub, o_imul, o_iand, o_ior, o_ixor, o_ishl, o_ishr, o_idiv, o_irem, o_ineg, o_ladd, o_lsub, o_lmul, o_land, o_lor, o_lxor, o_ldiv, o_lrem, o_lneg, o_lcmp, o_i2l, o_l2i, o_i2b, o_i2c, o_iushr, o_lshl, o_lshr, o_if_eq, o_if_ne, o_if_lt, o_if_ge, o_if_gt, o_if_le, o_icmp_eq, o_icmp_ne, o_icmp_lt, o_icmp_ge, o_icmp_gt, o_icmp_le, o_ifnull, o_ifnonnull, o_acmp_eq, o_acmp_ne, o_is, o_ls, o_as, o_iinc, o_kill, o_sw, o_ireturn, o_zreturn, o_nreturn, o_lreturn, o_areturn, o_return, o_athrow, o_call, entP, lg_sl, Value.category, st1, st2, List.set, List.getElem?_cons_zero, List.getElem?_cons_succ, List.foldl, popN, aft, o_mg, o_mgl, o_mga, o_mp, o_mpz, o_mpl, o_mia, o_mis, o_mbs, o_mc, mput_get, mput_arr, mput_let, mput_put, mset_get, mset_int, mset_let, mputL_get, mputL_arr, mputL_let, mputL_put, i64_8, mLen, vpL, nn_addL, nn_addR, nn_mulL, nn_add, nn_mul, nn_eqL, nn_ltL, nn_leL, nn_Llt, nn_Lle, nn_lt, nn_le, nn_eq, nn_in, nn_clamp, nn_succ, nn_pos, nn_neg1]
    refine ⟨fun _ => k, fun g1 => ⟨fun g2 => ?_, fun _ => k⟩⟩
    rcases hr with hr | hr
    · exact (ab1 hr g1).elim
    · have := le_lit hr (by omega)
      rw [Int32.le_iff_toInt_le] at g2
      have e : (47 : Int32).toInt = 47 := rfl
      omega
theorem q_row {mo : Nat} {Q : Ret MS} {ms : MS} {r : RnA} {a i : Int32} (h : RunM ms r) (k : Q (.inl (some (.int (sRow r a i)))) ms) : pX2_row mo [.ref mo, .int a, .int i] ms Q := by
  obtain ⟨h1, h2, ⟨x1, x2, x3, x4, x5, x6, x7⟩, hl, -⟩ := h
  unfold sRow at k
  have e7 : (7 : Int32).toInt = 7 := rfl
  have e1 : (1 : Int32).toInt = 1 := rfl
  rcases ix_cases a 2 (by omega) with ⟨a', ha, rfl, hia, ba⟩ | ⟨hia, hra⟩
  · rcases ix_cases i 8 (by omega) with ⟨j, hj, rfl, hi, bj⟩ | ⟨hi, hr⟩
    · rw [hia, hi] at k
      simp only at k
      have n1 : j ≤ 7 := by omega
      have n2 : ¬ 1 < a' := by omega
      have b3 : 8 * a' + j < 2147483648 := by omega
      have b4 : 8 * a' + j < 16 := by omega
      simp [pX2_row, bX2_row_34, bX2_row_19, bX2_row_23, bX2_row_0, o_ic, o_lc, o_null, o_il, o_ll, o_al, o_dup, o_pop, o_dup_x1, o_dup2, o_iadd, o_isub, o_imul, o_iand, o_ior, o_ixor, o_ishl, o_ishr, o_idiv, o_irem, o_ineg, o_ladd, o_lsub, o_lmul, o_land, o_lor, o_lxor, o_ldiv, o_lrem, o_lneg, o_lcmp, o_i2l, o_l2i, o_i2b, o_i2c, o_iushr, o_lshl, o_lshr, o_if_eq, o_if_ne, o_if_lt, o_if_ge, o_if_gt, o_if_le, o_icmp_eq, o_icmp_ne, o_icmp_lt, o_icmp_ge, o_icmp_gt, o_icmp_le, o_ifnull, o_ifnonnull, o_acmp_eq, o_acmp_ne, o_is, o_ls, o_as, o_iinc, o_kill, o_sw, o_ireturn, o_zreturn, o_nreturn, o_lreturn, o_areturn, o_return, o_athrow, o_call, entP, lg_sl, Value.category, st1, st2, List.set, List.getElem?_cons_zero, List.getElem?_cons_succ, List.foldl, popN, aft, o_mg, o_mgl, o_mga, o_mp, o_mpz, o_mpl, o_mia, o_mis, o_mbs, o_mc, mput_get, mput_arr, mput_let, mput_put, mset_get, mset_int, mset_let, mputL_get, mputL_arr, mputL_let, mputL_put, i64_8, mLen, vpL, nn_addL, nn_addR, nn_mulL, nn_add, nn_mul, nn_eqL, nn_ltL, nn_leL, nn_Llt, nn_Lle, nn_lt, nn_le, nn_eq, nn_in, nn_clamp, nn_succ, nn_pos, nn_neg1, ba, bj, n1, n2, b3, b4, x2 _ b4]
      first | exact k | exact ⟨fun h => by omega, fun _ => k⟩
    · rw [hia, hi] at k
      simp only at k
      have n2 : ¬ 1 < a' := by omega
      simp [pX2_row, bX2_row_34, bX2_row_19, bX2_row_23, bX2_row_0, o_ic, o_lc, o_null, o_il, o_ll, o_al, o_dup, o_pop, o_dup_x1, o_dup2, o_iadd, o_isub, o_imul, o_iand, o_ior, o_ixor, o_ishl, o_ishr, o_idiv, o_irem, o_ineg, o_ladd, o_lsub, o_lmul, o_land, o_lor, o_lxor, o_ldiv, o_lrem, o_lneg, o_lcmp, o_i2l, o_l2i, o_i2b, o_i2c, o_iushr, o_lshl, o_lshr, o_if_eq, o_if_ne, o_if_lt, o_if_ge, o_if_gt, o_if_le, o_icmp_eq, o_icmp_ne, o_icmp_lt, o_icmp_ge, o_icmp_gt, o_icmp_le, o_ifnull, o_ifnonnull, o_acmp_eq, o_acmp_ne, o_is, o_ls, o_as, o_iinc, o_kill, o_sw, o_ireturn, o_zreturn, o_nreturn, o_lreturn, o_areturn, o_return, o_athrow, o_call, entP, lg_sl, Value.category, st1, st2, List.set, List.getElem?_cons_zero, List.getElem?_cons_succ, List.foldl, popN, aft, o_mg, o_mgl, o_mga, o_mp, o_mpz, o_mpl, o_mia, o_mis, o_mbs, o_mc, mput_get, mput_arr, mput_let, mput_put, mset_get, mset_int, mset_let, mputL_get, mputL_arr, mputL_let, mputL_put, i64_8, mLen, vpL, nn_addL, nn_addR, nn_mulL, nn_add, nn_mul, nn_eqL, nn_ltL, nn_leL, nn_Llt, nn_Lle, nn_lt, nn_le, nn_eq, nn_in, nn_clamp, nn_succ, nn_pos, nn_neg1, ba, n2]
      have kk : (i < 0 → Q (.inl (some (.int 0))) ms) ∧ (0 ≤ i → (i ≤ 7 → vp_in (8 * nn a' + i) 16 ∧ Q (.inl (some (.int (ms.2.2 47 (8 * nn a' + i).toNatClampNeg)))) ms) ∧ (7 < i → Q (.inl (some (.int 0))) ms)) := by
        refine ⟨fun _ => k, fun g1 => ⟨fun g2 => ?_, fun _ => k⟩⟩
        rcases hr with hr | hr
        · exact (ab1 hr g1).elim
        · have := le_lit hr (by omega)
          rw [Int32.le_iff_toInt_le] at g2
          omega
      first
        | (refine ⟨fun _ => k, fun g1 => ⟨fun g2 => ?_, fun _ => k⟩⟩
           rcases hr with hr | hr
           · exact (ab1 hr g1).elim
           · have := le_lit hr (by omega)
             rw [Int32.le_iff_toInt_le] at g2
             omega)
        | (refine ⟨fun _ => k, fun _ => ⟨fun _ => k, fun g1 => ⟨fun g2 => ?_, fun _ => k⟩⟩⟩
           rcases hr with hr | hr
           · exact (ab1 hr g1).elim
           · have := le_lit hr (by omega)
             rw [Int32.le_iff_toInt_le] at g2
             omega)
  · rw [hia] at k
    simp only at k
    simp [pX2_row, bX2_row_34, bX2_row_19, bX2_row_23, bX2_row_0, o_ic, o_lc, o_null, o_il, o_ll, o_al, o_dup, o_pop, o_dup_x1, o_dup2, o_iadd, o_isub, o_imul, o_iand, o_ior, o_ixor, o_ishl, o_ishr, o_idiv, o_irem, o_ineg, o_ladd, o_lsub, o_lmul, o_land, o_lor, o_lxor, o_ldiv, o_lrem, o_lneg, o_lcmp, o_i2l, o_l2i, o_i2b, o_i2c, o_iushr, o_lshl, o_lshr, o_if_eq, o_if_ne, o_if_lt, o_if_ge, o_if_gt, o_if_le, o_icmp_eq, o_icmp_ne, o_icmp_lt, o_icmp_ge, o_icmp_gt, o_icmp_le, o_ifnull, o_ifnonnull, o_acmp_eq, o_acmp_ne, o_is, o_ls, o_as, o_iinc, o_kill, o_sw, o_ireturn, o_zreturn, o_nreturn, o_lreturn, o_areturn, o_return, o_athrow, o_call, entP, lg_sl, Value.category, st1, st2, List.set, List.getElem?_cons_zero, List.getElem?_cons_succ, List.foldl, popN, aft, o_mg, o_mgl, o_mga, o_mp, o_mpz, o_mpl, o_mia, o_mis, o_mbs, o_mc, mput_get, mput_arr, mput_let, mput_put, mset_get, mset_int, mset_let, mputL_get, mputL_arr, mputL_let, mputL_put, i64_8, mLen, vpL, nn_addL, nn_addR, nn_mulL, nn_add, nn_mul, nn_eqL, nn_ltL, nn_leL, nn_Llt, nn_Lle, nn_lt, nn_le, nn_eq, nn_in, nn_clamp, nn_succ, nn_pos, nn_neg1]
    refine ⟨fun _ => k, fun g1 => ⟨fun _ => k, fun g2 => ?_⟩⟩
    exfalso
    rcases hra with hr | hr
    · exact ab1 hr g1
    · have := le_lit hr (by omega)
      rw [Int32.le_iff_toInt_le] at g2
      omega
theorem q_worked {mo : Nat} {Q : Ret MS} {ms : MS} {r : RnA} {i : Int32} (h : RunM ms r) (k : Q (.inl (some (.int (sWorked r i)))) ms) : pX2_worked mo [.ref mo, .int i] ms Q := by
  obtain ⟨h1, h2, ⟨x1, x2, x3, x4, x5, x6, x7⟩, hl, -⟩ := h
  unfold sWorked at k
  rcases ix_cases i 32 (by omega) with ⟨j, hj, rfl, hi, bj⟩ | ⟨hi, hr⟩
  · rw [hi] at k
    simp only at k
    have n1 : j ≤ 31 := by omega
    simp [pX2_worked, bX2_worked_20, bX2_worked_10, bX2_worked_14, bX2_worked_0, o_ic, o_lc, o_null, o_il, o_ll, o_al, o_dup, o_pop, o_dup_x1, o_dup2, o_iadd, o_isub, o_imul, o_iand, o_ior, o_ixor, o_ishl, o_ishr, o_idiv, o_irem, o_ineg, o_ladd, o_lsub, o_lmul, o_land, o_lor, o_lxor, o_ldiv, o_lrem, o_lneg, o_lcmp, o_i2l, o_l2i, o_i2b, o_i2c, o_iushr, o_lshl, o_lshr, o_if_eq, o_if_ne, o_if_lt, o_if_ge, o_if_gt, o_if_le, o_icmp_eq, o_icmp_ne, o_icmp_lt, o_icmp_ge, o_icmp_gt, o_icmp_le, o_ifnull, o_ifnonnull, o_acmp_eq, o_acmp_ne, o_is, o_ls, o_as, o_iinc, o_kill, o_sw, o_ireturn, o_zreturn, o_nreturn, o_lreturn, o_areturn, o_return, o_athrow, o_call, entP, lg_sl, Value.category, st1, st2, List.set, List.getElem?_cons_zero, List.getElem?_cons_succ, List.foldl, popN, aft, o_mg, o_mgl, o_mga, o_mp, o_mpz, o_mpl, o_mia, o_mis, o_mbs, o_mc, mput_get, mput_arr, mput_let, mput_put, mset_get, mset_int, mset_let, mputL_get, mputL_arr, mputL_let, mputL_put, i64_8, mLen, vpL, nn_addL, nn_addR, nn_mulL, nn_add, nn_mul, nn_eqL, nn_ltL, nn_leL, nn_Llt, nn_Lle, nn_lt, nn_le, nn_eq, nn_in, nn_clamp, nn_succ, nn_pos, nn_neg1, bj, n1, hj, x3 j hj]
    first | exact k | exact ⟨fun _ => k, fun h => by omega⟩
  · rw [hi] at k
    simp only at k
    simp [pX2_worked, bX2_worked_20, bX2_worked_10, bX2_worked_14, bX2_worked_0, o_ic, o_lc, o_null, o_il, o_ll, o_al, o_dup, o_pop, o_dup_x1, o_dup2, o_iadd, o_isub, o_imul, o_iand, o_ior, o_ixor, o_ishl, o_ishr, o_idiv, o_irem, o_ineg, o_ladd, o_lsub, o_lmul, o_land, o_lor, o_lxor, o_ldiv, o_lrem, o_lneg, o_lcmp, o_i2l, o_l2i, o_i2b, o_i2c, o_iushr, o_lshl, o_lshr, o_if_eq, o_if_ne, o_if_lt, o_if_ge, o_if_gt, o_if_le, o_icmp_eq, o_icmp_ne, o_icmp_lt, o_icmp_ge, o_icmp_gt, o_icmp_le, o_ifnull, o_ifnonnull, o_acmp_eq, o_acmp_ne, o_is, o_ls, o_as, o_iinc, o_kill, o_sw, o_ireturn, o_zreturn, o_nreturn, o_lreturn, o_areturn, o_return, o_athrow, o_call, entP, lg_sl, Value.category, st1, st2, List.set, List.getElem?_cons_zero, List.getElem?_cons_succ, List.foldl, popN, aft, o_mg, o_mgl, o_mga, o_mp, o_mpz, o_mpl, o_mia, o_mis, o_mbs, o_mc, mput_get, mput_arr, mput_let, mput_put, mset_get, mset_int, mset_let, mputL_get, mputL_arr, mputL_let, mputL_put, i64_8, mLen, vpL, nn_addL, nn_addR, nn_mulL, nn_add, nn_mul, nn_eqL, nn_ltL, nn_leL, nn_Llt, nn_Lle, nn_lt, nn_le, nn_eq, nn_in, nn_clamp, nn_succ, nn_pos, nn_neg1]
    refine ⟨fun _ => k, fun g1 => ⟨fun g2 => ?_, fun _ => k⟩⟩
    rcases hr with hr | hr
    · exact (ab1 hr g1).elim
    · have := le_lit hr (by omega)
      rw [Int32.le_iff_toInt_le] at g2
      have e : (31 : Int32).toInt = 31 := rfl
      omega
theorem q_name {mo : Nat} {Q : Ret MS} {ms : MS} {begins : Nat → Int32} {i x : Int32} (hB : ∀ j, j < 48 → ms.2.2 45 j = begins j)
    (k : match ix i 48 with
      | some j => Q (.inl (some (.int (begins j)))) (mset ms 45 j x)
      | none => Q (.inl (some (.int 0))) ms) : pX2_name mo [.ref mo, .int i, .int x] ms Q := by
  rcases ix_cases i 48 (by omega) with ⟨j, hj, rfl, hi, bj⟩ | ⟨hi, hr⟩
  · rw [hi] at k
    simp only at k
    have n1 : j ≤ 47 := by omega
    simp [pX2_name, bX2_name_10, bX2_name_12, bX2_name_0, o_ic, o_lc, o_null, o_il, o_ll, o_al, o_dup, o_pop, o_dup_x1, o_dup2, o_iadd, o_isub, o_imul, o_iand, o_ior, o_ixor, o_ishl, o_ishr, o_idiv, o_irem, o_ineg, o_ladd, o_lsub, o_lmul, o_land, o_lor, o_lxor, o_ldiv, o_lrem, o_lneg, o_lcmp, o_i2l, o_l2i, o_i2b, o_i2c, o_iushr, o_lshl, o_lshr, o_if_eq, o_if_ne, o_if_lt, o_if_ge, o_if_gt, o_if_le, o_icmp_eq, o_icmp_ne, o_icmp_lt, o_icmp_ge, o_icmp_gt, o_icmp_le, o_ifnull, o_ifnonnull, o_acmp_eq, o_acmp_ne, o_is, o_ls, o_as, o_iinc, o_kill, o_sw, o_ireturn, o_zreturn, o_nreturn, o_lreturn, o_areturn, o_return, o_athrow, o_call, entP, lg_sl, Value.category, st1, st2, List.set, List.getElem?_cons_zero, List.getElem?_cons_succ, List.foldl, popN, aft, o_mg, o_mgl, o_mga, o_mp, o_mpz, o_mpl, o_mia, o_mis, o_mbs, o_mc, mput_get, mput_arr, mput_let, mput_put, mset_get, mset_int, mset_let, mputL_get, mputL_arr, mputL_let, mputL_put, i64_8, mLen, vpL, nn_addL, nn_addR, nn_mulL, nn_add, nn_mul, nn_eqL, nn_ltL, nn_leL, nn_Llt, nn_Lle, nn_lt, nn_le, nn_eq, nn_in, nn_clamp, nn_succ, nn_pos, nn_neg1, bj, n1, hj, hB j hj]
    first | exact k | exact ⟨fun _ => k, fun h => by omega⟩
  · rw [hi] at k
    simp only at k
    simp [pX2_name, bX2_name_10, bX2_name_12, bX2_name_0, o_ic, o_lc, o_null, o_il, o_ll, o_al, o_dup, o_pop, o_dup_x1, o_dup2, o_iadd, o_isub, o_imul, o_iand, o_ior, o_ixor, o_ishl, o_ishr, o_idiv, o_irem, o_ineg, o_ladd, o_lsub, o_lmul, o_land, o_lor, o_lxor, o_ldiv, o_lrem, o_lneg, o_lcmp, o_i2l, o_l2i, o_i2b, o_i2c, o_iushr, o_lshl, o_lshr, o_if_eq, o_if_ne, o_if_lt, o_if_ge, o_if_gt, o_if_le, o_icmp_eq, o_icmp_ne, o_icmp_lt, o_icmp_ge, o_icmp_gt, o_icmp_le, o_ifnull, o_ifnonnull, o_acmp_eq, o_acmp_ne, o_is, o_ls, o_as, o_iinc, o_kill, o_sw, o_ireturn, o_zreturn, o_nreturn, o_lreturn, o_areturn, o_return, o_athrow, o_call, entP, lg_sl, Value.category, st1, st2, List.set, List.getElem?_cons_zero, List.getElem?_cons_succ, List.foldl, popN, aft, o_mg, o_mgl, o_mga, o_mp, o_mpz, o_mpl, o_mia, o_mis, o_mbs, o_mc, mput_get, mput_arr, mput_let, mput_put, mset_get, mset_int, mset_let, mputL_get, mputL_arr, mputL_let, mputL_put, i64_8, mLen, vpL, nn_addL, nn_addR, nn_mulL, nn_add, nn_mul, nn_eqL, nn_ltL, nn_leL, nn_Llt, nn_Lle, nn_lt, nn_le, nn_eq, nn_in, nn_clamp, nn_succ, nn_pos, nn_neg1]
    refine ⟨fun _ => k, fun g1 => ⟨fun g2 => ?_, fun _ => k⟩⟩
    rcases hr with hr | hr
    · exact (ab1 hr g1).elim
    · have := le_lit hr (by omega)
      rw [Int32.le_iff_toInt_le] at g2
      have e : (47 : Int32).toInt = 47 := rfl
      omega
/-! the tape -/
def tpF (l : List Nat) : Nat → Nat := fun i => l.getD i 0
def TpM (ms : MS) (l : List Nat) : Prop := TapeM ms (tpF l) l.length
theorem q_wrong {mo : Nat} {Q : Ret MS} {ms : MS} {x : Int32} (h : ms.1 34 = x) (k : Q (.inl (some (.int x))) ms) : pX2_wrong mo [.ref mo] ms Q := by
  simp [pX2_wrong, bX2_wrong_0, o_ic, o_lc, o_null, o_il, o_ll, o_al, o_dup, o_pop, o_dup_x1, o_dup2, o_iadd, o_isub, o_imul, o_iand, o_ior, o_ixor, o_ishl, o_ishr, o_idiv, o_irem, o_ineg, o_ladd, o_lsub, o_lmul, o_land, o_lor, o_lxor, o_ldiv, o_lrem, o_lneg, o_lcmp, o_i2l, o_l2i, o_i2b, o_i2c, o_iushr, o_lshl, o_lshr, o_if_eq, o_if_ne, o_if_lt, o_if_ge, o_if_gt, o_if_le, o_icmp_eq, o_icmp_ne, o_icmp_lt, o_icmp_ge, o_icmp_gt, o_icmp_le, o_ifnull, o_ifnonnull, o_acmp_eq, o_acmp_ne, o_is, o_ls, o_as, o_iinc, o_kill, o_sw, o_ireturn, o_zreturn, o_nreturn, o_lreturn, o_areturn, o_return, o_athrow, o_call, entP, lg_sl, Value.category, st1, st2, List.set, List.getElem?_cons_zero, List.getElem?_cons_succ, List.foldl, popN, aft, o_mg, o_mgl, o_mga, o_mp, o_mpz, o_mpl, o_mia, o_mis, o_mbs, o_mc, mput_get, mput_arr, mput_let, mput_put, mset_get, mset_int, mset_let, mputL_get, mputL_arr, mputL_let, mputL_put, i64_8, mLen, h]; exact k
def sTape (l : List Nat) (i : Int32) : Int32 := match ix i l.length with
  | some j => nn (tpF l j)
  | none => -1
theorem q_tape {mo : Nat} {Q : Ret MS} {ms : MS} {l : List Nat} {i : Int32} (h : TpM ms l) (k : Q (.inl (some (.int (sTape l i)))) ms) : pX2_tape mo [.ref mo, .int i] ms Q := by
  obtain ⟨h1, h2, h3⟩ := h
  unfold sTape at k
  have bl : l.length < 2147483648 := by omega
  rcases ix_cases i l.length bl with ⟨j, hj, rfl, hi, bj⟩ | ⟨hi, hr⟩
  · rw [hi] at k
    simp only at k
    have b3 : j < 3000 := by omega
    simp [pX2_tape, bX2_tape_22, bX2_tape_12, bX2_tape_16, bX2_tape_0, o_ic, o_lc, o_null, o_il, o_ll, o_al, o_dup, o_pop, o_dup_x1, o_dup2, o_iadd, o_isub, o_imul, o_iand, o_ior, o_ixor, o_ishl, o_ishr, o_idiv, o_irem, o_ineg, o_ladd, o_lsub, o_lmul, o_land, o_lor, o_lxor, o_ldiv, o_lrem, o_lneg, o_lcmp, o_i2l, o_l2i, o_i2b, o_i2c, o_iushr, o_lshl, o_lshr, o_if_eq, o_if_ne, o_if_lt, o_if_ge, o_if_gt, o_if_le, o_icmp_eq, o_icmp_ne, o_icmp_lt, o_icmp_ge, o_icmp_gt, o_icmp_le, o_ifnull, o_ifnonnull, o_acmp_eq, o_acmp_ne, o_is, o_ls, o_as, o_iinc, o_kill, o_sw, o_ireturn, o_zreturn, o_nreturn, o_lreturn, o_areturn, o_return, o_athrow, o_call, entP, lg_sl, Value.category, st1, st2, List.set, List.getElem?_cons_zero, List.getElem?_cons_succ, List.foldl, popN, aft, o_mg, o_mgl, o_mga, o_mp, o_mpz, o_mpl, o_mia, o_mis, o_mbs, o_mc, mput_get, mput_arr, mput_let, mput_put, mset_get, mset_int, mset_let, mputL_get, mputL_arr, mputL_let, mputL_put, i64_8, mLen, vpL, nn_addL, nn_addR, nn_mulL, nn_add, nn_mul, nn_eqL, nn_ltL, nn_leL, nn_Llt, nn_Lle, nn_lt, nn_le, nn_eq, nn_in, nn_clamp, nn_succ, nn_pos, nn_neg1, bj, h2, bl, hj, b3, (h3 j hj).1]
    exact k
  · rw [hi] at k
    simp only at k
    simp [pX2_tape, bX2_tape_22, bX2_tape_12, bX2_tape_16, bX2_tape_0, o_ic, o_lc, o_null, o_il, o_ll, o_al, o_dup, o_pop, o_dup_x1, o_dup2, o_iadd, o_isub, o_imul, o_iand, o_ior, o_ixor, o_ishl, o_ishr, o_idiv, o_irem, o_ineg, o_ladd, o_lsub, o_lmul, o_land, o_lor, o_lxor, o_ldiv, o_lrem, o_lneg, o_lcmp, o_i2l, o_l2i, o_i2b, o_i2c, o_iushr, o_lshl, o_lshr, o_if_eq, o_if_ne, o_if_lt, o_if_ge, o_if_gt, o_if_le, o_icmp_eq, o_icmp_ne, o_icmp_lt, o_icmp_ge, o_icmp_gt, o_icmp_le, o_ifnull, o_ifnonnull, o_acmp_eq, o_acmp_ne, o_is, o_ls, o_as, o_iinc, o_kill, o_sw, o_ireturn, o_zreturn, o_nreturn, o_lreturn, o_areturn, o_return, o_athrow, o_call, entP, lg_sl, Value.category, st1, st2, List.set, List.getElem?_cons_zero, List.getElem?_cons_succ, List.foldl, popN, aft, o_mg, o_mgl, o_mga, o_mp, o_mpz, o_mpl, o_mia, o_mis, o_mbs, o_mc, mput_get, mput_arr, mput_let, mput_put, mset_get, mset_int, mset_let, mputL_get, mputL_arr, mputL_let, mputL_put, i64_8, mLen, vpL, nn_addL, nn_addR, nn_mulL, nn_add, nn_mul, nn_eqL, nn_ltL, nn_leL, nn_Llt, nn_Lle, nn_lt, nn_le, nn_eq, nn_in, nn_clamp, nn_succ, nn_pos, nn_neg1, h2]
    refine ⟨fun _ => k, fun g1 => ⟨fun g2 => ?_, fun _ => k⟩⟩
    rcases hr with hr | hr
    · exact (ab1 hr g1).elim
    · exact (ab2 g2 hr).elim
theorem q_cut {mo : Nat} {Q : Ret MS} {ms : MS} {l : List Nat} {n : Int32} (h : TpM ms l)
    (k : match ix n (l.length + 1) with
      | some j => ∀ ms', TpM ms' (l.take j) → FrG (fun _ _ => False) [1] ms ms' → Q (.inl (some (.int (nn j)))) ms'
      | none => Q (.inl (some (.int (-2)))) ms) : pX2_cut mo [.ref mo, .int n] ms Q := by
  obtain ⟨h1, h2, h3⟩ := h
  have bl : l.length < 2147483648 := by omega
  rcases ix_cases n (l.length + 1) (by omega) with ⟨j, hj, rfl, hi, bj⟩ | ⟨hi, hr⟩
  · rw [hi] at k
    simp only at k
    have n1 : j ≤ l.length := by omega
    have n2 : ¬ l.length < j := by omega
    simp [pX2_cut, bX2_cut_12, bX2_cut_15, bX2_cut_0, o_ic, o_lc, o_null, o_il, o_ll, o_al, o_dup, o_pop, o_dup_x1, o_dup2, o_iadd, o_isub, o_imul, o_iand, o_ior, o_ixor, o_ishl, o_ishr, o_idiv, o_irem, o_ineg, o_ladd, o_lsub, o_lmul, o_land, o_lor, o_lxor, o_ldiv, o_lrem, o_lneg, o_lcmp, o_i2l, o_l2i, o_i2b, o_i2c, o_iushr, o_lshl, o_lshr, o_if_eq, o_if_ne, o_if_lt, o_if_ge, o_if_gt, o_if_le, o_icmp_eq, o_icmp_ne, o_icmp_lt, o_icmp_ge, o_icmp_gt, o_icmp_le, o_ifnull, o_ifnonnull, o_acmp_eq, o_acmp_ne, o_is, o_ls, o_as, o_iinc, o_kill, o_sw, o_ireturn, o_zreturn, o_nreturn, o_lreturn, o_areturn, o_return, o_athrow, o_call, entP, lg_sl, Value.category, st1, st2, List.set, List.getElem?_cons_zero, List.getElem?_cons_succ, List.foldl, popN, aft, o_mg, o_mgl, o_mga, o_mp, o_mpz, o_mpl, o_mia, o_mis, o_mbs, o_mc, mput_get, mput_arr, mput_let, mput_put, mset_get, mset_int, mset_let, mputL_get, mputL_arr, mputL_let, mputL_put, i64_8, mLen, vpL, nn_addL, nn_addR, nn_mulL, nn_add, nn_mul, nn_eqL, nn_ltL, nn_leL, nn_Llt, nn_Lle, nn_lt, nn_le, nn_eq, nn_in, nn_clamp, nn_succ, nn_pos, nn_neg1, bj, h2, bl, n1, n2]
    refine k _ ⟨by simp; omega, by simp [mput_get, mput_arr, mput_let, mput_put, mset_get, mset_int, mset_let, mputL_get, mputL_arr, mputL_let, mputL_put, i64_8, mLen]; rw [Nat.min_eq_left n1], fun i hi' => ?_⟩ (FrG.rfl9.put (by simp))
    simp at hi'
    have := h3 i (by omega)
    simp [mput_get, mput_arr, mput_let, mput_put, mset_get, mset_int, mset_let, mputL_get, mputL_arr, mputL_let, mputL_put, i64_8, mLen]
    have e : tpF (l.take j) i = tpF l i := by
      unfold tpF; rw [List.getD_eq_getElem?_getD, List.getD_eq_getElem?_getD, List.getElem?_take]; rw [if_pos (by omega)]
    rw [e]; exact this
  · rw [hi] at k
    simp only at k
    simp [pX2_cut, bX2_cut_12, bX2_cut_15, bX2_cut_0, o_ic, o_lc, o_null, o_il, o_ll, o_al, o_dup, o_pop, o_dup_x1, o_dup2, o_iadd, o_isub, o_imul, o_iand, o_ior, o_ixor, o_ishl, o_ishr, o_idiv, o_irem, o_ineg, o_ladd, o_lsub, o_lmul, o_land, o_lor, o_lxor, o_ldiv, o_lrem, o_lneg, o_lcmp, o_i2l, o_l2i, o_i2b, o_i2c, o_iushr, o_lshl, o_lshr, o_if_eq, o_if_ne, o_if_lt, o_if_ge, o_if_gt, o_if_le, o_icmp_eq, o_icmp_ne, o_icmp_lt, o_icmp_ge, o_icmp_gt, o_icmp_le, o_ifnull, o_ifnonnull, o_acmp_eq, o_acmp_ne, o_is, o_ls, o_as, o_iinc, o_kill, o_sw, o_ireturn, o_zreturn, o_nreturn, o_lreturn, o_areturn, o_return, o_athrow, o_call, entP, lg_sl, Value.category, st1, st2, List.set, List.getElem?_cons_zero, List.getElem?_cons_succ, List.foldl, popN, aft, o_mg, o_mgl, o_mga, o_mp, o_mpz, o_mpl, o_mia, o_mis, o_mbs, o_mc, mput_get, mput_arr, mput_let, mput_put, mset_get, mset_int, mset_let, mputL_get, mputL_arr, mputL_let, mputL_put, i64_8, mLen, vpL, nn_addL, nn_addR, nn_mulL, nn_add, nn_mul, nn_eqL, nn_ltL, nn_leL, nn_Llt, nn_Lle, nn_lt, nn_le, nn_eq, nn_in, nn_clamp, nn_succ, nn_pos, nn_neg1, h2]
    refine ⟨fun _ => k, fun g1 => ⟨fun g2 => ?_, fun _ => k⟩⟩
    exfalso
    rcases hr with hr | hr
    · exact ab1 hr g1
    · have := le_lit hr (by omega)
      rw [Int32.le_iff_toInt_le, nn_toInt bl] at g2
      omega
/-- the byte at place k of a long -/
def byt (w : Int64) (k : Nat) : Nat := ((w >>> Int64.ofNat (8 * k)) &&& 255).toBitVec.toNat
def fdB (w : Int64) : Nat → List Nat
  | 0 => []
  | k + 1 => byt w k :: fdB w k
theorem fdB_len (w : Int64) : ∀ n, (fdB w n).length = n
  | 0 => rfl
  | n + 1 => by simp [fdB, fdB_len w n]
def sFeed (l : List Nat) (w : Int64) (n : Int32) : Int32 × List Nat := if n < 1 ∨ 8 < n then (-2, l) else if 3000 < l.length + n.toNatClampNeg then (-3, l) else (nn (l.length + n.toNatClampNeg), l ++ fdB w n.toNatClampNeg)

theorem byt_lt (w : Int64) (k : Nat) : byt w k < 256 := by
  unfold byt
  rw [Int64.toBitVec_and, BitVec.toNat_and]
  exact Nat.lt_of_le_of_lt Nat.and_le_right (by decide)
theorem byt_i32 (w : Int64) (k : Nat) (hk : k < 8) : ((w >>> (Int64.ofNat (8 * k) &&& 63)) &&& 255).toInt32 = nn (byt w k) := by
  have e1 : Int64.ofNat (8 * k) &&& 63 = Int64.ofNat (8 * k) := by
    rcases i8_cases hk with rfl | rfl | rfl | rfl | rfl | rfl | rfl | rfl <;> decide
  rw [e1]
  have hb := byt_lt w k
  have hi : ((w >>> Int64.ofNat (8 * k)) &&& 255).toInt = byt w k := by
    show ((w >>> Int64.ofNat (8 * k)) &&& 255).toBitVec.toInt = _
    rw [BitVec.toInt_eq_toNat_of_lt (by unfold byt at hb; omega)]; rfl
  rw [← Int32.toInt_inj, Int64.toInt_toInt32, nn_toInt (by omega), hi]
  simp [Int.bmod]; omega
theorem q_feed {mo : Nat} {Q : Ret MS} {ms : MS} {l : List Nat} {w : Int64} {n : Int32} (h : TpM ms l)
    (k : ∀ ms', TpM ms' (sFeed l w n).2 → FrG (fun k _ => k = 0) [1] ms ms' → Q (.inl (some (.int (sFeed l w n).1))) ms') : pX2_feed mo [.ref mo, .long w, .int n] ms Q := by
  obtain ⟨h1, h2, h3⟩ := id h
  unfold sFeed at k
  simp [pX2_feed, bX2_feed_0, bX2_feed_11, o_ic, o_lc, o_null, o_il, o_ll, o_al, o_dup, o_pop, o_dup_x1, o_dup2, o_iadd, o_isub, o_imul, o_iand, o_ior, o_ixor, o_ishl, o_ishr, o_idiv, o_irem, o_ineg, o_ladd, o_lsub, o_lmul, o_land, o_lor, o_lxor, o_ldiv, o_lrem, o_lneg, o_lcmp, o_i2l, o_l2i, o_i2b, o_i2c, o_iushr, o_lshl, o_lshr, o_if_eq, o_if_ne, o_if_lt, o_if_ge, o_if_gt, o_if_le, o_icmp_eq, o_icmp_ne, o_icmp_lt, o_icmp_ge, o_icmp_gt, o_icmp_le, o_ifnull, o_ifnonnull, o_acmp_eq, o_acmp_ne, o_is, o_ls, o_as, o_iinc, o_kill, o_sw, o_ireturn, o_zreturn, o_nreturn, o_lreturn, o_areturn, o_return, o_athrow, o_call, entP, lg_sl, Value.category, st1, st2, List.set, List.getElem?_cons_zero, List.getElem?_cons_succ, List.foldl, popN, aft, o_mg, o_mgl, o_mga, o_mp, o_mpz, o_mpl, o_mia, o_mis, o_mbs, o_mc, mput_get, mput_arr, mput_let, mput_put, mset_get, mset_int, mset_let, mputL_get, mputL_arr, mputL_let, mputL_put, i64_8, mLen]
  have bad : (n < 1 ∨ 8 < n) → Q (.inl (some (.int (-2)))) ms := fun z => by
    rw [if_pos z] at k; exact k ms h FrG.rfl9
  refine ⟨fun g => bad (Or.inl g), fun g1 => ⟨fun g2 => ?_, fun g => bad (Or.inr g)⟩⟩
  have nz : ¬ (n < 1 ∨ 8 < n) := fun z => z.elim (fun z => ab2 z g1) (fun z => ab2 z g2)
  rw [if_neg nz] at k
  obtain ⟨m, hm1, hm2, hm3⟩ : ∃ m, 0 < m ∧ m < 9 ∧ n = nn m := by
    rcases ix_cases n 9 (by omega) with ⟨m, hz1, hz2, -⟩ | ⟨-, hz⟩
    · refine ⟨m, ?_, hz1, hz2⟩
      subst hz2
      rw [Int32.le_iff_toInt_le, nn_toInt (by omega)] at g1
      have e1 : (1 : Int32).toInt = 1 := rfl
      omega
    · exfalso
      rw [Int32.le_iff_toInt_le] at g1 g2
      have e1 : (1 : Int32).toInt = 1 := rfl
      have e8 : (8 : Int32).toInt = 8 := rfl
      rcases hz with hz | hz
      · rw [Int32.lt_iff_toInt_lt, Int32.toInt_zero] at hz; omega
      · have := le_lit hz (by omega); omega
  subst hm3
  have bm : m < 2147483648 := by omega
  rw [nn_clamp bm] at k
  have b1 : l.length + m < 2147483648 := by omega
  simp [bX2_feed_14, o_ic, o_lc, o_null, o_il, o_ll, o_al, o_dup, o_pop, o_dup_x1, o_dup2, o_iadd, o_isub, o_imul, o_iand, o_ior, o_ixor, o_ishl, o_ishr, o_idiv, o_irem, o_ineg, o_ladd, o_lsub, o_lmul, o_land, o_lor, o_lxor, o_ldiv, o_lrem, o_lneg, o_lcmp, o_i2l, o_l2i, o_i2b, o_i2c, o_iushr, o_lshl, o_lshr, o_if_eq, o_if_ne, o_if_lt, o_if_ge, o_if_gt, o_if_le, o_icmp_eq, o_icmp_ne, o_icmp_lt, o_icmp_ge, o_icmp_gt, o_icmp_le, o_ifnull, o_ifnonnull, o_acmp_eq, o_acmp_ne, o_is, o_ls, o_as, o_iinc, o_kill, o_sw, o_ireturn, o_zreturn, o_nreturn, o_lreturn, o_areturn, o_return, o_athrow, o_call, entP, lg_sl, Value.category, st1, st2, List.set, List.getElem?_cons_zero, List.getElem?_cons_succ, List.foldl, popN, aft, o_mg, o_mgl, o_mga, o_mp, o_mpz, o_mpl, o_mia, o_mis, o_mbs, o_mc, mput_get, mput_arr, mput_let, mput_put, mset_get, mset_int, mset_let, mputL_get, mputL_arr, mputL_let, mputL_put, i64_8, mLen, vpL, nn_addL, nn_addR, nn_mulL, nn_add, nn_mul, nn_eqL, nn_ltL, nn_leL, nn_Llt, nn_Lle, nn_lt, nn_le, nn_eq, nn_in, nn_clamp, nn_succ, nn_pos, nn_neg1, h2, b1]
  refine ⟨fun g => ?_, fun g => ?_⟩
  · rw [if_neg (by omega)] at k
    simp [bX2_feed_29, o_ic, o_lc, o_null, o_il, o_ll, o_al, o_dup, o_pop, o_dup_x1, o_dup2, o_iadd, o_isub, o_imul, o_iand, o_ior, o_ixor, o_ishl, o_ishr, o_idiv, o_irem, o_ineg, o_ladd, o_lsub, o_lmul, o_land, o_lor, o_lxor, o_ldiv, o_lrem, o_lneg, o_lcmp, o_i2l, o_l2i, o_i2b, o_i2c, o_iushr, o_lshl, o_lshr, o_if_eq, o_if_ne, o_if_lt, o_if_ge, o_if_gt, o_if_le, o_icmp_eq, o_icmp_ne, o_icmp_lt, o_icmp_ge, o_icmp_gt, o_icmp_le, o_ifnull, o_ifnonnull, o_acmp_eq, o_acmp_ne, o_is, o_ls, o_as, o_iinc, o_kill, o_sw, o_ireturn, o_zreturn, o_nreturn, o_lreturn, o_areturn, o_return, o_athrow, o_call, entP, lg_sl, Value.category, st1, st2, List.set, List.getElem?_cons_zero, List.getElem?_cons_succ, List.foldl, popN, aft, o_mg, o_mgl, o_mga, o_mp, o_mpz, o_mpl, o_mia, o_mis, o_mbs, o_mc, mput_get, mput_arr, mput_let, mput_put, mset_get, mset_int, mset_let, mputL_get, mputL_arr, mputL_let, mputL_put, i64_8, mLen]
    unfold bX2_feed_34
    intro X hX
    have hind : ∀ r l' ms', l'.length + r ≤ 3000 → r ≤ 8 → TpM ms' l' → FrG (fun k _ => k = 0) [1] ms ms' → l' ++ fdB w r = l ++ fdB w m → X [some (.ref mo), some (.long w), none, none, some (.int (nn r - 1))] [] ms' := by
      intro r
      induction r with
      | zero =>
        intro l' ms' _ _ hT hf he
        apply hX
        have e0 : (nn 0 - 1 : Int32) < 0 := by decide
        simp [bX2_feed_76, o_ic, o_lc, o_null, o_il, o_ll, o_al, o_dup, o_pop, o_dup_x1, o_dup2, o_iadd, o_isub, o_imul, o_iand, o_ior, o_ixor, o_ishl, o_ishr, o_idiv, o_irem, o_ineg, o_ladd, o_lsub, o_lmul, o_land, o_lor, o_lxor, o_ldiv, o_lrem, o_lneg, o_lcmp, o_i2l, o_l2i, o_i2b, o_i2c, o_iushr, o_lshl, o_lshr, o_if_eq, o_if_ne, o_if_lt, o_if_ge, o_if_gt, o_if_le, o_icmp_eq, o_icmp_ne, o_icmp_lt, o_icmp_ge, o_icmp_gt, o_icmp_le, o_ifnull, o_ifnonnull, o_acmp_eq, o_acmp_ne, o_is, o_ls, o_as, o_iinc, o_kill, o_sw, o_ireturn, o_zreturn, o_nreturn, o_lreturn, o_areturn, o_return, o_athrow, o_call, entP, lg_sl, Value.category, st1, st2, List.set, List.getElem?_cons_zero, List.getElem?_cons_succ, List.foldl, popN, aft, o_mg, o_mgl, o_mga, o_mp, o_mpz, o_mpl, o_mia, o_mis, o_mbs, o_mc, mput_get, mput_arr, mput_let, mput_put, mset_get, mset_int, mset_let, mputL_get, mputL_arr, mputL_let, mputL_put, i64_8, mLen, e0]
        simp [fdB] at he
        subst he
        rw [hT.2.1]
        have e2 : (l ++ fdB w m).length = l.length + m := by simp [fdB_len]
        rw [e2]
        exact k ms' hT hf
      | succ r ih =>
        intro l' ms' hl hr hT hf he
        apply hX
        obtain ⟨t1, t2, t3⟩ := id hT
        have b2 : r < 2147483648 := by omega
        have b3 : l'.length < 2147483648 := by omega
        have b4 : l'.length < 3000 := by omega
        have em : (nn r + -1 : Int32) = nn r - 1 := by rw [Int32.sub_eq_add_neg]
        have e64 : (nn (8 * r)).toInt64 = Int64.ofNat (8 * r) := i64_nn (by omega)
        rw [nn_pred (by omega), Nat.add_sub_cancel]
        simp [o_ic, o_lc, o_null, o_il, o_ll, o_al, o_dup, o_pop, o_dup_x1, o_dup2, o_iadd, o_isub, o_imul, o_iand, o_ior, o_ixor, o_ishl, o_ishr, o_idiv, o_irem, o_ineg, o_ladd, o_lsub, o_lmul, o_land, o_lor, o_lxor, o_ldiv, o_lrem, o_lneg, o_lcmp, o_i2l, o_l2i, o_i2b, o_i2c, o_iushr, o_lshl, o_lshr, o_if_eq, o_if_ne, o_if_lt, o_if_ge, o_if_gt, o_if_le, o_icmp_eq, o_icmp_ne, o_icmp_lt, o_icmp_ge, o_icmp_gt, o_icmp_le, o_ifnull, o_ifnonnull, o_acmp_eq, o_acmp_ne, o_is, o_ls, o_as, o_iinc, o_kill, o_sw, o_ireturn, o_zreturn, o_nreturn, o_lreturn, o_areturn, o_return, o_athrow, o_call, entP, lg_sl, Value.category, st1, st2, List.set, List.getElem?_cons_zero, List.getElem?_cons_succ, List.foldl, popN, aft, o_mg, o_mgl, o_mga, o_mp, o_mpz, o_mpl, o_mia, o_mis, o_mbs, o_mc, mput_get, mput_arr, mput_let, mput_put, mset_get, mset_int, mset_let, mputL_get, mputL_arr, mputL_let, mputL_put, i64_8, mLen, vpL, nn_addL, nn_addR, nn_mulL, nn_add, nn_mul, nn_eqL, nn_ltL, nn_leL, nn_Llt, nn_Lle, nn_lt, nn_le, nn_eq, nn_in, nn_clamp, nn_succ, nn_pos, nn_neg1, b2, t2, b3, b4, e64, byt_i32 w r (by omega), em]
        refine ih (l' ++ [byt w r]) _ (by simp; omega) (by omega) ⟨by simp; omega, by simp [mput_get, mput_arr, mput_let, mput_put, mset_get, mset_int, mset_let, mputL_get, mputL_arr, mputL_let, mputL_put, i64_8, mLen], fun i hi => ?_⟩ ((hf.set rfl).put (by simp)) (by rw [← he]; simp [fdB])
        simp at hi
        by_cases c : i = l'.length
        · subst c
          have e := byt_i32 w r (by omega)
          simp at e
          simp [mput_get, mput_arr, mput_let, mput_put, mset_get, mset_int, mset_let, mputL_get, mputL_arr, mputL_let, mputL_put, i64_8, mLen, tpF]
          exact ⟨e, byt_lt w r⟩
        · have hi' : i < l'.length := by omega
          have := t3 i hi'
          have e : tpF (l' ++ [byt w r]) i = tpF l' i := by
            unfold tpF; rw [List.getD_eq_getElem?_getD, List.getD_eq_getElem?_getD, List.getElem?_append_left hi']
          rw [e]
          simp [mput_get, mput_arr, mput_let, mput_put, mset_get, mset_int, mset_let, mputL_get, mputL_arr, mputL_let, mputL_put, i64_8, mLen, c]; exact this
    exact hind m l ms (by omega) (by omega) h FrG.rfl9 rfl
  · rw [if_pos (by omega)] at k
    exact k ms h FrG.rfl9
