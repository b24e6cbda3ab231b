/-! THE MODEL copies a routine to its place -/
set_option maxRecDepth 100000
/-- a routine at a place -/
def PlM (ms : MS) (p : Nat) (R : Rt) : Prop := (ms.2.2 8 p = 1 ∧ ms.2.2 9 p = nn R.2.length ∧ ms.2.2 10 p = nn (nds R).length ∧ ms.2.2 11 p = nn R.1.length ∧ ms.2.2 12 p = nn (sms R.1).length) ∧ (∀ b, b < R.2.length → ms.2.2 13 (41 * p + b) = nn (fstN R.2 b)) ∧ (∀ k x, (nds R)[k]? = some x → NdM ms (240 * p + k) x) ∧ (∀ e, e < (sms R.1).length → ms.2.2 26 (32 * p + e) = (smA R e).1 ∧ ms.2.2 27 (32 * p + e) = (smA R e).2.1.1 ∧ ms.2.2 28 (32 * p + e) = (smA R e).2.1.2 ∧ ms.2.2 29 (32 * p + e) = (smA R e).2.2.1 ∧ ms.2.2 30 (32 * p + e) = (smA R e).2.2.2) ∧ ∀ e, e < (sms R.1).length → ∀ k, k < (nds R).length → ms.2.2 31 ((32 * p + e) * 240 + k) = fwd R e k
/-- what copy may write -/
def PC (p : Nat) : Nat → Nat → Prop := fun k i => (((8 ≤ k ∧ k ≤ 12) ∨ k = 57) ∧ i = p) ∨ (k = 13 ∧ 41 * p ≤ i ∧ i < 41 * p + 41) ∨ ((15 ≤ k ∧ k ≤ 25) ∧ 240 * p ≤ i ∧ i < 240 * p + 240) ∨ ((26 ≤ k ∧ k ≤ 30) ∧ 32 * p ≤ i ∧ i < 32 * p + 32) ∨ (k = 31 ∧ 7680 * p ≤ i ∧ i < 7680 * p + 7680)
theorem c25 {k : Nat} (h1 : 15 ≤ k) (h2 : k ≤ 25) : k = 15 ∨ k = 16 ∨ k = 17 ∨ k = 18 ∨ k = 19 ∨ k = 20 ∨ k = 21 ∨ k = 22 ∨ k = 23 ∨ k = 24 ∨ k = 25 := by omega
theorem c30 {k : Nat} (h1 : 26 ≤ k) (h2 : k ≤ 30) : k = 26 ∨ k = 27 ∨ k = 28 ∨ k = 29 ∨ k = 30 := by omega
/-- nodes -/
theorem x_copy2 {mo : Nat} {Q : Ret MS} {ms : MS} {p n : Nat} (hp : p < 4) (hn : n ≤ 240) (h10 : ms.2.2 10 p = nn n)
    (k : ∀ ms', FrG (fun k i => (15 ≤ k ∧ k ≤ 25) ∧ 240 * p ≤ i ∧ i < 240 * p + 240) [] ms ms' → ms'.1 = ms.1 → ms'.2.1 = ms.2.1 → (∀ j k, j < n → 15 ≤ k → k ≤ 25 → ms'.2.2 k (240 * p + j) = ms.2.2 k (960 + j)) → bX2_copy_277 mo Q [some (.ref mo), some (.int (nn p)), none, none, none] [] ms') :
    bX2_copy_103 mo Q [some (.ref mo), some (.int (nn p)), some (.int 0), none, none] [] ms := by
  unfold bX2_copy_103
  intro X hX
  have bp : p < 2147483648 := by omega
  have b0 : n < 2147483648 := by omega
  have bp5 : p < 5 := by omega
  have hind : ∀ r q ms1, q + r = n → FrG (fun k i => (15 ≤ k ∧ k ≤ 25) ∧ 240 * p ≤ i ∧ i < 240 * p + 240) [] ms ms1 → ms1.1 = ms.1 → ms1.2.1 = ms.2.1 → (∀ j k, j < q → 15 ≤ k → k ≤ 25 → ms1.2.2 k (240 * p + j) = ms.2.2 k (960 + j)) → X [some (.ref mo), some (.int (nn p)), some (.int (nn q)), none, none] [] ms1 := by
    intro r
    induction r with
    | zero =>
      intro q ms1 e1 f1 f2 f3 f4
      apply hX
      have b1 : q < 2147483648 := by omega
      have b3 : n ≤ q := by omega
      have b4 : ¬ q < n := by omega
      have h10' : ms1.2.2 10 p = nn n := by rw [f1.2 10 p (by omega)]; exact h10
      have := k ms1 f1 f2 f3 (fun j k hj => f4 j k (by omega))
      simp [bX2_copy_277, o_ic, o_lc, o_null, o_il, o_ll, o_al, o_dup, o_pop, o_dup_x1, o_dup2, o_iadd, o_isub, o_imul, o_iand, o_ior, o_ixor, o_ishl, o_ishr, o_idiv, o_irem, o_ineg, o_ladd, o_lsub, o_lmul, o_land, o_lor, o_lxor, o_ldiv, o_lrem, o_lneg, o_lcmp, o_i2l, o_l2i, o_i2b, o_i2c, o_iushr, o_lshl, o_lshr, o_if_eq, o_if_ne, o_if_lt, o_if_ge, o_if_gt, o_if_le, o_icmp_eq, o_icmp_ne, o_icmp_lt, o_icmp_ge, o_icmp_gt, o_icmp_le, o_ifnull, o_ifnonnull, o_acmp_eq, o_acmp_ne, o_is, o_ls, o_as, o_iinc, o_kill, o_sw, o_ireturn, o_zreturn, o_nreturn, o_lreturn, o_areturn, o_return, o_athrow, o_call, entP, lg_sl, Value.category, st1, st2, List.set, List.getElem?_cons_zero, List.getElem?_cons_succ, List.foldl, popN, aft, o_mg, o_mgl, o_mga, o_mp, o_mpz, o_mpl, o_mia, o_mis, o_mbs, o_mc, mput_get, mput_arr, mput_let, mput_put, mset_get, mset_int, mset_let, mputL_get, mputL_arr, mputL_let, mputL_put, i64_8, mLen, vpL, nn_addL, nn_addR, nn_mulL, nn_add, nn_mul, nn_eqL, nn_ltL, nn_leL, nn_Llt, nn_Lle, nn_lt, nn_le, nn_eq, nn_in, nn_clamp, nn_succ, nn_pos, nn_neg1] at this
      simp [bX2_copy_277, o_ic, o_lc, o_null, o_il, o_ll, o_al, o_dup, o_pop, o_dup_x1, o_dup2, o_iadd, o_isub, o_imul, o_iand, o_ior, o_ixor, o_ishl, o_ishr, o_idiv, o_irem, o_ineg, o_ladd, o_lsub, o_lmul, o_land, o_lor, o_lxor, o_ldiv, o_lrem, o_lneg, o_lcmp, o_i2l, o_l2i, o_i2b, o_i2c, o_iushr, o_lshl, o_lshr, o_if_eq, o_if_ne, o_if_lt, o_if_ge, o_if_gt, o_if_le, o_icmp_eq, o_icmp_ne, o_icmp_lt, o_icmp_ge, o_icmp_gt, o_icmp_le, o_ifnull, o_ifnonnull, o_acmp_eq, o_acmp_ne, o_is, o_ls, o_as, o_iinc, o_kill, o_sw, o_ireturn, o_zreturn, o_nreturn, o_lreturn, o_areturn, o_return, o_athrow, o_call, entP, lg_sl, Value.category, st1, st2, List.set, List.getElem?_cons_zero, List.getElem?_cons_succ, List.foldl, popN, aft, o_mg, o_mgl, o_mga, o_mp, o_mpz, o_mpl, o_mia, o_mis, o_mbs, o_mc, mput_get, mput_arr, mput_let, mput_put, mset_get, mset_int, mset_let, mputL_get, mputL_arr, mputL_let, mputL_put, i64_8, mLen, vpL, nn_addL, nn_addR, nn_mulL, nn_add, nn_mul, nn_eqL, nn_ltL, nn_leL, nn_Llt, nn_Lle, nn_lt, nn_le, nn_eq, nn_in, nn_clamp, nn_succ, nn_pos, nn_neg1, h10', b0, b1, b3, b4, bp, bp5]
      exact this
    | succ r ih =>
      intro q ms1 e1 f1 f2 f3 f4
      apply hX
      have hq : q < n := by omega
      have b1 : q < 2147483648 := by omega
      have b4 : ¬ n ≤ q := by omega
      have b5 : 240 * p + q < 2147483648 := by omega
      have b6 : 240 * p + q < 1200 := by omega
      have b7 : 960 + q < 2147483648 := by omega
      have b8 : 960 + q < 1200 := by omega
      have h10' : ms1.2.2 10 p = nn n := by rw [f1.2 10 p (by omega)]; exact h10
      simp [o_ic, o_lc, o_null, o_il, o_ll, o_al, o_dup, o_pop, o_dup_x1, o_dup2, o_iadd, o_isub, o_imul, o_iand, o_ior, o_ixor, o_ishl, o_ishr, o_idiv, o_irem, o_ineg, o_ladd, o_lsub, o_lmul, o_land, o_lor, o_lxor, o_ldiv, o_lrem, o_lneg, o_lcmp, o_i2l, o_l2i, o_i2b, o_i2c, o_iushr, o_lshl, o_lshr, o_if_eq, o_if_ne, o_if_lt, o_if_ge, o_if_gt, o_if_le, o_icmp_eq, o_icmp_ne, o_icmp_lt, o_icmp_ge, o_icmp_gt, o_icmp_le, o_ifnull, o_ifnonnull, o_acmp_eq, o_acmp_ne, o_is, o_ls, o_as, o_iinc, o_kill, o_sw, o_ireturn, o_zreturn, o_nreturn, o_lreturn, o_areturn, o_return, o_athrow, o_call, entP, lg_sl, Value.category, st1, st2, List.set, List.getElem?_cons_zero, List.getElem?_cons_succ, List.foldl, popN, aft, o_mg, o_mgl, o_mga, o_mp, o_mpz, o_mpl, o_mia, o_mis, o_mbs, o_mc, mput_get, mput_arr, mput_let, mput_put, mset_get, mset_int, mset_let, mputL_get, mputL_arr, mputL_let, mputL_put, i64_8, mLen, vpL, nn_addL, nn_addR, nn_mulL, nn_add, nn_mul, nn_eqL, nn_ltL, nn_leL, nn_Llt, nn_Lle, nn_lt, nn_le, nn_eq, nn_in, nn_clamp, nn_succ, nn_pos, nn_neg1, h10', b0, b1, hq, b4, bp, bp5, b5, b6, b7, b8]
      refine ih (q + 1) _ (by omega) ?_ (by simp [mput_get, mput_arr, mput_let, mput_put, mset_get, mset_int, mset_let, mputL_get, mputL_arr, mputL_let, mputL_put, i64_8, mLen]; exact f2) (by simp [mput_get, mput_arr, mput_let, mput_put, mset_get, mset_int, mset_let, mputL_get, mputL_arr, mputL_let, mputL_put, i64_8, mLen]; exact f3) ?_
      · refine f1.trans ?_
        refine FrG.set (FrG.set (FrG.set (FrG.set (FrG.set (FrG.set (FrG.set (FrG.set (FrG.set (FrG.set (FrG.set FrG.rfl9 ?_) ?_) ?_) ?_) ?_) ?_) ?_) ?_) ?_) ?_) ?_
        all_goals exact ⟨by omega, by omega, by omega⟩
      · intro j k hj k1 k2
        have src : ∀ k', 15 ≤ k' → k' ≤ 25 → ms1.2.2 k' (960 + q) = ms.2.2 k' (960 + q) := fun k' _ _ => f1.2 k' _ (by omega)
        by_cases c : j = q
        · subst c
          rw [← src k k1 k2]
          rcases c25 k1 k2 with rfl | rfl | rfl | rfl | rfl | rfl | rfl | rfl | rfl | rfl | rfl <;> simp [mput_get, mput_arr, mput_let, mput_put, mset_get, mset_int, mset_let, mputL_get, mputL_arr, mputL_let, mputL_put, i64_8, mLen]
        · rw [← f4 j k (by omega) k1 k2]
          have n1 : ¬ (240 * p + j = 240 * p + q) := by omega
          simp [mput_get, mput_arr, mput_let, mput_put, mset_get, mset_int, mset_let, mputL_get, mputL_arr, mputL_let, mputL_put, i64_8, mLen, c]
  exact hind n 0 ms (by omega) FrG.rfl9 rfl rfl (fun j k hj => by omega)
/-- heads -/
theorem x_copy1 {mo : Nat} {Q : Ret MS} {ms : MS} {p n : Nat} (hp : p < 4) (hn : n ≤ 40) (h9 : ms.2.2 9 p = nn n)
    (k : ∀ ms', FrG (fun k i => k = 13 ∧ 41 * p ≤ i ∧ i < 41 * p + 41) [] ms ms' → ms'.1 = ms.1 → ms'.2.1 = ms.2.1 → (∀ j, j < n → ms'.2.2 13 (41 * p + j) = ms.2.2 13 (164 + j)) → bX2_copy_101 mo Q [some (.ref mo), some (.int (nn p)), none, none, none] [] ms') :
    bX2_copy_64 mo Q [some (.ref mo), some (.int (nn p)), some (.int 0), none, none] [] ms := by
  unfold bX2_copy_64
  intro X hX
  have bp : p < 2147483648 := by omega
  have b0 : n < 2147483648 := by omega
  have bp5 : p < 5 := by omega
  have hind : ∀ r q ms1, q + r = n → FrG (fun k i => k = 13 ∧ 41 * p ≤ i ∧ i < 41 * p + 41) [] ms ms1 → ms1.1 = ms.1 → ms1.2.1 = ms.2.1 → (∀ j, j < q → ms1.2.2 13 (41 * p + j) = ms.2.2 13 (164 + j)) → X [some (.ref mo), some (.int (nn p)), some (.int (nn q)), none, none] [] ms1 := by
    intro r
    induction r with
    | zero =>
      intro q ms1 e1 f1 f2 f3 f4
      apply hX
      have b1 : q < 2147483648 := by omega
      have b3 : n ≤ q := by omega
      have b4 : ¬ q < n := by omega
      have h9' : ms1.2.2 9 p = nn n := by rw [f1.2 9 p (by omega)]; exact h9
      have := k ms1 f1 f2 f3 (fun j hj => f4 j (by omega))
      simp [bX2_copy_101, o_ic, o_lc, o_null, o_il, o_ll, o_al, o_dup, o_pop, o_dup_x1, o_dup2, o_iadd, o_isub, o_imul, o_iand, o_ior, o_ixor, o_ishl, o_ishr, o_idiv, o_irem, o_ineg, o_ladd, o_lsub, o_lmul, o_land, o_lor, o_lxor, o_ldiv, o_lrem, o_lneg, o_lcmp, o_i2l, o_l2i, o_i2b, o_i2c, o_iushr, o_lshl, o_lshr, o_if_eq, o_if_ne, o_if_lt, o_if_ge, o_if_gt, o_if_le, o_icmp_eq, o_icmp_ne, o_icmp_lt, o_icmp_ge, o_icmp_gt, o_icmp_le, o_ifnull, o_ifnonnull, o_acmp_eq, o_acmp_ne, o_is, o_ls, o_as, o_iinc, o_kill, o_sw, o_ireturn, o_zreturn, o_nreturn, o_lreturn, o_areturn, o_return, o_athrow, o_call, entP, lg_sl, Value.category, st1, st2, List.set, List.getElem?_cons_zero, List.getElem?_cons_succ, List.foldl, popN, aft, o_mg, o_mgl, o_mga, o_mp, o_mpz, o_mpl, o_mia, o_mis, o_mbs, o_mc, mput_get, mput_arr, mput_let, mput_put, mset_get, mset_int, mset_let, mputL_get, mputL_arr, mputL_let, mputL_put, i64_8, mLen, vpL, nn_addL, nn_addR, nn_mulL, nn_add, nn_mul, nn_eqL, nn_ltL, nn_leL, nn_Llt, nn_Lle, nn_lt, nn_le, nn_eq, nn_in, nn_clamp, nn_succ, nn_pos, nn_neg1] at this
      simp [bX2_copy_101, o_ic, o_lc, o_null, o_il, o_ll, o_al, o_dup, o_pop, o_dup_x1, o_dup2, o_iadd, o_isub, o_imul, o_iand, o_ior, o_ixor, o_ishl, o_ishr, o_idiv, o_irem, o_ineg, o_ladd, o_lsub, o_lmul, o_land, o_lor, o_lxor, o_ldiv, o_lrem, o_lneg, o_lcmp, o_i2l, o_l2i, o_i2b, o_i2c, o_iushr, o_lshl, o_lshr, o_if_eq, o_if_ne, o_if_lt, o_if_ge, o_if_gt, o_if_le, o_icmp_eq, o_icmp_ne, o_icmp_lt, o_icmp_ge, o_icmp_gt, o_icmp_le, o_ifnull, o_ifnonnull, o_acmp_eq, o_acmp_ne, o_is, o_ls, o_as, o_iinc, o_kill, o_sw, o_ireturn, o_zreturn, o_nreturn, o_lreturn, o_areturn, o_return, o_athrow, o_call, entP, lg_sl, Value.category, st1, st2, List.set, List.getElem?_cons_zero, List.getElem?_cons_succ, List.foldl, popN, aft, o_mg, o_mgl, o_mga, o_mp, o_mpz, o_mpl, o_mia, o_mis, o_mbs, o_mc, mput_get, mput_arr, mput_let, mput_put, mset_get, mset_int, mset_let, mputL_get, mputL_arr, mputL_let, mputL_put, i64_8, mLen, vpL, nn_addL, nn_addR, nn_mulL, nn_add, nn_mul, nn_eqL, nn_ltL, nn_leL, nn_Llt, nn_Lle, nn_lt, nn_le, nn_eq, nn_in, nn_clamp, nn_succ, nn_pos, nn_neg1, h9', b0, b1, b3, b4, bp, bp5]
      exact this
    | succ r ih =>
      intro q ms1 e1 f1 f2 f3 f4
      apply hX
      have hq : q < n := by omega
      have b1 : q < 2147483648 := by omega
      have b4 : ¬ n ≤ q := by omega
      have b5 : 41 * p + q < 2147483648 := by omega
      have b6 : 41 * p + q < 205 := by omega
      have b7 : 164 + q < 2147483648 := by omega
      have b8 : 164 + q < 205 := by omega
      have h9' : ms1.2.2 9 p = nn n := by rw [f1.2 9 p (by omega)]; exact h9
      simp [o_ic, o_lc, o_null, o_il, o_ll, o_al, o_dup, o_pop, o_dup_x1, o_dup2, o_iadd, o_isub, o_imul, o_iand, o_ior, o_ixor, o_ishl, o_ishr, o_idiv, o_irem, o_ineg, o_ladd, o_lsub, o_lmul, o_land, o_lor, o_lxor, o_ldiv, o_lrem, o_lneg, o_lcmp, o_i2l, o_l2i, o_i2b, o_i2c, o_iushr, o_lshl, o_lshr, o_if_eq, o_if_ne, o_if_lt, o_if_ge, o_if_gt, o_if_le, o_icmp_eq, o_icmp_ne, o_icmp_lt, o_icmp_ge, o_icmp_gt, o_icmp_le, o_ifnull, o_ifnonnull, o_acmp_eq, o_acmp_ne, o_is, o_ls, o_as, o_iinc, o_kill, o_sw, o_ireturn, o_zreturn, o_nreturn, o_lreturn, o_areturn, o_return, o_athrow, o_call, entP, lg_sl, Value.category, st1, st2, List.set, List.getElem?_cons_zero, List.getElem?_cons_succ, List.foldl, popN, aft, o_mg, o_mgl, o_mga, o_mp, o_mpz, o_mpl, o_mia, o_mis, o_mbs, o_mc, mput_get, mput_arr, mput_let, mput_put, mset_get, mset_int, mset_let, mputL_get, mputL_arr, mputL_let, mputL_put, i64_8, mLen, vpL, nn_addL, nn_addR, nn_mulL, nn_add, nn_mul, nn_eqL, nn_ltL, nn_leL, nn_Llt, nn_Lle, nn_lt, nn_le, nn_eq, nn_in, nn_clamp, nn_succ, nn_pos, nn_neg1, h9', b0, b1, hq, b4, bp, bp5, b5, b6, b7, b8]
      refine ih (q + 1) _ (by omega) (f1.set ⟨rfl, by omega, by omega⟩) (by simp [mput_get, mput_arr, mput_let, mput_put, mset_get, mset_int, mset_let, mputL_get, mputL_arr, mputL_let, mputL_put, i64_8, mLen]; exact f2) (by simp [mput_get, mput_arr, mput_let, mput_put, mset_get, mset_int, mset_let, mputL_get, mputL_arr, mputL_let, mputL_put, i64_8, mLen]; exact f3) ?_
      intro j hj
      have src : ms1.2.2 13 (164 + q) = ms.2.2 13 (164 + q) := f1.2 13 _ (by omega)
      by_cases c : j = q
      · subst c; rw [← src]; simp [mput_get, mput_arr, mput_let, mput_put, mset_get, mset_int, mset_let, mputL_get, mputL_arr, mputL_let, mputL_put, i64_8, mLen]
      · rw [← f4 j (by omega)]
        simp [mput_get, mput_arr, mput_let, mput_put, mset_get, mset_int, mset_let, mputL_get, mputL_arr, mputL_let, mputL_put, i64_8, mLen, c]
  exact hind n 0 ms (by omega) FrG.rfl9 rfl rfl (fun j hj => by omega)
/-- facts of a sum -/
theorem x_copy4 {mo : Nat} {Q : Ret MS} {J : Cont MS} {ms : MS} {p n e : Nat} (hp : p < 4) (hn : n ≤ 240) (he : e < 32) (h10 : ms.2.2 10 p = nn n)
    (k : ∀ ms', FrG (fun k i => k = 31 ∧ 7680 * p + 240 * e ≤ i ∧ i < 7680 * p + 240 * e + 240) [] ms ms' → ms'.1 = ms.1 → ms'.2.1 = ms.2.1 → (∀ j, j < n → ms'.2.2 31 (7680 * p + 240 * e + j) = ms.2.2 31 (30720 + 240 * e + j)) → J [some (.ref mo), some (.int (nn p)), some (.int (nn (e + 1))), none, none] [] ms') :
    bX2_copy_396 mo Q J [some (.ref mo), some (.int (nn p)), some (.int (nn e)), some (.int 0), none] [] ms := by
  unfold bX2_copy_396
  intro X hX
  have bp : p < 2147483648 := by omega
  have b0 : n < 2147483648 := by omega
  have bp5 : p < 5 := by omega
  have hind : ∀ r q ms1, q + r = n → FrG (fun k i => k = 31 ∧ 7680 * p + 240 * e ≤ i ∧ i < 7680 * p + 240 * e + 240) [] ms ms1 → ms1.1 = ms.1 → ms1.2.1 = ms.2.1 → (∀ j, j < q → ms1.2.2 31 (7680 * p + 240 * e + j) = ms.2.2 31 (30720 + 240 * e + j)) → X [some (.ref mo), some (.int (nn p)), some (.int (nn e)), some (.int (nn q)), none] [] ms1 := by
    intro r
    induction r with
    | zero =>
      intro q ms1 e1 f1 f2 f3 f4
      apply hX
      have b1 : q < 2147483648 := by omega
      have b3 : n ≤ q := by omega
      have b4 : ¬ q < n := by omega
      have h10' : ms1.2.2 10 p = nn n := by rw [f1.2 10 p (by omega)]; exact h10
      have := k ms1 f1 f2 f3 (fun j hj => f4 j (by omega))
      simp [bX2_copy_438, o_ic, o_lc, o_null, o_il, o_ll, o_al, o_dup, o_pop, o_dup_x1, o_dup2, o_iadd, o_isub, o_imul, o_iand, o_ior, o_ixor, o_ishl, o_ishr, o_idiv, o_irem, o_ineg, o_ladd, o_lsub, o_lmul, o_land, o_lor, o_lxor, o_ldiv, o_lrem, o_lneg, o_lcmp, o_i2l, o_l2i, o_i2b, o_i2c, o_iushr, o_lshl, o_lshr, o_if_eq, o_if_ne, o_if_lt, o_if_ge, o_if_gt, o_if_le, o_icmp_eq, o_icmp_ne, o_icmp_lt, o_icmp_ge, o_icmp_gt, o_icmp_le, o_ifnull, o_ifnonnull, o_acmp_eq, o_acmp_ne, o_is, o_ls, o_as, o_iinc, o_kill, o_sw, o_ireturn, o_zreturn, o_nreturn, o_lreturn, o_areturn, o_return, o_athrow, o_call, entP, lg_sl, Value.category, st1, st2, List.set, List.getElem?_cons_zero, List.getElem?_cons_succ, List.foldl, popN, aft, o_mg, o_mgl, o_mga, o_mp, o_mpz, o_mpl, o_mia, o_mis, o_mbs, o_mc, mput_get, mput_arr, mput_let, mput_put, mset_get, mset_int, mset_let, mputL_get, mputL_arr, mputL_let, mputL_put, i64_8, mLen, vpL, nn_addL, nn_addR, nn_mulL, nn_add, nn_mul, nn_eqL, nn_ltL, nn_leL, nn_Llt, nn_Lle, nn_lt, nn_le, nn_eq, nn_in, nn_clamp, nn_succ, nn_pos, nn_neg1, h10', b0, b1, b3, b4, bp, bp5]
      exact this
    | succ r ih =>
      intro q ms1 e1 f1 f2 f3 f4
      apply hX
      have hq : q < n := by omega
      have b1 : q < 2147483648 := by omega
      have b4 : ¬ n ≤ q := by omega
      have b5 : 7680 * p + 240 * e + q < 2147483648 := by omega
      have b6 : 7680 * p + 240 * e + q < 38400 := by omega
      have b7 : 30720 + 240 * e + q < 2147483648 := by omega
      have b8 : 30720 + 240 * e + q < 38400 := by omega
      have h10' : ms1.2.2 10 p = nn n := by rw [f1.2 10 p (by omega)]; exact h10
      simp [o_ic, o_lc, o_null, o_il, o_ll, o_al, o_dup, o_pop, o_dup_x1, o_dup2, o_iadd, o_isub, o_imul, o_iand, o_ior, o_ixor, o_ishl, o_ishr, o_idiv, o_irem, o_ineg, o_ladd, o_lsub, o_lmul, o_land, o_lor, o_lxor, o_ldiv, o_lrem, o_lneg, o_lcmp, o_i2l, o_l2i, o_i2b, o_i2c, o_iushr, o_lshl, o_lshr, o_if_eq, o_if_ne, o_if_lt, o_if_ge, o_if_gt, o_if_le, o_icmp_eq, o_icmp_ne, o_icmp_lt, o_icmp_ge, o_icmp_gt, o_icmp_le, o_ifnull, o_ifnonnull, o_acmp_eq, o_acmp_ne, o_is, o_ls, o_as, o_iinc, o_kill, o_sw, o_ireturn, o_zreturn, o_nreturn, o_lreturn, o_areturn, o_return, o_athrow, o_call, entP, lg_sl, Value.category, st1, st2, List.set, List.getElem?_cons_zero, List.getElem?_cons_succ, List.foldl, popN, aft, o_mg, o_mgl, o_mga, o_mp, o_mpz, o_mpl, o_mia, o_mis, o_mbs, o_mc, mput_get, mput_arr, mput_let, mput_put, mset_get, mset_int, mset_let, mputL_get, mputL_arr, mputL_let, mputL_put, i64_8, mLen, vpL, nn_addL, nn_addR, nn_mulL, nn_add, nn_mul, nn_eqL, nn_ltL, nn_leL, nn_Llt, nn_Lle, nn_lt, nn_le, nn_eq, nn_in, nn_clamp, nn_succ, nn_pos, nn_neg1, h10', b0, b1, hq, b4, bp, bp5]
      refine m_base ?_
      rw [show (32 * p + e) * 240 = 7680 * p + 240 * e by omega]
      simp [o_ic, o_lc, o_null, o_il, o_ll, o_al, o_dup, o_pop, o_dup_x1, o_dup2, o_iadd, o_isub, o_imul, o_iand, o_ior, o_ixor, o_ishl, o_ishr, o_idiv, o_irem, o_ineg, o_ladd, o_lsub, o_lmul, o_land, o_lor, o_lxor, o_ldiv, o_lrem, o_lneg, o_lcmp, o_i2l, o_l2i, o_i2b, o_i2c, o_iushr, o_lshl, o_lshr, o_if_eq, o_if_ne, o_if_lt, o_if_ge, o_if_gt, o_if_le, o_icmp_eq, o_icmp_ne, o_icmp_lt, o_icmp_ge, o_icmp_gt, o_icmp_le, o_ifnull, o_ifnonnull, o_acmp_eq, o_acmp_ne, o_is, o_ls, o_as, o_iinc, o_kill, o_sw, o_ireturn, o_zreturn, o_nreturn, o_lreturn, o_areturn, o_return, o_athrow, o_call, entP, lg_sl, Value.category, st1, st2, List.set, List.getElem?_cons_zero, List.getElem?_cons_succ, List.foldl, popN, aft, o_mg, o_mgl, o_mga, o_mp, o_mpz, o_mpl, o_mia, o_mis, o_mbs, o_mc, mput_get, mput_arr, mput_let, mput_put, mset_get, mset_int, mset_let, mputL_get, mputL_arr, mputL_let, mputL_put, i64_8, mLen, vpL, nn_addL, nn_addR, nn_mulL, nn_add, nn_mul, nn_eqL, nn_ltL, nn_leL, nn_Llt, nn_Lle, nn_lt, nn_le, nn_eq, nn_in, nn_clamp, nn_succ, nn_pos, nn_neg1]
      refine m_base (p := 4) ?_
      rw [show (32 * 4 + e) * 240 = 30720 + 240 * e by omega]
      simp [o_ic, o_lc, o_null, o_il, o_ll, o_al, o_dup, o_pop, o_dup_x1, o_dup2, o_iadd, o_isub, o_imul, o_iand, o_ior, o_ixor, o_ishl, o_ishr, o_idiv, o_irem, o_ineg, o_ladd, o_lsub, o_lmul, o_land, o_lor, o_lxor, o_ldiv, o_lrem, o_lneg, o_lcmp, o_i2l, o_l2i, o_i2b, o_i2c, o_iushr, o_lshl, o_lshr, o_if_eq, o_if_ne, o_if_lt, o_if_ge, o_if_gt, o_if_le, o_icmp_eq, o_icmp_ne, o_icmp_lt, o_icmp_ge, o_icmp_gt, o_icmp_le, o_ifnull, o_ifnonnull, o_acmp_eq, o_acmp_ne, o_is, o_ls, o_as, o_iinc, o_kill, o_sw, o_ireturn, o_zreturn, o_nreturn, o_lreturn, o_areturn, o_return, o_athrow, o_call, entP, lg_sl, Value.category, st1, st2, List.set, List.getElem?_cons_zero, List.getElem?_cons_succ, List.foldl, popN, aft, o_mg, o_mgl, o_mga, o_mp, o_mpz, o_mpl, o_mia, o_mis, o_mbs, o_mc, mput_get, mput_arr, mput_let, mput_put, mset_get, mset_int, mset_let, mputL_get, mputL_arr, mputL_let, mputL_put, i64_8, mLen, vpL, nn_addL, nn_addR, nn_mulL, nn_add, nn_mul, nn_eqL, nn_ltL, nn_leL, nn_Llt, nn_Lle, nn_lt, nn_le, nn_eq, nn_in, nn_clamp, nn_succ, nn_pos, nn_neg1, b5, b6, b7, b8]
      refine ih (q + 1) _ (by omega) (f1.set ⟨rfl, by omega, by omega⟩) (by simp [mput_get, mput_arr, mput_let, mput_put, mset_get, mset_int, mset_let, mputL_get, mputL_arr, mputL_let, mputL_put, i64_8, mLen]; exact f2) (by simp [mput_get, mput_arr, mput_let, mput_put, mset_get, mset_int, mset_let, mputL_get, mputL_arr, mputL_let, mputL_put, i64_8, mLen]; exact f3) ?_
      intro j hj
      have src : ms1.2.2 31 (30720 + 240 * e + q) = ms.2.2 31 (30720 + 240 * e + q) := f1.2 31 _ (by omega)
      by_cases c : j = q
      · subst c; rw [← src]; simp [mput_get, mput_arr, mput_let, mput_put, mset_get, mset_int, mset_let, mputL_get, mputL_arr, mputL_let, mputL_put, i64_8, mLen]
      · rw [← f4 j (by omega)]
        simp [mput_get, mput_arr, mput_let, mput_put, mset_get, mset_int, mset_let, mputL_get, mputL_arr, mputL_let, mputL_put, i64_8, mLen, c]
  exact hind n 0 ms (by omega) FrG.rfl9 rfl rfl (fun j hj => by omega)
/-- sums -/
theorem x_copy3 {mo : Nat} {Q : Ret MS} {ms : MS} {p n m : Nat} (hp : p < 4) (hn : n ≤ 240) (hm : m ≤ 32) (h10 : ms.2.2 10 p = nn n) (h12 : ms.2.2 12 p = nn m)
    (k : ∀ ms', FrG (fun k i => ((26 ≤ k ∧ k ≤ 30) ∧ 32 * p ≤ i ∧ i < 32 * p + 32) ∨ (k = 31 ∧ 7680 * p ≤ i ∧ i < 7680 * p + 7680)) [] ms ms' → ms'.1 = ms.1 → ms'.2.1 = ms.2.1 → (∀ e, e < m → (∀ k, 26 ≤ k → k ≤ 30 → ms'.2.2 k (32 * p + e) = ms.2.2 k (128 + e)) ∧ ∀ j, j < n → ms'.2.2 31 (7680 * p + 240 * e + j) = ms.2.2 31 (30720 + 240 * e + j)) → Q (.inl none) ms') :
    bX2_copy_279 mo Q [some (.ref mo), some (.int (nn p)), some (.int 0), none, none] [] ms := by
  unfold bX2_copy_279
  intro X hX
  have bp : p < 2147483648 := by omega
  have b0 : m < 2147483648 := by omega
  have bp5 : p < 5 := by omega
  have hind : ∀ r q ms1, q + r = m → FrG (fun k i => ((26 ≤ k ∧ k ≤ 30) ∧ 32 * p ≤ i ∧ i < 32 * p + 32) ∨ (k = 31 ∧ 7680 * p ≤ i ∧ i < 7680 * p + 7680)) [] ms ms1 → ms1.1 = ms.1 → ms1.2.1 = ms.2.1 → (∀ e, e < q → (∀ k, 26 ≤ k → k ≤ 30 → ms1.2.2 k (32 * p + e) = ms.2.2 k (128 + e)) ∧ ∀ j, j < n → ms1.2.2 31 (7680 * p + 240 * e + j) = ms.2.2 31 (30720 + 240 * e + j)) → X [some (.ref mo), some (.int (nn p)), some (.int (nn q)), none, none] [] ms1 := by
    intro r
    induction r with
    | zero =>
      intro q ms1 e1 f1 f2 f3 f4
      apply hX
      have b1 : q < 2147483648 := by omega
      have b3 : m ≤ q := by omega
      have b4 : ¬ q < m := by omega
      have h12' : ms1.2.2 12 p = nn m := by rw [f1.2 12 p (by omega)]; exact h12
      have := k ms1 f1 f2 f3 (fun e he => f4 e (by omega))
      simp [bX2_copy_444, o_ic, o_lc, o_null, o_il, o_ll, o_al, o_dup, o_pop, o_dup_x1, o_dup2, o_iadd, o_isub, o_imul, o_iand, o_ior, o_ixor, o_ishl, o_ishr, o_idiv, o_irem, o_ineg, o_ladd, o_lsub, o_lmul, o_land, o_lor, o_lxor, o_ldiv, o_lrem, o_lneg, o_lcmp, o_i2l, o_l2i, o_i2b, o_i2c, o_iushr, o_lshl, o_lshr, o_if_eq, o_if_ne, o_if_lt, o_if_ge, o_if_gt, o_if_le, o_icmp_eq, o_icmp_ne, o_icmp_lt, o_icmp_ge, o_icmp_gt, o_icmp_le, o_ifnull, o_ifnonnull, o_acmp_eq, o_acmp_ne, o_is, o_ls, o_as, o_iinc, o_kill, o_sw, o_ireturn, o_zreturn, o_nreturn, o_lreturn, o_areturn, o_return, o_athrow, o_call, entP, lg_sl, Value.category, st1, st2, List.set, List.getElem?_cons_zero, List.getElem?_cons_succ, List.foldl, popN, aft, o_mg, o_mgl, o_mga, o_mp, o_mpz, o_mpl, o_mia, o_mis, o_mbs, o_mc, mput_get, mput_arr, mput_let, mput_put, mset_get, mset_int, mset_let, mputL_get, mputL_arr, mputL_let, mputL_put, i64_8, mLen, vpL, nn_addL, nn_addR, nn_mulL, nn_add, nn_mul, nn_eqL, nn_ltL, nn_leL, nn_Llt, nn_Lle, nn_lt, nn_le, nn_eq, nn_in, nn_clamp, nn_succ, nn_pos, nn_neg1, h12', b0, b1, b3, b4, bp, bp5]
      exact this
    | succ r ih =>
      intro q ms1 e1 f1 f2 f3 f4
      apply hX
      have hq : q < m := by omega
      have b1 : q < 2147483648 := by omega
      have b4 : ¬ m ≤ q := by omega
      have b5 : 32 * p + q < 2147483648 := by omega
      have b6 : 32 * p + q < 160 := by omega
      have b7 : 128 + q < 2147483648 := by omega
      have b8 : 128 + q < 160 := by omega
      have h12' : ms1.2.2 12 p = nn m := by rw [f1.2 12 p (by omega)]; exact h12
      have h10' : ms1.2.2 10 p = nn n := by rw [f1.2 10 p (by omega)]; exact h10
      simp [o_ic, o_lc, o_null, o_il, o_ll, o_al, o_dup, o_pop, o_dup_x1, o_dup2, o_iadd, o_isub, o_imul, o_iand, o_ior, o_ixor, o_ishl, o_ishr, o_idiv, o_irem, o_ineg, o_ladd, o_lsub, o_lmul, o_land, o_lor, o_lxor, o_ldiv, o_lrem, o_lneg, o_lcmp, o_i2l, o_l2i, o_i2b, o_i2c, o_iushr, o_lshl, o_lshr, o_if_eq, o_if_ne, o_if_lt, o_if_ge, o_if_gt, o_if_le, o_icmp_eq, o_icmp_ne, o_icmp_lt, o_icmp_ge, o_icmp_gt, o_icmp_le, o_ifnull, o_ifnonnull, o_acmp_eq, o_acmp_ne, o_is, o_ls, o_as, o_iinc, o_kill, o_sw, o_ireturn, o_zreturn, o_nreturn, o_lreturn, o_areturn, o_return, o_athrow, o_call, entP, lg_sl, Value.category, st1, st2, List.set, List.getElem?_cons_zero, List.getElem?_cons_succ, List.foldl, popN, aft, o_mg, o_mgl, o_mga, o_mp, o_mpz, o_mpl, o_mia, o_mis, o_mbs, o_mc, mput_get, mput_arr, mput_let, mput_put, mset_get, mset_int, mset_let, mputL_get, mputL_arr, mputL_let, mputL_put, i64_8, mLen, vpL, nn_addL, nn_addR, nn_mulL, nn_add, nn_mul, nn_eqL, nn_ltL, nn_leL, nn_Llt, nn_Lle, nn_lt, nn_le, nn_eq, nn_in, nn_clamp, nn_succ, nn_pos, nn_neg1, h12', b0, b1, hq, b4, bp, bp5, b5, b6, b7, b8]
      refine x_copy4 hp hn (by omega) (by simp [mput_get, mput_arr, mput_let, mput_put, mset_get, mset_int, mset_let, mputL_get, mputL_arr, mputL_let, mputL_put, i64_8, mLen]; exact h10') (fun ms2 g1 g2 g3 g4 => ?_)
      refine ih (q + 1) ms2 (by omega) ?_ ?_ ?_ ?_
      · refine f1.trans (FrG.trans ?_ (g1.mono (fun _ z => z) (fun k i z => by omega)))
        refine FrG.set (FrG.set (FrG.set (FrG.set (FrG.set FrG.rfl9 ?_) ?_) ?_) ?_) ?_
        all_goals exact Or.inl ⟨by omega, by omega, by omega⟩
      · rw [g2]; simp [mput_get, mput_arr, mput_let, mput_put, mset_get, mset_int, mset_let, mputL_get, mputL_arr, mputL_let, mputL_put, i64_8, mLen]; exact f2
      · rw [g3]; simp [mput_get, mput_arr, mput_let, mput_put, mset_get, mset_int, mset_let, mputL_get, mputL_arr, mputL_let, mputL_put, i64_8, mLen]; exact f3
      · intro e he
        have src : ∀ k', 26 ≤ k' → k' ≤ 30 → ms1.2.2 k' (128 + q) = ms.2.2 k' (128 + q) := fun k' _ _ => f1.2 k' _ (by omega)
        have src2 : ∀ j, ms1.2.2 31 (30720 + 240 * e + j) = ms.2.2 31 (30720 + 240 * e + j) := fun j => f1.2 31 _ (by omega)
        refine ⟨fun k k1 k2 => ?_, fun j hj => ?_⟩
        · rw [g1.2 k _ (by omega)]
          by_cases c : e = q
          · subst c
            rw [← src k k1 k2]
            rcases c30 k1 k2 with rfl | rfl | rfl | rfl | rfl <;> simp [mput_get, mput_arr, mput_let, mput_put, mset_get, mset_int, mset_let, mputL_get, mputL_arr, mputL_let, mputL_put, i64_8, mLen]
          · rw [← (f4 e (by omega)).1 k k1 k2]
            simp [mput_get, mput_arr, mput_let, mput_put, mset_get, mset_int, mset_let, mputL_get, mputL_arr, mputL_let, mputL_put, i64_8, mLen, c]
        · by_cases c : e = q
          · subst c
            rw [g4 j hj, ← src2 j]
            simp [mput_get, mput_arr, mput_let, mput_put, mset_get, mset_int, mset_let, mputL_get, mputL_arr, mputL_let, mputL_put, i64_8, mLen]
          · rw [g1.2 31 _ (by omega), ← (f4 e (by omega)).2 j hj]
            simp [mput_get, mput_arr, mput_let, mput_put, mset_get, mset_int, mset_let, mputL_get, mputL_arr, mputL_let, mputL_put, i64_8, mLen]
  exact hind m 0 ms (by omega) FrG.rfl9 rfl rfl (fun e he => by omega)
theorem x_copy {mo : Nat} {Q : Ret MS} {ms : MS} {p : Nat} {R : Rt} (hp : p < 4) (h : TbM ms R) (hF : ∀ e, e < (sms R.1).length → ∀ k, k < (nds R).length → ms.2.2 31 (30720 + 240 * e + k) = fwd R e k)
    (k : ∀ ms', FrG (PC p) [] ms ms' → ms'.1 = ms.1 → PlM ms' p R → ms'.2.2 57 p = 0 → Q (.inl none) ms') : pX2_copy mo [.ref mo, .int (nn p)] ms Q := by
  obtain ⟨⟨a1, a2, a3, a4, a5, a6, a7, a8⟩, w, hT, hs⟩ := id h
  have l1 := w.1
  have l2 := w.2.1
  have l := h.n.1
  have bp : p < 2147483648 := by omega
  have bp5 : p < 5 := by omega
  have np4 : ¬ p = 4 := by omega
  have np4' : ¬ 4 = p := by omega
  simp [pX2_copy, bX2_copy_0, o_ic, o_lc, o_null, o_il, o_ll, o_al, o_dup, o_pop, o_dup_x1, o_dup2, o_iadd, o_isub, o_imul, o_iand, o_ior, o_ixor, o_ishl, o_ishr, o_idiv, o_irem, o_ineg, o_ladd, o_lsub, o_lmul, o_land, o_lor, o_lxor, o_ldiv, o_lrem, o_lneg, o_lcmp, o_i2l, o_l2i, o_i2b, o_i2c, o_iushr, o_lshl, o_lshr, o_if_eq, o_if_ne, o_if_lt, o_if_ge, o_if_gt, o_if_le, o_icmp_eq, o_icmp_ne, o_icmp_lt, o_icmp_ge, o_icmp_gt, o_icmp_le, o_ifnull, o_ifnonnull, o_acmp_eq, o_acmp_ne, o_is, o_ls, o_as, o_iinc, o_kill, o_sw, o_ireturn, o_zreturn, o_nreturn, o_lreturn, o_areturn, o_return, o_athrow, o_call, entP, lg_sl, Value.category, st1, st2, List.set, List.getElem?_cons_zero, List.getElem?_cons_succ, List.foldl, popN, aft, o_mg, o_mgl, o_mga, o_mp, o_mpz, o_mpl, o_mia, o_mis, o_mbs, o_mc, mput_get, mput_arr, mput_let, mput_put, mset_get, mset_int, mset_let, mputL_get, mputL_arr, mputL_let, mputL_put, i64_8, mLen, vpL, nn_addL, nn_addR, nn_mulL, nn_add, nn_mul, nn_eqL, nn_ltL, nn_leL, nn_Llt, nn_Lle, nn_lt, nn_le, nn_eq, nn_in, nn_clamp, nn_succ, nn_pos, nn_neg1, bp, bp5, np4, np4', a1, a2, a3, a6]
  rw [Nat.min_eq_left hs]
  generalize hm1 : mset (mset (mset (mset (mset (mset ms 8 p 1) 9 p (nn R.2.length)) 10 p (nn (nds R).length)) 11 p (nn R.1.length)) 12 p (nn (sms R.1).length)) 57 p 0 = ms1
  have fr1 : FrG (fun k i => ((8 ≤ k ∧ k ≤ 12) ∨ k = 57) ∧ i = p) [] ms ms1 := by
    rw [← hm1]
    refine FrG.set (FrG.set (FrG.set (FrG.set (FrG.set (FrG.set FrG.rfl9 ?_) ?_) ?_) ?_) ?_) ?_
    all_goals exact ⟨by omega, rfl⟩
  have e8 : ms1.2.2 8 p = 1 := by rw [← hm1]; simp [mput_get, mput_arr, mput_let, mput_put, mset_get, mset_int, mset_let, mputL_get, mputL_arr, mputL_let, mputL_put, i64_8, mLen]
  have e9 : ms1.2.2 9 p = nn R.2.length := by rw [← hm1]; simp [mput_get, mput_arr, mput_let, mput_put, mset_get, mset_int, mset_let, mputL_get, mputL_arr, mputL_let, mputL_put, i64_8, mLen]
  have e10 : ms1.2.2 10 p = nn (nds R).length := by rw [← hm1]; simp [mput_get, mput_arr, mput_let, mput_put, mset_get, mset_int, mset_let, mputL_get, mputL_arr, mputL_let, mputL_put, i64_8, mLen]
  have e11 : ms1.2.2 11 p = nn R.1.length := by rw [← hm1]; simp [mput_get, mput_arr, mput_let, mput_put, mset_get, mset_int, mset_let, mputL_get, mputL_arr, mputL_let, mputL_put, i64_8, mLen]
  have e12 : ms1.2.2 12 p = nn (sms R.1).length := by rw [← hm1]; simp [mput_get, mput_arr, mput_let, mput_put, mset_get, mset_int, mset_let, mputL_get, mputL_arr, mputL_let, mputL_put, i64_8, mLen]
  have e57 : ms1.2.2 57 p = 0 := by rw [← hm1]; simp [mput_get, mput_arr, mput_let, mput_put, mset_get, mset_int, mset_let, mputL_get, mputL_arr, mputL_let, mputL_put, i64_8, mLen]
  have i1 : ms1.1 = ms.1 := by rw [← hm1]; rfl
  clear hm1
  refine x_copy1 hp l2 e9 (fun ms2 f2 i2 j2 c2 => ?_)
  simp [bX2_copy_101, o_ic, o_lc, o_null, o_il, o_ll, o_al, o_dup, o_pop, o_dup_x1, o_dup2, o_iadd, o_isub, o_imul, o_iand, o_ior, o_ixor, o_ishl, o_ishr, o_idiv, o_irem, o_ineg, o_ladd, o_lsub, o_lmul, o_land, o_lor, o_lxor, o_ldiv, o_lrem, o_lneg, o_lcmp, o_i2l, o_l2i, o_i2b, o_i2c, o_iushr, o_lshl, o_lshr, o_if_eq, o_if_ne, o_if_lt, o_if_ge, o_if_gt, o_if_le, o_icmp_eq, o_icmp_ne, o_icmp_lt, o_icmp_ge, o_icmp_gt, o_icmp_le, o_ifnull, o_ifnonnull, o_acmp_eq, o_acmp_ne, o_is, o_ls, o_as, o_iinc, o_kill, o_sw, o_ireturn, o_zreturn, o_nreturn, o_lreturn, o_areturn, o_return, o_athrow, o_call, entP, lg_sl, Value.category, st1, st2, List.set, List.getElem?_cons_zero, List.getElem?_cons_succ, List.foldl, popN, aft, o_mg, o_mgl, o_mga, o_mp, o_mpz, o_mpl, o_mia, o_mis, o_mbs, o_mc, mput_get, mput_arr, mput_let, mput_put, mset_get, mset_int, mset_let, mputL_get, mputL_arr, mputL_let, mputL_put, i64_8, mLen]
  refine x_copy2 hp l (by rw [f2.2 10 p (by omega)]; exact e10) (fun ms3 f3 i3 j3 c3 => ?_)
  simp [bX2_copy_277, o_ic, o_lc, o_null, o_il, o_ll, o_al, o_dup, o_pop, o_dup_x1, o_dup2, o_iadd, o_isub, o_imul, o_iand, o_ior, o_ixor, o_ishl, o_ishr, o_idiv, o_irem, o_ineg, o_ladd, o_lsub, o_lmul, o_land, o_lor, o_lxor, o_ldiv, o_lrem, o_lneg, o_lcmp, o_i2l, o_l2i, o_i2b, o_i2c, o_iushr, o_lshl, o_lshr, o_if_eq, o_if_ne, o_if_lt, o_if_ge, o_if_gt, o_if_le, o_icmp_eq, o_icmp_ne, o_icmp_lt, o_icmp_ge, o_icmp_gt, o_icmp_le, o_ifnull, o_ifnonnull, o_acmp_eq, o_acmp_ne, o_is, o_ls, o_as, o_iinc, o_kill, o_sw, o_ireturn, o_zreturn, o_nreturn, o_lreturn, o_areturn, o_return, o_athrow, o_call, entP, lg_sl, Value.category, st1, st2, List.set, List.getElem?_cons_zero, List.getElem?_cons_succ, List.foldl, popN, aft, o_mg, o_mgl, o_mga, o_mp, o_mpz, o_mpl, o_mia, o_mis, o_mbs, o_mc, mput_get, mput_arr, mput_let, mput_put, mset_get, mset_int, mset_let, mputL_get, mputL_arr, mputL_let, mputL_put, i64_8, mLen]
  refine x_copy3 hp l hs (by rw [f3.2 10 p (by omega), f2.2 10 p (by omega)]; exact e10) (by rw [f3.2 12 p (by omega), f2.2 12 p (by omega)]; exact e12) (fun ms4 f4 i4 j4 c4 => ?_)
  have low : ∀ j, j < 13 ∨ j = 57 → ms4.2.2 j p = ms1.2.2 j p := fun j hj => by rw [f4.2 j _ (by omega), f3.2 j _ (by omega), f2.2 j _ (by omega)]
  refine k ms4 ?_ (i4.trans (i3.trans (i2.trans i1))) ⟨⟨?_, ?_, ?_, ?_, ?_⟩, fun b hb => ?_, fun j x hx => ?_, fun e he => ?_, fun e he j hj => ?_⟩ ?_
  · refine FrG.trans (fr1.mono (fun _ z => z) (fun k i z => ?_)) (FrG.trans (f2.mono (fun _ z => z) (fun k i z => ?_)) (FrG.trans (f3.mono (fun _ z => z) (fun k i z => ?_)) (f4.mono (fun _ z => z) (fun k i z => ?_))))
    · exact Or.inl z
    · exact Or.inr (Or.inl z)
    · exact Or.inr (Or.inr (Or.inl z))
    · exact Or.inr (Or.inr (Or.inr z))
  · rw [low 8 (by omega)]; exact e8
  · rw [low 9 (by omega)]; exact e9
  · rw [low 10 (by omega)]; exact e10
  · rw [low 11 (by omega)]; exact e11
  · rw [low 12 (by omega)]; exact e12
  · rw [f4.2 13 _ (by omega), f3.2 13 _ (by omega), c2 b hb, fr1.2 13 _ (by omega)]; exact a4 b hb
  · have hj := (List.getElem?_eq_some_iff.1 hx).1
    have e : ∀ k, 15 ≤ k → k ≤ 25 → ms4.2.2 k (240 * p + j) = ms.2.2 k (960 + j) := fun k k1 k2 => by
      rw [f4.2 k _ (by omega), c3 j k hj k1 k2, f2.2 k _ (by omega), fr1.2 k _ (by omega)]
    have := a5 j x hx
    unfold NdM at this ⊢
    rw [e 15 (by omega) (by omega), e 16 (by omega) (by omega), e 17 (by omega) (by omega), e 18 (by omega) (by omega), e 19 (by omega) (by omega), e 20 (by omega) (by omega), e 21 (by omega) (by omega), e 22 (by omega) (by omega), e 23 (by omega) (by omega), e 24 (by omega) (by omega), e 25 (by omega) (by omega)]
    exact this
  · have e' : ∀ k, 26 ≤ k → k ≤ 30 → ms4.2.2 k (32 * p + e) = ms.2.2 k (128 + e) := fun k k1 k2 => by
      rw [(c4 e he).1 k k1 k2, f3.2 k _ (by omega), f2.2 k _ (by omega), fr1.2 k _ (by omega)]
    rw [e' 26 (by omega) (by omega), e' 27 (by omega) (by omega), e' 28 (by omega) (by omega), e' 29 (by omega) (by omega), e' 30 (by omega) (by omega)]
    exact h.sm he
  · rw [show (32 * p + e) * 240 + j = 7680 * p + 240 * e + j by omega, (c4 e he).2 j hj, f3.2 31 _ (by omega), f2.2 31 _ (by omega), fr1.2 31 _ (by omega)]
    exact hF e he j hj
  · rw [low 57 (by omega)]; exact e57
