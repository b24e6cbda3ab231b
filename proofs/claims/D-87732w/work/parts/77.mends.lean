/-! THE MODEL's ends -/
set_option maxRecDepth 100000
/-- a fault's two ints -/
def flM (ms : MS) (a b : Int32) : MS := mput (mput ms 32 a) 33 b
theorem flM_flM (ms : MS) (a b c d : Int32) : flM (flM ms a b) c d = flM ms c d := by
  unfold flM mput
  ext j
  · simp only
    by_cases h : j = 33
    · simp [h]
    · by_cases h2 : j = 32
      · simp [h2]
      · simp [h, h2]
  · rfl
  · rfl
theorem flM_int (ms : MS) (a b : Int32) (j : Nat) : (flM ms a b).1 j = if j = 33 then b else if j = 32 then a else ms.1 j := rfl
theorem flM_arr (ms : MS) (a b : Int32) : (flM ms a b).2.2 = ms.2.2 := rfl
theorem flM_self (ms : MS) : flM ms (ms.1 32) (ms.1 33) = ms := by
  unfold flM mput
  ext j
  · simp only
    by_cases h : j = 33
    · simp [h]
    · by_cases h2 : j = 32
      · simp [h2]
      · simp [h, h2]
  · rfl
  · rfl
theorem m_fault {mo : Nat} {Q : Ret MS} {ms : MS} {a b : Int32} (k : Q (.inl none) (flM ms a b)) : pX2_fault mo [.ref mo, .int a, .int b] ms Q := by
  simp [pX2_fault, bX2_fault_0, o_ic, o_lc, o_null, o_il, o_ll, o_al, o_dup, o_pop, o_dup_x1, o_dup2, o_iadd, o_isub, o_imul, o_iand, o_ior, o_ixor, o_ishl, o_ishr, o_idiv, o_irem, o_ineg, o_ladd, o_lsub, o_lmul, o_land, o_lor, o_lxor, o_ldiv, o_lrem, o_lneg, o_lcmp, o_i2l, o_l2i, o_i2b, o_i2c, o_iushr, o_lshl, o_lshr, o_if_eq, o_if_ne, o_if_lt, o_if_ge, o_if_gt, o_if_le, o_icmp_eq, o_icmp_ne, o_icmp_lt, o_icmp_ge, o_icmp_gt, o_icmp_le, o_ifnull, o_ifnonnull, o_acmp_eq, o_acmp_ne, o_is, o_ls, o_as, o_iinc, o_kill, o_sw, o_ireturn, o_zreturn, o_nreturn, o_lreturn, o_areturn, o_return, o_athrow, o_call, entP, lg_sl, Value.category, st1, st2, List.set, List.getElem?_cons_zero, List.getElem?_cons_succ, List.foldl, popN, aft, o_mg, o_mgl, o_mga, o_mp, o_mpz, o_mpl, o_mia, o_mis, o_mbs, o_mc, mput_get, mput_arr, mput_let, mput_put, mset_get, mset_int, mset_let, mputL_get, mputL_arr, mputL_let, mputL_put, i64_8, mLen]
  exact k
/-- names of blocks -/
theorem x_names {mo : Nat} {Q : Ret MS} {ms : MS} {R : Rt} {l : List (Nat × Nat)} (hl : l.length ≤ 80) (hR2 : R.2.length ≤ 40) (hN : NmM ms l) (hb : ms.1 32 = 0) (h9 : ms.2.2 9 4 = nn R.2.length) (ht : ∀ x ∈ l, x.2 < 40)
    (k : ∀ ms', (ms' = match l.find? (fun x => x.2 == 0 || decide (R.2.length ≤ x.2)) with
      | some x => flM ms 4 (nn x.1)
      | none => ms) → bX2_ends_58 mo Q [some (.ref mo), none, none, none, none] [] ms') : bX2_ends_2 mo Q [some (.ref mo), some (.int 0), none, none, none] [] ms := by
  unfold bX2_ends_2
  intro X hX
  obtain ⟨n1, n2⟩ := hN
  have hw : ∀ (v : Value) (ms' : MS), bX2_ends_58 mo Q [some (.ref mo), none, none, none, none] [] ms' → bX2_ends_58 mo Q [some (.ref mo), some v, none, none, none] [] ms' := by
    intro v ms'
    simp [bX2_ends_58, bX2_ends_66, o_ic, o_lc, o_null, o_il, o_ll, o_al, o_dup, o_pop, o_dup_x1, o_dup2, o_iadd, o_isub, o_imul, o_iand, o_ior, o_ixor, o_ishl, o_ishr, o_idiv, o_irem, o_ineg, o_ladd, o_lsub, o_lmul, o_land, o_lor, o_lxor, o_ldiv, o_lrem, o_lneg, o_lcmp, o_i2l, o_l2i, o_i2b, o_i2c, o_iushr, o_lshl, o_lshr, o_if_eq, o_if_ne, o_if_lt, o_if_ge, o_if_gt, o_if_le, o_icmp_eq, o_icmp_ne, o_icmp_lt, o_icmp_ge, o_icmp_gt, o_icmp_le, o_ifnull, o_ifnonnull, o_acmp_eq, o_acmp_ne, o_is, o_ls, o_as, o_iinc, o_kill, o_sw, o_ireturn, o_zreturn, o_nreturn, o_lreturn, o_areturn, o_return, o_athrow, o_call, entP, lg_sl, Value.category, st1, st2, List.set, List.getElem?_cons_zero, List.getElem?_cons_succ, List.foldl, popN, aft, o_mg, o_mgl, o_mga, o_mp, o_mpz, o_mpl, o_mia, o_mis, o_mbs, o_mc, mput_get, mput_arr, mput_let, mput_put, mset_get, mset_int, mset_let, mputL_get, mputL_arr, mputL_let, mputL_put, i64_8, mLen]
  have hind : ∀ suf pre, l = pre ++ suf → (pre.find? (fun x => x.2 == 0 || decide (R.2.length ≤ x.2)) = none) → X [some (.ref mo), some (.int (nn pre.length)), none, none, none] [] ms := by
    intro suf
    induction suf with
    | nil =>
      intro pre e hp
      apply hX
      rw [List.append_nil] at e
      subst e
      have b1 : l.length < 2147483648 := by omega
      simp [o_ic, o_lc, o_null, o_il, o_ll, o_al, o_dup, o_pop, o_dup_x1, o_dup2, o_iadd, o_isub, o_imul, o_iand, o_ior, o_ixor, o_ishl, o_ishr, o_idiv, o_irem, o_ineg, o_ladd, o_lsub, o_lmul, o_land, o_lor, o_lxor, o_ldiv, o_lrem, o_lneg, o_lcmp, o_i2l, o_l2i, o_i2b, o_i2c, o_iushr, o_lshl, o_lshr, o_if_eq, o_if_ne, o_if_lt, o_if_ge, o_if_gt, o_if_le, o_icmp_eq, o_icmp_ne, o_icmp_lt, o_icmp_ge, o_icmp_gt, o_icmp_le, o_ifnull, o_ifnonnull, o_acmp_eq, o_acmp_ne, o_is, o_ls, o_as, o_iinc, o_kill, o_sw, o_ireturn, o_zreturn, o_nreturn, o_lreturn, o_areturn, o_return, o_athrow, o_call, entP, lg_sl, Value.category, st1, st2, List.set, List.getElem?_cons_zero, List.getElem?_cons_succ, List.foldl, popN, aft, o_mg, o_mgl, o_mga, o_mp, o_mpz, o_mpl, o_mia, o_mis, o_mbs, o_mc, mput_get, mput_arr, mput_let, mput_put, mset_get, mset_int, mset_let, mputL_get, mputL_arr, mputL_let, mputL_put, i64_8, mLen, vpL, nn_addL, nn_addR, nn_mulL, nn_add, nn_mul, nn_eqL, nn_ltL, nn_leL, nn_Llt, nn_Lle, nn_lt, nn_le, nn_eq, nn_in, nn_clamp, nn_succ, nn_pos, nn_neg1, n1, b1]
      refine hw _ _ (k ms ?_)
      rw [hp]
    | cons x suf ih =>
      intro pre e hp
      apply hX
      have hlen : l.length = pre.length + (suf.length + 1) := by rw [e]; simp
      have b1 : pre.length < 2147483648 := by omega
      have b2 : l.length < 2147483648 := by omega
      have b3 : R.2.length < 2147483648 := by omega
      have hx : l[pre.length]? = some x := by rw [e]; simp
      obtain ⟨g1, g2⟩ := n2 _ _ hx
      have hx2 := ht x (List.mem_of_getElem? hx)
      have b4 : x.2 < 2147483648 := by omega
      have b5 : pre.length < 200 := by omega
      have b6 : ¬ l.length ≤ pre.length := by omega
      have b7 : pre.length < l.length := by omega
      simp [bX2_ends_41, bX2_ends_52, o_ic, o_lc, o_null, o_il, o_ll, o_al, o_dup, o_pop, o_dup_x1, o_dup2, o_iadd, o_isub, o_imul, o_iand, o_ior, o_ixor, o_ishl, o_ishr, o_idiv, o_irem, o_ineg, o_ladd, o_lsub, o_lmul, o_land, o_lor, o_lxor, o_ldiv, o_lrem, o_lneg, o_lcmp, o_i2l, o_l2i, o_i2b, o_i2c, o_iushr, o_lshl, o_lshr, o_if_eq, o_if_ne, o_if_lt, o_if_ge, o_if_gt, o_if_le, o_icmp_eq, o_icmp_ne, o_icmp_lt, o_icmp_ge, o_icmp_gt, o_icmp_le, o_ifnull, o_ifnonnull, o_acmp_eq, o_acmp_ne, o_is, o_ls, o_as, o_iinc, o_kill, o_sw, o_ireturn, o_zreturn, o_nreturn, o_lreturn, o_areturn, o_return, o_athrow, o_call, entP, lg_sl, Value.category, st1, st2, List.set, List.getElem?_cons_zero, List.getElem?_cons_succ, List.foldl, popN, aft, o_mg, o_mgl, o_mga, o_mp, o_mpz, o_mpl, o_mia, o_mis, o_mbs, o_mc, mput_get, mput_arr, mput_let, mput_put, mset_get, mset_int, mset_let, mputL_get, mputL_arr, mputL_let, mputL_put, i64_8, mLen, vpL, nn_addL, nn_addR, nn_mulL, nn_add, nn_mul, nn_eqL, nn_ltL, nn_leL, nn_Llt, nn_Lle, nn_lt, nn_le, nn_eq, nn_in, nn_clamp, nn_succ, nn_pos, nn_neg1, n1, b1, b2, b3, b4, b5, b6, b7, hb, g1, g2, h9]
      have bad : (x.2 == 0 || decide (R.2.length ≤ x.2)) = true → pX2_fault mo [.ref mo, .int 4, .int (nn x.1)] ms (aft [some (.ref mo), some (.int (nn pre.length)), none, none, none] [] (fun _ a σ => Q (.inr a) σ) (o_iinc 1 1 (o_kill [2, 3, 4] X))) := by
        intro hbad
        refine m_fault ?_
        simp [o_ic, o_lc, o_null, o_il, o_ll, o_al, o_dup, o_pop, o_dup_x1, o_dup2, o_iadd, o_isub, o_imul, o_iand, o_ior, o_ixor, o_ishl, o_ishr, o_idiv, o_irem, o_ineg, o_ladd, o_lsub, o_lmul, o_land, o_lor, o_lxor, o_ldiv, o_lrem, o_lneg, o_lcmp, o_i2l, o_l2i, o_i2b, o_i2c, o_iushr, o_lshl, o_lshr, o_if_eq, o_if_ne, o_if_lt, o_if_ge, o_if_gt, o_if_le, o_icmp_eq, o_icmp_ne, o_icmp_lt, o_icmp_ge, o_icmp_gt, o_icmp_le, o_ifnull, o_ifnonnull, o_acmp_eq, o_acmp_ne, o_is, o_ls, o_as, o_iinc, o_kill, o_sw, o_ireturn, o_zreturn, o_nreturn, o_lreturn, o_areturn, o_return, o_athrow, o_call, entP, lg_sl, Value.category, st1, st2, List.set, List.getElem?_cons_zero, List.getElem?_cons_succ, List.foldl, popN, aft, o_mg, o_mgl, o_mga, o_mp, o_mpz, o_mpl, o_mia, o_mis, o_mbs, o_mc, mput_get, mput_arr, mput_let, mput_put, mset_get, mset_int, mset_let, mputL_get, mputL_arr, mputL_let, mputL_put, i64_8, mLen, vpL, nn_addL, nn_addR, nn_mulL, nn_add, nn_mul, nn_eqL, nn_ltL, nn_leL, nn_Llt, nn_Lle, nn_lt, nn_le, nn_eq, nn_in, nn_clamp, nn_succ, nn_pos, nn_neg1]
        apply hX
        have b8 : pre.length + 1 < 2147483648 := by omega
        have hfnd : l.find? (fun x => x.2 == 0 || decide (R.2.length ≤ x.2)) = some x := by
          rw [e, List.find?_append, hp, List.find?_cons, hbad]; rfl
        have kk := hw (.int (nn (pre.length + 1))) _ (k _ rfl)
        rw [hfnd] at kk
        simp [o_ic, o_lc, o_null, o_il, o_ll, o_al, o_dup, o_pop, o_dup_x1, o_dup2, o_iadd, o_isub, o_imul, o_iand, o_ior, o_ixor, o_ishl, o_ishr, o_idiv, o_irem, o_ineg, o_ladd, o_lsub, o_lmul, o_land, o_lor, o_lxor, o_ldiv, o_lrem, o_lneg, o_lcmp, o_i2l, o_l2i, o_i2b, o_i2c, o_iushr, o_lshl, o_lshr, o_if_eq, o_if_ne, o_if_lt, o_if_ge, o_if_gt, o_if_le, o_icmp_eq, o_icmp_ne, o_icmp_lt, o_icmp_ge, o_icmp_gt, o_icmp_le, o_ifnull, o_ifnonnull, o_acmp_eq, o_acmp_ne, o_is, o_ls, o_as, o_iinc, o_kill, o_sw, o_ireturn, o_zreturn, o_nreturn, o_lreturn, o_areturn, o_return, o_athrow, o_call, entP, lg_sl, Value.category, st1, st2, List.set, List.getElem?_cons_zero, List.getElem?_cons_succ, List.foldl, popN, aft, o_mg, o_mgl, o_mga, o_mp, o_mpz, o_mpl, o_mia, o_mis, o_mbs, o_mc, mput_get, mput_arr, mput_let, mput_put, mset_get, mset_int, mset_let, mputL_get, mputL_arr, mputL_let, mputL_put, i64_8, mLen, vpL, nn_addL, nn_addR, nn_mulL, nn_add, nn_mul, nn_eqL, nn_ltL, nn_leL, nn_Llt, nn_Lle, nn_lt, nn_le, nn_eq, nn_in, nn_clamp, nn_succ, nn_pos, nn_neg1, flM_int, n1, b8, b2]
        exact ⟨fun _ => kk, fun _ => kk⟩
      refine ⟨fun h => bad (by simp [h]), fun h0 => ⟨fun h => ?_, fun h => bad (by simp; omega)⟩⟩
      have hg : (x.2 == 0 || decide (R.2.length ≤ x.2)) = false := by simp [h0]; omega
      have := ih (pre ++ [x]) (by simp [e]) (by rw [List.find?_append, hp, List.find?_cons, hg]; rfl)
      simpa using this
  exact hind l [] rfl rfl
/-- the two scans for a fault, downwards -/
theorem x_scan5 {mo : Nat} {Q : Ret MS} {ms : MS} {R : Rt} {ρ : Nat → Int32} (hR2 : R.2.length ≤ 40) (h14 : ∀ b, b < R.2.length → ms.2.2 14 (164 + b) = nn (hdN R b)) (h42 : ms.2.2 42 = ρ)
    (k : ∀ v, (v = match (List.range R.2.length).find? (fun b => ρ b == 0) with
      | some b => flM ms 5 (nn (hdN R b))
      | none => ms) → bX2_ends_222 mo Q [some (.ref mo), none, none, none, none] [] v) : bX2_ends_188 mo Q [some (.ref mo), none, some (.int (nn R.2.length - 1)), none, none] [] ms := by
  unfold bX2_ends_188
  intro X hX
  have hind : ∀ q a b, q ≤ R.2.length → (∀ v, (v = match (List.range q).find? (fun b => ρ b == 0) with
      | some b => flM ms 5 (nn (hdN R b))
      | none => flM ms a b) → bX2_ends_222 mo Q [some (.ref mo), none, none, none, none] [] v) → X [some (.ref mo), none, some (.int (nn q - 1)), none, none] [] (flM ms a b) := by
    intro q
    induction q with
    | zero =>
      intro a b _ kk
      apply hX
      have e0 : (nn 0 - 1 : Int32) < 0 := by decide
      have := kk _ rfl
      simp [bX2_ends_222, bX2_ends_230, o_ic, o_lc, o_null, o_il, o_ll, o_al, o_dup, o_pop, o_dup_x1, o_dup2, o_iadd, o_isub, o_imul, o_iand, o_ior, o_ixor, o_ishl, o_ishr, o_idiv, o_irem, o_ineg, o_ladd, o_lsub, o_lmul, o_land, o_lor, o_lxor, o_ldiv, o_lrem, o_lneg, o_lcmp, o_i2l, o_l2i, o_i2b, o_i2c, o_iushr, o_lshl, o_lshr, o_if_eq, o_if_ne, o_if_lt, o_if_ge, o_if_gt, o_if_le, o_icmp_eq, o_icmp_ne, o_icmp_lt, o_icmp_ge, o_icmp_gt, o_icmp_le, o_ifnull, o_ifnonnull, o_acmp_eq, o_acmp_ne, o_is, o_ls, o_as, o_iinc, o_kill, o_sw, o_ireturn, o_zreturn, o_nreturn, o_lreturn, o_areturn, o_return, o_athrow, o_call, entP, lg_sl, Value.category, st1, st2, List.set, List.getElem?_cons_zero, List.getElem?_cons_succ, List.foldl, popN, aft, o_mg, o_mgl, o_mga, o_mp, o_mpz, o_mpl, o_mia, o_mis, o_mbs, o_mc, mput_get, mput_arr, mput_let, mput_put, mset_get, mset_int, mset_let, mputL_get, mputL_arr, mputL_let, mputL_put, i64_8, mLen] at this
      simp [bX2_ends_222, bX2_ends_230, o_ic, o_lc, o_null, o_il, o_ll, o_al, o_dup, o_pop, o_dup_x1, o_dup2, o_iadd, o_isub, o_imul, o_iand, o_ior, o_ixor, o_ishl, o_ishr, o_idiv, o_irem, o_ineg, o_ladd, o_lsub, o_lmul, o_land, o_lor, o_lxor, o_ldiv, o_lrem, o_lneg, o_lcmp, o_i2l, o_l2i, o_i2b, o_i2c, o_iushr, o_lshl, o_lshr, o_if_eq, o_if_ne, o_if_lt, o_if_ge, o_if_gt, o_if_le, o_icmp_eq, o_icmp_ne, o_icmp_lt, o_icmp_ge, o_icmp_gt, o_icmp_le, o_ifnull, o_ifnonnull, o_acmp_eq, o_acmp_ne, o_is, o_ls, o_as, o_iinc, o_kill, o_sw, o_ireturn, o_zreturn, o_nreturn, o_lreturn, o_areturn, o_return, o_athrow, o_call, entP, lg_sl, Value.category, st1, st2, List.set, List.getElem?_cons_zero, List.getElem?_cons_succ, List.foldl, popN, aft, o_mg, o_mgl, o_mga, o_mp, o_mpz, o_mpl, o_mia, o_mis, o_mbs, o_mc, mput_get, mput_arr, mput_let, mput_put, mset_get, mset_int, mset_let, mputL_get, mputL_arr, mputL_let, mputL_put, i64_8, mLen, e0]
      exact this
    | succ q ih =>
      intro a b hq kk
      apply hX
      have b1 : q < 2147483648 := by omega
      have b2 : q < 40 := by omega
      have b3 : 164 + q < 2147483648 := by omega
      have b4 : 164 + q < 205 := by omega
      rw [nn_pred (by omega), Nat.add_sub_cancel]
      have hr : List.range (q + 1) = List.range q ++ [q] := List.range_succ
      simp [bX2_ends_216, o_ic, o_lc, o_null, o_il, o_ll, o_al, o_dup, o_pop, o_dup_x1, o_dup2, o_iadd, o_isub, o_imul, o_iand, o_ior, o_ixor, o_ishl, o_ishr, o_idiv, o_irem, o_ineg, o_ladd, o_lsub, o_lmul, o_land, o_lor, o_lxor, o_ldiv, o_lrem, o_lneg, o_lcmp, o_i2l, o_l2i, o_i2b, o_i2c, o_iushr, o_lshl, o_lshr, o_if_eq, o_if_ne, o_if_lt, o_if_ge, o_if_gt, o_if_le, o_icmp_eq, o_icmp_ne, o_icmp_lt, o_icmp_ge, o_icmp_gt, o_icmp_le, o_ifnull, o_ifnonnull, o_acmp_eq, o_acmp_ne, o_is, o_ls, o_as, o_iinc, o_kill, o_sw, o_ireturn, o_zreturn, o_nreturn, o_lreturn, o_areturn, o_return, o_athrow, o_call, entP, lg_sl, Value.category, st1, st2, List.set, List.getElem?_cons_zero, List.getElem?_cons_succ, List.foldl, popN, aft, o_mg, o_mgl, o_mga, o_mp, o_mpz, o_mpl, o_mia, o_mis, o_mbs, o_mc, mput_get, mput_arr, mput_let, mput_put, mset_get, mset_int, mset_let, mputL_get, mputL_arr, mputL_let, mputL_put, i64_8, mLen, vpL, nn_addL, nn_addR, nn_mulL, nn_add, nn_mul, nn_eqL, nn_ltL, nn_leL, nn_Llt, nn_Lle, nn_lt, nn_le, nn_eq, nn_in, nn_clamp, nn_succ, nn_pos, nn_neg1, flM_arr, h42, b1, b2, b3, b4, h14 q hq]
      have em : (nn q + -1 : Int32) = nn q - 1 := by rw [Int32.sub_eq_add_neg]
      refine ⟨fun h => ?_, fun h => ?_⟩
      · rw [em]
        refine ih a b (by omega) (fun v hv => kk v ?_)
        rw [hv, hr, List.find?_append]
        cases (List.range q).find? (fun b => ρ b == 0) with
        | some b' => rfl
        | none => simp [h]
      · refine m_fault ?_
        simp [o_ic, o_lc, o_null, o_il, o_ll, o_al, o_dup, o_pop, o_dup_x1, o_dup2, o_iadd, o_isub, o_imul, o_iand, o_ior, o_ixor, o_ishl, o_ishr, o_idiv, o_irem, o_ineg, o_ladd, o_lsub, o_lmul, o_land, o_lor, o_lxor, o_ldiv, o_lrem, o_lneg, o_lcmp, o_i2l, o_l2i, o_i2b, o_i2c, o_iushr, o_lshl, o_lshr, o_if_eq, o_if_ne, o_if_lt, o_if_ge, o_if_gt, o_if_le, o_icmp_eq, o_icmp_ne, o_icmp_lt, o_icmp_ge, o_icmp_gt, o_icmp_le, o_ifnull, o_ifnonnull, o_acmp_eq, o_acmp_ne, o_is, o_ls, o_as, o_iinc, o_kill, o_sw, o_ireturn, o_zreturn, o_nreturn, o_lreturn, o_areturn, o_return, o_athrow, o_call, entP, lg_sl, Value.category, st1, st2, List.set, List.getElem?_cons_zero, List.getElem?_cons_succ, List.foldl, popN, aft, o_mg, o_mgl, o_mga, o_mp, o_mpz, o_mpl, o_mia, o_mis, o_mbs, o_mc, mput_get, mput_arr, mput_let, mput_put, mset_get, mset_int, mset_let, mputL_get, mputL_arr, mputL_let, mputL_put, i64_8, mLen, vpL, nn_addL, nn_addR, nn_mulL, nn_add, nn_mul, nn_eqL, nn_ltL, nn_leL, nn_Llt, nn_Lle, nn_lt, nn_le, nn_eq, nn_in, nn_clamp, nn_succ, nn_pos, nn_neg1, flM_flM]
        rw [em]
        refine ih 5 (nn (hdN R q)) (by omega) (fun v hv => kk v ?_)
        rw [hv, hr, List.find?_append]
        cases (List.range q).find? (fun b => ρ b == 0) with
        | some b' => rfl
        | none => simp [h]
  have := hind R.2.length (ms.1 32) (ms.1 33) (Nat.le_refl _) (fun v hv => k v (by rw [hv, flM_self]))
  rw [flM_self] at this
  exact this
theorem x_scan6 {mo : Nat} {Q : Ret MS} {ms : MS} {R : Rt} {ρ : Nat → Int32} (hR2 : R.2.length ≤ 40) (h14 : ∀ b, b < R.2.length → ms.2.2 14 (164 + b) = nn (hdN R b)) (h42 : ms.2.2 42 = ρ)
    (k : ∀ v, (v = match (List.range R.2.length).find? (fun b => ρ b == 0) with
      | some b => flM ms 6 (nn (hdN R b))
      | none => ms) → bX2_ends_432 mo Q [some (.ref mo), none, none, none, none] [] v) : bX2_ends_397 mo Q [some (.ref mo), none, some (.int (nn R.2.length - 1)), none, none] [] ms := by
  unfold bX2_ends_397
  intro X hX
  have hind : ∀ q a b, q ≤ R.2.length → (∀ v, (v = match (List.range q).find? (fun b => ρ b == 0) with
      | some b => flM ms 6 (nn (hdN R b))
      | none => flM ms a b) → bX2_ends_432 mo Q [some (.ref mo), none, none, none, none] [] v) → X [some (.ref mo), none, some (.int (nn q - 1)), none, none] [] (flM ms a b) := by
    intro q
    induction q with
    | zero =>
      intro a b _ kk
      apply hX
      have e0 : (nn 0 - 1 : Int32) < 0 := by decide
      have := kk _ rfl
      simp [bX2_ends_432, o_ic, o_lc, o_null, o_il, o_ll, o_al, o_dup, o_pop, o_dup_x1, o_dup2, o_iadd, o_isub, o_imul, o_iand, o_ior, o_ixor, o_ishl, o_ishr, o_idiv, o_irem, o_ineg, o_ladd, o_lsub, o_lmul, o_land, o_lor, o_lxor, o_ldiv, o_lrem, o_lneg, o_lcmp, o_i2l, o_l2i, o_i2b, o_i2c, o_iushr, o_lshl, o_lshr, o_if_eq, o_if_ne, o_if_lt, o_if_ge, o_if_gt, o_if_le, o_icmp_eq, o_icmp_ne, o_icmp_lt, o_icmp_ge, o_icmp_gt, o_icmp_le, o_ifnull, o_ifnonnull, o_acmp_eq, o_acmp_ne, o_is, o_ls, o_as, o_iinc, o_kill, o_sw, o_ireturn, o_zreturn, o_nreturn, o_lreturn, o_areturn, o_return, o_athrow, o_call, entP, lg_sl, Value.category, st1, st2, List.set, List.getElem?_cons_zero, List.getElem?_cons_succ, List.foldl, popN, aft, o_mg, o_mgl, o_mga, o_mp, o_mpz, o_mpl, o_mia, o_mis, o_mbs, o_mc, mput_get, mput_arr, mput_let, mput_put, mset_get, mset_int, mset_let, mputL_get, mputL_arr, mputL_let, mputL_put, i64_8, mLen] at this
      simp [bX2_ends_432, o_ic, o_lc, o_null, o_il, o_ll, o_al, o_dup, o_pop, o_dup_x1, o_dup2, o_iadd, o_isub, o_imul, o_iand, o_ior, o_ixor, o_ishl, o_ishr, o_idiv, o_irem, o_ineg, o_ladd, o_lsub, o_lmul, o_land, o_lor, o_lxor, o_ldiv, o_lrem, o_lneg, o_lcmp, o_i2l, o_l2i, o_i2b, o_i2c, o_iushr, o_lshl, o_lshr, o_if_eq, o_if_ne, o_if_lt, o_if_ge, o_if_gt, o_if_le, o_icmp_eq, o_icmp_ne, o_icmp_lt, o_icmp_ge, o_icmp_gt, o_icmp_le, o_ifnull, o_ifnonnull, o_acmp_eq, o_acmp_ne, o_is, o_ls, o_as, o_iinc, o_kill, o_sw, o_ireturn, o_zreturn, o_nreturn, o_lreturn, o_areturn, o_return, o_athrow, o_call, entP, lg_sl, Value.category, st1, st2, List.set, List.getElem?_cons_zero, List.getElem?_cons_succ, List.foldl, popN, aft, o_mg, o_mgl, o_mga, o_mp, o_mpz, o_mpl, o_mia, o_mis, o_mbs, o_mc, mput_get, mput_arr, mput_let, mput_put, mset_get, mset_int, mset_let, mputL_get, mputL_arr, mputL_let, mputL_put, i64_8, mLen, e0]
      exact this
    | succ q ih =>
      intro a b hq kk
      apply hX
      have b1 : q < 2147483648 := by omega
      have b2 : q < 40 := by omega
      have b3 : 164 + q < 2147483648 := by omega
      have b4 : 164 + q < 205 := by omega
      rw [nn_pred (by omega), Nat.add_sub_cancel]
      have hr : List.range (q + 1) = List.range q ++ [q] := List.range_succ
      simp [bX2_ends_426, o_ic, o_lc, o_null, o_il, o_ll, o_al, o_dup, o_pop, o_dup_x1, o_dup2, o_iadd, o_isub, o_imul, o_iand, o_ior, o_ixor, o_ishl, o_ishr, o_idiv, o_irem, o_ineg, o_ladd, o_lsub, o_lmul, o_land, o_lor, o_lxor, o_ldiv, o_lrem, o_lneg, o_lcmp, o_i2l, o_l2i, o_i2b, o_i2c, o_iushr, o_lshl, o_lshr, o_if_eq, o_if_ne, o_if_lt, o_if_ge, o_if_gt, o_if_le, o_icmp_eq, o_icmp_ne, o_icmp_lt, o_icmp_ge, o_icmp_gt, o_icmp_le, o_ifnull, o_ifnonnull, o_acmp_eq, o_acmp_ne, o_is, o_ls, o_as, o_iinc, o_kill, o_sw, o_ireturn, o_zreturn, o_nreturn, o_lreturn, o_areturn, o_return, o_athrow, o_call, entP, lg_sl, Value.category, st1, st2, List.set, List.getElem?_cons_zero, List.getElem?_cons_succ, List.foldl, popN, aft, o_mg, o_mgl, o_mga, o_mp, o_mpz, o_mpl, o_mia, o_mis, o_mbs, o_mc, mput_get, mput_arr, mput_let, mput_put, mset_get, mset_int, mset_let, mputL_get, mputL_arr, mputL_let, mputL_put, i64_8, mLen, vpL, nn_addL, nn_addR, nn_mulL, nn_add, nn_mul, nn_eqL, nn_ltL, nn_leL, nn_Llt, nn_Lle, nn_lt, nn_le, nn_eq, nn_in, nn_clamp, nn_succ, nn_pos, nn_neg1, flM_arr, h42, b1, b2, b3, b4, h14 q hq]
      have em : (nn q + -1 : Int32) = nn q - 1 := by rw [Int32.sub_eq_add_neg]
      refine ⟨fun h => ?_, fun h => ?_⟩
      · rw [em]
        refine ih a b (by omega) (fun v hv => kk v ?_)
        rw [hv, hr, List.find?_append]
        cases (List.range q).find? (fun b => ρ b == 0) with
        | some b' => rfl
        | none => simp [h]
      · refine m_fault ?_
        simp [o_ic, o_lc, o_null, o_il, o_ll, o_al, o_dup, o_pop, o_dup_x1, o_dup2, o_iadd, o_isub, o_imul, o_iand, o_ior, o_ixor, o_ishl, o_ishr, o_idiv, o_irem, o_ineg, o_ladd, o_lsub, o_lmul, o_land, o_lor, o_lxor, o_ldiv, o_lrem, o_lneg, o_lcmp, o_i2l, o_l2i, o_i2b, o_i2c, o_iushr, o_lshl, o_lshr, o_if_eq, o_if_ne, o_if_lt, o_if_ge, o_if_gt, o_if_le, o_icmp_eq, o_icmp_ne, o_icmp_lt, o_icmp_ge, o_icmp_gt, o_icmp_le, o_ifnull, o_ifnonnull, o_acmp_eq, o_acmp_ne, o_is, o_ls, o_as, o_iinc, o_kill, o_sw, o_ireturn, o_zreturn, o_nreturn, o_lreturn, o_areturn, o_return, o_athrow, o_call, entP, lg_sl, Value.category, st1, st2, List.set, List.getElem?_cons_zero, List.getElem?_cons_succ, List.foldl, popN, aft, o_mg, o_mgl, o_mga, o_mp, o_mpz, o_mpl, o_mia, o_mis, o_mbs, o_mc, mput_get, mput_arr, mput_let, mput_put, mset_get, mset_int, mset_let, mputL_get, mputL_arr, mputL_let, mputL_put, i64_8, mLen, vpL, nn_addL, nn_addR, nn_mulL, nn_add, nn_mul, nn_eqL, nn_ltL, nn_leL, nn_Llt, nn_Lle, nn_lt, nn_le, nn_eq, nn_in, nn_clamp, nn_succ, nn_pos, nn_neg1, flM_flM]
        rw [em]
        refine ih 6 (nn (hdN R q)) (by omega) (fun v hv => kk v ?_)
        rw [hv, hr, List.find?_append]
        cases (List.range q).find? (fun b => ρ b == 0) with
        | some b' => rfl
        | none => simp [h]
  have := hind R.2.length (ms.1 32) (ms.1 33) (Nat.le_refl _) (fun v hv => k v (by rw [hv, flM_self]))
  rw [flM_self] at this
  exact this
