/-! THE MODEL is asked -/
set_option maxRecDepth 100000
theorem m_isThere {mo : Nat} {Q : Ret MS} {ms : MS} {P : Nat → PlA} {p : Int32} (h : MPs ms P) (k0 : pl9 P p = none → Q (.inl (some (.int 0))) ms) (k1 : ∀ q x, q < 4 → p = nn q → P q = some x → pl9 P p = some x → Q (.inl (some (.int 1))) ms) : pX2_isThere mo [.ref mo, .int p] ms Q := by
  cases hi : ix p 4 with
  | none =>
    have hp : pl9 P p = none := by unfold pl9; rw [hi]
    have hn := ix_none hi (by omega)
    have k0' := k0 hp
    simp [pX2_isThere, bX2_isThere_23, bX2_isThere_22, bX2_isThere_0, o_ic, o_lc, o_null, o_il, o_ll, o_al, o_dup, o_pop, o_dup_x1, o_dup2, o_iadd, o_isub, o_imul, o_iand, o_ior, o_ixor, o_ishl, o_ishr, o_idiv, o_irem, o_ineg, o_ladd, o_lsub, o_lmul, o_land, o_lor, o_lxor, o_ldiv, o_lrem, o_lneg, o_lcmp, o_i2l, o_l2i, o_i2b, o_i2c, o_iushr, o_lshl, o_lshr, o_if_eq, o_if_ne, o_if_lt, o_if_ge, o_if_gt, o_if_le, o_icmp_eq, o_icmp_ne, o_icmp_lt, o_icmp_ge, o_icmp_gt, o_icmp_le, o_ifnull, o_ifnonnull, o_acmp_eq, o_acmp_ne, o_is, o_ls, o_as, o_iinc, o_kill, o_sw, o_ireturn, o_zreturn, o_nreturn, o_lreturn, o_areturn, o_return, o_athrow, o_call, entP, lg_sl, Value.category, st1, st2, List.set, List.getElem?_cons_zero, List.getElem?_cons_succ, List.foldl, popN, aft, o_mg, o_mgl, o_mga, o_mp, o_mpz, o_mpl, o_mia, o_mis, o_mbs, o_mc, mput_get, mput_arr, mput_let, mput_put, mset_get, mset_int, mset_let, mputL_get, mputL_arr, mputL_let, mputL_put, i64_8, mLen]
    refine ⟨fun _ => k0', fun h1 => ⟨fun _ => k0', fun h2 => ?_⟩⟩
    rw [Int32.lt_iff_toInt_lt, Int32.le_iff_toInt_le] at hn
    rw [Int32.le_iff_toInt_le] at h1 h2
    have e4 : (nn 4).toInt = 4 := rfl
    have e3 : (3 : Int32).toInt = 3 := rfl
    omega
  | some q =>
    obtain ⟨rfl, hq, hb⟩ := ix_some hi
    have hb5 : q < 5 := by omega
    have h4 := h q hq
    have n3 : ¬ 3 < q := by omega
    have n3' : q ≤ 3 := by omega
    simp [pX2_isThere, bX2_isThere_23, bX2_isThere_22, bX2_isThere_0, o_ic, o_lc, o_null, o_il, o_ll, o_al, o_dup, o_pop, o_dup_x1, o_dup2, o_iadd, o_isub, o_imul, o_iand, o_ior, o_ixor, o_ishl, o_ishr, o_idiv, o_irem, o_ineg, o_ladd, o_lsub, o_lmul, o_land, o_lor, o_lxor, o_ldiv, o_lrem, o_lneg, o_lcmp, o_i2l, o_l2i, o_i2b, o_i2c, o_iushr, o_lshl, o_lshr, o_if_eq, o_if_ne, o_if_lt, o_if_ge, o_if_gt, o_if_le, o_icmp_eq, o_icmp_ne, o_icmp_lt, o_icmp_ge, o_icmp_gt, o_icmp_le, o_ifnull, o_ifnonnull, o_acmp_eq, o_acmp_ne, o_is, o_ls, o_as, o_iinc, o_kill, o_sw, o_ireturn, o_zreturn, o_nreturn, o_lreturn, o_areturn, o_return, o_athrow, o_call, entP, lg_sl, Value.category, st1, st2, List.set, List.getElem?_cons_zero, List.getElem?_cons_succ, List.foldl, popN, aft, o_mg, o_mgl, o_mga, o_mp, o_mpz, o_mpl, o_mia, o_mis, o_mbs, o_mc, mput_get, mput_arr, mput_let, mput_put, mset_get, mset_int, mset_let, mputL_get, mputL_arr, mputL_let, mputL_put, i64_8, mLen, vpL, nn_addL, nn_addR, nn_mulL, nn_add, nn_mul, nn_eqL, nn_ltL, nn_leL, nn_Llt, nn_Lle, nn_lt, nn_le, nn_eq, nn_in, nn_clamp, nn_succ, nn_pos, nn_neg1, hb, hb5, n3, n3']
    cases hx : P q with
    | none =>
      rw [hx] at h4
      have e8 : ms.2.2 8 q = 0 := h4
      simp [e8]
      exact k0 (by unfold pl9; rw [hi]; exact hx)
    | some x =>
      rw [hx] at h4
      have e8 : ms.2.2 8 q = 1 := h4.2.1.1.1
      simp [e8]
      exact k1 q x hq rfl hx (by unfold pl9; rw [hi]; exact hx)
/-- what stands at a place -/
theorem MPs.at {ms : MS} {P : Nat → PlA} {q : Nat} {x : Rt × List Nat} (h : MPs ms P) (hq : q < 4) (hx : P q = some x) : PlOk x ∧ PlM ms q x.1 ∧ ms.2.2 57 q = nn x.2.length ∧ ∀ i b, x.2[i]? = some b → ms.2.2 58 (60 * q + i) = nn b := by
  have := h q hq
  rw [hx] at this
  exact this
theorem PlM.nd {ms : MS} {p : Nat} {R : Rt} (w : WfR R) (hT : TgOk R) (h : PlM ms p R) {k : Nat} (hk : k < (nds R).length) : NdM ms (240 * p + k) (ndA (nds R) k) ∧ NdOk R k (ndA (nds R) k) := by
  have hg : (nds R)[k]? = some (ndA (nds R) k) := by unfold ndA; rw [List.getD_eq_getElem?_getD, List.getElem?_eq_getElem hk]; rfl
  exact ⟨h.2.2.1 k _ hg, nds_ok w hT hg⟩
theorem q_about {mo : Nat} {Q : Ret MS} {ms : MS} {P : Nat → PlA} {p w : Int32} (h : MPs ms P) (k : Q (.inl (some (.int (sAbout P p w)))) ms) : pX2_about mo [.ref mo, .int p, .int w] ms Q := by
  simp [pX2_about, bX2_about_0, o_ic, o_lc, o_null, o_il, o_ll, o_al, o_dup, o_pop, o_dup_x1, o_dup2, o_iadd, o_isub, o_imul, o_iand, o_ior, o_ixor, o_ishl, o_ishr, o_idiv, o_irem, o_ineg, o_ladd, o_lsub, o_lmul, o_land, o_lor, o_lxor, o_ldiv, o_lrem, o_lneg, o_lcmp, o_i2l, o_l2i, o_i2b, o_i2c, o_iushr, o_lshl, o_lshr, o_if_eq, o_if_ne, o_if_lt, o_if_ge, o_if_gt, o_if_le, o_icmp_eq, o_icmp_ne, o_icmp_lt, o_icmp_ge, o_icmp_gt, o_icmp_le, o_ifnull, o_ifnonnull, o_acmp_eq, o_acmp_ne, o_is, o_ls, o_as, o_iinc, o_kill, o_sw, o_ireturn, o_zreturn, o_nreturn, o_lreturn, o_areturn, o_return, o_athrow, o_call, entP, lg_sl, Value.category, st1, st2, List.set, List.getElem?_cons_zero, List.getElem?_cons_succ, List.foldl, popN, aft, o_mg, o_mgl, o_mga, o_mp, o_mpz, o_mpl, o_mia, o_mis, o_mbs, o_mc, mput_get, mput_arr, mput_let, mput_put, mset_get, mset_int, mset_let, mputL_get, mputL_arr, mputL_let, mputL_put, i64_8, mLen]
  unfold sAbout at k
  refine m_isThere h (fun hp => ?_) (fun q x hq hp hx hpl => ?_)
  · rw [hp] at k
    simp [o_ic, o_lc, o_null, o_il, o_ll, o_al, o_dup, o_pop, o_dup_x1, o_dup2, o_iadd, o_isub, o_imul, o_iand, o_ior, o_ixor, o_ishl, o_ishr, o_idiv, o_irem, o_ineg, o_ladd, o_lsub, o_lmul, o_land, o_lor, o_lxor, o_ldiv, o_lrem, o_lneg, o_lcmp, o_i2l, o_l2i, o_i2b, o_i2c, o_iushr, o_lshl, o_lshr, o_if_eq, o_if_ne, o_if_lt, o_if_ge, o_if_gt, o_if_le, o_icmp_eq, o_icmp_ne, o_icmp_lt, o_icmp_ge, o_icmp_gt, o_icmp_le, o_ifnull, o_ifnonnull, o_acmp_eq, o_acmp_ne, o_is, o_ls, o_as, o_iinc, o_kill, o_sw, o_ireturn, o_zreturn, o_nreturn, o_lreturn, o_areturn, o_return, o_athrow, o_call, entP, lg_sl, Value.category, st1, st2, List.set, List.getElem?_cons_zero, List.getElem?_cons_succ, List.foldl, popN, aft]; exact k
  · rw [hpl] at k
    simp only at k
    subst hp
    obtain ⟨⟨w1, w2, w3, w4, w5, w6⟩, ⟨⟨e8, e9, e10, e11, e12⟩, -⟩, -⟩ := h.at hq hx
    have b1 : q < 2147483648 := by omega
    have b2 : q < 5 := by omega
    have hle : x.1.1.length ≤ (nds x.1).length := by rw [nds_len]; omega
    simp [bX2_about_10, bX2_about_44, bX2_about_51, bX2_about_58, bX2_about_65, bX2_about_79, bX2_about_86, swR, o_ic, o_lc, o_null, o_il, o_ll, o_al, o_dup, o_pop, o_dup_x1, o_dup2, o_iadd, o_isub, o_imul, o_iand, o_ior, o_ixor, o_ishl, o_ishr, o_idiv, o_irem, o_ineg, o_ladd, o_lsub, o_lmul, o_land, o_lor, o_lxor, o_ldiv, o_lrem, o_lneg, o_lcmp, o_i2l, o_l2i, o_i2b, o_i2c, o_iushr, o_lshl, o_lshr, o_if_eq, o_if_ne, o_if_lt, o_if_ge, o_if_gt, o_if_le, o_icmp_eq, o_icmp_ne, o_icmp_lt, o_icmp_ge, o_icmp_gt, o_icmp_le, o_ifnull, o_ifnonnull, o_acmp_eq, o_acmp_ne, o_is, o_ls, o_as, o_iinc, o_kill, o_sw, o_ireturn, o_zreturn, o_nreturn, o_lreturn, o_areturn, o_return, o_athrow, o_call, entP, lg_sl, Value.category, st1, st2, List.set, List.getElem?_cons_zero, List.getElem?_cons_succ, List.foldl, popN, aft, o_mg, o_mgl, o_mga, o_mp, o_mpz, o_mpl, o_mia, o_mis, o_mbs, o_mc, mput_get, mput_arr, mput_let, mput_put, mset_get, mset_int, mset_let, mputL_get, mputL_arr, mputL_let, mputL_put, i64_8, mLen, vpL, nn_addL, nn_addR, nn_mulL, nn_add, nn_mul, nn_eqL, nn_ltL, nn_leL, nn_Llt, nn_Lle, nn_lt, nn_le, nn_eq, nn_in, nn_clamp, nn_succ, nn_pos, nn_neg1, b1, b2, e9, e10, e11, e12]
    unfold qAbout at k
    rw [nn_sub hle]
    refine ⟨fun h1 => ?_, fun h1 => ⟨fun h2 => ?_, fun h2 => ⟨fun h3 => ?_, fun h3 => ⟨fun h4 => ?_, fun h4 => ⟨fun h5 => ?_, fun h5 => ?_⟩⟩⟩⟩⟩
    all_goals simp [*] at k; exact k
theorem ab1 {x : Int32} (h : x < 0) (h' : 0 ≤ x) : False := by rw [Int32.lt_iff_toInt_lt] at h; rw [Int32.le_iff_toInt_le] at h'; omega
theorem ab2 {x y : Int32} (h : x < y) (h' : y ≤ x) : False := by rw [Int32.lt_iff_toInt_lt] at h; rw [Int32.le_iff_toInt_le] at h'; omega
theorem ix_cases (x : Int32) (n : Nat) (hn : n < 2147483648) : (∃ q, q < n ∧ x = nn q ∧ ix x n = some q ∧ q < 2147483648) ∨ (ix x n = none ∧ (x < 0 ∨ nn n ≤ x)) := by
  cases h : ix x n with
  | some q => obtain ⟨h1, h2, h3⟩ := ix_some h; exact Or.inl ⟨q, h2, h1, rfl, h3⟩
  | none => exact Or.inr ⟨rfl, ix_none h hn⟩
/-- a count over a loop -/
theorem cntT_le (n : Nat) (X : Nat → Bool) : cntT n X ≤ n := by
  induction n with
  | zero => simp [cntT]
  | succ n ih => rw [cntT_succ]; split <;> omega
theorem q_node {mo : Nat} {Q : Ret MS} {ms : MS} {P : Nat → PlA} {p k w : Int32} (h : MPs ms P) (kk : Q (.inl (some (.int (sNode P p k w)))) ms) : pX2_node mo [.ref mo, .int p, .int k, .int w] ms Q := by
  simp [pX2_node, bX2_node_0, bX2_node_22, o_ic, o_lc, o_null, o_il, o_ll, o_al, o_dup, o_pop, o_dup_x1, o_dup2, o_iadd, o_isub, o_imul, o_iand, o_ior, o_ixor, o_ishl, o_ishr, o_idiv, o_irem, o_ineg, o_ladd, o_lsub, o_lmul, o_land, o_lor, o_lxor, o_ldiv, o_lrem, o_lneg, o_lcmp, o_i2l, o_l2i, o_i2b, o_i2c, o_iushr, o_lshl, o_lshr, o_if_eq, o_if_ne, o_if_lt, o_if_ge, o_if_gt, o_if_le, o_icmp_eq, o_icmp_ne, o_icmp_lt, o_icmp_ge, o_icmp_gt, o_icmp_le, o_ifnull, o_ifnonnull, o_acmp_eq, o_acmp_ne, o_is, o_ls, o_as, o_iinc, o_kill, o_sw, o_ireturn, o_zreturn, o_nreturn, o_lreturn, o_areturn, o_return, o_athrow, o_call, entP, lg_sl, Value.category, st1, st2, List.set, List.getElem?_cons_zero, List.getElem?_cons_succ, List.foldl, popN, aft, o_mg, o_mgl, o_mga, o_mp, o_mpz, o_mpl, o_mia, o_mis, o_mbs, o_mc, mput_get, mput_arr, mput_let, mput_put, mset_get, mset_int, mset_let, mputL_get, mputL_arr, mputL_let, mputL_put, i64_8, mLen]
  unfold sNode at kk
  refine m_isThere h (fun hp => ?_) (fun q x hq hp hx hpl => ?_)
  · rw [hp] at kk
    simp [o_ic, o_lc, o_null, o_il, o_ll, o_al, o_dup, o_pop, o_dup_x1, o_dup2, o_iadd, o_isub, o_imul, o_iand, o_ior, o_ixor, o_ishl, o_ishr, o_idiv, o_irem, o_ineg, o_ladd, o_lsub, o_lmul, o_land, o_lor, o_lxor, o_ldiv, o_lrem, o_lneg, o_lcmp, o_i2l, o_l2i, o_i2b, o_i2c, o_iushr, o_lshl, o_lshr, o_if_eq, o_if_ne, o_if_lt, o_if_ge, o_if_gt, o_if_le, o_icmp_eq, o_icmp_ne, o_icmp_lt, o_icmp_ge, o_icmp_gt, o_icmp_le, o_ifnull, o_ifnonnull, o_acmp_eq, o_acmp_ne, o_is, o_ls, o_as, o_iinc, o_kill, o_sw, o_ireturn, o_zreturn, o_nreturn, o_lreturn, o_areturn, o_return, o_athrow, o_call, entP, lg_sl, Value.category, st1, st2, List.set, List.getElem?_cons_zero, List.getElem?_cons_succ, List.foldl, popN, aft]; exact kk
  · rw [hpl] at kk
    simp only at kk
    subst hp
    obtain ⟨⟨w1, w2, w3, w4, w5, w6⟩, hPl, -⟩ := h.at hq hx
    obtain ⟨⟨e8, e9, e10, e11, e12⟩, -⟩ := id hPl
    have l := nds_240 w1
    have b1 : q < 2147483648 := by omega
    have b2 : q < 5 := by omega
    have b0 : (nds x.1).length < 2147483648 := by omega
    rcases ix_cases k (nds x.1).length b0 with ⟨j, hj, rfl, hi, bj⟩ | ⟨hi, hr⟩
    · rw [hi] at kk
      simp only at kk
      obtain ⟨⟨c1, c2, c3, c4, c5, c6, -⟩, ok⟩ := hPl.nd w1 w2 hj
      have b3 : 240 * q + j < 2147483648 := by omega
      have b4 : 240 * q + j < 1200 := by omega
      simp [bX2_node_24, bX2_node_22, bX2_node_72, bX2_node_80, bX2_node_88, bX2_node_96, bX2_node_104, bX2_node_112, bX2_node_180, swR, o_ic, o_lc, o_null, o_il, o_ll, o_al, o_dup, o_pop, o_dup_x1, o_dup2, o_iadd, o_isub, o_imul, o_iand, o_ior, o_ixor, o_ishl, o_ishr, o_idiv, o_irem, o_ineg, o_ladd, o_lsub, o_lmul, o_land, o_lor, o_lxor, o_ldiv, o_lrem, o_lneg, o_lcmp, o_i2l, o_l2i, o_i2b, o_i2c, o_iushr, o_lshl, o_lshr, o_if_eq, o_if_ne, o_if_lt, o_if_ge, o_if_gt, o_if_le, o_icmp_eq, o_icmp_ne, o_icmp_lt, o_icmp_ge, o_icmp_gt, o_icmp_le, o_ifnull, o_ifnonnull, o_acmp_eq, o_acmp_ne, o_is, o_ls, o_as, o_iinc, o_kill, o_sw, o_ireturn, o_zreturn, o_nreturn, o_lreturn, o_areturn, o_return, o_athrow, o_call, entP, lg_sl, Value.category, st1, st2, List.set, List.getElem?_cons_zero, List.getElem?_cons_succ, List.foldl, popN, aft, o_mg, o_mgl, o_mga, o_mp, o_mpz, o_mpl, o_mia, o_mis, o_mbs, o_mc, mput_get, mput_arr, mput_let, mput_put, mset_get, mset_int, mset_let, mputL_get, mputL_arr, mputL_let, mputL_put, i64_8, mLen, vpL, nn_addL, nn_addR, nn_mulL, nn_add, nn_mul, nn_eqL, nn_ltL, nn_leL, nn_Llt, nn_Lle, nn_lt, nn_le, nn_eq, nn_in, nn_clamp, nn_succ, nn_pos, nn_neg1, b1, b2, b0, bj, hj, e10, b3, b4, c1, c2, c4, c5, c6]
      unfold qNode at kk
      refine ⟨fun h1 => ?_, fun h1 => ⟨fun h2 => ?_, fun h2 => ⟨fun h3 => ?_, fun h3 => ⟨fun h4 => ?_, fun h4 => ⟨fun h5 => ?_, fun h5 => ⟨fun h6 => ?_, fun h6 => ?_⟩⟩⟩⟩⟩⟩
      · simp [*] at kk; exact kk
      · simp [*] at kk; exact kk
      · simp [*] at kk; exact kk
      · simp [*] at kk; exact kk
      · simp [*] at kk; exact kk
      · have kk' : Q (.inl (some (.int (nn (cntT (nds x.1).length (fun a => b9 (t1R x.1 a = some j ∨ t2R x.1 a = some j))))))) ms := by
          rw [h6] at kk; exact kk
        unfold bX2_node_122
        intro X hX
        have hind : ∀ r a, a + r = (nds x.1).length → X [some (.ref mo), some (.int (nn q)), some (.int (nn j)), none, none, some (.int (nn (cntT a (fun a => b9 (t1R x.1 a = some j ∨ t2R x.1 a = some j))))), some (.int (nn (240 * q + a)))] [] ms := by
          intro r
          induction r with
          | zero =>
            intro a e
            apply hX
            have e' : a = (nds x.1).length := by omega
            subst e'
            have b5 : 240 * q + (nds x.1).length < 2147483648 := by omega
            simp [bX2_node_177, o_ic, o_lc, o_null, o_il, o_ll, o_al, o_dup, o_pop, o_dup_x1, o_dup2, o_iadd, o_isub, o_imul, o_iand, o_ior, o_ixor, o_ishl, o_ishr, o_idiv, o_irem, o_ineg, o_ladd, o_lsub, o_lmul, o_land, o_lor, o_lxor, o_ldiv, o_lrem, o_lneg, o_lcmp, o_i2l, o_l2i, o_i2b, o_i2c, o_iushr, o_lshl, o_lshr, o_if_eq, o_if_ne, o_if_lt, o_if_ge, o_if_gt, o_if_le, o_icmp_eq, o_icmp_ne, o_icmp_lt, o_icmp_ge, o_icmp_gt, o_icmp_le, o_ifnull, o_ifnonnull, o_acmp_eq, o_acmp_ne, o_is, o_ls, o_as, o_iinc, o_kill, o_sw, o_ireturn, o_zreturn, o_nreturn, o_lreturn, o_areturn, o_return, o_athrow, o_call, entP, lg_sl, Value.category, st1, st2, List.set, List.getElem?_cons_zero, List.getElem?_cons_succ, List.foldl, popN, aft, o_mg, o_mgl, o_mga, o_mp, o_mpz, o_mpl, o_mia, o_mis, o_mbs, o_mc, mput_get, mput_arr, mput_let, mput_put, mset_get, mset_int, mset_let, mputL_get, mputL_arr, mputL_let, mputL_put, i64_8, mLen, vpL, nn_addL, nn_addR, nn_mulL, nn_add, nn_mul, nn_eqL, nn_ltL, nn_leL, nn_Llt, nn_Lle, nn_lt, nn_le, nn_eq, nn_in, nn_clamp, nn_succ, nn_pos, nn_neg1, b1, b2, e10, b5]
            exact kk'
          | succ r ih =>
            intro a e
            apply hX
            have ha : a < (nds x.1).length := by omega
            have b5 : 240 * q + (nds x.1).length < 2147483648 := by omega
            have b6 : 240 * q + a < 2147483648 := by omega
            have b7 : 240 * q + a < 1200 := by omega
            have b8 : ¬ 240 * q + (nds x.1).length ≤ 240 * q + a := by omega
            have b9' : 240 * q + a < 240 * q + (nds x.1).length := by omega
            obtain ⟨⟨d1, d2, d3, d4, d5, d6, -⟩, dok⟩ := hPl.nd w1 w2 ha
            have qq : ∀ o : Option Nat, (∀ i, o = some i → i < (nds x.1).length) → (onn o = nn j ↔ o = some j) := by
              intro o ho
              cases o with
              | none => simp only [onn]; constructor
                        · intro z; exact ((nn_neg1 bj).1 z.symm).elim
                        · intro z; cases z
              | some t =>
                have := ho t rfl
                simp only [onn]; rw [nn_eq (by omega) bj]; simp
            have q1 : onn (nT1 (ndA (nds x.1) a)) = nn j ↔ t1R x.1 a = some j := qq _ dok.2.1
            have q2 : onn (nT2 (ndA (nds x.1) a)) = nn j ↔ t2R x.1 a = some j := qq _ dok.2.2.1
            have hi' := ih (a + 1) (by omega)
            rw [cntT_succ, ← Nat.add_assoc] at hi'
            simp [bX2_node_163, bX2_node_167, bX2_node_168, o_ic, o_lc, o_null, o_il, o_ll, o_al, o_dup, o_pop, o_dup_x1, o_dup2, o_iadd, o_isub, o_imul, o_iand, o_ior, o_ixor, o_ishl, o_ishr, o_idiv, o_irem, o_ineg, o_ladd, o_lsub, o_lmul, o_land, o_lor, o_lxor, o_ldiv, o_lrem, o_lneg, o_lcmp, o_i2l, o_l2i, o_i2b, o_i2c, o_iushr, o_lshl, o_lshr, o_if_eq, o_if_ne, o_if_lt, o_if_ge, o_if_gt, o_if_le, o_icmp_eq, o_icmp_ne, o_icmp_lt, o_icmp_ge, o_icmp_gt, o_icmp_le, o_ifnull, o_ifnonnull, o_acmp_eq, o_acmp_ne, o_is, o_ls, o_as, o_iinc, o_kill, o_sw, o_ireturn, o_zreturn, o_nreturn, o_lreturn, o_areturn, o_return, o_athrow, o_call, entP, lg_sl, Value.category, st1, st2, List.set, List.getElem?_cons_zero, List.getElem?_cons_succ, List.foldl, popN, aft, o_mg, o_mgl, o_mga, o_mp, o_mpz, o_mpl, o_mia, o_mis, o_mbs, o_mc, mput_get, mput_arr, mput_let, mput_put, mset_get, mset_int, mset_let, mputL_get, mputL_arr, mputL_let, mputL_put, i64_8, mLen, vpL, nn_addL, nn_addR, nn_mulL, nn_add, nn_mul, nn_eqL, nn_ltL, nn_leL, nn_Llt, nn_Lle, nn_lt, nn_le, nn_eq, nn_in, nn_clamp, nn_succ, nn_pos, nn_neg1, b1, b2, e10, b5, b6, b7, b8, b9', d5, d6, q1, q2]
            refine ⟨fun z => ?_, fun z => ⟨fun z2 => ?_, fun z2 => ?_⟩⟩
            · rw [if_pos (b9_iff.2 (Or.inl z))] at hi'; exact hi'
            · rw [if_neg (by rw [b9_not.2 (fun y => y.elim z z2)]; simp)] at hi'; exact hi'
            · rw [if_pos (b9_iff.2 (Or.inr z2))] at hi'; exact hi'
        exact hind (nds x.1).length 0 (by omega)
      · have : ¬ w = 0 ∧ ¬ w = 1 ∧ ¬ w = 2 ∧ ¬ w = 3 ∧ ¬ w = 4 ∧ ¬ w = 5 := ⟨h1, h2, h3, h4, h5, h6⟩
        simp [*] at kk; exact kk
    · rw [hi] at kk
      simp only at kk
      simp [bX2_node_22, o_ic, o_lc, o_null, o_il, o_ll, o_al, o_dup, o_pop, o_dup_x1, o_dup2, o_iadd, o_isub, o_imul, o_iand, o_ior, o_ixor, o_ishl, o_ishr, o_idiv, o_irem, o_ineg, o_ladd, o_lsub, o_lmul, o_land, o_lor, o_lxor, o_ldiv, o_lrem, o_lneg, o_lcmp, o_i2l, o_l2i, o_i2b, o_i2c, o_iushr, o_lshl, o_lshr, o_if_eq, o_if_ne, o_if_lt, o_if_ge, o_if_gt, o_if_le, o_icmp_eq, o_icmp_ne, o_icmp_lt, o_icmp_ge, o_icmp_gt, o_icmp_le, o_ifnull, o_ifnonnull, o_acmp_eq, o_acmp_ne, o_is, o_ls, o_as, o_iinc, o_kill, o_sw, o_ireturn, o_zreturn, o_nreturn, o_lreturn, o_areturn, o_return, o_athrow, o_call, entP, lg_sl, Value.category, st1, st2, List.set, List.getElem?_cons_zero, List.getElem?_cons_succ, List.foldl, popN, aft, o_mg, o_mgl, o_mga, o_mp, o_mpz, o_mpl, o_mia, o_mis, o_mbs, o_mc, mput_get, mput_arr, mput_let, mput_put, mset_get, mset_int, mset_let, mputL_get, mputL_arr, mputL_let, mputL_put, i64_8, mLen, vpL, nn_addL, nn_addR, nn_mulL, nn_add, nn_mul, nn_eqL, nn_ltL, nn_leL, nn_Llt, nn_Lle, nn_lt, nn_le, nn_eq, nn_in, nn_clamp, nn_succ, nn_pos, nn_neg1, b1, b2, e10]
      refine ⟨fun _ => kk, fun h1 => ⟨fun h2 => ?_, fun _ => kk⟩⟩
      rcases hr with hr | hr
      · exact (ab1 hr h1).elim
      · exact (ab2 h2 hr).elim
theorem m_coded {mo : Nat} {Q : Ret MS} {ms : MS} {o : Opd} (k : Q (.inl (some (.int (codO o)))) ms) : pX2_coded mo [.ref mo, .int o.1, .int o.2] ms Q := by
  unfold codO at k
  simp [pX2_coded, bX2_coded_54, bX2_coded_53, bX2_coded_40, bX2_coded_27, bX2_coded_26, bX2_coded_18, bX2_coded_0, o_ic, o_lc, o_null, o_il, o_ll, o_al, o_dup, o_pop, o_dup_x1, o_dup2, o_iadd, o_isub, o_imul, o_iand, o_ior, o_ixor, o_ishl, o_ishr, o_idiv, o_irem, o_ineg, o_ladd, o_lsub, o_lmul, o_land, o_lor, o_lxor, o_ldiv, o_lrem, o_lneg, o_lcmp, o_i2l, o_l2i, o_i2b, o_i2c, o_iushr, o_lshl, o_lshr, o_if_eq, o_if_ne, o_if_lt, o_if_ge, o_if_gt, o_if_le, o_icmp_eq, o_icmp_ne, o_icmp_lt, o_icmp_ge, o_icmp_gt, o_icmp_le, o_ifnull, o_ifnonnull, o_acmp_eq, o_acmp_ne, o_is, o_ls, o_as, o_iinc, o_kill, o_sw, o_ireturn, o_zreturn, o_nreturn, o_lreturn, o_areturn, o_return, o_athrow, o_call, entP, lg_sl, Value.category, st1, st2, List.set, List.getElem?_cons_zero, List.getElem?_cons_succ, List.foldl, popN, aft, o_mg, o_mgl, o_mga, o_mp, o_mpz, o_mpl, o_mia, o_mis, o_mbs, o_mc, mput_get, mput_arr, mput_let, mput_put, mset_get, mset_int, mset_let, mputL_get, mputL_arr, mputL_let, mputL_put, i64_8, mLen]
  refine ⟨fun h1 => ⟨fun h2 => ⟨fun h3 => ?_, fun h3 => ?_⟩, fun h2 => ?_⟩, fun h1 => ⟨fun h2 => ?_, fun h2 => ?_⟩⟩
  · rw [if_pos h1, if_neg (fun z => ab2 z h2), if_neg (fun z => ab2 z h3)] at k; exact k
  · rw [if_pos h1, if_neg (fun z => ab2 z h2), if_pos h3] at k; exact k
  · rw [if_pos h1, if_pos h2] at k; exact k
  · rw [if_neg (fun z => ab1 z h1), if_neg (fun z => ab2 z h2)] at k; exact k
  · rw [if_neg (fun z => ab1 z h1), if_pos h2] at k; exact k
theorem m_isSum {mo : Nat} {Q : Ret MS} {ms : MS} {P : Nat → PlA} {p e : Int32} (h : MPs ms P) (k0 : (∀ x, pl9 P p = some x → ix e (sms x.1.1).length = none) → Q (.inl (some (.int 0))) ms) (k1 : ∀ q x j, q < 4 → p = nn q → P q = some x → pl9 P p = some x → j < (sms x.1.1).length → e = nn j → ix e (sms x.1.1).length = some j → Q (.inl (some (.int 1))) ms) : pX2_isSum mo [.ref mo, .int p, .int e] ms Q := by
  simp [pX2_isSum, bX2_isSum_27, bX2_isSum_26, bX2_isSum_0, o_ic, o_lc, o_null, o_il, o_ll, o_al, o_dup, o_pop, o_dup_x1, o_dup2, o_iadd, o_isub, o_imul, o_iand, o_ior, o_ixor, o_ishl, o_ishr, o_idiv, o_irem, o_ineg, o_ladd, o_lsub, o_lmul, o_land, o_lor, o_lxor, o_ldiv, o_lrem, o_lneg, o_lcmp, o_i2l, o_l2i, o_i2b, o_i2c, o_iushr, o_lshl, o_lshr, o_if_eq, o_if_ne, o_if_lt, o_if_ge, o_if_gt, o_if_le, o_icmp_eq, o_icmp_ne, o_icmp_lt, o_icmp_ge, o_icmp_gt, o_icmp_le, o_ifnull, o_ifnonnull, o_acmp_eq, o_acmp_ne, o_is, o_ls, o_as, o_iinc, o_kill, o_sw, o_ireturn, o_zreturn, o_nreturn, o_lreturn, o_areturn, o_return, o_athrow, o_call, entP, lg_sl, Value.category, st1, st2, List.set, List.getElem?_cons_zero, List.getElem?_cons_succ, List.foldl, popN, aft, o_mg, o_mgl, o_mga, o_mp, o_mpz, o_mpl, o_mia, o_mis, o_mbs, o_mc, mput_get, mput_arr, mput_let, mput_put, mset_get, mset_int, mset_let, mputL_get, mputL_arr, mputL_let, mputL_put, i64_8, mLen]
  refine m_isThere h (fun hp => ?_) (fun q x hq hp hx hpl => ?_)
  · simp [o_ic, o_lc, o_null, o_il, o_ll, o_al, o_dup, o_pop, o_dup_x1, o_dup2, o_iadd, o_isub, o_imul, o_iand, o_ior, o_ixor, o_ishl, o_ishr, o_idiv, o_irem, o_ineg, o_ladd, o_lsub, o_lmul, o_land, o_lor, o_lxor, o_ldiv, o_lrem, o_lneg, o_lcmp, o_i2l, o_l2i, o_i2b, o_i2c, o_iushr, o_lshl, o_lshr, o_if_eq, o_if_ne, o_if_lt, o_if_ge, o_if_gt, o_if_le, o_icmp_eq, o_icmp_ne, o_icmp_lt, o_icmp_ge, o_icmp_gt, o_icmp_le, o_ifnull, o_ifnonnull, o_acmp_eq, o_acmp_ne, o_is, o_ls, o_as, o_iinc, o_kill, o_sw, o_ireturn, o_zreturn, o_nreturn, o_lreturn, o_areturn, o_return, o_athrow, o_call, entP, lg_sl, Value.category, st1, st2, List.set, List.getElem?_cons_zero, List.getElem?_cons_succ, List.foldl, popN, aft]; exact k0 (fun x hx => by rw [hp] at hx; cases hx)
  · subst hp
    obtain ⟨⟨w1, w2, w3, w4, w5, w6⟩, hPl, -⟩ := h.at hq hx
    obtain ⟨⟨e8, e9, e10, e11, e12⟩, -⟩ := id hPl
    have b1 : q < 2147483648 := by omega
    have b2 : q < 5 := by omega
    have b0 : (sms x.1.1).length < 2147483648 := by omega
    rcases ix_cases e (sms x.1.1).length b0 with ⟨j, hj, rfl, hi, bj⟩ | ⟨hi, hr⟩
    · have nj : ¬ (sms x.1.1).length ≤ j := by omega
      simp [o_ic, o_lc, o_null, o_il, o_ll, o_al, o_dup, o_pop, o_dup_x1, o_dup2, o_iadd, o_isub, o_imul, o_iand, o_ior, o_ixor, o_ishl, o_ishr, o_idiv, o_irem, o_ineg, o_ladd, o_lsub, o_lmul, o_land, o_lor, o_lxor, o_ldiv, o_lrem, o_lneg, o_lcmp, o_i2l, o_l2i, o_i2b, o_i2c, o_iushr, o_lshl, o_lshr, o_if_eq, o_if_ne, o_if_lt, o_if_ge, o_if_gt, o_if_le, o_icmp_eq, o_icmp_ne, o_icmp_lt, o_icmp_ge, o_icmp_gt, o_icmp_le, o_ifnull, o_ifnonnull, o_acmp_eq, o_acmp_ne, o_is, o_ls, o_as, o_iinc, o_kill, o_sw, o_ireturn, o_zreturn, o_nreturn, o_lreturn, o_areturn, o_return, o_athrow, o_call, entP, lg_sl, Value.category, st1, st2, List.set, List.getElem?_cons_zero, List.getElem?_cons_succ, List.foldl, popN, aft, o_mg, o_mgl, o_mga, o_mp, o_mpz, o_mpl, o_mia, o_mis, o_mbs, o_mc, mput_get, mput_arr, mput_let, mput_put, mset_get, mset_int, mset_let, mputL_get, mputL_arr, mputL_let, mputL_put, i64_8, mLen, vpL, nn_addL, nn_addR, nn_mulL, nn_add, nn_mul, nn_eqL, nn_ltL, nn_leL, nn_Llt, nn_Lle, nn_lt, nn_le, nn_eq, nn_in, nn_clamp, nn_succ, nn_pos, nn_neg1, b1, b2, b0, bj, hj, nj, e12]
      exact k1 q x j hq rfl hx hpl hj rfl hi
    · have k0' := k0 (fun y hy => by rw [hpl] at hy; cases hy; exact hi)
      simp [o_ic, o_lc, o_null, o_il, o_ll, o_al, o_dup, o_pop, o_dup_x1, o_dup2, o_iadd, o_isub, o_imul, o_iand, o_ior, o_ixor, o_ishl, o_ishr, o_idiv, o_irem, o_ineg, o_ladd, o_lsub, o_lmul, o_land, o_lor, o_lxor, o_ldiv, o_lrem, o_lneg, o_lcmp, o_i2l, o_l2i, o_i2b, o_i2c, o_iushr, o_lshl, o_lshr, o_if_eq, o_if_ne, o_if_lt, o_if_ge, o_if_gt, o_if_le, o_icmp_eq, o_icmp_ne, o_icmp_lt, o_icmp_ge, o_icmp_gt, o_icmp_le, o_ifnull, o_ifnonnull, o_acmp_eq, o_acmp_ne, o_is, o_ls, o_as, o_iinc, o_kill, o_sw, o_ireturn, o_zreturn, o_nreturn, o_lreturn, o_areturn, o_return, o_athrow, o_call, entP, lg_sl, Value.category, st1, st2, List.set, List.getElem?_cons_zero, List.getElem?_cons_succ, List.foldl, popN, aft, o_mg, o_mgl, o_mga, o_mp, o_mpz, o_mpl, o_mia, o_mis, o_mbs, o_mc, mput_get, mput_arr, mput_let, mput_put, mset_get, mset_int, mset_let, mputL_get, mputL_arr, mputL_let, mputL_put, i64_8, mLen, vpL, nn_addL, nn_addR, nn_mulL, nn_add, nn_mul, nn_eqL, nn_ltL, nn_leL, nn_Llt, nn_Lle, nn_lt, nn_le, nn_eq, nn_in, nn_clamp, nn_succ, nn_pos, nn_neg1, b1, b2, e12]
      refine ⟨fun _ => k0', fun h1 => ⟨fun _ => k0', fun h2 => ?_⟩⟩
      rcases hr with hr | hr
      · exact (ab1 hr h1).elim
      · exact (ab2 h2 hr).elim
theorem m_isPlacing {mo : Nat} {Q : Ret MS} {ms : MS} {pl : Int32} (k0 : ix pl 3 = none → Q (.inl (some (.int 0))) ms) (k1 : ∀ q, q < 3 → pl = nn q → ix pl 3 = some q → Q (.inl (some (.int 1))) ms) : pX2_isPlacing mo [.ref mo, .int pl] ms Q := by
  rcases ix_cases pl 3 (by omega) with ⟨j, hj, rfl, hi, bj⟩ | ⟨hi, hr⟩
  · have n1 : ¬ 2 < j := by omega
    have n2 : j ≤ 2 := by omega
    simp [pX2_isPlacing, bX2_isPlacing_14, bX2_isPlacing_13, bX2_isPlacing_0, o_ic, o_lc, o_null, o_il, o_ll, o_al, o_dup, o_pop, o_dup_x1, o_dup2, o_iadd, o_isub, o_imul, o_iand, o_ior, o_ixor, o_ishl, o_ishr, o_idiv, o_irem, o_ineg, o_ladd, o_lsub, o_lmul, o_land, o_lor, o_lxor, o_ldiv, o_lrem, o_lneg, o_lcmp, o_i2l, o_l2i, o_i2b, o_i2c, o_iushr, o_lshl, o_lshr, o_if_eq, o_if_ne, o_if_lt, o_if_ge, o_if_gt, o_if_le, o_icmp_eq, o_icmp_ne, o_icmp_lt, o_icmp_ge, o_icmp_gt, o_icmp_le, o_ifnull, o_ifnonnull, o_acmp_eq, o_acmp_ne, o_is, o_ls, o_as, o_iinc, o_kill, o_sw, o_ireturn, o_zreturn, o_nreturn, o_lreturn, o_areturn, o_return, o_athrow, o_call, entP, lg_sl, Value.category, st1, st2, List.set, List.getElem?_cons_zero, List.getElem?_cons_succ, List.foldl, popN, aft, o_mg, o_mgl, o_mga, o_mp, o_mpz, o_mpl, o_mia, o_mis, o_mbs, o_mc, mput_get, mput_arr, mput_let, mput_put, mset_get, mset_int, mset_let, mputL_get, mputL_arr, mputL_let, mputL_put, i64_8, mLen, vpL, nn_addL, nn_addR, nn_mulL, nn_add, nn_mul, nn_eqL, nn_ltL, nn_leL, nn_Llt, nn_Lle, nn_lt, nn_le, nn_eq, nn_in, nn_clamp, nn_succ, nn_pos, nn_neg1, bj, n1, n2]
    exact k1 j hj rfl hi
  · have k0' := k0 hi
    simp [pX2_isPlacing, bX2_isPlacing_14, bX2_isPlacing_13, bX2_isPlacing_0, o_ic, o_lc, o_null, o_il, o_ll, o_al, o_dup, o_pop, o_dup_x1, o_dup2, o_iadd, o_isub, o_imul, o_iand, o_ior, o_ixor, o_ishl, o_ishr, o_idiv, o_irem, o_ineg, o_ladd, o_lsub, o_lmul, o_land, o_lor, o_lxor, o_ldiv, o_lrem, o_lneg, o_lcmp, o_i2l, o_l2i, o_i2b, o_i2c, o_iushr, o_lshl, o_lshr, o_if_eq, o_if_ne, o_if_lt, o_if_ge, o_if_gt, o_if_le, o_icmp_eq, o_icmp_ne, o_icmp_lt, o_icmp_ge, o_icmp_gt, o_icmp_le, o_ifnull, o_ifnonnull, o_acmp_eq, o_acmp_ne, o_is, o_ls, o_as, o_iinc, o_kill, o_sw, o_ireturn, o_zreturn, o_nreturn, o_lreturn, o_areturn, o_return, o_athrow, o_call, entP, lg_sl, Value.category, st1, st2, List.set, List.getElem?_cons_zero, List.getElem?_cons_succ, List.foldl, popN, aft, o_mg, o_mgl, o_mga, o_mp, o_mpz, o_mpl, o_mia, o_mis, o_mbs, o_mc, mput_get, mput_arr, mput_let, mput_put, mset_get, mset_int, mset_let, mputL_get, mputL_arr, mputL_let, mputL_put, i64_8, mLen]
    refine ⟨fun _ => k0', fun h1 => ⟨fun _ => k0', fun h2 => ?_⟩⟩
    rcases hr with hr | hr
    · exact (ab1 hr h1).elim
    · rw [Int32.le_iff_toInt_le] at hr h2
      have e4 : (nn 3).toInt = 3 := rfl
      have e3 : (2 : Int32).toInt = 2 := rfl
      omega
theorem q_sum {mo : Nat} {Q : Ret MS} {ms : MS} {P : Nat → PlA} {p e w : Int32} (h : MPs ms P) (kk : Q (.inl (some (.int (sSum P p e w)))) ms) : pX2_sum mo [.ref mo, .int p, .int e, .int w] ms Q := by
  simp [pX2_sum, bX2_sum_0, o_ic, o_lc, o_null, o_il, o_ll, o_al, o_dup, o_pop, o_dup_x1, o_dup2, o_iadd, o_isub, o_imul, o_iand, o_ior, o_ixor, o_ishl, o_ishr, o_idiv, o_irem, o_ineg, o_ladd, o_lsub, o_lmul, o_land, o_lor, o_lxor, o_ldiv, o_lrem, o_lneg, o_lcmp, o_i2l, o_l2i, o_i2b, o_i2c, o_iushr, o_lshl, o_lshr, o_if_eq, o_if_ne, o_if_lt, o_if_ge, o_if_gt, o_if_le, o_icmp_eq, o_icmp_ne, o_icmp_lt, o_icmp_ge, o_icmp_gt, o_icmp_le, o_ifnull, o_ifnonnull, o_acmp_eq, o_acmp_ne, o_is, o_ls, o_as, o_iinc, o_kill, o_sw, o_ireturn, o_zreturn, o_nreturn, o_lreturn, o_areturn, o_return, o_athrow, o_call, entP, lg_sl, Value.category, st1, st2, List.set, List.getElem?_cons_zero, List.getElem?_cons_succ, List.foldl, popN, aft, o_mg, o_mgl, o_mga, o_mp, o_mpz, o_mpl, o_mia, o_mis, o_mbs, o_mc, mput_get, mput_arr, mput_let, mput_put, mset_get, mset_int, mset_let, mputL_get, mputL_arr, mputL_let, mputL_put, i64_8, mLen]
  unfold sSum at kk
  refine m_isSum h (fun h0 => ?_) (fun q x j hq hp hx hpl hj he hi => ?_)
  · simp [o_ic, o_lc, o_null, o_il, o_ll, o_al, o_dup, o_pop, o_dup_x1, o_dup2, o_iadd, o_isub, o_imul, o_iand, o_ior, o_ixor, o_ishl, o_ishr, o_idiv, o_irem, o_ineg, o_ladd, o_lsub, o_lmul, o_land, o_lor, o_lxor, o_ldiv, o_lrem, o_lneg, o_lcmp, o_i2l, o_l2i, o_i2b, o_i2c, o_iushr, o_lshl, o_lshr, o_if_eq, o_if_ne, o_if_lt, o_if_ge, o_if_gt, o_if_le, o_icmp_eq, o_icmp_ne, o_icmp_lt, o_icmp_ge, o_icmp_gt, o_icmp_le, o_ifnull, o_ifnonnull, o_acmp_eq, o_acmp_ne, o_is, o_ls, o_as, o_iinc, o_kill, o_sw, o_ireturn, o_zreturn, o_nreturn, o_lreturn, o_areturn, o_return, o_athrow, o_call, entP, lg_sl, Value.category, st1, st2, List.set, List.getElem?_cons_zero, List.getElem?_cons_succ, List.foldl, popN, aft]
    cases hp : pl9 P p with
    | none => rw [hp] at kk; exact kk
    | some x => rw [hp] at kk; simp only [h0 x hp] at kk; exact kk
  · rw [hpl] at kk
    simp only [hi] at kk
    subst hp; subst he
    obtain ⟨⟨w1, w2, w3, w4, w5, w6⟩, hPl, -⟩ := h.at hq hx
    obtain ⟨⟨e8, e9, e10, e11, e12⟩, -, -, hS, -⟩ := id hPl
    obtain ⟨s1, s2, s3, s4, s5⟩ := hS j hj
    have l := nds_240 w1
    have b0 : (nds x.1).length < 2147483648 := by omega
    have b1 : q < 2147483648 := by omega
    have b2 : q < 5 := by omega
    have bj : j < 2147483648 := by omega
    have b3 : 32 * q + j < 2147483648 := by omega
    have b4 : 32 * q + j < 160 := by omega
    simp [bX2_sum_11, bX2_sum_56, bX2_sum_64, bX2_sum_83, bX2_sum_102, bX2_sum_117, bX2_sum_170, swR, o_ic, o_lc, o_null, o_il, o_ll, o_al, o_dup, o_pop, o_dup_x1, o_dup2, o_iadd, o_isub, o_imul, o_iand, o_ior, o_ixor, o_ishl, o_ishr, o_idiv, o_irem, o_ineg, o_ladd, o_lsub, o_lmul, o_land, o_lor, o_lxor, o_ldiv, o_lrem, o_lneg, o_lcmp, o_i2l, o_l2i, o_i2b, o_i2c, o_iushr, o_lshl, o_lshr, o_if_eq, o_if_ne, o_if_lt, o_if_ge, o_if_gt, o_if_le, o_icmp_eq, o_icmp_ne, o_icmp_lt, o_icmp_ge, o_icmp_gt, o_icmp_le, o_ifnull, o_ifnonnull, o_acmp_eq, o_acmp_ne, o_is, o_ls, o_as, o_iinc, o_kill, o_sw, o_ireturn, o_zreturn, o_nreturn, o_lreturn, o_areturn, o_return, o_athrow, o_call, entP, lg_sl, Value.category, st1, st2, List.set, List.getElem?_cons_zero, List.getElem?_cons_succ, List.foldl, popN, aft, o_mg, o_mgl, o_mga, o_mp, o_mpz, o_mpl, o_mia, o_mis, o_mbs, o_mc, mput_get, mput_arr, mput_let, mput_put, mset_get, mset_int, mset_let, mputL_get, mputL_arr, mputL_let, mputL_put, i64_8, mLen, vpL, nn_addL, nn_addR, nn_mulL, nn_add, nn_mul, nn_eqL, nn_ltL, nn_leL, nn_Llt, nn_Lle, nn_lt, nn_le, nn_eq, nn_in, nn_clamp, nn_succ, nn_pos, nn_neg1, b1, b2, bj, b3, b4, s1, s2, s3, s4, s5]
    unfold qSum at kk
    refine ⟨fun h1 => ?_, fun h1 => ⟨fun h2 => ?_, fun h2 => ⟨fun h3 => ?_, fun h3 => ⟨fun h4 => ?_, fun h4 => ⟨fun h5 => ?_, fun h5 => ?_⟩⟩⟩⟩⟩
    · simp [*] at kk; exact kk
    · refine m_coded (o := (smA x.1 j).2.1) ?_
      simp [o_ic, o_lc, o_null, o_il, o_ll, o_al, o_dup, o_pop, o_dup_x1, o_dup2, o_iadd, o_isub, o_imul, o_iand, o_ior, o_ixor, o_ishl, o_ishr, o_idiv, o_irem, o_ineg, o_ladd, o_lsub, o_lmul, o_land, o_lor, o_lxor, o_ldiv, o_lrem, o_lneg, o_lcmp, o_i2l, o_l2i, o_i2b, o_i2c, o_iushr, o_lshl, o_lshr, o_if_eq, o_if_ne, o_if_lt, o_if_ge, o_if_gt, o_if_le, o_icmp_eq, o_icmp_ne, o_icmp_lt, o_icmp_ge, o_icmp_gt, o_icmp_le, o_ifnull, o_ifnonnull, o_acmp_eq, o_acmp_ne, o_is, o_ls, o_as, o_iinc, o_kill, o_sw, o_ireturn, o_zreturn, o_nreturn, o_lreturn, o_areturn, o_return, o_athrow, o_call, entP, lg_sl, Value.category, st1, st2, List.set, List.getElem?_cons_zero, List.getElem?_cons_succ, List.foldl, popN, aft]; subst h2; exact kk
    · refine m_coded (o := (smA x.1 j).2.2) ?_
      simp [o_ic, o_lc, o_null, o_il, o_ll, o_al, o_dup, o_pop, o_dup_x1, o_dup2, o_iadd, o_isub, o_imul, o_iand, o_ior, o_ixor, o_ishl, o_ishr, o_idiv, o_irem, o_ineg, o_ladd, o_lsub, o_lmul, o_land, o_lor, o_lxor, o_ldiv, o_lrem, o_lneg, o_lcmp, o_i2l, o_l2i, o_i2b, o_i2c, o_iushr, o_lshl, o_lshr, o_if_eq, o_if_ne, o_if_lt, o_if_ge, o_if_gt, o_if_le, o_icmp_eq, o_icmp_ne, o_icmp_lt, o_icmp_ge, o_icmp_gt, o_icmp_le, o_ifnull, o_ifnonnull, o_acmp_eq, o_acmp_ne, o_is, o_ls, o_as, o_iinc, o_kill, o_sw, o_ireturn, o_zreturn, o_nreturn, o_lreturn, o_areturn, o_return, o_athrow, o_call, entP, lg_sl, Value.category, st1, st2, List.set, List.getElem?_cons_zero, List.getElem?_cons_succ, List.foldl, popN, aft]; subst h3; exact kk
    · refine m_isBold (s := smA x.1 j) b4 s1 ?_
      have kk' : Q (.inl (some (.int (b2i (b9 (boldS (smA x.1 j))) 1)))) ms := by subst h4; exact kk
      simp [bX2_sum_115, bX2_sum_116, o_ic, o_lc, o_null, o_il, o_ll, o_al, o_dup, o_pop, o_dup_x1, o_dup2, o_iadd, o_isub, o_imul, o_iand, o_ior, o_ixor, o_ishl, o_ishr, o_idiv, o_irem, o_ineg, o_ladd, o_lsub, o_lmul, o_land, o_lor, o_lxor, o_ldiv, o_lrem, o_lneg, o_lcmp, o_i2l, o_l2i, o_i2b, o_i2c, o_iushr, o_lshl, o_lshr, o_if_eq, o_if_ne, o_if_lt, o_if_ge, o_if_gt, o_if_le, o_icmp_eq, o_icmp_ne, o_icmp_lt, o_icmp_ge, o_icmp_gt, o_icmp_le, o_ifnull, o_ifnonnull, o_acmp_eq, o_acmp_ne, o_is, o_ls, o_as, o_iinc, o_kill, o_sw, o_ireturn, o_zreturn, o_nreturn, o_lreturn, o_areturn, o_return, o_athrow, o_call, entP, lg_sl, Value.category, st1, st2, List.set, List.getElem?_cons_zero, List.getElem?_cons_succ, List.foldl, popN, aft, o_mg, o_mgl, o_mga, o_mp, o_mpz, o_mpl, o_mia, o_mis, o_mbs, o_mc, b2i_0]
      refine ⟨fun z => ?_, fun z => ?_⟩
      · rw [z] at kk'; exact kk'
      · rw [z] at kk'; exact kk'
    · have kk' : Q (.inl (some (.int (nn (cntT (nds x.1).length (fun k => b9 (wkP x.1 j k))))))) ms := by subst h5; exact kk
      unfold bX2_sum_123
      intro X hX
      have hind : ∀ r a, a + r = (nds x.1).length → X [some (.ref mo), some (.int (nn q)), some (.int (nn j)), none, none, some (.int (nn (cntT a (fun k => b9 (wkP x.1 j k))))), some (.int (nn a))] [] ms := by
        intro r
        induction r with
        | zero =>
          intro a e
          apply hX
          have e' : a = (nds x.1).length := by omega
          subst e'
          simp [bX2_sum_167, o_ic, o_lc, o_null, o_il, o_ll, o_al, o_dup, o_pop, o_dup_x1, o_dup2, o_iadd, o_isub, o_imul, o_iand, o_ior, o_ixor, o_ishl, o_ishr, o_idiv, o_irem, o_ineg, o_ladd, o_lsub, o_lmul, o_land, o_lor, o_lxor, o_ldiv, o_lrem, o_lneg, o_lcmp, o_i2l, o_l2i, o_i2b, o_i2c, o_iushr, o_lshl, o_lshr, o_if_eq, o_if_ne, o_if_lt, o_if_ge, o_if_gt, o_if_le, o_icmp_eq, o_icmp_ne, o_icmp_lt, o_icmp_ge, o_icmp_gt, o_icmp_le, o_ifnull, o_ifnonnull, o_acmp_eq, o_acmp_ne, o_is, o_ls, o_as, o_iinc, o_kill, o_sw, o_ireturn, o_zreturn, o_nreturn, o_lreturn, o_areturn, o_return, o_athrow, o_call, entP, lg_sl, Value.category, st1, st2, List.set, List.getElem?_cons_zero, List.getElem?_cons_succ, List.foldl, popN, aft, o_mg, o_mgl, o_mga, o_mp, o_mpz, o_mpl, o_mia, o_mis, o_mbs, o_mc, mput_get, mput_arr, mput_let, mput_put, mset_get, mset_int, mset_let, mputL_get, mputL_arr, mputL_let, mputL_put, i64_8, mLen, vpL, nn_addL, nn_addR, nn_mulL, nn_add, nn_mul, nn_eqL, nn_ltL, nn_leL, nn_Llt, nn_Lle, nn_lt, nn_le, nn_eq, nn_in, nn_clamp, nn_succ, nn_pos, nn_neg1, b1, b2, e10, b0]
          exact kk'
        | succ r ih =>
          intro a e
          apply hX
          have ha : a < (nds x.1).length := by omega
          have b5 : a < 2147483648 := by omega
          have b6 : 240 * q + a < 2147483648 := by omega
          have b7 : 240 * q + a < 1200 := by omega
          have b8 : ¬ (nds x.1).length ≤ a := by omega
          obtain ⟨⟨d1, d2, d3, d4, -⟩, dok⟩ := hPl.nd w1 w2 ha
          have q1 : onn (nSm (ndA (nds x.1) a)) = nn j ↔ wkP x.1 j a := by
            unfold wkP
            cases hs : nSm (ndA (nds x.1) a) with
            | none => simp only [onn]; constructor
                      · intro z; exact ((nn_neg1 bj).1 z.symm).elim
                      · intro z; cases z
            | some t =>
              have := dok.2.2.2.1 t hs
              simp only [onn]; rw [nn_eq (by omega) bj]; simp
          have hi' := ih (a + 1) (by omega)
          rw [cntT_succ] at hi'
          simp [bX2_sum_157, bX2_sum_158, o_ic, o_lc, o_null, o_il, o_ll, o_al, o_dup, o_pop, o_dup_x1, o_dup2, o_iadd, o_isub, o_imul, o_iand, o_ior, o_ixor, o_ishl, o_ishr, o_idiv, o_irem, o_ineg, o_ladd, o_lsub, o_lmul, o_land, o_lor, o_lxor, o_ldiv, o_lrem, o_lneg, o_lcmp, o_i2l, o_l2i, o_i2b, o_i2c, o_iushr, o_lshl, o_lshr, o_if_eq, o_if_ne, o_if_lt, o_if_ge, o_if_gt, o_if_le, o_icmp_eq, o_icmp_ne, o_icmp_lt, o_icmp_ge, o_icmp_gt, o_icmp_le, o_ifnull, o_ifnonnull, o_acmp_eq, o_acmp_ne, o_is, o_ls, o_as, o_iinc, o_kill, o_sw, o_ireturn, o_zreturn, o_nreturn, o_lreturn, o_areturn, o_return, o_athrow, o_call, entP, lg_sl, Value.category, st1, st2, List.set, List.getElem?_cons_zero, List.getElem?_cons_succ, List.foldl, popN, aft, o_mg, o_mgl, o_mga, o_mp, o_mpz, o_mpl, o_mia, o_mis, o_mbs, o_mc, mput_get, mput_arr, mput_let, mput_put, mset_get, mset_int, mset_let, mputL_get, mputL_arr, mputL_let, mputL_put, i64_8, mLen, vpL, nn_addL, nn_addR, nn_mulL, nn_add, nn_mul, nn_eqL, nn_ltL, nn_leL, nn_Llt, nn_Lle, nn_lt, nn_le, nn_eq, nn_in, nn_clamp, nn_succ, nn_pos, nn_neg1, b1, b2, e10, b0, b5, b6, b7, b8, ha, d4, q1]
          refine ⟨fun z => ?_, fun z => ?_⟩
          · rw [if_neg (by rw [b9_not.2 z]; simp)] at hi'; exact hi'
          · rw [if_pos (b9_iff.2 z)] at hi'; exact hi'
      exact hind (nds x.1).length 0 (by omega)
    · have : ¬ w = 0 ∧ ¬ w = 1 ∧ ¬ w = 2 ∧ ¬ w = 3 ∧ ¬ w = 4 := ⟨h1, h2, h3, h4, h5⟩
      simp [*] at kk; exact kk
