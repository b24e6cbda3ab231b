/-! THE MODEL's reader, with faults: one state for both -/
set_option maxRecDepth 100000
def PM (tp : Nat → Nat) (td : Nat) (r : Except Flt Nat) (ms : MS) : Prop := match r with
  | .ok f => TokM ms tp td f ∧ ms.1 32 = 0
  | .error e => BadM ms e
def PMo (tp : Nat → Nat) (td : Nat) (r : Except Flt (Opd × Nat)) (ms : MS) : Prop := match r with
  | .ok ((n, v), g) => TokM ms tp td g ∧ ms.1 32 = 0 ∧ ms.1 35 = n ∧ ms.1 36 = v
  | .error e => BadM ms e
theorem x_take {mo : Nat} {Q : Ret MS} {tp : Nat → Nat} {td : Nat} {ms : MS} {r : Except Flt Nat} {c : Nat} (hT : TapeM ms tp td) (hp : PM tp td r ms) (hc : c < 2147483648)
    (k : ∀ ms', FrK [32, 33] ms ms' → PM tp td (r.bind (fun f => sgx tp td f c)) ms' → Q (.inl none) ms') : pX2_take mo [.ref mo, .int (nn c)] ms Q := by
  cases r with
  | ok f =>
    refine m_take hT hp.1 hp.2 hc (fun ms' h => k ms' h.1 ?_)
    have h2 := h.2
    show PM tp td (sgx tp td f c) ms'
    cases h3 : sgx tp td f c with
    | ok g => rw [h3] at h2; exact h2
    | error e => rw [h3] at h2; exact h2
  | error e => exact m_takeB (tp := tp) (td := td) hp (k ms FrK.rfl9 hp)
theorem m_operandB {mo : Nat} {Q : Ret MS} {ms : MS} {e : Flt} (hb : BadM ms e) (k : Q (.inl none) ms) : pX2_operand mo [.ref mo] ms Q := by
  obtain ⟨h1, h2, h3, h4⟩ := hb
  have b1 : e.1 < 2147483648 := by omega
  simp [pX2_operand, bX2_operand_0, o_ic, o_lc, o_null, o_il, o_ll, o_al, o_dup, o_pop, o_dup_x1, o_dup2, o_iadd, o_isub, o_imul, o_iand, o_ior, o_ixor, o_ishl, o_ishr, o_idiv, o_irem, o_ineg, o_ladd, o_lsub, o_lmul, o_land, o_lor, o_lxor, o_ldiv, o_lrem, o_lneg, o_lcmp, o_i2l, o_l2i, o_i2b, o_i2c, o_iushr, o_lshl, o_lshr, o_if_eq, o_if_ne, o_if_lt, o_if_ge, o_if_gt, o_if_le, o_icmp_eq, o_icmp_ne, o_icmp_lt, o_icmp_ge, o_icmp_gt, o_icmp_le, o_ifnull, o_ifnonnull, o_acmp_eq, o_acmp_ne, o_is, o_ls, o_as, o_iinc, o_kill, o_sw, o_ireturn, o_zreturn, o_nreturn, o_lreturn, o_areturn, o_return, o_athrow, o_call, entP, lg_sl, Value.category, st1, st2, List.set, List.getElem?_cons_zero, List.getElem?_cons_succ, List.foldl, popN, aft, o_mg, o_mgl, o_mga, o_mp, o_mpz, o_mpl, o_mia, o_mis, o_mbs, o_mc, mput_get, mput_arr, mput_let, mput_put, mset_get, mset_int, mset_let, mputL_get, mputL_arr, mputL_let, mputL_put, i64_8, mLen, nn_eqL, nn_ltL, nn_leL, nn_Llt, nn_Lle, nn_lt, nn_le, nn_eq, nn_in, nn_clamp, nn_succ, nn_pos, nn_neg1, h1, b1]
  exact ⟨fun h => by omega, fun _ => k⟩
theorem x_operand {mo : Nat} {Q : Ret MS} {tp : Nat → Nat} {td : Nat} {ms : MS} {r : Except Flt Nat} (hT : TapeM ms tp td) (hp : PM tp td r ms)
    (k : ∀ ms', FrK ksO ms ms' → PMo tp td (r.bind (opnd tp td)) ms' → Q (.inl none) ms') : pX2_operand mo [.ref mo] ms Q := by
  cases r with
  | ok f =>
    refine m_operand hT hp.1 hp.2 (fun ms' h => k ms' h.1 ?_)
    have h2 := h.2
    show PMo tp td (opnd tp td f) ms'
    cases h3 : opnd tp td f with
    | ok g => rw [h3] at h2; exact h2
    | error e => rw [h3] at h2; exact h2
  | error e => exact m_operandB hp (k ms FrK.rfl9 hp)
/-- with the names of blocks -/
def PMb (tp : Nat → Nat) (td : Nat) (l : List (Nat × Nat)) (f : Nat) (r : Except Flt (Nat × Nat)) (v : Int32) (ms : MS) : Prop := match r with
  | .ok (b, g) => v = nn b ∧ TokM ms tp td g ∧ ms.1 32 = 0 ∧ NmM ms (l ++ [(f, b)])
  | .error e => BadM ms e
theorem m_blockB {mo : Nat} {Q : Ret MS} {ms : MS} {e : Flt} (hb : BadM ms e) (k : Q (.inl (some (.int 0))) ms) : pX2_block mo [.ref mo] ms Q := by
  obtain ⟨h1, h2, h3, h4⟩ := hb
  have b1 : e.1 < 2147483648 := by omega
  simp [pX2_block, bX2_block_0, o_ic, o_lc, o_null, o_il, o_ll, o_al, o_dup, o_pop, o_dup_x1, o_dup2, o_iadd, o_isub, o_imul, o_iand, o_ior, o_ixor, o_ishl, o_ishr, o_idiv, o_irem, o_ineg, o_ladd, o_lsub, o_lmul, o_land, o_lor, o_lxor, o_ldiv, o_lrem, o_lneg, o_lcmp, o_i2l, o_l2i, o_i2b, o_i2c, o_iushr, o_lshl, o_lshr, o_if_eq, o_if_ne, o_if_lt, o_if_ge, o_if_gt, o_if_le, o_icmp_eq, o_icmp_ne, o_icmp_lt, o_icmp_ge, o_icmp_gt, o_icmp_le, o_ifnull, o_ifnonnull, o_acmp_eq, o_acmp_ne, o_is, o_ls, o_as, o_iinc, o_kill, o_sw, o_ireturn, o_zreturn, o_nreturn, o_lreturn, o_areturn, o_return, o_athrow, o_call, entP, lg_sl, Value.category, st1, st2, List.set, List.getElem?_cons_zero, List.getElem?_cons_succ, List.foldl, popN, aft, o_mg, o_mgl, o_mga, o_mp, o_mpz, o_mpl, o_mia, o_mis, o_mbs, o_mc, mput_get, mput_arr, mput_let, mput_put, mset_get, mset_int, mset_let, mputL_get, mputL_arr, mputL_let, mputL_put, i64_8, mLen, nn_eqL, nn_ltL, nn_leL, nn_Llt, nn_Lle, nn_lt, nn_le, nn_eq, nn_in, nn_clamp, nn_succ, nn_pos, nn_neg1, h1, b1]
  exact ⟨fun h => by omega, fun _ => k⟩
/-- the node n's array places, in the new routine -/
def PN (n : Nat) (ks : List Nat) : Nat → Nat → Prop := fun k i => k ∈ ks ∧ i = n
/-- first, second: an operand into two arrays -/
theorem x_first {mo : Nat} {Q : Ret MS} {tp : Nat → Nat} {td : Nat} {ms : MS} {r : Except Flt Nat} {n : Nat} (hn : n < 1200) (hT : TapeM ms tp td) (hp : PM tp td r ms)
    (k : ∀ ms', FrG (PN n [21, 22]) ksO ms ms' → PMo tp td (r.bind (opnd tp td)) ms' → (∀ o g, r.bind (opnd tp td) = .ok (o, g) → ms'.2.2 21 n = o.1 ∧ ms'.2.2 22 n = o.2) → Q (.inl none) ms') : pX2_first mo [.ref mo, .int (nn n)] ms Q := by
  have b1 : n < 2147483648 := by omega
  simp [pX2_first, bX2_first_0, o_ic, o_lc, o_null, o_il, o_ll, o_al, o_dup, o_pop, o_dup_x1, o_dup2, o_iadd, o_isub, o_imul, o_iand, o_ior, o_ixor, o_ishl, o_ishr, o_idiv, o_irem, o_ineg, o_ladd, o_lsub, o_lmul, o_land, o_lor, o_lxor, o_ldiv, o_lrem, o_lneg, o_lcmp, o_i2l, o_l2i, o_i2b, o_i2c, o_iushr, o_lshl, o_lshr, o_if_eq, o_if_ne, o_if_lt, o_if_ge, o_if_gt, o_if_le, o_icmp_eq, o_icmp_ne, o_icmp_lt, o_icmp_ge, o_icmp_gt, o_icmp_le, o_ifnull, o_ifnonnull, o_acmp_eq, o_acmp_ne, o_is, o_ls, o_as, o_iinc, o_kill, o_sw, o_ireturn, o_zreturn, o_nreturn, o_lreturn, o_areturn, o_return, o_athrow, o_call, entP, lg_sl, Value.category, st1, st2, List.set, List.getElem?_cons_zero, List.getElem?_cons_succ, List.foldl, popN, aft, o_mg, o_mgl, o_mga, o_mp, o_mpz, o_mpl, o_mia, o_mis, o_mbs, o_mc, mput_get, mput_arr, mput_let, mput_put, mset_get, mset_int, mset_let, mputL_get, mputL_arr, mputL_let, mputL_put, i64_8, mLen]
  refine x_operand hT hp (fun ms1 hf h1 => ?_)
  simp [o_ic, o_lc, o_null, o_il, o_ll, o_al, o_dup, o_pop, o_dup_x1, o_dup2, o_iadd, o_isub, o_imul, o_iand, o_ior, o_ixor, o_ishl, o_ishr, o_idiv, o_irem, o_ineg, o_ladd, o_lsub, o_lmul, o_land, o_lor, o_lxor, o_ldiv, o_lrem, o_lneg, o_lcmp, o_i2l, o_l2i, o_i2b, o_i2c, o_iushr, o_lshl, o_lshr, o_if_eq, o_if_ne, o_if_lt, o_if_ge, o_if_gt, o_if_le, o_icmp_eq, o_icmp_ne, o_icmp_lt, o_icmp_ge, o_icmp_gt, o_icmp_le, o_ifnull, o_ifnonnull, o_acmp_eq, o_acmp_ne, o_is, o_ls, o_as, o_iinc, o_kill, o_sw, o_ireturn, o_zreturn, o_nreturn, o_lreturn, o_areturn, o_return, o_athrow, o_call, entP, lg_sl, Value.category, st1, st2, List.set, List.getElem?_cons_zero, List.getElem?_cons_succ, List.foldl, popN, aft, o_mg, o_mgl, o_mga, o_mp, o_mpz, o_mpl, o_mia, o_mis, o_mbs, o_mc, mput_get, mput_arr, mput_let, mput_put, mset_get, mset_int, mset_let, mputL_get, mputL_arr, mputL_let, mputL_put, i64_8, mLen, nn_eqL, nn_ltL, nn_leL, nn_Llt, nn_Lle, nn_lt, nn_le, nn_eq, nn_in, nn_clamp, nn_succ, nn_pos, nn_neg1, b1, hn]
  refine k _ ((hf.G.set ⟨by simp, rfl⟩).set ⟨by simp, rfl⟩) ?_ (fun o g ho => ?_)
  · cases h3 : r.bind (opnd tp td) with
    | ok x => rw [h3] at h1; exact h1
    | error e => rw [h3] at h1; exact h1
  · rw [ho] at h1
    simp [mput_get, mput_arr, mput_let, mput_put, mset_get, mset_int, mset_let, mputL_get, mputL_arr, mputL_let, mputL_put, i64_8, mLen]
    exact ⟨h1.2.2.1, h1.2.2.2⟩
theorem x_second {mo : Nat} {Q : Ret MS} {tp : Nat → Nat} {td : Nat} {ms : MS} {r : Except Flt Nat} {n : Nat} (hn : n < 1200) (hT : TapeM ms tp td) (hp : PM tp td r ms)
    (k : ∀ ms', FrG (PN n [23, 24]) ksO ms ms' → PMo tp td (r.bind (opnd tp td)) ms' → (∀ o g, r.bind (opnd tp td) = .ok (o, g) → ms'.2.2 23 n = o.1 ∧ ms'.2.2 24 n = o.2) → Q (.inl none) ms') : pX2_second mo [.ref mo, .int (nn n)] ms Q := by
  have b1 : n < 2147483648 := by omega
  simp [pX2_second, bX2_second_0, o_ic, o_lc, o_null, o_il, o_ll, o_al, o_dup, o_pop, o_dup_x1, o_dup2, o_iadd, o_isub, o_imul, o_iand, o_ior, o_ixor, o_ishl, o_ishr, o_idiv, o_irem, o_ineg, o_ladd, o_lsub, o_lmul, o_land, o_lor, o_lxor, o_ldiv, o_lrem, o_lneg, o_lcmp, o_i2l, o_l2i, o_i2b, o_i2c, o_iushr, o_lshl, o_lshr, o_if_eq, o_if_ne, o_if_lt, o_if_ge, o_if_gt, o_if_le, o_icmp_eq, o_icmp_ne, o_icmp_lt, o_icmp_ge, o_icmp_gt, o_icmp_le, o_ifnull, o_ifnonnull, o_acmp_eq, o_acmp_ne, o_is, o_ls, o_as, o_iinc, o_kill, o_sw, o_ireturn, o_zreturn, o_nreturn, o_lreturn, o_areturn, o_return, o_athrow, o_call, entP, lg_sl, Value.category, st1, st2, List.set, List.getElem?_cons_zero, List.getElem?_cons_succ, List.foldl, popN, aft, o_mg, o_mgl, o_mga, o_mp, o_mpz, o_mpl, o_mia, o_mis, o_mbs, o_mc, mput_get, mput_arr, mput_let, mput_put, mset_get, mset_int, mset_let, mputL_get, mputL_arr, mputL_let, mputL_put, i64_8, mLen]
  refine x_operand hT hp (fun ms1 hf h1 => ?_)
  simp [o_ic, o_lc, o_null, o_il, o_ll, o_al, o_dup, o_pop, o_dup_x1, o_dup2, o_iadd, o_isub, o_imul, o_iand, o_ior, o_ixor, o_ishl, o_ishr, o_idiv, o_irem, o_ineg, o_ladd, o_lsub, o_lmul, o_land, o_lor, o_lxor, o_ldiv, o_lrem, o_lneg, o_lcmp, o_i2l, o_l2i, o_i2b, o_i2c, o_iushr, o_lshl, o_lshr, o_if_eq, o_if_ne, o_if_lt, o_if_ge, o_if_gt, o_if_le, o_icmp_eq, o_icmp_ne, o_icmp_lt, o_icmp_ge, o_icmp_gt, o_icmp_le, o_ifnull, o_ifnonnull, o_acmp_eq, o_acmp_ne, o_is, o_ls, o_as, o_iinc, o_kill, o_sw, o_ireturn, o_zreturn, o_nreturn, o_lreturn, o_areturn, o_return, o_athrow, o_call, entP, lg_sl, Value.category, st1, st2, List.set, List.getElem?_cons_zero, List.getElem?_cons_succ, List.foldl, popN, aft, o_mg, o_mgl, o_mga, o_mp, o_mpz, o_mpl, o_mia, o_mis, o_mbs, o_mc, mput_get, mput_arr, mput_let, mput_put, mset_get, mset_int, mset_let, mputL_get, mputL_arr, mputL_let, mputL_put, i64_8, mLen, nn_eqL, nn_ltL, nn_leL, nn_Llt, nn_Lle, nn_lt, nn_le, nn_eq, nn_in, nn_clamp, nn_succ, nn_pos, nn_neg1, b1, hn]
  refine k _ ((hf.G.set ⟨by simp, rfl⟩).set ⟨by simp, rfl⟩) ?_ (fun o g ho => ?_)
  · cases h3 : r.bind (opnd tp td) with
    | ok x => rw [h3] at h1; exact h1
    | error e => rw [h3] at h1; exact h1
  · rw [ho] at h1
    simp [mput_get, mput_arr, mput_let, mput_put, mset_get, mset_int, mset_let, mputL_get, mputL_arr, mputL_let, mputL_put, i64_8, mLen]
    exact ⟨h1.2.2.1, h1.2.2.2⟩
