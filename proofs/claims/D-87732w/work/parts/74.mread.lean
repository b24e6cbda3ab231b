/-! THE MODEL reads a routine -/
set_option maxRecDepth 100000
def rdR (tp : Nat → Nat) (td : Nat) : Except Flt Rt := (blks tp td 41 (skp tp td 0) 0 0).map (fun bs => bs.foldl addB ([], []))
/-- what a read leaves -/
def AfR (ms : MS) (r : Except Flt Rt) : Prop := match r with
  | .ok R => ms.1 32 = 0 ∧ RdM ms R.1 R.2 ∧ (nmz R.1).length ≤ 2 * R.2.length
  | .error e => BadM ms e
theorem x_blks {mo : Nat} {Q : Ret MS} {tp : Nat → Nat} {td : Nat} {pv : Option Value} : ∀ n (R : Rt) f ms, n + R.2.length = 41 → TapeM ms tp td → TokM ms tp td f → ms.1 32 = 0 → srt tp td f ≠ 0 → RdM ms R.1 R.2 → (nmz R.1).length ≤ 2 * R.2.length →
    (∀ ms', FrG PB ksL ms ms' → AfR ms' ((blks tp td n f R.2.length R.1.length).map (fun bs => bs.foldl addB R)) → bX2_parse_95 mo Q [some (.ref mo), pv, none] [] ms') → bX2_parse_74 mo Q [some (.ref mo), pv, none] [] ms := by
  intro n R f ms
  unfold bX2_parse_74
  intro h1 h2 h3 h4 h5 h6 h7 k X hX
  revert n R f ms
  intro n
  induction n with
  | zero => intro R f ms h1 h2 h3 h4 h5 h6 h7 k; have := h6.2.2.2.2.2.2.2; omega
  | succ n ih =>
    intro R f ms h1 hT hk hb hs hR hz k
    apply hX
    have b1 : srt tp td f < 2147483648 := by have := srt_lt tp td f; omega
    simp [o_ic, o_lc, o_null, o_il, o_ll, o_al, o_dup, o_pop, o_dup_x1, o_dup2, o_iadd, o_isub, o_imul, o_iand, o_ior, o_ixor, o_ishl, o_ishr, o_idiv, o_irem, o_ineg, o_ladd, o_lsub, o_lmul, o_land, o_lor, o_lxor, o_ldiv, o_lrem, o_lneg, o_lcmp, o_i2l, o_l2i, o_i2b, o_i2c, o_iushr, o_lshl, o_lshr, o_if_eq, o_if_ne, o_if_lt, o_if_ge, o_if_gt, o_if_le, o_icmp_eq, o_icmp_ne, o_icmp_lt, o_icmp_ge, o_icmp_gt, o_icmp_le, o_ifnull, o_ifnonnull, o_acmp_eq, o_acmp_ne, o_is, o_ls, o_as, o_iinc, o_kill, o_sw, o_ireturn, o_zreturn, o_nreturn, o_lreturn, o_areturn, o_return, o_athrow, o_call, entP, lg_sl, Value.category, st1, st2, List.set, List.getElem?_cons_zero, List.getElem?_cons_succ, List.foldl, popN, aft, o_mg, o_mgl, o_mga, o_mp, o_mpz, o_mpl, o_mia, o_mis, o_mbs, o_mc, mput_get, mput_arr, mput_let, mput_put, mset_get, mset_int, mset_let, mputL_get, mputL_arr, mputL_let, mputL_put, i64_8, mLen, hb, hk.2.2.2.1, vpL, nn_addL, nn_addR, nn_mulL, nn_add, nn_mul, nn_eqL, nn_ltL, nn_leL, nn_Llt, nn_Lle, nn_lt, nn_le, nn_eq, nn_in, nn_clamp, nn_succ, nn_pos, nn_neg1, b1, hs]
    refine x_readBlock hT hk hb hR hz (fun ms' fr p h => ?_)
    simp [o_ic, o_lc, o_null, o_il, o_ll, o_al, o_dup, o_pop, o_dup_x1, o_dup2, o_iadd, o_isub, o_imul, o_iand, o_ior, o_ixor, o_ishl, o_ishr, o_idiv, o_irem, o_ineg, o_ladd, o_lsub, o_lmul, o_land, o_lor, o_lxor, o_ldiv, o_lrem, o_lneg, o_lcmp, o_i2l, o_l2i, o_i2b, o_i2c, o_iushr, o_lshl, o_lshr, o_if_eq, o_if_ne, o_if_lt, o_if_ge, o_if_gt, o_if_le, o_icmp_eq, o_icmp_ne, o_icmp_lt, o_icmp_ge, o_icmp_gt, o_icmp_le, o_ifnull, o_ifnonnull, o_acmp_eq, o_acmp_ne, o_is, o_ls, o_as, o_iinc, o_kill, o_sw, o_ireturn, o_zreturn, o_nreturn, o_lreturn, o_areturn, o_return, o_athrow, o_call, entP, lg_sl, Value.category, st1, st2, List.set, List.getElem?_cons_zero, List.getElem?_cons_succ, List.foldl, popN, aft, o_mg, o_mgl, o_mga, o_mp, o_mpz, o_mpl, o_mia, o_mis, o_mbs, o_mc, mput_get, mput_arr, mput_let, mput_put, mset_get, mset_int, mset_let, mputL_get, mputL_arr, mputL_let, mputL_put, i64_8, mLen]
    unfold blks at k
    cases h9 : blk tp td f R.2.length R.1.length with
    | error e =>
      rw [h9] at k p
      have p' : BadM ms' e := p
      obtain ⟨q1, q2, q3, q4⟩ := p'.ne
      apply hX
      simp [o_ic, o_lc, o_null, o_il, o_ll, o_al, o_dup, o_pop, o_dup_x1, o_dup2, o_iadd, o_isub, o_imul, o_iand, o_ior, o_ixor, o_ishl, o_ishr, o_idiv, o_irem, o_ineg, o_ladd, o_lsub, o_lmul, o_land, o_lor, o_lxor, o_ldiv, o_lrem, o_lneg, o_lcmp, o_i2l, o_l2i, o_i2b, o_i2c, o_iushr, o_lshl, o_lshr, o_if_eq, o_if_ne, o_if_lt, o_if_ge, o_if_gt, o_if_le, o_icmp_eq, o_icmp_ne, o_icmp_lt, o_icmp_ge, o_icmp_gt, o_icmp_le, o_ifnull, o_ifnonnull, o_acmp_eq, o_acmp_ne, o_is, o_ls, o_as, o_iinc, o_kill, o_sw, o_ireturn, o_zreturn, o_nreturn, o_lreturn, o_areturn, o_return, o_athrow, o_call, entP, lg_sl, Value.category, st1, st2, List.set, List.getElem?_cons_zero, List.getElem?_cons_succ, List.foldl, popN, aft, o_mg, o_mgl, o_mga, o_mp, o_mpz, o_mpl, o_mia, o_mis, o_mbs, o_mc, mput_get, mput_arr, mput_let, mput_put, mset_get, mset_int, mset_let, mputL_get, mputL_arr, mputL_let, mputL_put, i64_8, mLen, q1, vpL, nn_addL, nn_addR, nn_mulL, nn_add, nn_mul, nn_eqL, nn_ltL, nn_leL, nn_Llt, nn_Lle, nn_lt, nn_le, nn_eq, nn_in, nn_clamp, nn_succ, nn_pos, nn_neg1, q2, q3]
      exact k ms' fr p'
    | ok x =>
      rw [h9] at k p
      obtain ⟨e1, e2, e3⟩ := h x.1 x.2 h9
      have p' : TokM ms' tp td x.2 ∧ ms'.1 32 = 0 := p
      have hl : (addB R x.1).2.length = R.2.length + 1 := by simp [addB]
      have hl2 : (addB R x.1).1.length = R.1.length + x.1.2.length := by simp [addB]
      by_cases h0 : srt tp td x.2 = 0
      · apply hX
        have k4 := p'.1.2.2.2.1
        rw [h0] at k4
        simp [o_ic, o_lc, o_null, o_il, o_ll, o_al, o_dup, o_pop, o_dup_x1, o_dup2, o_iadd, o_isub, o_imul, o_iand, o_ior, o_ixor, o_ishl, o_ishr, o_idiv, o_irem, o_ineg, o_ladd, o_lsub, o_lmul, o_land, o_lor, o_lxor, o_ldiv, o_lrem, o_lneg, o_lcmp, o_i2l, o_l2i, o_i2b, o_i2c, o_iushr, o_lshl, o_lshr, o_if_eq, o_if_ne, o_if_lt, o_if_ge, o_if_gt, o_if_le, o_icmp_eq, o_icmp_ne, o_icmp_lt, o_icmp_ge, o_icmp_gt, o_icmp_le, o_ifnull, o_ifnonnull, o_acmp_eq, o_acmp_ne, o_is, o_ls, o_as, o_iinc, o_kill, o_sw, o_ireturn, o_zreturn, o_nreturn, o_lreturn, o_areturn, o_return, o_athrow, o_call, entP, lg_sl, Value.category, st1, st2, List.set, List.getElem?_cons_zero, List.getElem?_cons_succ, List.foldl, popN, aft, o_mg, o_mgl, o_mga, o_mp, o_mpz, o_mpl, o_mia, o_mis, o_mbs, o_mc, mput_get, mput_arr, mput_let, mput_put, mset_get, mset_int, mset_let, mputL_get, mputL_arr, mputL_let, mputL_put, i64_8, mLen, p'.2, k4, nn]
        refine k ms' fr ?_
        have : (Except.ok x >>= fun __x => match __x with | (b, g) => if srt tp td g = 0 then Except.ok [b] else (blks tp td n g (R.2.length + 1) (R.1.length + b.2.length)) >>= fun bs => Except.ok (b :: bs) : Except Flt (List Blk)) = .ok [x.1] := by
          show (if srt tp td x.2 = 0 then _ else _) = _
          rw [if_pos h0]
        rw [this]
        exact ⟨p'.2, e1, e2⟩
      · refine ih (addB R x.1) x.2 ms' (by rw [hl]; omega) (fr.tape (by simp) (by simp [PB]) hT) p'.1 p'.2 h0 e1 e2 (fun ms2 f2 a2 => k ms2 (fr.trans f2) ?_)
        have : (Except.ok x >>= fun __x => match __x with | (b, g) => if srt tp td g = 0 then Except.ok [b] else (blks tp td n g (R.2.length + 1) (R.1.length + b.2.length)) >>= fun bs => Except.ok (b :: bs) : Except Flt (List Blk)) = (blks tp td n x.2 (R.2.length + 1) (R.1.length + x.1.2.length)).bind (fun bs => .ok (x.1 :: bs)) := by
          show (if srt tp td x.2 = 0 then _ else _) = _
          rw [if_neg h0]; rfl
        rw [this]
        rw [hl, hl2] at a2
        cases h5 : blks tp td n x.2 (R.2.length + 1) (R.1.length + x.1.2.length) with
        | error e => rw [h5] at a2; exact a2
        | ok bs => rw [h5] at a2; exact a2
theorem RdM_nil {ms : MS} (h9 : ms.2.2 9 4 = 0) (h10 : ms.2.2 10 4 = 0) (h12 : ms.2.2 12 4 = 0) (h38 : ms.1 38 = 0) (h41 : ms.1 41 = 0) : RdM ms [] [] := by
  refine ⟨h10, h9, fun k x hx => by simp at hx, fun b h hb => by simp at hb, ⟨h12, ?_, fun e s _ hs => by simp [sms] at hs⟩, ⟨h41, fun i x hx => by simp [nmz] at hx⟩, by simp, by simp⟩
  rw [h38]; rfl
/-- parse up to what is read -/
theorem x_parse1 {mo : Nat} {Q : Ret MS} {tp : Nat → Nat} {td : Nat} {ms : MS} {p : Nat} (hp : p < 4) (hT : TapeM ms tp td)
    (k : ∀ ms', FrG PB ksL ms ms' → AfR ms' (rdR tp td) → bX2_parse_95 mo Q [some (.ref mo), some (.int (nn p)), none] [] ms') : pX2_parse mo [.ref mo, .int (nn p)] ms Q := by
  have b1 : p < 2147483648 := by omega
  simp [pX2_parse, bX2_parse_0, o_ic, o_lc, o_null, o_il, o_ll, o_al, o_dup, o_pop, o_dup_x1, o_dup2, o_iadd, o_isub, o_imul, o_iand, o_ior, o_ixor, o_ishl, o_ishr, o_idiv, o_irem, o_ineg, o_ladd, o_lsub, o_lmul, o_land, o_lor, o_lxor, o_ldiv, o_lrem, o_lneg, o_lcmp, o_i2l, o_l2i, o_i2b, o_i2c, o_iushr, o_lshl, o_lshr, o_if_eq, o_if_ne, o_if_lt, o_if_ge, o_if_gt, o_if_le, o_icmp_eq, o_icmp_ne, o_icmp_lt, o_icmp_ge, o_icmp_gt, o_icmp_le, o_ifnull, o_ifnonnull, o_acmp_eq, o_acmp_ne, o_is, o_ls, o_as, o_iinc, o_kill, o_sw, o_ireturn, o_zreturn, o_nreturn, o_lreturn, o_areturn, o_return, o_athrow, o_call, entP, lg_sl, Value.category, st1, st2, List.set, List.getElem?_cons_zero, List.getElem?_cons_succ, List.foldl, popN, aft, o_mg, o_mgl, o_mga, o_mp, o_mpz, o_mpl, o_mia, o_mis, o_mbs, o_mc, mput_get, mput_arr, mput_let, mput_put, mset_get, mset_int, mset_let, mputL_get, mputL_arr, mputL_let, mputL_put, i64_8, mLen, vpL, nn_addL, nn_addR, nn_mulL, nn_add, nn_mul, nn_eqL, nn_ltL, nn_leL, nn_Llt, nn_Lle, nn_lt, nn_le, nn_eq, nn_in, nn_clamp, nn_succ, nn_pos, nn_neg1, b1]
  refine ⟨fun _ => ?_, fun h => by omega⟩
  simp [bX2_parse_11, o_ic, o_lc, o_null, o_il, o_ll, o_al, o_dup, o_pop, o_dup_x1, o_dup2, o_iadd, o_isub, o_imul, o_iand, o_ior, o_ixor, o_ishl, o_ishr, o_idiv, o_irem, o_ineg, o_ladd, o_lsub, o_lmul, o_land, o_lor, o_lxor, o_ldiv, o_lrem, o_lneg, o_lcmp, o_i2l, o_l2i, o_i2b, o_i2c, o_iushr, o_lshl, o_lshr, o_if_eq, o_if_ne, o_if_lt, o_if_ge, o_if_gt, o_if_le, o_icmp_eq, o_icmp_ne, o_icmp_lt, o_icmp_ge, o_icmp_gt, o_icmp_le, o_ifnull, o_ifnonnull, o_acmp_eq, o_acmp_ne, o_is, o_ls, o_as, o_iinc, o_kill, o_sw, o_ireturn, o_zreturn, o_nreturn, o_lreturn, o_areturn, o_return, o_athrow, o_call, entP, lg_sl, Value.category, st1, st2, List.set, List.getElem?_cons_zero, List.getElem?_cons_succ, List.foldl, popN, aft, o_mg, o_mgl, o_mga, o_mp, o_mpz, o_mpl, o_mia, o_mis, o_mbs, o_mc, mput_get, mput_arr, mput_let, mput_put, mset_get, mset_int, mset_let, mputL_get, mputL_arr, mputL_let, mputL_put, i64_8, mLen, vpL, nn_addL, nn_addR, nn_mulL, nn_add, nn_mul, nn_eqL, nn_ltL, nn_leL, nn_Llt, nn_Lle, nn_lt, nn_le, nn_eq, nn_in, nn_clamp, nn_succ, nn_pos, nn_neg1]
  generalize hm1 : mput (mput (mput (mput (mset (mset (mset ms 9 4 0) 10 4 0) 12 4 0) 41 0) 32 0) 38 0) 4 0 = ms1
  have fr1 : FrG PB (4 :: ksL) ms ms1 := by
    rw [← hm1]
    refine FrG.put (FrG.put (FrG.put (FrG.put (FrG.set (FrG.set (FrG.set FrG.rfl9 ?_) ?_) ?_) ?_) ?_) ?_) ?_
    all_goals first | simp | (unfold PB; omega)
  have hT1 : TapeM ms1 tp td := fr1.tape (by simp) (by simp [PB]) hT
  have e4 : ms1.1 4 = nn 0 := by rw [← hm1]; simp [mput_get, mput_arr, mput_let, mput_put, mset_get, mset_int, mset_let, mputL_get, mputL_arr, mputL_let, mputL_put, i64_8, mLen]; rfl
  have eb : ms1.1 32 = 0 := by rw [← hm1]; simp [mput_get, mput_arr, mput_let, mput_put, mset_get, mset_int, mset_let, mputL_get, mputL_arr, mputL_let, mputL_put, i64_8, mLen]
  have hR1 : RdM ms1 [] [] := by
    rw [← hm1]
    exact RdM_nil (by simp [mput_get, mput_arr, mput_let, mput_put, mset_get, mset_int, mset_let, mputL_get, mputL_arr, mputL_let, mputL_put, i64_8, mLen]) (by simp [mput_get, mput_arr, mput_let, mput_put, mset_get, mset_int, mset_let, mputL_get, mputL_arr, mputL_let, mputL_put, i64_8, mLen]) (by simp [mput_get, mput_arr, mput_let, mput_put, mset_get, mset_int, mset_let, mputL_get, mputL_arr, mputL_let, mputL_put, i64_8, mLen]) (by simp [mput_get, mput_arr, mput_let, mput_put, mset_get, mset_int, mset_let, mputL_get, mputL_arr, mputL_let, mputL_put, i64_8, mLen]) (by simp [mput_get, mput_arr, mput_let, mput_put, mset_get, mset_int, mset_let, mputL_get, mputL_arr, mputL_let, mputL_put, i64_8, mLen])
  clear hm1
  refine m_next hT1 (Nat.zero_le td) e4 (fun ms2 f2 t2 => ?_)
  have hT2 := f2.tape hT1
  have hb2 : ms2.1 32 = 0 := (f2.tok 32 (by omega)).trans eb
  have hR2 : RdM ms2 [] [] := RdM_nil (by rw [f2.2]; exact hR1.2.1) (by rw [f2.2]; exact hR1.1) (by rw [f2.2]; exact hR1.2.2.2.2.1.1) (by rw [f2.tok 38 (by omega)]; exact hR1.2.2.2.2.1.2.1) (by rw [f2.tok 41 (by omega)]; exact hR1.2.2.2.2.2.1.1)
  have fr2 : FrG PB ksL ms ms2 := by
    refine ⟨fun j hj hn => ?_, fun j i hn => ?_⟩
    · rw [f2.1 j hj]; exact fr1.1 j hj (by simp at hn ⊢; omega)
    · rw [f2.2]; exact fr1.2 j i hn
  unfold rdR at k
  generalize skp tp td 0 = f at t2 k
  have b2 : srt tp td f < 2147483648 := by have := srt_lt tp td f; omega
  simp [bX2_parse_68, bX2_parse_69, o_ic, o_lc, o_null, o_il, o_ll, o_al, o_dup, o_pop, o_dup_x1, o_dup2, o_iadd, o_isub, o_imul, o_iand, o_ior, o_ixor, o_ishl, o_ishr, o_idiv, o_irem, o_ineg, o_ladd, o_lsub, o_lmul, o_land, o_lor, o_lxor, o_ldiv, o_lrem, o_lneg, o_lcmp, o_i2l, o_l2i, o_i2b, o_i2c, o_iushr, o_lshl, o_lshr, o_if_eq, o_if_ne, o_if_lt, o_if_ge, o_if_gt, o_if_le, o_icmp_eq, o_icmp_ne, o_icmp_lt, o_icmp_ge, o_icmp_gt, o_icmp_le, o_ifnull, o_ifnonnull, o_acmp_eq, o_acmp_ne, o_is, o_ls, o_as, o_iinc, o_kill, o_sw, o_ireturn, o_zreturn, o_nreturn, o_lreturn, o_areturn, o_return, o_athrow, o_call, entP, lg_sl, Value.category, st1, st2, List.set, List.getElem?_cons_zero, List.getElem?_cons_succ, List.foldl, popN, aft, o_mg, o_mgl, o_mga, o_mp, o_mpz, o_mpl, o_mia, o_mis, o_mbs, o_mc, mput_get, mput_arr, mput_let, mput_put, mset_get, mset_int, mset_let, mputL_get, mputL_arr, mputL_let, mputL_put, i64_8, mLen, t2.2.2.2.1, vpL, nn_addL, nn_addR, nn_mulL, nn_add, nn_mul, nn_eqL, nn_ltL, nn_leL, nn_Llt, nn_Lle, nn_lt, nn_le, nn_eq, nn_in, nn_clamp, nn_succ, nn_pos, nn_neg1, b2]
  refine ⟨fun h => ?_, fun h => ?_⟩
  · refine m_must0 (n := 2) t2 hb2 (by omega) (by omega) ?_
    simp [o_ic, o_lc, o_null, o_il, o_ll, o_al, o_dup, o_pop, o_dup_x1, o_dup2, o_iadd, o_isub, o_imul, o_iand, o_ior, o_ixor, o_ishl, o_ishr, o_idiv, o_irem, o_ineg, o_ladd, o_lsub, o_lmul, o_land, o_lor, o_lxor, o_ldiv, o_lrem, o_lneg, o_lcmp, o_i2l, o_l2i, o_i2b, o_i2c, o_iushr, o_lshl, o_lshr, o_if_eq, o_if_ne, o_if_lt, o_if_ge, o_if_gt, o_if_le, o_icmp_eq, o_icmp_ne, o_icmp_lt, o_icmp_ge, o_icmp_gt, o_icmp_le, o_ifnull, o_ifnonnull, o_acmp_eq, o_acmp_ne, o_is, o_ls, o_as, o_iinc, o_kill, o_sw, o_ireturn, o_zreturn, o_nreturn, o_lreturn, o_areturn, o_return, o_athrow, o_call, entP, lg_sl, Value.category, st1, st2, List.set, List.getElem?_cons_zero, List.getElem?_cons_succ, List.foldl, popN, aft]
    unfold bX2_parse_74
    intro X hX
    apply hX
    have hf : (flt tp td f 2).1 = 2 := by unfold flt; rw [if_neg (by omega)]
    rw [hf]
    simp [o_ic, o_lc, o_null, o_il, o_ll, o_al, o_dup, o_pop, o_dup_x1, o_dup2, o_iadd, o_isub, o_imul, o_iand, o_ior, o_ixor, o_ishl, o_ishr, o_idiv, o_irem, o_ineg, o_ladd, o_lsub, o_lmul, o_land, o_lor, o_lxor, o_ldiv, o_lrem, o_lneg, o_lcmp, o_i2l, o_l2i, o_i2b, o_i2c, o_iushr, o_lshl, o_lshr, o_if_eq, o_if_ne, o_if_lt, o_if_ge, o_if_gt, o_if_le, o_icmp_eq, o_icmp_ne, o_icmp_lt, o_icmp_ge, o_icmp_gt, o_icmp_le, o_ifnull, o_ifnonnull, o_acmp_eq, o_acmp_ne, o_is, o_ls, o_as, o_iinc, o_kill, o_sw, o_ireturn, o_zreturn, o_nreturn, o_lreturn, o_areturn, o_return, o_athrow, o_call, entP, lg_sl, Value.category, st1, st2, List.set, List.getElem?_cons_zero, List.getElem?_cons_succ, List.foldl, popN, aft, o_mg, o_mgl, o_mga, o_mp, o_mpz, o_mpl, o_mia, o_mis, o_mbs, o_mc, mput_get, mput_arr, mput_let, mput_put, mset_get, mset_int, mset_let, mputL_get, mputL_arr, mputL_let, mputL_put, i64_8, mLen, nn]
    refine k _ ((fr2.put (by simp)).put (by simp)) ?_
    have hbk : blks tp td 41 f 0 0 = .error (2, f) := by
      have hn : numb tp td f 98 39 = none := by unfold numb; rw [if_neg (fun q => by omega)]
      unfold blks blk
      rw [if_neg (by omega), if_pos (by rw [hn]; simp)]
      unfold flt
      rw [if_neg (by omega)]; rfl
    rw [hbk]
    exact ⟨rfl, rfl, Nat.zero_lt_two, show 2 < 7 by omega⟩
  · refine m_must1 hb2 ?_
    simp [o_ic, o_lc, o_null, o_il, o_ll, o_al, o_dup, o_pop, o_dup_x1, o_dup2, o_iadd, o_isub, o_imul, o_iand, o_ior, o_ixor, o_ishl, o_ishr, o_idiv, o_irem, o_ineg, o_ladd, o_lsub, o_lmul, o_land, o_lor, o_lxor, o_ldiv, o_lrem, o_lneg, o_lcmp, o_i2l, o_l2i, o_i2b, o_i2c, o_iushr, o_lshl, o_lshr, o_if_eq, o_if_ne, o_if_lt, o_if_ge, o_if_gt, o_if_le, o_icmp_eq, o_icmp_ne, o_icmp_lt, o_icmp_ge, o_icmp_gt, o_icmp_le, o_ifnull, o_ifnonnull, o_acmp_eq, o_acmp_ne, o_is, o_ls, o_as, o_iinc, o_kill, o_sw, o_ireturn, o_zreturn, o_nreturn, o_lreturn, o_areturn, o_return, o_athrow, o_call, entP, lg_sl, Value.category, st1, st2, List.set, List.getElem?_cons_zero, List.getElem?_cons_succ, List.foldl, popN, aft]
    exact x_blks 41 ([], []) f ms2 rfl hT2 t2 hb2 h hR2 (by simp [nmz]) (fun ms' f' a' => k ms' (fr2.trans f') a')
