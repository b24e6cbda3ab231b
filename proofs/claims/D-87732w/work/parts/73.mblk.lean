/-! THE MODEL reads blocks -/
set_option maxRecDepth 100000
theorem line9_T {tp : Nat → Nat} {td f g : Nat} {it : Itm} (h : line9 tp td f = .ok (it, g)) : (iT it).length ≤ 2 ∧ (it.1 < 4 → iT it = []) := by
  unfold line9 valu at h
  simp only [bind, Except.bind] at h
  repeat' split at h
  all_goals first | (cases h; done) | (cases h; exact ⟨by simp [iT], fun q => by first | rfl | (revert q; simp)⟩) | skip
theorem stmt_T {tp : Nat → Nat} {td f g l : Nat} {it : Itm} (h : stmt tp td f l = .ok (it, g)) : (iT it).length ≤ 2 ∧ (it.1 < 4 → iT it = []) ∧ l < 160 := by
  unfold stmt at h
  split at h
  · cases h
  · split at h
    · cases h
    · next h1 =>
      cases h9 : line9 tp td f with
      | error e => rw [h9] at h; cases h
      | ok x =>
        rw [h9] at h
        simp only [bind, Except.bind] at h
        split at h
        · cases h
        · cases h; exact ⟨(line9_T h9).1, (line9_T h9).2, by omega⟩
/-- a block more -/
def addB (R : Rt) (b : Blk) : Rt := (R.1 ++ b.2.map (fun it => (R.2.length, it)), R.2 ++ [(b.1, R.1.length)])
theorem PS_B {n : Nat} (hn : 960 ≤ n) : ∀ k i, PS n k i → PB k i := by
  intro k i h
  rcases h with h | h
  · exact PL_B hn k i h
  · unfold PB; omega
theorem x_body {mo : Nat} {Q : Ret MS} {tp : Nat → Nat} {td : Nat} {hs : List (Nat × Nat)} (h0 : 0 < hs.length) :
    ∀ n fs g ms, n + fs.length = 161 → TapeM ms tp td → TokM ms tp td g → ms.1 32 = 0 → RdM ms fs hs → (nmz fs).length + 2 ≤ 2 * hs.length →
    (∀ ms', FrG PB ksL ms ms' → PM tp td ((body tp td n g fs.length).map (·.2)) ms' → (∀ its g', body tp td n g fs.length = .ok (its, g') → RdM ms' (fs ++ its.map (fun it => (hs.length - 1, it))) hs ∧ (nmz (fs ++ its.map (fun it => (hs.length - 1, it)))).length ≤ 2 * hs.length) → Q (.inl none) ms') → bX2_readBlock_104 mo Q [some (.ref mo), none, some (.int 0)] [] ms := by
  intro n fs g ms hn hT hk hb hR hz k
  unfold bX2_readBlock_104
  intro X hX
  revert n fs g ms
  intro n
  induction n with
  | zero => intro fs g ms hn hT hk hb hR hz k; have := hR.2.2.2.2.2.2.1; omega
  | succ n ih =>
    intro fs g ms hn hT hk hb hR hz k
    have hh := hR.2.2.2.2.2.2.2
    apply hX
    simp [o_ic, o_lc, o_null, o_il, o_ll, o_al, o_dup, o_pop, o_dup_x1, o_dup2, o_iadd, o_isub, o_imul, o_iand, o_ior, o_ixor, o_ishl, o_ishr, o_idiv, o_irem, o_ineg, o_ladd, o_lsub, o_lmul, o_land, o_lor, o_lxor, o_ldiv, o_lrem, o_lneg, o_lcmp, o_i2l, o_l2i, o_i2b, o_i2c, o_iushr, o_lshl, o_lshr, o_if_eq, o_if_ne, o_if_lt, o_if_ge, o_if_gt, o_if_le, o_icmp_eq, o_icmp_ne, o_icmp_lt, o_icmp_ge, o_icmp_gt, o_icmp_le, o_ifnull, o_ifnonnull, o_acmp_eq, o_acmp_ne, o_is, o_ls, o_as, o_iinc, o_kill, o_sw, o_ireturn, o_zreturn, o_nreturn, o_lreturn, o_areturn, o_return, o_athrow, o_call, entP, lg_sl, Value.category, st1, st2, List.set, List.getElem?_cons_zero, List.getElem?_cons_succ, List.foldl, popN, aft, o_mg, o_mgl, o_mga, o_mp, o_mpz, o_mpl, o_mia, o_mis, o_mbs, o_mc, mput_get, mput_arr, mput_let, mput_put, mset_get, mset_int, mset_let, mputL_get, mputL_arr, mputL_let, mputL_put, i64_8, mLen, hb]
    refine x_statement hT hk hb hR h0 (by omega) (fun v ms' fr p h => ?_)
    have frB : FrG PB ksL ms ms' := fr.mono (fun _ q => q) (PS_B (by omega))
    simp [o_ic, o_lc, o_null, o_il, o_ll, o_al, o_dup, o_pop, o_dup_x1, o_dup2, o_iadd, o_isub, o_imul, o_iand, o_ior, o_ixor, o_ishl, o_ishr, o_idiv, o_irem, o_ineg, o_ladd, o_lsub, o_lmul, o_land, o_lor, o_lxor, o_ldiv, o_lrem, o_lneg, o_lcmp, o_i2l, o_l2i, o_i2b, o_i2c, o_iushr, o_lshl, o_lshr, o_if_eq, o_if_ne, o_if_lt, o_if_ge, o_if_gt, o_if_le, o_icmp_eq, o_icmp_ne, o_icmp_lt, o_icmp_ge, o_icmp_gt, o_icmp_le, o_ifnull, o_ifnonnull, o_acmp_eq, o_acmp_ne, o_is, o_ls, o_as, o_iinc, o_kill, o_sw, o_ireturn, o_zreturn, o_nreturn, o_lreturn, o_areturn, o_return, o_athrow, o_call, entP, lg_sl, Value.category, st1, st2, List.set, List.getElem?_cons_zero, List.getElem?_cons_succ, List.foldl, popN, aft, o_mg, o_mgl, o_mga, o_mp, o_mpz, o_mpl, o_mia, o_mis, o_mbs, o_mc, mput_get, mput_arr, mput_let, mput_put, mset_get, mset_int, mset_let, mputL_get, mputL_arr, mputL_let, mputL_put, i64_8, mLen]
    unfold body at k
    cases hs1 : stmt tp td g fs.length with
    | error e =>
      rw [hs1] at k p
      have p' : BadM ms' e := p
      obtain ⟨q1, q2, q3, q4⟩ := p'.ne
      apply hX
      simp [bX2_readBlock_123, o_ic, o_lc, o_null, o_il, o_ll, o_al, o_dup, o_pop, o_dup_x1, o_dup2, o_iadd, o_isub, o_imul, o_iand, o_ior, o_ixor, o_ishl, o_ishr, o_idiv, o_irem, o_ineg, o_ladd, o_lsub, o_lmul, o_land, o_lor, o_lxor, o_ldiv, o_lrem, o_lneg, o_lcmp, o_i2l, o_l2i, o_i2b, o_i2c, o_iushr, o_lshl, o_lshr, o_if_eq, o_if_ne, o_if_lt, o_if_ge, o_if_gt, o_if_le, o_icmp_eq, o_icmp_ne, o_icmp_lt, o_icmp_ge, o_icmp_gt, o_icmp_le, o_ifnull, o_ifnonnull, o_acmp_eq, o_acmp_ne, o_is, o_ls, o_as, o_iinc, o_kill, o_sw, o_ireturn, o_zreturn, o_nreturn, o_lreturn, o_areturn, o_return, o_athrow, o_call, entP, lg_sl, Value.category, st1, st2, List.set, List.getElem?_cons_zero, List.getElem?_cons_succ, List.foldl, popN, aft, o_mg, o_mgl, o_mga, o_mp, o_mpz, o_mpl, o_mia, o_mis, o_mbs, o_mc, mput_get, mput_arr, mput_let, mput_put, mset_get, mset_int, mset_let, mputL_get, mputL_arr, mputL_let, mputL_put, i64_8, mLen, q1, vpL, nn_addL, nn_addR, nn_mulL, nn_add, nn_mul, nn_eqL, nn_ltL, nn_leL, nn_Llt, nn_Lle, nn_lt, nn_le, nn_eq, nn_in, nn_clamp, nn_succ, nn_pos, nn_neg1, q2, q3]
      exact k ms' frB p' (fun its g' h => by cases h)
    | ok x =>
      rw [hs1] at k p
      obtain ⟨e1, e2⟩ := h x.1 x.2 hs1
      obtain ⟨t1, t2, t3⟩ := stmt_T hs1
      have hzz : (nmz (fs ++ [(hs.length - 1, x.1)])).length = (nmz fs).length + (iT x.1).length := by rw [nmz_snoc]; simp
      by_cases h4 : 4 ≤ x.1.1
      · rw [if_pos h4] at e1
        have hbd : (Except.ok x >>= fun __x => match __x with | (it, g) => if 4 ≤ it.1 then Except.ok ([it], g) else (body tp td n g (fs.length + 1)) >>= fun __x => match __x with | (its, g) => Except.ok (it :: its, g) : Except Flt (List Itm × Nat)) = .ok ([x.1], x.2) := by
          show (if 4 ≤ x.1.1 then _ else _) = _
          rw [if_pos h4]
        rw [e1]
        apply hX
        simp [bX2_readBlock_123, o_ic, o_lc, o_null, o_il, o_ll, o_al, o_dup, o_pop, o_dup_x1, o_dup2, o_iadd, o_isub, o_imul, o_iand, o_ior, o_ixor, o_ishl, o_ishr, o_idiv, o_irem, o_ineg, o_ladd, o_lsub, o_lmul, o_land, o_lor, o_lxor, o_ldiv, o_lrem, o_lneg, o_lcmp, o_i2l, o_l2i, o_i2b, o_i2c, o_iushr, o_lshl, o_lshr, o_if_eq, o_if_ne, o_if_lt, o_if_ge, o_if_gt, o_if_le, o_icmp_eq, o_icmp_ne, o_icmp_lt, o_icmp_ge, o_icmp_gt, o_icmp_le, o_ifnull, o_ifnonnull, o_acmp_eq, o_acmp_ne, o_is, o_ls, o_as, o_iinc, o_kill, o_sw, o_ireturn, o_zreturn, o_nreturn, o_lreturn, o_areturn, o_return, o_athrow, o_call, entP, lg_sl, Value.category, st1, st2, List.set, List.getElem?_cons_zero, List.getElem?_cons_succ, List.foldl, popN, aft, o_mg, o_mgl, o_mga, o_mp, o_mpz, o_mpl, o_mia, o_mis, o_mbs, o_mc, mput_get, mput_arr, mput_let, mput_put, mset_get, mset_int, mset_let, mputL_get, mputL_arr, mputL_let, mputL_put, i64_8, mLen, p.2]
        refine k ms' frB ?_ (fun its g' h => ?_)
        · rw [hbd]; exact p
        · rw [hbd] at h; cases h
          exact ⟨e2, by rw [show ([x.1].map (fun it => (hs.length - 1, it))) = [(hs.length - 1, x.1)] from rfl, hzz]; omega⟩
      · rw [if_neg h4] at e1
        rw [e1]
        have hbd : (Except.ok x >>= fun __x => match __x with | (it, g) => if 4 ≤ it.1 then Except.ok ([it], g) else (body tp td n g (fs.length + 1)) >>= fun __x => match __x with | (its, g) => Except.ok (it :: its, g) : Except Flt (List Itm × Nat)) = (body tp td n x.2 (fs.length + 1)).bind (fun y => .ok (x.1 :: y.1, y.2)) := by
          show (if 4 ≤ x.1.1 then _ else _) = _
          rw [if_neg h4]; rfl
        have hit := t2 (by omega)
        have hlen : (fs ++ [(hs.length - 1, x.1)]).length = fs.length + 1 := by simp
        refine ih (fs ++ [(hs.length - 1, x.1)]) x.2 ms' (by rw [hlen]; omega) (fr.tape (by simp) (by simp [PS, PL]) hT) p.1 p.2 e2 (by rw [hzz, hit]; simpa using hz) (fun ms2 fr2 p2 h2 => ?_)
        rw [hlen] at p2 h2
        refine k ms2 (frB.trans fr2) ?_ (fun its g' h => ?_)
        · rw [hbd]
          cases h5 : body tp td n x.2 (fs.length + 1) with
          | error e => rw [h5] at p2; exact p2
          | ok y => rw [h5] at p2; exact p2
        · rw [hbd] at h
          cases h5 : body tp td n x.2 (fs.length + 1) with
          | error e => rw [h5] at h; cases h
          | ok y =>
            rw [h5] at h
            cases h
            have := h2 y.1 y.2 h5
            simpa using this
theorem x_readBlock {mo : Nat} {Q : Ret MS} {tp : Nat → Nat} {td : Nat} {ms : MS} {f : Nat} {R : Rt} (hT : TapeM ms tp td) (hp : TokM ms tp td f) (hb : ms.1 32 = 0) (hR : RdM ms R.1 R.2) (hz : (nmz R.1).length ≤ 2 * R.2.length)
    (k : ∀ ms', FrG PB ksL ms ms' → PM tp td ((blk tp td f R.2.length R.1.length).map (·.2)) ms' → (∀ b g, blk tp td f R.2.length R.1.length = .ok (b, g) → RdM ms' (addB R b).1 (addB R b).2 ∧ (nmz (addB R b).1).length ≤ 2 * (addB R b).2.length ∧ R.2.length < 40) → Q (.inl none) ms') : pX2_readBlock mo [.ref mo] ms Q := by
  obtain ⟨fs, hs⟩ := R
  simp only at hR hz k ⊢
  have hlen := hR.2.2.2.2.2.2.1
  have hlh := hR.2.2.2.2.2.2.2
  have b1 : hs.length < 2147483648 := by omega
  have b2 : fs.length < 2147483648 := by omega
  simp [pX2_readBlock, bX2_readBlock_0, bX2_readBlock_18, bX2_readBlock_19, o_ic, o_lc, o_null, o_il, o_ll, o_al, o_dup, o_pop, o_dup_x1, o_dup2, o_iadd, o_isub, o_imul, o_iand, o_ior, o_ixor, o_ishl, o_ishr, o_idiv, o_irem, o_ineg, o_ladd, o_lsub, o_lmul, o_land, o_lor, o_lxor, o_ldiv, o_lrem, o_lneg, o_lcmp, o_i2l, o_l2i, o_i2b, o_i2c, o_iushr, o_lshl, o_lshr, o_if_eq, o_if_ne, o_if_lt, o_if_ge, o_if_gt, o_if_le, o_icmp_eq, o_icmp_ne, o_icmp_lt, o_icmp_ge, o_icmp_gt, o_icmp_le, o_ifnull, o_ifnonnull, o_acmp_eq, o_acmp_ne, o_is, o_ls, o_as, o_iinc, o_kill, o_sw, o_ireturn, o_zreturn, o_nreturn, o_lreturn, o_areturn, o_return, o_athrow, o_call, entP, lg_sl, Value.category, st1, st2, List.set, List.getElem?_cons_zero, List.getElem?_cons_succ, List.foldl, popN, aft, o_mg, o_mgl, o_mga, o_mp, o_mpz, o_mpl, o_mia, o_mis, o_mbs, o_mc, mput_get, mput_arr, mput_let, mput_put, mset_get, mset_int, mset_let, mputL_get, mputL_arr, mputL_let, mputL_put, i64_8, mLen, vpL, nn_addL, nn_addR, nn_mulL, nn_add, nn_mul, nn_eqL, nn_ltL, nn_leL, nn_Llt, nn_Lle, nn_lt, nn_le, nn_eq, nn_in, nn_clamp, nn_succ, nn_pos, nn_neg1, hR.2.1, b1]
  unfold blk at k
  by_cases h40 : 40 ≤ hs.length
  · rw [if_pos h40] at k
    refine ⟨fun _ => ?_, fun h => by omega⟩
    refine m_must0 (n := 3) hp hb (by omega) (by omega) ?_
    simp [bX2_readBlock_51, o_ic, o_lc, o_null, o_il, o_ll, o_al, o_dup, o_pop, o_dup_x1, o_dup2, o_iadd, o_isub, o_imul, o_iand, o_ior, o_ixor, o_ishl, o_ishr, o_idiv, o_irem, o_ineg, o_ladd, o_lsub, o_lmul, o_land, o_lor, o_lxor, o_ldiv, o_lrem, o_lneg, o_lcmp, o_i2l, o_l2i, o_i2b, o_i2c, o_iushr, o_lshl, o_lshr, o_if_eq, o_if_ne, o_if_lt, o_if_ge, o_if_gt, o_if_le, o_icmp_eq, o_icmp_ne, o_icmp_lt, o_icmp_ge, o_icmp_gt, o_icmp_le, o_ifnull, o_ifnonnull, o_acmp_eq, o_acmp_ne, o_is, o_ls, o_as, o_iinc, o_kill, o_sw, o_ireturn, o_zreturn, o_nreturn, o_lreturn, o_areturn, o_return, o_athrow, o_call, entP, lg_sl, Value.category, st1, st2, List.set, List.getElem?_cons_zero, List.getElem?_cons_succ, List.foldl, popN, aft]
    exact k _ ((FrG.rfl9.put (by simp)).put (by simp)) ⟨rfl, rfl, flt_r (by omega) (by omega)⟩ (fun it g h => by cases h)
  rw [if_neg h40] at k
  refine ⟨fun h => absurd h h40, fun _ => ?_⟩
  refine m_must1 hb ?_
  simp [o_ic, o_lc, o_null, o_il, o_ll, o_al, o_dup, o_pop, o_dup_x1, o_dup2, o_iadd, o_isub, o_imul, o_iand, o_ior, o_ixor, o_ishl, o_ishr, o_idiv, o_irem, o_ineg, o_ladd, o_lsub, o_lmul, o_land, o_lor, o_lxor, o_ldiv, o_lrem, o_lneg, o_lcmp, o_i2l, o_l2i, o_i2b, o_i2c, o_iushr, o_lshl, o_lshr, o_if_eq, o_if_ne, o_if_lt, o_if_ge, o_if_gt, o_if_le, o_icmp_eq, o_icmp_ne, o_icmp_lt, o_icmp_ge, o_icmp_gt, o_icmp_le, o_ifnull, o_ifnonnull, o_acmp_eq, o_acmp_ne, o_is, o_ls, o_as, o_iinc, o_kill, o_sw, o_ireturn, o_zreturn, o_nreturn, o_lreturn, o_areturn, o_return, o_athrow, o_call, entP, lg_sl, Value.category, st1, st2, List.set, List.getElem?_cons_zero, List.getElem?_cons_succ, List.foldl, popN, aft, o_mg, o_mgl, o_mga, o_mp, o_mpz, o_mpl, o_mia, o_mis, o_mbs, o_mc, mput_get, mput_arr, mput_let, mput_put, mset_get, mset_int, mset_let, mputL_get, mputL_arr, mputL_let, mputL_put, i64_8, mLen]
  refine m_numbered (c := 98) (most := 39) hT hp (by omega) (by omega) ?_
  by_cases hnb : numb tp td f 98 39 ≠ some hs.length
  · rw [if_pos hnb] at k
    have hne : ¬ onn (numb tp td f 98 39) = nn hs.length := by
      cases h : numb tp td f 98 39 with
      | none => intro q; exact (nn_neg1 b1).1 q.symm
      | some b =>
        have := numb_le h
        intro q
        have := (nn_eq (by omega) b1).1 q
        subst this; exact hnb h
    simp [bX2_readBlock_43, bX2_readBlock_44, o_ic, o_lc, o_null, o_il, o_ll, o_al, o_dup, o_pop, o_dup_x1, o_dup2, o_iadd, o_isub, o_imul, o_iand, o_ior, o_ixor, o_ishl, o_ishr, o_idiv, o_irem, o_ineg, o_ladd, o_lsub, o_lmul, o_land, o_lor, o_lxor, o_ldiv, o_lrem, o_lneg, o_lcmp, o_i2l, o_l2i, o_i2b, o_i2c, o_iushr, o_lshl, o_lshr, o_if_eq, o_if_ne, o_if_lt, o_if_ge, o_if_gt, o_if_le, o_icmp_eq, o_icmp_ne, o_icmp_lt, o_icmp_ge, o_icmp_gt, o_icmp_le, o_ifnull, o_ifnonnull, o_acmp_eq, o_acmp_ne, o_is, o_ls, o_as, o_iinc, o_kill, o_sw, o_ireturn, o_zreturn, o_nreturn, o_lreturn, o_areturn, o_return, o_athrow, o_call, entP, lg_sl, Value.category, st1, st2, List.set, List.getElem?_cons_zero, List.getElem?_cons_succ, List.foldl, popN, aft, o_mg, o_mgl, o_mga, o_mp, o_mpz, o_mpl, o_mia, o_mis, o_mbs, o_mc, mput_get, mput_arr, mput_let, mput_put, mset_get, mset_int, mset_let, mputL_get, mputL_arr, mputL_let, mputL_put, i64_8, mLen, hne]
    refine m_must0 (n := 2) hp hb (by omega) (by omega) ?_
    simp [bX2_readBlock_51, o_ic, o_lc, o_null, o_il, o_ll, o_al, o_dup, o_pop, o_dup_x1, o_dup2, o_iadd, o_isub, o_imul, o_iand, o_ior, o_ixor, o_ishl, o_ishr, o_idiv, o_irem, o_ineg, o_ladd, o_lsub, o_lmul, o_land, o_lor, o_lxor, o_ldiv, o_lrem, o_lneg, o_lcmp, o_i2l, o_l2i, o_i2b, o_i2c, o_iushr, o_lshl, o_lshr, o_if_eq, o_if_ne, o_if_lt, o_if_ge, o_if_gt, o_if_le, o_icmp_eq, o_icmp_ne, o_icmp_lt, o_icmp_ge, o_icmp_gt, o_icmp_le, o_ifnull, o_ifnonnull, o_acmp_eq, o_acmp_ne, o_is, o_ls, o_as, o_iinc, o_kill, o_sw, o_ireturn, o_zreturn, o_nreturn, o_lreturn, o_areturn, o_return, o_athrow, o_call, entP, lg_sl, Value.category, st1, st2, List.set, List.getElem?_cons_zero, List.getElem?_cons_succ, List.foldl, popN, aft]
    exact k _ ((FrG.rfl9.put (by simp)).put (by simp)) ⟨rfl, rfl, flt_r (by omega) (by omega)⟩ (fun it g h => by cases h)
  rw [if_neg hnb] at k
  have hnb' : numb tp td f 98 39 = some hs.length := Classical.byContradiction hnb
  rw [hnb']
  simp [bX2_readBlock_44, o_ic, o_lc, o_null, o_il, o_ll, o_al, o_dup, o_pop, o_dup_x1, o_dup2, o_iadd, o_isub, o_imul, o_iand, o_ior, o_ixor, o_ishl, o_ishr, o_idiv, o_irem, o_ineg, o_ladd, o_lsub, o_lmul, o_land, o_lor, o_lxor, o_ldiv, o_lrem, o_lneg, o_lcmp, o_i2l, o_l2i, o_i2b, o_i2c, o_iushr, o_lshl, o_lshr, o_if_eq, o_if_ne, o_if_lt, o_if_ge, o_if_gt, o_if_le, o_icmp_eq, o_icmp_ne, o_icmp_lt, o_icmp_ge, o_icmp_gt, o_icmp_le, o_ifnull, o_ifnonnull, o_acmp_eq, o_acmp_ne, o_is, o_ls, o_as, o_iinc, o_kill, o_sw, o_ireturn, o_zreturn, o_nreturn, o_lreturn, o_areturn, o_return, o_athrow, o_call, entP, lg_sl, Value.category, st1, st2, List.set, List.getElem?_cons_zero, List.getElem?_cons_succ, List.foldl, popN, aft, o_mg, o_mgl, o_mga, o_mp, o_mpz, o_mpl, o_mia, o_mis, o_mbs, o_mc, mput_get, mput_arr, mput_let, mput_put, mset_get, mset_int, mset_let, mputL_get, mputL_arr, mputL_let, mputL_put, i64_8, mLen, onn]
  refine m_must1 hb ?_
  have b3 : 164 + hs.length < 2147483648 := by omega
  have b4 : 164 + hs.length < 205 := by omega
  simp [bX2_readBlock_52, o_ic, o_lc, o_null, o_il, o_ll, o_al, o_dup, o_pop, o_dup_x1, o_dup2, o_iadd, o_isub, o_imul, o_iand, o_ior, o_ixor, o_ishl, o_ishr, o_idiv, o_irem, o_ineg, o_ladd, o_lsub, o_lmul, o_land, o_lor, o_lxor, o_ldiv, o_lrem, o_lneg, o_lcmp, o_i2l, o_l2i, o_i2b, o_i2c, o_iushr, o_lshl, o_lshr, o_if_eq, o_if_ne, o_if_lt, o_if_ge, o_if_gt, o_if_le, o_icmp_eq, o_icmp_ne, o_icmp_lt, o_icmp_ge, o_icmp_gt, o_icmp_le, o_ifnull, o_ifnonnull, o_acmp_eq, o_acmp_ne, o_is, o_ls, o_as, o_iinc, o_kill, o_sw, o_ireturn, o_zreturn, o_nreturn, o_lreturn, o_areturn, o_return, o_athrow, o_call, entP, lg_sl, Value.category, st1, st2, List.set, List.getElem?_cons_zero, List.getElem?_cons_succ, List.foldl, popN, aft, o_mg, o_mgl, o_mga, o_mp, o_mpz, o_mpl, o_mia, o_mis, o_mbs, o_mc, mput_get, mput_arr, mput_let, mput_put, mset_get, mset_int, mset_let, mputL_get, mputL_arr, mputL_let, mputL_put, i64_8, mLen, vpL, nn_addL, nn_addR, nn_mulL, nn_add, nn_mul, nn_eqL, nn_ltL, nn_leL, nn_Llt, nn_Lle, nn_lt, nn_le, nn_eq, nn_in, nn_clamp, nn_succ, nn_pos, nn_neg1, hR.1, hR.2.1, b3, b4]
  generalize hm1 : mset (mset (mset ms 14 (164 + hs.length) (ms.1 3)) 13 (164 + hs.length) (nn fs.length)) 9 4 (nn (hs.length + 1)) = ms1
  have fr1 : FrG (fun k i => (k = 9 ∧ i = 4) ∨ (k = 13 ∨ k = 14) ∧ i = 164 + hs.length) [] ms ms1 := by
    rw [← hm1]
    refine FrG.set (FrG.set (FrG.set FrG.rfl9 ?_) ?_) ?_
    · exact Or.inr ⟨Or.inr rfl, rfl⟩
    · exact Or.inr ⟨Or.inl rfl, rfl⟩
    · exact Or.inl ⟨rfl, rfl⟩
  have hT1 : TapeM ms1 tp td := fr1.tape (by simp) (by simp) hT
  have ht1 : TokM ms1 tp td f := by rw [← hm1]; exact hp
  have hb1 : ms1.1 32 = 0 := by rw [← hm1]; exact hb
  have hR1 : RdM ms1 fs (hs ++ [(f, fs.length)]) := by
    obtain ⟨a1, a2, a3, a4, a5, a6, a7, a8⟩ := hR
    refine ⟨(fr1.2 10 4 (by simp)).trans a1, by rw [← hm1]; simp [mput_get, mput_arr, mput_let, mput_put, mset_get, mset_int, mset_let, mputL_get, mputL_arr, mputL_let, mputL_put, i64_8, mLen], fun j x hx => (a3 j x hx).fr (fun i i1 i2 => fr1.2 i _ (by omega)), fun b h hb' => ?_, a5.fr fr1 (by simp) (by simp) (fun k i _ _ => by omega), a6.fr fr1 (by simp) (by simp) (by simp), a7, by simp; omega⟩
    by_cases e : b < hs.length
    · rw [List.getElem?_append_left e] at hb'
      rw [fr1.2 14 _ (by omega), fr1.2 13 _ (by omega)]
      exact a4 b h hb'
    · have e1 : b = hs.length := by
        have := (List.getElem?_eq_some_iff.1 hb').1
        simp at this; omega
      subst e1
      simp at hb'
      subst hb'
      rw [← hm1]; simp [mput_get, mput_arr, mput_let, mput_put, mset_get, mset_int, mset_let, mputL_get, mputL_arr, mputL_let, mputL_put, i64_8, mLen]; exact hp.2.1
  refine x_next hT1 ht1 (fun ms2 f2 t2 => ?_)
  have hT2 := f2.tape hT1
  simp [o_ic, o_lc, o_null, o_il, o_ll, o_al, o_dup, o_pop, o_dup_x1, o_dup2, o_iadd, o_isub, o_imul, o_iand, o_ior, o_ixor, o_ishl, o_ishr, o_idiv, o_irem, o_ineg, o_ladd, o_lsub, o_lmul, o_land, o_lor, o_lxor, o_ldiv, o_lrem, o_lneg, o_lcmp, o_i2l, o_l2i, o_i2b, o_i2c, o_iushr, o_lshl, o_lshr, o_if_eq, o_if_ne, o_if_lt, o_if_ge, o_if_gt, o_if_le, o_icmp_eq, o_icmp_ne, o_icmp_lt, o_icmp_ge, o_icmp_gt, o_icmp_le, o_ifnull, o_ifnonnull, o_acmp_eq, o_acmp_ne, o_is, o_ls, o_as, o_iinc, o_kill, o_sw, o_ireturn, o_zreturn, o_nreturn, o_lreturn, o_areturn, o_return, o_athrow, o_call, entP, lg_sl, Value.category, st1, st2, List.set, List.getElem?_cons_zero, List.getElem?_cons_succ, List.foldl, popN, aft, o_mg, o_mgl, o_mga, o_mp, o_mpz, o_mpl, o_mia, o_mis, o_mbs, o_mc]
  refine x_take (r := .ok (nx tp td f)) (c := 58) hT2 ⟨t2, (f2.tok 32 (by omega)).trans hb1⟩ (by omega) (fun ms3 f3 p3 => ?_)
  have hT3 := f3.tape (by simp) hT2
  have fr13 : FrG (fun _ _ => False) [32, 33] ms1 ms3 := f2.G.trans f3.G
  have frB : FrG PB ksL ms ms3 := (fr1.mono (by simp) (fun k i q => by unfold PB; omega)).trans (fr13.mono (by simp) (fun _ _ q => q.elim))
  have p3' : PM tp td (sgx tp td (nx tp td f) 58) ms3 := p3
  simp [o_ic, o_lc, o_null, o_il, o_ll, o_al, o_dup, o_pop, o_dup_x1, o_dup2, o_iadd, o_isub, o_imul, o_iand, o_ior, o_ixor, o_ishl, o_ishr, o_idiv, o_irem, o_ineg, o_ladd, o_lsub, o_lmul, o_land, o_lor, o_lxor, o_ldiv, o_lrem, o_lneg, o_lcmp, o_i2l, o_l2i, o_i2b, o_i2c, o_iushr, o_lshl, o_lshr, o_if_eq, o_if_ne, o_if_lt, o_if_ge, o_if_gt, o_if_le, o_icmp_eq, o_icmp_ne, o_icmp_lt, o_icmp_ge, o_icmp_gt, o_icmp_le, o_ifnull, o_ifnonnull, o_acmp_eq, o_acmp_ne, o_is, o_ls, o_as, o_iinc, o_kill, o_sw, o_ireturn, o_zreturn, o_nreturn, o_lreturn, o_areturn, o_return, o_athrow, o_call, entP, lg_sl, Value.category, st1, st2, List.set, List.getElem?_cons_zero, List.getElem?_cons_succ, List.foldl, popN, aft, o_mg, o_mgl, o_mga, o_mp, o_mpz, o_mpl, o_mia, o_mis, o_mbs, o_mc, mput_get, mput_arr, mput_let, mput_put, mset_get, mset_int, mset_let, mputL_get, mputL_arr, mputL_let, mputL_put, i64_8, mLen]
  cases h58 : sgx tp td (nx tp td f) 58 with
  | error e =>
    rw [h58] at p3' k
    obtain ⟨q1, q2, q3, q4⟩ := BadM.ne p3'
    unfold bX2_readBlock_104
    intro X hX
    apply hX
    simp [bX2_readBlock_123, o_ic, o_lc, o_null, o_il, o_ll, o_al, o_dup, o_pop, o_dup_x1, o_dup2, o_iadd, o_isub, o_imul, o_iand, o_ior, o_ixor, o_ishl, o_ishr, o_idiv, o_irem, o_ineg, o_ladd, o_lsub, o_lmul, o_land, o_lor, o_lxor, o_ldiv, o_lrem, o_lneg, o_lcmp, o_i2l, o_l2i, o_i2b, o_i2c, o_iushr, o_lshl, o_lshr, o_if_eq, o_if_ne, o_if_lt, o_if_ge, o_if_gt, o_if_le, o_icmp_eq, o_icmp_ne, o_icmp_lt, o_icmp_ge, o_icmp_gt, o_icmp_le, o_ifnull, o_ifnonnull, o_acmp_eq, o_acmp_ne, o_is, o_ls, o_as, o_iinc, o_kill, o_sw, o_ireturn, o_zreturn, o_nreturn, o_lreturn, o_areturn, o_return, o_athrow, o_call, entP, lg_sl, Value.category, st1, st2, List.set, List.getElem?_cons_zero, List.getElem?_cons_succ, List.foldl, popN, aft, o_mg, o_mgl, o_mga, o_mp, o_mpz, o_mpl, o_mia, o_mis, o_mbs, o_mc, mput_get, mput_arr, mput_let, mput_put, mset_get, mset_int, mset_let, mputL_get, mputL_arr, mputL_let, mputL_put, i64_8, mLen, q1, vpL, nn_addL, nn_addR, nn_mulL, nn_add, nn_mul, nn_eqL, nn_ltL, nn_leL, nn_Llt, nn_Lle, nn_lt, nn_le, nn_eq, nn_in, nn_clamp, nn_succ, nn_pos, nn_neg1, q2, q3]
    exact k ms3 frB p3' (fun b g h => by cases h)
  | ok g =>
    rw [h58] at p3' k
    have hl1 : (hs ++ [(f, fs.length)]).length = hs.length + 1 := by simp
    have hR3 : RdM ms3 fs (hs ++ [(f, fs.length)]) := by
      obtain ⟨a1, a2, a3, a4, a5, a6, a7, a8⟩ := hR1
      exact ⟨(fr13.2 10 4 (by simp)).trans a1, (fr13.2 9 4 (by simp)).trans a2, fun j x hx => (a3 j x hx).fr (fun i i1 i2 => fr13.2 i _ (by simp)), fun b h hb' => by rw [fr13.2 14 _ (by simp), fr13.2 13 _ (by simp)]; exact a4 b h hb', a5.fr fr13 (by simp) (by simp) (by simp), a6.fr fr13 (by simp) (by simp) (by simp), a7, a8⟩
    refine x_body (by simp) (161 - fs.length) fs g ms3 (by omega) hT3 p3'.1 p3'.2 hR3 (by rw [hl1]; omega) (fun ms4 f4 p4 h4 => ?_)
    have hbd : ((Except.ok g >>= fun g => (body tp td (161 - fs.length) g fs.length) >>= fun __x => match __x with | (its, g) => Except.ok ((f, its), g)) : Except Flt (Blk × Nat)) = (body tp td (161 - fs.length) g fs.length).bind (fun y => .ok ((f, y.1), y.2)) := rfl
    refine k ms4 (frB.trans f4) ?_ (fun b g' h => ?_)
    · rw [hbd]
      cases h5 : body tp td (161 - fs.length) g fs.length with
      | error e => rw [h5] at p4; exact p4
      | ok y => rw [h5] at p4; exact p4
    · rw [hbd] at h
      cases h5 : body tp td (161 - fs.length) g fs.length with
      | error e => rw [h5] at h; cases h
      | ok y =>
        rw [h5] at h
        cases h
        have := h4 y.1 y.2 h5
        rw [hl1] at this
        simp only [Nat.add_sub_cancel] at this
        exact ⟨this.1, by simp only [addB, hl1]; exact this.2, by omega⟩
