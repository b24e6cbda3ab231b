/-! THE COMPONENT: sums that are alike -/
set_option maxRecDepth 100000
section LK
variable {κ : Nat → Option Nat} {Q : Ret AH} {σ : AH} {a b lo hi lo' hi' : Nat}
theorem OpdC.eq_iff {x y : Opd} (h : OpdC σ a x) (h' : OpdC σ b y) : (hI σ a 0 = hI σ b 0 ∧ hI σ a 1 = hI σ b 1) ↔ x = y := by
  obtain ⟨-, h⟩ := h
  obtain ⟨-, h'⟩ := h'
  rcases h with ⟨n, n1, n2, n3, n4⟩ | ⟨n2, n3, n4⟩
  · rcases h' with ⟨k, k1, k2, k3, k4⟩ | ⟨k2, k3, k4⟩
    · rw [n3, n4, k3, k4, n2, k2]
      constructor
      · rintro ⟨-, q⟩; rw [q]
      · intro q; exact ⟨rfl, (Prod.mk.inj q).1⟩
    · rw [n3, k3]
      constructor
      · rintro ⟨q, -⟩; exact absurd q (by decide)
      · intro q; rw [← q, n2] at k2; exact absurd k2 (fun z => (nn_neg1 (by omega)).1 z)
  · rcases h' with ⟨k, k1, k2, k3, k4⟩ | ⟨k2, k3, k4⟩
    · rw [n3, k3]
      constructor
      · rintro ⟨q, -⟩; exact absurd q (by decide)
      · intro q; rw [q, k2] at n2; exact absurd n2 (fun z => (nn_neg1 (by omega)).1 z)
    · rw [n3, n4, k3, k4]
      constructor
      · rintro ⟨-, q⟩; exact Prod.ext (n2.trans k2.symm) q
      · intro q; rw [q]; exact ⟨rfl, rfl⟩
theorem ct_oLik8 {x y : Opd} (h : OpdC σ a x) (h' : OpdC σ b y) (k : Q (.inl (some (.int (if x = y then 1 else 0)))) σ) : pX8_isLike κ [.ref a, .ref b] σ Q := by
  have e := OpdC.eq_iff h h'
  have t := h.1
  have t' := h'.1
  simp [t, pX8_isLike, bX8_isLike_27, bX8_isLike_26, bX8_isLike_0, o_ic, o_lc, o_null, o_il, o_ll, o_al, o_dup, o_pop, o_dup_x1, o_dup2, o_iadd, o_isub, o_imul, o_iand, o_ior, o_ixor, o_ishl, o_ishr, o_idiv, o_irem, o_ineg, o_ladd, o_lsub, o_lmul, o_land, o_lor, o_lxor, o_ldiv, o_lrem, o_lneg, o_lcmp, o_i2l, o_l2i, o_i2b, o_i2c, o_iushr, o_lshl, o_lshr, o_if_eq, o_if_ne, o_if_lt, o_if_ge, o_if_gt, o_if_le, o_icmp_eq, o_icmp_ne, o_icmp_lt, o_icmp_ge, o_icmp_gt, o_icmp_le, o_ifnull, o_ifnonnull, o_acmp_eq, o_acmp_ne, o_is, o_ls, o_as, o_iinc, o_kill, o_sw, o_ireturn, o_zreturn, o_nreturn, o_lreturn, o_areturn, o_return, o_athrow, o_call, entP, lg_sl, Value.category, st1, st2, List.set, List.getElem?_cons_zero, List.getElem?_cons_succ, List.foldl, popN, aft, o_gI, o_gR, o_pI, o_pN, o_pR, o_aI, o_aG, o_aR, o_len, o_aR8, o_sI, o_sB, o_sZ, o_sG, o_new, o_newA, o_cast, o_inst, o_cst, o_oi, o_sR, o_gIc, o_gSv, o_gSc, o_getc, o_dead, o_acopy, o_castA, o_castI, o_sR7, o_mna, o_mmax, o_mmin, o_mabs, t']
  by_cases c : x = y
  · obtain ⟨q1, q2⟩ := e.2 c
    rw [if_pos c] at k
    simp [q1, q2]
    exact k
  · rw [if_neg c] at k
    refine ⟨fun _ => k, fun q1 => ⟨fun _ => k, fun q2 => absurd (e.1 ⟨q1, q2⟩) c⟩⟩
theorem ct_oLike {x y : Opd} (h : OpdC σ a x) (h' : OpdC σ b y) (k : Q (.inl (some (.int (if x = y then 1 else 0)))) σ) : hvc [(17, pX8_isLike κ)] [.ref a, .ref b] σ Q := by
  simp [hvc, dspI, h.1]
  exact ct_oLik8 h h' k
theorem ct_sLike {x y : Sm} (h : SumI σ a x lo hi) (h' : SumI σ b y lo' hi') (k : Q (.inl (some (.int (if x = y then 1 else 0)))) σ) : hvc [(15, pX19_isLike κ), (16, pX17_isLike κ)] [.ref a, .ref b] σ Q := by
  obtain ⟨-, -, h⟩ := h
  obtain ⟨-, -, h'⟩ := h'
  rcases h with ⟨t, i1, i2, u, v, r1, r2, o1, o2⟩ | ⟨t, i1, i2, v, r1, o1⟩
  · rcases h' with ⟨t', i1', i2', u', v', r1', r2', o1', o2'⟩ | ⟨t', i1', i2', v', r1', o1'⟩
    · simp [hvc, dspI, t, pX19_isLike, bX19_isLike_0, bX19_isLike_55, bX19_isLike_56, o_ic, o_lc, o_null, o_il, o_ll, o_al, o_dup, o_pop, o_dup_x1, o_dup2, o_iadd, o_isub, o_imul, o_iand, o_ior, o_ixor, o_ishl, o_ishr, o_idiv, o_irem, o_ineg, o_ladd, o_lsub, o_lmul, o_land, o_lor, o_lxor, o_ldiv, o_lrem, o_lneg, o_lcmp, o_i2l, o_l2i, o_i2b, o_i2c, o_iushr, o_lshl, o_lshr, o_if_eq, o_if_ne, o_if_lt, o_if_ge, o_if_gt, o_if_le, o_icmp_eq, o_icmp_ne, o_icmp_lt, o_icmp_ge, o_icmp_gt, o_icmp_le, o_ifnull, o_ifnonnull, o_acmp_eq, o_acmp_ne, o_is, o_ls, o_as, o_iinc, o_kill, o_sw, o_ireturn, o_zreturn, o_nreturn, o_lreturn, o_areturn, o_return, o_athrow, o_call, entP, lg_sl, Value.category, st1, st2, List.set, List.getElem?_cons_zero, List.getElem?_cons_succ, List.foldl, popN, aft, o_gI, o_gR, o_pI, o_pN, o_pR, o_aI, o_aG, o_aR, o_len, o_aR8, o_sI, o_sB, o_sZ, o_sG, o_new, o_newA, o_cast, o_inst, o_cst, o_oi, o_sR, o_gIc, o_gSv, o_gSc, o_getc, o_dead, o_acopy, o_castA, o_castI, o_sR7, o_mna, o_mmax, o_mmin, o_mabs, t', i1, i1']
      refine ⟨fun q => ?_, fun q => ?_⟩
      · rw [if_neg (fun z => q (by rw [z]))] at k; exact k
      · simp [r1, r1', va_rf]
        refine ⟨o1.2.2.1, ct_oLik8 o1.2.2 o1'.2.2 ?_⟩
        by_cases c : x.2.1 = y.2.1
        · simp [o_ic, o_lc, o_null, o_il, o_ll, o_al, o_dup, o_pop, o_dup_x1, o_dup2, o_iadd, o_isub, o_imul, o_iand, o_ior, o_ixor, o_ishl, o_ishr, o_idiv, o_irem, o_ineg, o_ladd, o_lsub, o_lmul, o_land, o_lor, o_lxor, o_ldiv, o_lrem, o_lneg, o_lcmp, o_i2l, o_l2i, o_i2b, o_i2c, o_iushr, o_lshl, o_lshr, o_if_eq, o_if_ne, o_if_lt, o_if_ge, o_if_gt, o_if_le, o_icmp_eq, o_icmp_ne, o_icmp_lt, o_icmp_ge, o_icmp_gt, o_icmp_le, o_ifnull, o_ifnonnull, o_acmp_eq, o_acmp_ne, o_is, o_ls, o_as, o_iinc, o_kill, o_sw, o_ireturn, o_zreturn, o_nreturn, o_lreturn, o_areturn, o_return, o_athrow, o_call, entP, lg_sl, Value.category, st1, st2, List.set, List.getElem?_cons_zero, List.getElem?_cons_succ, List.foldl, popN, aft, o_gI, o_gR, o_pI, o_pN, o_pR, o_aI, o_aG, o_aR, o_len, o_aR8, o_sI, o_sB, o_sZ, o_sG, o_new, o_newA, o_cast, o_inst, o_cst, o_oi, o_sR, o_gIc, o_gSv, o_gSc, o_getc, o_dead, o_acopy, o_castA, o_castI, o_sR7, o_mna, o_mmax, o_mmin, o_mabs, c, t, t', r2, r2', va_rf]
          refine ct_oLike o2.2.2 o2'.2.2 ?_
          by_cases c2 : x.2.2 = y.2.2
          · rw [if_pos (Prod.ext q.symm (Prod.ext c c2))] at k
            simp [o_ic, o_lc, o_null, o_il, o_ll, o_al, o_dup, o_pop, o_dup_x1, o_dup2, o_iadd, o_isub, o_imul, o_iand, o_ior, o_ixor, o_ishl, o_ishr, o_idiv, o_irem, o_ineg, o_ladd, o_lsub, o_lmul, o_land, o_lor, o_lxor, o_ldiv, o_lrem, o_lneg, o_lcmp, o_i2l, o_l2i, o_i2b, o_i2c, o_iushr, o_lshl, o_lshr, o_if_eq, o_if_ne, o_if_lt, o_if_ge, o_if_gt, o_if_le, o_icmp_eq, o_icmp_ne, o_icmp_lt, o_icmp_ge, o_icmp_gt, o_icmp_le, o_ifnull, o_ifnonnull, o_acmp_eq, o_acmp_ne, o_is, o_ls, o_as, o_iinc, o_kill, o_sw, o_ireturn, o_zreturn, o_nreturn, o_lreturn, o_areturn, o_return, o_athrow, o_call, entP, lg_sl, Value.category, st1, st2, List.set, List.getElem?_cons_zero, List.getElem?_cons_succ, List.foldl, popN, aft, c2]
            exact k
          · rw [if_neg (fun z => c2 (by rw [z]))] at k
            simp [o_ic, o_lc, o_null, o_il, o_ll, o_al, o_dup, o_pop, o_dup_x1, o_dup2, o_iadd, o_isub, o_imul, o_iand, o_ior, o_ixor, o_ishl, o_ishr, o_idiv, o_irem, o_ineg, o_ladd, o_lsub, o_lmul, o_land, o_lor, o_lxor, o_ldiv, o_lrem, o_lneg, o_lcmp, o_i2l, o_l2i, o_i2b, o_i2c, o_iushr, o_lshl, o_lshr, o_if_eq, o_if_ne, o_if_lt, o_if_ge, o_if_gt, o_if_le, o_icmp_eq, o_icmp_ne, o_icmp_lt, o_icmp_ge, o_icmp_gt, o_icmp_le, o_ifnull, o_ifnonnull, o_acmp_eq, o_acmp_ne, o_is, o_ls, o_as, o_iinc, o_kill, o_sw, o_ireturn, o_zreturn, o_nreturn, o_lreturn, o_areturn, o_return, o_athrow, o_call, entP, lg_sl, Value.category, st1, st2, List.set, List.getElem?_cons_zero, List.getElem?_cons_succ, List.foldl, popN, aft, c2]
            exact k
        · rw [if_neg (fun z => c (by rw [z]))] at k
          simp [o_ic, o_lc, o_null, o_il, o_ll, o_al, o_dup, o_pop, o_dup_x1, o_dup2, o_iadd, o_isub, o_imul, o_iand, o_ior, o_ixor, o_ishl, o_ishr, o_idiv, o_irem, o_ineg, o_ladd, o_lsub, o_lmul, o_land, o_lor, o_lxor, o_ldiv, o_lrem, o_lneg, o_lcmp, o_i2l, o_l2i, o_i2b, o_i2c, o_iushr, o_lshl, o_lshr, o_if_eq, o_if_ne, o_if_lt, o_if_ge, o_if_gt, o_if_le, o_icmp_eq, o_icmp_ne, o_icmp_lt, o_icmp_ge, o_icmp_gt, o_icmp_le, o_ifnull, o_ifnonnull, o_acmp_eq, o_acmp_ne, o_is, o_ls, o_as, o_iinc, o_kill, o_sw, o_ireturn, o_zreturn, o_nreturn, o_lreturn, o_areturn, o_return, o_athrow, o_call, entP, lg_sl, Value.category, st1, st2, List.set, List.getElem?_cons_zero, List.getElem?_cons_succ, List.foldl, popN, aft, c]
          exact k
    · rw [if_neg (fun z => i2 (by rw [z]; exact i1'))] at k
      simp [hvc, dspI, t, pX19_isLike, bX19_isLike_0, bX19_isLike_55, bX19_isLike_56, o_ic, o_lc, o_null, o_il, o_ll, o_al, o_dup, o_pop, o_dup_x1, o_dup2, o_iadd, o_isub, o_imul, o_iand, o_ior, o_ixor, o_ishl, o_ishr, o_idiv, o_irem, o_ineg, o_ladd, o_lsub, o_lmul, o_land, o_lor, o_lxor, o_ldiv, o_lrem, o_lneg, o_lcmp, o_i2l, o_l2i, o_i2b, o_i2c, o_iushr, o_lshl, o_lshr, o_if_eq, o_if_ne, o_if_lt, o_if_ge, o_if_gt, o_if_le, o_icmp_eq, o_icmp_ne, o_icmp_lt, o_icmp_ge, o_icmp_gt, o_icmp_le, o_ifnull, o_ifnonnull, o_acmp_eq, o_acmp_ne, o_is, o_ls, o_as, o_iinc, o_kill, o_sw, o_ireturn, o_zreturn, o_nreturn, o_lreturn, o_areturn, o_return, o_athrow, o_call, entP, lg_sl, Value.category, st1, st2, List.set, List.getElem?_cons_zero, List.getElem?_cons_succ, List.foldl, popN, aft, o_gI, o_gR, o_pI, o_pN, o_pR, o_aI, o_aG, o_aR, o_len, o_aR8, o_sI, o_sB, o_sZ, o_sG, o_new, o_newA, o_cast, o_inst, o_cst, o_oi, o_sR, o_gIc, o_gSv, o_gSc, o_getc, o_dead, o_acopy, o_castA, o_castI, o_sR7, o_mna, o_mmax, o_mmin, o_mabs, t']
      exact k
  · rcases h' with ⟨t', i1', i2', u', v', r1', r2', o1', o2'⟩ | ⟨t', i1', i2', v', r1', o1'⟩
    · rw [if_neg (fun z => i2' (by rw [← z]; exact i1))] at k
      simp [hvc, dspI, t, pX17_isLike, bX17_isLike_0, bX17_isLike_41, bX17_isLike_42, o_ic, o_lc, o_null, o_il, o_ll, o_al, o_dup, o_pop, o_dup_x1, o_dup2, o_iadd, o_isub, o_imul, o_iand, o_ior, o_ixor, o_ishl, o_ishr, o_idiv, o_irem, o_ineg, o_ladd, o_lsub, o_lmul, o_land, o_lor, o_lxor, o_ldiv, o_lrem, o_lneg, o_lcmp, o_i2l, o_l2i, o_i2b, o_i2c, o_iushr, o_lshl, o_lshr, o_if_eq, o_if_ne, o_if_lt, o_if_ge, o_if_gt, o_if_le, o_icmp_eq, o_icmp_ne, o_icmp_lt, o_icmp_ge, o_icmp_gt, o_icmp_le, o_ifnull, o_ifnonnull, o_acmp_eq, o_acmp_ne, o_is, o_ls, o_as, o_iinc, o_kill, o_sw, o_ireturn, o_zreturn, o_nreturn, o_lreturn, o_areturn, o_return, o_athrow, o_call, entP, lg_sl, Value.category, st1, st2, List.set, List.getElem?_cons_zero, List.getElem?_cons_succ, List.foldl, popN, aft, o_gI, o_gR, o_pI, o_pN, o_pR, o_aI, o_aG, o_aR, o_len, o_aR8, o_sI, o_sB, o_sZ, o_sG, o_new, o_newA, o_cast, o_inst, o_cst, o_oi, o_sR, o_gIc, o_gSv, o_gSc, o_getc, o_dead, o_acopy, o_castA, o_castI, o_sR7, o_mna, o_mmax, o_mmin, o_mabs, t']
      exact k
    · simp [hvc, dspI, t, pX17_isLike, bX17_isLike_0, bX17_isLike_41, bX17_isLike_42, o_ic, o_lc, o_null, o_il, o_ll, o_al, o_dup, o_pop, o_dup_x1, o_dup2, o_iadd, o_isub, o_imul, o_iand, o_ior, o_ixor, o_ishl, o_ishr, o_idiv, o_irem, o_ineg, o_ladd, o_lsub, o_lmul, o_land, o_lor, o_lxor, o_ldiv, o_lrem, o_lneg, o_lcmp, o_i2l, o_l2i, o_i2b, o_i2c, o_iushr, o_lshl, o_lshr, o_if_eq, o_if_ne, o_if_lt, o_if_ge, o_if_gt, o_if_le, o_icmp_eq, o_icmp_ne, o_icmp_lt, o_icmp_ge, o_icmp_gt, o_icmp_le, o_ifnull, o_ifnonnull, o_acmp_eq, o_acmp_ne, o_is, o_ls, o_as, o_iinc, o_kill, o_sw, o_ireturn, o_zreturn, o_nreturn, o_lreturn, o_areturn, o_return, o_athrow, o_call, entP, lg_sl, Value.category, st1, st2, List.set, List.getElem?_cons_zero, List.getElem?_cons_succ, List.foldl, popN, aft, o_gI, o_gR, o_pI, o_pN, o_pR, o_aI, o_aG, o_aR, o_len, o_aR8, o_sI, o_sB, o_sZ, o_sG, o_new, o_newA, o_cast, o_inst, o_cst, o_oi, o_sR, o_gIc, o_gSv, o_gSc, o_getc, o_dead, o_acopy, o_castA, o_castI, o_sR7, o_mna, o_mmax, o_mmin, o_mabs, t']
      refine ⟨fun q => ?_, fun q => ?_⟩
      · rw [if_neg (fun z => q (by rw [z, i2'] at i2; exact (Prod.mk.inj i2).2))] at k; exact k
      · simp [r1, r1', va_rf]
        refine ⟨o1.2.2.1, ct_oLik8 o1.2.2 o1'.2.2 ?_⟩
        by_cases c : x.2.2 = y.2.2
        · rw [if_pos (Prod.ext (i1.trans i1'.symm) (Prod.ext (by rw [i2, i2', q]) c))] at k
          simp [o_ic, o_lc, o_null, o_il, o_ll, o_al, o_dup, o_pop, o_dup_x1, o_dup2, o_iadd, o_isub, o_imul, o_iand, o_ior, o_ixor, o_ishl, o_ishr, o_idiv, o_irem, o_ineg, o_ladd, o_lsub, o_lmul, o_land, o_lor, o_lxor, o_ldiv, o_lrem, o_lneg, o_lcmp, o_i2l, o_l2i, o_i2b, o_i2c, o_iushr, o_lshl, o_lshr, o_if_eq, o_if_ne, o_if_lt, o_if_ge, o_if_gt, o_if_le, o_icmp_eq, o_icmp_ne, o_icmp_lt, o_icmp_ge, o_icmp_gt, o_icmp_le, o_ifnull, o_ifnonnull, o_acmp_eq, o_acmp_ne, o_is, o_ls, o_as, o_iinc, o_kill, o_sw, o_ireturn, o_zreturn, o_nreturn, o_lreturn, o_areturn, o_return, o_athrow, o_call, entP, lg_sl, Value.category, st1, st2, List.set, List.getElem?_cons_zero, List.getElem?_cons_succ, List.foldl, popN, aft, c]
          exact k
        · rw [if_neg (fun z => c (by rw [z]))] at k
          simp [o_ic, o_lc, o_null, o_il, o_ll, o_al, o_dup, o_pop, o_dup_x1, o_dup2, o_iadd, o_isub, o_imul, o_iand, o_ior, o_ixor, o_ishl, o_ishr, o_idiv, o_irem, o_ineg, o_ladd, o_lsub, o_lmul, o_land, o_lor, o_lxor, o_ldiv, o_lrem, o_lneg, o_lcmp, o_i2l, o_l2i, o_i2b, o_i2c, o_iushr, o_lshl, o_lshr, o_if_eq, o_if_ne, o_if_lt, o_if_ge, o_if_gt, o_if_le, o_icmp_eq, o_icmp_ne, o_icmp_lt, o_icmp_ge, o_icmp_gt, o_icmp_le, o_ifnull, o_ifnonnull, o_acmp_eq, o_acmp_ne, o_is, o_ls, o_as, o_iinc, o_kill, o_sw, o_ireturn, o_zreturn, o_nreturn, o_lreturn, o_areturn, o_return, o_athrow, o_call, entP, lg_sl, Value.category, st1, st2, List.set, List.getElem?_cons_zero, List.getElem?_cons_succ, List.foldl, popN, aft, c]
          exact k
end LK
