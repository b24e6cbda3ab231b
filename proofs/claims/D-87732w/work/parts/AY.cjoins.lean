/-! THE COMPONENT: close joins all ends -/
set_option maxRecDepth 100000
section JS
variable {κ : Nat → Option Nat} {Q : Ret AH} {σ σ0 σ' : AH} {r : Nat} {R : Rt} {wss : List (Nat × List Nat)} {E : Edg} {c s : Nat} {ow : List Nat}
theorem P3X.endV (h : P3X κ σ0 σ r R wss ow E c s) (w : WfR R) : EndV κ σ r R wss ∧ HL κ (GeM r) (GeM r) c s σ0 σ := by
  obtain ⟨A, lo, hi, NX, BF, h⟩ := h
  exact ⟨h.cs.endV w h.it, h.fr⟩
theorem P3X.up {c' s' : Nat} (h : P3X κ σ0 σ r R wss ow E c s) (hc : c ≤ c') (hs : s ≤ s') : P3X κ σ0 σ r R wss ow E c' s' := by
  obtain ⟨A, lo, hi, NX, BF, h⟩ := h
  exact ⟨A, lo, hi, NX, BF, h.up hc hs⟩
theorem JOk.jn {q k nw t : Nat} (h : JOk R ow E q) (w : WfR R) (hk : k < R.1.length) (ht : fstN R.2 t < R.1.length) : JOk R (jn1 R k nw t ow E).1 (jn1 R k nw t ow E).2 (q + 1) := by
  obtain ⟨j1, j2, j3, j4⟩ := h
  obtain ⟨d1, d2, d3, d4⟩ := jn1_ed (nw := nw) (t := t) j1 hk ht
  refine ⟨d1, by omega, by omega, fun u hu => ?_⟩
  have hu2 := w.2.2.1 u hu
  have := d2 (fstN R.2 u) (by omega)
  have := j4 u hu
  omega
theorem cl_join {b : Nat} {J : Cont AH} (w : WfR R) (hT9 : TgOk R) (hb : b < R.2.length) (hJ : JInv R b ow E) (r1 : 5000 ≤ hC σ0) (r2 : 120000 ≤ hS σ0) (hP : P3X κ σ0 σ r R wss ow E (500 + 16 * b) (30300 + 1740 * b))
    (kk : ∀ σ', P3X κ σ0 σ' r R wss (jnE R b ow E).1 (jnE R b ow E).2 (500 + 16 * (b + 1)) (30300 + 1740 * (b + 1)) → J [some (.ref r), some (.int (nn (b + 1))), none, none] [] σ') :
    bX4_close_185 κ Q J [some (.ref r), some (.int (nn b)), some (.int 0), none] [] σ := by
  obtain ⟨e1, e2, e3', e4⟩ := end_get w hb
  have hnb := w.2.1
  have J0 : JOk R ow E (2 * b) := ⟨hJ.ed, hJ.q1, hJ.q3, hJ.q2⟩
  have hen := hJ.en b hb
  rw [if_neg (by omega)] at hen
  have htg : ∀ t ∈ iT (endI R b), t.2 < R.2.length ∧ fstN R.2 t.2 < R.1.length := fun t ht => by
    have q := hT9 (b, endI R b) (List.mem_of_getElem? e1) t ht
    have := w.2.2.1 _ q
    exact ⟨q, by omega⟩
  unfold bX4_close_185
  intro X hX
  have bb : b < 2147483648 := by omega
  have done : ∀ (σ : AH) wv (ow : List Nat) (E : Edg) c s, P3X κ σ0 σ r R wss ow E c s → (iT (endI R b)).length ≤ wv → wv < 10 → J [some (.ref r), some (.int (nn (b + 1))), none, none] [] σ → X [some (.ref r), some (.int (nn b)), some (.int (nn wv)), none] [] σ := by
    intro σ wv ow E c s hP hl hw9 kk
    apply hX
    obtain ⟨V, -⟩ := hP.endV w
    obtain ⟨bl, v1, v2, v3, v4, v5, v6⟩ := id V
    have hE : EndA σ R b (eA wss b) := (v6 b _ (List.getElem?_eq_getElem (by omega))).2.2
    have b1 : wv < 2147483648 := by omega
    have b2 : (iT (endI R b)).length < 2147483648 := by omega
    simp [o_ic, o_lc, o_null, o_il, o_ll, o_al, o_dup, o_pop, o_dup_x1, o_dup2, o_iadd, o_isub, o_imul, o_iand, o_ior, o_ixor, o_ishl, o_ishr, o_idiv, o_irem, o_ineg, o_ladd, o_lsub, o_lmul, o_land, o_lor, o_lxor, o_ldiv, o_lrem, o_lneg, o_lcmp, o_i2l, o_l2i, o_i2b, o_i2c, o_iushr, o_lshl, o_lshr, o_if_eq, o_if_ne, o_if_lt, o_if_ge, o_if_gt, o_if_le, o_icmp_eq, o_icmp_ne, o_icmp_lt, o_icmp_ge, o_icmp_gt, o_icmp_le, o_ifnull, o_ifnonnull, o_acmp_eq, o_acmp_ne, o_is, o_ls, o_as, o_iinc, o_kill, o_sw, o_ireturn, o_zreturn, o_nreturn, o_lreturn, o_areturn, o_return, o_athrow, o_call, entP, lg_sl, Value.category, st1, st2, List.set, List.getElem?_cons_zero, List.getElem?_cons_succ, List.foldl, popN, aft, o_gI, o_gR, o_pI, o_pN, o_pR, o_aI, o_aG, o_aR, o_len, o_aR8, o_sI, o_sB, o_sZ, o_sG, o_new, o_newA, o_cast, o_inst, o_cst, o_oi, o_sR, o_gIc, o_gSv, o_gSc, o_getc, o_dead, o_acopy, o_castA, o_castI, o_sR7, o_mna, o_mmax, o_mmin, o_mabs, hvc, dspI, v1]
    refine ct_end V hb ?_
    simp [o_ic, o_lc, o_null, o_il, o_ll, o_al, o_dup, o_pop, o_dup_x1, o_dup2, o_iadd, o_isub, o_imul, o_iand, o_ior, o_ixor, o_ishl, o_ishr, o_idiv, o_irem, o_ineg, o_ladd, o_lsub, o_lmul, o_land, o_lor, o_lxor, o_ldiv, o_lrem, o_lneg, o_lcmp, o_i2l, o_l2i, o_i2b, o_i2c, o_iushr, o_lshl, o_lshr, o_if_eq, o_if_ne, o_if_lt, o_if_ge, o_if_gt, o_if_le, o_icmp_eq, o_icmp_ne, o_icmp_lt, o_icmp_ge, o_icmp_gt, o_icmp_le, o_ifnull, o_ifnonnull, o_acmp_eq, o_acmp_ne, o_is, o_ls, o_as, o_iinc, o_kill, o_sw, o_ireturn, o_zreturn, o_nreturn, o_lreturn, o_areturn, o_return, o_athrow, o_call, entP, lg_sl, Value.category, st1, st2, List.set, List.getElem?_cons_zero, List.getElem?_cons_succ, List.foldl, popN, aft, o_gI, o_gR, o_pI, o_pN, o_pR, o_aI, o_aG, o_aR, o_len, o_aR8, o_sI, o_sB, o_sZ, o_sG, o_new, o_newA, o_cast, o_inst, o_cst, o_oi, o_sR, o_gIc, o_gSv, o_gSc, o_getc, o_dead, o_acopy, o_castA, o_castI, o_sR7, o_mna, o_mmax, o_mmin, o_mabs]
    refine ct_ways hE ?_
    simp [o_ic, o_lc, o_null, o_il, o_ll, o_al, o_dup, o_pop, o_dup_x1, o_dup2, o_iadd, o_isub, o_imul, o_iand, o_ior, o_ixor, o_ishl, o_ishr, o_idiv, o_irem, o_ineg, o_ladd, o_lsub, o_lmul, o_land, o_lor, o_lxor, o_ldiv, o_lrem, o_lneg, o_lcmp, o_i2l, o_l2i, o_i2b, o_i2c, o_iushr, o_lshl, o_lshr, o_if_eq, o_if_ne, o_if_lt, o_if_ge, o_if_gt, o_if_le, o_icmp_eq, o_icmp_ne, o_icmp_lt, o_icmp_ge, o_icmp_gt, o_icmp_le, o_ifnull, o_ifnonnull, o_acmp_eq, o_acmp_ne, o_is, o_ls, o_as, o_iinc, o_kill, o_sw, o_ireturn, o_zreturn, o_nreturn, o_lreturn, o_areturn, o_return, o_athrow, o_call, entP, lg_sl, Value.category, st1, st2, List.set, List.getElem?_cons_zero, List.getElem?_cons_succ, List.foldl, popN, aft, o_gI, o_gR, o_pI, o_pN, o_pR, o_aI, o_aG, o_aR, o_len, o_aR8, o_sI, o_sB, o_sZ, o_sG, o_new, o_newA, o_cast, o_inst, o_cst, o_oi, o_sR, o_gIc, o_gSv, o_gSc, o_getc, o_dead, o_acopy, o_castA, o_castI, o_sR7, o_mna, o_mmax, o_mmin, o_mabs, nn_eqL, nn_ltL, nn_leL, nn_Llt, nn_Lle, nn_lt, nn_le, nn_eq, nn_in, nn_clamp, nn_succ, nn_pos, nn_neg1, b1, b2, hl, bX4_close_221, nn_succ]
    exact kk
  have one : ∀ (σ : AH) wv t q (ow : List Nat) (E : Edg) c s, P3X κ σ0 σ r R wss ow E c s → JOk R ow E q → q < 80 → (outE E (lastN R b)).length < 2 → (iT (endI R b))[wv]? = some t → (iT (endI R b)).length ≤ 2 → c ≤ 4000 → s ≤ 110000 → (∀ σ', P3X κ σ0 σ' r R wss (jn1 R (lastN R b) (iT (endI R b)).length t.2 ow E).1 (jn1 R (lastN R b) (iT (endI R b)).length t.2 ow E).2 (c + 8) (s + 870) → X [some (.ref r), some (.int (nn b)), some (.int (nn (wv + 1))), none] [] σ') → X [some (.ref r), some (.int (nn b)), some (.int (nn wv)), none] [] σ := by
    intro σ wv t q ow E c s hP hJ hq ho hg hl hc hs kk
    apply hX
    obtain ⟨V, fr⟩ := hP.endV w
    obtain ⟨bl, v1, v2, v3, v4, v5, v6⟩ := id V
    have hE : EndA σ R b (eA wss b) := (v6 b _ (List.getElem?_eq_getElem (by omega))).2.2
    have te : hT σ (eA wss b) = 11 ∨ hT σ (eA wss b) = 12 ∨ hT σ (eA wss b) = 13 := by obtain ⟨q1, q2, q3, -⟩ := hE; omega
    have hwl := (List.getElem?_eq_some_iff.1 hg).1
    have b1 : wv < 2147483648 := by omega
    have b2 : (iT (endI R b)).length < 2147483648 := by omega
    have nle : ¬ (iT (endI R b)).length ≤ wv := by omega
    have ht := htg t (List.mem_of_getElem? hg)
    simp [o_ic, o_lc, o_null, o_il, o_ll, o_al, o_dup, o_pop, o_dup_x1, o_dup2, o_iadd, o_isub, o_imul, o_iand, o_ior, o_ixor, o_ishl, o_ishr, o_idiv, o_irem, o_ineg, o_ladd, o_lsub, o_lmul, o_land, o_lor, o_lxor, o_ldiv, o_lrem, o_lneg, o_lcmp, o_i2l, o_l2i, o_i2b, o_i2c, o_iushr, o_lshl, o_lshr, o_if_eq, o_if_ne, o_if_lt, o_if_ge, o_if_gt, o_if_le, o_icmp_eq, o_icmp_ne, o_icmp_lt, o_icmp_ge, o_icmp_gt, o_icmp_le, o_ifnull, o_ifnonnull, o_acmp_eq, o_acmp_ne, o_is, o_ls, o_as, o_iinc, o_kill, o_sw, o_ireturn, o_zreturn, o_nreturn, o_lreturn, o_areturn, o_return, o_athrow, o_call, entP, lg_sl, Value.category, st1, st2, List.set, List.getElem?_cons_zero, List.getElem?_cons_succ, List.foldl, popN, aft, o_gI, o_gR, o_pI, o_pN, o_pR, o_aI, o_aG, o_aR, o_len, o_aR8, o_sI, o_sB, o_sZ, o_sG, o_new, o_newA, o_cast, o_inst, o_cst, o_oi, o_sR, o_gIc, o_gSv, o_gSc, o_getc, o_dead, o_acopy, o_castA, o_castI, o_sR7, o_mna, o_mmax, o_mmin, o_mabs, hvc, dspI, v1]
    refine ct_end V hb ?_
    simp [o_ic, o_lc, o_null, o_il, o_ll, o_al, o_dup, o_pop, o_dup_x1, o_dup2, o_iadd, o_isub, o_imul, o_iand, o_ior, o_ixor, o_ishl, o_ishr, o_idiv, o_irem, o_ineg, o_ladd, o_lsub, o_lmul, o_land, o_lor, o_lxor, o_ldiv, o_lrem, o_lneg, o_lcmp, o_i2l, o_l2i, o_i2b, o_i2c, o_iushr, o_lshl, o_lshr, o_if_eq, o_if_ne, o_if_lt, o_if_ge, o_if_gt, o_if_le, o_icmp_eq, o_icmp_ne, o_icmp_lt, o_icmp_ge, o_icmp_gt, o_icmp_le, o_ifnull, o_ifnonnull, o_acmp_eq, o_acmp_ne, o_is, o_ls, o_as, o_iinc, o_kill, o_sw, o_ireturn, o_zreturn, o_nreturn, o_lreturn, o_areturn, o_return, o_athrow, o_call, entP, lg_sl, Value.category, st1, st2, List.set, List.getElem?_cons_zero, List.getElem?_cons_succ, List.foldl, popN, aft, o_gI, o_gR, o_pI, o_pN, o_pR, o_aI, o_aG, o_aR, o_len, o_aR8, o_sI, o_sB, o_sZ, o_sG, o_new, o_newA, o_cast, o_inst, o_cst, o_oi, o_sR, o_gIc, o_gSv, o_gSc, o_getc, o_dead, o_acopy, o_castA, o_castI, o_sR7, o_mna, o_mmax, o_mmin, o_mabs]
    refine ct_ways hE ?_
    simp [o_ic, o_lc, o_null, o_il, o_ll, o_al, o_dup, o_pop, o_dup_x1, o_dup2, o_iadd, o_isub, o_imul, o_iand, o_ior, o_ixor, o_ishl, o_ishr, o_idiv, o_irem, o_ineg, o_ladd, o_lsub, o_lmul, o_land, o_lor, o_lxor, o_ldiv, o_lrem, o_lneg, o_lcmp, o_i2l, o_l2i, o_i2b, o_i2c, o_iushr, o_lshl, o_lshr, o_if_eq, o_if_ne, o_if_lt, o_if_ge, o_if_gt, o_if_le, o_icmp_eq, o_icmp_ne, o_icmp_lt, o_icmp_ge, o_icmp_gt, o_icmp_le, o_ifnull, o_ifnonnull, o_acmp_eq, o_acmp_ne, o_is, o_ls, o_as, o_iinc, o_kill, o_sw, o_ireturn, o_zreturn, o_nreturn, o_lreturn, o_areturn, o_return, o_athrow, o_call, entP, lg_sl, Value.category, st1, st2, List.set, List.getElem?_cons_zero, List.getElem?_cons_succ, List.foldl, popN, aft, o_gI, o_gR, o_pI, o_pN, o_pR, o_aI, o_aG, o_aR, o_len, o_aR8, o_sI, o_sB, o_sZ, o_sG, o_new, o_newA, o_cast, o_inst, o_cst, o_oi, o_sR, o_gIc, o_gSv, o_gSc, o_getc, o_dead, o_acopy, o_castA, o_castI, o_sR7, o_mna, o_mmax, o_mmin, o_mabs, nn_eqL, nn_ltL, nn_leL, nn_Llt, nn_Lle, nn_lt, nn_le, nn_eq, nn_in, nn_clamp, nn_succ, nn_pos, nn_neg1, b1, b2, nle, hvc, dspI, v1]
    refine ct_end V hb ?_
    simp [o_ic, o_lc, o_null, o_il, o_ll, o_al, o_dup, o_pop, o_dup_x1, o_dup2, o_iadd, o_isub, o_imul, o_iand, o_ior, o_ixor, o_ishl, o_ishr, o_idiv, o_irem, o_ineg, o_ladd, o_lsub, o_lmul, o_land, o_lor, o_lxor, o_ldiv, o_lrem, o_lneg, o_lcmp, o_i2l, o_l2i, o_i2b, o_i2c, o_iushr, o_lshl, o_lshr, o_if_eq, o_if_ne, o_if_lt, o_if_ge, o_if_gt, o_if_le, o_icmp_eq, o_icmp_ne, o_icmp_lt, o_icmp_ge, o_icmp_gt, o_icmp_le, o_ifnull, o_ifnonnull, o_acmp_eq, o_acmp_ne, o_is, o_ls, o_as, o_iinc, o_kill, o_sw, o_ireturn, o_zreturn, o_nreturn, o_lreturn, o_areturn, o_return, o_athrow, o_call, entP, lg_sl, Value.category, st1, st2, List.set, List.getElem?_cons_zero, List.getElem?_cons_succ, List.foldl, popN, aft, o_gI, o_gR, o_pI, o_pN, o_pR, o_aI, o_aG, o_aR, o_len, o_aR8, o_sI, o_sB, o_sZ, o_sG, o_new, o_newA, o_cast, o_inst, o_cst, o_oi, o_sR, o_gIc, o_gSv, o_gSc, o_getc, o_dead, o_acopy, o_castA, o_castI, o_sR7, o_mna, o_mmax, o_mmin, o_mabs, hvc, dspI, v1]
    refine ct_end V hb ?_
    simp [o_ic, o_lc, o_null, o_il, o_ll, o_al, o_dup, o_pop, o_dup_x1, o_dup2, o_iadd, o_isub, o_imul, o_iand, o_ior, o_ixor, o_ishl, o_ishr, o_idiv, o_irem, o_ineg, o_ladd, o_lsub, o_lmul, o_land, o_lor, o_lxor, o_ldiv, o_lrem, o_lneg, o_lcmp, o_i2l, o_l2i, o_i2b, o_i2c, o_iushr, o_lshl, o_lshr, o_if_eq, o_if_ne, o_if_lt, o_if_ge, o_if_gt, o_if_le, o_icmp_eq, o_icmp_ne, o_icmp_lt, o_icmp_ge, o_icmp_gt, o_icmp_le, o_ifnull, o_ifnonnull, o_acmp_eq, o_acmp_ne, o_is, o_ls, o_as, o_iinc, o_kill, o_sw, o_ireturn, o_zreturn, o_nreturn, o_lreturn, o_areturn, o_return, o_athrow, o_call, entP, lg_sl, Value.category, st1, st2, List.set, List.getElem?_cons_zero, List.getElem?_cons_succ, List.foldl, popN, aft, o_gI, o_gR, o_pI, o_pN, o_pR, o_aI, o_aG, o_aR, o_len, o_aR8, o_sI, o_sB, o_sZ, o_sG, o_new, o_newA, o_cast, o_inst, o_cst, o_oi, o_sR, o_gIc, o_gSv, o_gSc, o_getc, o_dead, o_acopy, o_castA, o_castI, o_sR7, o_mna, o_mmax, o_mmin, o_mabs]
    refine ct_way hE hg ?_
    simp [o_ic, o_lc, o_null, o_il, o_ll, o_al, o_dup, o_pop, o_dup_x1, o_dup2, o_iadd, o_isub, o_imul, o_iand, o_ior, o_ixor, o_ishl, o_ishr, o_idiv, o_irem, o_ineg, o_ladd, o_lsub, o_lmul, o_land, o_lor, o_lxor, o_ldiv, o_lrem, o_lneg, o_lcmp, o_i2l, o_l2i, o_i2b, o_i2c, o_iushr, o_lshl, o_lshr, o_if_eq, o_if_ne, o_if_lt, o_if_ge, o_if_gt, o_if_le, o_icmp_eq, o_icmp_ne, o_icmp_lt, o_icmp_ge, o_icmp_gt, o_icmp_le, o_ifnull, o_ifnonnull, o_acmp_eq, o_acmp_ne, o_is, o_ls, o_as, o_iinc, o_kill, o_sw, o_ireturn, o_zreturn, o_nreturn, o_lreturn, o_areturn, o_return, o_athrow, o_call, entP, lg_sl, Value.category, st1, st2, List.set, List.getElem?_cons_zero, List.getElem?_cons_succ, List.foldl, popN, aft, o_gI, o_gR, o_pI, o_pN, o_pR, o_aI, o_aG, o_aR, o_len, o_aR8, o_sI, o_sB, o_sZ, o_sG, o_new, o_newA, o_cast, o_inst, o_cst, o_oi, o_sR, o_gIc, o_gSv, o_gSc, o_getc, o_dead, o_acopy, o_castA, o_castI, o_sR7, o_mna, o_mmax, o_mmin, o_mabs, hvc, dspI, v1]
    refine ct_joins hP w hT9 hb ht.1 rfl hJ hq ho (by have := fr.C; omega) (by have := fr.S; omega) (fun σ' h' => ?_)
    simp [o_ic, o_lc, o_null, o_il, o_ll, o_al, o_dup, o_pop, o_dup_x1, o_dup2, o_iadd, o_isub, o_imul, o_iand, o_ior, o_ixor, o_ishl, o_ishr, o_idiv, o_irem, o_ineg, o_ladd, o_lsub, o_lmul, o_land, o_lor, o_lxor, o_ldiv, o_lrem, o_lneg, o_lcmp, o_i2l, o_l2i, o_i2b, o_i2c, o_iushr, o_lshl, o_lshr, o_if_eq, o_if_ne, o_if_lt, o_if_ge, o_if_gt, o_if_le, o_icmp_eq, o_icmp_ne, o_icmp_lt, o_icmp_ge, o_icmp_gt, o_icmp_le, o_ifnull, o_ifnonnull, o_acmp_eq, o_acmp_ne, o_is, o_ls, o_as, o_iinc, o_kill, o_sw, o_ireturn, o_zreturn, o_nreturn, o_lreturn, o_areturn, o_return, o_athrow, o_call, entP, lg_sl, Value.category, st1, st2, List.set, List.getElem?_cons_zero, List.getElem?_cons_succ, List.foldl, popN, aft, nn_succ]
    exact kk σ' h'
  have hc : (endI R b).1 = 4 ∨ (endI R b).1 = 5 ∨ (endI R b).1 = 6 := by have := e4.1; omega
  rcases hc with cc | cc | cc
  · obtain ⟨t, et⟩ := e4.2.2.2.2.2.2.2.2.1 cc
    refine one σ 0 t (2 * b) ow E _ _ hP J0 (by omega) (by rw [hen]; simp) (by rw [et]; rfl) (by rw [et]; simp) (by omega) (by omega) (fun σ1 h1 => ?_)
    rw [et] at h1
    refine done σ1 1 _ _ _ _ h1 (by rw [et]; simp) (by omega) (kk σ1 ?_)
    unfold jnE
    rw [et]
    exact h1.up (by omega) (by omega)
  · obtain ⟨t, u, et⟩ := e4.2.2.2.2.2.2.2.2.2.1 cc
    refine one σ 0 t (2 * b) ow E _ _ hP J0 (by omega) (by rw [hen]; simp) (by rw [et]; rfl) (by rw [et]; simp) (by omega) (by omega) (fun σ1 h1 => ?_)
    rw [et] at h1
    have tt := htg t (by rw [et]; simp)
    have J1 := J0.jn (nw := 2) (t := t.2) w e2 tt.2
    have out := jn1_out (nw := 2) (t := t.2) hJ.ed e2 tt.2 (lastN R b)
    rw [if_pos rfl, hen] at out
    refine one σ1 1 u (2 * b + 1) _ _ _ _ h1 J1 (by omega) (by rw [show ([t, u] : List (Nat × Nat)).length = 2 from rfl, out]; simp) (by rw [et]; rfl) (by rw [et]; simp) (by omega) (by omega) (fun σ2 h2 => ?_)
    rw [et] at h2
    refine done σ2 2 _ _ _ _ h2 (by rw [et]; simp) (by omega) (kk σ2 ?_)
    unfold jnE
    rw [et]
    exact h2.up (by omega) (by omega)
  · have et := e4.2.2.2.2.2.2.2.2.2.2.1 (by omega) (by omega)
    refine done σ 0 ow E _ _ hP (by rw [et]; simp) (by omega) (kk σ ?_)
    unfold jnE
    rw [et]
    exact hP.up (by omega) (by omega)
theorem cl_joins {A lo hi NX BF : Nat → Nat} (w : WfR R) (hT9 : TgOk R) (h0 : 0 < R.2.length) (r1 : 5000 ≤ hC σ0) (r2 : 120000 ≤ hS σ0) (hP : P3 κ σ0 σ r R wss A lo hi NX BF [] (e3 R R.1.length) 500 30300)
    (kk : ∀ σ' E, JInv R R.2.length (ledR R).2 E → P3X κ σ0 σ' r R wss (ledR R).2 E 1140 99900 → bX4_close_227 κ Q [some (.ref r), some (.int (nn R.2.length)), none, none] [] σ') :
    bX4_close_172 κ Q [some (.ref r), some (.int 0), none, none] [] σ := by
  unfold bX4_close_172
  intro X hX
  have hnb := w.2.1
  have main : ∀ m b (σ : AH) ow E, b + m = R.2.length → JInv R b ow E → P3X κ σ0 σ r R wss ow E (500 + 16 * b) (30300 + 1740 * b) → X [some (.ref r), some (.int (nn b)), none, none] [] σ := by
    intro m
    induction m with
    | zero =>
      intro b σ ow E hb hJ hP
      apply hX
      obtain ⟨bl, v1, v2, v3, v4, v5, v6⟩ := (hP.endV w).1
      have b1 : b < 2147483648 := by omega
      have b2 : wss.length < 2147483648 := by omega
      have le : wss.length ≤ b := by omega
      simp [o_ic, o_lc, o_null, o_il, o_ll, o_al, o_dup, o_pop, o_dup_x1, o_dup2, o_iadd, o_isub, o_imul, o_iand, o_ior, o_ixor, o_ishl, o_ishr, o_idiv, o_irem, o_ineg, o_ladd, o_lsub, o_lmul, o_land, o_lor, o_lxor, o_ldiv, o_lrem, o_lneg, o_lcmp, o_i2l, o_l2i, o_i2b, o_i2c, o_iushr, o_lshl, o_lshr, o_if_eq, o_if_ne, o_if_lt, o_if_ge, o_if_gt, o_if_le, o_icmp_eq, o_icmp_ne, o_icmp_lt, o_icmp_ge, o_icmp_gt, o_icmp_le, o_ifnull, o_ifnonnull, o_acmp_eq, o_acmp_ne, o_is, o_ls, o_as, o_iinc, o_kill, o_sw, o_ireturn, o_zreturn, o_nreturn, o_lreturn, o_areturn, o_return, o_athrow, o_call, entP, lg_sl, Value.category, st1, st2, List.set, List.getElem?_cons_zero, List.getElem?_cons_succ, List.foldl, popN, aft, o_gI, o_gR, o_pI, o_pN, o_pR, o_aI, o_aG, o_aR, o_len, o_aR8, o_sI, o_sB, o_sZ, o_sG, o_new, o_newA, o_cast, o_inst, o_cst, o_oi, o_sR, o_gIc, o_gSv, o_gSc, o_getc, o_dead, o_acopy, o_castA, o_castI, o_sR7, o_mna, o_mmax, o_mmin, o_mabs, v1, v2, va_rf]
      refine hv_size v3 ?_
      simp [o_ic, o_lc, o_null, o_il, o_ll, o_al, o_dup, o_pop, o_dup_x1, o_dup2, o_iadd, o_isub, o_imul, o_iand, o_ior, o_ixor, o_ishl, o_ishr, o_idiv, o_irem, o_ineg, o_ladd, o_lsub, o_lmul, o_land, o_lor, o_lxor, o_ldiv, o_lrem, o_lneg, o_lcmp, o_i2l, o_l2i, o_i2b, o_i2c, o_iushr, o_lshl, o_lshr, o_if_eq, o_if_ne, o_if_lt, o_if_ge, o_if_gt, o_if_le, o_icmp_eq, o_icmp_ne, o_icmp_lt, o_icmp_ge, o_icmp_gt, o_icmp_le, o_ifnull, o_ifnonnull, o_acmp_eq, o_acmp_ne, o_is, o_ls, o_as, o_iinc, o_kill, o_sw, o_ireturn, o_zreturn, o_nreturn, o_lreturn, o_areturn, o_return, o_athrow, o_call, entP, lg_sl, Value.category, st1, st2, List.set, List.getElem?_cons_zero, List.getElem?_cons_succ, List.foldl, popN, aft, o_gI, o_gR, o_pI, o_pN, o_pR, o_aI, o_aG, o_aR, o_len, o_aR8, o_sI, o_sB, o_sZ, o_sG, o_new, o_newA, o_cast, o_inst, o_cst, o_oi, o_sR, o_gIc, o_gSv, o_gSc, o_getc, o_dead, o_acopy, o_castA, o_castI, o_sR7, o_mna, o_mmax, o_mmin, o_mabs, nn_eqL, nn_ltL, nn_leL, nn_Llt, nn_Lle, nn_lt, nn_le, nn_eq, nn_in, nn_clamp, nn_succ, nn_pos, nn_neg1, b1, b2, le]
      have e : b = R.2.length := by omega
      subst e
      have ho := hJ.o
      unfold pos9 at ho
      rw [if_neg (by omega), owAt_end] at ho
      rw [ho] at hJ hP
      exact kk σ E hJ (hP.up (by omega) (by omega))
    | succ m ih =>
      intro b σ ow E hb hJ hP
      apply hX
      obtain ⟨bl, v1, v2, v3, v4, v5, v6⟩ := (hP.endV w).1
      have b1 : b < 2147483648 := by omega
      have b2 : wss.length < 2147483648 := by omega
      have nle : ¬ wss.length ≤ b := by omega
      simp [o_ic, o_lc, o_null, o_il, o_ll, o_al, o_dup, o_pop, o_dup_x1, o_dup2, o_iadd, o_isub, o_imul, o_iand, o_ior, o_ixor, o_ishl, o_ishr, o_idiv, o_irem, o_ineg, o_ladd, o_lsub, o_lmul, o_land, o_lor, o_lxor, o_ldiv, o_lrem, o_lneg, o_lcmp, o_i2l, o_l2i, o_i2b, o_i2c, o_iushr, o_lshl, o_lshr, o_if_eq, o_if_ne, o_if_lt, o_if_ge, o_if_gt, o_if_le, o_icmp_eq, o_icmp_ne, o_icmp_lt, o_icmp_ge, o_icmp_gt, o_icmp_le, o_ifnull, o_ifnonnull, o_acmp_eq, o_acmp_ne, o_is, o_ls, o_as, o_iinc, o_kill, o_sw, o_ireturn, o_zreturn, o_nreturn, o_lreturn, o_areturn, o_return, o_athrow, o_call, entP, lg_sl, Value.category, st1, st2, List.set, List.getElem?_cons_zero, List.getElem?_cons_succ, List.foldl, popN, aft, o_gI, o_gR, o_pI, o_pN, o_pR, o_aI, o_aG, o_aR, o_len, o_aR8, o_sI, o_sB, o_sZ, o_sG, o_new, o_newA, o_cast, o_inst, o_cst, o_oi, o_sR, o_gIc, o_gSv, o_gSc, o_getc, o_dead, o_acopy, o_castA, o_castI, o_sR7, o_mna, o_mmax, o_mmin, o_mabs, v1, v2, va_rf]
      refine hv_size v3 ?_
      simp [o_ic, o_lc, o_null, o_il, o_ll, o_al, o_dup, o_pop, o_dup_x1, o_dup2, o_iadd, o_isub, o_imul, o_iand, o_ior, o_ixor, o_ishl, o_ishr, o_idiv, o_irem, o_ineg, o_ladd, o_lsub, o_lmul, o_land, o_lor, o_lxor, o_ldiv, o_lrem, o_lneg, o_lcmp, o_i2l, o_l2i, o_i2b, o_i2c, o_iushr, o_lshl, o_lshr, o_if_eq, o_if_ne, o_if_lt, o_if_ge, o_if_gt, o_if_le, o_icmp_eq, o_icmp_ne, o_icmp_lt, o_icmp_ge, o_icmp_gt, o_icmp_le, o_ifnull, o_ifnonnull, o_acmp_eq, o_acmp_ne, o_is, o_ls, o_as, o_iinc, o_kill, o_sw, o_ireturn, o_zreturn, o_nreturn, o_lreturn, o_areturn, o_return, o_athrow, o_call, entP, lg_sl, Value.category, st1, st2, List.set, List.getElem?_cons_zero, List.getElem?_cons_succ, List.foldl, popN, aft, o_gI, o_gR, o_pI, o_pN, o_pR, o_aI, o_aG, o_aR, o_len, o_aR8, o_sI, o_sB, o_sZ, o_sG, o_new, o_newA, o_cast, o_inst, o_cst, o_oi, o_sR, o_gIc, o_gSv, o_gSc, o_getc, o_dead, o_acopy, o_castA, o_castI, o_sR7, o_mna, o_mmax, o_mmin, o_mabs, nn_eqL, nn_ltL, nn_leL, nn_Llt, nn_Lle, nn_lt, nn_le, nn_eq, nn_in, nn_clamp, nn_succ, nn_pos, nn_neg1, b1, b2, nle]
      refine cl_join w hT9 (by omega) hJ r1 r2 hP (fun σ' h' => ?_)
      exact ih (b + 1) σ' _ _ (by omega) (hJ.step w hT9 (by omega)) h'
  exact main R.2.length 0 σ [] _ (by omega) (JInv.start w h0) ⟨A, lo, hi, NX, BF, hP⟩
end JS
