/-! THE COMPONENT runs: a sum is worked -/
set_option maxRecDepth 100000
section WK
variable {κ : Nat → Option Nat} {Q : Ret AH} {σ σ' : AH} {a r pl c s h9 : Nat} {st : RS} {R : Rt} {wss : List (Nat × List Nat)} {A NX BF : Nat → Nat} {B : Nat → List Nat} {ss : List Nat}
theorem RG.top (h : RG σ a r pl st) (hk : Hok κ σ) : a + 8 ≤ hN σ := by
  have := hk.1.lt (a := a + 6 + 1) (by rw [(h.1.2.2.2.2.2.2.2 1 (by omega)).2.1]; decide)
  omega
theorem ct_work {e y : Nat} (hk : Hok κ σ) (hR9 : RtB κ σ r R wss A NX BF B ss h9) (h32 : (sms R.1).length ≤ 32) (he : e < (sms R.1).length) (hy : ss[e]? = some y) (G : RG σ a r pl st) (ha : h9 ≤ a) (c1 : 1 ≤ hC σ) (c2 : 6 ≤ hS σ)
    (k1 : ∀ v σ', wrk (smA R e) st.1 st.2.1 = some v → HL κ (InM a) NoM 0 0 σ σ' → RG σ' a r pl (bump st e) → Q (.inl (some (.int v))) σ')
    (k0 : wrk (smA R e) st.1 st.2.1 = none → ∀ σ' x, HL κ (InM a) NoM 1 6 σ σ' → RG σ' a r pl (bump st e) → hT σ' x = 6 → Q (.inr x) σ') : hvc [(18, pX21_work κ)] [.ref a, .ref y] σ Q := by
  have t := G.1.1
  have e32 : e < 32 := by omega
  have be : e < 2147483648 := by omega
  have G1 := G.bmp (q := e)
  have w3 := G.1.2.2.2.2.1
  have F1 : HL κ (InM a) NoM 0 0 σ (hsI σ (a + 3) e (nn (st.2.2.2.1 e + 1))) := (HL.rfl9 hk).sI (Or.inl ⟨by omega, by omega⟩) w3.1 (by decide)
  have R1 : RtB κ (hsI σ (a + 3) e (nn (st.2.2.2.1 e + 1))) r R wss A NX BF B ss h9 := hR9.hl hk F1 (fun b _ q _ => ⟨fun z => by have := z.1; omega, id⟩)
  obtain ⟨y', hy', S1, e1⟩ := hR9.sm e he
  rw [hy] at hy'
  cases hy'
  obtain ⟨y', hy', S2, e2⟩ := R1.sm e he
  rw [hy] at hy'
  cases hy'
  have ty := S1.tg
  obtain ⟨-, i1, i2, i3, i4, i5, i6, i7, i8, i9⟩ := id G
  have r4 := G.1.2.1.2.2.2.1
  have r6 := G.1.2.1.2.2.2.2.2
  simp only [hvc, dspI, t]
  simp [pX21_work, bX21_work_0, o_ic, o_lc, o_null, o_il, o_ll, o_al, o_dup, o_pop, o_dup_x1, o_dup2, o_iadd, o_isub, o_imul, o_iand, o_ior, o_ixor, o_ishl, o_ishr, o_idiv, o_irem, o_ineg, o_ladd, o_lsub, o_lmul, o_land, o_lor, o_lxor, o_ldiv, o_lrem, o_lneg, o_lcmp, o_i2l, o_l2i, o_i2b, o_i2c, o_iushr, o_lshl, o_lshr, o_if_eq, o_if_ne, o_if_lt, o_if_ge, o_if_gt, o_if_le, o_icmp_eq, o_icmp_ne, o_icmp_lt, o_icmp_ge, o_icmp_gt, o_icmp_le, o_ifnull, o_ifnonnull, o_acmp_eq, o_acmp_ne, o_is, o_ls, o_as, o_iinc, o_kill, o_sw, o_ireturn, o_zreturn, o_nreturn, o_lreturn, o_areturn, o_return, o_athrow, o_call, entP, lg_sl, Value.category, st1, st2, List.set, List.getElem?_cons_zero, List.getElem?_cons_succ, List.foldl, popN, aft, o_gI, o_gR, o_pI, o_pN, o_pR, o_aI, o_aG, o_aR, o_len, o_aR8, o_sI, o_sB, o_sZ, o_sG, o_new, o_newA, o_cast, o_inst, o_cst, o_oi, o_sR, o_gIc, o_gSv, o_gSc, o_getc, o_dead, o_acopy, o_castA, o_castI, o_sR7, o_mna, o_mmax, o_mmin, o_mabs, t, r4, va_rf, ty, e1, w3.1, w3.2, nn_in be, nn_clamp be, e32, i4 e e32]
  rw [nn_succ] 
  generalize hσ1 : hsI σ (a + 3) e (nn (st.2.2.2.1 e + 1)) = σ1 at *
  have t1 : hT σ1 a = 18 := G1.1.1
  have hk1 := F1.ok
  have q6 : hR σ1 a 6 = some (a + 5) := G1.1.2.1.2.2.2.2.2
  obtain ⟨q5, q5l⟩ := G1.1.2.2.2.2.2.2.1
  have c11 : 1 ≤ hC σ1 := by have := F1.C; omega
  have c21 : 6 ≤ hS σ1 := by have := F1.S; omega
  have sok := smA_ok hR9.wf.1 he
  rcases S2.2.2 with ⟨ty2, s1, n114, x, z, x1, z1, X, Z⟩ | ⟨ty2, s1, s2, z, z1, Z⟩
  · right
    refine ⟨ty2, ?_⟩
    simp [bX21_work_48, o_ic, o_lc, o_null, o_il, o_ll, o_al, o_dup, o_pop, o_dup_x1, o_dup2, o_iadd, o_isub, o_imul, o_iand, o_ior, o_ixor, o_ishl, o_ishr, o_idiv, o_irem, o_ineg, o_ladd, o_lsub, o_lmul, o_land, o_lor, o_lxor, o_ldiv, o_lrem, o_lneg, o_lcmp, o_i2l, o_l2i, o_i2b, o_i2c, o_iushr, o_lshl, o_lshr, o_if_eq, o_if_ne, o_if_lt, o_if_ge, o_if_gt, o_if_le, o_icmp_eq, o_icmp_ne, o_icmp_lt, o_icmp_ge, o_icmp_gt, o_icmp_le, o_ifnull, o_ifnonnull, o_acmp_eq, o_acmp_ne, o_is, o_ls, o_as, o_iinc, o_kill, o_sw, o_ireturn, o_zreturn, o_nreturn, o_lreturn, o_areturn, o_return, o_athrow, o_call, entP, lg_sl, Value.category, st1, st2, List.set, List.getElem?_cons_zero, List.getElem?_cons_succ, List.foldl, popN, aft]
    refine hv_first S2 (fun v _ V => ?_) (fun q => absurd q n114)
    simp [o_ic, o_lc, o_null, o_il, o_ll, o_al, o_dup, o_pop, o_dup_x1, o_dup2, o_iadd, o_isub, o_imul, o_iand, o_ior, o_ixor, o_ishl, o_ishr, o_idiv, o_irem, o_ineg, o_ladd, o_lsub, o_lmul, o_land, o_lor, o_lxor, o_ldiv, o_lrem, o_lneg, o_lcmp, o_i2l, o_l2i, o_i2b, o_i2c, o_iushr, o_lshl, o_lshr, o_if_eq, o_if_ne, o_if_lt, o_if_ge, o_if_gt, o_if_le, o_icmp_eq, o_icmp_ne, o_icmp_lt, o_icmp_ge, o_icmp_gt, o_icmp_le, o_ifnull, o_ifnonnull, o_acmp_eq, o_acmp_ne, o_is, o_ls, o_as, o_iinc, o_kill, o_sw, o_ireturn, o_zreturn, o_nreturn, o_lreturn, o_areturn, o_return, o_athrow, o_call, entP, lg_sl, Value.category, st1, st2, List.set, List.getElem?_cons_zero, List.getElem?_cons_succ, List.foldl, popN, aft]
    refine hv_worth G1 V ?_
    simp [o_ic, o_lc, o_null, o_il, o_ll, o_al, o_dup, o_pop, o_dup_x1, o_dup2, o_iadd, o_isub, o_imul, o_iand, o_ior, o_ixor, o_ishl, o_ishr, o_idiv, o_irem, o_ineg, o_ladd, o_lsub, o_lmul, o_land, o_lor, o_lxor, o_ldiv, o_lrem, o_lneg, o_lcmp, o_i2l, o_l2i, o_i2b, o_i2c, o_iushr, o_lshl, o_lshr, o_if_eq, o_if_ne, o_if_lt, o_if_ge, o_if_gt, o_if_le, o_icmp_eq, o_icmp_ne, o_icmp_lt, o_icmp_ge, o_icmp_gt, o_icmp_le, o_ifnull, o_ifnonnull, o_acmp_eq, o_acmp_ne, o_is, o_ls, o_as, o_iinc, o_kill, o_sw, o_ireturn, o_zreturn, o_nreturn, o_lreturn, o_areturn, o_return, o_athrow, o_call, entP, lg_sl, Value.category, st1, st2, List.set, List.getElem?_cons_zero, List.getElem?_cons_succ, List.foldl, popN, aft]
    refine hv_second S2 (fun v V => ?_)
    simp [o_ic, o_lc, o_null, o_il, o_ll, o_al, o_dup, o_pop, o_dup_x1, o_dup2, o_iadd, o_isub, o_imul, o_iand, o_ior, o_ixor, o_ishl, o_ishr, o_idiv, o_irem, o_ineg, o_ladd, o_lsub, o_lmul, o_land, o_lor, o_lxor, o_ldiv, o_lrem, o_lneg, o_lcmp, o_i2l, o_l2i, o_i2b, o_i2c, o_iushr, o_lshl, o_lshr, o_if_eq, o_if_ne, o_if_lt, o_if_ge, o_if_gt, o_if_le, o_icmp_eq, o_icmp_ne, o_icmp_lt, o_icmp_ge, o_icmp_gt, o_icmp_le, o_ifnull, o_ifnonnull, o_acmp_eq, o_acmp_ne, o_is, o_ls, o_as, o_iinc, o_kill, o_sw, o_ireturn, o_zreturn, o_nreturn, o_lreturn, o_areturn, o_return, o_athrow, o_call, entP, lg_sl, Value.category, st1, st2, List.set, List.getElem?_cons_zero, List.getElem?_cons_succ, List.foldl, popN, aft]
    refine hv_worth G1 V ?_
    simp [o_ic, o_lc, o_null, o_il, o_ll, o_al, o_dup, o_pop, o_dup_x1, o_dup2, o_iadd, o_isub, o_imul, o_iand, o_ior, o_ixor, o_ishl, o_ishr, o_idiv, o_irem, o_ineg, o_ladd, o_lsub, o_lmul, o_land, o_lor, o_lxor, o_ldiv, o_lrem, o_lneg, o_lcmp, o_i2l, o_l2i, o_i2b, o_i2c, o_iushr, o_lshl, o_lshr, o_if_eq, o_if_ne, o_if_lt, o_if_ge, o_if_gt, o_if_le, o_icmp_eq, o_icmp_ne, o_icmp_lt, o_icmp_ge, o_icmp_gt, o_icmp_le, o_ifnull, o_ifnonnull, o_acmp_eq, o_acmp_ne, o_is, o_ls, o_as, o_iinc, o_kill, o_sw, o_ireturn, o_zreturn, o_nreturn, o_lreturn, o_areturn, o_return, o_athrow, o_call, entP, lg_sl, Value.category, st1, st2, List.set, List.getElem?_cons_zero, List.getElem?_cons_succ, List.foldl, popN, aft]
    refine hv_sign S2 ?_
    have now1 : (bump st e).1 = st.1 := rfl
    rw [now1]
    have wk : wrk (smA R e) st.1 st.2.1 = (if (smA R e).1 = 38 then some (wth st.1 (smA R e).2.1 &&& wth st.1 (smA R e).2.2)
      else if (smA R e).1 = 42 then some (wth st.1 (smA R e).2.1 * wth st.1 (smA R e).2.2)
      else if (smA R e).1 = 43 then some (wth st.1 (smA R e).2.1 + wth st.1 (smA R e).2.2)
      else if (smA R e).1 = 45 then some (wth st.1 (smA R e).2.1 - wth st.1 (smA R e).2.2)
      else if (smA R e).1 = 94 then some (wth st.1 (smA R e).2.1 ^^^ wth st.1 (smA R e).2.2)
      else if wth st.1 (smA R e).2.2 = 0 then none
      else if wth st.1 (smA R e).2.2 = -1 then some (- wth st.1 (smA R e).2.1)
      else some (wth st.1 (smA R e).2.1 / wth st.1 (smA R e).2.2)) := by
      unfold wrk; rw [if_neg n114]
    rw [wk] at k1 k0
    generalize wth st.1 (smA R e).2.1 = u at *
    generalize wth st.1 (smA R e).2.2 = v at *
    generalize (smA R e).1 = sg at *
    simp [o_ic, o_lc, o_null, o_il, o_ll, o_al, o_dup, o_pop, o_dup_x1, o_dup2, o_iadd, o_isub, o_imul, o_iand, o_ior, o_ixor, o_ishl, o_ishr, o_idiv, o_irem, o_ineg, o_ladd, o_lsub, o_lmul, o_land, o_lor, o_lxor, o_ldiv, o_lrem, o_lneg, o_lcmp, o_i2l, o_l2i, o_i2b, o_i2c, o_iushr, o_lshl, o_lshr, o_if_eq, o_if_ne, o_if_lt, o_if_ge, o_if_gt, o_if_le, o_icmp_eq, o_icmp_ne, o_icmp_lt, o_icmp_ge, o_icmp_gt, o_icmp_le, o_ifnull, o_ifnonnull, o_acmp_eq, o_acmp_ne, o_is, o_ls, o_as, o_iinc, o_kill, o_sw, o_ireturn, o_zreturn, o_nreturn, o_lreturn, o_areturn, o_return, o_athrow, o_call, entP, lg_sl, Value.category, st1, st2, List.set, List.getElem?_cons_zero, List.getElem?_cons_succ, List.foldl, popN, aft, swR, bX21_work_120, bX21_work_124, bX21_work_128, bX21_work_132, bX21_work_136]
    refine ⟨fun g => ?_, fun g => ⟨fun g2 => ?_, fun g2 => ⟨fun g3 => ?_, fun g3 => ⟨fun g4 => ?_, fun g4 => ⟨fun g5 => ?_, fun g5 => ?_⟩⟩⟩⟩⟩
    · exact k1 _ σ1 (by rw [if_pos g]) F1 G1
    · exact k1 _ σ1 (by rw [if_neg g, if_pos g2]) F1 G1
    · exact k1 _ σ1 (by rw [if_neg g, if_neg g2, if_pos g3]) F1 G1
    · exact k1 _ σ1 (by rw [if_neg g, if_neg g2, if_neg g3, if_pos g4]) F1 G1
    · exact k1 _ σ1 (by rw [if_neg g, if_neg g2, if_neg g3, if_neg g4, if_pos g5]) F1 G1
    · rw [if_neg g, if_neg g2, if_neg g3, if_neg g4, if_neg g5] at k0
      simp only [if_neg g, if_neg g2, if_neg g3, if_neg g4, if_neg g5] at k1
      simp [bX21_work_140, bX21_work_152, bX21_work_162, bX21_work_165, o_ic, o_lc, o_null, o_il, o_ll, o_al, o_dup, o_pop, o_dup_x1, o_dup2, o_iadd, o_isub, o_imul, o_iand, o_ior, o_ixor, o_ishl, o_ishr, o_idiv, o_irem, o_ineg, o_ladd, o_lsub, o_lmul, o_land, o_lor, o_lxor, o_ldiv, o_lrem, o_lneg, o_lcmp, o_i2l, o_l2i, o_i2b, o_i2c, o_iushr, o_lshl, o_lshr, o_if_eq, o_if_ne, o_if_lt, o_if_ge, o_if_gt, o_if_le, o_icmp_eq, o_icmp_ne, o_icmp_lt, o_icmp_ge, o_icmp_gt, o_icmp_le, o_ifnull, o_ifnonnull, o_acmp_eq, o_acmp_ne, o_is, o_ls, o_as, o_iinc, o_kill, o_sw, o_ireturn, o_zreturn, o_nreturn, o_lreturn, o_areturn, o_return, o_athrow, o_call, entP, lg_sl, Value.category, st1, st2, List.set, List.getElem?_cons_zero, List.getElem?_cons_succ, List.foldl, popN, aft, o_gI, o_gR, o_pI, o_pN, o_pR, o_aI, o_aG, o_aR, o_len, o_aR8, o_sI, o_sB, o_sZ, o_sG, o_new, o_newA, o_cast, o_inst, o_cst, o_oi, o_sR, o_gIc, o_gSv, o_gSc, o_getc, o_dead, o_acopy, o_castA, o_castI, o_sR7, o_mna, o_mmax, o_mmin, o_mabs]
      refine ⟨fun z => ⟨fun z2 => ⟨z, k1 _ σ1 (by rw [if_neg z, if_neg z2]) F1 G1⟩, fun z2 => k1 _ σ1 (by rw [if_neg z, if_pos z2]) F1 G1⟩, fun z => ⟨⟨c11, c21⟩, ?_⟩⟩
      refine ct_refuse (hk1.nw (by omega)) (by rw [hT_nw, if_pos rfl]) (fun σ' o1 => ?_)
      simp [o_ic, o_lc, o_null, o_il, o_ll, o_al, o_dup, o_pop, o_dup_x1, o_dup2, o_iadd, o_isub, o_imul, o_iand, o_ior, o_ixor, o_ishl, o_ishr, o_idiv, o_irem, o_ineg, o_ladd, o_lsub, o_lmul, o_land, o_lor, o_lxor, o_ldiv, o_lrem, o_lneg, o_lcmp, o_i2l, o_l2i, o_i2b, o_i2c, o_iushr, o_lshl, o_lshr, o_if_eq, o_if_ne, o_if_lt, o_if_ge, o_if_gt, o_if_le, o_icmp_eq, o_icmp_ne, o_icmp_lt, o_icmp_ge, o_icmp_gt, o_icmp_le, o_ifnull, o_ifnonnull, o_acmp_eq, o_acmp_ne, o_is, o_ls, o_as, o_iinc, o_kill, o_sw, o_ireturn, o_zreturn, o_nreturn, o_lreturn, o_areturn, o_return, o_athrow, o_call, entP, lg_sl, Value.category, st1, st2, List.set, List.getElem?_cons_zero, List.getElem?_cons_succ, List.foldl, popN, aft, o_gI, o_gR, o_pI, o_pN, o_pR, o_aI, o_aG, o_aR, o_len, o_aR8, o_sI, o_sB, o_sZ, o_sG, o_new, o_newA, o_cast, o_inst, o_cst, o_oi, o_sR, o_gIc, o_gSv, o_gSc, o_getc, o_dead, o_acopy, o_castA, o_castI, o_sR7, o_mna, o_mmax, o_mmin, o_mabs]
      have F2 : HL κ NoM NoM 1 6 σ1 σ' := HL.ofNo (OwC.new hk1.1 o1) hk1 o1.1
      exact k0 (by rw [if_pos z]) σ' (hN σ1) ((F1.trans F2.wk).up (by omega) (by omega)) (G1.hl hk1 F2 (fun _ _ _ => ⟨id, id⟩)) (by rw [o1.2.2.1, hT_nw, if_pos rfl])
  · left
    obtain ⟨b, hb, hb2⟩ : ∃ b, b < 2 ∧ (smA R e).2.1 = (-1, nn b) := by
      rcases sok with ⟨-, ⟨b, hb1, hb2⟩, -⟩ | ⟨q, -, -⟩
      · exact ⟨b, hb1, hb2⟩
      · exfalso; rw [s1] at q; revert q; decide
    have bb : b < 2147483648 := by omega
    have i1 : hI σ1 y 1 = nn b := by rw [hb2, Prod.mk.injEq] at s2; exact s2.2.symm
    obtain ⟨f1, f2, f3⟩ := G1.1.2.2.2.2.2.2.2 b hb
    refine ⟨ty2, t1, ty2, ?_⟩
    rw [i1, q6]
    simp [q5, q5l, nn_in bb, nn_clamp bb, hb, f1, ty2, z1]
    refine hv_worth G1 Z ?_
    have now1 : (bump st e).1 = st.1 := rfl
    rw [now1]
    have wk : wrk (smA R e) st.1 st.2.1 = (if wth st.1 (smA R e).2.2 < 0 ∨ 7 < wth st.1 (smA R e).2.2 then none else some (st.2.1 (8 * nn b + wth st.1 (smA R e).2.2).toNatClampNeg)) := by
      unfold wrk; rw [if_pos s1, hb2]
    rw [wk] at k1 k0
    generalize wth st.1 (smA R e).2.2 = v at *
    simp [o_ic, o_lc, o_null, o_il, o_ll, o_al, o_dup, o_pop, o_dup_x1, o_dup2, o_iadd, o_isub, o_imul, o_iand, o_ior, o_ixor, o_ishl, o_ishr, o_idiv, o_irem, o_ineg, o_ladd, o_lsub, o_lmul, o_land, o_lor, o_lxor, o_ldiv, o_lrem, o_lneg, o_lcmp, o_i2l, o_l2i, o_i2b, o_i2c, o_iushr, o_lshl, o_lshr, o_if_eq, o_if_ne, o_if_lt, o_if_ge, o_if_gt, o_if_le, o_icmp_eq, o_icmp_ne, o_icmp_lt, o_icmp_ge, o_icmp_gt, o_icmp_le, o_ifnull, o_ifnonnull, o_acmp_eq, o_acmp_ne, o_is, o_ls, o_as, o_iinc, o_kill, o_sw, o_ireturn, o_zreturn, o_nreturn, o_lreturn, o_areturn, o_return, o_athrow, o_call, entP, lg_sl, Value.category, st1, st2, List.set, List.getElem?_cons_zero, List.getElem?_cons_succ, List.foldl, popN, aft, o_gI, o_gR, o_pI, o_pN, o_pR, o_aI, o_aG, o_aR, o_len, o_aR8, o_sI, o_sB, o_sZ, o_sG, o_new, o_newA, o_cast, o_inst, o_cst, o_oi, o_sR, o_gIc, o_gSv, o_gSc, o_getc, o_dead, o_acopy, o_castA, o_castI, o_sR7, o_mna, o_mmax, o_mmin, o_mabs, hvc, dspI, t1]
    refine ct_place hk1 c11 c21 (fun i hi' e' => ?_) (fun q σ' x F2 tx => ?_)
    · have bi : i < 2147483648 := by omega
      have v0 : ¬ (v < 0 ∨ 7 < v) := by
        rw [e', Int32.lt_iff_toInt_lt, Int32.lt_iff_toInt_lt, nn_toInt bi]
        have e3 : (7 : Int32).toInt = 7 := rfl
        have e0 : (0 : Int32).toInt = 0 := rfl
        omega
      have i6' := G1.2.2.2.2.2.2.1 b i hb hi'
      have hx := k1 (st.2.1 (8 * b + i)) σ1 (by rw [if_neg v0, e', nn_mulL, nn_add, nn_clamp (by omega)]) F1 G1
      subst e'
      simp [o_ic, o_lc, o_null, o_il, o_ll, o_al, o_dup, o_pop, o_dup_x1, o_dup2, o_iadd, o_isub, o_imul, o_iand, o_ior, o_ixor, o_ishl, o_ishr, o_idiv, o_irem, o_ineg, o_ladd, o_lsub, o_lmul, o_land, o_lor, o_lxor, o_ldiv, o_lrem, o_lneg, o_lcmp, o_i2l, o_l2i, o_i2b, o_i2c, o_iushr, o_lshl, o_lshr, o_if_eq, o_if_ne, o_if_lt, o_if_ge, o_if_gt, o_if_le, o_icmp_eq, o_icmp_ne, o_icmp_lt, o_icmp_ge, o_icmp_gt, o_icmp_le, o_ifnull, o_ifnonnull, o_acmp_eq, o_acmp_ne, o_is, o_ls, o_as, o_iinc, o_kill, o_sw, o_ireturn, o_zreturn, o_nreturn, o_lreturn, o_areturn, o_return, o_athrow, o_call, entP, lg_sl, Value.category, st1, st2, List.set, List.getElem?_cons_zero, List.getElem?_cons_succ, List.foldl, popN, aft, o_gI, o_gR, o_pI, o_pN, o_pR, o_aI, o_aG, o_aR, o_len, o_aR8, o_sI, o_sB, o_sZ, o_sG, o_new, o_newA, o_cast, o_inst, o_cst, o_oi, o_sR, o_gIc, o_gSv, o_gSc, o_getc, o_dead, o_acopy, o_castA, o_castI, o_sR7, o_mna, o_mmax, o_mmin, o_mabs, f2, f3, nn_in bi, nn_clamp bi, hi', i6']
      exact hx
    · simp [o_ic, o_lc, o_null, o_il, o_ll, o_al, o_dup, o_pop, o_dup_x1, o_dup2, o_iadd, o_isub, o_imul, o_iand, o_ior, o_ixor, o_ishl, o_ishr, o_idiv, o_irem, o_ineg, o_ladd, o_lsub, o_lmul, o_land, o_lor, o_lxor, o_ldiv, o_lrem, o_lneg, o_lcmp, o_i2l, o_l2i, o_i2b, o_i2c, o_iushr, o_lshl, o_lshr, o_if_eq, o_if_ne, o_if_lt, o_if_ge, o_if_gt, o_if_le, o_icmp_eq, o_icmp_ne, o_icmp_lt, o_icmp_ge, o_icmp_gt, o_icmp_le, o_ifnull, o_ifnonnull, o_acmp_eq, o_acmp_ne, o_is, o_ls, o_as, o_iinc, o_kill, o_sw, o_ireturn, o_zreturn, o_nreturn, o_lreturn, o_areturn, o_return, o_athrow, o_call, entP, lg_sl, Value.category, st1, st2, List.set, List.getElem?_cons_zero, List.getElem?_cons_succ, List.foldl, popN, aft]
      exact k0 (by rw [if_pos q]) σ' x ((F1.trans F2.wk).up (by omega) (by omega)) (G1.hl hk1 F2 (fun _ _ _ => ⟨id, id⟩)) tx
end WK
