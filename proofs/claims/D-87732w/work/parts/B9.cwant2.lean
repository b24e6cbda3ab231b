/-! THE COMPONENT: what is wanted, the loops -/
set_option maxRecDepth 100000
theorem LB.cpl {a : Int64} {f : Nat → Bool} (h : LB a f) : LB (~~~ a) (fun e => !f e) := fun e he => by
  rw [Int64.toBitVec_not, BitVec.getLsbD_not, h e he]
  simp [he]
section WB
variable {κ : Nat → Option Nat} {Q : Ret AH} {σ σ0 : AH} {r c s h9 : Nat} {R : Rt} {wss : List (Nat × List Nat)} {A NX BF : Nat → Nat} {B : Nat → List Nat} {ss : List Nat} {VA : Nat → Nat} {f : Nat → Nat → Nat → Bool}
/-- store and count -/
theorem wa_store {J26 J42 : Cont AH} {k : Nat} {mo : Bool} {X : Nat → Nat → Bool} {v : Int64} (hR : RtB κ σ r R wss A NX BF B ss h9) (hV9 : SV κ σ0 σ r (nds R).length VA 3 (upd3 f 2 X) c s) (hf0 : f 0 = fb R 0) (hk : k < (nds R).length)
    (hv : LB v (fun e => (((if (tl9 (t1R R k, t2R R k)).length = 0 then false else decide (e < (sms R.1).length) && !fb R 1 k e) && (tl9 (t1R R k, t2R R k)).all (fun y => X y e)) && !(b9 (seenN R (ndA (nds R) k)) && (decide (e < (sms R.1).length) && b9 (boldS (smA R e)))))))
    (kk : ∀ σ', SV κ σ0 σ' r (nds R).length VA 3 (upd3 f 2 (updM X k (rWan R X k))) c s → J42 [some (.ref r), some (.int (b2i (mo || chg (rWan R) X k) 1)), some (.int (nn k - 1)), none, none, none, none, none] [] σ') {x5 x6 : Option Value} :
    bX4_want_159 κ Q J26 J42 [some (.ref r), some (.int (b2i mo 1)), some (.int (nn k)), some (.ref (A k)), some (.long v), x5, x6, none] [] σ := by
  have h240 := nds_240 hR.wf.1
  obtain ⟨a1, a2, a3, a4, a5, a6, a7⟩ := hV9.2.2 0 (by omega)
  obtain ⟨b1, b2, b3, b4, b5, b6, b7⟩ := hV9.2.2 2 (by omega)
  rw [upd3_ne _ _ (by omega), hf0] at a7
  rw [upd3_eq] at b7
  have bk : k < 2147483648 := by omega
  have hv2 : LB (v ||| hG σ (VA 0) k) (rWan R X k) := hv.or (a7 k hk)
  have S2 := hV9.set (i := 2) (by omega) hk hv2
  have S3 : SV κ σ0 (hsG σ (VA 2) k (v ||| hG σ (VA 0) k)) r (nds R).length VA 3 (upd3 f 2 (updM X k (rWan R X k))) c s := S2.congr (fun i k' x hi' hk' hx => by
    by_cases e : i = 2
    · subst e; rw [upd3_eq, upd3_eq, upd3_eq]
    · rw [upd3_ne _ _ e, upd3_ne _ _ e, upd3_ne _ _ e])
  have heq := hv2.eq_iff (b7 k hk)
  have st : ∀ x : Bool, x = chg (rWan R) X k → bX4_want_188 κ Q J26 J42 [some (.ref r), some (.int (b2i mo 1)), some (.int (nn k)), some (.ref (A k)), some (.long (v ||| hG σ (VA 0) k)), none, x6, none] [.int (b2i x 1), .int (b2i mo 1)] σ := by
    intro x hx
    have := kk _ S3
    rw [← hx] at this
    simp [bX4_want_188, o_ic, o_lc, o_null, o_il, o_ll, o_al, o_dup, o_pop, o_dup_x1, o_dup2, o_iadd, o_isub, o_imul, o_iand, o_ior, o_ixor, o_ishl, o_ishr, o_idiv, o_irem, o_ineg, o_ladd, o_lsub, o_lmul, o_land, o_lor, o_lxor, o_ldiv, o_lrem, o_lneg, o_lcmp, o_i2l, o_l2i, o_i2b, o_i2c, o_iushr, o_lshl, o_lshr, o_if_eq, o_if_ne, o_if_lt, o_if_ge, o_if_gt, o_if_le, o_icmp_eq, o_icmp_ne, o_icmp_lt, o_icmp_ge, o_icmp_gt, o_icmp_le, o_ifnull, o_ifnonnull, o_acmp_eq, o_acmp_ne, o_is, o_ls, o_as, o_iinc, o_kill, o_sw, o_ireturn, o_zreturn, o_nreturn, o_lreturn, o_areturn, o_return, o_athrow, o_call, entP, lg_sl, Value.category, st1, st2, List.set, List.getElem?_cons_zero, List.getElem?_cons_succ, List.foldl, popN, aft, o_gI, o_gR, o_pI, o_pN, o_pR, o_aI, o_aG, o_aR, o_len, o_aR8, o_sI, o_sB, o_sZ, o_sG, o_new, o_newA, o_cast, o_inst, o_cst, o_oi, o_sR, o_gIc, o_gSv, o_gSc, o_getc, o_dead, o_acopy, o_castA, o_castI, o_sR7, o_mna, o_mmax, o_mmin, o_mabs, b2i_or, hR.tr, b1, va_rf, b2, b3, nn_eqL, nn_ltL, nn_leL, nn_Llt, nn_Lle, nn_lt, nn_le, nn_eq, nn_in, nn_clamp, nn_succ, nn_pos, nn_neg1, bk, hk, i32_m1]
    exact this
  simp [bX4_want_159, o_ic, o_lc, o_null, o_il, o_ll, o_al, o_dup, o_pop, o_dup_x1, o_dup2, o_iadd, o_isub, o_imul, o_iand, o_ior, o_ixor, o_ishl, o_ishr, o_idiv, o_irem, o_ineg, o_ladd, o_lsub, o_lmul, o_land, o_lor, o_lxor, o_ldiv, o_lrem, o_lneg, o_lcmp, o_i2l, o_l2i, o_i2b, o_i2c, o_iushr, o_lshl, o_lshr, o_if_eq, o_if_ne, o_if_lt, o_if_ge, o_if_gt, o_if_le, o_icmp_eq, o_icmp_ne, o_icmp_lt, o_icmp_ge, o_icmp_gt, o_icmp_le, o_ifnull, o_ifnonnull, o_acmp_eq, o_acmp_ne, o_is, o_ls, o_as, o_iinc, o_kill, o_sw, o_ireturn, o_zreturn, o_nreturn, o_lreturn, o_areturn, o_return, o_athrow, o_call, entP, lg_sl, Value.category, st1, st2, List.set, List.getElem?_cons_zero, List.getElem?_cons_succ, List.foldl, popN, aft, o_gI, o_gR, o_pI, o_pN, o_pR, o_aI, o_aG, o_aR, o_len, o_aR8, o_sI, o_sB, o_sZ, o_sG, o_new, o_newA, o_cast, o_inst, o_cst, o_oi, o_sR, o_gIc, o_gSv, o_gSc, o_getc, o_dead, o_acopy, o_castA, o_castI, o_sR7, o_mna, o_mmax, o_mmin, o_mabs, hR.tr, a1, b1, va_rf, a2, a3, b2, b3, nn_eqL, nn_ltL, nn_leL, nn_Llt, nn_Lle, nn_lt, nn_le, nn_eq, nn_in, nn_clamp, nn_succ, nn_pos, nn_neg1, bk, hk, lcmp_0]
  refine ⟨fun z => ?_, fun z => ?_⟩
  · have := st false (by
      symm; unfold chg; rw [b9_not]; rintro ⟨e, he, q⟩
      exact q (heq.1 z e he))
    rw [show b2i false 1 = 0 from rfl] at this
    simp [bX4_want_187, o_ic, o_lc, o_null, o_il, o_ll, o_al, o_dup, o_pop, o_dup_x1, o_dup2, o_iadd, o_isub, o_imul, o_iand, o_ior, o_ixor, o_ishl, o_ishr, o_idiv, o_irem, o_ineg, o_ladd, o_lsub, o_lmul, o_land, o_lor, o_lxor, o_ldiv, o_lrem, o_lneg, o_lcmp, o_i2l, o_l2i, o_i2b, o_i2c, o_iushr, o_lshl, o_lshr, o_if_eq, o_if_ne, o_if_lt, o_if_ge, o_if_gt, o_if_le, o_icmp_eq, o_icmp_ne, o_icmp_lt, o_icmp_ge, o_icmp_gt, o_icmp_le, o_ifnull, o_ifnonnull, o_acmp_eq, o_acmp_ne, o_is, o_ls, o_as, o_iinc, o_kill, o_sw, o_ireturn, o_zreturn, o_nreturn, o_lreturn, o_areturn, o_return, o_athrow, o_call, entP, lg_sl, Value.category, st1, st2, List.set, List.getElem?_cons_zero, List.getElem?_cons_succ, List.foldl, popN, aft]
    exact this
  · have := st true (by
      symm; unfold chg; rw [b9_iff]
      refine Classical.byContradiction fun q => z (heq.2 (fun e he => Classical.byContradiction fun w => q ⟨e, he, w⟩)))
    exact this
theorem wa_row {J26 Y : Cont AH} {k : Nat} {mo : Bool} {X : Nat → Nat → Bool} (hR : RtB κ σ r R wss A NX BF B ss h9) (h32 : (sms R.1).length ≤ 32) (hV9 : SV κ σ0 σ r (nds R).length VA 3 (upd3 f 2 X) c s) (hf0 : f 0 = fb R 0) (hf1 : f 1 = fb R 1) (hk : k < (nds R).length)
    (kk : ∀ σ', SV κ σ0 σ' r (nds R).length VA 3 (upd3 f 2 (updM X k (rWan R X k))) c s → Y [some (.ref r), some (.int (b2i (mo || chg (rWan R) X k) 1)), some (.int (nn k - 1)), none, none, none, none, none] [] σ') :
    (o_il 2 <|
    o_if_lt (bX4_want_204 κ Q J26) <|
    o_al 0 <|
    o_gR 1 [4] <|
    o_il 2 <|
    o_call 2 (hvc [(19, pJ2_get κ)]) (fun _ a σ => Q (.inr a) σ) <|
    o_cast [7, 8, 9, 10, 11, 12, 13, 14] <|
    o_as 3 <|
    o_al 3 <|
    o_gR 2 [7, 8, 9, 10, 11, 12, 13, 14] <|
    o_call 1 (hvc [(19, pJ2_size κ)]) (fun _ a σ => Q (.inr a) σ) <|
    o_if_ne (bX4_want_72 κ Q J26 Y) <|
    o_lc 0 <|
    (bX4_want_87 κ Q J26 Y)) [some (.ref r), some (.int (b2i mo 1)), some (.int (nn k)), none, none, none, none, none] [] σ := by
  have h240 := nds_240 hR.wf.1
  have t := hR.tgA hk
  obtain ⟨-, -, -, e2, e3, a1, a2⟩ := hR.nd k hk
  obtain ⟨d1, d2, d3, d4, d5, d6, d7⟩ := hV9.2.2 1 (by omega)
  rw [upd3_ne _ _ (by omega), hf1] at d7
  have bk : k < 2147483648 := by omega
  have r1 := hR.rr 1 (by omega)
  have hg : ((List.range (nds R).length).map A)[k]? = some (A k) := by rw [List.getElem?_map, List.getElem?_range hk]; rfl
  have hl2 := tl9_len (t1R R k, t2R R k)
  have bl : (tl9 (t1R R k, t2R R k)).length < 2147483648 := by omega
  -- behind the walk
  have beh : ∀ v, LB v (fun e => if (tl9 (t1R R k, t2R R k)).length = 0 then false else decide (e < (sms R.1).length) && !fb R 1 k e) → bX4_want_87 κ Q J26 Y [some (.ref r), some (.int (b2i mo 1)), some (.int (nn k)), some (.ref (A k)), none, none, none, none] [.long v] σ := by
    intro v hv
    simp [bX4_want_87, o_ic, o_lc, o_null, o_il, o_ll, o_al, o_dup, o_pop, o_dup_x1, o_dup2, o_iadd, o_isub, o_imul, o_iand, o_ior, o_ixor, o_ishl, o_ishr, o_idiv, o_irem, o_ineg, o_ladd, o_lsub, o_lmul, o_land, o_lor, o_lxor, o_ldiv, o_lrem, o_lneg, o_lcmp, o_i2l, o_l2i, o_i2b, o_i2c, o_iushr, o_lshl, o_lshr, o_if_eq, o_if_ne, o_if_lt, o_if_ge, o_if_gt, o_if_le, o_icmp_eq, o_icmp_ne, o_icmp_lt, o_icmp_ge, o_icmp_gt, o_icmp_le, o_ifnull, o_ifnonnull, o_acmp_eq, o_acmp_ne, o_is, o_ls, o_as, o_iinc, o_kill, o_sw, o_ireturn, o_zreturn, o_nreturn, o_lreturn, o_areturn, o_return, o_athrow, o_call, entP, lg_sl, Value.category, st1, st2, List.set, List.getElem?_cons_zero, List.getElem?_cons_succ, List.foldl, popN, aft]
    refine wa_next hR hV9 hk hv (fun v' hv' => ?_)
    simp [bX4_want_139, o_ic, o_lc, o_null, o_il, o_ll, o_al, o_dup, o_pop, o_dup_x1, o_dup2, o_iadd, o_isub, o_imul, o_iand, o_ior, o_ixor, o_ishl, o_ishr, o_idiv, o_irem, o_ineg, o_ladd, o_lsub, o_lmul, o_land, o_lor, o_lxor, o_ldiv, o_lrem, o_lneg, o_lcmp, o_i2l, o_l2i, o_i2b, o_i2c, o_iushr, o_lshl, o_lshr, o_if_eq, o_if_ne, o_if_lt, o_if_ge, o_if_gt, o_if_le, o_icmp_eq, o_icmp_ne, o_icmp_lt, o_icmp_ge, o_icmp_gt, o_icmp_le, o_ifnull, o_ifnonnull, o_acmp_eq, o_acmp_ne, o_is, o_ls, o_as, o_iinc, o_kill, o_sw, o_ireturn, o_zreturn, o_nreturn, o_lreturn, o_areturn, o_return, o_athrow, o_call, entP, lg_sl, Value.category, st1, st2, List.set, List.getElem?_cons_zero, List.getElem?_cons_succ, List.foldl, popN, aft]
    refine hR.seen hk ?_
    simp [o_ic, o_lc, o_null, o_il, o_ll, o_al, o_dup, o_pop, o_dup_x1, o_dup2, o_iadd, o_isub, o_imul, o_iand, o_ior, o_ixor, o_ishl, o_ishr, o_idiv, o_irem, o_ineg, o_ladd, o_lsub, o_lmul, o_land, o_lor, o_lxor, o_ldiv, o_lrem, o_lneg, o_lcmp, o_i2l, o_l2i, o_i2b, o_i2c, o_iushr, o_lshl, o_lshr, o_if_eq, o_if_ne, o_if_lt, o_if_ge, o_if_gt, o_if_le, o_icmp_eq, o_icmp_ne, o_icmp_lt, o_icmp_ge, o_icmp_gt, o_icmp_le, o_ifnull, o_ifnonnull, o_acmp_eq, o_acmp_ne, o_is, o_ls, o_as, o_iinc, o_kill, o_sw, o_ireturn, o_zreturn, o_nreturn, o_lreturn, o_areturn, o_return, o_athrow, o_call, entP, lg_sl, Value.category, st1, st2, List.set, List.getElem?_cons_zero, List.getElem?_cons_succ, List.foldl, popN, aft, b2i_0]
    refine ⟨fun z => ?_, fun z => ?_⟩
    · refine wa_store hR hV9 hf0 hk (hv'.congr (fun e he => ?_)) kk
      rw [z]; simp
    · refine ct_bold hR h32 (fun vb hb => ?_)
      simp [o_ic, o_lc, o_null, o_il, o_ll, o_al, o_dup, o_pop, o_dup_x1, o_dup2, o_iadd, o_isub, o_imul, o_iand, o_ior, o_ixor, o_ishl, o_ishr, o_idiv, o_irem, o_ineg, o_ladd, o_lsub, o_lmul, o_land, o_lor, o_lxor, o_ldiv, o_lrem, o_lneg, o_lcmp, o_i2l, o_l2i, o_i2b, o_i2c, o_iushr, o_lshl, o_lshr, o_if_eq, o_if_ne, o_if_lt, o_if_ge, o_if_gt, o_if_le, o_icmp_eq, o_icmp_ne, o_icmp_lt, o_icmp_ge, o_icmp_gt, o_icmp_le, o_ifnull, o_ifnonnull, o_acmp_eq, o_acmp_ne, o_is, o_ls, o_as, o_iinc, o_kill, o_sw, o_ireturn, o_zreturn, o_nreturn, o_lreturn, o_areturn, o_return, o_athrow, o_call, entP, lg_sl, Value.category, st1, st2, List.set, List.getElem?_cons_zero, List.getElem?_cons_succ, List.foldl, popN, aft]
      refine wa_store hR hV9 hf0 hk ((hv'.and hb.cpl).congr (fun e he => ?_)) kk
      rw [z]; simp
  have npos : ¬ nn k < 0 := fun q => (nn_pos bk).1 q
  have nle : ¬ 0 ≤ nn k ↔ False := by
    constructor
    · intro q; exact q (Int32.not_lt.1 npos)
    · exact False.elim
  simp [o_ic, o_lc, o_null, o_il, o_ll, o_al, o_dup, o_pop, o_dup_x1, o_dup2, o_iadd, o_isub, o_imul, o_iand, o_ior, o_ixor, o_ishl, o_ishr, o_idiv, o_irem, o_ineg, o_ladd, o_lsub, o_lmul, o_land, o_lor, o_lxor, o_ldiv, o_lrem, o_lneg, o_lcmp, o_i2l, o_l2i, o_i2b, o_i2c, o_iushr, o_lshl, o_lshr, o_if_eq, o_if_ne, o_if_lt, o_if_ge, o_if_gt, o_if_le, o_icmp_eq, o_icmp_ne, o_icmp_lt, o_icmp_ge, o_icmp_gt, o_icmp_le, o_ifnull, o_ifnonnull, o_acmp_eq, o_acmp_ne, o_is, o_ls, o_as, o_iinc, o_kill, o_sw, o_ireturn, o_zreturn, o_nreturn, o_lreturn, o_areturn, o_return, o_athrow, o_call, entP, lg_sl, Value.category, st1, st2, List.set, List.getElem?_cons_zero, List.getElem?_cons_succ, List.foldl, popN, aft, o_gI, o_gR, o_pI, o_pN, o_pR, o_aI, o_aG, o_aR, o_len, o_aR8, o_sI, o_sB, o_sZ, o_sG, o_new, o_newA, o_cast, o_inst, o_cst, o_oi, o_sR, o_gIc, o_gSv, o_gSc, o_getc, o_dead, o_acopy, o_castA, o_castI, o_sR7, o_mna, o_mmax, o_mmin, o_mabs, npos, hR.tr, r1, va_rf]
  refine hv_get hR.ns hg ?_
  simp [o_ic, o_lc, o_null, o_il, o_ll, o_al, o_dup, o_pop, o_dup_x1, o_dup2, o_iadd, o_isub, o_imul, o_iand, o_ior, o_ixor, o_ishl, o_ishr, o_idiv, o_irem, o_ineg, o_ladd, o_lsub, o_lmul, o_land, o_lor, o_lxor, o_ldiv, o_lrem, o_lneg, o_lcmp, o_i2l, o_l2i, o_i2b, o_i2c, o_iushr, o_lshl, o_lshr, o_if_eq, o_if_ne, o_if_lt, o_if_ge, o_if_gt, o_if_le, o_icmp_eq, o_icmp_ne, o_icmp_lt, o_icmp_ge, o_icmp_gt, o_icmp_le, o_ifnull, o_ifnonnull, o_acmp_eq, o_acmp_ne, o_is, o_ls, o_as, o_iinc, o_kill, o_sw, o_ireturn, o_zreturn, o_nreturn, o_lreturn, o_areturn, o_return, o_athrow, o_call, entP, lg_sl, Value.category, st1, st2, List.set, List.getElem?_cons_zero, List.getElem?_cons_succ, List.foldl, popN, aft, o_gI, o_gR, o_pI, o_pN, o_pR, o_aI, o_aG, o_aR, o_len, o_aR8, o_sI, o_sB, o_sZ, o_sG, o_new, o_newA, o_cast, o_inst, o_cst, o_oi, o_sR, o_gIc, o_gSv, o_gSc, o_getc, o_dead, o_acopy, o_castA, o_castI, o_sR7, o_mna, o_mmax, o_mmin, o_mabs, t, e2, va_rf]
  refine hv_size a1 ?_
  simp [o_ic, o_lc, o_null, o_il, o_ll, o_al, o_dup, o_pop, o_dup_x1, o_dup2, o_iadd, o_isub, o_imul, o_iand, o_ior, o_ixor, o_ishl, o_ishr, o_idiv, o_irem, o_ineg, o_ladd, o_lsub, o_lmul, o_land, o_lor, o_lxor, o_ldiv, o_lrem, o_lneg, o_lcmp, o_i2l, o_l2i, o_i2b, o_i2c, o_iushr, o_lshl, o_lshr, o_if_eq, o_if_ne, o_if_lt, o_if_ge, o_if_gt, o_if_le, o_icmp_eq, o_icmp_ne, o_icmp_lt, o_icmp_ge, o_icmp_gt, o_icmp_le, o_ifnull, o_ifnonnull, o_acmp_eq, o_acmp_ne, o_is, o_ls, o_as, o_iinc, o_kill, o_sw, o_ireturn, o_zreturn, o_nreturn, o_lreturn, o_areturn, o_return, o_athrow, o_call, entP, lg_sl, Value.category, st1, st2, List.set, List.getElem?_cons_zero, List.getElem?_cons_succ, List.foldl, popN, aft, o_gI, o_gR, o_pI, o_pN, o_pR, o_aI, o_aG, o_aR, o_len, o_aR8, o_sI, o_sB, o_sZ, o_sG, o_new, o_newA, o_cast, o_inst, o_cst, o_oi, o_sR, o_gIc, o_gSv, o_gSc, o_getc, o_dead, o_acopy, o_castA, o_castI, o_sR7, o_mna, o_mmax, o_mmin, o_mabs, nn_eqL, nn_ltL, nn_leL, nn_Llt, nn_Lle, nn_lt, nn_le, nn_eq, nn_in, nn_clamp, nn_succ, nn_pos, nn_neg1, bl]
  refine ⟨fun z => ?_, fun z => ?_⟩
  · simp [bX4_want_72, o_ic, o_lc, o_null, o_il, o_ll, o_al, o_dup, o_pop, o_dup_x1, o_dup2, o_iadd, o_isub, o_imul, o_iand, o_ior, o_ixor, o_ishl, o_ishr, o_idiv, o_irem, o_ineg, o_ladd, o_lsub, o_lmul, o_land, o_lor, o_lxor, o_ldiv, o_lrem, o_lneg, o_lcmp, o_i2l, o_l2i, o_i2b, o_i2c, o_iushr, o_lshl, o_lshr, o_if_eq, o_if_ne, o_if_lt, o_if_ge, o_if_gt, o_if_le, o_icmp_eq, o_icmp_ne, o_icmp_lt, o_icmp_ge, o_icmp_gt, o_icmp_le, o_ifnull, o_ifnonnull, o_acmp_eq, o_acmp_ne, o_is, o_ls, o_as, o_iinc, o_kill, o_sw, o_ireturn, o_zreturn, o_nreturn, o_lreturn, o_areturn, o_return, o_athrow, o_call, entP, lg_sl, Value.category, st1, st2, List.set, List.getElem?_cons_zero, List.getElem?_cons_succ, List.foldl, popN, aft]
    refine ct_all hR h32 (fun va hva => ?_)
    simp [o_ic, o_lc, o_null, o_il, o_ll, o_al, o_dup, o_pop, o_dup_x1, o_dup2, o_iadd, o_isub, o_imul, o_iand, o_ior, o_ixor, o_ishl, o_ishr, o_idiv, o_irem, o_ineg, o_ladd, o_lsub, o_lmul, o_land, o_lor, o_lxor, o_ldiv, o_lrem, o_lneg, o_lcmp, o_i2l, o_l2i, o_i2b, o_i2c, o_iushr, o_lshl, o_lshr, o_if_eq, o_if_ne, o_if_lt, o_if_ge, o_if_gt, o_if_le, o_icmp_eq, o_icmp_ne, o_icmp_lt, o_icmp_ge, o_icmp_gt, o_icmp_le, o_ifnull, o_ifnonnull, o_acmp_eq, o_acmp_ne, o_is, o_ls, o_as, o_iinc, o_kill, o_sw, o_ireturn, o_zreturn, o_nreturn, o_lreturn, o_areturn, o_return, o_athrow, o_call, entP, lg_sl, Value.category, st1, st2, List.set, List.getElem?_cons_zero, List.getElem?_cons_succ, List.foldl, popN, aft, o_gI, o_gR, o_pI, o_pN, o_pR, o_aI, o_aG, o_aR, o_len, o_aR8, o_sI, o_sB, o_sZ, o_sG, o_new, o_newA, o_cast, o_inst, o_cst, o_oi, o_sR, o_gIc, o_gSv, o_gSc, o_getc, o_dead, o_acopy, o_castA, o_castI, o_sR7, o_mna, o_mmax, o_mmin, o_mabs, hR.tr, d1, va_rf, d2, d3, nn_eqL, nn_ltL, nn_leL, nn_Llt, nn_Lle, nn_lt, nn_le, nn_eq, nn_in, nn_clamp, nn_succ, nn_pos, nn_neg1, bk, hk]
    refine beh _ ((hva.and (d7 k hk).cpl).congr (fun e he => ?_))
    rw [if_neg (by intro q; exact z (List.length_eq_zero_iff.1 q))]
  · refine beh 0 (LB.zero.congr (fun e he => ?_))
    rw [if_pos (by rw [z]; rfl)]
/-- want -/
theorem ct_want (hk0 : Hok κ σ0) (hR0 : RtB κ σ0 r R wss A NX BF B ss h9) (h32 : (sms R.1).length ≤ 32) (hV9 : SV κ σ0 σ r (nds R).length VA 2 f c s) (hf0 : f 0 = fb R 0) (hf1 : f 1 = fb R 1) (r1 : 1 ≤ hC σ) (r2 : 240 ≤ hS σ)
    (kk : ∀ σ' VA', SV κ σ0 σ' r (nds R).length VA' 3 (upd3 f 2 (fb R 2)) (c + 1) (s + (nds R).length) → Q (.inl none) σ') : hvc [(4, pX4_want κ)] [.ref r] σ Q := by
  have hR := hV9.rt hk0 hR0
  have h240 := nds_240 hR.wf.1
  have rr1 := hR.rr 1 (by omega)
  have rul := rul_want (R := R) hR.wf.1 hR.wf.2.1
  have bn : (nds R).length < 2147483648 := by omega
  have npos : ¬ nn (nds R).length < 0 := fun q => (nn_pos bn).1 q
  have S1 := hV9.new hk0 hR0.tr
  have hR1 := S1.rt hk0 hR0
  have q2 : (nds R).length ≤ hS σ := by omega
  have q3 : (nds R).length ≤ 65536 := by omega
  simp [hvc, dspI, hR.tr, pX4_want, bX4_want_0, o_ic, o_lc, o_null, o_il, o_ll, o_al, o_dup, o_pop, o_dup_x1, o_dup2, o_iadd, o_isub, o_imul, o_iand, o_ior, o_ixor, o_ishl, o_ishr, o_idiv, o_irem, o_ineg, o_ladd, o_lsub, o_lmul, o_land, o_lor, o_lxor, o_ldiv, o_lrem, o_lneg, o_lcmp, o_i2l, o_l2i, o_i2b, o_i2c, o_iushr, o_lshl, o_lshr, o_if_eq, o_if_ne, o_if_lt, o_if_ge, o_if_gt, o_if_le, o_icmp_eq, o_icmp_ne, o_icmp_lt, o_icmp_ge, o_icmp_gt, o_icmp_le, o_ifnull, o_ifnonnull, o_acmp_eq, o_acmp_ne, o_is, o_ls, o_as, o_iinc, o_kill, o_sw, o_ireturn, o_zreturn, o_nreturn, o_lreturn, o_areturn, o_return, o_athrow, o_call, entP, lg_sl, Value.category, st1, st2, List.set, List.getElem?_cons_zero, List.getElem?_cons_succ, List.foldl, popN, aft, o_gI, o_gR, o_pI, o_pN, o_pR, o_aI, o_aG, o_aR, o_len, o_aR8, o_sI, o_sB, o_sZ, o_sG, o_new, o_newA, o_cast, o_inst, o_cst, o_oi, o_sR, o_gIc, o_gSv, o_gSc, o_getc, o_dead, o_acopy, o_castA, o_castI, o_sR7, o_mna, o_mmax, o_mmin, o_mabs, rr1, va_rf]
  refine ⟨hR.ns.1, cq_size hR.ns ?_⟩
  simp only [List.length_map, List.length_range]
  have hrne : ¬ r = hN σ := by have := hV9.1.ok.1.lt (a := r) (by rw [hR.tr]; decide); omega
  simp [o_ic, o_lc, o_null, o_il, o_ll, o_al, o_dup, o_pop, o_dup_x1, o_dup2, o_iadd, o_isub, o_imul, o_iand, o_ior, o_ixor, o_ishl, o_ishr, o_idiv, o_irem, o_ineg, o_ladd, o_lsub, o_lmul, o_land, o_lor, o_lxor, o_ldiv, o_lrem, o_lneg, o_lcmp, o_i2l, o_l2i, o_i2b, o_i2c, o_iushr, o_lshl, o_lshr, o_if_eq, o_if_ne, o_if_lt, o_if_ge, o_if_gt, o_if_le, o_icmp_eq, o_icmp_ne, o_icmp_lt, o_icmp_ge, o_icmp_gt, o_icmp_le, o_ifnull, o_ifnonnull, o_acmp_eq, o_acmp_ne, o_is, o_ls, o_as, o_iinc, o_kill, o_sw, o_ireturn, o_zreturn, o_nreturn, o_lreturn, o_areturn, o_return, o_athrow, o_call, entP, lg_sl, Value.category, st1, st2, List.set, List.getElem?_cons_zero, List.getElem?_cons_succ, List.foldl, popN, aft, o_gI, o_gR, o_pI, o_pN, o_pR, o_aI, o_aG, o_aR, o_len, o_aR8, o_sI, o_sB, o_sZ, o_sG, o_new, o_newA, o_cast, o_inst, o_cst, o_oi, o_sR, o_gIc, o_gSv, o_gSc, o_getc, o_dead, o_acopy, o_castA, o_castI, o_sR7, o_mna, o_mmax, o_mmin, o_mabs, npos, nn_eqL, nn_ltL, nn_leL, nn_Llt, nn_Lle, nn_lt, nn_le, nn_eq, nn_in, nn_clamp, nn_succ, nn_pos, nn_neg1, bn, q2, q3, r1, hT_nw, hrne, hR.tr, hR_sR, hT_sR, va_rf, vref]
  refine ct_all hR1 h32 (fun va hva => ?_)
  simp [o_ic, o_lc, o_null, o_il, o_ll, o_al, o_dup, o_pop, o_dup_x1, o_dup2, o_iadd, o_isub, o_imul, o_iand, o_ior, o_ixor, o_ishl, o_ishr, o_idiv, o_irem, o_ineg, o_ladd, o_lsub, o_lmul, o_land, o_lor, o_lxor, o_ldiv, o_lrem, o_lneg, o_lcmp, o_i2l, o_l2i, o_i2b, o_i2c, o_iushr, o_lshl, o_lshr, o_if_eq, o_if_ne, o_if_lt, o_if_ge, o_if_gt, o_if_le, o_icmp_eq, o_icmp_ne, o_icmp_lt, o_icmp_ge, o_icmp_gt, o_icmp_le, o_ifnull, o_ifnonnull, o_acmp_eq, o_acmp_ne, o_is, o_ls, o_as, o_iinc, o_kill, o_sw, o_ireturn, o_zreturn, o_nreturn, o_lreturn, o_areturn, o_return, o_athrow, o_call, entP, lg_sl, Value.category, st1, st2, List.set, List.getElem?_cons_zero, List.getElem?_cons_succ, List.foldl, popN, aft]
  have e2 : updA VA 2 (hN σ) 2 = hN σ := updA_eq _ _ _
  have hset := ct_set (κ := κ) (Q := aft [some (.ref r), none, none, none, none, none, none, none] [] (fun x a σ => Q (.inr a) σ) (o_ic 1 (o_is 1 (o_kill [2, 3, 4, 5, 6, 7] (bX4_want_26 κ Q))))) (i := 2) S1 (by omega) h240 hva (fun σ2 S2 => ?_)
  · rw [e2] at hset
    exact hset
  simp [o_ic, o_lc, o_null, o_il, o_ll, o_al, o_dup, o_pop, o_dup_x1, o_dup2, o_iadd, o_isub, o_imul, o_iand, o_ior, o_ixor, o_ishl, o_ishr, o_idiv, o_irem, o_ineg, o_ladd, o_lsub, o_lmul, o_land, o_lor, o_lxor, o_ldiv, o_lrem, o_lneg, o_lcmp, o_i2l, o_l2i, o_i2b, o_i2c, o_iushr, o_lshl, o_lshr, o_if_eq, o_if_ne, o_if_lt, o_if_ge, o_if_gt, o_if_le, o_icmp_eq, o_icmp_ne, o_icmp_lt, o_icmp_ge, o_icmp_gt, o_icmp_le, o_ifnull, o_ifnonnull, o_acmp_eq, o_acmp_ne, o_is, o_ls, o_as, o_iinc, o_kill, o_sw, o_ireturn, o_zreturn, o_nreturn, o_lreturn, o_areturn, o_return, o_athrow, o_call, entP, lg_sl, Value.category, st1, st2, List.set, List.getElem?_cons_zero, List.getElem?_cons_succ, List.foldl, popN, aft]
  have S3 : SV κ σ0 σ2 r (nds R).length (updA VA 2 (hN σ)) 3 (upd3 f 2 (fun _ e => decide (e < (sms R.1).length))) (c + 1) (s + (nds R).length) := S2.congr (fun i k x hi' hk' hx => by
    by_cases e : i = 2
    · subst e; rw [upd3_eq, upd3_eq]
    · rw [upd3_ne _ _ e, upd3_ne _ _ e, upd3_ne _ _ e])
  clear S2 S1 hR1
  generalize updA VA 2 (hN σ) = VA' at S3
  unfold bX4_want_26
  intro Z hZ
  -- passes
  have outer : ∀ mu (σ : AH) (X : Nat → Nat → Bool) (mo : Bool), muM (nds R).length X + (if mo = true then 1 else 0) ≤ mu → NInv (nds R).length (sms R.1).length (rWan R) (fun e => fWan (nds R).length (t1R R) (t2R R) (wkP R e) (klP R e) (bsP R e)) X → (mo = false → ∀ k e, k < (nds R).length → e < 64 → rWan R X k e = X k e) → SV κ σ0 σ r (nds R).length VA' 3 (upd3 f 2 X) (c + 1) (s + (nds R).length) → Z [some (.ref r), some (.int (b2i mo 1)), none, none, none, none, none, none] [] σ := by
    intro mu
    induction mu with
    | zero =>
      intro σ X mo hmu hN9 hfx S
      have hm : mo = false := by
        cases mo with
        | false => rfl
        | true => simp at hmu
      subst hm
      apply hZ
      simp [b2i, o_ic, o_lc, o_null, o_il, o_ll, o_al, o_dup, o_pop, o_dup_x1, o_dup2, o_iadd, o_isub, o_imul, o_iand, o_ior, o_ixor, o_ishl, o_ishr, o_idiv, o_irem, o_ineg, o_ladd, o_lsub, o_lmul, o_land, o_lor, o_lxor, o_ldiv, o_lrem, o_lneg, o_lcmp, o_i2l, o_l2i, o_i2b, o_i2c, o_iushr, o_lshl, o_lshr, o_if_eq, o_if_ne, o_if_lt, o_if_ge, o_if_gt, o_if_le, o_icmp_eq, o_icmp_ne, o_icmp_lt, o_icmp_ge, o_icmp_gt, o_icmp_le, o_ifnull, o_ifnonnull, o_acmp_eq, o_acmp_ne, o_is, o_ls, o_as, o_iinc, o_kill, o_sw, o_ireturn, o_zreturn, o_nreturn, o_lreturn, o_areturn, o_return, o_athrow, o_call, entP, lg_sl, Value.category, st1, st2, List.set, List.getElem?_cons_zero, List.getElem?_cons_succ, List.foldl, popN, aft, bX4_want_207]
      refine kk σ VA' (S.congr (fun i k x hi' hk' hx => ?_))
      by_cases e : i = 2
      · subst e
        rw [upd3_eq, upd3_eq]
        exact hN9.done rul (hfx rfl) k x hk' hx
      · rw [upd3_ne _ _ e, upd3_ne _ _ e]
    | succ mu ih =>
      intro σ X mo hmu hN9 hfx S
      cases mo with
      | false =>
        apply hZ
        simp [b2i, o_ic, o_lc, o_null, o_il, o_ll, o_al, o_dup, o_pop, o_dup_x1, o_dup2, o_iadd, o_isub, o_imul, o_iand, o_ior, o_ixor, o_ishl, o_ishr, o_idiv, o_irem, o_ineg, o_ladd, o_lsub, o_lmul, o_land, o_lor, o_lxor, o_ldiv, o_lrem, o_lneg, o_lcmp, o_i2l, o_l2i, o_i2b, o_i2c, o_iushr, o_lshl, o_lshr, o_if_eq, o_if_ne, o_if_lt, o_if_ge, o_if_gt, o_if_le, o_icmp_eq, o_icmp_ne, o_icmp_lt, o_icmp_ge, o_icmp_gt, o_icmp_le, o_ifnull, o_ifnonnull, o_acmp_eq, o_acmp_ne, o_is, o_ls, o_as, o_iinc, o_kill, o_sw, o_ireturn, o_zreturn, o_nreturn, o_lreturn, o_areturn, o_return, o_athrow, o_call, entP, lg_sl, Value.category, st1, st2, List.set, List.getElem?_cons_zero, List.getElem?_cons_succ, List.foldl, popN, aft, bX4_want_207]
        refine kk σ VA' (S.congr (fun i k x hi' hk' hx => ?_))
        by_cases e : i = 2
        · subst e
          rw [upd3_eq, upd3_eq]
          exact hN9.done rul (hfx rfl) k x hk' hx
        · rw [upd3_ne _ _ e, upd3_ne _ _ e]
      | true =>
        have hmu' : muM (nds R).length X ≤ mu := by simp at hmu; omega
        apply hZ
        have hR' := S.rt hk0 hR0
        have rr1' := hR'.rr 1 (by omega)
        simp [b2i, o_ic, o_lc, o_null, o_il, o_ll, o_al, o_dup, o_pop, o_dup_x1, o_dup2, o_iadd, o_isub, o_imul, o_iand, o_ior, o_ixor, o_ishl, o_ishr, o_idiv, o_irem, o_ineg, o_ladd, o_lsub, o_lmul, o_land, o_lor, o_lxor, o_ldiv, o_lrem, o_lneg, o_lcmp, o_i2l, o_l2i, o_i2b, o_i2c, o_iushr, o_lshl, o_lshr, o_if_eq, o_if_ne, o_if_lt, o_if_ge, o_if_gt, o_if_le, o_icmp_eq, o_icmp_ne, o_icmp_lt, o_icmp_ge, o_icmp_gt, o_icmp_le, o_ifnull, o_ifnonnull, o_acmp_eq, o_acmp_ne, o_is, o_ls, o_as, o_iinc, o_kill, o_sw, o_ireturn, o_zreturn, o_nreturn, o_lreturn, o_areturn, o_return, o_athrow, o_call, entP, lg_sl, Value.category, st1, st2, List.set, List.getElem?_cons_zero, List.getElem?_cons_succ, List.foldl, popN, aft, o_gI, o_gR, o_pI, o_pN, o_pR, o_aI, o_aG, o_aR, o_len, o_aR8, o_sI, o_sB, o_sZ, o_sG, o_new, o_newA, o_cast, o_inst, o_cst, o_oi, o_sR, o_gIc, o_gSv, o_gSc, o_getc, o_dead, o_acopy, o_castA, o_castI, o_sR7, o_mna, o_mmax, o_mmin, o_mabs, hR'.tr, rr1', va_rf]
        refine hv_size hR'.ns ?_
        simp only [List.length_map, List.length_range]
        simp [o_ic, o_lc, o_null, o_il, o_ll, o_al, o_dup, o_pop, o_dup_x1, o_dup2, o_iadd, o_isub, o_imul, o_iand, o_ior, o_ixor, o_ishl, o_ishr, o_idiv, o_irem, o_ineg, o_ladd, o_lsub, o_lmul, o_land, o_lor, o_lxor, o_ldiv, o_lrem, o_lneg, o_lcmp, o_i2l, o_l2i, o_i2b, o_i2c, o_iushr, o_lshl, o_lshr, o_if_eq, o_if_ne, o_if_lt, o_if_ge, o_if_gt, o_if_le, o_icmp_eq, o_icmp_ne, o_icmp_lt, o_icmp_ge, o_icmp_gt, o_icmp_le, o_ifnull, o_ifnonnull, o_acmp_eq, o_acmp_ne, o_is, o_ls, o_as, o_iinc, o_kill, o_sw, o_ireturn, o_zreturn, o_nreturn, o_lreturn, o_areturn, o_return, o_athrow, o_call, entP, lg_sl, Value.category, st1, st2, List.set, List.getElem?_cons_zero, List.getElem?_cons_succ, List.foldl, popN, aft]
        unfold bX4_want_42
        intro Y hY
        have inner : ∀ j (σ : AH) (X1 : Nat → Nat → Bool) (mo : Bool), j ≤ (nds R).length → PsI (nds R).length (sms R.1).length (rWan R) (fun e => fWan (nds R).length (t1R R) (t2R R) (wkP R e) (klP R e) (bsP R e)) (fun k => j ≤ k) mo X1 X → SV κ σ0 σ r (nds R).length VA' 3 (upd3 f 2 X1) (c + 1) (s + (nds R).length) → Y [some (.ref r), some (.int (b2i mo 1)), some (.int (nn j - 1)), none, none, none, none, none] [] σ := by
          intro j
          induction j with
          | zero =>
            intro σ X1 mo hj hP S
            apply hY
            rw [nn_0m1]
            simp [o_ic, o_lc, o_null, o_il, o_ll, o_al, o_dup, o_pop, o_dup_x1, o_dup2, o_iadd, o_isub, o_imul, o_iand, o_ior, o_ixor, o_ishl, o_ishr, o_idiv, o_irem, o_ineg, o_ladd, o_lsub, o_lmul, o_land, o_lor, o_lxor, o_ldiv, o_lrem, o_lneg, o_lcmp, o_i2l, o_l2i, o_i2b, o_i2c, o_iushr, o_lshl, o_lshr, o_if_eq, o_if_ne, o_if_lt, o_if_ge, o_if_gt, o_if_le, o_icmp_eq, o_icmp_ne, o_icmp_lt, o_icmp_ge, o_icmp_gt, o_icmp_le, o_ifnull, o_ifnonnull, o_acmp_eq, o_acmp_ne, o_is, o_ls, o_as, o_iinc, o_kill, o_sw, o_ireturn, o_zreturn, o_nreturn, o_lreturn, o_areturn, o_return, o_athrow, o_call, entP, lg_sl, Value.category, st1, st2, List.set, List.getElem?_cons_zero, List.getElem?_cons_succ, List.foldl, popN, aft, bX4_want_204]
            refine ih σ X1 mo ?_ hP.1 (fun hm k e hk' he => hP.2.1 hm k e hk' (Nat.zero_le _) he) S
            cases mo with
            | false => simp; have := hP.2.2.2; omega
            | true => have := hP.2.2.1 rfl; simp; omega
          | succ j ihj =>
            intro σ X1 mo hj hP S
            apply hY
            rw [nn_pred (show 0 < j + 1 by omega), Nat.add_sub_cancel]
            have hR' := S.rt hk0 hR0
            refine wa_row hR' h32 S hf0 hf1 (by omega) (fun σ' S' => ?_)
            exact ihj σ' _ _ (by omega) ((hP.step rul (by omega) (show j < (nds R).length by omega)).imp (fun i hi' hij => by
              by_cases e : i = j
              · exact Or.inr e
              · exact Or.inl (by omega))) S'
        exact inner (nds R).length σ X false (Nat.le_refl _) ((PsI.start hN9).imp (fun i hi' q => by omega)) S
  exact outer (muM (nds R).length (fun _ e => decide (e < (sms R.1).length)) + 1) σ2 _ true (by simp) (NInv.start rul) (fun q => by cases q) S3
end WB
