/-! THE COMPONENT: what is there -/
set_option maxRecDepth 100000
section BE
variable {κ : Nat → Option Nat} {Q : Ret AH} {σ σ0 : AH} {r c s h9 : Nat} {R : Rt} {wss : List (Nat × List Nat)} {A NX BF : Nat → Nat} {B : Nat → List Nat} {ss : List Nat} {VA : Nat → Nat} {f : Nat → Nat → Nat → Bool}
noncomputable def rThe (R : Rt) (B : Nat → List Nat) (X : Nat → Nat → Bool) (k e : Nat) : Bool := (if k = 0 then false else decide (e < (sms R.1).length)) && (B k).all (fun p => !fb R 1 p e && (fb R 0 p e || X p e))
theorem rul_be (hB : ∀ k, k < (nds R).length → ∀ p, p ∈ B k ↔ ld (nds R).length (t1R R) (t2R R) p k) : Rul (nds R).length (sms R.1).length (rThe R B) (fun e => fThe (nds R).length (t1R R) (t2R R) (wkP R e) (klP R e)) := by
  refine ⟨fun X k e hk he => ?_, fun X k e hk he he2 => ?_, fun e X Y hXY k hk => fThe_mono X Y hXY k hk, fun e X k hk => hk.1⟩
  · unfold rThe fThe fb
    simp only [he, decide_true, Bool.true_and, Bool.and_eq_true, List.all_eq_true, Bool.or_eq_true, Bool.not_eq_true', b9_iff, b9_not]
    constructor
    · rintro ⟨h1, h2⟩
      split at h1
      · cases h1
      · next h0 =>
        refine ⟨hk, by omega, fun a ha => ?_⟩
        have := h2 a ((hB k hk a).2 ha)
        exact ⟨this.1, this.2.imp id (fun q => ⟨ha.1, q⟩)⟩
    · rintro ⟨-, h0, h2⟩
      refine ⟨by rw [if_neg (by omega)], fun p hp => ?_⟩
      have := h2 p ((hB k hk p).1 hp)
      exact ⟨this.1, this.2.imp id (fun q => q.2)⟩
  · have : ¬ e < (sms R.1).length := by omega
    unfold rThe
    simp [this]
theorem RtB.bf_lt (h : RtB κ σ r R wss A NX BF B ss h9) {k y : Nat} (hk : k < (nds R).length) (hy : y ∈ B k) : y < (nds R).length := (((h.bf k hk).1 y).1 hy).1
theorem RtB.bf_len (h : RtB κ σ r R wss A NX BF B ss h9) {k : Nat} (hk : k < (nds R).length) : (B k).length ≤ 240 := by
  rw [(h.bf k hk).2]
  have := cntT_le (nds R).length (fun a => b9 (t1R R a = some k ∨ t2R R a = some k))
  have := nds_240 h.wf.1
  omega
theorem be_bef {J26 J34 : Cont AH} {k : Nat} {mo : Int32} {X : Nat → Nat → Bool} {g0 : Nat → Bool} {v : Int64} (hR : RtB κ σ r R wss A NX BF B ss h9) (hV9 : SV κ σ0 σ r (nds R).length VA 4 (upd3 f 3 X) c s) (hf0 : f 0 = fb R 0) (hf1 : f 1 = fb R 1) (hk : k < (nds R).length) (hv : LB v g0)
    (kk : ∀ v', LB v' (fun e => g0 e && (B k).all (fun p => !fb R 1 p e && (fb R 0 p e || X p e))) → bX4_be_152 κ Q J26 J34 [some (.ref r), some (.int mo), some (.int (nn k)), some (.long v'), none, some (.int (nn (B k).length)), none] [] σ) :
    bX4_be_61 κ Q J26 J34 [some (.ref r), some (.int mo), some (.int (nn k)), some (.long v), none, some (.int 0), none] [] σ := by
  unfold bX4_be_61
  intro Y hY
  have t := hR.tgA hk
  obtain ⟨-, -, -, e2, e3, a1, a2⟩ := hR.nd k hk
  have h240 := nds_240 hR.wf.1
  have rr1 := hR.rr 1 (by omega)
  have hgk : ((List.range (nds R).length).map A)[k]? = some (A k) := by rw [List.getElem?_map, List.getElem?_range hk]; rfl
  obtain ⟨b1, b2, b3, b4, b5, b6, b7⟩ := hV9.2.2 3 (by omega)
  obtain ⟨c1, c2, c3, c4, c5, c6, c7⟩ := hV9.2.2 0 (by omega)
  obtain ⟨d1, d2, d3, d4, d5, d6, d7⟩ := hV9.2.2 1 (by omega)
  rw [upd3_eq] at b7
  rw [upd3_ne _ _ (by omega), hf0] at c7
  rw [upd3_ne _ _ (by omega), hf1] at d7
  have hl2 := hR.bf_len hk
  have bk : k < 2147483648 := by omega
  have main : ∀ m i v, i + m = (B k).length → LB v (fun e => g0 e && ((B k).take i).all (fun p => !fb R 1 p e && (fb R 0 p e || X p e))) → Y [some (.ref r), some (.int mo), some (.int (nn k)), some (.long v), none, some (.int (nn i)), none] [] σ := by
    intro m
    induction m with
    | zero =>
      intro i v hi' hv
      apply hY
      have bi : i < 2147483648 := by omega
      have bl : (B k).length < 2147483648 := by omega
      have le : (B k).length ≤ i := by omega
      simp [o_ic, o_lc, o_null, o_il, o_ll, o_al, o_dup, o_pop, o_dup_x1, o_dup2, o_iadd, o_isub, o_imul, o_iand, o_ior, o_ixor, o_ishl, o_ishr, o_idiv, o_irem, o_ineg, o_ladd, o_lsub, o_lmul, o_land, o_lor, o_lxor, o_ldiv, o_lrem, o_lneg, o_lcmp, o_i2l, o_l2i, o_i2b, o_i2c, o_iushr, o_lshl, o_lshr, o_if_eq, o_if_ne, o_if_lt, o_if_ge, o_if_gt, o_if_le, o_icmp_eq, o_icmp_ne, o_icmp_lt, o_icmp_ge, o_icmp_gt, o_icmp_le, o_ifnull, o_ifnonnull, o_acmp_eq, o_acmp_ne, o_is, o_ls, o_as, o_iinc, o_kill, o_sw, o_ireturn, o_zreturn, o_nreturn, o_lreturn, o_areturn, o_return, o_athrow, o_call, entP, lg_sl, Value.category, st1, st2, List.set, List.getElem?_cons_zero, List.getElem?_cons_succ, List.foldl, popN, aft, o_gI, o_gR, o_pI, o_pN, o_pR, o_aI, o_aG, o_aR, o_len, o_aR8, o_sI, o_sB, o_sZ, o_sG, o_new, o_newA, o_cast, o_inst, o_cst, o_oi, o_sR, o_gIc, o_gSv, o_gSc, o_getc, o_dead, o_acopy, o_castA, o_castI, o_sR7, o_mna, o_mmax, o_mmin, o_mabs, hR.tr, rr1, va_rf]
      refine hv_get hR.ns hgk ?_
      simp [o_ic, o_lc, o_null, o_il, o_ll, o_al, o_dup, o_pop, o_dup_x1, o_dup2, o_iadd, o_isub, o_imul, o_iand, o_ior, o_ixor, o_ishl, o_ishr, o_idiv, o_irem, o_ineg, o_ladd, o_lsub, o_lmul, o_land, o_lor, o_lxor, o_ldiv, o_lrem, o_lneg, o_lcmp, o_i2l, o_l2i, o_i2b, o_i2c, o_iushr, o_lshl, o_lshr, o_if_eq, o_if_ne, o_if_lt, o_if_ge, o_if_gt, o_if_le, o_icmp_eq, o_icmp_ne, o_icmp_lt, o_icmp_ge, o_icmp_gt, o_icmp_le, o_ifnull, o_ifnonnull, o_acmp_eq, o_acmp_ne, o_is, o_ls, o_as, o_iinc, o_kill, o_sw, o_ireturn, o_zreturn, o_nreturn, o_lreturn, o_areturn, o_return, o_athrow, o_call, entP, lg_sl, Value.category, st1, st2, List.set, List.getElem?_cons_zero, List.getElem?_cons_succ, List.foldl, popN, aft, o_gI, o_gR, o_pI, o_pN, o_pR, o_aI, o_aG, o_aR, o_len, o_aR8, o_sI, o_sB, o_sZ, o_sG, o_new, o_newA, o_cast, o_inst, o_cst, o_oi, o_sR, o_gIc, o_gSv, o_gSc, o_getc, o_dead, o_acopy, o_castA, o_castI, o_sR7, o_mna, o_mmax, o_mmin, o_mabs, t, e3, va_rf]
      refine hv_size a2 ?_
      simp [o_ic, o_lc, o_null, o_il, o_ll, o_al, o_dup, o_pop, o_dup_x1, o_dup2, o_iadd, o_isub, o_imul, o_iand, o_ior, o_ixor, o_ishl, o_ishr, o_idiv, o_irem, o_ineg, o_ladd, o_lsub, o_lmul, o_land, o_lor, o_lxor, o_ldiv, o_lrem, o_lneg, o_lcmp, o_i2l, o_l2i, o_i2b, o_i2c, o_iushr, o_lshl, o_lshr, o_if_eq, o_if_ne, o_if_lt, o_if_ge, o_if_gt, o_if_le, o_icmp_eq, o_icmp_ne, o_icmp_lt, o_icmp_ge, o_icmp_gt, o_icmp_le, o_ifnull, o_ifnonnull, o_acmp_eq, o_acmp_ne, o_is, o_ls, o_as, o_iinc, o_kill, o_sw, o_ireturn, o_zreturn, o_nreturn, o_lreturn, o_areturn, o_return, o_athrow, o_call, entP, lg_sl, Value.category, st1, st2, List.set, List.getElem?_cons_zero, List.getElem?_cons_succ, List.foldl, popN, aft, o_gI, o_gR, o_pI, o_pN, o_pR, o_aI, o_aG, o_aR, o_len, o_aR8, o_sI, o_sB, o_sZ, o_sG, o_new, o_newA, o_cast, o_inst, o_cst, o_oi, o_sR, o_gIc, o_gSv, o_gSc, o_getc, o_dead, o_acopy, o_castA, o_castI, o_sR7, o_mna, o_mmax, o_mmin, o_mabs, nn_eqL, nn_ltL, nn_leL, nn_Llt, nn_Lle, nn_lt, nn_le, nn_eq, nn_in, nn_clamp, nn_succ, nn_pos, nn_neg1, bi, bl, le]
      rw [List.take_of_length_le le] at hv
      have := kk v hv
      rw [show (B k).length = i by omega] at this
      exact this
    | succ m ih =>
      intro i v hi' hv
      apply hY
      have hil : i < (B k).length := by omega
      have bi : i < 2147483648 := by omega
      have bl : (B k).length < 2147483648 := by omega
      have nle : ¬ (B k).length ≤ i := by omega
      have hg : (B k)[i]? = some (B k)[i] := List.getElem?_eq_getElem hil
      have hyl := hR.bf_lt hk (List.getElem_mem hil)
      have hih := fun v' => ih (i + 1) v' (by omega)
      rw [List.take_succ, hg] at hih
      generalize (B k)[i] = y at hg hyl hih
      have hgm : ((B k).map A)[i]? = some (A y) := by rw [List.getElem?_map, hg]; rfl
      have ty := hR.tgA hyl
      have n0 := (hR.nd y hyl).2.1
      have by' : y < 2147483648 := by omega
      simp [o_ic, o_lc, o_null, o_il, o_ll, o_al, o_dup, o_pop, o_dup_x1, o_dup2, o_iadd, o_isub, o_imul, o_iand, o_ior, o_ixor, o_ishl, o_ishr, o_idiv, o_irem, o_ineg, o_ladd, o_lsub, o_lmul, o_land, o_lor, o_lxor, o_ldiv, o_lrem, o_lneg, o_lcmp, o_i2l, o_l2i, o_i2b, o_i2c, o_iushr, o_lshl, o_lshr, o_if_eq, o_if_ne, o_if_lt, o_if_ge, o_if_gt, o_if_le, o_icmp_eq, o_icmp_ne, o_icmp_lt, o_icmp_ge, o_icmp_gt, o_icmp_le, o_ifnull, o_ifnonnull, o_acmp_eq, o_acmp_ne, o_is, o_ls, o_as, o_iinc, o_kill, o_sw, o_ireturn, o_zreturn, o_nreturn, o_lreturn, o_areturn, o_return, o_athrow, o_call, entP, lg_sl, Value.category, st1, st2, List.set, List.getElem?_cons_zero, List.getElem?_cons_succ, List.foldl, popN, aft, o_gI, o_gR, o_pI, o_pN, o_pR, o_aI, o_aG, o_aR, o_len, o_aR8, o_sI, o_sB, o_sZ, o_sG, o_new, o_newA, o_cast, o_inst, o_cst, o_oi, o_sR, o_gIc, o_gSv, o_gSc, o_getc, o_dead, o_acopy, o_castA, o_castI, o_sR7, o_mna, o_mmax, o_mmin, o_mabs, hR.tr, rr1, va_rf]
      refine hv_get hR.ns hgk ?_
      simp [o_ic, o_lc, o_null, o_il, o_ll, o_al, o_dup, o_pop, o_dup_x1, o_dup2, o_iadd, o_isub, o_imul, o_iand, o_ior, o_ixor, o_ishl, o_ishr, o_idiv, o_irem, o_ineg, o_ladd, o_lsub, o_lmul, o_land, o_lor, o_lxor, o_ldiv, o_lrem, o_lneg, o_lcmp, o_i2l, o_l2i, o_i2b, o_i2c, o_iushr, o_lshl, o_lshr, o_if_eq, o_if_ne, o_if_lt, o_if_ge, o_if_gt, o_if_le, o_icmp_eq, o_icmp_ne, o_icmp_lt, o_icmp_ge, o_icmp_gt, o_icmp_le, o_ifnull, o_ifnonnull, o_acmp_eq, o_acmp_ne, o_is, o_ls, o_as, o_iinc, o_kill, o_sw, o_ireturn, o_zreturn, o_nreturn, o_lreturn, o_areturn, o_return, o_athrow, o_call, entP, lg_sl, Value.category, st1, st2, List.set, List.getElem?_cons_zero, List.getElem?_cons_succ, List.foldl, popN, aft, o_gI, o_gR, o_pI, o_pN, o_pR, o_aI, o_aG, o_aR, o_len, o_aR8, o_sI, o_sB, o_sZ, o_sG, o_new, o_newA, o_cast, o_inst, o_cst, o_oi, o_sR, o_gIc, o_gSv, o_gSc, o_getc, o_dead, o_acopy, o_castA, o_castI, o_sR7, o_mna, o_mmax, o_mmin, o_mabs, t, e3, va_rf]
      refine hv_size a2 ?_
      simp [o_ic, o_lc, o_null, o_il, o_ll, o_al, o_dup, o_pop, o_dup_x1, o_dup2, o_iadd, o_isub, o_imul, o_iand, o_ior, o_ixor, o_ishl, o_ishr, o_idiv, o_irem, o_ineg, o_ladd, o_lsub, o_lmul, o_land, o_lor, o_lxor, o_ldiv, o_lrem, o_lneg, o_lcmp, o_i2l, o_l2i, o_i2b, o_i2c, o_iushr, o_lshl, o_lshr, o_if_eq, o_if_ne, o_if_lt, o_if_ge, o_if_gt, o_if_le, o_icmp_eq, o_icmp_ne, o_icmp_lt, o_icmp_ge, o_icmp_gt, o_icmp_le, o_ifnull, o_ifnonnull, o_acmp_eq, o_acmp_ne, o_is, o_ls, o_as, o_iinc, o_kill, o_sw, o_ireturn, o_zreturn, o_nreturn, o_lreturn, o_areturn, o_return, o_athrow, o_call, entP, lg_sl, Value.category, st1, st2, List.set, List.getElem?_cons_zero, List.getElem?_cons_succ, List.foldl, popN, aft, o_gI, o_gR, o_pI, o_pN, o_pR, o_aI, o_aG, o_aR, o_len, o_aR8, o_sI, o_sB, o_sZ, o_sG, o_new, o_newA, o_cast, o_inst, o_cst, o_oi, o_sR, o_gIc, o_gSv, o_gSc, o_getc, o_dead, o_acopy, o_castA, o_castI, o_sR7, o_mna, o_mmax, o_mmin, o_mabs, nn_eqL, nn_ltL, nn_leL, nn_Llt, nn_Lle, nn_lt, nn_le, nn_eq, nn_in, nn_clamp, nn_succ, nn_pos, nn_neg1, bi, bl, nle, hR.tr, rr1, va_rf]
      refine hv_get hR.ns hgk ?_
      simp [o_ic, o_lc, o_null, o_il, o_ll, o_al, o_dup, o_pop, o_dup_x1, o_dup2, o_iadd, o_isub, o_imul, o_iand, o_ior, o_ixor, o_ishl, o_ishr, o_idiv, o_irem, o_ineg, o_ladd, o_lsub, o_lmul, o_land, o_lor, o_lxor, o_ldiv, o_lrem, o_lneg, o_lcmp, o_i2l, o_l2i, o_i2b, o_i2c, o_iushr, o_lshl, o_lshr, o_if_eq, o_if_ne, o_if_lt, o_if_ge, o_if_gt, o_if_le, o_icmp_eq, o_icmp_ne, o_icmp_lt, o_icmp_ge, o_icmp_gt, o_icmp_le, o_ifnull, o_ifnonnull, o_acmp_eq, o_acmp_ne, o_is, o_ls, o_as, o_iinc, o_kill, o_sw, o_ireturn, o_zreturn, o_nreturn, o_lreturn, o_areturn, o_return, o_athrow, o_call, entP, lg_sl, Value.category, st1, st2, List.set, List.getElem?_cons_zero, List.getElem?_cons_succ, List.foldl, popN, aft, o_gI, o_gR, o_pI, o_pN, o_pR, o_aI, o_aG, o_aR, o_len, o_aR8, o_sI, o_sB, o_sZ, o_sG, o_new, o_newA, o_cast, o_inst, o_cst, o_oi, o_sR, o_gIc, o_gSv, o_gSc, o_getc, o_dead, o_acopy, o_castA, o_castI, o_sR7, o_mna, o_mmax, o_mmin, o_mabs, t, e3, va_rf]
      refine hv_get a2 hgm ?_
      simp [o_ic, o_lc, o_null, o_il, o_ll, o_al, o_dup, o_pop, o_dup_x1, o_dup2, o_iadd, o_isub, o_imul, o_iand, o_ior, o_ixor, o_ishl, o_ishr, o_idiv, o_irem, o_ineg, o_ladd, o_lsub, o_lmul, o_land, o_lor, o_lxor, o_ldiv, o_lrem, o_lneg, o_lcmp, o_i2l, o_l2i, o_i2b, o_i2c, o_iushr, o_lshl, o_lshr, o_if_eq, o_if_ne, o_if_lt, o_if_ge, o_if_gt, o_if_le, o_icmp_eq, o_icmp_ne, o_icmp_lt, o_icmp_ge, o_icmp_gt, o_icmp_le, o_ifnull, o_ifnonnull, o_acmp_eq, o_acmp_ne, o_is, o_ls, o_as, o_iinc, o_kill, o_sw, o_ireturn, o_zreturn, o_nreturn, o_lreturn, o_areturn, o_return, o_athrow, o_call, entP, lg_sl, Value.category, st1, st2, List.set, List.getElem?_cons_zero, List.getElem?_cons_succ, List.foldl, popN, aft, o_gI, o_gR, o_pI, o_pN, o_pR, o_aI, o_aG, o_aR, o_len, o_aR8, o_sI, o_sB, o_sZ, o_sG, o_new, o_newA, o_cast, o_inst, o_cst, o_oi, o_sR, o_gIc, o_gSv, o_gSc, o_getc, o_dead, o_acopy, o_castA, o_castI, o_sR7, o_mna, o_mmax, o_mmin, o_mabs, ty, hR.tr, b1, c1, d1, va_rf, n0, b2, b3, c2, c3, d2, d3, nn_eqL, nn_ltL, nn_leL, nn_Llt, nn_Lle, nn_lt, nn_le, nn_eq, nn_in, nn_clamp, nn_succ, nn_pos, nn_neg1, by', hyl, nn_succ]
      refine hih _ ((hv.and ((d7 y hyl).cpl.and ((c7 y hyl).or (b7 y hyl)))).congr (fun e he => ?_))
      simp [Bool.and_assoc]
  exact main (B k).length 0 v (by omega) (hv.congr (fun e he => by simp))
theorem be_store {J26 J34 : Cont AH} {k : Nat} {mo : Bool} {X : Nat → Nat → Bool} {v : Int64} {x5 x6 : Option Value} (hR : RtB κ σ r R wss A NX BF B ss h9) (hV9 : SV κ σ0 σ r (nds R).length VA 4 (upd3 f 3 X) c s) (hk : k < (nds R).length) (hv : LB v (rThe R B X k))
    (kk : ∀ σ', SV κ σ0 σ' r (nds R).length VA 4 (upd3 f 3 (updM X k (rThe R B X k))) c s → J34 [some (.ref r), some (.int (b2i (mo || chg (rThe R B) X k) 1)), some (.int (nn (k + 1))), none, none, none, none] [] σ') :
    bX4_be_152 κ Q J26 J34 [some (.ref r), some (.int (b2i mo 1)), some (.int (nn k)), some (.long v), none, x5, x6] [] σ := by
  have h240 := nds_240 hR.wf.1
  obtain ⟨b1, b2, b3, b4, b5, b6, b7⟩ := hV9.2.2 3 (by omega)
  rw [upd3_eq] at b7
  have bk : k < 2147483648 := by omega
  have S2 := hV9.set (i := 3) (by omega) hk hv
  have S3 : SV κ σ0 (hsG σ (VA 3) k v) r (nds R).length VA 4 (upd3 f 3 (updM X k (rThe R B X k))) c s := S2.congr (fun i k' x hi' hk' hx => by
    by_cases e : i = 3
    · subst e; rw [upd3_eq, upd3_eq, upd3_eq]
    · rw [upd3_ne _ _ e, upd3_ne _ _ e, upd3_ne _ _ e])
  have heq := hv.eq_iff (b7 k hk)
  have st : ∀ x : Bool, x = chg (rThe R B) X k → bX4_be_169 κ Q J26 J34 [some (.ref r), some (.int (b2i mo 1)), some (.int (nn k)), some (.long v), none, x5, x6] [.int (b2i x 1), .int (b2i mo 1)] σ := by
    intro x hx
    have := kk _ S3
    rw [← hx] at this
    simp [bX4_be_169, o_ic, o_lc, o_null, o_il, o_ll, o_al, o_dup, o_pop, o_dup_x1, o_dup2, o_iadd, o_isub, o_imul, o_iand, o_ior, o_ixor, o_ishl, o_ishr, o_idiv, o_irem, o_ineg, o_ladd, o_lsub, o_lmul, o_land, o_lor, o_lxor, o_ldiv, o_lrem, o_lneg, o_lcmp, o_i2l, o_l2i, o_i2b, o_i2c, o_iushr, o_lshl, o_lshr, o_if_eq, o_if_ne, o_if_lt, o_if_ge, o_if_gt, o_if_le, o_icmp_eq, o_icmp_ne, o_icmp_lt, o_icmp_ge, o_icmp_gt, o_icmp_le, o_ifnull, o_ifnonnull, o_acmp_eq, o_acmp_ne, o_is, o_ls, o_as, o_iinc, o_kill, o_sw, o_ireturn, o_zreturn, o_nreturn, o_lreturn, o_areturn, o_return, o_athrow, o_call, entP, lg_sl, Value.category, st1, st2, List.set, List.getElem?_cons_zero, List.getElem?_cons_succ, List.foldl, popN, aft, o_gI, o_gR, o_pI, o_pN, o_pR, o_aI, o_aG, o_aR, o_len, o_aR8, o_sI, o_sB, o_sZ, o_sG, o_new, o_newA, o_cast, o_inst, o_cst, o_oi, o_sR, o_gIc, o_gSv, o_gSc, o_getc, o_dead, o_acopy, o_castA, o_castI, o_sR7, o_mna, o_mmax, o_mmin, o_mabs, b2i_or, hR.tr, b1, va_rf, b2, b3, nn_eqL, nn_ltL, nn_leL, nn_Llt, nn_Lle, nn_lt, nn_le, nn_eq, nn_in, nn_clamp, nn_succ, nn_pos, nn_neg1, bk, hk, nn_succ]
    exact this
  simp [bX4_be_152, o_ic, o_lc, o_null, o_il, o_ll, o_al, o_dup, o_pop, o_dup_x1, o_dup2, o_iadd, o_isub, o_imul, o_iand, o_ior, o_ixor, o_ishl, o_ishr, o_idiv, o_irem, o_ineg, o_ladd, o_lsub, o_lmul, o_land, o_lor, o_lxor, o_ldiv, o_lrem, o_lneg, o_lcmp, o_i2l, o_l2i, o_i2b, o_i2c, o_iushr, o_lshl, o_lshr, o_if_eq, o_if_ne, o_if_lt, o_if_ge, o_if_gt, o_if_le, o_icmp_eq, o_icmp_ne, o_icmp_lt, o_icmp_ge, o_icmp_gt, o_icmp_le, o_ifnull, o_ifnonnull, o_acmp_eq, o_acmp_ne, o_is, o_ls, o_as, o_iinc, o_kill, o_sw, o_ireturn, o_zreturn, o_nreturn, o_lreturn, o_areturn, o_return, o_athrow, o_call, entP, lg_sl, Value.category, st1, st2, List.set, List.getElem?_cons_zero, List.getElem?_cons_succ, List.foldl, popN, aft, o_gI, o_gR, o_pI, o_pN, o_pR, o_aI, o_aG, o_aR, o_len, o_aR8, o_sI, o_sB, o_sZ, o_sG, o_new, o_newA, o_cast, o_inst, o_cst, o_oi, o_sR, o_gIc, o_gSv, o_gSc, o_getc, o_dead, o_acopy, o_castA, o_castI, o_sR7, o_mna, o_mmax, o_mmin, o_mabs, hR.tr, b1, va_rf, b2, b3, nn_eqL, nn_ltL, nn_leL, nn_Llt, nn_Lle, nn_lt, nn_le, nn_eq, nn_in, nn_clamp, nn_succ, nn_pos, nn_neg1, bk, hk, lcmp_0]
  refine ⟨fun z => ?_, fun z => ?_⟩
  · have := st false (by
      symm; unfold chg; rw [b9_not]; rintro ⟨e, he, q⟩
      exact q (heq.1 z e he))
    rw [show b2i false 1 = 0 from rfl] at this
    simp [bX4_be_168, o_ic, o_lc, o_null, o_il, o_ll, o_al, o_dup, o_pop, o_dup_x1, o_dup2, o_iadd, o_isub, o_imul, o_iand, o_ior, o_ixor, o_ishl, o_ishr, o_idiv, o_irem, o_ineg, o_ladd, o_lsub, o_lmul, o_land, o_lor, o_lxor, o_ldiv, o_lrem, o_lneg, o_lcmp, o_i2l, o_l2i, o_i2b, o_i2c, o_iushr, o_lshl, o_lshr, o_if_eq, o_if_ne, o_if_lt, o_if_ge, o_if_gt, o_if_le, o_icmp_eq, o_icmp_ne, o_icmp_lt, o_icmp_ge, o_icmp_gt, o_icmp_le, o_ifnull, o_ifnonnull, o_acmp_eq, o_acmp_ne, o_is, o_ls, o_as, o_iinc, o_kill, o_sw, o_ireturn, o_zreturn, o_nreturn, o_lreturn, o_areturn, o_return, o_athrow, o_call, entP, lg_sl, Value.category, st1, st2, List.set, List.getElem?_cons_zero, List.getElem?_cons_succ, List.foldl, popN, aft]
    exact this
  · have := st true (by
      symm; unfold chg; rw [b9_iff]
      refine Classical.byContradiction fun q => z (heq.2 (fun e he => Classical.byContradiction fun w => q ⟨e, he, w⟩)))
    exact this
theorem ct_be (hk0 : Hok κ σ0) (hR0 : RtB κ σ0 r R wss A NX BF B ss h9) (h32 : (sms R.1).length ≤ 32) (hV9 : SV κ σ0 σ r (nds R).length VA 3 f c s) (hf0 : f 0 = fb R 0) (hf1 : f 1 = fb R 1) (r1 : 1 ≤ hC σ) (r2 : 240 ≤ hS σ)
    (kk : ∀ σ' VA', SV κ σ0 σ' r (nds R).length VA' 4 (upd3 f 3 (fb R 3)) (c + 1) (s + (nds R).length) → Q (.inl none) σ') : hvc [(4, pX4_be κ)] [.ref r] σ Q := by
  have hR := hV9.rt hk0 hR0
  have h240 := nds_240 hR.wf.1
  have rr1 := hR.rr 1 (by omega)
  have rul := rul_be (R := R) (B := B) (fun k hk => (hR.bf k hk).1)
  have bn : (nds R).length < 2147483648 := by omega
  have npos : ¬ nn (nds R).length < 0 := fun q => (nn_pos bn).1 q
  have S1 := hV9.new hk0 hR0.tr
  have hR1 := S1.rt hk0 hR0
  have q2 : (nds R).length ≤ hS σ := by omega
  have q3 : (nds R).length ≤ 65536 := by omega
  simp [hvc, dspI, hR.tr, pX4_be, bX4_be_0, o_ic, o_lc, o_null, o_il, o_ll, o_al, o_dup, o_pop, o_dup_x1, o_dup2, o_iadd, o_isub, o_imul, o_iand, o_ior, o_ixor, o_ishl, o_ishr, o_idiv, o_irem, o_ineg, o_ladd, o_lsub, o_lmul, o_land, o_lor, o_lxor, o_ldiv, o_lrem, o_lneg, o_lcmp, o_i2l, o_l2i, o_i2b, o_i2c, o_iushr, o_lshl, o_lshr, o_if_eq, o_if_ne, o_if_lt, o_if_ge, o_if_gt, o_if_le, o_icmp_eq, o_icmp_ne, o_icmp_lt, o_icmp_ge, o_icmp_gt, o_icmp_le, o_ifnull, o_ifnonnull, o_acmp_eq, o_acmp_ne, o_is, o_ls, o_as, o_iinc, o_kill, o_sw, o_ireturn, o_zreturn, o_nreturn, o_lreturn, o_areturn, o_return, o_athrow, o_call, entP, lg_sl, Value.category, st1, st2, List.set, List.getElem?_cons_zero, List.getElem?_cons_succ, List.foldl, popN, aft, o_gI, o_gR, o_pI, o_pN, o_pR, o_aI, o_aG, o_aR, o_len, o_aR8, o_sI, o_sB, o_sZ, o_sG, o_new, o_newA, o_cast, o_inst, o_cst, o_oi, o_sR, o_gIc, o_gSv, o_gSc, o_getc, o_dead, o_acopy, o_castA, o_castI, o_sR7, o_mna, o_mmax, o_mmin, o_mabs, rr1, va_rf]
  refine ⟨hR.ns.1, cq_size hR.ns ?_⟩
  simp only [List.length_map, List.length_range]
  have hrne : ¬ r = hN σ := by have := hV9.1.ok.1.lt (a := r) (by rw [hR.tr]; decide); omega
  simp [o_ic, o_lc, o_null, o_il, o_ll, o_al, o_dup, o_pop, o_dup_x1, o_dup2, o_iadd, o_isub, o_imul, o_iand, o_ior, o_ixor, o_ishl, o_ishr, o_idiv, o_irem, o_ineg, o_ladd, o_lsub, o_lmul, o_land, o_lor, o_lxor, o_ldiv, o_lrem, o_lneg, o_lcmp, o_i2l, o_l2i, o_i2b, o_i2c, o_iushr, o_lshl, o_lshr, o_if_eq, o_if_ne, o_if_lt, o_if_ge, o_if_gt, o_if_le, o_icmp_eq, o_icmp_ne, o_icmp_lt, o_icmp_ge, o_icmp_gt, o_icmp_le, o_ifnull, o_ifnonnull, o_acmp_eq, o_acmp_ne, o_is, o_ls, o_as, o_iinc, o_kill, o_sw, o_ireturn, o_zreturn, o_nreturn, o_lreturn, o_areturn, o_return, o_athrow, o_call, entP, lg_sl, Value.category, st1, st2, List.set, List.getElem?_cons_zero, List.getElem?_cons_succ, List.foldl, popN, aft, o_gI, o_gR, o_pI, o_pN, o_pR, o_aI, o_aG, o_aR, o_len, o_aR8, o_sI, o_sB, o_sZ, o_sG, o_new, o_newA, o_cast, o_inst, o_cst, o_oi, o_sR, o_gIc, o_gSv, o_gSc, o_getc, o_dead, o_acopy, o_castA, o_castI, o_sR7, o_mna, o_mmax, o_mmin, o_mabs, npos, nn_eqL, nn_ltL, nn_leL, nn_Llt, nn_Lle, nn_lt, nn_le, nn_eq, nn_in, nn_clamp, nn_succ, nn_pos, nn_neg1, bn, q2, q3, r1, hT_nw, hrne, hR.tr, hR_sR, hT_sR, va_rf, vref]
  refine ct_all hR1 h32 (fun va hva => ?_)
  simp [o_ic, o_lc, o_null, o_il, o_ll, o_al, o_dup, o_pop, o_dup_x1, o_dup2, o_iadd, o_isub, o_imul, o_iand, o_ior, o_ixor, o_ishl, o_ishr, o_idiv, o_irem, o_ineg, o_ladd, o_lsub, o_lmul, o_land, o_lor, o_lxor, o_ldiv, o_lrem, o_lneg, o_lcmp, o_i2l, o_l2i, o_i2b, o_i2c, o_iushr, o_lshl, o_lshr, o_if_eq, o_if_ne, o_if_lt, o_if_ge, o_if_gt, o_if_le, o_icmp_eq, o_icmp_ne, o_icmp_lt, o_icmp_ge, o_icmp_gt, o_icmp_le, o_ifnull, o_ifnonnull, o_acmp_eq, o_acmp_ne, o_is, o_ls, o_as, o_iinc, o_kill, o_sw, o_ireturn, o_zreturn, o_nreturn, o_lreturn, o_areturn, o_return, o_athrow, o_call, entP, lg_sl, Value.category, st1, st2, List.set, List.getElem?_cons_zero, List.getElem?_cons_succ, List.foldl, popN, aft]
  have e2 : updA VA 3 (hN σ) 3 = hN σ := updA_eq _ _ _
  have hset := ct_set (κ := κ) (Q := aft [some (.ref r), none, none, none, none, none, none] [] (fun x a σ => Q (.inr a) σ) (o_ic 1 (o_is 1 (o_kill [2, 3, 4, 5, 6] (bX4_be_26 κ Q))))) (i := 3) S1 (by omega) h240 hva (fun σ2 S2 => ?_)
  · rw [e2] at hset
    exact hset
  simp [o_ic, o_lc, o_null, o_il, o_ll, o_al, o_dup, o_pop, o_dup_x1, o_dup2, o_iadd, o_isub, o_imul, o_iand, o_ior, o_ixor, o_ishl, o_ishr, o_idiv, o_irem, o_ineg, o_ladd, o_lsub, o_lmul, o_land, o_lor, o_lxor, o_ldiv, o_lrem, o_lneg, o_lcmp, o_i2l, o_l2i, o_i2b, o_i2c, o_iushr, o_lshl, o_lshr, o_if_eq, o_if_ne, o_if_lt, o_if_ge, o_if_gt, o_if_le, o_icmp_eq, o_icmp_ne, o_icmp_lt, o_icmp_ge, o_icmp_gt, o_icmp_le, o_ifnull, o_ifnonnull, o_acmp_eq, o_acmp_ne, o_is, o_ls, o_as, o_iinc, o_kill, o_sw, o_ireturn, o_zreturn, o_nreturn, o_lreturn, o_areturn, o_return, o_athrow, o_call, entP, lg_sl, Value.category, st1, st2, List.set, List.getElem?_cons_zero, List.getElem?_cons_succ, List.foldl, popN, aft]
  have S3 : SV κ σ0 σ2 r (nds R).length (updA VA 3 (hN σ)) 4 (upd3 f 3 (fun _ e => decide (e < (sms R.1).length))) (c + 1) (s + (nds R).length) := S2.congr (fun i k x hi' hk' hx => by
    by_cases e : i = 3
    · subst e; rw [upd3_eq, upd3_eq]
    · rw [upd3_ne _ _ e, upd3_ne _ _ e, upd3_ne _ _ e])
  clear S2 S1 hR1
  generalize updA VA 3 (hN σ) = VA' at S3
  unfold bX4_be_26
  intro Z hZ
  have outer : ∀ mu (σ : AH) (X : Nat → Nat → Bool) (mo : Bool), muM (nds R).length X + (if mo = true then 1 else 0) ≤ mu → NInv (nds R).length (sms R.1).length (rThe R B) (fun e => fThe (nds R).length (t1R R) (t2R R) (wkP R e) (klP R e)) X → (mo = false → ∀ k e, k < (nds R).length → e < 64 → rThe R B X k e = X k e) → SV κ σ0 σ r (nds R).length VA' 4 (upd3 f 3 X) (c + 1) (s + (nds R).length) → Z [some (.ref r), some (.int (b2i mo 1)), none, none, none, none, none] [] σ := by
    intro mu
    induction mu with
    | zero =>
      intro σ X mo hmu hN9 hfx S
      have hm : mo = false := by
        cases mo with
        | false => rfl
        | true => simp at hmu
      subst hm
      apply hZ
      simp [b2i, o_ic, o_lc, o_null, o_il, o_ll, o_al, o_dup, o_pop, o_dup_x1, o_dup2, o_iadd, o_isub, o_imul, o_iand, o_ior, o_ixor, o_ishl, o_ishr, o_idiv, o_irem, o_ineg, o_ladd, o_lsub, o_lmul, o_land, o_lor, o_lxor, o_ldiv, o_lrem, o_lneg, o_lcmp, o_i2l, o_l2i, o_i2b, o_i2c, o_iushr, o_lshl, o_lshr, o_if_eq, o_if_ne, o_if_lt, o_if_ge, o_if_gt, o_if_le, o_icmp_eq, o_icmp_ne, o_icmp_lt, o_icmp_ge, o_icmp_gt, o_icmp_le, o_ifnull, o_ifnonnull, o_acmp_eq, o_acmp_ne, o_is, o_ls, o_as, o_iinc, o_kill, o_sw, o_ireturn, o_zreturn, o_nreturn, o_lreturn, o_areturn, o_return, o_athrow, o_call, entP, lg_sl, Value.category, st1, st2, List.set, List.getElem?_cons_zero, List.getElem?_cons_succ, List.foldl, popN, aft, bX4_be_187]
      refine kk σ VA' (S.congr (fun i k x hi' hk' hx => ?_))
      by_cases e : i = 3
      · subst e
        rw [upd3_eq, upd3_eq]
        exact hN9.done rul (hfx rfl) k x hk' hx
      · rw [upd3_ne _ _ e, upd3_ne _ _ e]
    | succ mu ih =>
      intro σ X mo hmu hN9 hfx S
      cases mo with
      | false =>
        apply hZ
        simp [b2i, o_ic, o_lc, o_null, o_il, o_ll, o_al, o_dup, o_pop, o_dup_x1, o_dup2, o_iadd, o_isub, o_imul, o_iand, o_ior, o_ixor, o_ishl, o_ishr, o_idiv, o_irem, o_ineg, o_ladd, o_lsub, o_lmul, o_land, o_lor, o_lxor, o_ldiv, o_lrem, o_lneg, o_lcmp, o_i2l, o_l2i, o_i2b, o_i2c, o_iushr, o_lshl, o_lshr, o_if_eq, o_if_ne, o_if_lt, o_if_ge, o_if_gt, o_if_le, o_icmp_eq, o_icmp_ne, o_icmp_lt, o_icmp_ge, o_icmp_gt, o_icmp_le, o_ifnull, o_ifnonnull, o_acmp_eq, o_acmp_ne, o_is, o_ls, o_as, o_iinc, o_kill, o_sw, o_ireturn, o_zreturn, o_nreturn, o_lreturn, o_areturn, o_return, o_athrow, o_call, entP, lg_sl, Value.category, st1, st2, List.set, List.getElem?_cons_zero, List.getElem?_cons_succ, List.foldl, popN, aft, bX4_be_187]
        refine kk σ VA' (S.congr (fun i k x hi' hk' hx => ?_))
        by_cases e : i = 3
        · subst e
          rw [upd3_eq, upd3_eq]
          exact hN9.done rul (hfx rfl) k x hk' hx
        · rw [upd3_ne _ _ e, upd3_ne _ _ e]
      | true =>
        have hmu' : muM (nds R).length X ≤ mu := by simp at hmu; omega
        apply hZ
        simp [b2i, o_ic, o_lc, o_null, o_il, o_ll, o_al, o_dup, o_pop, o_dup_x1, o_dup2, o_iadd, o_isub, o_imul, o_iand, o_ior, o_ixor, o_ishl, o_ishr, o_idiv, o_irem, o_ineg, o_ladd, o_lsub, o_lmul, o_land, o_lor, o_lxor, o_ldiv, o_lrem, o_lneg, o_lcmp, o_i2l, o_l2i, o_i2b, o_i2c, o_iushr, o_lshl, o_lshr, o_if_eq, o_if_ne, o_if_lt, o_if_ge, o_if_gt, o_if_le, o_icmp_eq, o_icmp_ne, o_icmp_lt, o_icmp_ge, o_icmp_gt, o_icmp_le, o_ifnull, o_ifnonnull, o_acmp_eq, o_acmp_ne, o_is, o_ls, o_as, o_iinc, o_kill, o_sw, o_ireturn, o_zreturn, o_nreturn, o_lreturn, o_areturn, o_return, o_athrow, o_call, entP, lg_sl, Value.category, st1, st2, List.set, List.getElem?_cons_zero, List.getElem?_cons_succ, List.foldl, popN, aft]
        unfold bX4_be_34
        intro Y hY
        have inner : ∀ m j (σ : AH) (X1 : Nat → Nat → Bool) (mo : Bool), j + m = (nds R).length → PsI (nds R).length (sms R.1).length (rThe R B) (fun e => fThe (nds R).length (t1R R) (t2R R) (wkP R e) (klP R e)) (fun k => k < j) mo X1 X → SV κ σ0 σ r (nds R).length VA' 4 (upd3 f 3 X1) (c + 1) (s + (nds R).length) → Y [some (.ref r), some (.int (b2i mo 1)), some (.int (nn j)), none, none, none, none] [] σ := by
          intro m
          induction m with
          | zero =>
            intro j σ X1 mo hj hP S
            apply hY
            have hR' := S.rt hk0 hR0
            have rr1' := hR'.rr 1 (by omega)
            have bj : j < 2147483648 := by omega
            have le : (nds R).length ≤ j := by omega
            simp [o_ic, o_lc, o_null, o_il, o_ll, o_al, o_dup, o_pop, o_dup_x1, o_dup2, o_iadd, o_isub, o_imul, o_iand, o_ior, o_ixor, o_ishl, o_ishr, o_idiv, o_irem, o_ineg, o_ladd, o_lsub, o_lmul, o_land, o_lor, o_lxor, o_ldiv, o_lrem, o_lneg, o_lcmp, o_i2l, o_l2i, o_i2b, o_i2c, o_iushr, o_lshl, o_lshr, o_if_eq, o_if_ne, o_if_lt, o_if_ge, o_if_gt, o_if_le, o_icmp_eq, o_icmp_ne, o_icmp_lt, o_icmp_ge, o_icmp_gt, o_icmp_le, o_ifnull, o_ifnonnull, o_acmp_eq, o_acmp_ne, o_is, o_ls, o_as, o_iinc, o_kill, o_sw, o_ireturn, o_zreturn, o_nreturn, o_lreturn, o_areturn, o_return, o_athrow, o_call, entP, lg_sl, Value.category, st1, st2, List.set, List.getElem?_cons_zero, List.getElem?_cons_succ, List.foldl, popN, aft, o_gI, o_gR, o_pI, o_pN, o_pR, o_aI, o_aG, o_aR, o_len, o_aR8, o_sI, o_sB, o_sZ, o_sG, o_new, o_newA, o_cast, o_inst, o_cst, o_oi, o_sR, o_gIc, o_gSv, o_gSc, o_getc, o_dead, o_acopy, o_castA, o_castI, o_sR7, o_mna, o_mmax, o_mmin, o_mabs, hR'.tr, rr1', va_rf]
            refine hv_size hR'.ns ?_
            simp [o_ic, o_lc, o_null, o_il, o_ll, o_al, o_dup, o_pop, o_dup_x1, o_dup2, o_iadd, o_isub, o_imul, o_iand, o_ior, o_ixor, o_ishl, o_ishr, o_idiv, o_irem, o_ineg, o_ladd, o_lsub, o_lmul, o_land, o_lor, o_lxor, o_ldiv, o_lrem, o_lneg, o_lcmp, o_i2l, o_l2i, o_i2b, o_i2c, o_iushr, o_lshl, o_lshr, o_if_eq, o_if_ne, o_if_lt, o_if_ge, o_if_gt, o_if_le, o_icmp_eq, o_icmp_ne, o_icmp_lt, o_icmp_ge, o_icmp_gt, o_icmp_le, o_ifnull, o_ifnonnull, o_acmp_eq, o_acmp_ne, o_is, o_ls, o_as, o_iinc, o_kill, o_sw, o_ireturn, o_zreturn, o_nreturn, o_lreturn, o_areturn, o_return, o_athrow, o_call, entP, lg_sl, Value.category, st1, st2, List.set, List.getElem?_cons_zero, List.getElem?_cons_succ, List.foldl, popN, aft, o_gI, o_gR, o_pI, o_pN, o_pR, o_aI, o_aG, o_aR, o_len, o_aR8, o_sI, o_sB, o_sZ, o_sG, o_new, o_newA, o_cast, o_inst, o_cst, o_oi, o_sR, o_gIc, o_gSv, o_gSc, o_getc, o_dead, o_acopy, o_castA, o_castI, o_sR7, o_mna, o_mmax, o_mmin, o_mabs, nn_eqL, nn_ltL, nn_leL, nn_Llt, nn_Lle, nn_lt, nn_le, nn_eq, nn_in, nn_clamp, nn_succ, nn_pos, nn_neg1, bj, bn, le, bX4_be_184]
            refine ih σ X1 mo ?_ hP.1 (fun hm k e hk' he => hP.2.1 hm k e hk' (by omega) he) S
            cases mo with
            | false => simp; have := hP.2.2.2; omega
            | true => have := hP.2.2.1 rfl; simp; omega
          | succ m ihm =>
            intro j σ X1 mo hj hP S
            apply hY
            have hR' := S.rt hk0 hR0
            have rr1' := hR'.rr 1 (by omega)
            have bj : j < 2147483648 := by omega
            have nle : ¬ (nds R).length ≤ j := by omega
            have hjn : j < (nds R).length := by omega
            have rest : ∀ v, LB v (fun e => if j = 0 then false else decide (e < (sms R.1).length)) → bX4_be_57 κ Q Z Y [some (.ref r), some (.int (b2i mo 1)), some (.int (nn j)), none, none, none, none] [.long v] σ := by
              intro v hv
              simp [bX4_be_57, o_ic, o_lc, o_null, o_il, o_ll, o_al, o_dup, o_pop, o_dup_x1, o_dup2, o_iadd, o_isub, o_imul, o_iand, o_ior, o_ixor, o_ishl, o_ishr, o_idiv, o_irem, o_ineg, o_ladd, o_lsub, o_lmul, o_land, o_lor, o_lxor, o_ldiv, o_lrem, o_lneg, o_lcmp, o_i2l, o_l2i, o_i2b, o_i2c, o_iushr, o_lshl, o_lshr, o_if_eq, o_if_ne, o_if_lt, o_if_ge, o_if_gt, o_if_le, o_icmp_eq, o_icmp_ne, o_icmp_lt, o_icmp_ge, o_icmp_gt, o_icmp_le, o_ifnull, o_ifnonnull, o_acmp_eq, o_acmp_ne, o_is, o_ls, o_as, o_iinc, o_kill, o_sw, o_ireturn, o_zreturn, o_nreturn, o_lreturn, o_areturn, o_return, o_athrow, o_call, entP, lg_sl, Value.category, st1, st2, List.set, List.getElem?_cons_zero, List.getElem?_cons_succ, List.foldl, popN, aft]
              refine be_bef hR' S hf0 hf1 hjn hv (fun v' hv' => ?_)
              refine be_store hR' S hjn hv' (fun σ' S' => ?_)
              exact ihm (j + 1) σ' _ _ (by omega) ((hP.step rul (by omega) hjn).imp (fun i hi' hij => by
                by_cases e : i = j
                · exact Or.inr e
                · exact Or.inl (by omega))) S'
            simp [o_ic, o_lc, o_null, o_il, o_ll, o_al, o_dup, o_pop, o_dup_x1, o_dup2, o_iadd, o_isub, o_imul, o_iand, o_ior, o_ixor, o_ishl, o_ishr, o_idiv, o_irem, o_ineg, o_ladd, o_lsub, o_lmul, o_land, o_lor, o_lxor, o_ldiv, o_lrem, o_lneg, o_lcmp, o_i2l, o_l2i, o_i2b, o_i2c, o_iushr, o_lshl, o_lshr, o_if_eq, o_if_ne, o_if_lt, o_if_ge, o_if_gt, o_if_le, o_icmp_eq, o_icmp_ne, o_icmp_lt, o_icmp_ge, o_icmp_gt, o_icmp_le, o_ifnull, o_ifnonnull, o_acmp_eq, o_acmp_ne, o_is, o_ls, o_as, o_iinc, o_kill, o_sw, o_ireturn, o_zreturn, o_nreturn, o_lreturn, o_areturn, o_return, o_athrow, o_call, entP, lg_sl, Value.category, st1, st2, List.set, List.getElem?_cons_zero, List.getElem?_cons_succ, List.foldl, popN, aft, o_gI, o_gR, o_pI, o_pN, o_pR, o_aI, o_aG, o_aR, o_len, o_aR8, o_sI, o_sB, o_sZ, o_sG, o_new, o_newA, o_cast, o_inst, o_cst, o_oi, o_sR, o_gIc, o_gSv, o_gSc, o_getc, o_dead, o_acopy, o_castA, o_castI, o_sR7, o_mna, o_mmax, o_mmin, o_mabs, hR'.tr, rr1', va_rf]
            refine hv_size hR'.ns ?_
            simp [o_ic, o_lc, o_null, o_il, o_ll, o_al, o_dup, o_pop, o_dup_x1, o_dup2, o_iadd, o_isub, o_imul, o_iand, o_ior, o_ixor, o_ishl, o_ishr, o_idiv, o_irem, o_ineg, o_ladd, o_lsub, o_lmul, o_land, o_lor, o_lxor, o_ldiv, o_lrem, o_lneg, o_lcmp, o_i2l, o_l2i, o_i2b, o_i2c, o_iushr, o_lshl, o_lshr, o_if_eq, o_if_ne, o_if_lt, o_if_ge, o_if_gt, o_if_le, o_icmp_eq, o_icmp_ne, o_icmp_lt, o_icmp_ge, o_icmp_gt, o_icmp_le, o_ifnull, o_ifnonnull, o_acmp_eq, o_acmp_ne, o_is, o_ls, o_as, o_iinc, o_kill, o_sw, o_ireturn, o_zreturn, o_nreturn, o_lreturn, o_areturn, o_return, o_athrow, o_call, entP, lg_sl, Value.category, st1, st2, List.set, List.getElem?_cons_zero, List.getElem?_cons_succ, List.foldl, popN, aft, o_gI, o_gR, o_pI, o_pN, o_pR, o_aI, o_aG, o_aR, o_len, o_aR8, o_sI, o_sB, o_sZ, o_sG, o_new, o_newA, o_cast, o_inst, o_cst, o_oi, o_sR, o_gIc, o_gSv, o_gSc, o_getc, o_dead, o_acopy, o_castA, o_castI, o_sR7, o_mna, o_mmax, o_mmin, o_mabs, nn_eqL, nn_ltL, nn_leL, nn_Llt, nn_Lle, nn_lt, nn_le, nn_eq, nn_in, nn_clamp, nn_succ, nn_pos, nn_neg1, bj, bn, nle]
            refine ⟨fun z => ?_, fun z => ?_⟩
            · simp [bX4_be_53, o_ic, o_lc, o_null, o_il, o_ll, o_al, o_dup, o_pop, o_dup_x1, o_dup2, o_iadd, o_isub, o_imul, o_iand, o_ior, o_ixor, o_ishl, o_ishr, o_idiv, o_irem, o_ineg, o_ladd, o_lsub, o_lmul, o_land, o_lor, o_lxor, o_ldiv, o_lrem, o_lneg, o_lcmp, o_i2l, o_l2i, o_i2b, o_i2c, o_iushr, o_lshl, o_lshr, o_if_eq, o_if_ne, o_if_lt, o_if_ge, o_if_gt, o_if_le, o_icmp_eq, o_icmp_ne, o_icmp_lt, o_icmp_ge, o_icmp_gt, o_icmp_le, o_ifnull, o_ifnonnull, o_acmp_eq, o_acmp_ne, o_is, o_ls, o_as, o_iinc, o_kill, o_sw, o_ireturn, o_zreturn, o_nreturn, o_lreturn, o_areturn, o_return, o_athrow, o_call, entP, lg_sl, Value.category, st1, st2, List.set, List.getElem?_cons_zero, List.getElem?_cons_succ, List.foldl, popN, aft]
              refine ct_all hR' h32 (fun va hva => ?_)
              simp [o_ic, o_lc, o_null, o_il, o_ll, o_al, o_dup, o_pop, o_dup_x1, o_dup2, o_iadd, o_isub, o_imul, o_iand, o_ior, o_ixor, o_ishl, o_ishr, o_idiv, o_irem, o_ineg, o_ladd, o_lsub, o_lmul, o_land, o_lor, o_lxor, o_ldiv, o_lrem, o_lneg, o_lcmp, o_i2l, o_l2i, o_i2b, o_i2c, o_iushr, o_lshl, o_lshr, o_if_eq, o_if_ne, o_if_lt, o_if_ge, o_if_gt, o_if_le, o_icmp_eq, o_icmp_ne, o_icmp_lt, o_icmp_ge, o_icmp_gt, o_icmp_le, o_ifnull, o_ifnonnull, o_acmp_eq, o_acmp_ne, o_is, o_ls, o_as, o_iinc, o_kill, o_sw, o_ireturn, o_zreturn, o_nreturn, o_lreturn, o_areturn, o_return, o_athrow, o_call, entP, lg_sl, Value.category, st1, st2, List.set, List.getElem?_cons_zero, List.getElem?_cons_succ, List.foldl, popN, aft]
              exact rest va (hva.congr (fun e he => by rw [if_neg z]))
            · exact rest 0 (LB.zero.congr (fun e he => by rw [if_pos z]))
        exact inner (nds R).length 0 σ X false (by omega) ((PsI.start hN9).imp (fun i hi' q => by omega)) S
  exact outer (muM (nds R).length (fun _ e => decide (e < (sms R.1).length)) + 1) σ2 _ true (by simp) (NInv.start rul) (fun q => by cases q) S3
end BE
