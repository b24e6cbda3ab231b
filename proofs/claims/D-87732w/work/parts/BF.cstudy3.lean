/-! THE COMPONENT: study, whole -/
set_option maxRecDepth 100000
section S3
variable {κ : Nat → Option Nat} {Q : Ret AH} {σ σ0 : AH} {r c s h9 : Nat} {R : Rt} {wss : List (Nat × List Nat)} {A NX BF : Nat → Nat} {B : Nat → List Nat} {ss : List Nat} {VA : Nat → Nat} {f : Nat → Nat → Nat → Bool}
/-- where node k leads, delayed -/
theorem st_nxt {J314 : Cont AH} {k : Nat} {X : Nat → Nat → Bool} {g0 : Nat → Bool} {v : Int64} {n1 : Option Value} (hR : RtB κ σ r R wss A NX BF B ss h9) (hV9 : SV κ σ0 σ r (nds R).length VA 7 (upd3 f 6 X) c s) (hf5 : f 5 = fb R 5) (hk : k < (nds R).length) (hv : LB v g0)
    (kk : ∀ v', LB v' (fun e => g0 e && (tl9 (t1R R k, t2R R k)).all (fun p => fb R 5 p e)) → bX4_study_407 κ Q J314 [some (.ref r), none, some (.int (nn k)), some (.ref (A k)), some (.long v'), none, some (.int (nn (tl9 (t1R R k, t2R R k)).length)), none] [] σ) :
    bX4_study_360 κ Q J314 [some (.ref r), none, some (.int (nn k)), some (.ref (A k)), some (.long v), none, some (.int 0), none] [] σ := by
  unfold bX4_study_360
  intro Y hY
  have t := hR.tgA hk
  obtain ⟨-, -, -, e2, e3, a1, a2⟩ := hR.nd k hk
  have h240 := nds_240 hR.wf.1
  obtain ⟨b1, b2, b3, b4, b5, b6, b7⟩ := hV9.2.2 5 (by omega)
  rw [upd3_ne _ _ (by omega), hf5] at b7
  have hl2 := tl9_len (t1R R k, t2R R k)
  have main : ∀ m i v, i + m = (tl9 (t1R R k, t2R R k)).length → LB v (fun e => g0 e && ((tl9 (t1R R k, t2R R k)).take i).all (fun p => fb R 5 p e)) → Y [some (.ref r), none, some (.int (nn k)), some (.ref (A k)), some (.long v), none, some (.int (nn i)), none] [] σ := by
    intro m
    induction m with
    | zero =>
      intro i v hi' hv
      apply hY
      have bi : i < 2147483648 := by omega
      have bl : (tl9 (t1R R k, t2R R k)).length < 2147483648 := by omega
      have le : (tl9 (t1R R k, t2R R k)).length ≤ i := by omega
      simp [o_ic, o_lc, o_null, o_il, o_ll, o_al, o_dup, o_pop, o_dup_x1, o_dup2, o_iadd, o_isub, o_imul, o_iand, o_ior, o_ixor, o_ishl, o_ishr, o_idiv, o_irem, o_ineg, o_ladd, o_lsub, o_lmul, o_land, o_lor, o_lxor, o_ldiv, o_lrem, o_lneg, o_lcmp, o_i2l, o_l2i, o_i2b, o_i2c, o_iushr, o_lshl, o_lshr, o_if_eq, o_if_ne, o_if_lt, o_if_ge, o_if_gt, o_if_le, o_icmp_eq, o_icmp_ne, o_icmp_lt, o_icmp_ge, o_icmp_gt, o_icmp_le, o_ifnull, o_ifnonnull, o_acmp_eq, o_acmp_ne, o_is, o_ls, o_as, o_iinc, o_kill, o_sw, o_ireturn, o_zreturn, o_nreturn, o_lreturn, o_areturn, o_return, o_athrow, o_call, entP, lg_sl, Value.category, st1, st2, List.set, List.getElem?_cons_zero, List.getElem?_cons_succ, List.foldl, popN, aft, o_gI, o_gR, o_pI, o_pN, o_pR, o_aI, o_aG, o_aR, o_len, o_aR8, o_sI, o_sB, o_sZ, o_sG, o_new, o_newA, o_cast, o_inst, o_cst, o_oi, o_sR, o_gIc, o_gSv, o_gSc, o_getc, o_dead, o_acopy, o_castA, o_castI, o_sR7, o_mna, o_mmax, o_mmin, o_mabs, t, e2, va_rf]
      refine hv_size a1 ?_
      simp [o_ic, o_lc, o_null, o_il, o_ll, o_al, o_dup, o_pop, o_dup_x1, o_dup2, o_iadd, o_isub, o_imul, o_iand, o_ior, o_ixor, o_ishl, o_ishr, o_idiv, o_irem, o_ineg, o_ladd, o_lsub, o_lmul, o_land, o_lor, o_lxor, o_ldiv, o_lrem, o_lneg, o_lcmp, o_i2l, o_l2i, o_i2b, o_i2c, o_iushr, o_lshl, o_lshr, o_if_eq, o_if_ne, o_if_lt, o_if_ge, o_if_gt, o_if_le, o_icmp_eq, o_icmp_ne, o_icmp_lt, o_icmp_ge, o_icmp_gt, o_icmp_le, o_ifnull, o_ifnonnull, o_acmp_eq, o_acmp_ne, o_is, o_ls, o_as, o_iinc, o_kill, o_sw, o_ireturn, o_zreturn, o_nreturn, o_lreturn, o_areturn, o_return, o_athrow, o_call, entP, lg_sl, Value.category, st1, st2, List.set, List.getElem?_cons_zero, List.getElem?_cons_succ, List.foldl, popN, aft, o_gI, o_gR, o_pI, o_pN, o_pR, o_aI, o_aG, o_aR, o_len, o_aR8, o_sI, o_sB, o_sZ, o_sG, o_new, o_newA, o_cast, o_inst, o_cst, o_oi, o_sR, o_gIc, o_gSv, o_gSc, o_getc, o_dead, o_acopy, o_castA, o_castI, o_sR7, o_mna, o_mmax, o_mmin, o_mabs, nn_eqL, nn_ltL, nn_leL, nn_Llt, nn_Lle, nn_lt, nn_le, nn_eq, nn_in, nn_clamp, nn_succ, nn_pos, nn_neg1, bi, bl, le]
      rw [List.take_of_length_le le] at hv
      have := kk v hv
      rw [show (tl9 (t1R R k, t2R R k)).length = i by omega] at this
      exact this
    | succ m ih =>
      intro i v hi' hv
      apply hY
      have hil : i < (tl9 (t1R R k, t2R R k)).length := by omega
      have bi : i < 2147483648 := by omega
      have bl : (tl9 (t1R R k, t2R R k)).length < 2147483648 := by omega
      have nle : ¬ (tl9 (t1R R k, t2R R k)).length ≤ i := by omega
      have hg : (tl9 (t1R R k, t2R R k))[i]? = some (tl9 (t1R R k, t2R R k))[i] := List.getElem?_eq_getElem hil
      have hyl := hR.nx_lt hk (List.getElem_mem hil)
      have hih := fun v' => ih (i + 1) v' (by omega)
      rw [List.take_succ, hg] at hih
      generalize (tl9 (t1R R k, t2R R k))[i] = y at hg hyl hih
      have hgm : ((tl9 (t1R R k, t2R R k)).map A)[i]? = some (A y) := by rw [List.getElem?_map, hg]; rfl
      have ty := hR.tgA hyl
      have n0 := (hR.nd y hyl).2.1
      have by' : y < 2147483648 := by omega
      simp [o_ic, o_lc, o_null, o_il, o_ll, o_al, o_dup, o_pop, o_dup_x1, o_dup2, o_iadd, o_isub, o_imul, o_iand, o_ior, o_ixor, o_ishl, o_ishr, o_idiv, o_irem, o_ineg, o_ladd, o_lsub, o_lmul, o_land, o_lor, o_lxor, o_ldiv, o_lrem, o_lneg, o_lcmp, o_i2l, o_l2i, o_i2b, o_i2c, o_iushr, o_lshl, o_lshr, o_if_eq, o_if_ne, o_if_lt, o_if_ge, o_if_gt, o_if_le, o_icmp_eq, o_icmp_ne, o_icmp_lt, o_icmp_ge, o_icmp_gt, o_icmp_le, o_ifnull, o_ifnonnull, o_acmp_eq, o_acmp_ne, o_is, o_ls, o_as, o_iinc, o_kill, o_sw, o_ireturn, o_zreturn, o_nreturn, o_lreturn, o_areturn, o_return, o_athrow, o_call, entP, lg_sl, Value.category, st1, st2, List.set, List.getElem?_cons_zero, List.getElem?_cons_succ, List.foldl, popN, aft, o_gI, o_gR, o_pI, o_pN, o_pR, o_aI, o_aG, o_aR, o_len, o_aR8, o_sI, o_sB, o_sZ, o_sG, o_new, o_newA, o_cast, o_inst, o_cst, o_oi, o_sR, o_gIc, o_gSv, o_gSc, o_getc, o_dead, o_acopy, o_castA, o_castI, o_sR7, o_mna, o_mmax, o_mmin, o_mabs, t, e2, va_rf]
      refine hv_size a1 ?_
      simp [o_ic, o_lc, o_null, o_il, o_ll, o_al, o_dup, o_pop, o_dup_x1, o_dup2, o_iadd, o_isub, o_imul, o_iand, o_ior, o_ixor, o_ishl, o_ishr, o_idiv, o_irem, o_ineg, o_ladd, o_lsub, o_lmul, o_land, o_lor, o_lxor, o_ldiv, o_lrem, o_lneg, o_lcmp, o_i2l, o_l2i, o_i2b, o_i2c, o_iushr, o_lshl, o_lshr, o_if_eq, o_if_ne, o_if_lt, o_if_ge, o_if_gt, o_if_le, o_icmp_eq, o_icmp_ne, o_icmp_lt, o_icmp_ge, o_icmp_gt, o_icmp_le, o_ifnull, o_ifnonnull, o_acmp_eq, o_acmp_ne, o_is, o_ls, o_as, o_iinc, o_kill, o_sw, o_ireturn, o_zreturn, o_nreturn, o_lreturn, o_areturn, o_return, o_athrow, o_call, entP, lg_sl, Value.category, st1, st2, List.set, List.getElem?_cons_zero, List.getElem?_cons_succ, List.foldl, popN, aft, o_gI, o_gR, o_pI, o_pN, o_pR, o_aI, o_aG, o_aR, o_len, o_aR8, o_sI, o_sB, o_sZ, o_sG, o_new, o_newA, o_cast, o_inst, o_cst, o_oi, o_sR, o_gIc, o_gSv, o_gSc, o_getc, o_dead, o_acopy, o_castA, o_castI, o_sR7, o_mna, o_mmax, o_mmin, o_mabs, nn_eqL, nn_ltL, nn_leL, nn_Llt, nn_Lle, nn_lt, nn_le, nn_eq, nn_in, nn_clamp, nn_succ, nn_pos, nn_neg1, bi, bl, nle, t, e2, va_rf]
      refine hv_get a1 hgm ?_
      simp [o_ic, o_lc, o_null, o_il, o_ll, o_al, o_dup, o_pop, o_dup_x1, o_dup2, o_iadd, o_isub, o_imul, o_iand, o_ior, o_ixor, o_ishl, o_ishr, o_idiv, o_irem, o_ineg, o_ladd, o_lsub, o_lmul, o_land, o_lor, o_lxor, o_ldiv, o_lrem, o_lneg, o_lcmp, o_i2l, o_l2i, o_i2b, o_i2c, o_iushr, o_lshl, o_lshr, o_if_eq, o_if_ne, o_if_lt, o_if_ge, o_if_gt, o_if_le, o_icmp_eq, o_icmp_ne, o_icmp_lt, o_icmp_ge, o_icmp_gt, o_icmp_le, o_ifnull, o_ifnonnull, o_acmp_eq, o_acmp_ne, o_is, o_ls, o_as, o_iinc, o_kill, o_sw, o_ireturn, o_zreturn, o_nreturn, o_lreturn, o_areturn, o_return, o_athrow, o_call, entP, lg_sl, Value.category, st1, st2, List.set, List.getElem?_cons_zero, List.getElem?_cons_succ, List.foldl, popN, aft, o_gI, o_gR, o_pI, o_pN, o_pR, o_aI, o_aG, o_aR, o_len, o_aR8, o_sI, o_sB, o_sZ, o_sG, o_new, o_newA, o_cast, o_inst, o_cst, o_oi, o_sR, o_gIc, o_gSv, o_gSc, o_getc, o_dead, o_acopy, o_castA, o_castI, o_sR7, o_mna, o_mmax, o_mmin, o_mabs, ty, hR.tr, b1, va_rf, n0, b2, b3, nn_eqL, nn_ltL, nn_leL, nn_Llt, nn_Lle, nn_lt, nn_le, nn_eq, nn_in, nn_clamp, nn_succ, nn_pos, nn_neg1, by', hyl, nn_succ]
      refine hih _ ((hv.and (b7 y hyl)).congr (fun e he => ?_))
      simp [Bool.and_assoc]
  exact main (tl9 (t1R R k, t2R R k)).length 0 v (by omega) (hv.congr (fun e he => by simp))
/-- a row so far -/
noncomputable def fj (R : Rt) (i j : Nat) : Nat → Nat → Bool := fun k e => if k < j then fb R i k e else false
theorem fj_step {i j k e : Nat} : updM (fj R i j) j (fb R i j) k e = fj R i (j + 1) k e := by
  unfold fj
  by_cases z : k = j
  · subst z; rw [updM_eq, if_pos (by omega)]
  · rw [updM_ne _ _ z]
    by_cases z2 : k < j
    · rw [if_pos z2, if_pos (by omega)]
    · rw [if_neg z2, if_neg (by omega)]
theorem st_early (hk0 : Hok κ σ0) (hR0 : RtB κ σ0 r R wss A NX BF B ss h9) (h32 : (sms R.1).length ≤ 32) (hf1 : f 1 = fb R 1) (hf2 : f 2 = fb R 2) (hf3 : f 3 = fb R 3)
    (kk : ∀ σ', SV κ σ0 σ' r (nds R).length VA 5 (upd3 f 4 (fb R 4)) c s → bX4_study_301 κ Q [some (.ref r), some (.int (nn (nds R).length)), some (.int (nn (nds R).length)), none, none, none, none, none] [] σ') (hV9 : SV κ σ0 σ r (nds R).length VA 5 (upd3 f 4 (fun _ _ => false)) c s) :
    bX4_study_158 κ Q [some (.ref r), some (.int (nn (nds R).length)), some (.int 0), none, none, none, none, none] [] σ := by
  have h240 := nds_240 hR0.wf.1
  have bn : (nds R).length < 2147483648 := by omega
  unfold bX4_study_158
  intro Y hY
  have main : ∀ m j (σ : AH), j + m = (nds R).length → SV κ σ0 σ r (nds R).length VA 5 (upd3 f 4 (fj R 4 j)) c s → Y [some (.ref r), some (.int (nn (nds R).length)), some (.int (nn j)), none, none, none, none, none] [] σ := by
    intro m
    induction m with
    | zero =>
      intro j σ hj S
      apply hY
      have hR := S.rt hk0 hR0
      have rr1 := hR.rr 1 (by omega)
      have bj : j < 2147483648 := by omega
      have le : (nds R).length ≤ j := by omega
      simp [o_ic, o_lc, o_null, o_il, o_ll, o_al, o_dup, o_pop, o_dup_x1, o_dup2, o_iadd, o_isub, o_imul, o_iand, o_ior, o_ixor, o_ishl, o_ishr, o_idiv, o_irem, o_ineg, o_ladd, o_lsub, o_lmul, o_land, o_lor, o_lxor, o_ldiv, o_lrem, o_lneg, o_lcmp, o_i2l, o_l2i, o_i2b, o_i2c, o_iushr, o_lshl, o_lshr, o_if_eq, o_if_ne, o_if_lt, o_if_ge, o_if_gt, o_if_le, o_icmp_eq, o_icmp_ne, o_icmp_lt, o_icmp_ge, o_icmp_gt, o_icmp_le, o_ifnull, o_ifnonnull, o_acmp_eq, o_acmp_ne, o_is, o_ls, o_as, o_iinc, o_kill, o_sw, o_ireturn, o_zreturn, o_nreturn, o_lreturn, o_areturn, o_return, o_athrow, o_call, entP, lg_sl, Value.category, st1, st2, List.set, List.getElem?_cons_zero, List.getElem?_cons_succ, List.foldl, popN, aft, o_gI, o_gR, o_pI, o_pN, o_pR, o_aI, o_aG, o_aR, o_len, o_aR8, o_sI, o_sB, o_sZ, o_sG, o_new, o_newA, o_cast, o_inst, o_cst, o_oi, o_sR, o_gIc, o_gSv, o_gSc, o_getc, o_dead, o_acopy, o_castA, o_castI, o_sR7, o_mna, o_mmax, o_mmin, o_mabs, hR.tr, rr1, va_rf]
      refine hv_size hR.ns ?_
      simp [o_ic, o_lc, o_null, o_il, o_ll, o_al, o_dup, o_pop, o_dup_x1, o_dup2, o_iadd, o_isub, o_imul, o_iand, o_ior, o_ixor, o_ishl, o_ishr, o_idiv, o_irem, o_ineg, o_ladd, o_lsub, o_lmul, o_land, o_lor, o_lxor, o_ldiv, o_lrem, o_lneg, o_lcmp, o_i2l, o_l2i, o_i2b, o_i2c, o_iushr, o_lshl, o_lshr, o_if_eq, o_if_ne, o_if_lt, o_if_ge, o_if_gt, o_if_le, o_icmp_eq, o_icmp_ne, o_icmp_lt, o_icmp_ge, o_icmp_gt, o_icmp_le, o_ifnull, o_ifnonnull, o_acmp_eq, o_acmp_ne, o_is, o_ls, o_as, o_iinc, o_kill, o_sw, o_ireturn, o_zreturn, o_nreturn, o_lreturn, o_areturn, o_return, o_athrow, o_call, entP, lg_sl, Value.category, st1, st2, List.set, List.getElem?_cons_zero, List.getElem?_cons_succ, List.foldl, popN, aft, o_gI, o_gR, o_pI, o_pN, o_pR, o_aI, o_aG, o_aR, o_len, o_aR8, o_sI, o_sB, o_sZ, o_sG, o_new, o_newA, o_cast, o_inst, o_cst, o_oi, o_sR, o_gIc, o_gSv, o_gSc, o_getc, o_dead, o_acopy, o_castA, o_castI, o_sR7, o_mna, o_mmax, o_mmin, o_mabs, nn_eqL, nn_ltL, nn_leL, nn_Llt, nn_Lle, nn_lt, nn_le, nn_eq, nn_in, nn_clamp, nn_succ, nn_pos, nn_neg1, bj, bn, le]
      rw [show j = (nds R).length by omega]
      refine kk σ (S.congr (fun i k x hi' hk' hx => ?_))
      by_cases z : i = 4
      · subst z; rw [upd3_eq, upd3_eq]; unfold fj; rw [if_pos (by omega)]
      · rw [upd3_ne _ _ z, upd3_ne _ _ z]
    | succ m ih =>
      intro j σ hj S
      apply hY
      have hR := S.rt hk0 hR0
      have rr1 := hR.rr 1 (by omega)
      have bj : j < 2147483648 := by omega
      have nle : ¬ (nds R).length ≤ j := by omega
      have hjn : j < (nds R).length := by omega
      have hg : ((List.range (nds R).length).map A)[j]? = some (A j) := by rw [List.getElem?_map, List.getElem?_range hjn]; rfl
      have t := hR.tgA hjn
      have n0 := (hR.nd j hjn).2.1
      obtain ⟨d1, d2, d3, d4, d5, d6, d7⟩ := S.2.2 4 (by omega)
      obtain ⟨g1, g2, g3, g4, g5, g6, g7⟩ := S.2.2 2 (by omega)
      rw [upd3_ne _ _ (by omega), hf2] at g7
      have rest : ∀ v, LB v (fun e => if j = 0 then decide (e < (sms R.1).length) else false) → bX4_study_196 κ Q Y [some (.ref r), some (.int (nn (nds R).length)), some (.int (nn j)), some (.ref (A j)), none, none, none, none] [.long v] σ := by
        intro v hv
        simp [bX4_study_196, o_ic, o_lc, o_null, o_il, o_ll, o_al, o_dup, o_pop, o_dup_x1, o_dup2, o_iadd, o_isub, o_imul, o_iand, o_ior, o_ixor, o_ishl, o_ishr, o_idiv, o_irem, o_ineg, o_ladd, o_lsub, o_lmul, o_land, o_lor, o_lxor, o_ldiv, o_lrem, o_lneg, o_lcmp, o_i2l, o_l2i, o_i2b, o_i2c, o_iushr, o_lshl, o_lshr, o_if_eq, o_if_ne, o_if_lt, o_if_ge, o_if_gt, o_if_le, o_icmp_eq, o_icmp_ne, o_icmp_lt, o_icmp_ge, o_icmp_gt, o_icmp_le, o_ifnull, o_ifnonnull, o_acmp_eq, o_acmp_ne, o_is, o_ls, o_as, o_iinc, o_kill, o_sw, o_ireturn, o_zreturn, o_nreturn, o_lreturn, o_areturn, o_return, o_athrow, o_call, entP, lg_sl, Value.category, st1, st2, List.set, List.getElem?_cons_zero, List.getElem?_cons_succ, List.foldl, popN, aft]
        refine st_bef hR S hf1 hf2 hf3 hjn hv (fun v' hv' => ?_)
        simp [bX4_study_274, o_ic, o_lc, o_null, o_il, o_ll, o_al, o_dup, o_pop, o_dup_x1, o_dup2, o_iadd, o_isub, o_imul, o_iand, o_ior, o_ixor, o_ishl, o_ishr, o_idiv, o_irem, o_ineg, o_ladd, o_lsub, o_lmul, o_land, o_lor, o_lxor, o_ldiv, o_lrem, o_lneg, o_lcmp, o_i2l, o_l2i, o_i2b, o_i2c, o_iushr, o_lshl, o_lshr, o_if_eq, o_if_ne, o_if_lt, o_if_ge, o_if_gt, o_if_le, o_icmp_eq, o_icmp_ne, o_icmp_lt, o_icmp_ge, o_icmp_gt, o_icmp_le, o_ifnull, o_ifnonnull, o_acmp_eq, o_acmp_ne, o_is, o_ls, o_as, o_iinc, o_kill, o_sw, o_ireturn, o_zreturn, o_nreturn, o_lreturn, o_areturn, o_return, o_athrow, o_call, entP, lg_sl, Value.category, st1, st2, List.set, List.getElem?_cons_zero, List.getElem?_cons_succ, List.foldl, popN, aft, o_gI, o_gR, o_pI, o_pN, o_pR, o_aI, o_aG, o_aR, o_len, o_aR8, o_sI, o_sB, o_sZ, o_sG, o_new, o_newA, o_cast, o_inst, o_cst, o_oi, o_sR, o_gIc, o_gSv, o_gSc, o_getc, o_dead, o_acopy, o_castA, o_castI, o_sR7, o_mna, o_mmax, o_mmin, o_mabs, hR.tr, d1, g1, va_rf, t, n0, d2, d3, g2, g3, nn_eqL, nn_ltL, nn_leL, nn_Llt, nn_Lle, nn_lt, nn_le, nn_eq, nn_in, nn_clamp, nn_succ, nn_pos, nn_neg1, bj, hjn, nn_succ]
        refine ih (j + 1) _ (by omega) ((S.set (i := 4) (by omega) hjn (((g7 j hjn).and hv').congr (fun e he => fb_early (fun k hk => (hR.bf k hk).1) hjn))).congr (fun i k x hi' hk' hx => ?_))
        rw [upd3_twice]
        by_cases z : i = 4
        · subst z; rw [upd3_eq, upd3_eq, upd3_eq]; exact fj_step
        · rw [upd3_ne _ _ z, upd3_ne _ _ z]
      simp [o_ic, o_lc, o_null, o_il, o_ll, o_al, o_dup, o_pop, o_dup_x1, o_dup2, o_iadd, o_isub, o_imul, o_iand, o_ior, o_ixor, o_ishl, o_ishr, o_idiv, o_irem, o_ineg, o_ladd, o_lsub, o_lmul, o_land, o_lor, o_lxor, o_ldiv, o_lrem, o_lneg, o_lcmp, o_i2l, o_l2i, o_i2b, o_i2c, o_iushr, o_lshl, o_lshr, o_if_eq, o_if_ne, o_if_lt, o_if_ge, o_if_gt, o_if_le, o_icmp_eq, o_icmp_ne, o_icmp_lt, o_icmp_ge, o_icmp_gt, o_icmp_le, o_ifnull, o_ifnonnull, o_acmp_eq, o_acmp_ne, o_is, o_ls, o_as, o_iinc, o_kill, o_sw, o_ireturn, o_zreturn, o_nreturn, o_lreturn, o_areturn, o_return, o_athrow, o_call, entP, lg_sl, Value.category, st1, st2, List.set, List.getElem?_cons_zero, List.getElem?_cons_succ, List.foldl, popN, aft, o_gI, o_gR, o_pI, o_pN, o_pR, o_aI, o_aG, o_aR, o_len, o_aR8, o_sI, o_sB, o_sZ, o_sG, o_new, o_newA, o_cast, o_inst, o_cst, o_oi, o_sR, o_gIc, o_gSv, o_gSc, o_getc, o_dead, o_acopy, o_castA, o_castI, o_sR7, o_mna, o_mmax, o_mmin, o_mabs, hR.tr, rr1, va_rf]
      refine hv_size hR.ns ?_
      simp [o_ic, o_lc, o_null, o_il, o_ll, o_al, o_dup, o_pop, o_dup_x1, o_dup2, o_iadd, o_isub, o_imul, o_iand, o_ior, o_ixor, o_ishl, o_ishr, o_idiv, o_irem, o_ineg, o_ladd, o_lsub, o_lmul, o_land, o_lor, o_lxor, o_ldiv, o_lrem, o_lneg, o_lcmp, o_i2l, o_l2i, o_i2b, o_i2c, o_iushr, o_lshl, o_lshr, o_if_eq, o_if_ne, o_if_lt, o_if_ge, o_if_gt, o_if_le, o_icmp_eq, o_icmp_ne, o_icmp_lt, o_icmp_ge, o_icmp_gt, o_icmp_le, o_ifnull, o_ifnonnull, o_acmp_eq, o_acmp_ne, o_is, o_ls, o_as, o_iinc, o_kill, o_sw, o_ireturn, o_zreturn, o_nreturn, o_lreturn, o_areturn, o_return, o_athrow, o_call, entP, lg_sl, Value.category, st1, st2, List.set, List.getElem?_cons_zero, List.getElem?_cons_succ, List.foldl, popN, aft, o_gI, o_gR, o_pI, o_pN, o_pR, o_aI, o_aG, o_aR, o_len, o_aR8, o_sI, o_sB, o_sZ, o_sG, o_new, o_newA, o_cast, o_inst, o_cst, o_oi, o_sR, o_gIc, o_gSv, o_gSc, o_getc, o_dead, o_acopy, o_castA, o_castI, o_sR7, o_mna, o_mmax, o_mmin, o_mabs, nn_eqL, nn_ltL, nn_leL, nn_Llt, nn_Lle, nn_lt, nn_le, nn_eq, nn_in, nn_clamp, nn_succ, nn_pos, nn_neg1, bj, bn, nle, hR.tr, rr1, va_rf]
      refine hv_get hR.ns hg ?_
      simp [o_ic, o_lc, o_null, o_il, o_ll, o_al, o_dup, o_pop, o_dup_x1, o_dup2, o_iadd, o_isub, o_imul, o_iand, o_ior, o_ixor, o_ishl, o_ishr, o_idiv, o_irem, o_ineg, o_ladd, o_lsub, o_lmul, o_land, o_lor, o_lxor, o_ldiv, o_lrem, o_lneg, o_lcmp, o_i2l, o_l2i, o_i2b, o_i2c, o_iushr, o_lshl, o_lshr, o_if_eq, o_if_ne, o_if_lt, o_if_ge, o_if_gt, o_if_le, o_icmp_eq, o_icmp_ne, o_icmp_lt, o_icmp_ge, o_icmp_gt, o_icmp_le, o_ifnull, o_ifnonnull, o_acmp_eq, o_acmp_ne, o_is, o_ls, o_as, o_iinc, o_kill, o_sw, o_ireturn, o_zreturn, o_nreturn, o_lreturn, o_areturn, o_return, o_athrow, o_call, entP, lg_sl, Value.category, st1, st2, List.set, List.getElem?_cons_zero, List.getElem?_cons_succ, List.foldl, popN, aft, o_gI, o_gR, o_pI, o_pN, o_pR, o_aI, o_aG, o_aR, o_len, o_aR8, o_sI, o_sB, o_sZ, o_sG, o_new, o_newA, o_cast, o_inst, o_cst, o_oi, o_sR, o_gIc, o_gSv, o_gSc, o_getc, o_dead, o_acopy, o_castA, o_castI, o_sR7, o_mna, o_mmax, o_mmin, o_mabs, t, n0, nn_eqL, nn_ltL, nn_leL, nn_Llt, nn_Lle, nn_lt, nn_le, nn_eq, nn_in, nn_clamp, nn_succ, nn_pos, nn_neg1, bj]
      refine ⟨fun z => ?_, fun z => ?_⟩
      · simp [bX4_study_195, o_ic, o_lc, o_null, o_il, o_ll, o_al, o_dup, o_pop, o_dup_x1, o_dup2, o_iadd, o_isub, o_imul, o_iand, o_ior, o_ixor, o_ishl, o_ishr, o_idiv, o_irem, o_ineg, o_ladd, o_lsub, o_lmul, o_land, o_lor, o_lxor, o_ldiv, o_lrem, o_lneg, o_lcmp, o_i2l, o_l2i, o_i2b, o_i2c, o_iushr, o_lshl, o_lshr, o_if_eq, o_if_ne, o_if_lt, o_if_ge, o_if_gt, o_if_le, o_icmp_eq, o_icmp_ne, o_icmp_lt, o_icmp_ge, o_icmp_gt, o_icmp_le, o_ifnull, o_ifnonnull, o_acmp_eq, o_acmp_ne, o_is, o_ls, o_as, o_iinc, o_kill, o_sw, o_ireturn, o_zreturn, o_nreturn, o_lreturn, o_areturn, o_return, o_athrow, o_call, entP, lg_sl, Value.category, st1, st2, List.set, List.getElem?_cons_zero, List.getElem?_cons_succ, List.foldl, popN, aft]
        exact rest 0 (LB.zero.congr (fun e he => by rw [if_neg z]))
      · refine ct_all hR h32 (fun va hva => ?_)
        simp [o_ic, o_lc, o_null, o_il, o_ll, o_al, o_dup, o_pop, o_dup_x1, o_dup2, o_iadd, o_isub, o_imul, o_iand, o_ior, o_ixor, o_ishl, o_ishr, o_idiv, o_irem, o_ineg, o_ladd, o_lsub, o_lmul, o_land, o_lor, o_lxor, o_ldiv, o_lrem, o_lneg, o_lcmp, o_i2l, o_l2i, o_i2b, o_i2c, o_iushr, o_lshl, o_lshr, o_if_eq, o_if_ne, o_if_lt, o_if_ge, o_if_gt, o_if_le, o_icmp_eq, o_icmp_ne, o_icmp_lt, o_icmp_ge, o_icmp_gt, o_icmp_le, o_ifnull, o_ifnonnull, o_acmp_eq, o_acmp_ne, o_is, o_ls, o_as, o_iinc, o_kill, o_sw, o_ireturn, o_zreturn, o_nreturn, o_lreturn, o_areturn, o_return, o_athrow, o_call, entP, lg_sl, Value.category, st1, st2, List.set, List.getElem?_cons_zero, List.getElem?_cons_succ, List.foldl, popN, aft]
        exact rest va (hva.congr (fun e he => by rw [if_pos z]))
  refine main (nds R).length 0 σ (by omega) (hV9.congr (fun i k x hi' hk' hx => ?_))
  by_cases z : i = 4
  · subst z; rw [upd3_eq, upd3_eq]; unfold fj; rw [if_neg (by omega)]
  · rw [upd3_ne _ _ z, upd3_ne _ _ z]
theorem st_late (hk0 : Hok κ σ0) (hR0 : RtB κ σ0 r R wss A NX BF B ss h9) (h32 : (sms R.1).length ≤ 32) (hf0 : f 0 = fb R 0) (hf5 : f 5 = fb R 5)
    (kk : ∀ σ', SV κ σ0 σ' r (nds R).length VA 7 (upd3 f 6 (fb R 6)) c s → bX4_study_448 κ Q [some (.ref r), none, some (.int (nn (nds R).length)), none, none, none, none, none] [] σ') (hV9 : SV κ σ0 σ r (nds R).length VA 7 (upd3 f 6 (fun _ _ => false)) c s) :
    bX4_study_314 κ Q [some (.ref r), none, some (.int 0), none, none, none, none, none] [] σ := by
  have h240 := nds_240 hR0.wf.1
  have bn : (nds R).length < 2147483648 := by omega
  unfold bX4_study_314
  intro Y hY
  have main : ∀ m j (σ : AH), j + m = (nds R).length → SV κ σ0 σ r (nds R).length VA 7 (upd3 f 6 (fj R 6 j)) c s → Y [some (.ref r), none, some (.int (nn j)), none, none, none, none, none] [] σ := by
    intro m
    induction m with
    | zero =>
      intro j σ hj S
      apply hY
      have hR := S.rt hk0 hR0
      have rr1 := hR.rr 1 (by omega)
      have bj : j < 2147483648 := by omega
      have le : (nds R).length ≤ j := by omega
      simp [o_ic, o_lc, o_null, o_il, o_ll, o_al, o_dup, o_pop, o_dup_x1, o_dup2, o_iadd, o_isub, o_imul, o_iand, o_ior, o_ixor, o_ishl, o_ishr, o_idiv, o_irem, o_ineg, o_ladd, o_lsub, o_lmul, o_land, o_lor, o_lxor, o_ldiv, o_lrem, o_lneg, o_lcmp, o_i2l, o_l2i, o_i2b, o_i2c, o_iushr, o_lshl, o_lshr, o_if_eq, o_if_ne, o_if_lt, o_if_ge, o_if_gt, o_if_le, o_icmp_eq, o_icmp_ne, o_icmp_lt, o_icmp_ge, o_icmp_gt, o_icmp_le, o_ifnull, o_ifnonnull, o_acmp_eq, o_acmp_ne, o_is, o_ls, o_as, o_iinc, o_kill, o_sw, o_ireturn, o_zreturn, o_nreturn, o_lreturn, o_areturn, o_return, o_athrow, o_call, entP, lg_sl, Value.category, st1, st2, List.set, List.getElem?_cons_zero, List.getElem?_cons_succ, List.foldl, popN, aft, o_gI, o_gR, o_pI, o_pN, o_pR, o_aI, o_aG, o_aR, o_len, o_aR8, o_sI, o_sB, o_sZ, o_sG, o_new, o_newA, o_cast, o_inst, o_cst, o_oi, o_sR, o_gIc, o_gSv, o_gSc, o_getc, o_dead, o_acopy, o_castA, o_castI, o_sR7, o_mna, o_mmax, o_mmin, o_mabs, hR.tr, rr1, va_rf]
      refine hv_size hR.ns ?_
      simp [o_ic, o_lc, o_null, o_il, o_ll, o_al, o_dup, o_pop, o_dup_x1, o_dup2, o_iadd, o_isub, o_imul, o_iand, o_ior, o_ixor, o_ishl, o_ishr, o_idiv, o_irem, o_ineg, o_ladd, o_lsub, o_lmul, o_land, o_lor, o_lxor, o_ldiv, o_lrem, o_lneg, o_lcmp, o_i2l, o_l2i, o_i2b, o_i2c, o_iushr, o_lshl, o_lshr, o_if_eq, o_if_ne, o_if_lt, o_if_ge, o_if_gt, o_if_le, o_icmp_eq, o_icmp_ne, o_icmp_lt, o_icmp_ge, o_icmp_gt, o_icmp_le, o_ifnull, o_ifnonnull, o_acmp_eq, o_acmp_ne, o_is, o_ls, o_as, o_iinc, o_kill, o_sw, o_ireturn, o_zreturn, o_nreturn, o_lreturn, o_areturn, o_return, o_athrow, o_call, entP, lg_sl, Value.category, st1, st2, List.set, List.getElem?_cons_zero, List.getElem?_cons_succ, List.foldl, popN, aft, o_gI, o_gR, o_pI, o_pN, o_pR, o_aI, o_aG, o_aR, o_len, o_aR8, o_sI, o_sB, o_sZ, o_sG, o_new, o_newA, o_cast, o_inst, o_cst, o_oi, o_sR, o_gIc, o_gSv, o_gSc, o_getc, o_dead, o_acopy, o_castA, o_castI, o_sR7, o_mna, o_mmax, o_mmin, o_mabs, nn_eqL, nn_ltL, nn_leL, nn_Llt, nn_Lle, nn_lt, nn_le, nn_eq, nn_in, nn_clamp, nn_succ, nn_pos, nn_neg1, bj, bn, le]
      rw [show j = (nds R).length by omega]
      refine kk σ (S.congr (fun i k x hi' hk' hx => ?_))
      by_cases z : i = 6
      · subst z; rw [upd3_eq, upd3_eq]; unfold fj; rw [if_pos (by omega)]
      · rw [upd3_ne _ _ z, upd3_ne _ _ z]
    | succ m ih =>
      intro j σ hj S
      apply hY
      have hR := S.rt hk0 hR0
      have rr1 := hR.rr 1 (by omega)
      have bj : j < 2147483648 := by omega
      have nle : ¬ (nds R).length ≤ j := by omega
      have hjn : j < (nds R).length := by omega
      have hg : ((List.range (nds R).length).map A)[j]? = some (A j) := by rw [List.getElem?_map, List.getElem?_range hjn]; rfl
      have t := hR.tgA hjn
      obtain ⟨-, n0, -, e2, e3, a1, a2⟩ := hR.nd j hjn
      obtain ⟨d1, d2, d3, d4, d5, d6, d7⟩ := S.2.2 6 (by omega)
      obtain ⟨g1, g2, g3, g4, g5, g6, g7⟩ := S.2.2 5 (by omega)
      obtain ⟨q1, q2, q3, q4, q5, q6, q7⟩ := S.2.2 0 (by omega)
      rw [upd3_ne _ _ (by omega), hf5] at g7
      rw [upd3_ne _ _ (by omega), hf0] at q7
      have hl2 := tl9_len (t1R R j, t2R R j)
      have bl : (tl9 (t1R R j, t2R R j)).length < 2147483648 := by omega
      have rest : ∀ v, LB v (fun e => if (tl9 (t1R R j, t2R R j)).length = 0 then false else decide (e < (sms R.1).length)) → bX4_study_355 κ Q Y [some (.ref r), none, some (.int (nn j)), some (.ref (A j)), none, none, none, none] [.long v] σ := by
        intro v hv
        simp [bX4_study_355, o_ic, o_lc, o_null, o_il, o_ll, o_al, o_dup, o_pop, o_dup_x1, o_dup2, o_iadd, o_isub, o_imul, o_iand, o_ior, o_ixor, o_ishl, o_ishr, o_idiv, o_irem, o_ineg, o_ladd, o_lsub, o_lmul, o_land, o_lor, o_lxor, o_ldiv, o_lrem, o_lneg, o_lcmp, o_i2l, o_l2i, o_i2b, o_i2c, o_iushr, o_lshl, o_lshr, o_if_eq, o_if_ne, o_if_lt, o_if_ge, o_if_gt, o_if_le, o_icmp_eq, o_icmp_ne, o_icmp_lt, o_icmp_ge, o_icmp_gt, o_icmp_le, o_ifnull, o_ifnonnull, o_acmp_eq, o_acmp_ne, o_is, o_ls, o_as, o_iinc, o_kill, o_sw, o_ireturn, o_zreturn, o_nreturn, o_lreturn, o_areturn, o_return, o_athrow, o_call, entP, lg_sl, Value.category, st1, st2, List.set, List.getElem?_cons_zero, List.getElem?_cons_succ, List.foldl, popN, aft]
        refine st_nxt (n1 := none) hR S hf5 hjn hv (fun v' hv' => ?_)
        simp [bX4_study_407, o_ic, o_lc, o_null, o_il, o_ll, o_al, o_dup, o_pop, o_dup_x1, o_dup2, o_iadd, o_isub, o_imul, o_iand, o_ior, o_ixor, o_ishl, o_ishr, o_idiv, o_irem, o_ineg, o_ladd, o_lsub, o_lmul, o_land, o_lor, o_lxor, o_ldiv, o_lrem, o_lneg, o_lcmp, o_i2l, o_l2i, o_i2b, o_i2c, o_iushr, o_lshl, o_lshr, o_if_eq, o_if_ne, o_if_lt, o_if_ge, o_if_gt, o_if_le, o_icmp_eq, o_icmp_ne, o_icmp_lt, o_icmp_ge, o_icmp_gt, o_icmp_le, o_ifnull, o_ifnonnull, o_acmp_eq, o_acmp_ne, o_is, o_ls, o_as, o_iinc, o_kill, o_sw, o_ireturn, o_zreturn, o_nreturn, o_lreturn, o_areturn, o_return, o_athrow, o_call, entP, lg_sl, Value.category, st1, st2, List.set, List.getElem?_cons_zero, List.getElem?_cons_succ, List.foldl, popN, aft, o_gI, o_gR, o_pI, o_pN, o_pR, o_aI, o_aG, o_aR, o_len, o_aR8, o_sI, o_sB, o_sZ, o_sG, o_new, o_newA, o_cast, o_inst, o_cst, o_oi, o_sR, o_gIc, o_gSv, o_gSc, o_getc, o_dead, o_acopy, o_castA, o_castI, o_sR7, o_mna, o_mmax, o_mmin, o_mabs, hR.tr, d1, g1, q1, va_rf, t, n0, d2, d3, g2, g3, q2, q3, nn_eqL, nn_ltL, nn_leL, nn_Llt, nn_Lle, nn_lt, nn_le, nn_eq, nn_in, nn_clamp, nn_succ, nn_pos, nn_neg1, bj, hjn, nn_succ]
        refine ih (j + 1) _ (by omega) ((S.set (i := 6) (by omega) hjn (((g7 j hjn).and ((q7 j hjn).or hv'.cpl)).congr (fun e he => fb_late hR.wf.1 hR.wf.2.1 hjn))).congr (fun i k x hi' hk' hx => ?_))
        rw [upd3_twice]
        by_cases z : i = 6
        · subst z; rw [upd3_eq, upd3_eq, upd3_eq]; exact fj_step
        · rw [upd3_ne _ _ z, upd3_ne _ _ z]
      simp [o_ic, o_lc, o_null, o_il, o_ll, o_al, o_dup, o_pop, o_dup_x1, o_dup2, o_iadd, o_isub, o_imul, o_iand, o_ior, o_ixor, o_ishl, o_ishr, o_idiv, o_irem, o_ineg, o_ladd, o_lsub, o_lmul, o_land, o_lor, o_lxor, o_ldiv, o_lrem, o_lneg, o_lcmp, o_i2l, o_l2i, o_i2b, o_i2c, o_iushr, o_lshl, o_lshr, o_if_eq, o_if_ne, o_if_lt, o_if_ge, o_if_gt, o_if_le, o_icmp_eq, o_icmp_ne, o_icmp_lt, o_icmp_ge, o_icmp_gt, o_icmp_le, o_ifnull, o_ifnonnull, o_acmp_eq, o_acmp_ne, o_is, o_ls, o_as, o_iinc, o_kill, o_sw, o_ireturn, o_zreturn, o_nreturn, o_lreturn, o_areturn, o_return, o_athrow, o_call, entP, lg_sl, Value.category, st1, st2, List.set, List.getElem?_cons_zero, List.getElem?_cons_succ, List.foldl, popN, aft, o_gI, o_gR, o_pI, o_pN, o_pR, o_aI, o_aG, o_aR, o_len, o_aR8, o_sI, o_sB, o_sZ, o_sG, o_new, o_newA, o_cast, o_inst, o_cst, o_oi, o_sR, o_gIc, o_gSv, o_gSc, o_getc, o_dead, o_acopy, o_castA, o_castI, o_sR7, o_mna, o_mmax, o_mmin, o_mabs, hR.tr, rr1, va_rf]
      refine hv_size hR.ns ?_
      simp [o_ic, o_lc, o_null, o_il, o_ll, o_al, o_dup, o_pop, o_dup_x1, o_dup2, o_iadd, o_isub, o_imul, o_iand, o_ior, o_ixor, o_ishl, o_ishr, o_idiv, o_irem, o_ineg, o_ladd, o_lsub, o_lmul, o_land, o_lor, o_lxor, o_ldiv, o_lrem, o_lneg, o_lcmp, o_i2l, o_l2i, o_i2b, o_i2c, o_iushr, o_lshl, o_lshr, o_if_eq, o_if_ne, o_if_lt, o_if_ge, o_if_gt, o_if_le, o_icmp_eq, o_icmp_ne, o_icmp_lt, o_icmp_ge, o_icmp_gt, o_icmp_le, o_ifnull, o_ifnonnull, o_acmp_eq, o_acmp_ne, o_is, o_ls, o_as, o_iinc, o_kill, o_sw, o_ireturn, o_zreturn, o_nreturn, o_lreturn, o_areturn, o_return, o_athrow, o_call, entP, lg_sl, Value.category, st1, st2, List.set, List.getElem?_cons_zero, List.getElem?_cons_succ, List.foldl, popN, aft, o_gI, o_gR, o_pI, o_pN, o_pR, o_aI, o_aG, o_aR, o_len, o_aR8, o_sI, o_sB, o_sZ, o_sG, o_new, o_newA, o_cast, o_inst, o_cst, o_oi, o_sR, o_gIc, o_gSv, o_gSc, o_getc, o_dead, o_acopy, o_castA, o_castI, o_sR7, o_mna, o_mmax, o_mmin, o_mabs, nn_eqL, nn_ltL, nn_leL, nn_Llt, nn_Lle, nn_lt, nn_le, nn_eq, nn_in, nn_clamp, nn_succ, nn_pos, nn_neg1, bj, bn, nle, hR.tr, rr1, va_rf]
      refine hv_get hR.ns hg ?_
      simp [o_ic, o_lc, o_null, o_il, o_ll, o_al, o_dup, o_pop, o_dup_x1, o_dup2, o_iadd, o_isub, o_imul, o_iand, o_ior, o_ixor, o_ishl, o_ishr, o_idiv, o_irem, o_ineg, o_ladd, o_lsub, o_lmul, o_land, o_lor, o_lxor, o_ldiv, o_lrem, o_lneg, o_lcmp, o_i2l, o_l2i, o_i2b, o_i2c, o_iushr, o_lshl, o_lshr, o_if_eq, o_if_ne, o_if_lt, o_if_ge, o_if_gt, o_if_le, o_icmp_eq, o_icmp_ne, o_icmp_lt, o_icmp_ge, o_icmp_gt, o_icmp_le, o_ifnull, o_ifnonnull, o_acmp_eq, o_acmp_ne, o_is, o_ls, o_as, o_iinc, o_kill, o_sw, o_ireturn, o_zreturn, o_nreturn, o_lreturn, o_areturn, o_return, o_athrow, o_call, entP, lg_sl, Value.category, st1, st2, List.set, List.getElem?_cons_zero, List.getElem?_cons_succ, List.foldl, popN, aft, o_gI, o_gR, o_pI, o_pN, o_pR, o_aI, o_aG, o_aR, o_len, o_aR8, o_sI, o_sB, o_sZ, o_sG, o_new, o_newA, o_cast, o_inst, o_cst, o_oi, o_sR, o_gIc, o_gSv, o_gSc, o_getc, o_dead, o_acopy, o_castA, o_castI, o_sR7, o_mna, o_mmax, o_mmin, o_mabs, t, e2, va_rf]
      refine hv_size a1 ?_
      simp [o_ic, o_lc, o_null, o_il, o_ll, o_al, o_dup, o_pop, o_dup_x1, o_dup2, o_iadd, o_isub, o_imul, o_iand, o_ior, o_ixor, o_ishl, o_ishr, o_idiv, o_irem, o_ineg, o_ladd, o_lsub, o_lmul, o_land, o_lor, o_lxor, o_ldiv, o_lrem, o_lneg, o_lcmp, o_i2l, o_l2i, o_i2b, o_i2c, o_iushr, o_lshl, o_lshr, o_if_eq, o_if_ne, o_if_lt, o_if_ge, o_if_gt, o_if_le, o_icmp_eq, o_icmp_ne, o_icmp_lt, o_icmp_ge, o_icmp_gt, o_icmp_le, o_ifnull, o_ifnonnull, o_acmp_eq, o_acmp_ne, o_is, o_ls, o_as, o_iinc, o_kill, o_sw, o_ireturn, o_zreturn, o_nreturn, o_lreturn, o_areturn, o_return, o_athrow, o_call, entP, lg_sl, Value.category, st1, st2, List.set, List.getElem?_cons_zero, List.getElem?_cons_succ, List.foldl, popN, aft, o_gI, o_gR, o_pI, o_pN, o_pR, o_aI, o_aG, o_aR, o_len, o_aR8, o_sI, o_sB, o_sZ, o_sG, o_new, o_newA, o_cast, o_inst, o_cst, o_oi, o_sR, o_gIc, o_gSv, o_gSc, o_getc, o_dead, o_acopy, o_castA, o_castI, o_sR7, o_mna, o_mmax, o_mmin, o_mabs, nn_eqL, nn_ltL, nn_leL, nn_Llt, nn_Lle, nn_lt, nn_le, nn_eq, nn_in, nn_clamp, nn_succ, nn_pos, nn_neg1, bl]
      refine ⟨fun z => ?_, fun z => ?_⟩
      · simp [bX4_study_351, o_ic, o_lc, o_null, o_il, o_ll, o_al, o_dup, o_pop, o_dup_x1, o_dup2, o_iadd, o_isub, o_imul, o_iand, o_ior, o_ixor, o_ishl, o_ishr, o_idiv, o_irem, o_ineg, o_ladd, o_lsub, o_lmul, o_land, o_lor, o_lxor, o_ldiv, o_lrem, o_lneg, o_lcmp, o_i2l, o_l2i, o_i2b, o_i2c, o_iushr, o_lshl, o_lshr, o_if_eq, o_if_ne, o_if_lt, o_if_ge, o_if_gt, o_if_le, o_icmp_eq, o_icmp_ne, o_icmp_lt, o_icmp_ge, o_icmp_gt, o_icmp_le, o_ifnull, o_ifnonnull, o_acmp_eq, o_acmp_ne, o_is, o_ls, o_as, o_iinc, o_kill, o_sw, o_ireturn, o_zreturn, o_nreturn, o_lreturn, o_areturn, o_return, o_athrow, o_call, entP, lg_sl, Value.category, st1, st2, List.set, List.getElem?_cons_zero, List.getElem?_cons_succ, List.foldl, popN, aft]
        refine ct_all hR h32 (fun va hva => ?_)
        simp [o_ic, o_lc, o_null, o_il, o_ll, o_al, o_dup, o_pop, o_dup_x1, o_dup2, o_iadd, o_isub, o_imul, o_iand, o_ior, o_ixor, o_ishl, o_ishr, o_idiv, o_irem, o_ineg, o_ladd, o_lsub, o_lmul, o_land, o_lor, o_lxor, o_ldiv, o_lrem, o_lneg, o_lcmp, o_i2l, o_l2i, o_i2b, o_i2c, o_iushr, o_lshl, o_lshr, o_if_eq, o_if_ne, o_if_lt, o_if_ge, o_if_gt, o_if_le, o_icmp_eq, o_icmp_ne, o_icmp_lt, o_icmp_ge, o_icmp_gt, o_icmp_le, o_ifnull, o_ifnonnull, o_acmp_eq, o_acmp_ne, o_is, o_ls, o_as, o_iinc, o_kill, o_sw, o_ireturn, o_zreturn, o_nreturn, o_lreturn, o_areturn, o_return, o_athrow, o_call, entP, lg_sl, Value.category, st1, st2, List.set, List.getElem?_cons_zero, List.getElem?_cons_succ, List.foldl, popN, aft]
        exact rest va (hva.congr (fun e he => by rw [if_neg (by intro q; exact z (List.length_eq_zero_iff.1 q))]))
      · exact rest 0 (LB.zero.congr (fun e he => by rw [if_pos (by rw [z]; rfl)]))
  refine main (nds R).length 0 σ (by omega) (hV9.congr (fun i k x hi' hk' hx => ?_))
  by_cases z : i = 6
  · subst z; rw [upd3_eq, upd3_eq]; unfold fj; rw [if_neg (by omega)]
  · rw [upd3_ne _ _ z, upd3_ne _ _ z]
/-- a new row in place i -/
theorem new_row {Qc : Cont AH} {L : Lc} {q : Nat} (hk0 : Hok κ σ0) (hR0 : RtB κ σ0 r R wss A NX BF B ss h9) (hV9 : SV κ σ0 σ r (nds R).length VA q f c s) (r1 : 1 ≤ hC σ) (r2 : 240 ≤ hS σ)
    (kk : ∀ σ' VA', SV κ σ0 σ' r (nds R).length VA' (q + 1) (upd3 f q (fun _ _ => false)) (c + 1) (s + (nds R).length) → Qc L [] σ') : (o_newA 101 <| o_pR (6 + q) [4] <| Qc) L [.int (nn (nds R).length), .ref r] σ := by
  have hR := hV9.rt hk0 hR0
  have h240 := nds_240 hR.wf.1
  have bn : (nds R).length < 2147483648 := by omega
  have npos : ¬ nn (nds R).length < 0 := fun q => (nn_pos bn).1 q
  have S1 := hV9.new hk0 hR0.tr
  have q2 : (nds R).length ≤ hS σ := by omega
  have q3 : (nds R).length ≤ 65536 := by omega
  have hrne : ¬ r = hN σ := by have := hV9.1.ok.1.lt (a := r) (by rw [hR.tr]; decide); omega
  simp [o_ic, o_lc, o_null, o_il, o_ll, o_al, o_dup, o_pop, o_dup_x1, o_dup2, o_iadd, o_isub, o_imul, o_iand, o_ior, o_ixor, o_ishl, o_ishr, o_idiv, o_irem, o_ineg, o_ladd, o_lsub, o_lmul, o_land, o_lor, o_lxor, o_ldiv, o_lrem, o_lneg, o_lcmp, o_i2l, o_l2i, o_i2b, o_i2c, o_iushr, o_lshl, o_lshr, o_if_eq, o_if_ne, o_if_lt, o_if_ge, o_if_gt, o_if_le, o_icmp_eq, o_icmp_ne, o_icmp_lt, o_icmp_ge, o_icmp_gt, o_icmp_le, o_ifnull, o_ifnonnull, o_acmp_eq, o_acmp_ne, o_is, o_ls, o_as, o_iinc, o_kill, o_sw, o_ireturn, o_zreturn, o_nreturn, o_lreturn, o_areturn, o_return, o_athrow, o_call, entP, lg_sl, Value.category, st1, st2, List.set, List.getElem?_cons_zero, List.getElem?_cons_succ, List.foldl, popN, aft, o_gI, o_gR, o_pI, o_pN, o_pR, o_aI, o_aG, o_aR, o_len, o_aR8, o_sI, o_sB, o_sZ, o_sG, o_new, o_newA, o_cast, o_inst, o_cst, o_oi, o_sR, o_gIc, o_gSv, o_gSc, o_getc, o_dead, o_acopy, o_castA, o_castI, o_sR7, o_mna, o_mmax, o_mmin, o_mabs, npos, nn_eqL, nn_ltL, nn_leL, nn_Llt, nn_Lle, nn_lt, nn_le, nn_eq, nn_in, nn_clamp, nn_succ, nn_pos, nn_neg1, bn, q2, q3, r1, hT_nw, hrne, hR.tr, vref]
  exact kk _ _ S1
/-- study: all rows of bits are what holds -/
theorem ct_study (hk0 : Hok κ σ0) (hR0 : RtB κ σ0 r R wss A NX BF B ss h9) (h32 : (sms R.1).length ≤ 32) (r1 : 10 ≤ hC σ0) (r2 : 2400 ≤ hS σ0)
    (kk : ∀ σ' VA, SV κ σ0 σ' r (nds R).length VA 8 (fun i => fb R i) 8 1920 → Q (.inl none) σ') : pX4_study κ [.ref r] σ0 Q := by
  have h240 := nds_240 hR0.wf.1
  refine st_first hk0 hR0 h32 r1 r2 (fun σ1 VA1 f1 S1 e0 e1 => ?_)
  have hR1 := S1.rt hk0 hR0
  simp [bX4_study_141, o_ic, o_lc, o_null, o_il, o_ll, o_al, o_dup, o_pop, o_dup_x1, o_dup2, o_iadd, o_isub, o_imul, o_iand, o_ior, o_ixor, o_ishl, o_ishr, o_idiv, o_irem, o_ineg, o_ladd, o_lsub, o_lmul, o_land, o_lor, o_lxor, o_ldiv, o_lrem, o_lneg, o_lcmp, o_i2l, o_l2i, o_i2b, o_i2c, o_iushr, o_lshl, o_lshr, o_if_eq, o_if_ne, o_if_lt, o_if_ge, o_if_gt, o_if_le, o_icmp_eq, o_icmp_ne, o_icmp_lt, o_icmp_ge, o_icmp_gt, o_icmp_le, o_ifnull, o_ifnonnull, o_acmp_eq, o_acmp_ne, o_is, o_ls, o_as, o_iinc, o_kill, o_sw, o_ireturn, o_zreturn, o_nreturn, o_lreturn, o_areturn, o_return, o_athrow, o_call, entP, lg_sl, Value.category, st1, st2, List.set, List.getElem?_cons_zero, List.getElem?_cons_succ, List.foldl, popN, aft]
  refine ct_want hk0 hR0 h32 S1 e0 e1 (by have := S1.1.C; omega) (by have := S1.1.S; omega) (fun σ2 VA2 S2 => ?_)
  simp [o_ic, o_lc, o_null, o_il, o_ll, o_al, o_dup, o_pop, o_dup_x1, o_dup2, o_iadd, o_isub, o_imul, o_iand, o_ior, o_ixor, o_ishl, o_ishr, o_idiv, o_irem, o_ineg, o_ladd, o_lsub, o_lmul, o_land, o_lor, o_lxor, o_ldiv, o_lrem, o_lneg, o_lcmp, o_i2l, o_l2i, o_i2b, o_i2c, o_iushr, o_lshl, o_lshr, o_if_eq, o_if_ne, o_if_lt, o_if_ge, o_if_gt, o_if_le, o_icmp_eq, o_icmp_ne, o_icmp_lt, o_icmp_ge, o_icmp_gt, o_icmp_le, o_ifnull, o_ifnonnull, o_acmp_eq, o_acmp_ne, o_is, o_ls, o_as, o_iinc, o_kill, o_sw, o_ireturn, o_zreturn, o_nreturn, o_lreturn, o_areturn, o_return, o_athrow, o_call, entP, lg_sl, Value.category, st1, st2, List.set, List.getElem?_cons_zero, List.getElem?_cons_succ, List.foldl, popN, aft]
  refine ct_be hk0 hR0 h32 S2 (by rw [upd3_ne _ _ (by omega)]; exact e0) (by rw [upd3_ne _ _ (by omega)]; exact e1) (by have := S2.1.C; omega) (by have := S2.1.S; omega) (fun σ3 VA3 S3 => ?_)
  show (o_newA 101 <| o_pR (6 + 4) [4] <| (o_ic 0 <| o_is 2 <| (o_kill [3, 4, 5, 6, 7] (bX4_study_158 κ Q)))) [some (.ref r), some (.int (nn (nds R).length)), some (.int (nn (nds R).length)), none, none, none, none, none] [.int (nn (nds R).length), .ref r] σ3
  refine new_row hk0 hR0 S3 (by have := S3.1.C; omega) (by have := S3.1.S; omega) (fun σ4 VA4 S4 => ?_)
  simp [o_ic, o_lc, o_null, o_il, o_ll, o_al, o_dup, o_pop, o_dup_x1, o_dup2, o_iadd, o_isub, o_imul, o_iand, o_ior, o_ixor, o_ishl, o_ishr, o_idiv, o_irem, o_ineg, o_ladd, o_lsub, o_lmul, o_land, o_lor, o_lxor, o_ldiv, o_lrem, o_lneg, o_lcmp, o_i2l, o_l2i, o_i2b, o_i2c, o_iushr, o_lshl, o_lshr, o_if_eq, o_if_ne, o_if_lt, o_if_ge, o_if_gt, o_if_le, o_icmp_eq, o_icmp_ne, o_icmp_lt, o_icmp_ge, o_icmp_gt, o_icmp_le, o_ifnull, o_ifnonnull, o_acmp_eq, o_acmp_ne, o_is, o_ls, o_as, o_iinc, o_kill, o_sw, o_ireturn, o_zreturn, o_nreturn, o_lreturn, o_areturn, o_return, o_athrow, o_call, entP, lg_sl, Value.category, st1, st2, List.set, List.getElem?_cons_zero, List.getElem?_cons_succ, List.foldl, popN, aft]
  refine st_early hk0 hR0 h32 (by rw [upd3_ne _ _ (by omega), upd3_ne _ _ (by omega)]; exact e1) (by rw [upd3_ne _ _ (by omega), upd3_eq]) (by rw [upd3_eq]) (fun σ5 S5 => ?_) S4
  simp [bX4_study_301, o_ic, o_lc, o_null, o_il, o_ll, o_al, o_dup, o_pop, o_dup_x1, o_dup2, o_iadd, o_isub, o_imul, o_iand, o_ior, o_ixor, o_ishl, o_ishr, o_idiv, o_irem, o_ineg, o_ladd, o_lsub, o_lmul, o_land, o_lor, o_lxor, o_ldiv, o_lrem, o_lneg, o_lcmp, o_i2l, o_l2i, o_i2b, o_i2c, o_iushr, o_lshl, o_lshr, o_if_eq, o_if_ne, o_if_lt, o_if_ge, o_if_gt, o_if_le, o_icmp_eq, o_icmp_ne, o_icmp_lt, o_icmp_ge, o_icmp_gt, o_icmp_le, o_ifnull, o_ifnonnull, o_acmp_eq, o_acmp_ne, o_is, o_ls, o_as, o_iinc, o_kill, o_sw, o_ireturn, o_zreturn, o_nreturn, o_lreturn, o_areturn, o_return, o_athrow, o_call, entP, lg_sl, Value.category, st1, st2, List.set, List.getElem?_cons_zero, List.getElem?_cons_succ, List.foldl, popN, aft]
  refine ct_delay hk0 hR0 h32 S5 (by rw [upd3_ne _ _ (by omega), upd3_ne _ _ (by omega), upd3_ne _ _ (by omega)]; exact e0) (by rw [upd3_eq]) (by have := S5.1.C; omega) (by have := S5.1.S; omega) (fun σ6 VA6 S6 => ?_)
  show (o_newA 101 <| o_pR (6 + 6) [4] <| (o_ic 0 <| o_is 2 <| (o_kill [1, 3, 4, 5, 6, 7] (bX4_study_314 κ Q)))) [some (.ref r), some (.int (nn (nds R).length)), some (.int (nn (nds R).length)), none, none, none, none, none] [.int (nn (nds R).length), .ref r] σ6
  refine new_row hk0 hR0 S6 (by have := S6.1.C; omega) (by have := S6.1.S; omega) (fun σ7 VA7 S7 => ?_)
  simp [o_ic, o_lc, o_null, o_il, o_ll, o_al, o_dup, o_pop, o_dup_x1, o_dup2, o_iadd, o_isub, o_imul, o_iand, o_ior, o_ixor, o_ishl, o_ishr, o_idiv, o_irem, o_ineg, o_ladd, o_lsub, o_lmul, o_land, o_lor, o_lxor, o_ldiv, o_lrem, o_lneg, o_lcmp, o_i2l, o_l2i, o_i2b, o_i2c, o_iushr, o_lshl, o_lshr, o_if_eq, o_if_ne, o_if_lt, o_if_ge, o_if_gt, o_if_le, o_icmp_eq, o_icmp_ne, o_icmp_lt, o_icmp_ge, o_icmp_gt, o_icmp_le, o_ifnull, o_ifnonnull, o_acmp_eq, o_acmp_ne, o_is, o_ls, o_as, o_iinc, o_kill, o_sw, o_ireturn, o_zreturn, o_nreturn, o_lreturn, o_areturn, o_return, o_athrow, o_call, entP, lg_sl, Value.category, st1, st2, List.set, List.getElem?_cons_zero, List.getElem?_cons_succ, List.foldl, popN, aft]
  refine st_late hk0 hR0 h32 (by rw [upd3_ne _ _ (by omega), upd3_ne _ _ (by omega), upd3_ne _ _ (by omega), upd3_ne _ _ (by omega)]; exact e0) (by rw [upd3_eq]) (fun σ8 S8 => ?_) S7
  simp [bX4_study_448, o_ic, o_lc, o_null, o_il, o_ll, o_al, o_dup, o_pop, o_dup_x1, o_dup2, o_iadd, o_isub, o_imul, o_iand, o_ior, o_ixor, o_ishl, o_ishr, o_idiv, o_irem, o_ineg, o_ladd, o_lsub, o_lmul, o_land, o_lor, o_lxor, o_ldiv, o_lrem, o_lneg, o_lcmp, o_i2l, o_l2i, o_i2b, o_i2c, o_iushr, o_lshl, o_lshr, o_if_eq, o_if_ne, o_if_lt, o_if_ge, o_if_gt, o_if_le, o_icmp_eq, o_icmp_ne, o_icmp_lt, o_icmp_ge, o_icmp_gt, o_icmp_le, o_ifnull, o_ifnonnull, o_acmp_eq, o_acmp_ne, o_is, o_ls, o_as, o_iinc, o_kill, o_sw, o_ireturn, o_zreturn, o_nreturn, o_lreturn, o_areturn, o_return, o_athrow, o_call, entP, lg_sl, Value.category, st1, st2, List.set, List.getElem?_cons_zero, List.getElem?_cons_succ, List.foldl, popN, aft]
  refine ct_lone hk0 hR0 h32 S8 (by rw [upd3_ne _ _ (by omega), upd3_ne _ _ (by omega), upd3_ne _ _ (by omega), upd3_ne _ _ (by omega), upd3_ne _ _ (by omega)]; exact e0) (by rw [upd3_eq]) (by have := S8.1.C; omega) (by have := S8.1.S; omega) (fun σ9 VA9 S9 => ?_)
  simp [o_ic, o_lc, o_null, o_il, o_ll, o_al, o_dup, o_pop, o_dup_x1, o_dup2, o_iadd, o_isub, o_imul, o_iand, o_ior, o_ixor, o_ishl, o_ishr, o_idiv, o_irem, o_ineg, o_ladd, o_lsub, o_lmul, o_land, o_lor, o_lxor, o_ldiv, o_lrem, o_lneg, o_lcmp, o_i2l, o_l2i, o_i2b, o_i2c, o_iushr, o_lshl, o_lshr, o_if_eq, o_if_ne, o_if_lt, o_if_ge, o_if_gt, o_if_le, o_icmp_eq, o_icmp_ne, o_icmp_lt, o_icmp_ge, o_icmp_gt, o_icmp_le, o_ifnull, o_ifnonnull, o_acmp_eq, o_acmp_ne, o_is, o_ls, o_as, o_iinc, o_kill, o_sw, o_ireturn, o_zreturn, o_nreturn, o_lreturn, o_areturn, o_return, o_athrow, o_call, entP, lg_sl, Value.category, st1, st2, List.set, List.getElem?_cons_zero, List.getElem?_cons_succ, List.foldl, popN, aft]
  refine kk σ9 VA9 ((S9.congr (fun i k x hi' hk' hx => ?_)).up9 (by omega) (by omega))
  have hi8 : i = 0 ∨ i = 1 ∨ i = 2 ∨ i = 3 ∨ i = 4 ∨ i = 5 ∨ i = 6 ∨ i = 7 := by omega
  rcases hi8 with z | z | z | z | z | z | z | z <;> subst z <;> simp [upd3, e0, e1]
end S3
