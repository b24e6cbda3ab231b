/-! THE COMPONENT: study -/
set_option maxRecDepth 100000
section SD0
theorem SV.up9 {κ : Nat → Option Nat} {σ σ0 : AH} {r n q c s c' s' : Nat} {VA : Nat → Nat} {f : Nat → Nat → Nat → Bool} (h : SV κ σ0 σ r n VA q f c s) (hc : c ≤ c') (hs : s ≤ s') : SV κ σ0 σ r n VA q f c' s' := ⟨h.1.up hc hs, h.2⟩
end SD0
section SD
variable {κ : Nat → Option Nat} {Q : Ret AH} {σ σ0 : AH} {r c s h9 : Nat} {R : Rt} {wss : List (Nat × List Nat)} {A NX BF : Nat → Nat} {B : Nat → List Nat} {ss : List Nat} {VA : Nat → Nat} {f : Nat → Nat → Nat → Bool}
theorem upd3_twice {f : Nat → Nat → Nat → Bool} {i j k e : Nat} {X Y : Nat → Nat → Bool} : upd3 (upd3 f i X) i Y j k e = upd3 f i Y j k e := by
  by_cases z : j = i
  · subst z; rw [upd3_eq, upd3_eq]
  · rw [upd3_ne _ _ z, upd3_ne _ _ z, upd3_ne _ _ z]
/-- the kills of node k -/
theorem st_kills {J24 : Cont AH} {k : Nat} {X : Nat → Nat → Bool} (hk0 : Hok κ σ0) (hR0 : RtB κ σ0 r R wss A NX BF B ss h9) (h32 : (sms R.1).length ≤ 32) (hk : k < (nds R).length) (hX : ∀ e, e < 64 → X k e = false)
    (kk : ∀ σ', SV κ σ0 σ' r (nds R).length VA 2 (upd3 f 1 (updM X k (fb R 1 k))) c s → J24 [some (.ref r), some (.int (nn (nds R).length)), some (.int (nn (k + 1))), none, none, none, none, none] [] σ') (hV9 : SV κ σ0 σ r (nds R).length VA 2 (upd3 f 1 X) c s) :
    bX4_study_72 κ Q J24 [some (.ref r), some (.int (nn (nds R).length)), some (.int (nn k)), some (.ref (A k)), none, none, none, none] [] σ := by
  simp [bX4_study_72, o_ic, o_lc, o_null, o_il, o_ll, o_al, o_dup, o_pop, o_dup_x1, o_dup2, o_iadd, o_isub, o_imul, o_iand, o_ior, o_ixor, o_ishl, o_ishr, o_idiv, o_irem, o_ineg, o_ladd, o_lsub, o_lmul, o_land, o_lor, o_lxor, o_ldiv, o_lrem, o_lneg, o_lcmp, o_i2l, o_l2i, o_i2b, o_i2c, o_iushr, o_lshl, o_lshr, o_if_eq, o_if_ne, o_if_lt, o_if_ge, o_if_gt, o_if_le, o_icmp_eq, o_icmp_ne, o_icmp_lt, o_icmp_ge, o_icmp_gt, o_icmp_le, o_ifnull, o_ifnonnull, o_acmp_eq, o_acmp_ne, o_is, o_ls, o_as, o_iinc, o_kill, o_sw, o_ireturn, o_zreturn, o_nreturn, o_lreturn, o_areturn, o_return, o_athrow, o_call, entP, lg_sl, Value.category, st1, st2, List.set, List.getElem?_cons_zero, List.getElem?_cons_succ, List.foldl, popN, aft]
  unfold bX4_study_75
  intro Y hY
  have h240 := nds_240 hR0.wf.1
  have bk : k < 2147483648 := by omega
  have main : ∀ m e (σ : AH), e + m = (sms R.1).length → SV κ σ0 σ r (nds R).length VA 2 (upd3 f 1 (updM X k (fun x => decide (x < e) && fb R 1 k x))) c s → Y [some (.ref r), some (.int (nn (nds R).length)), some (.int (nn k)), some (.ref (A k)), some (.int (nn e)), none, none, none] [] σ := by
    intro m
    induction m with
    | zero =>
      intro e σ he S
      apply hY
      have hR := S.rt hk0 hR0
      have rr2 := hR.rr 2 (by omega)
      have b1 : e < 2147483648 := by omega
      have b2 : ss.length < 2147483648 := by rw [hR.sn]; omega
      have le : ss.length ≤ e := by rw [hR.sn]; omega
      simp [o_ic, o_lc, o_null, o_il, o_ll, o_al, o_dup, o_pop, o_dup_x1, o_dup2, o_iadd, o_isub, o_imul, o_iand, o_ior, o_ixor, o_ishl, o_ishr, o_idiv, o_irem, o_ineg, o_ladd, o_lsub, o_lmul, o_land, o_lor, o_lxor, o_ldiv, o_lrem, o_lneg, o_lcmp, o_i2l, o_l2i, o_i2b, o_i2c, o_iushr, o_lshl, o_lshr, o_if_eq, o_if_ne, o_if_lt, o_if_ge, o_if_gt, o_if_le, o_icmp_eq, o_icmp_ne, o_icmp_lt, o_icmp_ge, o_icmp_gt, o_icmp_le, o_ifnull, o_ifnonnull, o_acmp_eq, o_acmp_ne, o_is, o_ls, o_as, o_iinc, o_kill, o_sw, o_ireturn, o_zreturn, o_nreturn, o_lreturn, o_areturn, o_return, o_athrow, o_call, entP, lg_sl, Value.category, st1, st2, List.set, List.getElem?_cons_zero, List.getElem?_cons_succ, List.foldl, popN, aft, o_gI, o_gR, o_pI, o_pN, o_pR, o_aI, o_aG, o_aR, o_len, o_aR8, o_sI, o_sB, o_sZ, o_sG, o_new, o_newA, o_cast, o_inst, o_cst, o_oi, o_sR, o_gIc, o_gSv, o_gSc, o_getc, o_dead, o_acopy, o_castA, o_castI, o_sR7, o_mna, o_mmax, o_mmin, o_mabs, hR.tr, rr2, va_rf]
      refine hv_size hR.sl ?_
      simp [o_ic, o_lc, o_null, o_il, o_ll, o_al, o_dup, o_pop, o_dup_x1, o_dup2, o_iadd, o_isub, o_imul, o_iand, o_ior, o_ixor, o_ishl, o_ishr, o_idiv, o_irem, o_ineg, o_ladd, o_lsub, o_lmul, o_land, o_lor, o_lxor, o_ldiv, o_lrem, o_lneg, o_lcmp, o_i2l, o_l2i, o_i2b, o_i2c, o_iushr, o_lshl, o_lshr, o_if_eq, o_if_ne, o_if_lt, o_if_ge, o_if_gt, o_if_le, o_icmp_eq, o_icmp_ne, o_icmp_lt, o_icmp_ge, o_icmp_gt, o_icmp_le, o_ifnull, o_ifnonnull, o_acmp_eq, o_acmp_ne, o_is, o_ls, o_as, o_iinc, o_kill, o_sw, o_ireturn, o_zreturn, o_nreturn, o_lreturn, o_areturn, o_return, o_athrow, o_call, entP, lg_sl, Value.category, st1, st2, List.set, List.getElem?_cons_zero, List.getElem?_cons_succ, List.foldl, popN, aft, o_gI, o_gR, o_pI, o_pN, o_pR, o_aI, o_aG, o_aR, o_len, o_aR8, o_sI, o_sB, o_sZ, o_sG, o_new, o_newA, o_cast, o_inst, o_cst, o_oi, o_sR, o_gIc, o_gSv, o_gSc, o_getc, o_dead, o_acopy, o_castA, o_castI, o_sR7, o_mna, o_mmax, o_mmin, o_mabs, nn_eqL, nn_ltL, nn_leL, nn_Llt, nn_Lle, nn_lt, nn_le, nn_eq, nn_in, nn_clamp, nn_succ, nn_pos, nn_neg1, b1, b2, le, bX4_study_135, nn_succ]
      refine kk σ (S.congr (fun i k' x hi' hk' hx => ?_))
      by_cases z : i = 1
      · subst z
        rw [upd3_eq, upd3_eq]
        by_cases z2 : k' = k
        · subst z2
          rw [updM_eq, updM_eq]
          unfold fb
          by_cases z3 : x < (sms R.1).length
          · have : x < e := by omega
            simp [this]
          · simp [z3]
        · rw [updM_ne _ _ z2, updM_ne _ _ z2]
      · rw [upd3_ne _ _ z, upd3_ne _ _ z]
    | succ m ih =>
      intro e σ he S
      apply hY
      have hR := S.rt hk0 hR0
      have rr2 := hR.rr 2 (by omega)
      have b1 : e < 2147483648 := by omega
      have b2 : ss.length < 2147483648 := by rw [hR.sn]; omega
      have nle : ¬ ss.length ≤ e := by rw [hR.sn]; omega
      obtain ⟨y, e1, e2, e3⟩ := hR.sm e (by omega)
      have ty := e2.tg
      have t := hR.tgA hk
      have n0 := (hR.nd k hk).2.1
      obtain ⟨d1, d2, d3, d4, d5, d6, d7⟩ := S.2.2 1 (by omega)
      rw [upd3_eq] at d7
      have dk := d7 k hk
      rw [updM_eq] at dk
      simp [o_ic, o_lc, o_null, o_il, o_ll, o_al, o_dup, o_pop, o_dup_x1, o_dup2, o_iadd, o_isub, o_imul, o_iand, o_ior, o_ixor, o_ishl, o_ishr, o_idiv, o_irem, o_ineg, o_ladd, o_lsub, o_lmul, o_land, o_lor, o_lxor, o_ldiv, o_lrem, o_lneg, o_lcmp, o_i2l, o_l2i, o_i2b, o_i2c, o_iushr, o_lshl, o_lshr, o_if_eq, o_if_ne, o_if_lt, o_if_ge, o_if_gt, o_if_le, o_icmp_eq, o_icmp_ne, o_icmp_lt, o_icmp_ge, o_icmp_gt, o_icmp_le, o_ifnull, o_ifnonnull, o_acmp_eq, o_acmp_ne, o_is, o_ls, o_as, o_iinc, o_kill, o_sw, o_ireturn, o_zreturn, o_nreturn, o_lreturn, o_areturn, o_return, o_athrow, o_call, entP, lg_sl, Value.category, st1, st2, List.set, List.getElem?_cons_zero, List.getElem?_cons_succ, List.foldl, popN, aft, o_gI, o_gR, o_pI, o_pN, o_pR, o_aI, o_aG, o_aR, o_len, o_aR8, o_sI, o_sB, o_sZ, o_sG, o_new, o_newA, o_cast, o_inst, o_cst, o_oi, o_sR, o_gIc, o_gSv, o_gSc, o_getc, o_dead, o_acopy, o_castA, o_castI, o_sR7, o_mna, o_mmax, o_mmin, o_mabs, hR.tr, rr2, va_rf]
      refine hv_size hR.sl ?_
      simp [o_ic, o_lc, o_null, o_il, o_ll, o_al, o_dup, o_pop, o_dup_x1, o_dup2, o_iadd, o_isub, o_imul, o_iand, o_ior, o_ixor, o_ishl, o_ishr, o_idiv, o_irem, o_ineg, o_ladd, o_lsub, o_lmul, o_land, o_lor, o_lxor, o_ldiv, o_lrem, o_lneg, o_lcmp, o_i2l, o_l2i, o_i2b, o_i2c, o_iushr, o_lshl, o_lshr, o_if_eq, o_if_ne, o_if_lt, o_if_ge, o_if_gt, o_if_le, o_icmp_eq, o_icmp_ne, o_icmp_lt, o_icmp_ge, o_icmp_gt, o_icmp_le, o_ifnull, o_ifnonnull, o_acmp_eq, o_acmp_ne, o_is, o_ls, o_as, o_iinc, o_kill, o_sw, o_ireturn, o_zreturn, o_nreturn, o_lreturn, o_areturn, o_return, o_athrow, o_call, entP, lg_sl, Value.category, st1, st2, List.set, List.getElem?_cons_zero, List.getElem?_cons_succ, List.foldl, popN, aft, o_gI, o_gR, o_pI, o_pN, o_pR, o_aI, o_aG, o_aR, o_len, o_aR8, o_sI, o_sB, o_sZ, o_sG, o_new, o_newA, o_cast, o_inst, o_cst, o_oi, o_sR, o_gIc, o_gSv, o_gSc, o_getc, o_dead, o_acopy, o_castA, o_castI, o_sR7, o_mna, o_mmax, o_mmin, o_mabs, nn_eqL, nn_ltL, nn_leL, nn_Llt, nn_Lle, nn_lt, nn_le, nn_eq, nn_in, nn_clamp, nn_succ, nn_pos, nn_neg1, b1, b2, nle, hR.tr, rr2, va_rf]
      refine hv_get hR.sl e1 ?_
      simp [o_ic, o_lc, o_null, o_il, o_ll, o_al, o_dup, o_pop, o_dup_x1, o_dup2, o_iadd, o_isub, o_imul, o_iand, o_ior, o_ixor, o_ishl, o_ishr, o_idiv, o_irem, o_ineg, o_ladd, o_lsub, o_lmul, o_land, o_lor, o_lxor, o_ldiv, o_lrem, o_lneg, o_lcmp, o_i2l, o_l2i, o_i2b, o_i2c, o_iushr, o_lshl, o_lshr, o_if_eq, o_if_ne, o_if_lt, o_if_ge, o_if_gt, o_if_le, o_icmp_eq, o_icmp_ne, o_icmp_lt, o_icmp_ge, o_icmp_gt, o_icmp_le, o_ifnull, o_ifnonnull, o_acmp_eq, o_acmp_ne, o_is, o_ls, o_as, o_iinc, o_kill, o_sw, o_ireturn, o_zreturn, o_nreturn, o_lreturn, o_areturn, o_return, o_athrow, o_call, entP, lg_sl, Value.category, st1, st2, List.set, List.getElem?_cons_zero, List.getElem?_cons_succ, List.foldl, popN, aft, o_gI, o_gR, o_pI, o_pN, o_pR, o_aI, o_aG, o_aR, o_len, o_aR8, o_sI, o_sB, o_sZ, o_sG, o_new, o_newA, o_cast, o_inst, o_cst, o_oi, o_sR, o_gIc, o_gSv, o_gSc, o_getc, o_dead, o_acopy, o_castA, o_castI, o_sR7, o_mna, o_mmax, o_mmin, o_mabs, ty]
      refine hR.kills hk e2 ?_
      simp [o_ic, o_lc, o_null, o_il, o_ll, o_al, o_dup, o_pop, o_dup_x1, o_dup2, o_iadd, o_isub, o_imul, o_iand, o_ior, o_ixor, o_ishl, o_ishr, o_idiv, o_irem, o_ineg, o_ladd, o_lsub, o_lmul, o_land, o_lor, o_lxor, o_ldiv, o_lrem, o_lneg, o_lcmp, o_i2l, o_l2i, o_i2b, o_i2c, o_iushr, o_lshl, o_lshr, o_if_eq, o_if_ne, o_if_lt, o_if_ge, o_if_gt, o_if_le, o_icmp_eq, o_icmp_ne, o_icmp_lt, o_icmp_ge, o_icmp_gt, o_icmp_le, o_ifnull, o_ifnonnull, o_acmp_eq, o_acmp_ne, o_is, o_ls, o_as, o_iinc, o_kill, o_sw, o_ireturn, o_zreturn, o_nreturn, o_lreturn, o_areturn, o_return, o_athrow, o_call, entP, lg_sl, Value.category, st1, st2, List.set, List.getElem?_cons_zero, List.getElem?_cons_succ, List.foldl, popN, aft, b2i_0]
      refine ⟨fun z => ?_, fun z => ?_⟩
      · simp [bX4_study_129, o_ic, o_lc, o_null, o_il, o_ll, o_al, o_dup, o_pop, o_dup_x1, o_dup2, o_iadd, o_isub, o_imul, o_iand, o_ior, o_ixor, o_ishl, o_ishr, o_idiv, o_irem, o_ineg, o_ladd, o_lsub, o_lmul, o_land, o_lor, o_lxor, o_ldiv, o_lrem, o_lneg, o_lcmp, o_i2l, o_l2i, o_i2b, o_i2c, o_iushr, o_lshl, o_lshr, o_if_eq, o_if_ne, o_if_lt, o_if_ge, o_if_gt, o_if_le, o_icmp_eq, o_icmp_ne, o_icmp_lt, o_icmp_ge, o_icmp_gt, o_icmp_le, o_ifnull, o_ifnonnull, o_acmp_eq, o_acmp_ne, o_is, o_ls, o_as, o_iinc, o_kill, o_sw, o_ireturn, o_zreturn, o_nreturn, o_lreturn, o_areturn, o_return, o_athrow, o_call, entP, lg_sl, Value.category, st1, st2, List.set, List.getElem?_cons_zero, List.getElem?_cons_succ, List.foldl, popN, aft, nn_succ]
        refine ih (e + 1) σ (by omega) (S.congr (fun i k' x hi' hk' hx => ?_))
        by_cases w : i = 1
        · subst w
          rw [upd3_eq, upd3_eq]
          by_cases w2 : k' = k
          · subst w2
            rw [updM_eq, updM_eq]
            by_cases w3 : x = e
            · subst w3
              have : fb R 1 k' x = false := by unfold fb; show (_ && b9 (klP R x k')) = false; rw [show b9 (klP R x k') = false from z]; simp
              simp [this]
            · have : decide (x < e) = decide (x < e + 1) := by
                by_cases w4 : x < e
                · have : x < e + 1 := by omega
                  simp [w4, this]
                · have : ¬ x < e + 1 := by omega
                  simp [w4, this]
              rw [this]
          · rw [updM_ne _ _ w2, updM_ne _ _ w2]
        · rw [upd3_ne _ _ w, upd3_ne _ _ w]
      · simp [bX4_study_129, o_ic, o_lc, o_null, o_il, o_ll, o_al, o_dup, o_pop, o_dup_x1, o_dup2, o_iadd, o_isub, o_imul, o_iand, o_ior, o_ixor, o_ishl, o_ishr, o_idiv, o_irem, o_ineg, o_ladd, o_lsub, o_lmul, o_land, o_lor, o_lxor, o_ldiv, o_lrem, o_lneg, o_lcmp, o_i2l, o_l2i, o_i2b, o_i2c, o_iushr, o_lshl, o_lshr, o_if_eq, o_if_ne, o_if_lt, o_if_ge, o_if_gt, o_if_le, o_icmp_eq, o_icmp_ne, o_icmp_lt, o_icmp_ge, o_icmp_gt, o_icmp_le, o_ifnull, o_ifnonnull, o_acmp_eq, o_acmp_ne, o_is, o_ls, o_as, o_iinc, o_kill, o_sw, o_ireturn, o_zreturn, o_nreturn, o_lreturn, o_areturn, o_return, o_athrow, o_call, entP, lg_sl, Value.category, st1, st2, List.set, List.getElem?_cons_zero, List.getElem?_cons_succ, List.foldl, popN, aft, o_gI, o_gR, o_pI, o_pN, o_pR, o_aI, o_aG, o_aR, o_len, o_aR8, o_sI, o_sB, o_sZ, o_sG, o_new, o_newA, o_cast, o_inst, o_cst, o_oi, o_sR, o_gIc, o_gSv, o_gSc, o_getc, o_dead, o_acopy, o_castA, o_castI, o_sR7, o_mna, o_mmax, o_mmin, o_mabs, hR.tr, d1, va_rf, t, n0, d2, d3, nn_eqL, nn_ltL, nn_leL, nn_Llt, nn_Lle, nn_lt, nn_le, nn_eq, nn_in, nn_clamp, nn_succ, nn_pos, nn_neg1, bk, hk, ty, e3, nn_succ]
        refine ih (e + 1) _ (by omega) ((S.set (i := 1) (by omega) hk (dk.or (LB.bit e (by omega)))).congr (fun i k' x hi' hk' hx => ?_))
        rw [upd3_twice]
        by_cases w : i = 1
        · subst w
          rw [upd3_eq, upd3_eq, upd3_eq]
          by_cases w2 : k' = k
          · subst w2
            rw [updM_eq, updM_eq]
            by_cases w3 : x = e
            · subst w3
              have : fb R 1 k' x = true := by
                unfold fb
                have h1 : x < (sms R.1).length := by omega
                have h2 : b9 (fct R x 1 k') = true := z
                simp [h1, h2]
              simp [this]
            · have : decide (x < e) = decide (x < e + 1) := by
                by_cases w4 : x < e
                · have : x < e + 1 := by omega
                  simp [w4, this]
                · have : ¬ x < e + 1 := by omega
                  simp [w4, this]
              simp [this, w3]
          · rw [updM_ne _ _ w2, updM_ne _ _ w2, updM_ne _ _ w2]
        · rw [upd3_ne _ _ w, upd3_ne _ _ w]
  refine main (sms R.1).length 0 σ (by omega) (hV9.congr (fun i k' x hi' hk' hx => ?_))
  by_cases w : i = 1
  · subst w
    rw [upd3_eq, upd3_eq]
    by_cases w2 : k' = k
    · subst w2; rw [updM_eq, hX x hx]; simp
    · rw [updM_ne _ _ w2]
  · rw [upd3_ne _ _ w, upd3_ne _ _ w]
/-- works and kills -/
noncomputable def f01 (R : Rt) (j : Nat) : Nat → Nat → Nat → Bool := fun i k e => if k < j then fb R i k e else false
theorem st_first (hk0 : Hok κ σ0) (hR0 : RtB κ σ0 r R wss A NX BF B ss h9) (h32 : (sms R.1).length ≤ 32) (r1 : 10 ≤ hC σ0) (r2 : 2400 ≤ hS σ0)
    (kk : ∀ σ' VA f, SV κ σ0 σ' r (nds R).length VA 2 f 2 480 → f 0 = fb R 0 → f 1 = fb R 1 → bX4_study_141 κ Q [some (.ref r), some (.int (nn (nds R).length)), some (.int (nn (nds R).length)), none, none, none, none, none] [] σ') : pX4_study κ [.ref r] σ0 Q := by
  have hR := hR0
  have h240 := nds_240 hR.wf.1
  have rr1 := hR.rr 1 (by omega)
  have bn : (nds R).length < 2147483648 := by omega
  have npos : ¬ nn (nds R).length < 0 := fun q => (nn_pos bn).1 q
  have S0 : SV κ σ0 σ0 r (nds R).length (fun _ => 0) 0 (fun _ _ _ => false) 0 0 := ⟨HL.rfl9 hk0, fun _ _ => rfl, fun i hi' => by omega⟩
  have S1 := S0.new hk0 hR0.tr
  have S2 := S1.new hk0 hR0.tr
  have hR1 := S1.rt hk0 hR0
  have hR2 := S2.rt hk0 hR0
  have hrne : ¬ r = hN σ0 := by have := hk0.1.lt (a := r) (by rw [hR.tr]; decide); omega
  have hrne1 : ¬ r = hN σ0 + 1 := by have := hk0.1.lt (a := r) (by rw [hR.tr]; decide); omega
  have q1 : 1 ≤ hC σ0 := by omega
  have q2 : (nds R).length ≤ hS σ0 := by omega
  have q3 : (nds R).length ≤ 65536 := by omega
  have q4 : 1 ≤ hC σ0 - 1 := by omega
  have q5 : (nds R).length ≤ hS σ0 - (nds R).length := by omega
  simp [pX4_study, bX4_study_0, o_ic, o_lc, o_null, o_il, o_ll, o_al, o_dup, o_pop, o_dup_x1, o_dup2, o_iadd, o_isub, o_imul, o_iand, o_ior, o_ixor, o_ishl, o_ishr, o_idiv, o_irem, o_ineg, o_ladd, o_lsub, o_lmul, o_land, o_lor, o_lxor, o_ldiv, o_lrem, o_lneg, o_lcmp, o_i2l, o_l2i, o_i2b, o_i2c, o_iushr, o_lshl, o_lshr, o_if_eq, o_if_ne, o_if_lt, o_if_ge, o_if_gt, o_if_le, o_icmp_eq, o_icmp_ne, o_icmp_lt, o_icmp_ge, o_icmp_gt, o_icmp_le, o_ifnull, o_ifnonnull, o_acmp_eq, o_acmp_ne, o_is, o_ls, o_as, o_iinc, o_kill, o_sw, o_ireturn, o_zreturn, o_nreturn, o_lreturn, o_areturn, o_return, o_athrow, o_call, entP, lg_sl, Value.category, st1, st2, List.set, List.getElem?_cons_zero, List.getElem?_cons_succ, List.foldl, popN, aft, o_gI, o_gR, o_pI, o_pN, o_pR, o_aI, o_aG, o_aR, o_len, o_aR8, o_sI, o_sB, o_sZ, o_sG, o_new, o_newA, o_cast, o_inst, o_cst, o_oi, o_sR, o_gIc, o_gSv, o_gSc, o_getc, o_dead, o_acopy, o_castA, o_castI, o_sR7, o_mna, o_mmax, o_mmin, o_mabs, hR.tr, rr1, va_rf]
  refine hv_size hR.ns ?_
  simp only [List.length_map, List.length_range]
  simp [o_ic, o_lc, o_null, o_il, o_ll, o_al, o_dup, o_pop, o_dup_x1, o_dup2, o_iadd, o_isub, o_imul, o_iand, o_ior, o_ixor, o_ishl, o_ishr, o_idiv, o_irem, o_ineg, o_ladd, o_lsub, o_lmul, o_land, o_lor, o_lxor, o_ldiv, o_lrem, o_lneg, o_lcmp, o_i2l, o_l2i, o_i2b, o_i2c, o_iushr, o_lshl, o_lshr, o_if_eq, o_if_ne, o_if_lt, o_if_ge, o_if_gt, o_if_le, o_icmp_eq, o_icmp_ne, o_icmp_lt, o_icmp_ge, o_icmp_gt, o_icmp_le, o_ifnull, o_ifnonnull, o_acmp_eq, o_acmp_ne, o_is, o_ls, o_as, o_iinc, o_kill, o_sw, o_ireturn, o_zreturn, o_nreturn, o_lreturn, o_areturn, o_return, o_athrow, o_call, entP, lg_sl, Value.category, st1, st2, List.set, List.getElem?_cons_zero, List.getElem?_cons_succ, List.foldl, popN, aft, o_gI, o_gR, o_pI, o_pN, o_pR, o_aI, o_aG, o_aR, o_len, o_aR8, o_sI, o_sB, o_sZ, o_sG, o_new, o_newA, o_cast, o_inst, o_cst, o_oi, o_sR, o_gIc, o_gSv, o_gSc, o_getc, o_dead, o_acopy, o_castA, o_castI, o_sR7, o_mna, o_mmax, o_mmin, o_mabs, npos, nn_eqL, nn_ltL, nn_leL, nn_Llt, nn_Lle, nn_lt, nn_le, nn_eq, nn_in, nn_clamp, nn_succ, nn_pos, nn_neg1, bn, q1, q2, q3, q4, q5, hT_nw, hrne, hrne1, hR.tr, hR_sR, hT_sR, hN_sR, hN_nw, hC_sR, hC_nw, hS_sR, hS_nw, va_rf, vref]
  unfold bX4_study_24
  intro Y hY
  have main : ∀ m j (σ : AH) VA, j + m = (nds R).length → SV κ σ0 σ r (nds R).length VA 2 (f01 R j) 2 480 → Y [some (.ref r), some (.int (nn (nds R).length)), some (.int (nn j)), none, none, none, none, none] [] σ := by
    intro m
    induction m with
    | zero =>
      intro j σ VA hj S
      apply hY
      have hR := S.rt hk0 hR0
      have rr1 := hR.rr 1 (by omega)
      have bj : j < 2147483648 := by omega
      have le : (nds R).length ≤ j := by omega
      simp [o_ic, o_lc, o_null, o_il, o_ll, o_al, o_dup, o_pop, o_dup_x1, o_dup2, o_iadd, o_isub, o_imul, o_iand, o_ior, o_ixor, o_ishl, o_ishr, o_idiv, o_irem, o_ineg, o_ladd, o_lsub, o_lmul, o_land, o_lor, o_lxor, o_ldiv, o_lrem, o_lneg, o_lcmp, o_i2l, o_l2i, o_i2b, o_i2c, o_iushr, o_lshl, o_lshr, o_if_eq, o_if_ne, o_if_lt, o_if_ge, o_if_gt, o_if_le, o_icmp_eq, o_icmp_ne, o_icmp_lt, o_icmp_ge, o_icmp_gt, o_icmp_le, o_ifnull, o_ifnonnull, o_acmp_eq, o_acmp_ne, o_is, o_ls, o_as, o_iinc, o_kill, o_sw, o_ireturn, o_zreturn, o_nreturn, o_lreturn, o_areturn, o_return, o_athrow, o_call, entP, lg_sl, Value.category, st1, st2, List.set, List.getElem?_cons_zero, List.getElem?_cons_succ, List.foldl, popN, aft, o_gI, o_gR, o_pI, o_pN, o_pR, o_aI, o_aG, o_aR, o_len, o_aR8, o_sI, o_sB, o_sZ, o_sG, o_new, o_newA, o_cast, o_inst, o_cst, o_oi, o_sR, o_gIc, o_gSv, o_gSc, o_getc, o_dead, o_acopy, o_castA, o_castI, o_sR7, o_mna, o_mmax, o_mmin, o_mabs, hR.tr, rr1, va_rf]
      refine hv_size hR.ns ?_
      simp [o_ic, o_lc, o_null, o_il, o_ll, o_al, o_dup, o_pop, o_dup_x1, o_dup2, o_iadd, o_isub, o_imul, o_iand, o_ior, o_ixor, o_ishl, o_ishr, o_idiv, o_irem, o_ineg, o_ladd, o_lsub, o_lmul, o_land, o_lor, o_lxor, o_ldiv, o_lrem, o_lneg, o_lcmp, o_i2l, o_l2i, o_i2b, o_i2c, o_iushr, o_lshl, o_lshr, o_if_eq, o_if_ne, o_if_lt, o_if_ge, o_if_gt, o_if_le, o_icmp_eq, o_icmp_ne, o_icmp_lt, o_icmp_ge, o_icmp_gt, o_icmp_le, o_ifnull, o_ifnonnull, o_acmp_eq, o_acmp_ne, o_is, o_ls, o_as, o_iinc, o_kill, o_sw, o_ireturn, o_zreturn, o_nreturn, o_lreturn, o_areturn, o_return, o_athrow, o_call, entP, lg_sl, Value.category, st1, st2, List.set, List.getElem?_cons_zero, List.getElem?_cons_succ, List.foldl, popN, aft, o_gI, o_gR, o_pI, o_pN, o_pR, o_aI, o_aG, o_aR, o_len, o_aR8, o_sI, o_sB, o_sZ, o_sG, o_new, o_newA, o_cast, o_inst, o_cst, o_oi, o_sR, o_gIc, o_gSv, o_gSc, o_getc, o_dead, o_acopy, o_castA, o_castI, o_sR7, o_mna, o_mmax, o_mmin, o_mabs, nn_eqL, nn_ltL, nn_leL, nn_Llt, nn_Lle, nn_lt, nn_le, nn_eq, nn_in, nn_clamp, nn_succ, nn_pos, nn_neg1, bj, bn, le]
      rw [show j = (nds R).length by omega]
      refine kk σ VA (fun i => fb R i) (S.congr (fun i k x hi' hk' hx => ?_)) rfl rfl
      unfold f01
      rw [if_pos (by omega)]
    | succ m ih =>
      intro j σ VA hj S
      apply hY
      have hR := S.rt hk0 hR0
      have rr1 := hR.rr 1 (by omega)
      have bj : j < 2147483648 := by omega
      have nle : ¬ (nds R).length ≤ j := by omega
      have hjn : j < (nds R).length := by omega
      have hg : ((List.range (nds R).length).map A)[j]? = some (A j) := by rw [List.getElem?_map, List.getElem?_range hjn]; rfl
      have t := hR.tgA hjn
      have n0 := (hR.nd j hjn).2.1
      have ok := hR.ndk hjn
      obtain ⟨d1, d2, d3, d4, d5, d6, d7⟩ := S.2.2 0 (by omega)
      -- then the kills
      have rest : ∀ (σ2 : AH), SV κ σ0 σ2 r (nds R).length VA 2 (upd3 (f01 R j) 0 (updM (f01 R j 0) j (fb R 0 j))) 2 480 → bX4_study_72 κ Q Y [some (.ref r), some (.int (nn (nds R).length)), some (.int (nn j)), some (.ref (A j)), none, none, none, none] [] σ2 := by
        intro σ2 S2
        refine st_kills (f := upd3 (f01 R j) 0 (updM (f01 R j 0) j (fb R 0 j))) (X := f01 R j 1) hk0 hR0 h32 hjn (fun e he => by unfold f01; rw [if_neg (by omega)]) (fun σ3 S3 => ?_) (S2.congr (fun i k x hi' hk' hx => ?_))
        · refine ih (j + 1) σ3 VA (by omega) (S3.congr (fun i k x hi' hk' hx => ?_))
          have hi2 : i = 0 ∨ i = 1 := by omega
          rcases hi2 with z | z
          · subst z
            rw [upd3_ne _ _ (by omega), upd3_eq]
            by_cases z2 : k = j
            · subst z2; rw [updM_eq]; unfold f01; rw [if_pos (by omega)]
            · rw [updM_ne _ _ z2]; unfold f01
              by_cases z3 : k < j
              · rw [if_pos z3, if_pos (by omega)]
              · rw [if_neg z3, if_neg (by omega)]
          · subst z
            rw [upd3_eq]
            by_cases z2 : k = j
            · subst z2; rw [updM_eq]; unfold f01; rw [if_pos (by omega)]
            · rw [updM_ne _ _ z2]; unfold f01
              by_cases z3 : k < j
              · rw [if_pos z3, if_pos (by omega)]
              · rw [if_neg z3, if_neg (by omega)]
        · by_cases z : i = 1
          · subst z; rw [upd3_ne _ _ (by omega), upd3_eq]
          · rw [upd3_ne (f := upd3 _ _ _) _ z]
      simp [o_ic, o_lc, o_null, o_il, o_ll, o_al, o_dup, o_pop, o_dup_x1, o_dup2, o_iadd, o_isub, o_imul, o_iand, o_ior, o_ixor, o_ishl, o_ishr, o_idiv, o_irem, o_ineg, o_ladd, o_lsub, o_lmul, o_land, o_lor, o_lxor, o_ldiv, o_lrem, o_lneg, o_lcmp, o_i2l, o_l2i, o_i2b, o_i2c, o_iushr, o_lshl, o_lshr, o_if_eq, o_if_ne, o_if_lt, o_if_ge, o_if_gt, o_if_le, o_icmp_eq, o_icmp_ne, o_icmp_lt, o_icmp_ge, o_icmp_gt, o_icmp_le, o_ifnull, o_ifnonnull, o_acmp_eq, o_acmp_ne, o_is, o_ls, o_as, o_iinc, o_kill, o_sw, o_ireturn, o_zreturn, o_nreturn, o_lreturn, o_areturn, o_return, o_athrow, o_call, entP, lg_sl, Value.category, st1, st2, List.set, List.getElem?_cons_zero, List.getElem?_cons_succ, List.foldl, popN, aft, o_gI, o_gR, o_pI, o_pN, o_pR, o_aI, o_aG, o_aR, o_len, o_aR8, o_sI, o_sB, o_sZ, o_sG, o_new, o_newA, o_cast, o_inst, o_cst, o_oi, o_sR, o_gIc, o_gSv, o_gSc, o_getc, o_dead, o_acopy, o_castA, o_castI, o_sR7, o_mna, o_mmax, o_mmin, o_mabs, hR.tr, rr1, va_rf]
      refine hv_size hR.ns ?_
      simp [o_ic, o_lc, o_null, o_il, o_ll, o_al, o_dup, o_pop, o_dup_x1, o_dup2, o_iadd, o_isub, o_imul, o_iand, o_ior, o_ixor, o_ishl, o_ishr, o_idiv, o_irem, o_ineg, o_ladd, o_lsub, o_lmul, o_land, o_lor, o_lxor, o_ldiv, o_lrem, o_lneg, o_lcmp, o_i2l, o_l2i, o_i2b, o_i2c, o_iushr, o_lshl, o_lshr, o_if_eq, o_if_ne, o_if_lt, o_if_ge, o_if_gt, o_if_le, o_icmp_eq, o_icmp_ne, o_icmp_lt, o_icmp_ge, o_icmp_gt, o_icmp_le, o_ifnull, o_ifnonnull, o_acmp_eq, o_acmp_ne, o_is, o_ls, o_as, o_iinc, o_kill, o_sw, o_ireturn, o_zreturn, o_nreturn, o_lreturn, o_areturn, o_return, o_athrow, o_call, entP, lg_sl, Value.category, st1, st2, List.set, List.getElem?_cons_zero, List.getElem?_cons_succ, List.foldl, popN, aft, o_gI, o_gR, o_pI, o_pN, o_pR, o_aI, o_aG, o_aR, o_len, o_aR8, o_sI, o_sB, o_sZ, o_sG, o_new, o_newA, o_cast, o_inst, o_cst, o_oi, o_sR, o_gIc, o_gSv, o_gSc, o_getc, o_dead, o_acopy, o_castA, o_castI, o_sR7, o_mna, o_mmax, o_mmin, o_mabs, nn_eqL, nn_ltL, nn_leL, nn_Llt, nn_Lle, nn_lt, nn_le, nn_eq, nn_in, nn_clamp, nn_succ, nn_pos, nn_neg1, bj, bn, nle, hR.tr, rr1, va_rf]
      refine hv_get hR.ns hg ?_
      simp [o_ic, o_lc, o_null, o_il, o_ll, o_al, o_dup, o_pop, o_dup_x1, o_dup2, o_iadd, o_isub, o_imul, o_iand, o_ior, o_ixor, o_ishl, o_ishr, o_idiv, o_irem, o_ineg, o_ladd, o_lsub, o_lmul, o_land, o_lor, o_lxor, o_ldiv, o_lrem, o_lneg, o_lcmp, o_i2l, o_l2i, o_i2b, o_i2c, o_iushr, o_lshl, o_lshr, o_if_eq, o_if_ne, o_if_lt, o_if_ge, o_if_gt, o_if_le, o_icmp_eq, o_icmp_ne, o_icmp_lt, o_icmp_ge, o_icmp_gt, o_icmp_le, o_ifnull, o_ifnonnull, o_acmp_eq, o_acmp_ne, o_is, o_ls, o_as, o_iinc, o_kill, o_sw, o_ireturn, o_zreturn, o_nreturn, o_lreturn, o_areturn, o_return, o_athrow, o_call, entP, lg_sl, Value.category, st1, st2, List.set, List.getElem?_cons_zero, List.getElem?_cons_succ, List.foldl, popN, aft, o_gI, o_gR, o_pI, o_pN, o_pR, o_aI, o_aG, o_aR, o_len, o_aR8, o_sI, o_sB, o_sZ, o_sG, o_new, o_newA, o_cast, o_inst, o_cst, o_oi, o_sR, o_gIc, o_gSv, o_gSc, o_getc, o_dead, o_acopy, o_castA, o_castI, o_sR7, o_mna, o_mmax, o_mmin, o_mabs, t]
      refine hR.works hjn (fun e y e1 e2 e3 => ?_) (fun e1 e2 => ?_)
      · have hel := ok.2.2.2.1 e e1
        obtain ⟨y', s1, s2, s3⟩ := hR.sm e hel
        rw [e2] at s1
        cases s1
        have ty := s2.tg
        simp [o_ic, o_lc, o_null, o_il, o_ll, o_al, o_dup, o_pop, o_dup_x1, o_dup2, o_iadd, o_isub, o_imul, o_iand, o_ior, o_ixor, o_ishl, o_ishr, o_idiv, o_irem, o_ineg, o_ladd, o_lsub, o_lmul, o_land, o_lor, o_lxor, o_ldiv, o_lrem, o_lneg, o_lcmp, o_i2l, o_l2i, o_i2b, o_i2c, o_iushr, o_lshl, o_lshr, o_if_eq, o_if_ne, o_if_lt, o_if_ge, o_if_gt, o_if_le, o_icmp_eq, o_icmp_ne, o_icmp_lt, o_icmp_ge, o_icmp_gt, o_icmp_le, o_ifnull, o_ifnonnull, o_acmp_eq, o_acmp_ne, o_is, o_ls, o_as, o_iinc, o_kill, o_sw, o_ireturn, o_zreturn, o_nreturn, o_lreturn, o_areturn, o_return, o_athrow, o_call, entP, lg_sl, Value.category, st1, st2, List.set, List.getElem?_cons_zero, List.getElem?_cons_succ, List.foldl, popN, aft, o_gI, o_gR, o_pI, o_pN, o_pR, o_aI, o_aG, o_aR, o_len, o_aR8, o_sI, o_sB, o_sZ, o_sG, o_new, o_newA, o_cast, o_inst, o_cst, o_oi, o_sR, o_gIc, o_gSv, o_gSc, o_getc, o_dead, o_acopy, o_castA, o_castI, o_sR7, o_mna, o_mmax, o_mmin, o_mabs, hR.tr, d1, va_rf, t, n0]
        refine hR.works hjn (fun e' y' e1' e2' e3' => ?_) (fun _ e2' => absurd e3 e2')
        rw [e1] at e1'
        cases e1'
        rw [e2] at e2'
        cases e2'
        simp [o_ic, o_lc, o_null, o_il, o_ll, o_al, o_dup, o_pop, o_dup_x1, o_dup2, o_iadd, o_isub, o_imul, o_iand, o_ior, o_ixor, o_ishl, o_ishr, o_idiv, o_irem, o_ineg, o_ladd, o_lsub, o_lmul, o_land, o_lor, o_lxor, o_ldiv, o_lrem, o_lneg, o_lcmp, o_i2l, o_l2i, o_i2b, o_i2c, o_iushr, o_lshl, o_lshr, o_if_eq, o_if_ne, o_if_lt, o_if_ge, o_if_gt, o_if_le, o_icmp_eq, o_icmp_ne, o_icmp_lt, o_icmp_ge, o_icmp_gt, o_icmp_le, o_ifnull, o_ifnonnull, o_acmp_eq, o_acmp_ne, o_is, o_ls, o_as, o_iinc, o_kill, o_sw, o_ireturn, o_zreturn, o_nreturn, o_lreturn, o_areturn, o_return, o_athrow, o_call, entP, lg_sl, Value.category, st1, st2, List.set, List.getElem?_cons_zero, List.getElem?_cons_succ, List.foldl, popN, aft, o_gI, o_gR, o_pI, o_pN, o_pR, o_aI, o_aG, o_aR, o_len, o_aR8, o_sI, o_sB, o_sZ, o_sG, o_new, o_newA, o_cast, o_inst, o_cst, o_oi, o_sR, o_gIc, o_gSv, o_gSc, o_getc, o_dead, o_acopy, o_castA, o_castI, o_sR7, o_mna, o_mmax, o_mmin, o_mabs, ty, s3, d2, d3, nn_eqL, nn_ltL, nn_leL, nn_Llt, nn_Lle, nn_lt, nn_le, nn_eq, nn_in, nn_clamp, nn_succ, nn_pos, nn_neg1, bj, hjn]
        refine rest _ ((S.set (i := 0) (by omega) hjn (LB.bit e (by omega))).congr (fun i k x hi' hk' hx => ?_))
        by_cases z : i = 0
        · subst z
          rw [upd3_eq, upd3_eq]
          by_cases z2 : k = j
          · subst z2
            rw [updM_eq, updM_eq]
            unfold fb
            have hw : fct R x 0 k ↔ x = e := by
              show nSm (ndA (nds R) k) = some x ↔ x = e
              rw [e1]
              constructor
              · intro q; cases q; rfl
              · intro q; rw [q]
            rw [b9_eq hw, b9_dec]
            by_cases z3 : x = e
            · subst z3; simp [hel]
            · simp [z3]
          · rw [updM_ne _ _ z2, updM_ne _ _ z2]
        · rw [upd3_ne _ _ z, upd3_ne _ _ z]
      · simp [o_ic, o_lc, o_null, o_il, o_ll, o_al, o_dup, o_pop, o_dup_x1, o_dup2, o_iadd, o_isub, o_imul, o_iand, o_ior, o_ixor, o_ishl, o_ishr, o_idiv, o_irem, o_ineg, o_ladd, o_lsub, o_lmul, o_land, o_lor, o_lxor, o_ldiv, o_lrem, o_lneg, o_lcmp, o_i2l, o_l2i, o_i2b, o_i2c, o_iushr, o_lshl, o_lshr, o_if_eq, o_if_ne, o_if_lt, o_if_ge, o_if_gt, o_if_le, o_icmp_eq, o_icmp_ne, o_icmp_lt, o_icmp_ge, o_icmp_gt, o_icmp_le, o_ifnull, o_ifnonnull, o_acmp_eq, o_acmp_ne, o_is, o_ls, o_as, o_iinc, o_kill, o_sw, o_ireturn, o_zreturn, o_nreturn, o_lreturn, o_areturn, o_return, o_athrow, o_call, entP, lg_sl, Value.category, st1, st2, List.set, List.getElem?_cons_zero, List.getElem?_cons_succ, List.foldl, popN, aft]
        refine rest σ (S.congr (fun i k x hi' hk' hx => ?_))
        by_cases z : i = 0
        · subst z
          rw [upd3_eq]
          by_cases z2 : k = j
          · subst z2
            rw [updM_eq]
            have hw : b9 (fct R x 0 k) = false := by
              rw [b9_not]
              show ¬ nSm (ndA (nds R) k) = some x
              rw [e1]; intro q; cases q
            unfold f01 fb
            rw [if_neg (by omega), hw]; simp
          · rw [updM_ne _ _ z2]
        · rw [upd3_ne _ _ z]
  refine main (nds R).length 0 _ _ (by omega) ((S2.congr (fun i k x hi' hk' hx => ?_) : SV κ σ0 _ r _ _ 2 (f01 R 0) (0 + 1 + 1) (0 + (nds R).length + (nds R).length)).up9 (by omega) (by omega))
  unfold f01
  rw [if_neg (by omega)]
  have hi2 : i = 0 ∨ i = 1 := by omega
  rcases hi2 with z | z
  · subst z; rw [upd3_ne _ _ (by omega), upd3_eq]
  · subst z; rw [upd3_eq]
end SD
