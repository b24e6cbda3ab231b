/-! THE COMPONENT: at; what is set and taken -/
set_option maxRecDepth 100000
theorem LB.get2 {v : Int64} {f : Nat → Bool} (h : LB v f) {k : Nat} (hk : k < 64) : (v >>> ((nn k).toInt64 &&& 63)).toInt32 &&& 1 = b2i (f k) 1 := by
  have := h.get hk
  rw [Int64.toInt32_and] at this
  exact this
section QC
variable {κ : Nat → Option Nat} {Q : Ret AH} {σ σ' : AH} {o r h9 c s a n : Nat} {l : List Nat} {P : Nat → PlA} {wr : Int32} {bg : Nat → Int32} {rn : RnA} {RA : Nat → Option Nat} {H : Nat → Nat} {R : Rt} {wss : List (Nat × List Nat)} {A NX BF : Nat → Nat} {B : Nat → List Nat} {ss : List Nat} {VA : Nat → Nat}
theorem ct_at0 {p e n w : Int32} (h : CC κ σ o l P wr bg rn RA H) (r1 : 1 ≤ hC σ) (r2 : 8 ≤ hS σ) (k : ∀ σ', HL κ NoM NoM 1 8 σ σ' → Q (.inl (some (.int (sAt P p e n w)))) σ') : pX0_at κ [.ref o, .int p, .int e, .int n, .int w] σ Q := by
  unfold sAt at k
  have hk := h.ok
  have no : ∀ P' : Prop, (sAt P p e n w = -1) → bX0_at_29 κ Q [some (.ref o), some (.int p), some (.int e), some (.int n), some (.int w), none, none] [] σ := by
    intro _ hs
    simp [bX0_at_29, o_ic, o_lc, o_null, o_il, o_ll, o_al, o_dup, o_pop, o_dup_x1, o_dup2, o_iadd, o_isub, o_imul, o_iand, o_ior, o_ixor, o_ishl, o_ishr, o_idiv, o_irem, o_ineg, o_ladd, o_lsub, o_lmul, o_land, o_lor, o_lxor, o_ldiv, o_lrem, o_lneg, o_lcmp, o_i2l, o_l2i, o_i2b, o_i2c, o_iushr, o_lshl, o_lshr, o_if_eq, o_if_ne, o_if_lt, o_if_ge, o_if_gt, o_if_le, o_icmp_eq, o_icmp_ne, o_icmp_lt, o_icmp_ge, o_icmp_gt, o_icmp_le, o_ifnull, o_ifnonnull, o_acmp_eq, o_acmp_ne, o_is, o_ls, o_as, o_iinc, o_kill, o_sw, o_ireturn, o_zreturn, o_nreturn, o_lreturn, o_areturn, o_return, o_athrow, o_call, entP, lg_sl, Value.category, st1, st2, List.set, List.getElem?_cons_zero, List.getElem?_cons_succ, List.foldl, popN, aft]
    have := k σ ((HL.rfl9 hk).up (by omega) (by omega))
    unfold sAt at hs
    rw [hs] at this; exact this
  simp [pX0_at, bX0_at_0, o_ic, o_lc, o_null, o_il, o_ll, o_al, o_dup, o_pop, o_dup_x1, o_dup2, o_iadd, o_isub, o_imul, o_iand, o_ior, o_ixor, o_ishl, o_ishr, o_idiv, o_irem, o_ineg, o_ladd, o_lsub, o_lmul, o_land, o_lor, o_lxor, o_ldiv, o_lrem, o_lneg, o_lcmp, o_i2l, o_l2i, o_i2b, o_i2c, o_iushr, o_lshl, o_lshr, o_if_eq, o_if_ne, o_if_lt, o_if_ge, o_if_gt, o_if_le, o_icmp_eq, o_icmp_ne, o_icmp_lt, o_icmp_ge, o_icmp_gt, o_icmp_le, o_ifnull, o_ifnonnull, o_acmp_eq, o_acmp_ne, o_is, o_ls, o_as, o_iinc, o_kill, o_sw, o_ireturn, o_zreturn, o_nreturn, o_lreturn, o_areturn, o_return, o_athrow, o_call, entP, lg_sl, Value.category, st1, st2, List.set, List.getElem?_cons_zero, List.getElem?_cons_succ, List.foldl, popN, aft]
  refine ct_sumOf h (fun q r x wss A NX BF B ss h8 VA j y e2 e1 hra hx hp9 g1 hR hV hj f2 f1 hy => ?_) (fun h0 => ?_)
  · simp [o_ic, o_lc, o_null, o_il, o_ll, o_al, o_dup, o_pop, o_dup_x1, o_dup2, o_iadd, o_isub, o_imul, o_iand, o_ior, o_ixor, o_ishl, o_ishr, o_idiv, o_irem, o_ineg, o_ladd, o_lsub, o_lmul, o_land, o_lor, o_lxor, o_ldiv, o_lrem, o_lneg, o_lcmp, o_i2l, o_l2i, o_i2b, o_i2c, o_iushr, o_lshl, o_lshr, o_if_eq, o_if_ne, o_if_lt, o_if_ge, o_if_gt, o_if_le, o_icmp_eq, o_icmp_ne, o_icmp_lt, o_icmp_ge, o_icmp_gt, o_icmp_le, o_ifnull, o_ifnonnull, o_acmp_eq, o_acmp_ne, o_is, o_ls, o_as, o_iinc, o_kill, o_sw, o_ireturn, o_zreturn, o_nreturn, o_lreturn, o_areturn, o_return, o_athrow, o_call, entP, lg_sl, Value.category, st1, st2, List.set, List.getElem?_cons_zero, List.getElem?_cons_succ, List.foldl, popN, aft]
    refine ct_nodeOf h (fun q' r' x' wss' A' NX' BF' B' ss' h8' VA' i e2' e1' hra' hx' hp9' g1' hR' hV' hi' f2' f1' => ?_) (fun h0 => ?_)
    · rw [hp9] at hp9'
      cases hp9'
      simp [o_ic, o_lc, o_null, o_il, o_ll, o_al, o_dup, o_pop, o_dup_x1, o_dup2, o_iadd, o_isub, o_imul, o_iand, o_ior, o_ixor, o_ishl, o_ishr, o_idiv, o_irem, o_ineg, o_ladd, o_lsub, o_lmul, o_land, o_lor, o_lxor, o_ldiv, o_lrem, o_lneg, o_lcmp, o_i2l, o_l2i, o_i2b, o_i2c, o_iushr, o_lshl, o_lshr, o_if_eq, o_if_ne, o_if_lt, o_if_ge, o_if_gt, o_if_le, o_icmp_eq, o_icmp_ne, o_icmp_lt, o_icmp_ge, o_icmp_gt, o_icmp_le, o_ifnull, o_ifnonnull, o_acmp_eq, o_acmp_ne, o_is, o_ls, o_as, o_iinc, o_kill, o_sw, o_ireturn, o_zreturn, o_nreturn, o_lreturn, o_areturn, o_return, o_athrow, o_call, entP, lg_sl, Value.category, st1, st2, List.set, List.getElem?_cons_zero, List.getElem?_cons_succ, List.foldl, popN, aft]
      refine ct_in0 (n := 8) (by omega) (by decide) (fun v hv => ?_) (fun hv => ?_)
      · obtain ⟨w1, w2, w3⟩ := ix_some hv
        simp [o_ic, o_lc, o_null, o_il, o_ll, o_al, o_dup, o_pop, o_dup_x1, o_dup2, o_iadd, o_isub, o_imul, o_iand, o_ior, o_ixor, o_ishl, o_ishr, o_idiv, o_irem, o_ineg, o_ladd, o_lsub, o_lmul, o_land, o_lor, o_lxor, o_ldiv, o_lrem, o_lneg, o_lcmp, o_i2l, o_l2i, o_i2b, o_i2c, o_iushr, o_lshl, o_lshr, o_if_eq, o_if_ne, o_if_lt, o_if_ge, o_if_gt, o_if_le, o_icmp_eq, o_icmp_ne, o_icmp_lt, o_icmp_ge, o_icmp_gt, o_icmp_le, o_ifnull, o_ifnonnull, o_acmp_eq, o_acmp_ne, o_is, o_ls, o_as, o_iinc, o_kill, o_sw, o_ireturn, o_zreturn, o_nreturn, o_lreturn, o_areturn, o_return, o_athrow, o_call, entP, lg_sl, Value.category, st1, st2, List.set, List.getElem?_cons_zero, List.getElem?_cons_succ, List.foldl, popN, aft, bX0_at_31]
        refine ct_of h (fun q'' r'' x'' hq'' e2'' e1'' hra'' hx'' hp9'' _ _ _ _ => ?_) (fun hp9'' => by rw [hp9] at hp9''; cases hp9'')
        rw [e1] at e1''
        have eq9 : q = q'' := (nn_eq (by omega) (by omega)).1 e1''
        subst eq9
        rw [hra] at hra''
        cases hra''
        have h240 := nds_240 hR.wf.1
        have h32 := g1.2.2.1
        have hrl := hk.1.lt (a := r) (by rw [hR.tr]; decide)
        have hrne : ¬ r = hN σ := by omega
        have V := fun i (hi9 : i < 8) => hV i hi9
        have ne : ∀ i, i < 8 → ¬ VA i = hN σ := fun i hi9 => by have := (V i hi9).2.2.2.2.1; omega
        obtain ⟨a00, a01, a02, -⟩ := V 0 (by omega)
        obtain ⟨a10, a11, a12, -⟩ := V 1 (by omega)
        obtain ⟨a20, a21, a22, -⟩ := V 2 (by omega)
        obtain ⟨a30, a31, a32, -⟩ := V 3 (by omega)
        obtain ⟨a40, a41, a42, -⟩ := V 4 (by omega)
        obtain ⟨a50, a51, a52, -⟩ := V 5 (by omega)
        obtain ⟨a60, a61, a62, -⟩ := V 6 (by omega)
        obtain ⟨a70, a71, a72, -⟩ := V 7 (by omega)
        have n0 := ne 0 (by omega)
        have n1 := ne 1 (by omega)
        have n2 := ne 2 (by omega)
        have n3 := ne 3 (by omega)
        have n4 := ne 4 (by omega)
        have n5 := ne 5 (by omega)
        have n6 := ne 6 (by omega)
        have n7 := ne 7 (by omega)
        have k1 : Hok κ (hnw σ 107 8 8) := hk.nw (by decide)
        have F1 : HL κ NoM NoM 1 8 σ (hnw σ 107 8 8) := ((HL.rfl9 (M := NoM) (MR := NoM) hk).nw k1).up (by omega) (by omega)
        have t1 : hT (hnw σ 107 8 8) (hN σ) = 107 := by rw [hT_nw, if_pos rfl]
        have c8 : ¬ (8 : Int32) < 0 := by decide
        have d8 : (8 : Int32).toNatClampNeg = 8 := rfl
        simp [o_ic, o_lc, o_null, o_il, o_ll, o_al, o_dup, o_pop, o_dup_x1, o_dup2, o_iadd, o_isub, o_imul, o_iand, o_ior, o_ixor, o_ishl, o_ishr, o_idiv, o_irem, o_ineg, o_ladd, o_lsub, o_lmul, o_land, o_lor, o_lxor, o_ldiv, o_lrem, o_lneg, o_lcmp, o_i2l, o_l2i, o_i2b, o_i2c, o_iushr, o_lshl, o_lshr, o_if_eq, o_if_ne, o_if_lt, o_if_ge, o_if_gt, o_if_le, o_icmp_eq, o_icmp_ne, o_icmp_lt, o_icmp_ge, o_icmp_gt, o_icmp_le, o_ifnull, o_ifnonnull, o_acmp_eq, o_acmp_ne, o_is, o_ls, o_as, o_iinc, o_kill, o_sw, o_ireturn, o_zreturn, o_nreturn, o_lreturn, o_areturn, o_return, o_athrow, o_call, entP, lg_sl, Value.category, st1, st2, List.set, List.getElem?_cons_zero, List.getElem?_cons_succ, List.foldl, popN, aft, o_gI, o_gR, o_pI, o_pN, o_pR, o_aI, o_aG, o_aR, o_len, o_aR8, o_sI, o_sB, o_sZ, o_sG, o_new, o_newA, o_cast, o_inst, o_cst, o_oi, o_sR, o_gIc, o_gSv, o_gSc, o_getc, o_dead, o_acopy, o_castA, o_castI, o_sR7, o_mna, o_mmax, o_mmin, o_mabs, c8, d8, r1, r2, hT_nw, hL_nw, hT_sR, hL_sR, hR_sR, hR_nw, hrne, hR.tr, a00, a10, a20, a30, a40, a50, a60, a70, a01, a11, a21, a31, a41, a51, a61, a71, n0, n1, n2, n3, n4, n5, n6, n7, va_rf, vpL, w1, nn_eqL, nn_ltL, nn_leL, nn_Llt, nn_Lle, nn_lt, nn_le, nn_eq, nn_in, nn_clamp, nn_succ, nn_pos, nn_neg1, w3, w2]
        have F9 : HL κ NoM NoM 1 8 σ (hsR (hsR (hsR (hsR (hsR (hsR (hsR (hsR (hnw σ 107 8 8) (hN σ) 0 (some (VA 0))) (hN σ) 1 (some (VA 1))) (hN σ) 2 (some (VA 2))) (hN σ) 3 (some (VA 3))) (hN σ) 4 (some (VA 4))) (hN σ) 5 (some (VA 5))) (hN σ) 6 (some (VA 6))) (hN σ) 7 (some (VA 7))) :=
          (((((((F1.sR (Or.inr (Nat.le_refl _)) t1 (by decide)).sR (Or.inr (Nat.le_refl _)) t1 (by decide)).sR (Or.inr (Nat.le_refl _)) t1 (by decide)).sR (Or.inr (Nat.le_refl _)) t1 (by decide)).sR (Or.inr (Nat.le_refl _)) t1 (by decide)).sR (Or.inr (Nat.le_refl _)) t1 (by decide)).sR (Or.inr (Nat.le_refl _)) t1 (by decide)).sR (Or.inr (Nat.le_refl _)) t1 (by decide)
        have kk := k _ F9
        rw [hp9] at kk
        simp only at kk
        rw [hj, hi', hv] at kk
        simp only at kk
        unfold qAt at kk
        have fin : ∀ v9, v9 < 8 → v = v9 → (hG σ (VA v9) i >>> ((nn j).toInt64 &&& 63)).toInt32 &&& 1 = b2i (b9 (fct x.1 j v i)) 1 := by
          intro v9 hv9 ev
          subst ev
          have lb := (V v hv9).2.2.2.2.2.2 i f2'
          rw [lb.get2 (by omega)]
          unfold fb
          simp [f2]
        have hv8 : v = 0 ∨ v = 1 ∨ v = 2 ∨ v = 3 ∨ v = 4 ∨ v = 5 ∨ v = 6 ∨ v = 7 := by omega
        have bi : i < 2147483648 := by omega
        rcases hv8 with z | z | z | z | z | z | z | z
        all_goals
          have fz := fin v w2 rfl
          subst z
          simp [o_ic, o_lc, o_null, o_il, o_ll, o_al, o_dup, o_pop, o_dup_x1, o_dup2, o_iadd, o_isub, o_imul, o_iand, o_ior, o_ixor, o_ishl, o_ishr, o_idiv, o_irem, o_ineg, o_ladd, o_lsub, o_lmul, o_land, o_lor, o_lxor, o_ldiv, o_lrem, o_lneg, o_lcmp, o_i2l, o_l2i, o_i2b, o_i2c, o_iushr, o_lshl, o_lshr, o_if_eq, o_if_ne, o_if_lt, o_if_ge, o_if_gt, o_if_le, o_icmp_eq, o_icmp_ne, o_icmp_lt, o_icmp_ge, o_icmp_gt, o_icmp_le, o_ifnull, o_ifnonnull, o_acmp_eq, o_acmp_ne, o_is, o_ls, o_as, o_iinc, o_kill, o_sw, o_ireturn, o_zreturn, o_nreturn, o_lreturn, o_areturn, o_return, o_athrow, o_call, entP, lg_sl, Value.category, st1, st2, List.set, List.getElem?_cons_zero, List.getElem?_cons_succ, List.foldl, popN, aft, o_gI, o_gR, o_pI, o_pN, o_pR, o_aI, o_aG, o_aR, o_len, o_aR8, o_sI, o_sB, o_sZ, o_sG, o_new, o_newA, o_cast, o_inst, o_cst, o_oi, o_sR, o_gIc, o_gSv, o_gSc, o_getc, o_dead, o_acopy, o_castA, o_castI, o_sR7, o_mna, o_mmax, o_mmin, o_mabs, hT_nw, hL_nw, hT_sR, hL_sR, hG_sR, hG_nw, n0, n1, n2, n3, n4, n5, n6, n7, a01, a11, a21, a31, a41, a51, a61, a71, a02, a12, a22, a32, a42, a52, a62, a72, f1', f1, nn_eqL, nn_ltL, nn_leL, nn_Llt, nn_Lle, nn_lt, nn_le, nn_eq, nn_in, nn_clamp, nn_succ, nn_pos, nn_neg1, bi, f2']
          rw [fz]
          exact kk
      · simp [o_ic, o_lc, o_null, o_il, o_ll, o_al, o_dup, o_pop, o_dup_x1, o_dup2, o_iadd, o_isub, o_imul, o_iand, o_ior, o_ixor, o_ishl, o_ishr, o_idiv, o_irem, o_ineg, o_ladd, o_lsub, o_lmul, o_land, o_lor, o_lxor, o_ldiv, o_lrem, o_lneg, o_lcmp, o_i2l, o_l2i, o_i2b, o_i2c, o_iushr, o_lshl, o_lshr, o_if_eq, o_if_ne, o_if_lt, o_if_ge, o_if_gt, o_if_le, o_icmp_eq, o_icmp_ne, o_icmp_lt, o_icmp_ge, o_icmp_gt, o_icmp_le, o_ifnull, o_ifnonnull, o_acmp_eq, o_acmp_ne, o_is, o_ls, o_as, o_iinc, o_kill, o_sw, o_ireturn, o_zreturn, o_nreturn, o_lreturn, o_areturn, o_return, o_athrow, o_call, entP, lg_sl, Value.category, st1, st2, List.set, List.getElem?_cons_zero, List.getElem?_cons_succ, List.foldl, popN, aft]
        refine no True ?_
        unfold sAt
        rw [hp9]
        simp only
        rw [hj, hi', hv]
    · simp [o_ic, o_lc, o_null, o_il, o_ll, o_al, o_dup, o_pop, o_dup_x1, o_dup2, o_iadd, o_isub, o_imul, o_iand, o_ior, o_ixor, o_ishl, o_ishr, o_idiv, o_irem, o_ineg, o_ladd, o_lsub, o_lmul, o_land, o_lor, o_lxor, o_ldiv, o_lrem, o_lneg, o_lcmp, o_i2l, o_l2i, o_i2b, o_i2c, o_iushr, o_lshl, o_lshr, o_if_eq, o_if_ne, o_if_lt, o_if_ge, o_if_gt, o_if_le, o_icmp_eq, o_icmp_ne, o_icmp_lt, o_icmp_ge, o_icmp_gt, o_icmp_le, o_ifnull, o_ifnonnull, o_acmp_eq, o_acmp_ne, o_is, o_ls, o_as, o_iinc, o_kill, o_sw, o_ireturn, o_zreturn, o_nreturn, o_lreturn, o_areturn, o_return, o_athrow, o_call, entP, lg_sl, Value.category, st1, st2, List.set, List.getElem?_cons_zero, List.getElem?_cons_succ, List.foldl, popN, aft]
      refine no True ?_
      unfold sAt
      rw [hp9]
      simp only
      rw [hj, h0 x hp9]
  · simp [o_ic, o_lc, o_null, o_il, o_ll, o_al, o_dup, o_pop, o_dup_x1, o_dup2, o_iadd, o_isub, o_imul, o_iand, o_ior, o_ixor, o_ishl, o_ishr, o_idiv, o_irem, o_ineg, o_ladd, o_lsub, o_lmul, o_land, o_lor, o_lxor, o_ldiv, o_lrem, o_lneg, o_lcmp, o_i2l, o_l2i, o_i2b, o_i2c, o_iushr, o_lshl, o_lshr, o_if_eq, o_if_ne, o_if_lt, o_if_ge, o_if_gt, o_if_le, o_icmp_eq, o_icmp_ne, o_icmp_lt, o_icmp_ge, o_icmp_gt, o_icmp_le, o_ifnull, o_ifnonnull, o_acmp_eq, o_acmp_ne, o_is, o_ls, o_as, o_iinc, o_kill, o_sw, o_ireturn, o_zreturn, o_nreturn, o_lreturn, o_areturn, o_return, o_athrow, o_call, entP, lg_sl, Value.category, st1, st2, List.set, List.getElem?_cons_zero, List.getElem?_cons_succ, List.foldl, popN, aft]
    refine no True ?_
    unfold sAt
    cases hp : pl9 P p with
    | none => rfl
    | some x => simp only; rw [h0 x hp]
/-- set at a node, as bits -/
noncomputable def sb9 (R : Rt) (pl k : Nat) : Nat → Bool := fun e => decide (e < (sms R.1).length) && b9 (setP R pl e k)
noncomputable def tb9 (R : Rt) (pl k : Nat) : Nat → Bool := fun e => decide (e < (sms R.1).length) && (decide (0 < pl) && b9 (tknP R pl e k))
theorem ct_setAt {pl k : Nat} (hR : RtB κ σ r R wss A NX BF B ss h9) (hV : VS σ r (nds R).length h9 VA 8 (fun i => fb R i)) (hp : pl < 3) (hk : k < (nds R).length) (kk : ∀ v, LB v (sb9 R pl k) → Q (.inl (some (.long v))) σ) : hvc [(4, pX4_setAt κ)] [.ref r, .int (nn pl), .int (nn k)] σ Q := by
  have h240 := nds_240 hR.wf.1
  have bk : k < 2147483648 := by omega
  obtain ⟨a1, a2, a3, -, -, -, a7⟩ := hV 4 (by omega)
  obtain ⟨b1, b2, b3, -, -, -, b7⟩ := hV 6 (by omega)
  obtain ⟨c1, c2, c3, -, -, -, c7⟩ := hV 7 (by omega)
  have h3 : pl = 0 ∨ pl = 1 ∨ pl = 2 := by omega
  have go : pX4_setAt κ [.ref r, .int (nn pl), .int (nn k)] σ Q := by
    rcases h3 with z | z | z
    · subst z
      have e0 : nn 0 = 0 := rfl
      simp [pX4_setAt, bX4_setAt_39, bX4_setAt_22, bX4_setAt_8, bX4_setAt_0, o_ic, o_lc, o_null, o_il, o_ll, o_al, o_dup, o_pop, o_dup_x1, o_dup2, o_iadd, o_isub, o_imul, o_iand, o_ior, o_ixor, o_ishl, o_ishr, o_idiv, o_irem, o_ineg, o_ladd, o_lsub, o_lmul, o_land, o_lor, o_lxor, o_ldiv, o_lrem, o_lneg, o_lcmp, o_i2l, o_l2i, o_i2b, o_i2c, o_iushr, o_lshl, o_lshr, o_if_eq, o_if_ne, o_if_lt, o_if_ge, o_if_gt, o_if_le, o_icmp_eq, o_icmp_ne, o_icmp_lt, o_icmp_ge, o_icmp_gt, o_icmp_le, o_ifnull, o_ifnonnull, o_acmp_eq, o_acmp_ne, o_is, o_ls, o_as, o_iinc, o_kill, o_sw, o_ireturn, o_zreturn, o_nreturn, o_lreturn, o_areturn, o_return, o_athrow, o_call, entP, lg_sl, Value.category, st1, st2, List.set, List.getElem?_cons_zero, List.getElem?_cons_succ, List.foldl, popN, aft, e0]
      refine kk 0 (LB.zero.congr (fun e he => ?_))
      unfold sb9
      rw [b9_not.2 (by unfold setP; omega)]; simp
    · subst z
      have e1 : nn 1 = 1 := rfl
      simp [pX4_setAt, bX4_setAt_39, bX4_setAt_22, bX4_setAt_8, bX4_setAt_0, o_ic, o_lc, o_null, o_il, o_ll, o_al, o_dup, o_pop, o_dup_x1, o_dup2, o_iadd, o_isub, o_imul, o_iand, o_ior, o_ixor, o_ishl, o_ishr, o_idiv, o_irem, o_ineg, o_ladd, o_lsub, o_lmul, o_land, o_lor, o_lxor, o_ldiv, o_lrem, o_lneg, o_lcmp, o_i2l, o_l2i, o_i2b, o_i2c, o_iushr, o_lshl, o_lshr, o_if_eq, o_if_ne, o_if_lt, o_if_ge, o_if_gt, o_if_le, o_icmp_eq, o_icmp_ne, o_icmp_lt, o_icmp_ge, o_icmp_gt, o_icmp_le, o_ifnull, o_ifnonnull, o_acmp_eq, o_acmp_ne, o_is, o_ls, o_as, o_iinc, o_kill, o_sw, o_ireturn, o_zreturn, o_nreturn, o_lreturn, o_areturn, o_return, o_athrow, o_call, entP, lg_sl, Value.category, st1, st2, List.set, List.getElem?_cons_zero, List.getElem?_cons_succ, List.foldl, popN, aft, o_gI, o_gR, o_pI, o_pN, o_pR, o_aI, o_aG, o_aR, o_len, o_aR8, o_sI, o_sB, o_sZ, o_sG, o_new, o_newA, o_cast, o_inst, o_cst, o_oi, o_sR, o_gIc, o_gSv, o_gSc, o_getc, o_dead, o_acopy, o_castA, o_castI, o_sR7, o_mna, o_mmax, o_mmin, o_mabs, e1, hR.tr, a1, va_rf, a2, a3, nn_eqL, nn_ltL, nn_leL, nn_Llt, nn_Lle, nn_lt, nn_le, nn_eq, nn_in, nn_clamp, nn_succ, nn_pos, nn_neg1, bk, hk]
      refine kk _ ((a7 k hk).congr (fun e he => ?_))
      unfold sb9 fb
      rw [b9_eq (show setP R 1 e k ↔ fct R e 4 k from ⟨fun q => q.elim (fun z => z.2) (fun z => absurd z.1 (by decide)), fun q => Or.inl ⟨rfl, q⟩⟩)]
    · subst z
      have e1 : nn 2 = 2 := rfl
      simp [pX4_setAt, bX4_setAt_39, bX4_setAt_22, bX4_setAt_8, bX4_setAt_0, o_ic, o_lc, o_null, o_il, o_ll, o_al, o_dup, o_pop, o_dup_x1, o_dup2, o_iadd, o_isub, o_imul, o_iand, o_ior, o_ixor, o_ishl, o_ishr, o_idiv, o_irem, o_ineg, o_ladd, o_lsub, o_lmul, o_land, o_lor, o_lxor, o_ldiv, o_lrem, o_lneg, o_lcmp, o_i2l, o_l2i, o_i2b, o_i2c, o_iushr, o_lshl, o_lshr, o_if_eq, o_if_ne, o_if_lt, o_if_ge, o_if_gt, o_if_le, o_icmp_eq, o_icmp_ne, o_icmp_lt, o_icmp_ge, o_icmp_gt, o_icmp_le, o_ifnull, o_ifnonnull, o_acmp_eq, o_acmp_ne, o_is, o_ls, o_as, o_iinc, o_kill, o_sw, o_ireturn, o_zreturn, o_nreturn, o_lreturn, o_areturn, o_return, o_athrow, o_call, entP, lg_sl, Value.category, st1, st2, List.set, List.getElem?_cons_zero, List.getElem?_cons_succ, List.foldl, popN, aft, o_gI, o_gR, o_pI, o_pN, o_pR, o_aI, o_aG, o_aR, o_len, o_aR8, o_sI, o_sB, o_sZ, o_sG, o_new, o_newA, o_cast, o_inst, o_cst, o_oi, o_sR, o_gIc, o_gSv, o_gSc, o_getc, o_dead, o_acopy, o_castA, o_castI, o_sR7, o_mna, o_mmax, o_mmin, o_mabs, e1, hR.tr, b1, c1, va_rf, b2, b3, c2, c3, nn_eqL, nn_ltL, nn_leL, nn_Llt, nn_Lle, nn_lt, nn_le, nn_eq, nn_in, nn_clamp, nn_succ, nn_pos, nn_neg1, bk, hk]
      refine kk _ (((b7 k hk).and (c7 k hk).cpl).congr (fun e he => ?_))
      show (fb R 6 k e && !fb R 7 k e) = sb9 R 2 k e
      unfold sb9 fb
      have e9 : setP R 2 e k ↔ (fct R e 6 k ∧ ¬ fct R e 7 k) := ⟨fun q => q.elim (fun z => absurd z.1 (by decide)) (fun z => z.2), fun q => Or.inr ⟨rfl, q⟩⟩
      rw [b9_eq e9]
      cases h1 : decide (e < (sms R.1).length) with
      | false => rfl
      | true =>
        cases h6 : b9 (fct R e 6 k) with
        | false => rw [b9_not.2 (show ¬ (fct R e 6 k ∧ ¬ fct R e 7 k) from fun q => b9_not.1 h6 q.1)]; rfl
        | true =>
          cases h7 : b9 (fct R e 7 k) with
          | false => rw [b9_iff.2 (show fct R e 6 k ∧ ¬ fct R e 7 k from ⟨b9_iff.1 h6, b9_not.1 h7⟩)]; rfl
          | true => rw [b9_not.2 (show ¬ (fct R e 6 k ∧ ¬ fct R e 7 k) from fun q => q.2 (b9_iff.1 h7))]; rfl
  simpa [hvc, dspI, hR.tr] using go
theorem ct_takenAt {pl k : Nat} (hR : RtB κ σ r R wss A NX BF B ss h9) (hV : VS σ r (nds R).length h9 VA 8 (fun i => fb R i)) (hp : pl < 3) (hk : k < (nds R).length) (kk : ∀ v, LB v (tb9 R pl k) → Q (.inl (some (.long v))) σ) : hvc [(4, pX4_takenAt κ)] [.ref r, .int (nn pl), .int (nn k)] σ Q := by
  have h240 := nds_240 hR.wf.1
  have bk : k < 2147483648 := by omega
  obtain ⟨a1, a2, a3, -, -, -, a7⟩ := hV 0 (by omega)
  obtain ⟨b1, b2, b3, -, -, -, b7⟩ := hV 6 (by omega)
  obtain ⟨c1, c2, c3, -, -, -, c7⟩ := hV 7 (by omega)
  have h3 : pl = 0 ∨ pl = 1 ∨ pl = 2 := by omega
  have go : pX4_takenAt κ [.ref r, .int (nn pl), .int (nn k)] σ Q := by
    rcases h3 with z | z | z
    · subst z
      have e0 : nn 0 = 0 := rfl
      simp [pX4_takenAt, bX4_takenAt_46, bX4_takenAt_22, bX4_takenAt_8, bX4_takenAt_0, o_ic, o_lc, o_null, o_il, o_ll, o_al, o_dup, o_pop, o_dup_x1, o_dup2, o_iadd, o_isub, o_imul, o_iand, o_ior, o_ixor, o_ishl, o_ishr, o_idiv, o_irem, o_ineg, o_ladd, o_lsub, o_lmul, o_land, o_lor, o_lxor, o_ldiv, o_lrem, o_lneg, o_lcmp, o_i2l, o_l2i, o_i2b, o_i2c, o_iushr, o_lshl, o_lshr, o_if_eq, o_if_ne, o_if_lt, o_if_ge, o_if_gt, o_if_le, o_icmp_eq, o_icmp_ne, o_icmp_lt, o_icmp_ge, o_icmp_gt, o_icmp_le, o_ifnull, o_ifnonnull, o_acmp_eq, o_acmp_ne, o_is, o_ls, o_as, o_iinc, o_kill, o_sw, o_ireturn, o_zreturn, o_nreturn, o_lreturn, o_areturn, o_return, o_athrow, o_call, entP, lg_sl, Value.category, st1, st2, List.set, List.getElem?_cons_zero, List.getElem?_cons_succ, List.foldl, popN, aft, e0]
      refine kk 0 (LB.zero.congr (fun e he => ?_))
      unfold tb9
      simp
    · subst z
      have e1 : nn 1 = 1 := rfl
      simp [pX4_takenAt, bX4_takenAt_46, bX4_takenAt_22, bX4_takenAt_8, bX4_takenAt_0, o_ic, o_lc, o_null, o_il, o_ll, o_al, o_dup, o_pop, o_dup_x1, o_dup2, o_iadd, o_isub, o_imul, o_iand, o_ior, o_ixor, o_ishl, o_ishr, o_idiv, o_irem, o_ineg, o_ladd, o_lsub, o_lmul, o_land, o_lor, o_lxor, o_ldiv, o_lrem, o_lneg, o_lcmp, o_i2l, o_l2i, o_i2b, o_i2c, o_iushr, o_lshl, o_lshr, o_if_eq, o_if_ne, o_if_lt, o_if_ge, o_if_gt, o_if_le, o_icmp_eq, o_icmp_ne, o_icmp_lt, o_icmp_ge, o_icmp_gt, o_icmp_le, o_ifnull, o_ifnonnull, o_acmp_eq, o_acmp_ne, o_is, o_ls, o_as, o_iinc, o_kill, o_sw, o_ireturn, o_zreturn, o_nreturn, o_lreturn, o_areturn, o_return, o_athrow, o_call, entP, lg_sl, Value.category, st1, st2, List.set, List.getElem?_cons_zero, List.getElem?_cons_succ, List.foldl, popN, aft, o_gI, o_gR, o_pI, o_pN, o_pR, o_aI, o_aG, o_aR, o_len, o_aR8, o_sI, o_sB, o_sZ, o_sG, o_new, o_newA, o_cast, o_inst, o_cst, o_oi, o_sR, o_gIc, o_gSv, o_gSc, o_getc, o_dead, o_acopy, o_castA, o_castI, o_sR7, o_mna, o_mmax, o_mmin, o_mabs, e1, hR.tr, a1, va_rf, a2, a3, nn_eqL, nn_ltL, nn_leL, nn_Llt, nn_Lle, nn_lt, nn_le, nn_eq, nn_in, nn_clamp, nn_succ, nn_pos, nn_neg1, bk, hk]
      refine kk _ ((a7 k hk).congr (fun e he => ?_))
      unfold tb9 fb
      rw [b9_eq (show tknP R 1 e k ↔ fct R e 0 k from ⟨fun q => q.1, fun q => ⟨q, Or.inl rfl⟩⟩)]
      simp
    · subst z
      have e1 : nn 2 = 2 := rfl
      simp [pX4_takenAt, bX4_takenAt_46, bX4_takenAt_22, bX4_takenAt_8, bX4_takenAt_0, o_ic, o_lc, o_null, o_il, o_ll, o_al, o_dup, o_pop, o_dup_x1, o_dup2, o_iadd, o_isub, o_imul, o_iand, o_ior, o_ixor, o_ishl, o_ishr, o_idiv, o_irem, o_ineg, o_ladd, o_lsub, o_lmul, o_land, o_lor, o_lxor, o_ldiv, o_lrem, o_lneg, o_lcmp, o_i2l, o_l2i, o_i2b, o_i2c, o_iushr, o_lshl, o_lshr, o_if_eq, o_if_ne, o_if_lt, o_if_ge, o_if_gt, o_if_le, o_icmp_eq, o_icmp_ne, o_icmp_lt, o_icmp_ge, o_icmp_gt, o_icmp_le, o_ifnull, o_ifnonnull, o_acmp_eq, o_acmp_ne, o_is, o_ls, o_as, o_iinc, o_kill, o_sw, o_ireturn, o_zreturn, o_nreturn, o_lreturn, o_areturn, o_return, o_athrow, o_call, entP, lg_sl, Value.category, st1, st2, List.set, List.getElem?_cons_zero, List.getElem?_cons_succ, List.foldl, popN, aft, o_gI, o_gR, o_pI, o_pN, o_pR, o_aI, o_aG, o_aR, o_len, o_aR8, o_sI, o_sB, o_sZ, o_sG, o_new, o_newA, o_cast, o_inst, o_cst, o_oi, o_sR, o_gIc, o_gSv, o_gSc, o_getc, o_dead, o_acopy, o_castA, o_castI, o_sR7, o_mna, o_mmax, o_mmin, o_mabs, e1, hR.tr, a1, b1, c1, va_rf, a2, a3, b2, b3, c2, c3, nn_eqL, nn_ltL, nn_leL, nn_Llt, nn_Lle, nn_lt, nn_le, nn_eq, nn_in, nn_clamp, nn_succ, nn_pos, nn_neg1, bk, hk]
      have lb := (a7 k hk).and ((b7 k hk).and (c7 k hk)).cpl
      refine kk _ (lb.congr (fun e he => ?_))
      show (fb R 0 k e && !(fb R 6 k e && fb R 7 k e)) = tb9 R 2 k e
      unfold tb9 fb
      have e9 : tknP R 2 e k ↔ (fct R e 0 k ∧ ¬ (fct R e 6 k ∧ fct R e 7 k)) := ⟨fun q => ⟨q.1, q.2.elim (fun z => absurd z (by decide)) (fun z => z.2)⟩, fun q => ⟨q.1, Or.inr ⟨rfl, q.2⟩⟩⟩
      rw [b9_eq e9]
      cases h1 : decide (e < (sms R.1).length) with
      | false => rfl
      | true =>
        cases h0 : b9 (fct R e 0 k) with
        | false => rw [b9_not.2 (show ¬ (fct R e 0 k ∧ ¬ (fct R e 6 k ∧ fct R e 7 k)) from fun q => b9_not.1 h0 q.1)]; rfl
        | true =>
          cases h6 : b9 (fct R e 6 k) with
          | false => rw [b9_iff.2 (show fct R e 0 k ∧ ¬ (fct R e 6 k ∧ fct R e 7 k) from ⟨b9_iff.1 h0, fun q => b9_not.1 h6 q.1⟩)]; rfl
          | true =>
            cases h7 : b9 (fct R e 7 k) with
            | false => rw [b9_iff.2 (show fct R e 0 k ∧ ¬ (fct R e 6 k ∧ fct R e 7 k) from ⟨b9_iff.1 h0, fun q => b9_not.1 h7 q.2⟩)]; rfl
            | true => rw [b9_not.2 (show ¬ (fct R e 0 k ∧ ¬ (fct R e 6 k ∧ fct R e 7 k)) from fun q => q.2 ⟨b9_iff.1 h6, b9_iff.1 h7⟩)]; rfl
  simpa [hvc, dspI, hR.tr] using go
end QC
