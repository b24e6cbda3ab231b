/-! THE COMPONENT: small acts -/
set_option maxRecDepth 100000
section SA
variable {κ : Nat → Option Nat} {Q : Ret AH} {σ σ' : AH} {o c s : Nat} {l : List Nat} {P : Nat → PlA} {wr : Int32} {bg : Nat → Int32} {rn : RnA} {RA : Nat → Option Nat} {H : Nat → Nat}
theorem ct_wrong (h : CC κ σ o l P wr bg rn RA H) (k : Q (.inl (some (.int wr))) σ) : pX0_wrong κ [.ref o] σ Q := by
  simp [pX0_wrong, bX0_wrong_0, o_ic, o_lc, o_null, o_il, o_ll, o_al, o_dup, o_pop, o_dup_x1, o_dup2, o_iadd, o_isub, o_imul, o_iand, o_ior, o_ixor, o_ishl, o_ishr, o_idiv, o_irem, o_ineg, o_ladd, o_lsub, o_lmul, o_land, o_lor, o_lxor, o_ldiv, o_lrem, o_lneg, o_lcmp, o_i2l, o_l2i, o_i2b, o_i2c, o_iushr, o_lshl, o_lshr, o_if_eq, o_if_ne, o_if_lt, o_if_ge, o_if_gt, o_if_le, o_icmp_eq, o_icmp_ne, o_icmp_lt, o_icmp_ge, o_icmp_gt, o_icmp_le, o_ifnull, o_ifnonnull, o_acmp_eq, o_acmp_ne, o_is, o_ls, o_as, o_iinc, o_kill, o_sw, o_ireturn, o_zreturn, o_nreturn, o_lreturn, o_areturn, o_return, o_athrow, o_call, entP, lg_sl, Value.category, st1, st2, List.set, List.getElem?_cons_zero, List.getElem?_cons_succ, List.foldl, popN, aft, o_gI, o_gR, o_pI, o_pN, o_pR, o_aI, o_aG, o_aR, o_len, o_aR8, o_sI, o_sB, o_sZ, o_sG, o_new, o_newA, o_cast, o_inst, o_cst, o_oi, o_sR, o_gIc, o_gSv, o_gSc, o_getc, o_dead, o_acopy, o_castA, o_castI, o_sR7, o_mna, o_mmax, o_mmin, o_mabs, hT_sI, hT_sR, hT_sG, hL_sI, hL_sR, hL_sG, hI_sI, hI_sR, hI_sG, hG_sI, hG_sR, hG_sG, hR_sI, hR_sR, hR_sG, hN_sI, hN_sR, hN_sG, hC_sI, hC_sR, hC_sG, hS_sI, hS_sR, hS_sG, hT_nw, hL_nw, hI_nw, hG_nw, hR_nw, hN_nw, hC_nw, hS_nw, hvc, hvi, dspI, vref, va_rf, h.t0, h.f4]
  exact k
theorem cc_feed {w : Int64} {n : Int32} (h : CC κ σ o l P wr bg rn RA H) (k : ∀ σ', CC κ σ' o (sFeed l w n).2 P wr bg rn RA H → hC σ ≤ hC σ' → hS σ ≤ hS σ' → Q (.inl (some (.int (sFeed l w n).1))) σ') : pX0_feed κ [.ref o, .long w, .int n] σ Q := by
  refine ct_feed h.ok h.tp (fun σ' k1 f1 t1 e1 => ?_)
  have em : (fun b => b = o ∨ hR σ o 0 = some b) = Two9 o := by
    funext b
    unfold Two9
    rw [h.f0, Option.some.injEq, eq_comm (a := o + 1)]
  rw [em] at f1
  have F : HL κ (Two9 o) NoM 0 0 σ σ' := HL.ofHF f1 h.ok k1 (fun a _ z => ?_) (fun a _ _ _ j => by rw [e1.1])
  · exact k σ' (h.own2 F t1 (e1.2.trans h.f4)) F.C F.S
  · obtain ⟨h1, h2, h3, b, h4, h5, h6, h7⟩ := h.tp
    rw [h.f0] at h4
    cases h4
    rcases z with rfl | rfl
    · rw [h1]; decide
    · rw [h5]; decide
theorem cc_cut {n : Int32} (h : CC κ σ o l P wr bg rn RA H) (k : match ix n (l.length + 1) with
      | some j => ∀ σ', CC κ σ' o (l.take j) P wr bg rn RA H → hC σ ≤ hC σ' → hS σ ≤ hS σ' → Q (.inl (some (.int (nn j)))) σ'
      | none => Q (.inl (some (.int (-2)))) σ) : pX0_cut κ [.ref o, .int n] σ Q := by
  refine ct_cut h.tp ?_
  split at k
  · next j hj =>
    rw [hj]
    intro t
    exact k _ (h.own ((HL.rfl9 h.ok).sI (Or.inl rfl) h.t0 (by decide)) t (by rw [hI_sI, if_neg (by omega)]; exact h.f4)) (Nat.le_refl _) (Nat.le_refl _)
  · next hj => rw [hj]; exact k
theorem cc_tape {i : Int32} (h : CC κ σ o l P wr bg rn RA H) (k : Q (.inl (some (.int (sTape l i)))) σ) : pX0_tape κ [.ref o, .int i] σ Q := ct_tape h.tp k
theorem ct_name {i x : Int32} (h : CC κ σ o l P wr bg rn RA H) (k0 : ix i 48 = none → Q (.inl (some (.int 0))) σ) (k1 : ∀ j σ', ix i 48 = some j → CC κ σ' o l P wr (upd9 bg j x) rn RA H → hC σ ≤ hC σ' → hS σ ≤ hS σ' → Q (.inl (some (.int (bg j)))) σ') : pX0_name κ [.ref o, .int i, .int x] σ Q := by
  simp [pX0_name, bX0_name_0, o_ic, o_lc, o_null, o_il, o_ll, o_al, o_dup, o_pop, o_dup_x1, o_dup2, o_iadd, o_isub, o_imul, o_iand, o_ior, o_ixor, o_ishl, o_ishr, o_idiv, o_irem, o_ineg, o_ladd, o_lsub, o_lmul, o_land, o_lor, o_lxor, o_ldiv, o_lrem, o_lneg, o_lcmp, o_i2l, o_l2i, o_i2b, o_i2c, o_iushr, o_lshl, o_lshr, o_if_eq, o_if_ne, o_if_lt, o_if_ge, o_if_gt, o_if_le, o_icmp_eq, o_icmp_ne, o_icmp_lt, o_icmp_ge, o_icmp_gt, o_icmp_le, o_ifnull, o_ifnonnull, o_acmp_eq, o_acmp_ne, o_is, o_ls, o_as, o_iinc, o_kill, o_sw, o_ireturn, o_zreturn, o_nreturn, o_lreturn, o_areturn, o_return, o_athrow, o_call, entP, lg_sl, Value.category, st1, st2, List.set, List.getElem?_cons_zero, List.getElem?_cons_succ, List.foldl, popN, aft]
  refine ct_in0 (n := 48) (by omega) (by decide) (fun q hq => ?_) (fun hq => ?_)
  rotate_left
  · simp [o_ic, o_lc, o_null, o_il, o_ll, o_al, o_dup, o_pop, o_dup_x1, o_dup2, o_iadd, o_isub, o_imul, o_iand, o_ior, o_ixor, o_ishl, o_ishr, o_idiv, o_irem, o_ineg, o_ladd, o_lsub, o_lmul, o_land, o_lor, o_lxor, o_ldiv, o_lrem, o_lneg, o_lcmp, o_i2l, o_l2i, o_i2b, o_i2c, o_iushr, o_lshl, o_lshr, o_if_eq, o_if_ne, o_if_lt, o_if_ge, o_if_gt, o_if_le, o_icmp_eq, o_icmp_ne, o_icmp_lt, o_icmp_ge, o_icmp_gt, o_icmp_le, o_ifnull, o_ifnonnull, o_acmp_eq, o_acmp_ne, o_is, o_ls, o_as, o_iinc, o_kill, o_sw, o_ireturn, o_zreturn, o_nreturn, o_lreturn, o_areturn, o_return, o_athrow, o_call, entP, lg_sl, Value.category, st1, st2, List.set, List.getElem?_cons_zero, List.getElem?_cons_succ, List.foldl, popN, aft]
    exact k0 hq
  obtain ⟨rfl, e2, e3⟩ := ix_some hq
  obtain ⟨a1, a2, a3, a4⟩ := h.f2
  have t := h.t0
  simp [o_ic, o_lc, o_null, o_il, o_ll, o_al, o_dup, o_pop, o_dup_x1, o_dup2, o_iadd, o_isub, o_imul, o_iand, o_ior, o_ixor, o_ishl, o_ishr, o_idiv, o_irem, o_ineg, o_ladd, o_lsub, o_lmul, o_land, o_lor, o_lxor, o_ldiv, o_lrem, o_lneg, o_lcmp, o_i2l, o_l2i, o_i2b, o_i2c, o_iushr, o_lshl, o_lshr, o_if_eq, o_if_ne, o_if_lt, o_if_ge, o_if_gt, o_if_le, o_icmp_eq, o_icmp_ne, o_icmp_lt, o_icmp_ge, o_icmp_gt, o_icmp_le, o_ifnull, o_ifnonnull, o_acmp_eq, o_acmp_ne, o_is, o_ls, o_as, o_iinc, o_kill, o_sw, o_ireturn, o_zreturn, o_nreturn, o_lreturn, o_areturn, o_return, o_athrow, o_call, entP, lg_sl, Value.category, st1, st2, List.set, List.getElem?_cons_zero, List.getElem?_cons_succ, List.foldl, popN, aft, o_gI, o_gR, o_pI, o_pN, o_pR, o_aI, o_aG, o_aR, o_len, o_aR8, o_sI, o_sB, o_sZ, o_sG, o_new, o_newA, o_cast, o_inst, o_cst, o_oi, o_sR, o_gIc, o_gSv, o_gSc, o_getc, o_dead, o_acopy, o_castA, o_castI, o_sR7, o_mna, o_mmax, o_mmin, o_mabs, hT_sI, hT_sR, hT_sG, hL_sI, hL_sR, hL_sG, hI_sI, hI_sR, hI_sG, hG_sI, hG_sR, hG_sG, hR_sI, hR_sR, hR_sG, hN_sI, hN_sR, hN_sG, hC_sI, hC_sR, hC_sG, hS_sI, hS_sR, hS_sG, hT_nw, hL_nw, hI_nw, hG_nw, hR_nw, hN_nw, hC_nw, hS_nw, hvc, hvi, dspI, vref, va_rf, bX0_name_12, t, a1, a2, a3, nn_in e3, nn_clamp e3, e2, a4 q e2, va_rf]
  have hk := h.ok
  have F : HL κ (EqM (o + 2)) NoM 0 0 σ (hsI σ (o + 2) q x) := (HL.rfl9 hk).sI (Or.inl rfl) a2 (by decide)
  have off : ∀ a, o + 7 ≤ a → a < hN σ → ¬ EqM (o + 2) a ∧ ¬ NoM a := fun a h1 _ => ⟨by show ¬ a = o + 2; omega, id⟩
  refine k1 q _ hq ⟨F.ok, h.ks.hl hk F, ?_, h.f0, ⟨a1, a2, a3, fun i hi' => ?_⟩, h.f3, ?_, h.f6, fun p hp => (h.pl p hp).hl hk F off, h.dj, h.rn.hl hk t F rfl off⟩ (Nat.le_refl _) (Nat.le_refl _)
  · obtain ⟨h1, h2, h3, b, h4, h5, h6, h7⟩ := h.tp
    refine ⟨h1, by rw [hI_sI, if_neg (by omega)]; exact h2, h3, b, h4, h5, h6, fun i c hc => ?_⟩
    rw [hI_sI, if_neg (fun z => by rw [z.1, a2] at h5; cases h5)]; exact h7 i c hc
  · unfold upd9
    rw [hI_sI]
    by_cases e : i = q
    · rw [if_pos ⟨rfl, e⟩, if_pos e]
    · rw [if_neg (fun z => e z.2), if_neg e]; exact a4 i hi'
  · rw [hI_sI, if_neg (by omega)]; exact h.f4
theorem ct_value {i : Int32} (h : CC κ σ o l P wr bg rn RA H) (k : Q (.inl (some (.int (sValue rn i)))) σ) : pX0_value κ [.ref o, .int i] σ Q := by
  have t := h.t0
  simp [pX0_value, bX0_value_0, bX0_value_29, bX0_value_30, o_ic, o_lc, o_null, o_il, o_ll, o_al, o_dup, o_pop, o_dup_x1, o_dup2, o_iadd, o_isub, o_imul, o_iand, o_ior, o_ixor, o_ishl, o_ishr, o_idiv, o_irem, o_ineg, o_ladd, o_lsub, o_lmul, o_land, o_lor, o_lxor, o_ldiv, o_lrem, o_lneg, o_lcmp, o_i2l, o_l2i, o_i2b, o_i2c, o_iushr, o_lshl, o_lshr, o_if_eq, o_if_ne, o_if_lt, o_if_ge, o_if_gt, o_if_le, o_icmp_eq, o_icmp_ne, o_icmp_lt, o_icmp_ge, o_icmp_gt, o_icmp_le, o_ifnull, o_ifnonnull, o_acmp_eq, o_acmp_ne, o_is, o_ls, o_as, o_iinc, o_kill, o_sw, o_ireturn, o_zreturn, o_nreturn, o_lreturn, o_areturn, o_return, o_athrow, o_call, entP, lg_sl, Value.category, st1, st2, List.set, List.getElem?_cons_zero, List.getElem?_cons_succ, List.foldl, popN, aft, o_gI, o_gR, o_pI, o_pN, o_pR, o_aI, o_aG, o_aR, o_len, o_aR8, o_sI, o_sB, o_sZ, o_sG, o_new, o_newA, o_cast, o_inst, o_cst, o_oi, o_sR, o_gIc, o_gSv, o_gSc, o_getc, o_dead, o_acopy, o_castA, o_castI, o_sR7, o_mna, o_mmax, o_mmin, o_mabs, hT_sI, hT_sR, hT_sG, hL_sI, hL_sR, hL_sG, hI_sI, hI_sR, hI_sG, hG_sI, hG_sR, hG_sG, hR_sI, hR_sR, hR_sG, hN_sI, hN_sR, hN_sG, hC_sI, hC_sR, hC_sG, hS_sI, hS_sR, hS_sG, hT_nw, hL_nw, hI_nw, hG_nw, hR_nw, hN_nw, hC_nw, hS_nw, hvc, hvi, dspI, vref, va_rf, t]
  unfold sValue at k
  rcases h.rn with ⟨e, z⟩ | ⟨a, e, la, rc⟩
  · simp [e, va_rf, o_ic, o_lc, o_null, o_il, o_ll, o_al, o_dup, o_pop, o_dup_x1, o_dup2, o_iadd, o_isub, o_imul, o_iand, o_ior, o_ixor, o_ishl, o_ishr, o_idiv, o_irem, o_ineg, o_ladd, o_lsub, o_lmul, o_land, o_lor, o_lxor, o_ldiv, o_lrem, o_lneg, o_lcmp, o_i2l, o_l2i, o_i2b, o_i2c, o_iushr, o_lshl, o_lshr, o_if_eq, o_if_ne, o_if_lt, o_if_ge, o_if_gt, o_if_le, o_icmp_eq, o_icmp_ne, o_icmp_lt, o_icmp_ge, o_icmp_gt, o_icmp_le, o_ifnull, o_ifnonnull, o_acmp_eq, o_acmp_ne, o_is, o_ls, o_as, o_iinc, o_kill, o_sw, o_ireturn, o_zreturn, o_nreturn, o_lreturn, o_areturn, o_return, o_athrow, o_call, entP, lg_sl, Value.category, st1, st2, List.set, List.getElem?_cons_zero, List.getElem?_cons_succ, List.foldl, popN, aft]
    split at k
    · next j _ => rw [z.2.1 j] at k; exact k
    · exact k
  obtain ⟨t2, ⟨r2, r3, r4, r5, r6⟩, ⟨n1, n2, n3⟩, -⟩ := rc
  simp [e, va_rf, o_ic, o_lc, o_null, o_il, o_ll, o_al, o_dup, o_pop, o_dup_x1, o_dup2, o_iadd, o_isub, o_imul, o_iand, o_ior, o_ixor, o_ishl, o_ishr, o_idiv, o_irem, o_ineg, o_ladd, o_lsub, o_lmul, o_land, o_lor, o_lxor, o_ldiv, o_lrem, o_lneg, o_lcmp, o_i2l, o_l2i, o_i2b, o_i2c, o_iushr, o_lshl, o_lshr, o_if_eq, o_if_ne, o_if_lt, o_if_ge, o_if_gt, o_if_le, o_icmp_eq, o_icmp_ne, o_icmp_lt, o_icmp_ge, o_icmp_gt, o_icmp_le, o_ifnull, o_ifnonnull, o_acmp_eq, o_acmp_ne, o_is, o_ls, o_as, o_iinc, o_kill, o_sw, o_ireturn, o_zreturn, o_nreturn, o_lreturn, o_areturn, o_return, o_athrow, o_call, entP, lg_sl, Value.category, st1, st2, List.set, List.getElem?_cons_zero, List.getElem?_cons_succ, List.foldl, popN, aft]
  refine ct_in0 (n := 48) (by omega) (by decide) (fun q hq => ?_) (fun hq => ?_)
  · rw [hq] at k
    obtain ⟨rfl, e2, e3⟩ := ix_some hq
    simp [o_ic, o_lc, o_null, o_il, o_ll, o_al, o_dup, o_pop, o_dup_x1, o_dup2, o_iadd, o_isub, o_imul, o_iand, o_ior, o_ixor, o_ishl, o_ishr, o_idiv, o_irem, o_ineg, o_ladd, o_lsub, o_lmul, o_land, o_lor, o_lxor, o_ldiv, o_lrem, o_lneg, o_lcmp, o_i2l, o_l2i, o_i2b, o_i2c, o_iushr, o_lshl, o_lshr, o_if_eq, o_if_ne, o_if_lt, o_if_ge, o_if_gt, o_if_le, o_icmp_eq, o_icmp_ne, o_icmp_lt, o_icmp_ge, o_icmp_gt, o_icmp_le, o_ifnull, o_ifnonnull, o_acmp_eq, o_acmp_ne, o_is, o_ls, o_as, o_iinc, o_kill, o_sw, o_ireturn, o_zreturn, o_nreturn, o_lreturn, o_areturn, o_return, o_athrow, o_call, entP, lg_sl, Value.category, st1, st2, List.set, List.getElem?_cons_zero, List.getElem?_cons_succ, List.foldl, popN, aft, o_gI, o_gR, o_pI, o_pN, o_pR, o_aI, o_aG, o_aR, o_len, o_aR8, o_sI, o_sB, o_sZ, o_sG, o_new, o_newA, o_cast, o_inst, o_cst, o_oi, o_sR, o_gIc, o_gSv, o_gSc, o_getc, o_dead, o_acopy, o_castA, o_castI, o_sR7, o_mna, o_mmax, o_mmin, o_mabs, hT_sI, hT_sR, hT_sG, hL_sI, hL_sR, hL_sG, hI_sI, hI_sR, hI_sG, hG_sI, hG_sR, hG_sG, hR_sI, hR_sR, hR_sG, hN_sI, hN_sR, hN_sG, hC_sI, hC_sR, hC_sG, hS_sI, hS_sR, hS_sG, hT_nw, hL_nw, hI_nw, hG_nw, hR_nw, hN_nw, hC_nw, hS_nw, hvc, hvi, dspI, vref, va_rf, t, e, va_rf, t2, r2, n1, n2, nn_in e3, nn_clamp e3, e2, n3 q e2]
    exact k
  · rw [hq] at k
    simp [o_ic, o_lc, o_null, o_il, o_ll, o_al, o_dup, o_pop, o_dup_x1, o_dup2, o_iadd, o_isub, o_imul, o_iand, o_ior, o_ixor, o_ishl, o_ishr, o_idiv, o_irem, o_ineg, o_ladd, o_lsub, o_lmul, o_land, o_lor, o_lxor, o_ldiv, o_lrem, o_lneg, o_lcmp, o_i2l, o_l2i, o_i2b, o_i2c, o_iushr, o_lshl, o_lshr, o_if_eq, o_if_ne, o_if_lt, o_if_ge, o_if_gt, o_if_le, o_icmp_eq, o_icmp_ne, o_icmp_lt, o_icmp_ge, o_icmp_gt, o_icmp_le, o_ifnull, o_ifnonnull, o_acmp_eq, o_acmp_ne, o_is, o_ls, o_as, o_iinc, o_kill, o_sw, o_ireturn, o_zreturn, o_nreturn, o_lreturn, o_areturn, o_return, o_athrow, o_call, entP, lg_sl, Value.category, st1, st2, List.set, List.getElem?_cons_zero, List.getElem?_cons_succ, List.foldl, popN, aft]
    exact k
theorem ct_worked {i : Int32} (h : CC κ σ o l P wr bg rn RA H) (k : Q (.inl (some (.int (sWorked rn i)))) σ) : pX0_worked κ [.ref o, .int i] σ Q := by
  have t := h.t0
  simp [pX0_worked, bX0_worked_0, o_ic, o_lc, o_null, o_il, o_ll, o_al, o_dup, o_pop, o_dup_x1, o_dup2, o_iadd, o_isub, o_imul, o_iand, o_ior, o_ixor, o_ishl, o_ishr, o_idiv, o_irem, o_ineg, o_ladd, o_lsub, o_lmul, o_land, o_lor, o_lxor, o_ldiv, o_lrem, o_lneg, o_lcmp, o_i2l, o_l2i, o_i2b, o_i2c, o_iushr, o_lshl, o_lshr, o_if_eq, o_if_ne, o_if_lt, o_if_ge, o_if_gt, o_if_le, o_icmp_eq, o_icmp_ne, o_icmp_lt, o_icmp_ge, o_icmp_gt, o_icmp_le, o_ifnull, o_ifnonnull, o_acmp_eq, o_acmp_ne, o_is, o_ls, o_as, o_iinc, o_kill, o_sw, o_ireturn, o_zreturn, o_nreturn, o_lreturn, o_areturn, o_return, o_athrow, o_call, entP, lg_sl, Value.category, st1, st2, List.set, List.getElem?_cons_zero, List.getElem?_cons_succ, List.foldl, popN, aft, o_gI, o_gR, o_pI, o_pN, o_pR, o_aI, o_aG, o_aR, o_len, o_aR8, o_sI, o_sB, o_sZ, o_sG, o_new, o_newA, o_cast, o_inst, o_cst, o_oi, o_sR, o_gIc, o_gSv, o_gSc, o_getc, o_dead, o_acopy, o_castA, o_castI, o_sR7, o_mna, o_mmax, o_mmin, o_mabs, hT_sI, hT_sR, hT_sG, hL_sI, hL_sR, hL_sG, hI_sI, hI_sR, hI_sG, hG_sI, hG_sR, hG_sG, hR_sI, hR_sR, hR_sG, hN_sI, hN_sR, hN_sG, hC_sI, hC_sR, hC_sG, hS_sI, hS_sR, hS_sG, hT_nw, hL_nw, hI_nw, hG_nw, hR_nw, hN_nw, hC_nw, hS_nw, hvc, hvi, dspI, vref, va_rf, t]
  unfold sWorked at k
  refine ct_in0 (n := 32) (by omega) (by decide) (fun q hq => ?_) (fun hq => ?_)
  rotate_left
  · rw [hq] at k
    simp [o_ic, o_lc, o_null, o_il, o_ll, o_al, o_dup, o_pop, o_dup_x1, o_dup2, o_iadd, o_isub, o_imul, o_iand, o_ior, o_ixor, o_ishl, o_ishr, o_idiv, o_irem, o_ineg, o_ladd, o_lsub, o_lmul, o_land, o_lor, o_lxor, o_ldiv, o_lrem, o_lneg, o_lcmp, o_i2l, o_l2i, o_i2b, o_i2c, o_iushr, o_lshl, o_lshr, o_if_eq, o_if_ne, o_if_lt, o_if_ge, o_if_gt, o_if_le, o_icmp_eq, o_icmp_ne, o_icmp_lt, o_icmp_ge, o_icmp_gt, o_icmp_le, o_ifnull, o_ifnonnull, o_acmp_eq, o_acmp_ne, o_is, o_ls, o_as, o_iinc, o_kill, o_sw, o_ireturn, o_zreturn, o_nreturn, o_lreturn, o_areturn, o_return, o_athrow, o_call, entP, lg_sl, Value.category, st1, st2, List.set, List.getElem?_cons_zero, List.getElem?_cons_succ, List.foldl, popN, aft]
    exact k
  rw [hq] at k
  obtain ⟨rfl, e2, e3⟩ := ix_some hq
  simp [o_ic, o_lc, o_null, o_il, o_ll, o_al, o_dup, o_pop, o_dup_x1, o_dup2, o_iadd, o_isub, o_imul, o_iand, o_ior, o_ixor, o_ishl, o_ishr, o_idiv, o_irem, o_ineg, o_ladd, o_lsub, o_lmul, o_land, o_lor, o_lxor, o_ldiv, o_lrem, o_lneg, o_lcmp, o_i2l, o_l2i, o_i2b, o_i2c, o_iushr, o_lshl, o_lshr, o_if_eq, o_if_ne, o_if_lt, o_if_ge, o_if_gt, o_if_le, o_icmp_eq, o_icmp_ne, o_icmp_lt, o_icmp_ge, o_icmp_gt, o_icmp_le, o_ifnull, o_ifnonnull, o_acmp_eq, o_acmp_ne, o_is, o_ls, o_as, o_iinc, o_kill, o_sw, o_ireturn, o_zreturn, o_nreturn, o_lreturn, o_areturn, o_return, o_athrow, o_call, entP, lg_sl, Value.category, st1, st2, List.set, List.getElem?_cons_zero, List.getElem?_cons_succ, List.foldl, popN, aft, o_gI, o_gR, o_pI, o_pN, o_pR, o_aI, o_aG, o_aR, o_len, o_aR8, o_sI, o_sB, o_sZ, o_sG, o_new, o_newA, o_cast, o_inst, o_cst, o_oi, o_sR, o_gIc, o_gSv, o_gSc, o_getc, o_dead, o_acopy, o_castA, o_castI, o_sR7, o_mna, o_mmax, o_mmin, o_mabs, hT_sI, hT_sR, hT_sG, hL_sI, hL_sR, hL_sG, hI_sI, hI_sR, hI_sG, hG_sI, hG_sR, hG_sG, hR_sI, hR_sR, hR_sG, hN_sI, hN_sR, hN_sG, hC_sI, hC_sR, hC_sG, hS_sI, hS_sR, hS_sG, hT_nw, hL_nw, hI_nw, hG_nw, hR_nw, hN_nw, hC_nw, hS_nw, hvc, hvi, dspI, vref, va_rf, bX0_worked_12, bX0_worked_32, t]
  rcases h.rn with ⟨e, z⟩ | ⟨a, e, la, rc⟩
  · simp only at k
    rw [z.2.2.2.1 q] at k
    simp [e, va_rf, o_ic, o_lc, o_null, o_il, o_ll, o_al, o_dup, o_pop, o_dup_x1, o_dup2, o_iadd, o_isub, o_imul, o_iand, o_ior, o_ixor, o_ishl, o_ishr, o_idiv, o_irem, o_ineg, o_ladd, o_lsub, o_lmul, o_land, o_lor, o_lxor, o_ldiv, o_lrem, o_lneg, o_lcmp, o_i2l, o_l2i, o_i2b, o_i2c, o_iushr, o_lshl, o_lshr, o_if_eq, o_if_ne, o_if_lt, o_if_ge, o_if_gt, o_if_le, o_icmp_eq, o_icmp_ne, o_icmp_lt, o_icmp_ge, o_icmp_gt, o_icmp_le, o_ifnull, o_ifnonnull, o_acmp_eq, o_acmp_ne, o_is, o_ls, o_as, o_iinc, o_kill, o_sw, o_ireturn, o_zreturn, o_nreturn, o_lreturn, o_areturn, o_return, o_athrow, o_call, entP, lg_sl, Value.category, st1, st2, List.set, List.getElem?_cons_zero, List.getElem?_cons_succ, List.foldl, popN, aft]
    exact k
  obtain ⟨t2, ⟨r2, r3, r4, r5, r6⟩, -, ⟨n1, n2, n3⟩, -⟩ := rc
  simp [o_ic, o_lc, o_null, o_il, o_ll, o_al, o_dup, o_pop, o_dup_x1, o_dup2, o_iadd, o_isub, o_imul, o_iand, o_ior, o_ixor, o_ishl, o_ishr, o_idiv, o_irem, o_ineg, o_ladd, o_lsub, o_lmul, o_land, o_lor, o_lxor, o_ldiv, o_lrem, o_lneg, o_lcmp, o_i2l, o_l2i, o_i2b, o_i2c, o_iushr, o_lshl, o_lshr, o_if_eq, o_if_ne, o_if_lt, o_if_ge, o_if_gt, o_if_le, o_icmp_eq, o_icmp_ne, o_icmp_lt, o_icmp_ge, o_icmp_gt, o_icmp_le, o_ifnull, o_ifnonnull, o_acmp_eq, o_acmp_ne, o_is, o_ls, o_as, o_iinc, o_kill, o_sw, o_ireturn, o_zreturn, o_nreturn, o_lreturn, o_areturn, o_return, o_athrow, o_call, entP, lg_sl, Value.category, st1, st2, List.set, List.getElem?_cons_zero, List.getElem?_cons_succ, List.foldl, popN, aft, o_gI, o_gR, o_pI, o_pN, o_pR, o_aI, o_aG, o_aR, o_len, o_aR8, o_sI, o_sB, o_sZ, o_sG, o_new, o_newA, o_cast, o_inst, o_cst, o_oi, o_sR, o_gIc, o_gSv, o_gSc, o_getc, o_dead, o_acopy, o_castA, o_castI, o_sR7, o_mna, o_mmax, o_mmin, o_mabs, hT_sI, hT_sR, hT_sG, hL_sI, hL_sR, hL_sG, hI_sI, hI_sR, hI_sG, hG_sI, hG_sR, hG_sG, hR_sI, hR_sR, hR_sG, hN_sI, hN_sR, hN_sG, hC_sI, hC_sR, hC_sG, hS_sI, hS_sR, hS_sG, hT_nw, hL_nw, hI_nw, hG_nw, hR_nw, hN_nw, hC_nw, hS_nw, hvc, hvi, dspI, vref, va_rf, bX0_worked_23, bX0_worked_32, t, e, va_rf, t2, r4, n1, n2, nn_in e3, nn_clamp e3, e2, n3 q e2]
  exact k
theorem cc_row {x i : Int32} (h : CC κ σ o l P wr bg rn RA H) (k : Q (.inl (some (.int (sRow rn x i)))) σ) : pX0_row κ [.ref o, .int x, .int i] σ Q := by
  have t := h.t0
  simp [pX0_row, bX0_row_0, bX0_row_40, bX0_row_41, o_ic, o_lc, o_null, o_il, o_ll, o_al, o_dup, o_pop, o_dup_x1, o_dup2, o_iadd, o_isub, o_imul, o_iand, o_ior, o_ixor, o_ishl, o_ishr, o_idiv, o_irem, o_ineg, o_ladd, o_lsub, o_lmul, o_land, o_lor, o_lxor, o_ldiv, o_lrem, o_lneg, o_lcmp, o_i2l, o_l2i, o_i2b, o_i2c, o_iushr, o_lshl, o_lshr, o_if_eq, o_if_ne, o_if_lt, o_if_ge, o_if_gt, o_if_le, o_icmp_eq, o_icmp_ne, o_icmp_lt, o_icmp_ge, o_icmp_gt, o_icmp_le, o_ifnull, o_ifnonnull, o_acmp_eq, o_acmp_ne, o_is, o_ls, o_as, o_iinc, o_kill, o_sw, o_ireturn, o_zreturn, o_nreturn, o_lreturn, o_areturn, o_return, o_athrow, o_call, entP, lg_sl, Value.category, st1, st2, List.set, List.getElem?_cons_zero, List.getElem?_cons_succ, List.foldl, popN, aft, o_gI, o_gR, o_pI, o_pN, o_pR, o_aI, o_aG, o_aR, o_len, o_aR8, o_sI, o_sB, o_sZ, o_sG, o_new, o_newA, o_cast, o_inst, o_cst, o_oi, o_sR, o_gIc, o_gSv, o_gSc, o_getc, o_dead, o_acopy, o_castA, o_castI, o_sR7, o_mna, o_mmax, o_mmin, o_mabs, hT_sI, hT_sR, hT_sG, hL_sI, hL_sR, hL_sG, hI_sI, hI_sR, hI_sG, hG_sI, hG_sR, hG_sG, hR_sI, hR_sR, hR_sG, hN_sI, hN_sR, hN_sG, hC_sI, hC_sR, hC_sG, hS_sI, hS_sR, hS_sG, hT_nw, hL_nw, hI_nw, hG_nw, hR_nw, hN_nw, hC_nw, hS_nw, hvc, hvi, dspI, vref, va_rf, t]
  unfold sRow at k
  rcases h.rn with ⟨e, z⟩ | ⟨a, e, la, rc⟩
  · simp [e, va_rf, o_ic, o_lc, o_null, o_il, o_ll, o_al, o_dup, o_pop, o_dup_x1, o_dup2, o_iadd, o_isub, o_imul, o_iand, o_ior, o_ixor, o_ishl, o_ishr, o_idiv, o_irem, o_ineg, o_ladd, o_lsub, o_lmul, o_land, o_lor, o_lxor, o_ldiv, o_lrem, o_lneg, o_lcmp, o_i2l, o_l2i, o_i2b, o_i2c, o_iushr, o_lshl, o_lshr, o_if_eq, o_if_ne, o_if_lt, o_if_ge, o_if_gt, o_if_le, o_icmp_eq, o_icmp_ne, o_icmp_lt, o_icmp_ge, o_icmp_gt, o_icmp_le, o_ifnull, o_ifnonnull, o_acmp_eq, o_acmp_ne, o_is, o_ls, o_as, o_iinc, o_kill, o_sw, o_ireturn, o_zreturn, o_nreturn, o_lreturn, o_areturn, o_return, o_athrow, o_call, entP, lg_sl, Value.category, st1, st2, List.set, List.getElem?_cons_zero, List.getElem?_cons_succ, List.foldl, popN, aft]
    split at k
    · next j _ => rw [z.2.2.1 _] at k; exact k
    · exact k
  obtain ⟨t2, ⟨r2, r3, r4, r5, r6⟩, -, -, -, ⟨n1, n2, n3⟩, -⟩ := rc
  simp [e, va_rf, o_ic, o_lc, o_null, o_il, o_ll, o_al, o_dup, o_pop, o_dup_x1, o_dup2, o_iadd, o_isub, o_imul, o_iand, o_ior, o_ixor, o_ishl, o_ishr, o_idiv, o_irem, o_ineg, o_ladd, o_lsub, o_lmul, o_land, o_lor, o_lxor, o_ldiv, o_lrem, o_lneg, o_lcmp, o_i2l, o_l2i, o_i2b, o_i2c, o_iushr, o_lshl, o_lshr, o_if_eq, o_if_ne, o_if_lt, o_if_ge, o_if_gt, o_if_le, o_icmp_eq, o_icmp_ne, o_icmp_lt, o_icmp_ge, o_icmp_gt, o_icmp_le, o_ifnull, o_ifnonnull, o_acmp_eq, o_acmp_ne, o_is, o_ls, o_as, o_iinc, o_kill, o_sw, o_ireturn, o_zreturn, o_nreturn, o_lreturn, o_areturn, o_return, o_athrow, o_call, entP, lg_sl, Value.category, st1, st2, List.set, List.getElem?_cons_zero, List.getElem?_cons_succ, List.foldl, popN, aft]
  refine ct_in0 (n := 2) (by omega) (by decide) (fun q hq => ?_) (fun hq => ?_)
  rotate_left
  · rw [hq] at k
    simp [o_ic, o_lc, o_null, o_il, o_ll, o_al, o_dup, o_pop, o_dup_x1, o_dup2, o_iadd, o_isub, o_imul, o_iand, o_ior, o_ixor, o_ishl, o_ishr, o_idiv, o_irem, o_ineg, o_ladd, o_lsub, o_lmul, o_land, o_lor, o_lxor, o_ldiv, o_lrem, o_lneg, o_lcmp, o_i2l, o_l2i, o_i2b, o_i2c, o_iushr, o_lshl, o_lshr, o_if_eq, o_if_ne, o_if_lt, o_if_ge, o_if_gt, o_if_le, o_icmp_eq, o_icmp_ne, o_icmp_lt, o_icmp_ge, o_icmp_gt, o_icmp_le, o_ifnull, o_ifnonnull, o_acmp_eq, o_acmp_ne, o_is, o_ls, o_as, o_iinc, o_kill, o_sw, o_ireturn, o_zreturn, o_nreturn, o_lreturn, o_areturn, o_return, o_athrow, o_call, entP, lg_sl, Value.category, st1, st2, List.set, List.getElem?_cons_zero, List.getElem?_cons_succ, List.foldl, popN, aft]
    exact k
  simp [o_ic, o_lc, o_null, o_il, o_ll, o_al, o_dup, o_pop, o_dup_x1, o_dup2, o_iadd, o_isub, o_imul, o_iand, o_ior, o_ixor, o_ishl, o_ishr, o_idiv, o_irem, o_ineg, o_ladd, o_lsub, o_lmul, o_land, o_lor, o_lxor, o_ldiv, o_lrem, o_lneg, o_lcmp, o_i2l, o_l2i, o_i2b, o_i2c, o_iushr, o_lshl, o_lshr, o_if_eq, o_if_ne, o_if_lt, o_if_ge, o_if_gt, o_if_le, o_icmp_eq, o_icmp_ne, o_icmp_lt, o_icmp_ge, o_icmp_gt, o_icmp_le, o_ifnull, o_ifnonnull, o_acmp_eq, o_acmp_ne, o_is, o_ls, o_as, o_iinc, o_kill, o_sw, o_ireturn, o_zreturn, o_nreturn, o_lreturn, o_areturn, o_return, o_athrow, o_call, entP, lg_sl, Value.category, st1, st2, List.set, List.getElem?_cons_zero, List.getElem?_cons_succ, List.foldl, popN, aft]
  refine ct_in0 (n := 8) (by omega) (by decide) (fun j hj => ?_) (fun hj => ?_)
  rotate_left
  · rw [hj] at k
    simp [o_ic, o_lc, o_null, o_il, o_ll, o_al, o_dup, o_pop, o_dup_x1, o_dup2, o_iadd, o_isub, o_imul, o_iand, o_ior, o_ixor, o_ishl, o_ishr, o_idiv, o_irem, o_ineg, o_ladd, o_lsub, o_lmul, o_land, o_lor, o_lxor, o_ldiv, o_lrem, o_lneg, o_lcmp, o_i2l, o_l2i, o_i2b, o_i2c, o_iushr, o_lshl, o_lshr, o_if_eq, o_if_ne, o_if_lt, o_if_ge, o_if_gt, o_if_le, o_icmp_eq, o_icmp_ne, o_icmp_lt, o_icmp_ge, o_icmp_gt, o_icmp_le, o_ifnull, o_ifnonnull, o_acmp_eq, o_acmp_ne, o_is, o_ls, o_as, o_iinc, o_kill, o_sw, o_ireturn, o_zreturn, o_nreturn, o_lreturn, o_areturn, o_return, o_athrow, o_call, entP, lg_sl, Value.category, st1, st2, List.set, List.getElem?_cons_zero, List.getElem?_cons_succ, List.foldl, popN, aft]
    cases hq2 : ix x 2 with
    | none => rw [hq2] at k; exact k
    | some _ => rw [hq2] at k; exact k
  rw [hq, hj] at k
  obtain ⟨rfl, e2, e3⟩ := ix_some hq
  obtain ⟨rfl, f2, f3⟩ := ix_some hj
  obtain ⟨x1, x2, x3, x4⟩ := n3 q e2
  simp [o_ic, o_lc, o_null, o_il, o_ll, o_al, o_dup, o_pop, o_dup_x1, o_dup2, o_iadd, o_isub, o_imul, o_iand, o_ior, o_ixor, o_ishl, o_ishr, o_idiv, o_irem, o_ineg, o_ladd, o_lsub, o_lmul, o_land, o_lor, o_lxor, o_ldiv, o_lrem, o_lneg, o_lcmp, o_i2l, o_l2i, o_i2b, o_i2c, o_iushr, o_lshl, o_lshr, o_if_eq, o_if_ne, o_if_lt, o_if_ge, o_if_gt, o_if_le, o_icmp_eq, o_icmp_ne, o_icmp_lt, o_icmp_ge, o_icmp_gt, o_icmp_le, o_ifnull, o_ifnonnull, o_acmp_eq, o_acmp_ne, o_is, o_ls, o_as, o_iinc, o_kill, o_sw, o_ireturn, o_zreturn, o_nreturn, o_lreturn, o_areturn, o_return, o_athrow, o_call, entP, lg_sl, Value.category, st1, st2, List.set, List.getElem?_cons_zero, List.getElem?_cons_succ, List.foldl, popN, aft, o_gI, o_gR, o_pI, o_pN, o_pR, o_aI, o_aG, o_aR, o_len, o_aR8, o_sI, o_sB, o_sZ, o_sG, o_new, o_newA, o_cast, o_inst, o_cst, o_oi, o_sR, o_gIc, o_gSv, o_gSc, o_getc, o_dead, o_acopy, o_castA, o_castI, o_sR7, o_mna, o_mmax, o_mmin, o_mabs, hT_sI, hT_sR, hT_sG, hL_sI, hL_sR, hL_sG, hI_sI, hI_sR, hI_sG, hG_sI, hG_sR, hG_sG, hR_sI, hR_sR, hR_sG, hN_sI, hN_sR, hN_sG, hC_sI, hC_sR, hC_sG, hS_sI, hS_sR, hS_sG, hT_nw, hL_nw, hI_nw, hG_nw, hR_nw, hN_nw, hC_nw, hS_nw, hvc, hvi, dspI, vref, va_rf, t, e, va_rf, t2, r6, n1, n2, nn_in e3, nn_clamp e3, e2, x1, x2, x3, nn_in f3, nn_clamp f3, f2, x4 j f2]
  exact k
theorem ct_told {i : Int32} (h : CC κ σ o l P wr bg rn RA H) (k : Q (.inl (some (.int (sTold rn i)))) σ) : pX0_told κ [.ref o, .int i] σ Q := by
  have t := h.t0
  simp [pX0_told, bX0_told_0, bX0_told_40, bX0_told_41, o_ic, o_lc, o_null, o_il, o_ll, o_al, o_dup, o_pop, o_dup_x1, o_dup2, o_iadd, o_isub, o_imul, o_iand, o_ior, o_ixor, o_ishl, o_ishr, o_idiv, o_irem, o_ineg, o_ladd, o_lsub, o_lmul, o_land, o_lor, o_lxor, o_ldiv, o_lrem, o_lneg, o_lcmp, o_i2l, o_l2i, o_i2b, o_i2c, o_iushr, o_lshl, o_lshr, o_if_eq, o_if_ne, o_if_lt, o_if_ge, o_if_gt, o_if_le, o_icmp_eq, o_icmp_ne, o_icmp_lt, o_icmp_ge, o_icmp_gt, o_icmp_le, o_ifnull, o_ifnonnull, o_acmp_eq, o_acmp_ne, o_is, o_ls, o_as, o_iinc, o_kill, o_sw, o_ireturn, o_zreturn, o_nreturn, o_lreturn, o_areturn, o_return, o_athrow, o_call, entP, lg_sl, Value.category, st1, st2, List.set, List.getElem?_cons_zero, List.getElem?_cons_succ, List.foldl, popN, aft, o_gI, o_gR, o_pI, o_pN, o_pR, o_aI, o_aG, o_aR, o_len, o_aR8, o_sI, o_sB, o_sZ, o_sG, o_new, o_newA, o_cast, o_inst, o_cst, o_oi, o_sR, o_gIc, o_gSv, o_gSc, o_getc, o_dead, o_acopy, o_castA, o_castI, o_sR7, o_mna, o_mmax, o_mmin, o_mabs, hT_sI, hT_sR, hT_sG, hL_sI, hL_sR, hL_sG, hI_sI, hI_sR, hI_sG, hG_sI, hG_sR, hG_sG, hR_sI, hR_sR, hR_sG, hN_sI, hN_sR, hN_sG, hC_sI, hC_sR, hC_sG, hS_sI, hS_sR, hS_sG, hT_nw, hL_nw, hI_nw, hG_nw, hR_nw, hN_nw, hC_nw, hS_nw, hvc, hvi, dspI, vref, va_rf, t]
  unfold sTold at k
  rcases h.rn with ⟨e, z⟩ | ⟨a, e, la, rc⟩
  · simp [e, va_rf, o_ic, o_lc, o_null, o_il, o_ll, o_al, o_dup, o_pop, o_dup_x1, o_dup2, o_iadd, o_isub, o_imul, o_iand, o_ior, o_ixor, o_ishl, o_ishr, o_idiv, o_irem, o_ineg, o_ladd, o_lsub, o_lmul, o_land, o_lor, o_lxor, o_ldiv, o_lrem, o_lneg, o_lcmp, o_i2l, o_l2i, o_i2b, o_i2c, o_iushr, o_lshl, o_lshr, o_if_eq, o_if_ne, o_if_lt, o_if_ge, o_if_gt, o_if_le, o_icmp_eq, o_icmp_ne, o_icmp_lt, o_icmp_ge, o_icmp_gt, o_icmp_le, o_ifnull, o_ifnonnull, o_acmp_eq, o_acmp_ne, o_is, o_ls, o_as, o_iinc, o_kill, o_sw, o_ireturn, o_zreturn, o_nreturn, o_lreturn, o_areturn, o_return, o_athrow, o_call, entP, lg_sl, Value.category, st1, st2, List.set, List.getElem?_cons_zero, List.getElem?_cons_succ, List.foldl, popN, aft]
    rw [z.2.2.2.2.2.1] at k
    split at k
    · exact k
    · exact k
  obtain ⟨t2, ⟨r2, r3, r4, r5, r6⟩, -, -, ⟨n1, n2, n3⟩, -, -, -, i9, -, bl, -⟩ := rc
  simp [e, va_rf, o_ic, o_lc, o_null, o_il, o_ll, o_al, o_dup, o_pop, o_dup_x1, o_dup2, o_iadd, o_isub, o_imul, o_iand, o_ior, o_ixor, o_ishl, o_ishr, o_idiv, o_irem, o_ineg, o_ladd, o_lsub, o_lmul, o_land, o_lor, o_lxor, o_ldiv, o_lrem, o_lneg, o_lcmp, o_i2l, o_l2i, o_i2b, o_i2c, o_iushr, o_lshl, o_lshr, o_if_eq, o_if_ne, o_if_lt, o_if_ge, o_if_gt, o_if_le, o_icmp_eq, o_icmp_ne, o_icmp_lt, o_icmp_ge, o_icmp_gt, o_icmp_le, o_ifnull, o_ifnonnull, o_acmp_eq, o_acmp_ne, o_is, o_ls, o_as, o_iinc, o_kill, o_sw, o_ireturn, o_zreturn, o_nreturn, o_lreturn, o_areturn, o_return, o_athrow, o_call, entP, lg_sl, Value.category, st1, st2, List.set, List.getElem?_cons_zero, List.getElem?_cons_succ, List.foldl, popN, aft, o_gI, o_gR, o_pI, o_pN, o_pR, o_aI, o_aG, o_aR, o_len, o_aR8, o_sI, o_sB, o_sZ, o_sG, o_new, o_newA, o_cast, o_inst, o_cst, o_oi, o_sR, o_gIc, o_gSv, o_gSc, o_getc, o_dead, o_acopy, o_castA, o_castI, o_sR7, o_mna, o_mmax, o_mmin, o_mabs, hT_sI, hT_sR, hT_sG, hL_sI, hL_sR, hL_sG, hI_sI, hI_sR, hI_sG, hG_sI, hG_sR, hG_sG, hR_sI, hR_sR, hR_sG, hN_sI, hN_sR, hN_sG, hC_sI, hC_sR, hC_sG, hS_sI, hS_sR, hS_sG, hT_nw, hL_nw, hI_nw, hG_nw, hR_nw, hN_nw, hC_nw, hS_nw, hvc, hvi, dspI, vref, va_rf, t, t2, i9]
  have bl' : rn.2.2.2.2.2.2.1.length < 2147483648 := by omega
  rcases ix_cases i (min rn.2.2.2.2.2.2.1.length 100) (by omega) with ⟨j, hj, rfl, hi, bj⟩ | ⟨hi, hr⟩
  · rw [hi] at k
    simp only at k
    have m1 : ¬ rn.2.2.2.2.2.2.1.length ≤ j := by omega
    have m2 : j < rn.2.2.2.2.2.2.1.length := by omega
    have m3 : j < 100 := by omega
    have hg : rn.2.2.2.2.2.2.1[j]? = some (rn.2.2.2.2.2.2.1.getD j 0) := by rw [List.getD_eq_getElem?_getD, List.getElem?_eq_getElem m2]; rfl
    simp [o_ic, o_lc, o_null, o_il, o_ll, o_al, o_dup, o_pop, o_dup_x1, o_dup2, o_iadd, o_isub, o_imul, o_iand, o_ior, o_ixor, o_ishl, o_ishr, o_idiv, o_irem, o_ineg, o_ladd, o_lsub, o_lmul, o_land, o_lor, o_lxor, o_ldiv, o_lrem, o_lneg, o_lcmp, o_i2l, o_l2i, o_i2b, o_i2c, o_iushr, o_lshl, o_lshr, o_if_eq, o_if_ne, o_if_lt, o_if_ge, o_if_gt, o_if_le, o_icmp_eq, o_icmp_ne, o_icmp_lt, o_icmp_ge, o_icmp_gt, o_icmp_le, o_ifnull, o_ifnonnull, o_acmp_eq, o_acmp_ne, o_is, o_ls, o_as, o_iinc, o_kill, o_sw, o_ireturn, o_zreturn, o_nreturn, o_lreturn, o_areturn, o_return, o_athrow, o_call, entP, lg_sl, Value.category, st1, st2, List.set, List.getElem?_cons_zero, List.getElem?_cons_succ, List.foldl, popN, aft, o_gI, o_gR, o_pI, o_pN, o_pR, o_aI, o_aG, o_aR, o_len, o_aR8, o_sI, o_sB, o_sZ, o_sG, o_new, o_newA, o_cast, o_inst, o_cst, o_oi, o_sR, o_gIc, o_gSv, o_gSc, o_getc, o_dead, o_acopy, o_castA, o_castI, o_sR7, o_mna, o_mmax, o_mmin, o_mabs, hT_sI, hT_sR, hT_sG, hL_sI, hL_sR, hL_sG, hI_sI, hI_sR, hI_sG, hG_sI, hG_sR, hG_sG, hR_sI, hR_sR, hR_sG, hN_sI, hN_sR, hN_sG, hC_sI, hC_sR, hC_sG, hS_sI, hS_sR, hS_sG, hT_nw, hL_nw, hI_nw, hG_nw, hR_nw, hN_nw, hC_nw, hS_nw, hvc, hvi, dspI, vref, va_rf, vpL, nn_addL, nn_addR, nn_mulL, nn_add, nn_mul, nn_eqL, nn_ltL, nn_leL, nn_Llt, nn_Lle, nn_lt, nn_le, nn_eq, nn_in, nn_clamp, nn_succ, nn_pos, nn_neg1, t, e, va_rf, t2, r5, n1, n2, bl', bj, m1, m2, m3, n3 j _ m3 hg]
    rw [List.getD_eq_getElem?_getD, List.getElem?_eq_getElem m2] at k
    exact ⟨fun z => by omega, k⟩
  · rw [hi] at k
    simp only at k
    refine ⟨fun _ => k, fun g1 => ⟨fun _ => k, fun g2 => ⟨fun _ => k, fun g3 => ?_⟩⟩⟩
    exfalso
    rcases hr with hr | hr
    · exact (ab1 hr g1).elim
    · rw [Int32.lt_iff_toInt_lt] at g2 g3
      rw [Int32.le_iff_toInt_le, nn_toInt (by omega)] at hr
      rw [nn_toInt bl'] at g2
      have e : (100 : Int32).toInt = 100 := rfl
      omega
theorem ct_ran {w : Int32} (h : CC κ σ o l P wr bg rn RA H) (k : Q (.inl (some (.int (sRan rn w)))) σ) : pX0_ran κ [.ref o, .int w] σ Q := by
  have t := h.t0
  simp [pX0_ran, bX0_ran_0, o_ic, o_lc, o_null, o_il, o_ll, o_al, o_dup, o_pop, o_dup_x1, o_dup2, o_iadd, o_isub, o_imul, o_iand, o_ior, o_ixor, o_ishl, o_ishr, o_idiv, o_irem, o_ineg, o_ladd, o_lsub, o_lmul, o_land, o_lor, o_lxor, o_ldiv, o_lrem, o_lneg, o_lcmp, o_i2l, o_l2i, o_i2b, o_i2c, o_iushr, o_lshl, o_lshr, o_if_eq, o_if_ne, o_if_lt, o_if_ge, o_if_gt, o_if_le, o_icmp_eq, o_icmp_ne, o_icmp_lt, o_icmp_ge, o_icmp_gt, o_icmp_le, o_ifnull, o_ifnonnull, o_acmp_eq, o_acmp_ne, o_is, o_ls, o_as, o_iinc, o_kill, o_sw, o_ireturn, o_zreturn, o_nreturn, o_lreturn, o_areturn, o_return, o_athrow, o_call, entP, lg_sl, Value.category, st1, st2, List.set, List.getElem?_cons_zero, List.getElem?_cons_succ, List.foldl, popN, aft, o_gI, o_gR, o_pI, o_pN, o_pR, o_aI, o_aG, o_aR, o_len, o_aR8, o_sI, o_sB, o_sZ, o_sG, o_new, o_newA, o_cast, o_inst, o_cst, o_oi, o_sR, o_gIc, o_gSv, o_gSc, o_getc, o_dead, o_acopy, o_castA, o_castI, o_sR7, o_mna, o_mmax, o_mmin, o_mabs, hT_sI, hT_sR, hT_sG, hL_sI, hL_sR, hL_sG, hI_sI, hI_sR, hI_sG, hG_sI, hG_sR, hG_sG, hR_sI, hR_sR, hR_sG, hN_sI, hN_sR, hN_sG, hC_sI, hC_sR, hC_sG, hS_sI, hS_sR, hS_sG, hT_nw, hL_nw, hI_nw, hG_nw, hR_nw, hN_nw, hC_nw, hS_nw, hvc, hvi, dspI, vref, va_rf, t]
  refine ct_in0 (n := 5) (by omega) (by decide) (fun q hq => ?_) (fun hq => ?_)
  rotate_left
  · simp [o_ic, o_lc, o_null, o_il, o_ll, o_al, o_dup, o_pop, o_dup_x1, o_dup2, o_iadd, o_isub, o_imul, o_iand, o_ior, o_ixor, o_ishl, o_ishr, o_idiv, o_irem, o_ineg, o_ladd, o_lsub, o_lmul, o_land, o_lor, o_lxor, o_ldiv, o_lrem, o_lneg, o_lcmp, o_i2l, o_l2i, o_i2b, o_i2c, o_iushr, o_lshl, o_lshr, o_if_eq, o_if_ne, o_if_lt, o_if_ge, o_if_gt, o_if_le, o_icmp_eq, o_icmp_ne, o_icmp_lt, o_icmp_ge, o_icmp_gt, o_icmp_le, o_ifnull, o_ifnonnull, o_acmp_eq, o_acmp_ne, o_is, o_ls, o_as, o_iinc, o_kill, o_sw, o_ireturn, o_zreturn, o_nreturn, o_lreturn, o_areturn, o_return, o_athrow, o_call, entP, lg_sl, Value.category, st1, st2, List.set, List.getElem?_cons_zero, List.getElem?_cons_succ, List.foldl, popN, aft]
    have : sRan rn w = -1 := by
      unfold sRan
      rw [if_neg (fun z => by rw [z] at hq; revert hq; decide), if_neg (fun z => by rw [z] at hq; revert hq; decide), if_neg (fun z => by rw [z] at hq; revert hq; decide), if_neg (fun z => by rw [z] at hq; revert hq; decide), if_neg (fun z => by rw [z] at hq; revert hq; decide)]
    rw [this] at k
    exact k
  obtain ⟨rfl, e2, e3⟩ := ix_some hq
  simp [o_ic, o_lc, o_null, o_il, o_ll, o_al, o_dup, o_pop, o_dup_x1, o_dup2, o_iadd, o_isub, o_imul, o_iand, o_ior, o_ixor, o_ishl, o_ishr, o_idiv, o_irem, o_ineg, o_ladd, o_lsub, o_lmul, o_land, o_lor, o_lxor, o_ldiv, o_lrem, o_lneg, o_lcmp, o_i2l, o_l2i, o_i2b, o_i2c, o_iushr, o_lshl, o_lshr, o_if_eq, o_if_ne, o_if_lt, o_if_ge, o_if_gt, o_if_le, o_icmp_eq, o_icmp_ne, o_icmp_lt, o_icmp_ge, o_icmp_gt, o_icmp_le, o_ifnull, o_ifnonnull, o_acmp_eq, o_acmp_ne, o_is, o_ls, o_as, o_iinc, o_kill, o_sw, o_ireturn, o_zreturn, o_nreturn, o_lreturn, o_areturn, o_return, o_athrow, o_call, entP, lg_sl, Value.category, st1, st2, List.set, List.getElem?_cons_zero, List.getElem?_cons_succ, List.foldl, popN, aft, o_gI, o_gR, o_pI, o_pN, o_pR, o_aI, o_aG, o_aR, o_len, o_aR8, o_sI, o_sB, o_sZ, o_sG, o_new, o_newA, o_cast, o_inst, o_cst, o_oi, o_sR, o_gIc, o_gSv, o_gSc, o_getc, o_dead, o_acopy, o_castA, o_castI, o_sR7, o_mna, o_mmax, o_mmin, o_mabs, hT_sI, hT_sR, hT_sG, hL_sI, hL_sR, hL_sG, hI_sI, hI_sR, hI_sG, hG_sI, hG_sR, hG_sG, hR_sI, hR_sR, hR_sG, hN_sI, hN_sR, hN_sG, hC_sI, hC_sR, hC_sG, hS_sI, hS_sR, hS_sG, hT_nw, hL_nw, hI_nw, hG_nw, hR_nw, hN_nw, hC_nw, hS_nw, hvc, hvi, dspI, vref, va_rf, bX0_ran_11, t]
  rcases h.rn with ⟨e, z⟩ | ⟨a, e, la, rc⟩
  · obtain ⟨z1, z2, z3, z4, z5, z6, z7⟩ := z
    have : sRan rn (nn q) = 0 := by
      unfold sRan
      rw [z1, z5, z6, z7]
      rcases (by omega : q = 0 ∨ q = 1 ∨ q = 2 ∨ q = 3 ∨ q = 4) with rfl | rfl | rfl | rfl | rfl <;> rfl
    rw [this] at k
    simp [o_ic, o_lc, o_null, o_il, o_ll, o_al, o_dup, o_pop, o_dup_x1, o_dup2, o_iadd, o_isub, o_imul, o_iand, o_ior, o_ixor, o_ishl, o_ishr, o_idiv, o_irem, o_ineg, o_ladd, o_lsub, o_lmul, o_land, o_lor, o_lxor, o_ldiv, o_lrem, o_lneg, o_lcmp, o_i2l, o_l2i, o_i2b, o_i2c, o_iushr, o_lshl, o_lshr, o_if_eq, o_if_ne, o_if_lt, o_if_ge, o_if_gt, o_if_le, o_icmp_eq, o_icmp_ne, o_icmp_lt, o_icmp_ge, o_icmp_gt, o_icmp_le, o_ifnull, o_ifnonnull, o_acmp_eq, o_acmp_ne, o_is, o_ls, o_as, o_iinc, o_kill, o_sw, o_ireturn, o_zreturn, o_nreturn, o_lreturn, o_areturn, o_return, o_athrow, o_call, entP, lg_sl, Value.category, st1, st2, List.set, List.getElem?_cons_zero, List.getElem?_cons_succ, List.foldl, popN, aft, e, va_rf]
    exact k
  obtain ⟨t2, ⟨r2, r3, r4, r5, r6⟩, -, ⟨w1, w2, w3⟩, -, -, i7, i8, i9, i10, -, -, sm⟩ := rc
  simp [o_ic, o_lc, o_null, o_il, o_ll, o_al, o_dup, o_pop, o_dup_x1, o_dup2, o_iadd, o_isub, o_imul, o_iand, o_ior, o_ixor, o_ishl, o_ishr, o_idiv, o_irem, o_ineg, o_ladd, o_lsub, o_lmul, o_land, o_lor, o_lxor, o_ldiv, o_lrem, o_lneg, o_lcmp, o_i2l, o_l2i, o_i2b, o_i2c, o_iushr, o_lshl, o_lshr, o_if_eq, o_if_ne, o_if_lt, o_if_ge, o_if_gt, o_if_le, o_icmp_eq, o_icmp_ne, o_icmp_lt, o_icmp_ge, o_icmp_gt, o_icmp_le, o_ifnull, o_ifnonnull, o_acmp_eq, o_acmp_ne, o_is, o_ls, o_as, o_iinc, o_kill, o_sw, o_ireturn, o_zreturn, o_nreturn, o_lreturn, o_areturn, o_return, o_athrow, o_call, entP, lg_sl, Value.category, st1, st2, List.set, List.getElem?_cons_zero, List.getElem?_cons_succ, List.foldl, popN, aft, o_gI, o_gR, o_pI, o_pN, o_pR, o_aI, o_aG, o_aR, o_len, o_aR8, o_sI, o_sB, o_sZ, o_sG, o_new, o_newA, o_cast, o_inst, o_cst, o_oi, o_sR, o_gIc, o_gSv, o_gSc, o_getc, o_dead, o_acopy, o_castA, o_castI, o_sR7, o_mna, o_mmax, o_mmin, o_mabs, hT_sI, hT_sR, hT_sG, hL_sI, hL_sR, hL_sG, hI_sI, hI_sR, hI_sG, hG_sI, hG_sR, hG_sG, hR_sI, hR_sR, hR_sG, hN_sI, hN_sR, hN_sG, hC_sI, hC_sR, hC_sG, hS_sI, hS_sR, hS_sG, hT_nw, hL_nw, hI_nw, hG_nw, hR_nw, hN_nw, hC_nw, hS_nw, hvc, hvi, dspI, vref, va_rf, e, va_rf, bX0_ran_20, t, t2, r4, w1, w2]
  unfold sRan at k
  refine ⟨fun g => ?_, fun g => ?_⟩
  rotate_left
  · rw [if_neg (by rw [g]; decide), if_neg (by rw [g]; decide), if_neg (by rw [g]; decide), if_neg (by rw [g]; decide), if_pos g] at k
    unfold bX0_ran_42
    intro X hX
    have hind : ∀ r i acc, i + r = 32 → acc = sumN rn.2.2.2.2.1 i → X [none, none, some (.int (nn acc)), some (.ref (a + 3)), some (.int 32), some (.int (nn i)), none] [] σ := by
      intro r
      induction r with
      | zero =>
        intro i acc hi ha
        have : i = 32 := by omega
        subst this
        apply hX
        rw [ha, sm]
        simp [o_ic, o_lc, o_null, o_il, o_ll, o_al, o_dup, o_pop, o_dup_x1, o_dup2, o_iadd, o_isub, o_imul, o_iand, o_ior, o_ixor, o_ishl, o_ishr, o_idiv, o_irem, o_ineg, o_ladd, o_lsub, o_lmul, o_land, o_lor, o_lxor, o_ldiv, o_lrem, o_lneg, o_lcmp, o_i2l, o_l2i, o_i2b, o_i2c, o_iushr, o_lshl, o_lshr, o_if_eq, o_if_ne, o_if_lt, o_if_ge, o_if_gt, o_if_le, o_icmp_eq, o_icmp_ne, o_icmp_lt, o_icmp_ge, o_icmp_gt, o_icmp_le, o_ifnull, o_ifnonnull, o_acmp_eq, o_acmp_ne, o_is, o_ls, o_as, o_iinc, o_kill, o_sw, o_ireturn, o_zreturn, o_nreturn, o_lreturn, o_areturn, o_return, o_athrow, o_call, entP, lg_sl, Value.category, st1, st2, List.set, List.getElem?_cons_zero, List.getElem?_cons_succ, List.foldl, popN, aft, bX0_ran_66]
        exact ⟨fun _ => k, fun z => absurd z (by decide)⟩
      | succ r ih =>
        intro i acc hi ha
        apply hX
        have i32 : i < 32 := by omega
        have bi : i < 2147483648 := by omega
        simp [o_ic, o_lc, o_null, o_il, o_ll, o_al, o_dup, o_pop, o_dup_x1, o_dup2, o_iadd, o_isub, o_imul, o_iand, o_ior, o_ixor, o_ishl, o_ishr, o_idiv, o_irem, o_ineg, o_ladd, o_lsub, o_lmul, o_land, o_lor, o_lxor, o_ldiv, o_lrem, o_lneg, o_lcmp, o_i2l, o_l2i, o_i2b, o_i2c, o_iushr, o_lshl, o_lshr, o_if_eq, o_if_ne, o_if_lt, o_if_ge, o_if_gt, o_if_le, o_icmp_eq, o_icmp_ne, o_icmp_lt, o_icmp_ge, o_icmp_gt, o_icmp_le, o_ifnull, o_ifnonnull, o_acmp_eq, o_acmp_ne, o_is, o_ls, o_as, o_iinc, o_kill, o_sw, o_ireturn, o_zreturn, o_nreturn, o_lreturn, o_areturn, o_return, o_athrow, o_call, entP, lg_sl, Value.category, st1, st2, List.set, List.getElem?_cons_zero, List.getElem?_cons_succ, List.foldl, popN, aft, o_gI, o_gR, o_pI, o_pN, o_pR, o_aI, o_aG, o_aR, o_len, o_aR8, o_sI, o_sB, o_sZ, o_sG, o_new, o_newA, o_cast, o_inst, o_cst, o_oi, o_sR, o_gIc, o_gSv, o_gSc, o_getc, o_dead, o_acopy, o_castA, o_castI, o_sR7, o_mna, o_mmax, o_mmin, o_mabs, hT_sI, hT_sR, hT_sG, hL_sI, hL_sR, hL_sG, hI_sI, hI_sR, hI_sG, hG_sI, hG_sR, hG_sG, hR_sI, hR_sR, hR_sG, hN_sI, hN_sR, hN_sG, hC_sI, hC_sR, hC_sG, hS_sI, hS_sR, hS_sG, hT_nw, hL_nw, hI_nw, hG_nw, hR_nw, hN_nw, hC_nw, hS_nw, hvc, hvi, dspI, vref, va_rf, nn_eqL, nn_ltL, nn_leL, nn_Llt, nn_Lle, nn_lt, nn_le, nn_eq, nn_in, nn_clamp, nn_succ, nn_pos, nn_neg1, vpL, nn_addL, nn_addR, nn_mulL, nn_add, nn_mul, i32, bi, w1, w2, w3 i i32]
        exact ⟨fun z => by omega, ih (i + 1) _ (by omega) (by rw [ha]; rfl)⟩
    exact hind 32 0 0 rfl rfl
  · have n4 : ¬ nn q = 4 := g
    simp [o_ic, o_lc, o_null, o_il, o_ll, o_al, o_dup, o_pop, o_dup_x1, o_dup2, o_iadd, o_isub, o_imul, o_iand, o_ior, o_ixor, o_ishl, o_ishr, o_idiv, o_irem, o_ineg, o_ladd, o_lsub, o_lmul, o_land, o_lor, o_lxor, o_ldiv, o_lrem, o_lneg, o_lcmp, o_i2l, o_l2i, o_i2b, o_i2c, o_iushr, o_lshl, o_lshr, o_if_eq, o_if_ne, o_if_lt, o_if_ge, o_if_gt, o_if_le, o_icmp_eq, o_icmp_ne, o_icmp_lt, o_icmp_ge, o_icmp_gt, o_icmp_le, o_ifnull, o_ifnonnull, o_acmp_eq, o_acmp_ne, o_is, o_ls, o_as, o_iinc, o_kill, o_sw, o_ireturn, o_zreturn, o_nreturn, o_lreturn, o_areturn, o_return, o_athrow, o_call, entP, lg_sl, Value.category, st1, st2, List.set, List.getElem?_cons_zero, List.getElem?_cons_succ, List.foldl, popN, aft, o_gI, o_gR, o_pI, o_pN, o_pR, o_aI, o_aG, o_aR, o_len, o_aR8, o_sI, o_sB, o_sZ, o_sG, o_new, o_newA, o_cast, o_inst, o_cst, o_oi, o_sR, o_gIc, o_gSv, o_gSc, o_getc, o_dead, o_acopy, o_castA, o_castI, o_sR7, o_mna, o_mmax, o_mmin, o_mabs, hT_sI, hT_sR, hT_sG, hL_sI, hL_sR, hL_sG, hI_sI, hI_sR, hI_sG, hG_sI, hG_sR, hG_sG, hR_sI, hR_sR, hR_sG, hN_sI, hN_sR, hN_sG, hC_sI, hC_sR, hC_sG, hS_sI, hS_sR, hS_sG, hT_nw, hL_nw, hI_nw, hG_nw, hR_nw, hN_nw, hC_nw, hS_nw, hvc, hvi, dspI, vref, va_rf, e, va_rf, bX0_ran_68, bX0_ran_82, bX0_ran_97, bX0_ran_112, bX0_ran_119, t, t2, i7, i8, i9, i10]
    have c5 : q = 0 ∨ q = 1 ∨ q = 2 ∨ q = 3 := by
      rcases (by omega : q = 0 ∨ q = 1 ∨ q = 2 ∨ q = 3 ∨ q = 4) with z | z | z | z | z
      · exact Or.inl z
      · exact Or.inr (Or.inl z)
      · exact Or.inr (Or.inr (Or.inl z))
      · exact Or.inr (Or.inr (Or.inr z))
      · exact absurd (by rw [z]; rfl) n4
    rcases c5 with rfl | rfl | rfl | rfl
    · exact ⟨fun z => absurd rfl z, fun _ => k⟩
    · exact ⟨fun _ => ⟨fun z => absurd rfl z, fun _ => k⟩, fun z => absurd z (by decide)⟩
    · exact ⟨fun _ => ⟨fun _ => ⟨fun z => absurd rfl z, fun _ => k⟩, fun z => absurd z (by decide)⟩, fun z => absurd z (by decide)⟩
    · exact ⟨fun _ => ⟨fun _ => ⟨fun _ => k, fun z => absurd z (by decide)⟩, fun z => absurd z (by decide)⟩, fun z => absurd z (by decide)⟩
end SA
