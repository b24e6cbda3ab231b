/-! THE COMPONENT: faults, signs -/
set_option maxRecDepth 100000
theorem Hok.nw {κ : Nat → Option Nat} {σ : AH} {t n m : Nat} (h : Hok κ σ) (ht : t ≠ 19) : Hok κ (hnw σ t n m) := by
  obtain ⟨f1, f2, dk, f3, f4, f5⟩ := h
  have hdk := f1.lt (a := dk) (by rw [f4]; decide)
  refine ⟨f1.nw, ⟨fun b e hb hb1 => ?_, fun b c e hb hc hb1 hc1 he => ?_⟩, dk, f3, ?_, ?_⟩
  · rw [hT_nw] at hb
    rw [hR_nw] at hb1
    rw [hN_nw]
    split at hb
    · exact absurd hb ht
    · have := f2.1 b e hb hb1; omega
  · rw [hT_nw] at hb hc he
    rw [hR_nw] at hb1 hc1
    split at hb
    · exact absurd hb ht
    · split at hc
      · exact absurd hc ht
      · have := f2.1 b e hb hb1
        rw [if_neg (by omega)] at he
        exact f2.2 b c e hb hc hb1 hc1 he
  · rw [hT_nw, if_neg (by omega)]; exact f4
  · rw [hL_nw, if_neg (by omega)]; exact f5
theorem Hok.sR {κ : Nat → Option Nat} {σ : AH} {a k : Nat} {v : Option Nat} (h : Hok κ σ) (ha : hT σ a ≠ 0) (h19 : hT σ a ≠ 19) : Hok κ (hsR σ a k v) := by
  obtain ⟨f1, f2, dk, f3, f4, f5⟩ := h
  refine ⟨f1.sR ha, ⟨fun b e hb hb1 => ?_, fun b c e hb hc hb1 hc1 he => ?_⟩, dk, f3, f4, f5⟩
  · rw [hR_sR, if_neg (fun q => h19 (by rw [← q.1]; exact hb))] at hb1
    exact f2.1 b e hb hb1
  · rw [hR_sR, if_neg (fun q => h19 (by rw [← q.1]; exact hb))] at hb1
    rw [hR_sR, if_neg (fun q => h19 (by rw [← q.1]; exact hc))] at hc1
    exact f2.2 b c e hb hc hb1 hc1 he
/-- what an object's own writes leave: only a is written -/
def OwC (κ : Nat → Option Nat) (a : Nat) (σ σ' : AH) : Prop := Hok κ σ' ∧ σ'.1 = σ.1 ∧ hT σ' = hT σ ∧ hL σ' = hL σ ∧ ∀ b, b ≠ a → ∀ j, hI σ' b j = hI σ b j ∧ hG σ' b j = hG σ b j ∧ hR σ' b j = hR σ b j
theorem OwC.rfl9 {κ : Nat → Option Nat} {a : Nat} {σ : AH} (h : Hok κ σ) : OwC κ a σ σ := ⟨h, rfl, rfl, rfl, fun _ _ _ => ⟨rfl, rfl, rfl⟩⟩
theorem OwC.sR {κ : Nat → Option Nat} {a k : Nat} {v : Option Nat} {σ σ' : AH} (h : OwC κ a σ σ') (ha : hT σ a ≠ 0) (h19 : hT σ a ≠ 19) : OwC κ a σ (hsR σ' a k v) := by
  obtain ⟨h1, h2, h3, h4, h5⟩ := h
  refine ⟨h1.sR (by rw [h3]; exact ha) (by rw [h3]; exact h19), h2, h3, h4, fun b hb j => ?_⟩
  rw [hI_sR, hG_sR, hR_sR, if_neg (fun q => hb q.1)]; exact h5 b hb j
theorem OwC.sI {κ : Nat → Option Nat} {a k : Nat} {v : Int32} {σ σ' : AH} (h : OwC κ a σ σ') (ha : hT σ a ≠ 0) : OwC κ a σ (hsI σ' a k v) := by
  obtain ⟨h1, h2, h3, h4, h5⟩ := h
  refine ⟨h1.sI (by rw [h3]; exact ha), h2, h3, h4, fun b hb j => ?_⟩
  rw [hI_sI, hG_sI, hR_sI, if_neg (fun q => hb q.1)]; exact h5 b hb j
/-- a new object, with its writes -/
theorem OwC.new {κ : Nat → Option Nat} {σ σ' : AH} {t n m : Nat} (hf : Fsh σ) (h : OwC κ (hN σ) (hnw σ t n m) σ') : HF (fun _ => False) 1 m σ σ' := by
  obtain ⟨h1, h2, h3, h4, h5⟩ := h
  have eN : hN σ' = hN σ + 1 := by unfold hN; rw [h2]; rfl
  have eC : hC σ' = hC σ - 1 := by unfold hC; rw [h2]; rfl
  have eS : hS σ' = hS σ - m := by unfold hS; rw [h2]; rfl
  refine ⟨by omega, fun b hb => ?_, fun b hb _ j => h5 b (by omega) j, by omega, by omega⟩
  rw [h3, h4, hT_nw, hL_nw, if_neg (by omega), if_neg (by omega)]; exact ⟨rfl, rfl⟩
/-- the exception's own constructor -/
theorem cq_excInit {κ : Nat → Option Nat} {Q : Ret AH} {σ : AH} {a : Nat} (hk : Hok κ σ) (ha : hT σ a = 5 ∨ hT σ a = 6) (k : ∀ σ', OwC κ a σ σ' → Q (.inl none) σ') : pJ9_init_2 κ [.ref a, .null, .null, .int 0, .int 0] σ Q := by
  have h0 : hT σ a ≠ 0 := by omega
  have h19 : hT σ a ≠ 19 := by omega
  have o0 := OwC.rfl9 (a := a) hk
  cases h32 : κ 32 with
  | none =>
    cases h33 : κ 33 with
    | none =>
      simp [pJ9_init_2, bJ9_init_2_60, bJ9_init_2_41, bJ9_init_2_36, bJ9_init_2_0, o_ic, o_lc, o_null, o_il, o_ll, o_al, o_dup, o_pop, o_dup_x1, o_dup2, o_iadd, o_isub, o_imul, o_iand, o_ior, o_ixor, o_ishl, o_ishr, o_idiv, o_irem, o_ineg, o_ladd, o_lsub, o_lmul, o_land, o_lor, o_lxor, o_ldiv, o_lrem, o_lneg, o_lcmp, o_i2l, o_l2i, o_i2b, o_i2c, o_iushr, o_lshl, o_lshr, o_if_eq, o_if_ne, o_if_lt, o_if_ge, o_if_gt, o_if_le, o_icmp_eq, o_icmp_ne, o_icmp_lt, o_icmp_ge, o_icmp_gt, o_icmp_le, o_ifnull, o_ifnonnull, o_acmp_eq, o_acmp_ne, o_is, o_ls, o_as, o_iinc, o_kill, o_sw, o_ireturn, o_zreturn, o_nreturn, o_lreturn, o_areturn, o_return, o_athrow, o_call, entP, lg_sl, Value.category, st1, st2, List.set, List.getElem?_cons_zero, List.getElem?_cons_succ, List.foldl, popN, aft, o_gI, o_gR, o_pI, o_pN, o_pR, o_aI, o_aG, o_aR, o_len, o_aR8, o_sI, o_sB, o_sZ, o_sG, o_new, o_newA, o_cast, o_inst, o_cst, o_oi, o_sR, o_gIc, o_gSv, o_gSc, o_getc, o_dead, o_acopy, o_castA, o_castI, o_sR7, o_mna, o_mmax, o_mmin, o_mabs, hT_sI, hT_sR, hT_sG, hL_sI, hL_sR, hL_sG, hI_sI, hI_sR, hI_sG, hG_sI, hG_sR, hG_sG, hR_sI, hR_sR, hR_sG, hN_sI, hN_sR, hN_sG, hC_sI, hC_sR, hC_sG, hS_sI, hS_sR, hS_sG, hT_nw, hL_nw, hI_nw, hG_nw, hR_nw, hN_nw, hC_nw, hS_nw, hvc, hvi, dspI, vref, va_rf, ha, h32, h33]
      exact k _ (((((((o0.sR h0 h19).sR h0 h19).sR h0 h19).sR h0 h19).sR h0 h19).sR h0 h19).sR h0 h19)
    | some y =>
      simp [pJ9_init_2, bJ9_init_2_60, bJ9_init_2_41, bJ9_init_2_36, bJ9_init_2_0, o_ic, o_lc, o_null, o_il, o_ll, o_al, o_dup, o_pop, o_dup_x1, o_dup2, o_iadd, o_isub, o_imul, o_iand, o_ior, o_ixor, o_ishl, o_ishr, o_idiv, o_irem, o_ineg, o_ladd, o_lsub, o_lmul, o_land, o_lor, o_lxor, o_ldiv, o_lrem, o_lneg, o_lcmp, o_i2l, o_l2i, o_i2b, o_i2c, o_iushr, o_lshl, o_lshr, o_if_eq, o_if_ne, o_if_lt, o_if_ge, o_if_gt, o_if_le, o_icmp_eq, o_icmp_ne, o_icmp_lt, o_icmp_ge, o_icmp_gt, o_icmp_le, o_ifnull, o_ifnonnull, o_acmp_eq, o_acmp_ne, o_is, o_ls, o_as, o_iinc, o_kill, o_sw, o_ireturn, o_zreturn, o_nreturn, o_lreturn, o_areturn, o_return, o_athrow, o_call, entP, lg_sl, Value.category, st1, st2, List.set, List.getElem?_cons_zero, List.getElem?_cons_succ, List.foldl, popN, aft, o_gI, o_gR, o_pI, o_pN, o_pR, o_aI, o_aG, o_aR, o_len, o_aR8, o_sI, o_sB, o_sZ, o_sG, o_new, o_newA, o_cast, o_inst, o_cst, o_oi, o_sR, o_gIc, o_gSv, o_gSc, o_getc, o_dead, o_acopy, o_castA, o_castI, o_sR7, o_mna, o_mmax, o_mmin, o_mabs, hT_sI, hT_sR, hT_sG, hL_sI, hL_sR, hL_sG, hI_sI, hI_sR, hI_sG, hG_sI, hG_sR, hG_sG, hR_sI, hR_sR, hR_sG, hN_sI, hN_sR, hN_sG, hC_sI, hC_sR, hC_sG, hS_sI, hS_sR, hS_sG, hT_nw, hL_nw, hI_nw, hG_nw, hR_nw, hN_nw, hC_nw, hS_nw, hvc, hvi, dspI, vref, va_rf, ha, h32, h33]
      exact k _ (((((((o0.sR h0 h19).sR h0 h19).sR h0 h19).sR h0 h19).sR h0 h19).sR h0 h19).sR h0 h19)
  | some x =>
    cases h33 : κ 33 with
    | none =>
      simp [pJ9_init_2, bJ9_init_2_60, bJ9_init_2_41, bJ9_init_2_36, bJ9_init_2_0, o_ic, o_lc, o_null, o_il, o_ll, o_al, o_dup, o_pop, o_dup_x1, o_dup2, o_iadd, o_isub, o_imul, o_iand, o_ior, o_ixor, o_ishl, o_ishr, o_idiv, o_irem, o_ineg, o_ladd, o_lsub, o_lmul, o_land, o_lor, o_lxor, o_ldiv, o_lrem, o_lneg, o_lcmp, o_i2l, o_l2i, o_i2b, o_i2c, o_iushr, o_lshl, o_lshr, o_if_eq, o_if_ne, o_if_lt, o_if_ge, o_if_gt, o_if_le, o_icmp_eq, o_icmp_ne, o_icmp_lt, o_icmp_ge, o_icmp_gt, o_icmp_le, o_ifnull, o_ifnonnull, o_acmp_eq, o_acmp_ne, o_is, o_ls, o_as, o_iinc, o_kill, o_sw, o_ireturn, o_zreturn, o_nreturn, o_lreturn, o_areturn, o_return, o_athrow, o_call, entP, lg_sl, Value.category, st1, st2, List.set, List.getElem?_cons_zero, List.getElem?_cons_succ, List.foldl, popN, aft, o_gI, o_gR, o_pI, o_pN, o_pR, o_aI, o_aG, o_aR, o_len, o_aR8, o_sI, o_sB, o_sZ, o_sG, o_new, o_newA, o_cast, o_inst, o_cst, o_oi, o_sR, o_gIc, o_gSv, o_gSc, o_getc, o_dead, o_acopy, o_castA, o_castI, o_sR7, o_mna, o_mmax, o_mmin, o_mabs, hT_sI, hT_sR, hT_sG, hL_sI, hL_sR, hL_sG, hI_sI, hI_sR, hI_sG, hG_sI, hG_sR, hG_sG, hR_sI, hR_sR, hR_sG, hN_sI, hN_sR, hN_sG, hC_sI, hC_sR, hC_sG, hS_sI, hS_sR, hS_sG, hT_nw, hL_nw, hI_nw, hG_nw, hR_nw, hN_nw, hC_nw, hS_nw, hvc, hvi, dspI, vref, va_rf, ha, h32, h33]
      exact k _ (((((((o0.sR h0 h19).sR h0 h19).sR h0 h19).sR h0 h19).sR h0 h19).sR h0 h19).sR h0 h19)
    | some y =>
      simp [pJ9_init_2, bJ9_init_2_60, bJ9_init_2_41, bJ9_init_2_36, bJ9_init_2_0, o_ic, o_lc, o_null, o_il, o_ll, o_al, o_dup, o_pop, o_dup_x1, o_dup2, o_iadd, o_isub, o_imul, o_iand, o_ior, o_ixor, o_ishl, o_ishr, o_idiv, o_irem, o_ineg, o_ladd, o_lsub, o_lmul, o_land, o_lor, o_lxor, o_ldiv, o_lrem, o_lneg, o_lcmp, o_i2l, o_l2i, o_i2b, o_i2c, o_iushr, o_lshl, o_lshr, o_if_eq, o_if_ne, o_if_lt, o_if_ge, o_if_gt, o_if_le, o_icmp_eq, o_icmp_ne, o_icmp_lt, o_icmp_ge, o_icmp_gt, o_icmp_le, o_ifnull, o_ifnonnull, o_acmp_eq, o_acmp_ne, o_is, o_ls, o_as, o_iinc, o_kill, o_sw, o_ireturn, o_zreturn, o_nreturn, o_lreturn, o_areturn, o_return, o_athrow, o_call, entP, lg_sl, Value.category, st1, st2, List.set, List.getElem?_cons_zero, List.getElem?_cons_succ, List.foldl, popN, aft, o_gI, o_gR, o_pI, o_pN, o_pR, o_aI, o_aG, o_aR, o_len, o_aR8, o_sI, o_sB, o_sZ, o_sG, o_new, o_newA, o_cast, o_inst, o_cst, o_oi, o_sR, o_gIc, o_gSv, o_gSc, o_getc, o_dead, o_acopy, o_castA, o_castI, o_sR7, o_mna, o_mmax, o_mmin, o_mabs, hT_sI, hT_sR, hT_sG, hL_sI, hL_sR, hL_sG, hI_sI, hI_sR, hI_sG, hG_sI, hG_sR, hG_sG, hR_sI, hR_sR, hR_sG, hN_sI, hN_sR, hN_sG, hC_sI, hC_sR, hC_sG, hS_sI, hS_sR, hS_sG, hT_nw, hL_nw, hI_nw, hG_nw, hR_nw, hN_nw, hC_nw, hS_nw, hvc, hvi, dspI, vref, va_rf, ha, h32, h33]
      exact k _ (((((((o0.sR h0 h19).sR h0 h19).sR h0 h19).sR h0 h19).sR h0 h19).sR h0 h19).sR h0 h19)
/-- a fault that is thrown -/
def FltC (σ : AH) (a : Nat) (e : Flt) : Prop := hT σ a = 5 ∧ hI σ a 6 = nn e.1 ∧ hI σ a 7 = nn e.2
theorem ct_newFault {κ : Nat → Option Nat} {Q : Ret AH} {σ : AH} {a : Nat} {x y : Int32} (hk : Hok κ σ) (ha : hT σ a = 5) (k : ∀ σ', OwC κ a σ σ' → hI σ' a 6 = x → hI σ' a 7 = y → Q (.inl none) σ') : pX5_init κ [.ref a, .int x, .int y] σ Q := by
  have h0 : hT σ a ≠ 0 := by omega
  simp [pX5_init, bX5_init_0, pJ11_init, bJ11_init_0, pJ10_init, bJ10_init_0, o_ic, o_lc, o_null, o_il, o_ll, o_al, o_dup, o_pop, o_dup_x1, o_dup2, o_iadd, o_isub, o_imul, o_iand, o_ior, o_ixor, o_ishl, o_ishr, o_idiv, o_irem, o_ineg, o_ladd, o_lsub, o_lmul, o_land, o_lor, o_lxor, o_ldiv, o_lrem, o_lneg, o_lcmp, o_i2l, o_l2i, o_i2b, o_i2c, o_iushr, o_lshl, o_lshr, o_if_eq, o_if_ne, o_if_lt, o_if_ge, o_if_gt, o_if_le, o_icmp_eq, o_icmp_ne, o_icmp_lt, o_icmp_ge, o_icmp_gt, o_icmp_le, o_ifnull, o_ifnonnull, o_acmp_eq, o_acmp_ne, o_is, o_ls, o_as, o_iinc, o_kill, o_sw, o_ireturn, o_zreturn, o_nreturn, o_lreturn, o_areturn, o_return, o_athrow, o_call, entP, lg_sl, Value.category, st1, st2, List.set, List.getElem?_cons_zero, List.getElem?_cons_succ, List.foldl, popN, aft, o_gI, o_gR, o_pI, o_pN, o_pR, o_aI, o_aG, o_aR, o_len, o_aR8, o_sI, o_sB, o_sZ, o_sG, o_new, o_newA, o_cast, o_inst, o_cst, o_oi, o_sR, o_gIc, o_gSv, o_gSc, o_getc, o_dead, o_acopy, o_castA, o_castI, o_sR7, o_mna, o_mmax, o_mmin, o_mabs, hT_sI, hT_sR, hT_sG, hL_sI, hL_sR, hL_sG, hI_sI, hI_sR, hI_sG, hG_sI, hG_sR, hG_sG, hR_sI, hR_sR, hR_sG, hN_sI, hN_sR, hN_sG, hC_sI, hC_sR, hC_sG, hS_sI, hS_sR, hS_sG, hT_nw, hL_nw, hI_nw, hG_nw, hR_nw, hN_nw, hC_nw, hS_nw, hvc, hvi, dspI, vref, va_rf]
  refine cq_excInit hk (Or.inl ha) (fun σ1 o1 => ?_)
  have t1 : hT σ1 a = 5 := by rw [o1.2.2.1]; exact ha
  simp [o_ic, o_lc, o_null, o_il, o_ll, o_al, o_dup, o_pop, o_dup_x1, o_dup2, o_iadd, o_isub, o_imul, o_iand, o_ior, o_ixor, o_ishl, o_ishr, o_idiv, o_irem, o_ineg, o_ladd, o_lsub, o_lmul, o_land, o_lor, o_lxor, o_ldiv, o_lrem, o_lneg, o_lcmp, o_i2l, o_l2i, o_i2b, o_i2c, o_iushr, o_lshl, o_lshr, o_if_eq, o_if_ne, o_if_lt, o_if_ge, o_if_gt, o_if_le, o_icmp_eq, o_icmp_ne, o_icmp_lt, o_icmp_ge, o_icmp_gt, o_icmp_le, o_ifnull, o_ifnonnull, o_acmp_eq, o_acmp_ne, o_is, o_ls, o_as, o_iinc, o_kill, o_sw, o_ireturn, o_zreturn, o_nreturn, o_lreturn, o_areturn, o_return, o_athrow, o_call, entP, lg_sl, Value.category, st1, st2, List.set, List.getElem?_cons_zero, List.getElem?_cons_succ, List.foldl, popN, aft, o_gI, o_gR, o_pI, o_pN, o_pR, o_aI, o_aG, o_aR, o_len, o_aR8, o_sI, o_sB, o_sZ, o_sG, o_new, o_newA, o_cast, o_inst, o_cst, o_oi, o_sR, o_gIc, o_gSv, o_gSc, o_getc, o_dead, o_acopy, o_castA, o_castI, o_sR7, o_mna, o_mmax, o_mmin, o_mabs, hT_sI, hT_sR, hT_sG, hL_sI, hL_sR, hL_sG, hI_sI, hI_sR, hI_sG, hG_sI, hG_sR, hG_sG, hR_sI, hR_sR, hR_sG, hN_sI, hN_sR, hN_sG, hC_sI, hC_sR, hC_sG, hS_sI, hS_sR, hS_sG, hT_nw, hL_nw, hI_nw, hG_nw, hR_nw, hN_nw, hC_nw, hS_nw, hvc, hvi, dspI, vref, va_rf, t1]
  refine k _ ((o1.sI h0).sI h0) ?_ ?_
  · simp [hT_sI, hT_sR, hT_sG, hL_sI, hL_sR, hL_sG, hI_sI, hI_sR, hI_sG, hG_sI, hG_sR, hG_sG, hR_sI, hR_sR, hR_sG, hN_sI, hN_sR, hN_sG, hC_sI, hC_sR, hC_sG, hS_sI, hS_sR, hS_sG, hT_nw, hL_nw, hI_nw, hG_nw, hR_nw, hN_nw, hC_nw, hS_nw, hvc, hvi, dspI, vref, va_rf]
  · simp [hT_sI, hT_sR, hT_sG, hL_sI, hL_sR, hL_sG, hI_sI, hI_sR, hI_sG, hG_sI, hG_sR, hG_sG, hR_sI, hR_sR, hR_sG, hN_sI, hN_sR, hN_sG, hC_sI, hC_sR, hC_sG, hS_sI, hS_sR, hS_sG, hT_nw, hL_nw, hI_nw, hG_nw, hR_nw, hN_nw, hC_nw, hS_nw, hvc, hvi, dspI, vref, va_rf]
theorem ct_fault {κ : Nat → Option Nat} {Q : Ret AH} {σ : AH} {rd o f n : Nat} {l : List Nat} (hk : Hok κ σ) (h : RdrC σ rd o l) (ht : TokC σ rd (tpF l) l.length f) (hc : 1 ≤ hC σ) (hs : 8 ≤ hS σ)
    (k : ∀ σ' a, Hok κ σ' → HF (fun _ => False) 1 8 σ σ' → FltC σ' a (flt (tpF l) l.length f n) → Q (.inl (some (.ref a))) σ') : pX3_fault κ [.ref rd, .int (nn n)] σ Q := by
  obtain ⟨k1, k2, k3, k4, k5⟩ := ht
  have h1' := h.1
  have hrd : ¬ rd = hN σ := by have := hk.1.lt (a := rd) (by rw [h1']; decide); omega
  have hs5 := srt_lt (tpF l) l.length f
  obtain ⟨d1, -, -, -, d2, -⟩ := kdC_lt hs5
  have b1 : kdC (srt (tpF l) l.length f) < 2147483648 := by omega
  have hk1 : Hok κ (hnw σ 5 0 8) := hk.nw (by omega)
  have t1 : hT (hnw σ 5 0 8) (hN σ) = 5 := by rw [hT_nw, if_pos rfl]
  have fin : ∀ x : Nat, x = (flt (tpF l) l.length f n).1 → pX5_init κ [.ref (hN σ), .int (nn x), .int (nn f)] (hnw σ 5 0 8) (aft [some (.ref rd), some (.int (nn n))] [.ref (hN σ)] (fun x a σ => Q (.inr a) σ) (o_areturn Q)) := by
    intro x hx
    refine ct_newFault hk1 t1 (fun σ' o1 e6 e7 => ?_)
    simp [o_ic, o_lc, o_null, o_il, o_ll, o_al, o_dup, o_pop, o_dup_x1, o_dup2, o_iadd, o_isub, o_imul, o_iand, o_ior, o_ixor, o_ishl, o_ishr, o_idiv, o_irem, o_ineg, o_ladd, o_lsub, o_lmul, o_land, o_lor, o_lxor, o_ldiv, o_lrem, o_lneg, o_lcmp, o_i2l, o_l2i, o_i2b, o_i2c, o_iushr, o_lshl, o_lshr, o_if_eq, o_if_ne, o_if_lt, o_if_ge, o_if_gt, o_if_le, o_icmp_eq, o_icmp_ne, o_icmp_lt, o_icmp_ge, o_icmp_gt, o_icmp_le, o_ifnull, o_ifnonnull, o_acmp_eq, o_acmp_ne, o_is, o_ls, o_as, o_iinc, o_kill, o_sw, o_ireturn, o_zreturn, o_nreturn, o_lreturn, o_areturn, o_return, o_athrow, o_call, entP, lg_sl, Value.category, st1, st2, List.set, List.getElem?_cons_zero, List.getElem?_cons_succ, List.foldl, popN, aft]
    exact k σ' (hN σ) o1.1 (OwC.new hk.1 o1) ⟨by rw [o1.2.2.1]; exact t1, by rw [e6, hx], e7⟩
  simp [pX3_fault, bX3_fault_0, bX3_fault_16, bX3_fault_17, o_ic, o_lc, o_null, o_il, o_ll, o_al, o_dup, o_pop, o_dup_x1, o_dup2, o_iadd, o_isub, o_imul, o_iand, o_ior, o_ixor, o_ishl, o_ishr, o_idiv, o_irem, o_ineg, o_ladd, o_lsub, o_lmul, o_land, o_lor, o_lxor, o_ldiv, o_lrem, o_lneg, o_lcmp, o_i2l, o_l2i, o_i2b, o_i2c, o_iushr, o_lshl, o_lshr, o_if_eq, o_if_ne, o_if_lt, o_if_ge, o_if_gt, o_if_le, o_icmp_eq, o_icmp_ne, o_icmp_lt, o_icmp_ge, o_icmp_gt, o_icmp_le, o_ifnull, o_ifnonnull, o_acmp_eq, o_acmp_ne, o_is, o_ls, o_as, o_iinc, o_kill, o_sw, o_ireturn, o_zreturn, o_nreturn, o_lreturn, o_areturn, o_return, o_athrow, o_call, entP, lg_sl, Value.category, st1, st2, List.set, List.getElem?_cons_zero, List.getElem?_cons_succ, List.foldl, popN, aft, o_gI, o_gR, o_pI, o_pN, o_pR, o_aI, o_aG, o_aR, o_len, o_aR8, o_sI, o_sB, o_sZ, o_sG, o_new, o_newA, o_cast, o_inst, o_cst, o_oi, o_sR, o_gIc, o_gSv, o_gSc, o_getc, o_dead, o_acopy, o_castA, o_castI, o_sR7, o_mna, o_mmax, o_mmin, o_mabs, hT_sI, hT_sR, hT_sG, hL_sI, hL_sR, hL_sG, hI_sI, hI_sR, hI_sG, hG_sI, hG_sR, hG_sG, hR_sI, hR_sR, hR_sG, hN_sI, hN_sR, hN_sG, hC_sI, hC_sR, hC_sG, hS_sI, hS_sR, hS_sG, hT_nw, hL_nw, hI_nw, hG_nw, hR_nw, hN_nw, hC_nw, hS_nw, hvc, hvi, dspI, vref, va_rf, nn_eqL, nn_ltL, nn_leL, nn_Llt, nn_Lle, nn_lt, nn_le, nn_eq, nn_in, nn_clamp, nn_succ, nn_pos, nn_neg1, hc, hs, h1', hrd, k4, b1, d2, k2]
  refine ⟨fun z => ?_, fun z => ?_⟩
  · exact fin n (by unfold flt; rw [if_neg z])
  · exact fin 1 (by unfold flt; rw [if_pos z])
