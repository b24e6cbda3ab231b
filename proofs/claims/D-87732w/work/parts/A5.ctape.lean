/-! THE COMPONENT: its tape -/
set_option maxRecDepth 100000
/-- a byte as the tape holds it -/
def sB (c : Nat) : Int32 := (nn c).toInt8.toInt32
theorem sB_and : ∀ c, c < 256 → sB c &&& 255 = nn c := by decide +kernel
/-- the component's object, its tape -/
def TapeC (σ : AH) (o : Nat) (l : List Nat) : Prop := hT σ o = 1 ∧ hI σ o 1 = nn l.length ∧ l.length ≤ 3000 ∧ ∃ b, hR σ o 0 = some b ∧ hT σ b = 102 ∧ hL σ b = 3000 ∧ ∀ i c, l[i]? = some c → hI σ b i = sB c ∧ c < 256
theorem ct_tape {κ : Nat → Option Nat} {Q : Ret AH} {σ : AH} {o : Nat} {l : List Nat} {i : Int32} (h : TapeC σ o l) (k : Q (.inl (some (.int (sTape l i)))) σ) : pX0_tape κ [.ref o, .int i] σ Q := by
  obtain ⟨h1, h2, h3, b, h4, h5, h6, h7⟩ := h
  unfold sTape at k
  have bl : l.length < 2147483648 := by omega
  rcases ix_cases i l.length bl with ⟨j, hj, rfl, hi, bj⟩ | ⟨hi, hr⟩
  · rw [hi] at k
    simp only at k
    have b3 : j < 3000 := by omega
    have hg : l[j]? = some (tpF l j) := by unfold tpF; rw [List.getD_eq_getElem?_getD, List.getElem?_eq_getElem hj]; rfl
    obtain ⟨g1, g2⟩ := h7 j _ hg
    have n1 : ¬ l.length ≤ j := by omega
    simp [pX0_tape, bX0_tape_26, bX0_tape_25, bX0_tape_0, o_ic, o_lc, o_null, o_il, o_ll, o_al, o_dup, o_pop, o_dup_x1, o_dup2, o_iadd, o_isub, o_imul, o_iand, o_ior, o_ixor, o_ishl, o_ishr, o_idiv, o_irem, o_ineg, o_ladd, o_lsub, o_lmul, o_land, o_lor, o_lxor, o_ldiv, o_lrem, o_lneg, o_lcmp, o_i2l, o_l2i, o_i2b, o_i2c, o_iushr, o_lshl, o_lshr, o_if_eq, o_if_ne, o_if_lt, o_if_ge, o_if_gt, o_if_le, o_icmp_eq, o_icmp_ne, o_icmp_lt, o_icmp_ge, o_icmp_gt, o_icmp_le, o_ifnull, o_ifnonnull, o_acmp_eq, o_acmp_ne, o_is, o_ls, o_as, o_iinc, o_kill, o_sw, o_ireturn, o_zreturn, o_nreturn, o_lreturn, o_areturn, o_return, o_athrow, o_call, entP, lg_sl, Value.category, st1, st2, List.set, List.getElem?_cons_zero, List.getElem?_cons_succ, List.foldl, popN, aft, o_gI, o_gR, o_pI, o_pN, o_pR, o_aI, o_aG, o_aR, o_len, o_aR8, o_sI, o_sB, o_sZ, o_sG, o_new, o_newA, o_cast, o_inst, o_cst, o_oi, o_sR, o_gIc, o_gSv, o_gSc, o_getc, o_dead, o_acopy, o_castA, o_castI, o_sR7, o_mna, o_mmax, o_mmin, o_mabs, hT_sI, hT_sR, hT_sG, hL_sI, hL_sR, hL_sG, hI_sI, hI_sR, hI_sG, hG_sI, hG_sR, hG_sG, hR_sI, hR_sR, hR_sG, hN_sI, hN_sR, hN_sG, hC_sI, hC_sR, hC_sG, hS_sI, hS_sR, hS_sG, hT_nw, hL_nw, hI_nw, hG_nw, hR_nw, hN_nw, hC_nw, hS_nw, hvc, hvi, dspI, vref, va_rf, nn_eqL, nn_ltL, nn_leL, nn_Llt, nn_Lle, nn_lt, nn_le, nn_eq, nn_in, nn_clamp, nn_succ, nn_pos, nn_neg1, h1, h2, bj, bl, hj, n1, h4, h5, h6, b3, g1, sB_and _ g2]
    exact k
  · rw [hi] at k
    simp only at k
    simp [pX0_tape, bX0_tape_26, bX0_tape_25, bX0_tape_0, o_ic, o_lc, o_null, o_il, o_ll, o_al, o_dup, o_pop, o_dup_x1, o_dup2, o_iadd, o_isub, o_imul, o_iand, o_ior, o_ixor, o_ishl, o_ishr, o_idiv, o_irem, o_ineg, o_ladd, o_lsub, o_lmul, o_land, o_lor, o_lxor, o_ldiv, o_lrem, o_lneg, o_lcmp, o_i2l, o_l2i, o_i2b, o_i2c, o_iushr, o_lshl, o_lshr, o_if_eq, o_if_ne, o_if_lt, o_if_ge, o_if_gt, o_if_le, o_icmp_eq, o_icmp_ne, o_icmp_lt, o_icmp_ge, o_icmp_gt, o_icmp_le, o_ifnull, o_ifnonnull, o_acmp_eq, o_acmp_ne, o_is, o_ls, o_as, o_iinc, o_kill, o_sw, o_ireturn, o_zreturn, o_nreturn, o_lreturn, o_areturn, o_return, o_athrow, o_call, entP, lg_sl, Value.category, st1, st2, List.set, List.getElem?_cons_zero, List.getElem?_cons_succ, List.foldl, popN, aft, o_gI, o_gR, o_pI, o_pN, o_pR, o_aI, o_aG, o_aR, o_len, o_aR8, o_sI, o_sB, o_sZ, o_sG, o_new, o_newA, o_cast, o_inst, o_cst, o_oi, o_sR, o_gIc, o_gSv, o_gSc, o_getc, o_dead, o_acopy, o_castA, o_castI, o_sR7, o_mna, o_mmax, o_mmin, o_mabs, hT_sI, hT_sR, hT_sG, hL_sI, hL_sR, hL_sG, hI_sI, hI_sR, hI_sG, hG_sI, hG_sR, hG_sG, hR_sI, hR_sR, hR_sG, hN_sI, hN_sR, hN_sG, hC_sI, hC_sR, hC_sG, hS_sI, hS_sR, hS_sG, hT_nw, hL_nw, hI_nw, hG_nw, hR_nw, hN_nw, hC_nw, hS_nw, hvc, hvi, dspI, vref, va_rf, h1, h2]
    first
      | (refine ⟨fun _ => k, fun g1 => ⟨fun _ => k, fun g2 => ?_⟩⟩
         rcases hr with hr | hr
         · exact (ab1 hr g1).elim
         · exact (ab2 g2 hr).elim)
      | (refine ⟨fun _ => k, fun g1 => ⟨fun g2 => ?_, fun _ => k⟩⟩
         rcases hr with hr | hr
         · exact (ab1 hr g1).elim
         · exact (ab2 g2 hr).elim)
theorem ct_cut {κ : Nat → Option Nat} {Q : Ret AH} {σ : AH} {o : Nat} {l : List Nat} {n : Int32} (h : TapeC σ o l)
    (k : match ix n (l.length + 1) with
      | some j => TapeC (hsI σ o 1 (nn j)) o (l.take j) → Q (.inl (some (.int (nn j)))) (hsI σ o 1 (nn j))
      | none => Q (.inl (some (.int (-2)))) σ) : pX0_cut κ [.ref o, .int n] σ Q := by
  obtain ⟨h1, h2, h3, b, h4, h5, h6, h7⟩ := h
  have bl : l.length < 2147483648 := by omega
  rcases ix_cases n (l.length + 1) (by omega) with ⟨j, hj, rfl, hi, bj⟩ | ⟨hi, hr⟩
  · rw [hi] at k
    simp only at k
    have n1 : j ≤ l.length := by omega
    have n2 : ¬ l.length < j := by omega
    have hbo : b ≠ o := fun q => by rw [q, h1] at h5; cases h5
    simp [pX0_cut, bX0_cut_12, bX0_cut_15, bX0_cut_0, o_ic, o_lc, o_null, o_il, o_ll, o_al, o_dup, o_pop, o_dup_x1, o_dup2, o_iadd, o_isub, o_imul, o_iand, o_ior, o_ixor, o_ishl, o_ishr, o_idiv, o_irem, o_ineg, o_ladd, o_lsub, o_lmul, o_land, o_lor, o_lxor, o_ldiv, o_lrem, o_lneg, o_lcmp, o_i2l, o_l2i, o_i2b, o_i2c, o_iushr, o_lshl, o_lshr, o_if_eq, o_if_ne, o_if_lt, o_if_ge, o_if_gt, o_if_le, o_icmp_eq, o_icmp_ne, o_icmp_lt, o_icmp_ge, o_icmp_gt, o_icmp_le, o_ifnull, o_ifnonnull, o_acmp_eq, o_acmp_ne, o_is, o_ls, o_as, o_iinc, o_kill, o_sw, o_ireturn, o_zreturn, o_nreturn, o_lreturn, o_areturn, o_return, o_athrow, o_call, entP, lg_sl, Value.category, st1, st2, List.set, List.getElem?_cons_zero, List.getElem?_cons_succ, List.foldl, popN, aft, o_gI, o_gR, o_pI, o_pN, o_pR, o_aI, o_aG, o_aR, o_len, o_aR8, o_sI, o_sB, o_sZ, o_sG, o_new, o_newA, o_cast, o_inst, o_cst, o_oi, o_sR, o_gIc, o_gSv, o_gSc, o_getc, o_dead, o_acopy, o_castA, o_castI, o_sR7, o_mna, o_mmax, o_mmin, o_mabs, hT_sI, hT_sR, hT_sG, hL_sI, hL_sR, hL_sG, hI_sI, hI_sR, hI_sG, hG_sI, hG_sR, hG_sG, hR_sI, hR_sR, hR_sG, hN_sI, hN_sR, hN_sG, hC_sI, hC_sR, hC_sG, hS_sI, hS_sR, hS_sG, hT_nw, hL_nw, hI_nw, hG_nw, hR_nw, hN_nw, hC_nw, hS_nw, hvc, hvi, dspI, vref, va_rf, nn_eqL, nn_ltL, nn_leL, nn_Llt, nn_Lle, nn_lt, nn_le, nn_eq, nn_in, nn_clamp, nn_succ, nn_pos, nn_neg1, h1, h2, bj, bl, n1, n2]
    refine k ⟨h1, ?_, by simp; omega, b, h4, h5, h6, fun i c hc => ?_⟩
    · rw [hI_sI, if_pos ⟨rfl, rfl⟩]; simp [Nat.min_eq_left n1]
    · rw [hI_sI, if_neg (fun q => hbo q.1)]
      rw [List.getElem?_take] at hc
      split at hc
      · exact h7 i c hc
      · cases hc
  · rw [hi] at k
    simp only at k
    simp [pX0_cut, bX0_cut_12, bX0_cut_15, bX0_cut_0, o_ic, o_lc, o_null, o_il, o_ll, o_al, o_dup, o_pop, o_dup_x1, o_dup2, o_iadd, o_isub, o_imul, o_iand, o_ior, o_ixor, o_ishl, o_ishr, o_idiv, o_irem, o_ineg, o_ladd, o_lsub, o_lmul, o_land, o_lor, o_lxor, o_ldiv, o_lrem, o_lneg, o_lcmp, o_i2l, o_l2i, o_i2b, o_i2c, o_iushr, o_lshl, o_lshr, o_if_eq, o_if_ne, o_if_lt, o_if_ge, o_if_gt, o_if_le, o_icmp_eq, o_icmp_ne, o_icmp_lt, o_icmp_ge, o_icmp_gt, o_icmp_le, o_ifnull, o_ifnonnull, o_acmp_eq, o_acmp_ne, o_is, o_ls, o_as, o_iinc, o_kill, o_sw, o_ireturn, o_zreturn, o_nreturn, o_lreturn, o_areturn, o_return, o_athrow, o_call, entP, lg_sl, Value.category, st1, st2, List.set, List.getElem?_cons_zero, List.getElem?_cons_succ, List.foldl, popN, aft, o_gI, o_gR, o_pI, o_pN, o_pR, o_aI, o_aG, o_aR, o_len, o_aR8, o_sI, o_sB, o_sZ, o_sG, o_new, o_newA, o_cast, o_inst, o_cst, o_oi, o_sR, o_gIc, o_gSv, o_gSc, o_getc, o_dead, o_acopy, o_castA, o_castI, o_sR7, o_mna, o_mmax, o_mmin, o_mabs, hT_sI, hT_sR, hT_sG, hL_sI, hL_sR, hL_sG, hI_sI, hI_sR, hI_sG, hG_sI, hG_sR, hG_sG, hR_sI, hR_sR, hR_sG, hN_sI, hN_sR, hN_sG, hC_sI, hC_sR, hC_sG, hS_sI, hS_sR, hS_sG, hT_nw, hL_nw, hI_nw, hG_nw, hR_nw, hN_nw, hC_nw, hS_nw, hvc, hvi, dspI, vref, va_rf, h1, h2]
    refine ⟨fun _ => k, fun g1 => ⟨fun g2 => ?_, fun _ => k⟩⟩
    exfalso
    rcases hr with hr | hr
    · exact ab1 hr g1
    · have := le_lit hr (by omega)
      rw [Int32.le_iff_toInt_le, nn_toInt bl] at g2
      omega
