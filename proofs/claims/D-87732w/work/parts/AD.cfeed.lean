/-! THE COMPONENT feeds -/
set_option maxRecDepth 100000
theorem sB_byt (w : Int64) (k : Nat) (hk : k < 8) : (w >>> (Int64.ofNat (8 * k) &&& 63)).toInt32.toInt8.toInt32 = sB (byt w k) := by
  unfold sB
  rw [← byt_i32 w k hk]
  have e : ∀ x : Int64, (x &&& 255).toInt32.toInt8 = x.toInt32.toInt8 := by
    intro x
    rw [Int64.toInt32_and, Int32.toInt8_and]
    have : ((255 : Int64).toInt32).toInt8 = -1 := by decide
    rw [this]; simp
  rw [e]
theorem ct_feed {κ : Nat → Option Nat} {Q : Ret AH} {σ : AH} {o : Nat} {l : List Nat} {w : Int64} {n : Int32} (hk : Hok κ σ) (h : TapeC σ o l)
    (k : ∀ σ', Hok κ σ' → HF (fun b => b = o ∨ hR σ o 0 = some b) 0 0 σ σ' → TapeC σ' o (sFeed l w n).2 → hR σ' = hR σ ∧ hI σ' o 4 = hI σ o 4 → Q (.inl (some (.int (sFeed l w n).1))) σ') : pX0_feed κ [.ref o, .long w, .int n] σ Q := by
  obtain ⟨h1, h2, h3, tb, h4, h5, h6, h7⟩ := id h
  unfold sFeed at k
  simp [pX0_feed, bX0_feed_0, bX0_feed_11, o_ic, o_lc, o_null, o_il, o_ll, o_al, o_dup, o_pop, o_dup_x1, o_dup2, o_iadd, o_isub, o_imul, o_iand, o_ior, o_ixor, o_ishl, o_ishr, o_idiv, o_irem, o_ineg, o_ladd, o_lsub, o_lmul, o_land, o_lor, o_lxor, o_ldiv, o_lrem, o_lneg, o_lcmp, o_i2l, o_l2i, o_i2b, o_i2c, o_iushr, o_lshl, o_lshr, o_if_eq, o_if_ne, o_if_lt, o_if_ge, o_if_gt, o_if_le, o_icmp_eq, o_icmp_ne, o_icmp_lt, o_icmp_ge, o_icmp_gt, o_icmp_le, o_ifnull, o_ifnonnull, o_acmp_eq, o_acmp_ne, o_is, o_ls, o_as, o_iinc, o_kill, o_sw, o_ireturn, o_zreturn, o_nreturn, o_lreturn, o_areturn, o_return, o_athrow, o_call, entP, lg_sl, Value.category, st1, st2, List.set, List.getElem?_cons_zero, List.getElem?_cons_succ, List.foldl, popN, aft, o_gI, o_gR, o_pI, o_pN, o_pR, o_aI, o_aG, o_aR, o_len, o_aR8, o_sI, o_sB, o_sZ, o_sG, o_new, o_newA, o_cast, o_inst, o_cst, o_oi, o_sR, o_gIc, o_gSv, o_gSc, o_getc, o_dead, o_acopy, o_castA, o_castI, o_sR7, o_mna, o_mmax, o_mmin, o_mabs, hT_sI, hT_sR, hT_sG, hL_sI, hL_sR, hL_sG, hI_sI, hI_sR, hI_sG, hG_sI, hG_sR, hG_sG, hR_sI, hR_sR, hR_sG, hN_sI, hN_sR, hN_sG, hC_sI, hC_sR, hC_sG, hS_sI, hS_sR, hS_sG, hT_nw, hL_nw, hI_nw, hG_nw, hR_nw, hN_nw, hC_nw, hS_nw, hvc, hvi, dspI, vref, va_rf]
  have bad : (n < 1 ∨ 8 < n) → Q (.inl (some (.int (-2)))) σ := fun z => by
    rw [if_pos z] at k; exact k σ hk HF.rfl9 h ⟨rfl, rfl⟩
  refine ⟨fun g => bad (Or.inl g), fun g1 => ⟨fun g2 => ?_, fun g => bad (Or.inr g)⟩⟩
  have nz : ¬ (n < 1 ∨ 8 < n) := fun z => z.elim (fun z => ab2 z g1) (fun z => ab2 z g2)
  rw [if_neg nz] at k
  obtain ⟨m, hm1, hm2, hm3⟩ : ∃ m, 0 < m ∧ m < 9 ∧ n = nn m := by
    rcases ix_cases n 9 (by omega) with ⟨m, hz1, hz2, -⟩ | ⟨-, hz⟩
    · refine ⟨m, ?_, hz1, hz2⟩
      subst hz2
      rw [Int32.le_iff_toInt_le, nn_toInt (by omega)] at g1
      have e1 : (1 : Int32).toInt = 1 := rfl
      omega
    · exfalso
      rw [Int32.le_iff_toInt_le] at g1 g2
      have e1 : (1 : Int32).toInt = 1 := rfl
      have e8 : (8 : Int32).toInt = 8 := rfl
      rcases hz with hz | hz
      · rw [Int32.lt_iff_toInt_lt, Int32.toInt_zero] at hz; omega
      · have := le_lit hz (by omega); omega
  subst hm3
  have bm : m < 2147483648 := by omega
  rw [nn_clamp bm] at k
  have b1 : l.length + m < 2147483648 := by omega
  simp [bX0_feed_14, o_ic, o_lc, o_null, o_il, o_ll, o_al, o_dup, o_pop, o_dup_x1, o_dup2, o_iadd, o_isub, o_imul, o_iand, o_ior, o_ixor, o_ishl, o_ishr, o_idiv, o_irem, o_ineg, o_ladd, o_lsub, o_lmul, o_land, o_lor, o_lxor, o_ldiv, o_lrem, o_lneg, o_lcmp, o_i2l, o_l2i, o_i2b, o_i2c, o_iushr, o_lshl, o_lshr, o_if_eq, o_if_ne, o_if_lt, o_if_ge, o_if_gt, o_if_le, o_icmp_eq, o_icmp_ne, o_icmp_lt, o_icmp_ge, o_icmp_gt, o_icmp_le, o_ifnull, o_ifnonnull, o_acmp_eq, o_acmp_ne, o_is, o_ls, o_as, o_iinc, o_kill, o_sw, o_ireturn, o_zreturn, o_nreturn, o_lreturn, o_areturn, o_return, o_athrow, o_call, entP, lg_sl, Value.category, st1, st2, List.set, List.getElem?_cons_zero, List.getElem?_cons_succ, List.foldl, popN, aft, o_gI, o_gR, o_pI, o_pN, o_pR, o_aI, o_aG, o_aR, o_len, o_aR8, o_sI, o_sB, o_sZ, o_sG, o_new, o_newA, o_cast, o_inst, o_cst, o_oi, o_sR, o_gIc, o_gSv, o_gSc, o_getc, o_dead, o_acopy, o_castA, o_castI, o_sR7, o_mna, o_mmax, o_mmin, o_mabs, hT_sI, hT_sR, hT_sG, hL_sI, hL_sR, hL_sG, hI_sI, hI_sR, hI_sG, hG_sI, hG_sR, hG_sG, hR_sI, hR_sR, hR_sG, hN_sI, hN_sR, hN_sG, hC_sI, hC_sR, hC_sG, hS_sI, hS_sR, hS_sG, hT_nw, hL_nw, hI_nw, hG_nw, hR_nw, hN_nw, hC_nw, hS_nw, hvc, hvi, dspI, vref, va_rf, vpL, nn_addL, nn_addR, nn_mulL, nn_add, nn_mul, nn_eqL, nn_ltL, nn_leL, nn_Llt, nn_Lle, nn_lt, nn_le, nn_eq, nn_in, nn_clamp, nn_succ, nn_pos, nn_neg1, h1, h2, b1]
  refine ⟨fun g => ?_, fun g => ?_⟩
  · rw [if_neg (by omega)] at k
    simp [bX0_feed_29, o_ic, o_lc, o_null, o_il, o_ll, o_al, o_dup, o_pop, o_dup_x1, o_dup2, o_iadd, o_isub, o_imul, o_iand, o_ior, o_ixor, o_ishl, o_ishr, o_idiv, o_irem, o_ineg, o_ladd, o_lsub, o_lmul, o_land, o_lor, o_lxor, o_ldiv, o_lrem, o_lneg, o_lcmp, o_i2l, o_l2i, o_i2b, o_i2c, o_iushr, o_lshl, o_lshr, o_if_eq, o_if_ne, o_if_lt, o_if_ge, o_if_gt, o_if_le, o_icmp_eq, o_icmp_ne, o_icmp_lt, o_icmp_ge, o_icmp_gt, o_icmp_le, o_ifnull, o_ifnonnull, o_acmp_eq, o_acmp_ne, o_is, o_ls, o_as, o_iinc, o_kill, o_sw, o_ireturn, o_zreturn, o_nreturn, o_lreturn, o_areturn, o_return, o_athrow, o_call, entP, lg_sl, Value.category, st1, st2, List.set, List.getElem?_cons_zero, List.getElem?_cons_succ, List.foldl, popN, aft, o_gI, o_gR, o_pI, o_pN, o_pR, o_aI, o_aG, o_aR, o_len, o_aR8, o_sI, o_sB, o_sZ, o_sG, o_new, o_newA, o_cast, o_inst, o_cst, o_oi, o_sR, o_gIc, o_gSv, o_gSc, o_getc, o_dead, o_acopy, o_castA, o_castI, o_sR7, o_mna, o_mmax, o_mmin, o_mabs, hT_sI, hT_sR, hT_sG, hL_sI, hL_sR, hL_sG, hI_sI, hI_sR, hI_sG, hG_sI, hG_sR, hG_sG, hR_sI, hR_sR, hR_sG, hN_sI, hN_sR, hN_sG, hC_sI, hC_sR, hC_sG, hS_sI, hS_sR, hS_sG, hT_nw, hL_nw, hI_nw, hG_nw, hR_nw, hN_nw, hC_nw, hS_nw, hvc, hvi, dspI, vref, va_rf]
    unfold bX0_feed_34
    intro X hX
    have hto : tb ≠ o := fun q => by rw [q, h1] at h5; cases h5
    have hind : ∀ r l' σ', l'.length + r ≤ 3000 → r ≤ 8 → Hok κ σ' → HF (fun b => b = o ∨ hR σ o 0 = some b) 0 0 σ σ' → TapeC σ' o l' → hR σ' o 0 = some tb → hR σ' = hR σ ∧ hI σ' o 4 = hI σ o 4 → l' ++ fdB w r = l ++ fdB w m → X [some (.ref o), some (.long w), none, none, some (.int (nn r - 1))] [] σ' := by
      intro r
      induction r with
      | zero =>
        intro l' σ' _ _ k1 f1 hT' e4 e5 he
        apply hX
        have e0 : (nn 0 - 1 : Int32) < 0 := by decide
        obtain ⟨t1, t2, -⟩ := id hT'
        simp [bX0_feed_73, o_ic, o_lc, o_null, o_il, o_ll, o_al, o_dup, o_pop, o_dup_x1, o_dup2, o_iadd, o_isub, o_imul, o_iand, o_ior, o_ixor, o_ishl, o_ishr, o_idiv, o_irem, o_ineg, o_ladd, o_lsub, o_lmul, o_land, o_lor, o_lxor, o_ldiv, o_lrem, o_lneg, o_lcmp, o_i2l, o_l2i, o_i2b, o_i2c, o_iushr, o_lshl, o_lshr, o_if_eq, o_if_ne, o_if_lt, o_if_ge, o_if_gt, o_if_le, o_icmp_eq, o_icmp_ne, o_icmp_lt, o_icmp_ge, o_icmp_gt, o_icmp_le, o_ifnull, o_ifnonnull, o_acmp_eq, o_acmp_ne, o_is, o_ls, o_as, o_iinc, o_kill, o_sw, o_ireturn, o_zreturn, o_nreturn, o_lreturn, o_areturn, o_return, o_athrow, o_call, entP, lg_sl, Value.category, st1, st2, List.set, List.getElem?_cons_zero, List.getElem?_cons_succ, List.foldl, popN, aft, o_gI, o_gR, o_pI, o_pN, o_pR, o_aI, o_aG, o_aR, o_len, o_aR8, o_sI, o_sB, o_sZ, o_sG, o_new, o_newA, o_cast, o_inst, o_cst, o_oi, o_sR, o_gIc, o_gSv, o_gSc, o_getc, o_dead, o_acopy, o_castA, o_castI, o_sR7, o_mna, o_mmax, o_mmin, o_mabs, hT_sI, hT_sR, hT_sG, hL_sI, hL_sR, hL_sG, hI_sI, hI_sR, hI_sG, hG_sI, hG_sR, hG_sG, hR_sI, hR_sR, hR_sG, hN_sI, hN_sR, hN_sG, hC_sI, hC_sR, hC_sG, hS_sI, hS_sR, hS_sG, hT_nw, hL_nw, hI_nw, hG_nw, hR_nw, hN_nw, hC_nw, hS_nw, hvc, hvi, dspI, vref, va_rf, e0, t1, t2]
        simp [fdB] at he
        subst he
        have e2 : (l ++ fdB w m).length = l.length + m := by simp [fdB_len]
        rw [e2]
        exact k σ' k1 f1 hT' e5
      | succ r ih =>
        intro l' σ' hl hr k1 f1 hT' e4 e5 he
        apply hX
        obtain ⟨t1, t2, t3, b', t4, t5, t6, t7⟩ := id hT'
        rw [e4] at t4
        cases t4
        have b2 : r < 2147483648 := by omega
        have b3 : l'.length < 2147483648 := by omega
        have b4 : l'.length < 3000 := by omega
        have em : (nn r + -1 : Int32) = nn r - 1 := by rw [Int32.sub_eq_add_neg]
        have e64 : (nn (8 * r)).toInt64 = Int64.ofNat (8 * r) := i64_nn (by omega)
        have ebyte := sB_byt w r (by omega)
        generalize hy : (w >>> (Int64.ofNat (8 * r) &&& 63)).toInt32 = y at ebyte
        have eidem : y.toInt8.toInt32.toInt8.toInt32 = sB (byt w r) := by rw [← ebyte]; simp
        have ho0 : hT σ' o ≠ 0 := by rw [t1]; decide
        have hb0 : hT σ' tb ≠ 0 := by rw [t5]; decide
        have nk1 : ¬ KTg (hT σ' o) := by rw [t1]; unfold KTg; omega
        have nk2 : ¬ KTg (hT σ' tb) := by rw [t5]; unfold KTg; omega
        have hnext := ih (l' ++ [byt w r]) (hsI (hsI σ' tb l'.length (sB (byt w r))) o 1 (nn (l'.length + 1))) (by simp; omega) (by omega) ((k1.sI hb0).sI ho0) ((f1.sI hk.1 (Or.inl (Or.inr h4)) nk2).sI hk.1 (Or.inl (Or.inl rfl)) nk1) ⟨t1, by simp [hT_sI, hT_sR, hT_sG, hL_sI, hL_sR, hL_sG, hI_sI, hI_sR, hI_sG, hG_sI, hG_sR, hG_sG, hR_sI, hR_sR, hR_sG, hN_sI, hN_sR, hN_sG, hC_sI, hC_sR, hC_sG, hS_sI, hS_sR, hS_sG, hT_nw, hL_nw, hI_nw, hG_nw, hR_nw, hN_nw, hC_nw, hS_nw, hvc, hvi, dspI, vref, va_rf], by simp; omega, tb, e4, t5, t6, fun i c hc => ?_⟩ e4 ⟨e5.1, by rw [hI_sI, if_neg (by omega), hI_sI, if_neg (fun z => hto z.1.symm)]; exact e5.2⟩ (by rw [← he]; simp [fdB])
        · rw [nn_pred (by omega), Nat.add_sub_cancel]
          simp only [o_ic, o_lc, o_null, o_il, o_ll, o_al, o_dup, o_pop, o_dup_x1, o_dup2, o_iadd, o_isub, o_imul, o_iand, o_ior, o_ixor, o_ishl, o_ishr, o_idiv, o_irem, o_ineg, o_ladd, o_lsub, o_lmul, o_land, o_lor, o_lxor, o_ldiv, o_lrem, o_lneg, o_lcmp, o_i2l, o_l2i, o_i2b, o_i2c, o_iushr, o_lshl, o_lshr, o_if_eq, o_if_ne, o_if_lt, o_if_ge, o_if_gt, o_if_le, o_icmp_eq, o_icmp_ne, o_icmp_lt, o_icmp_ge, o_icmp_gt, o_icmp_le, o_ifnull, o_ifnonnull, o_acmp_eq, o_acmp_ne, o_is, o_ls, o_as, o_iinc, o_kill, o_sw, o_ireturn, o_zreturn, o_nreturn, o_lreturn, o_areturn, o_return, o_athrow, o_call, entP, lg_sl, Value.category, st1, st2, List.set, List.getElem?_cons_zero, List.getElem?_cons_succ, List.foldl, popN, aft, o_gI, o_gR, o_pI, o_pN, o_pR, o_aI, o_aG, o_aR, o_len, o_aR8, o_sI, o_sB, o_sZ, o_sG, o_new, o_newA, o_cast, o_inst, o_cst, o_oi, o_sR, o_gIc, o_gSv, o_gSc, o_getc, o_dead, o_acopy, o_castA, o_castI, o_sR7, o_mna, o_mmax, o_mmin, o_mabs, t1, e4, t2, va_rf, t5, t6, nn_mulL, e64, hy, eidem, nn_eqL, nn_ltL, nn_leL, nn_Llt, nn_Lle, nn_lt, nn_le, nn_eq, nn_in, nn_clamp, nn_succ, nn_pos, nn_neg1, b2, b3, b4, hT_sI, hT_sR, hT_sG, hL_sI, hL_sR, hL_sG, hI_sI, hI_sR, hI_sG, hG_sI, hG_sR, hG_sG, hR_sI, hR_sR, hR_sG, hN_sI, hN_sR, hN_sG, hC_sI, hC_sR, hC_sG, hS_sI, hS_sR, hS_sG, hT_nw, hL_nw, hI_nw, hG_nw, hR_nw, hN_nw, hC_nw, hS_nw, hvc, hvi, dspI, vref, va_rf]
          simp [nn_eqL, nn_ltL, nn_leL, nn_Llt, nn_Lle, nn_lt, nn_le, nn_eq, nn_in, nn_clamp, nn_succ, nn_pos, nn_neg1, b2, b3, b4, t1, t2, em, hto, Ne.symm hto]
          first | exact hnext | (rw [em]; exact hnext)
        · rw [hI_sI, if_neg (fun q => hto q.1), hI_sI]
          by_cases ci : i = l'.length
          · subst ci
            simp at hc
            subst hc
            rw [if_pos ⟨rfl, rfl⟩]; exact ⟨rfl, byt_lt w r⟩
          · rw [if_neg (fun q => ci q.2)]
            have hlt := (List.getElem?_eq_some_iff.1 hc).1
            simp at hlt
            rw [List.getElem?_append_left (by omega)] at hc
            exact t7 i c hc
    exact hind m l σ (by omega) (by omega) hk HF.rfl9 h h4 ⟨rfl, rfl⟩ rfl
  · rw [if_pos (by omega)] at k
    exact k σ hk HF.rfl9 h ⟨rfl, rfl⟩
