/-! THE MODEL settles a sum: all of it -/
set_option maxRecDepth 100000
theorem wd8_congr {g g' : Nat → Bool} (h : ∀ i, i < 8 → g i = g' i) : wd8 g = wd8 g' := by
  unfold wd8
  rw [h 0 (by omega), h 1 (by omega), h 2 (by omega), h 3 (by omega), h 4 (by omega), h 5 (by omega), h 6 (by omega), h 7 (by omega)]
def g8 (b0 b1 b2 b3 b4 b5 b6 b7 : Bool) : Nat → Bool
  | 0 => b0
  | 1 => b1
  | 2 => b2
  | 3 => b3
  | 4 => b4
  | 5 => b5
  | 6 => b6
  | _ => b7
/-- the first words -/
theorem x_set1 {mo : Nat} {Q : Ret MS} {ms : MS} {R : Rt} {e : Nat} {φ0 : Nat → Int32} (h : TbM ms R) (he : e < (sms R.1).length)
    (k : ∀ φ, (∀ k, k < (nds R).length → φ (30720 + 240 * e + k) = wd8 (g8 (b9 (wkP R e k)) (b9 (klP R e k)) true true false true false true)) → (∀ x, ¬ (30720 + 240 * e ≤ x ∧ x < 30720 + 240 * e + (nds R).length) → φ x = φ0 x) → bX2_settle_84 mo Q [some (.ref mo), some (.int (nn e)), some (.int (nn (30720 + 240 * e))), none, none] [] (msA ms 31 φ)) :
    bX2_settle_9 mo Q [some (.ref mo), some (.int (nn e)), some (.int (nn (30720 + 240 * e))), some (.int 0), none] [] (msA ms 31 φ0) := by
  have l := h.n.1
  have l2 := h.2.2.2
  have b0 : (nds R).length < 2147483648 := by omega
  have be : e < 2147483648 := by omega
  generalize hf : 30720 + 240 * e = f at k
  have hfl : f + 240 ≤ 38400 := by omega
  unfold bX2_settle_9
  intro X hX
  have hind : ∀ r q φ, q + r = (nds R).length → (∀ k, k < q → φ (f + k) = wd8 (g8 (b9 (wkP R e k)) (b9 (klP R e k)) true true false true false true)) → (∀ x, ¬ (f ≤ x ∧ x < f + (nds R).length) → φ x = φ0 x) → X [some (.ref mo), some (.int (nn e)), some (.int (nn f)), some (.int (nn q)), none] [] (msA ms 31 φ) := by
    intro r
    induction r with
    | zero =>
      intro q φ e1 h1 h2
      apply hX
      have b1 : q < 2147483648 := by omega
      have b3 : (nds R).length ≤ q := by omega
      have b4 : ¬ q < (nds R).length := by omega
      have := k φ (fun j hj => h1 j (by omega)) h2
      simp [bX2_settle_84, o_ic, o_lc, o_null, o_il, o_ll, o_al, o_dup, o_pop, o_dup_x1, o_dup2, o_iadd, o_isub, o_imul, o_iand, o_ior, o_ixor, o_ishl, o_ishr, o_idiv, o_irem, o_ineg, o_ladd, o_lsub, o_lmul, o_land, o_lor, o_lxor, o_ldiv, o_lrem, o_lneg, o_lcmp, o_i2l, o_l2i, o_i2b, o_i2c, o_iushr, o_lshl, o_lshr, o_if_eq, o_if_ne, o_if_lt, o_if_ge, o_if_gt, o_if_le, o_icmp_eq, o_icmp_ne, o_icmp_lt, o_icmp_ge, o_icmp_gt, o_icmp_le, o_ifnull, o_ifnonnull, o_acmp_eq, o_acmp_ne, o_is, o_ls, o_as, o_iinc, o_kill, o_sw, o_ireturn, o_zreturn, o_nreturn, o_lreturn, o_areturn, o_return, o_athrow, o_call, entP, lg_sl, Value.category, st1, st2, List.set, List.getElem?_cons_zero, List.getElem?_cons_succ, List.foldl, popN, aft, o_mg, o_mgl, o_mga, o_mp, o_mpz, o_mpl, o_mia, o_mis, o_mbs, o_mc, mput_get, mput_arr, mput_let, mput_put, mset_get, mset_int, mset_let, mputL_get, mputL_arr, mputL_let, mputL_put, i64_8, mLen, vpL, nn_addL, nn_addR, nn_mulL, nn_add, nn_mul, nn_eqL, nn_ltL, nn_leL, nn_Llt, nn_Lle, nn_lt, nn_le, nn_eq, nn_in, nn_clamp, nn_succ, nn_pos, nn_neg1, msA_get, msA_int, msA_let, mset_msA, upd9_get] at this
      simp [bX2_settle_84, o_ic, o_lc, o_null, o_il, o_ll, o_al, o_dup, o_pop, o_dup_x1, o_dup2, o_iadd, o_isub, o_imul, o_iand, o_ior, o_ixor, o_ishl, o_ishr, o_idiv, o_irem, o_ineg, o_ladd, o_lsub, o_lmul, o_land, o_lor, o_lxor, o_ldiv, o_lrem, o_lneg, o_lcmp, o_i2l, o_l2i, o_i2b, o_i2c, o_iushr, o_lshl, o_lshr, o_if_eq, o_if_ne, o_if_lt, o_if_ge, o_if_gt, o_if_le, o_icmp_eq, o_icmp_ne, o_icmp_lt, o_icmp_ge, o_icmp_gt, o_icmp_le, o_ifnull, o_ifnonnull, o_acmp_eq, o_acmp_ne, o_is, o_ls, o_as, o_iinc, o_kill, o_sw, o_ireturn, o_zreturn, o_nreturn, o_lreturn, o_areturn, o_return, o_athrow, o_call, entP, lg_sl, Value.category, st1, st2, List.set, List.getElem?_cons_zero, List.getElem?_cons_succ, List.foldl, popN, aft, o_mg, o_mgl, o_mga, o_mp, o_mpz, o_mpl, o_mia, o_mis, o_mbs, o_mc, mput_get, mput_arr, mput_let, mput_put, mset_get, mset_int, mset_let, mputL_get, mputL_arr, mputL_let, mputL_put, i64_8, mLen, vpL, nn_addL, nn_addR, nn_mulL, nn_add, nn_mul, nn_eqL, nn_ltL, nn_leL, nn_Llt, nn_Lle, nn_lt, nn_le, nn_eq, nn_in, nn_clamp, nn_succ, nn_pos, nn_neg1, msA_get, msA_int, msA_let, mset_msA, upd9_get, h.n.2, b0, b1, b3, b4]
      exact this
    | succ r ih =>
      intro q φ e1 h1 h2
      apply hX
      have hq : q < (nds R).length := by omega
      have b1 : q < 2147483648 := by omega
      have b4 : ¬ (nds R).length ≤ q := by omega
      have b5 : f + q < 2147483648 := by omega
      have b6 : f + q < 38400 := by omega
      have b7 : 960 + q < 2147483648 := by omega
      have b8 : 960 + q < 1200 := by omega
      obtain ⟨c1, c2, c3, c4, -⟩ := (h.nd hq).1
      have ok := (h.nd hq).2
      have q1 : onn (nSm (ndA (nds R) q)) = nn e ↔ wkP R e q := by
        unfold wkP
        cases hs : nSm (ndA (nds R) q) with
        | none => simp only [onn]; constructor
                  · intro z; exact ((nn_neg1 be).1 z.symm).elim
                  · intro z; cases z
        | some t =>
          have := ok.2.2.2.1 t hs
          simp only [onn]; rw [nn_eq (by omega) be]; simp
      have fin : ∀ w : Int32, w = wd8 (g8 (b9 (wkP R e q)) (b9 (klP R e q)) true true false true false true) → X [some (.ref mo), some (.int (nn e)), some (.int (nn f)), some (.int (nn (q + 1))), none] [] (msA ms 31 (upd9 φ (f + q) w)) := by
        intro w hw
        refine ih (q + 1) _ (by omega) (fun j hj => ?_) (fun x hx => ?_)
        · rw [upd9_get]
          by_cases c : j = q
          · subst c; rw [if_pos rfl]; exact hw
          · rw [if_neg (by omega)]; exact h1 j (by omega)
        · rw [upd9_get, if_neg (by omega)]; exact h2 x hx
      simp [bX2_settle_48, bX2_settle_49, o_ic, o_lc, o_null, o_il, o_ll, o_al, o_dup, o_pop, o_dup_x1, o_dup2, o_iadd, o_isub, o_imul, o_iand, o_ior, o_ixor, o_ishl, o_ishr, o_idiv, o_irem, o_ineg, o_ladd, o_lsub, o_lmul, o_land, o_lor, o_lxor, o_ldiv, o_lrem, o_lneg, o_lcmp, o_i2l, o_l2i, o_i2b, o_i2c, o_iushr, o_lshl, o_lshr, o_if_eq, o_if_ne, o_if_lt, o_if_ge, o_if_gt, o_if_le, o_icmp_eq, o_icmp_ne, o_icmp_lt, o_icmp_ge, o_icmp_gt, o_icmp_le, o_ifnull, o_ifnonnull, o_acmp_eq, o_acmp_ne, o_is, o_ls, o_as, o_iinc, o_kill, o_sw, o_ireturn, o_zreturn, o_nreturn, o_lreturn, o_areturn, o_return, o_athrow, o_call, entP, lg_sl, Value.category, st1, st2, List.set, List.getElem?_cons_zero, List.getElem?_cons_succ, List.foldl, popN, aft, o_mg, o_mgl, o_mga, o_mp, o_mpz, o_mpl, o_mia, o_mis, o_mbs, o_mc, mput_get, mput_arr, mput_let, mput_put, mset_get, mset_int, mset_let, mputL_get, mputL_arr, mputL_let, mputL_put, i64_8, mLen, vpL, nn_addL, nn_addR, nn_mulL, nn_add, nn_mul, nn_eqL, nn_ltL, nn_leL, nn_Llt, nn_Lle, nn_lt, nn_le, nn_eq, nn_in, nn_clamp, nn_succ, nn_pos, nn_neg1, msA_get, msA_int, msA_let, mset_msA, upd9_get, h.n.2, b0, b1, hq, b4, b7, b8, c4, q1]
      refine ⟨fun g1 => ?_, fun g1 => ?_⟩
      · refine m_kills h.fa hq he ?_
        simp [bX2_settle_63, bX2_settle_64, o_ic, o_lc, o_null, o_il, o_ll, o_al, o_dup, o_pop, o_dup_x1, o_dup2, o_iadd, o_isub, o_imul, o_iand, o_ior, o_ixor, o_ishl, o_ishr, o_idiv, o_irem, o_ineg, o_ladd, o_lsub, o_lmul, o_land, o_lor, o_lxor, o_ldiv, o_lrem, o_lneg, o_lcmp, o_i2l, o_l2i, o_i2b, o_i2c, o_iushr, o_lshl, o_lshr, o_if_eq, o_if_ne, o_if_lt, o_if_ge, o_if_gt, o_if_le, o_icmp_eq, o_icmp_ne, o_icmp_lt, o_icmp_ge, o_icmp_gt, o_icmp_le, o_ifnull, o_ifnonnull, o_acmp_eq, o_acmp_ne, o_is, o_ls, o_as, o_iinc, o_kill, o_sw, o_ireturn, o_zreturn, o_nreturn, o_lreturn, o_areturn, o_return, o_athrow, o_call, entP, lg_sl, Value.category, st1, st2, List.set, List.getElem?_cons_zero, List.getElem?_cons_succ, List.foldl, popN, aft, o_mg, o_mgl, o_mga, o_mp, o_mpz, o_mpl, o_mia, o_mis, o_mbs, o_mc, mput_get, mput_arr, mput_let, mput_put, mset_get, mset_int, mset_let, mputL_get, mputL_arr, mputL_let, mputL_put, i64_8, mLen, vpL, nn_addL, nn_addR, nn_mulL, nn_add, nn_mul, nn_eqL, nn_ltL, nn_leL, nn_Llt, nn_Lle, nn_lt, nn_le, nn_eq, nn_in, nn_clamp, nn_succ, nn_pos, nn_neg1, msA_get, msA_int, msA_let, mset_msA, upd9_get, b2i_0, b5, b6]
        refine ⟨fun g2 => fin _ ?_, fun g2 => fin _ ?_⟩
        · rw [b9_not.2 g1, g2]; decide
        · rw [b9_not.2 g1, g2]; decide
      · refine m_kills h.fa hq he ?_
        simp [bX2_settle_63, bX2_settle_64, o_ic, o_lc, o_null, o_il, o_ll, o_al, o_dup, o_pop, o_dup_x1, o_dup2, o_iadd, o_isub, o_imul, o_iand, o_ior, o_ixor, o_ishl, o_ishr, o_idiv, o_irem, o_ineg, o_ladd, o_lsub, o_lmul, o_land, o_lor, o_lxor, o_ldiv, o_lrem, o_lneg, o_lcmp, o_i2l, o_l2i, o_i2b, o_i2c, o_iushr, o_lshl, o_lshr, o_if_eq, o_if_ne, o_if_lt, o_if_ge, o_if_gt, o_if_le, o_icmp_eq, o_icmp_ne, o_icmp_lt, o_icmp_ge, o_icmp_gt, o_icmp_le, o_ifnull, o_ifnonnull, o_acmp_eq, o_acmp_ne, o_is, o_ls, o_as, o_iinc, o_kill, o_sw, o_ireturn, o_zreturn, o_nreturn, o_lreturn, o_areturn, o_return, o_athrow, o_call, entP, lg_sl, Value.category, st1, st2, List.set, List.getElem?_cons_zero, List.getElem?_cons_succ, List.foldl, popN, aft, o_mg, o_mgl, o_mga, o_mp, o_mpz, o_mpl, o_mia, o_mis, o_mbs, o_mc, mput_get, mput_arr, mput_let, mput_put, mset_get, mset_int, mset_let, mputL_get, mputL_arr, mputL_let, mputL_put, i64_8, mLen, vpL, nn_addL, nn_addR, nn_mulL, nn_add, nn_mul, nn_eqL, nn_ltL, nn_leL, nn_Llt, nn_Lle, nn_lt, nn_le, nn_eq, nn_in, nn_clamp, nn_succ, nn_pos, nn_neg1, msA_get, msA_int, msA_let, mset_msA, upd9_get, b2i_0, b5, b6]
        refine ⟨fun g2 => fin _ ?_, fun g2 => fin _ ?_⟩
        · rw [b9_iff.2 g1, g2]; decide
        · rw [b9_iff.2 g1, g2]; decide
  exact hind (nds R).length 0 φ0 (by omega) (fun j hj => by omega) (fun _ _ => rfl)
/-- early -/
theorem x_set2 {mo : Nat} {Q : Ret MS} {ms : MS} {R : Rt} {e : Nat} {φ0 : Nat → Int32} {G : Nat → Nat → Bool} (h : TbM ms R) (he : e < (sms R.1).length) (h0 : RwX (30720 + 240 * e) (nds R).length 4 G φ0 φ0 (fun _ => false))
    (k : ∀ φ, RwX (30720 + 240 * e) (nds R).length 4 G φ0 φ (fun q => b9 (q < (nds R).length ∧ G q 2 = true ∧ (q = 0 ∨ ∃ a, ld (nds R).length (t1R R) (t2R R) a q ∧ (G a 1 || !G a 3 && !G a 2) = true))) → bX2_settle_151 mo Q [some (.ref mo), some (.int (nn e)), some (.int (nn (30720 + 240 * e))), none, none] [] (msA ms 31 φ)) :
    bX2_settle_99 mo Q [some (.ref mo), some (.int (nn e)), some (.int (nn (30720 + 240 * e))), some (.int 0), none] [] (msA ms 31 φ0) := by
  have l := h.n.1
  have l2 := h.2.2.2
  have b0 : (nds R).length < 2147483648 := by omega
  generalize hf : 30720 + 240 * e = f at h0 k
  have hfl : f + 240 ≤ 38400 := by omega
  generalize hP : (fun q : Nat => q < (nds R).length ∧ G q 2 = true ∧ (q = 0 ∨ ∃ a, ld (nds R).length (t1R R) (t2R R) a q ∧ (G a 1 || !G a 3 && !G a 2) = true)) = P
  have hPq : ∀ q, P q ↔ (q < (nds R).length ∧ G q 2 = true ∧ (q = 0 ∨ ∃ a, ld (nds R).length (t1R R) (t2R R) a q ∧ (G a 1 || !G a 3 && !G a 2) = true)) := fun q => by rw [← hP]
  have k' : ∀ φ, RwX f (nds R).length 4 G φ0 φ (fun q => b9 (P q)) → bX2_settle_151 mo Q [some (.ref mo), some (.int (nn e)), some (.int (nn f)), none, none] [] (msA ms 31 φ) := fun φ q => k φ (by rw [← hP] at q; exact q)
  clear k
  unfold bX2_settle_99
  intro X hX
  have hind : ∀ r q φ, q + r = (nds R).length → RwX f (nds R).length 4 G φ0 φ (fun j => decide (j < q) && b9 (P j)) → X [some (.ref mo), some (.int (nn e)), some (.int (nn f)), some (.int (nn q)), none] [] (msA ms 31 φ) := by
    intro r
    induction r with
    | zero =>
      intro q φ e1 h1
      apply hX
      have b1 : q < 2147483648 := by omega
      have b3 : (nds R).length ≤ q := by omega
      have b4 : ¬ q < (nds R).length := by omega
      have e2 : (fun j => decide (j < q) && b9 (P j)) = fun j => b9 (P j) := by
        funext j
        by_cases c : j < q
        · simp [c]
        · simp only [c, decide_false, Bool.false_and]; symm; exact b9_not.2 (fun z => by have := ((hPq j).1 z).1; omega)
      rw [e2] at h1
      have := k' φ h1
      simp [bX2_settle_151, o_ic, o_lc, o_null, o_il, o_ll, o_al, o_dup, o_pop, o_dup_x1, o_dup2, o_iadd, o_isub, o_imul, o_iand, o_ior, o_ixor, o_ishl, o_ishr, o_idiv, o_irem, o_ineg, o_ladd, o_lsub, o_lmul, o_land, o_lor, o_lxor, o_ldiv, o_lrem, o_lneg, o_lcmp, o_i2l, o_l2i, o_i2b, o_i2c, o_iushr, o_lshl, o_lshr, o_if_eq, o_if_ne, o_if_lt, o_if_ge, o_if_gt, o_if_le, o_icmp_eq, o_icmp_ne, o_icmp_lt, o_icmp_ge, o_icmp_gt, o_icmp_le, o_ifnull, o_ifnonnull, o_acmp_eq, o_acmp_ne, o_is, o_ls, o_as, o_iinc, o_kill, o_sw, o_ireturn, o_zreturn, o_nreturn, o_lreturn, o_areturn, o_return, o_athrow, o_call, entP, lg_sl, Value.category, st1, st2, List.set, List.getElem?_cons_zero, List.getElem?_cons_succ, List.foldl, popN, aft, o_mg, o_mgl, o_mga, o_mp, o_mpz, o_mpl, o_mia, o_mis, o_mbs, o_mc, mput_get, mput_arr, mput_let, mput_put, mset_get, mset_int, mset_let, mputL_get, mputL_arr, mputL_let, mputL_put, i64_8, mLen, vpL, nn_addL, nn_addR, nn_mulL, nn_add, nn_mul, nn_eqL, nn_ltL, nn_leL, nn_Llt, nn_Lle, nn_lt, nn_le, nn_eq, nn_in, nn_clamp, nn_succ, nn_pos, nn_neg1, msA_get, msA_int, msA_let, mset_msA, upd9_get] at this
      simp [bX2_settle_151, o_ic, o_lc, o_null, o_il, o_ll, o_al, o_dup, o_pop, o_dup_x1, o_dup2, o_iadd, o_isub, o_imul, o_iand, o_ior, o_ixor, o_ishl, o_ishr, o_idiv, o_irem, o_ineg, o_ladd, o_lsub, o_lmul, o_land, o_lor, o_lxor, o_ldiv, o_lrem, o_lneg, o_lcmp, o_i2l, o_l2i, o_i2b, o_i2c, o_iushr, o_lshl, o_lshr, o_if_eq, o_if_ne, o_if_lt, o_if_ge, o_if_gt, o_if_le, o_icmp_eq, o_icmp_ne, o_icmp_lt, o_icmp_ge, o_icmp_gt, o_icmp_le, o_ifnull, o_ifnonnull, o_acmp_eq, o_acmp_ne, o_is, o_ls, o_as, o_iinc, o_kill, o_sw, o_ireturn, o_zreturn, o_nreturn, o_lreturn, o_areturn, o_return, o_athrow, o_call, entP, lg_sl, Value.category, st1, st2, List.set, List.getElem?_cons_zero, List.getElem?_cons_succ, List.foldl, popN, aft, o_mg, o_mgl, o_mga, o_mp, o_mpz, o_mpl, o_mia, o_mis, o_mbs, o_mc, mput_get, mput_arr, mput_let, mput_put, mset_get, mset_int, mset_let, mputL_get, mputL_arr, mputL_let, mputL_put, i64_8, mLen, vpL, nn_addL, nn_addR, nn_mulL, nn_add, nn_mul, nn_eqL, nn_ltL, nn_leL, nn_Llt, nn_Lle, nn_lt, nn_le, nn_eq, nn_in, nn_clamp, nn_succ, nn_pos, nn_neg1, msA_get, msA_int, msA_let, mset_msA, upd9_get, h.n.2, b0, b1, b3, b4]
      exact this
    | succ r ih =>
      intro q φ e1 h1
      apply hX
      have hq : q < (nds R).length := by omega
      have b1 : q < 2147483648 := by omega
      have b4 : ¬ (nds R).length ≤ q := by omega
      have b5 : f + q < 2147483648 := by omega
      have b6 : f + q < 38400 := by omega
      generalize hG2 : (fun j => updB (G j) 4 (decide (j < q) && b9 (P j))) = G2
      have hFa : FaM (msA ms 31 φ) f (nds R).length G2 := fun j hj => by rw [msA_get, if_pos rfl, ← hG2]; exact h1.1 j hj
      have c2 : ∀ j i, i ≠ 4 → G2 j i = G j i := fun j i hi => by rw [← hG2]; simp [updB, hi]
      have stay : ¬ P q → X [some (.ref mo), some (.int (nn e)), some (.int (nn f)), some (.int (nn (q + 1))), none] [] (msA ms 31 φ) := by
        intro hn
        refine ih (q + 1) φ (by omega) ?_
        have : (fun j => decide (j < q + 1) && b9 (P j)) = fun j => decide (j < q) && b9 (P j) := by
          funext j
          by_cases c : j = q
          · subst c; rw [b9_not.2 hn]; simp
          · have : (j < q + 1) ↔ (j < q) := by omega
            simp [this]
        rw [this]; exact h1
      have mark : P q → X [some (.ref mo), some (.int (nn e)), some (.int (nn f)), some (.int (nn (q + 1))), none] [] (msA ms 31 (upd9 φ (f + q) (φ (f + q) ||| 16))) := by
        intro hp
        refine ih (q + 1) _ (by omega) ⟨fun j hj => ?_, fun x hx => ?_, fun j hj => ?_⟩
        · rw [upd9_get]
          by_cases c : j = q
          · subst c
            rw [if_pos rfl, h1.1 j hj, show (16 : Int32) = p2 4 from rfl, wd8_or _ (Or.inl rfl)]
            congr 1; funext z; by_cases c2 : z = 4 <;> simp [updB, c2, b9_iff.2 hp]
          · rw [if_neg (by omega), h1.1 j hj]
            have : (j < q + 1) ↔ (j < q) := by omega
            simp [this]
        · rw [upd9_get, if_neg (by omega)]; exact h1.2.1 x hx
        · simp at hj; exact ((hPq j).1 (b9_iff.1 hj.2)).1
      simp [o_ic, o_lc, o_null, o_il, o_ll, o_al, o_dup, o_pop, o_dup_x1, o_dup2, o_iadd, o_isub, o_imul, o_iand, o_ior, o_ixor, o_ishl, o_ishr, o_idiv, o_irem, o_ineg, o_ladd, o_lsub, o_lmul, o_land, o_lor, o_lxor, o_ldiv, o_lrem, o_lneg, o_lcmp, o_i2l, o_l2i, o_i2b, o_i2c, o_iushr, o_lshl, o_lshr, o_if_eq, o_if_ne, o_if_lt, o_if_ge, o_if_gt, o_if_le, o_icmp_eq, o_icmp_ne, o_icmp_lt, o_icmp_ge, o_icmp_gt, o_icmp_le, o_ifnull, o_ifnonnull, o_acmp_eq, o_acmp_ne, o_is, o_ls, o_as, o_iinc, o_kill, o_sw, o_ireturn, o_zreturn, o_nreturn, o_lreturn, o_areturn, o_return, o_athrow, o_call, entP, lg_sl, Value.category, st1, st2, List.set, List.getElem?_cons_zero, List.getElem?_cons_succ, List.foldl, popN, aft, o_mg, o_mgl, o_mga, o_mp, o_mpz, o_mpl, o_mia, o_mis, o_mbs, o_mc, mput_get, mput_arr, mput_let, mput_put, mset_get, mset_int, mset_let, mputL_get, mputL_arr, mputL_let, mputL_put, i64_8, mLen, vpL, nn_addL, nn_addR, nn_mulL, nn_add, nn_mul, nn_eqL, nn_ltL, nn_leL, nn_Llt, nn_Lle, nn_lt, nn_le, nn_eq, nn_in, nn_clamp, nn_succ, nn_pos, nn_neg1, msA_get, msA_int, msA_let, mset_msA, upd9_get, h.n.2, b0, b1, hq, b4]
      refine m_is (i := 2) (g := G2 q) (by omega) b6 (hFa q hq) ?_
      rw [c2 q 2 (by omega)]
      simp [bX2_settle_145, bX2_settle_132, o_ic, o_lc, o_null, o_il, o_ll, o_al, o_dup, o_pop, o_dup_x1, o_dup2, o_iadd, o_isub, o_imul, o_iand, o_ior, o_ixor, o_ishl, o_ishr, o_idiv, o_irem, o_ineg, o_ladd, o_lsub, o_lmul, o_land, o_lor, o_lxor, o_ldiv, o_lrem, o_lneg, o_lcmp, o_i2l, o_l2i, o_i2b, o_i2c, o_iushr, o_lshl, o_lshr, o_if_eq, o_if_ne, o_if_lt, o_if_ge, o_if_gt, o_if_le, o_icmp_eq, o_icmp_ne, o_icmp_lt, o_icmp_ge, o_icmp_gt, o_icmp_le, o_ifnull, o_ifnonnull, o_acmp_eq, o_acmp_ne, o_is, o_ls, o_as, o_iinc, o_kill, o_sw, o_ireturn, o_zreturn, o_nreturn, o_lreturn, o_areturn, o_return, o_athrow, o_call, entP, lg_sl, Value.category, st1, st2, List.set, List.getElem?_cons_zero, List.getElem?_cons_succ, List.foldl, popN, aft, o_mg, o_mgl, o_mga, o_mp, o_mpz, o_mpl, o_mia, o_mis, o_mbs, o_mc, mput_get, mput_arr, mput_let, mput_put, mset_get, mset_int, mset_let, mputL_get, mputL_arr, mputL_let, mputL_put, i64_8, mLen, vpL, nn_addL, nn_addR, nn_mulL, nn_add, nn_mul, nn_eqL, nn_ltL, nn_leL, nn_Llt, nn_Lle, nn_lt, nn_le, nn_eq, nn_in, nn_clamp, nn_succ, nn_pos, nn_neg1, msA_get, msA_int, msA_let, mset_msA, upd9_get, b2i_0, b1, b5, b6]
      refine ⟨fun g1 => stay (fun z => by have := ((hPq q).1 z).2.1; rw [g1] at this; cases this), fun g1 => ⟨fun g2 => mark ((hPq q).2 ⟨hq, g1, Or.inl g2⟩), fun g2 => ?_⟩⟩
      refine m_anyAhead (G := G2) h.fa hq (by omega) hFa ?_
      have e3 : (∃ a, ld (nds R).length (t1R R) (t2R R) a q ∧ (G2 a 1 || !G2 a 3 && !G2 a 2) = true) ↔ ∃ a, ld (nds R).length (t1R R) (t2R R) a q ∧ (G a 1 || !G a 3 && !G a 2) = true := by
        constructor
        · rintro ⟨a, z1, z2⟩; rw [c2 a 1 (by omega), c2 a 2 (by omega), c2 a 3 (by omega)] at z2; exact ⟨a, z1, z2⟩
        · rintro ⟨a, z1, z2⟩; refine ⟨a, z1, ?_⟩; rw [c2 a 1 (by omega), c2 a 2 (by omega), c2 a 3 (by omega)]; exact z2
      have e4 : b9 (∃ a, ld (nds R).length (t1R R) (t2R R) a q ∧ (G2 a 1 || !G2 a 3 && !G2 a 2) = true) = b9 (∃ a, ld (nds R).length (t1R R) (t2R R) a q ∧ (G a 1 || !G a 3 && !G a 2) = true) := by rw [propext e3]
      rw [e4]
      generalize hg : b9 (∃ a, ld (nds R).length (t1R R) (t2R R) a q ∧ (G a 1 || !G a 3 && !G a 2) = true) = gb
      simp [bX2_settle_145, bX2_settle_132, o_ic, o_lc, o_null, o_il, o_ll, o_al, o_dup, o_pop, o_dup_x1, o_dup2, o_iadd, o_isub, o_imul, o_iand, o_ior, o_ixor, o_ishl, o_ishr, o_idiv, o_irem, o_ineg, o_ladd, o_lsub, o_lmul, o_land, o_lor, o_lxor, o_ldiv, o_lrem, o_lneg, o_lcmp, o_i2l, o_l2i, o_i2b, o_i2c, o_iushr, o_lshl, o_lshr, o_if_eq, o_if_ne, o_if_lt, o_if_ge, o_if_gt, o_if_le, o_icmp_eq, o_icmp_ne, o_icmp_lt, o_icmp_ge, o_icmp_gt, o_icmp_le, o_ifnull, o_ifnonnull, o_acmp_eq, o_acmp_ne, o_is, o_ls, o_as, o_iinc, o_kill, o_sw, o_ireturn, o_zreturn, o_nreturn, o_lreturn, o_areturn, o_return, o_athrow, o_call, entP, lg_sl, Value.category, st1, st2, List.set, List.getElem?_cons_zero, List.getElem?_cons_succ, List.foldl, popN, aft, o_mg, o_mgl, o_mga, o_mp, o_mpz, o_mpl, o_mia, o_mis, o_mbs, o_mc, mput_get, mput_arr, mput_let, mput_put, mset_get, mset_int, mset_let, mputL_get, mputL_arr, mputL_let, mputL_put, i64_8, mLen, vpL, nn_addL, nn_addR, nn_mulL, nn_add, nn_mul, nn_eqL, nn_ltL, nn_leL, nn_Llt, nn_Lle, nn_lt, nn_le, nn_eq, nn_in, nn_clamp, nn_succ, nn_pos, nn_neg1, msA_get, msA_int, msA_let, mset_msA, upd9_get, b2i_0, b1, b5, b6]
      refine ⟨fun g3 => stay (fun z => ?_), fun g3 => mark ((hPq q).2 ⟨hq, g1, Or.inr (b9_iff.1 (hg.trans g3))⟩)⟩
      rcases ((hPq q).1 z).2.2 with z | z
      · exact g2 z
      · exact b9_not.1 (hg.trans g3) z
  refine hind (nds R).length 0 φ0 (by omega) ?_
  have : (fun j => decide (j < 0) && b9 (P j)) = fun _ => false := by funext j; simp
  rw [this]; exact h0
/-- latest -/
theorem x_set3 {mo : Nat} {Q : Ret MS} {ms : MS} {R : Rt} {e : Nat} {φ0 : Nat → Int32} {G : Nat → Nat → Bool} (h : TbM ms R) (he : e < (sms R.1).length) (h0 : RwX (30720 + 240 * e) (nds R).length 6 G φ0 φ0 (fun _ => false))
    (k : ∀ φ, RwX (30720 + 240 * e) (nds R).length 6 G φ0 φ (fun q => b9 (q < (nds R).length ∧ G q 5 = true ∧ (G q 0 = true ∨ ¬ nxA (t1R R) (t2R R) (fun j => G j 5 = true) q))) → bX2_settle_221 mo Q [some (.ref mo), some (.int (nn e)), some (.int (nn (30720 + 240 * e))), none, none] [] (msA ms 31 φ)) :
    bX2_settle_160 mo Q [some (.ref mo), some (.int (nn e)), some (.int (nn (30720 + 240 * e))), some (.int 0), none] [] (msA ms 31 φ0) := by
  have l := h.n.1
  have l2 := h.2.2.2
  have b0 : (nds R).length < 2147483648 := by omega
  generalize hf : 30720 + 240 * e = f at h0 k
  have hfl : f + 240 ≤ 38400 := by omega
  generalize hP : (fun q : Nat => q < (nds R).length ∧ G q 5 = true ∧ (G q 0 = true ∨ ¬ nxA (t1R R) (t2R R) (fun j => G j 5 = true) q)) = P
  have hPq : ∀ q, P q ↔ (q < (nds R).length ∧ G q 5 = true ∧ (G q 0 = true ∨ ¬ nxA (t1R R) (t2R R) (fun j => G j 5 = true) q)) := fun q => by rw [← hP]
  have k' : ∀ φ, RwX f (nds R).length 6 G φ0 φ (fun q => b9 (P q)) → bX2_settle_221 mo Q [some (.ref mo), some (.int (nn e)), some (.int (nn f)), none, none] [] (msA ms 31 φ) := fun φ q => k φ (by rw [← hP] at q; exact q)
  clear k
  unfold bX2_settle_160
  intro X hX
  have hind : ∀ r q φ, q + r = (nds R).length → RwX f (nds R).length 6 G φ0 φ (fun j => decide (j < q) && b9 (P j)) → X [some (.ref mo), some (.int (nn e)), some (.int (nn f)), some (.int (nn q)), none] [] (msA ms 31 φ) := by
    intro r
    induction r with
    | zero =>
      intro q φ e1 h1
      apply hX
      have b1 : q < 2147483648 := by omega
      have b3 : (nds R).length ≤ q := by omega
      have b4 : ¬ q < (nds R).length := by omega
      have e2 : (fun j => decide (j < q) && b9 (P j)) = fun j => b9 (P j) := by
        funext j
        by_cases c : j < q
        · simp [c]
        · simp only [c, decide_false, Bool.false_and]; symm; exact b9_not.2 (fun z => by have := ((hPq j).1 z).1; omega)
      rw [e2] at h1
      have := k' φ h1
      simp [bX2_settle_221, o_ic, o_lc, o_null, o_il, o_ll, o_al, o_dup, o_pop, o_dup_x1, o_dup2, o_iadd, o_isub, o_imul, o_iand, o_ior, o_ixor, o_ishl, o_ishr, o_idiv, o_irem, o_ineg, o_ladd, o_lsub, o_lmul, o_land, o_lor, o_lxor, o_ldiv, o_lrem, o_lneg, o_lcmp, o_i2l, o_l2i, o_i2b, o_i2c, o_iushr, o_lshl, o_lshr, o_if_eq, o_if_ne, o_if_lt, o_if_ge, o_if_gt, o_if_le, o_icmp_eq, o_icmp_ne, o_icmp_lt, o_icmp_ge, o_icmp_gt, o_icmp_le, o_ifnull, o_ifnonnull, o_acmp_eq, o_acmp_ne, o_is, o_ls, o_as, o_iinc, o_kill, o_sw, o_ireturn, o_zreturn, o_nreturn, o_lreturn, o_areturn, o_return, o_athrow, o_call, entP, lg_sl, Value.category, st1, st2, List.set, List.getElem?_cons_zero, List.getElem?_cons_succ, List.foldl, popN, aft, o_mg, o_mgl, o_mga, o_mp, o_mpz, o_mpl, o_mia, o_mis, o_mbs, o_mc, mput_get, mput_arr, mput_let, mput_put, mset_get, mset_int, mset_let, mputL_get, mputL_arr, mputL_let, mputL_put, i64_8, mLen, vpL, nn_addL, nn_addR, nn_mulL, nn_add, nn_mul, nn_eqL, nn_ltL, nn_leL, nn_Llt, nn_Lle, nn_lt, nn_le, nn_eq, nn_in, nn_clamp, nn_succ, nn_pos, nn_neg1, msA_get, msA_int, msA_let, mset_msA, upd9_get] at this
      simp [bX2_settle_221, o_ic, o_lc, o_null, o_il, o_ll, o_al, o_dup, o_pop, o_dup_x1, o_dup2, o_iadd, o_isub, o_imul, o_iand, o_ior, o_ixor, o_ishl, o_ishr, o_idiv, o_irem, o_ineg, o_ladd, o_lsub, o_lmul, o_land, o_lor, o_lxor, o_ldiv, o_lrem, o_lneg, o_lcmp, o_i2l, o_l2i, o_i2b, o_i2c, o_iushr, o_lshl, o_lshr, o_if_eq, o_if_ne, o_if_lt, o_if_ge, o_if_gt, o_if_le, o_icmp_eq, o_icmp_ne, o_icmp_lt, o_icmp_ge, o_icmp_gt, o_icmp_le, o_ifnull, o_ifnonnull, o_acmp_eq, o_acmp_ne, o_is, o_ls, o_as, o_iinc, o_kill, o_sw, o_ireturn, o_zreturn, o_nreturn, o_lreturn, o_areturn, o_return, o_athrow, o_call, entP, lg_sl, Value.category, st1, st2, List.set, List.getElem?_cons_zero, List.getElem?_cons_succ, List.foldl, popN, aft, o_mg, o_mgl, o_mga, o_mp, o_mpz, o_mpl, o_mia, o_mis, o_mbs, o_mc, mput_get, mput_arr, mput_let, mput_put, mset_get, mset_int, mset_let, mputL_get, mputL_arr, mputL_let, mputL_put, i64_8, mLen, vpL, nn_addL, nn_addR, nn_mulL, nn_add, nn_mul, nn_eqL, nn_ltL, nn_leL, nn_Llt, nn_Lle, nn_lt, nn_le, nn_eq, nn_in, nn_clamp, nn_succ, nn_pos, nn_neg1, msA_get, msA_int, msA_let, mset_msA, upd9_get, h.n.2, b0, b1, b3, b4]
      exact this
    | succ r ih =>
      intro q φ e1 h1
      apply hX
      have hq : q < (nds R).length := by omega
      have b1 : q < 2147483648 := by omega
      have b4 : ¬ (nds R).length ≤ q := by omega
      have b5 : f + q < 2147483648 := by omega
      have b6 : f + q < 38400 := by omega
      generalize hG2 : (fun j => updB (G j) 6 (decide (j < q) && b9 (P j))) = G2
      have hFa : FaM (msA ms 31 φ) f (nds R).length G2 := fun j hj => by rw [msA_get, if_pos rfl, ← hG2]; exact h1.1 j hj
      have c2 : ∀ j i, i ≠ 6 → G2 j i = G j i := fun j i hi => by rw [← hG2]; simp [updB, hi]
      have stay : ¬ P q → X [some (.ref mo), some (.int (nn e)), some (.int (nn f)), some (.int (nn (q + 1))), none] [] (msA ms 31 φ) := by
        intro hn
        refine ih (q + 1) φ (by omega) ?_
        have : (fun j => decide (j < q + 1) && b9 (P j)) = fun j => decide (j < q) && b9 (P j) := by
          funext j
          by_cases c : j = q
          · subst c; rw [b9_not.2 hn]; simp
          · have : (j < q + 1) ↔ (j < q) := by omega
            simp [this]
        rw [this]; exact h1
      have mark : P q → X [some (.ref mo), some (.int (nn e)), some (.int (nn f)), some (.int (nn (q + 1))), none] [] (msA ms 31 (upd9 φ (f + q) (φ (f + q) ||| 64))) := by
        intro hp
        refine ih (q + 1) _ (by omega) ⟨fun j hj => ?_, fun x hx => ?_, fun j hj => ?_⟩
        · rw [upd9_get]
          by_cases c : j = q
          · subst c
            rw [if_pos rfl, h1.1 j hj, show (64 : Int32) = p2 6 from rfl, wd8_or _ (Or.inr rfl)]
            congr 1; funext z; by_cases c2 : z = 6 <;> simp [updB, c2, b9_iff.2 hp]
          · rw [if_neg (by omega), h1.1 j hj]
            have : (j < q + 1) ↔ (j < q) := by omega
            simp [this]
        · rw [upd9_get, if_neg (by omega)]; exact h1.2.1 x hx
        · simp at hj; exact ((hPq j).1 (b9_iff.1 hj.2)).1
      simp [o_ic, o_lc, o_null, o_il, o_ll, o_al, o_dup, o_pop, o_dup_x1, o_dup2, o_iadd, o_isub, o_imul, o_iand, o_ior, o_ixor, o_ishl, o_ishr, o_idiv, o_irem, o_ineg, o_ladd, o_lsub, o_lmul, o_land, o_lor, o_lxor, o_ldiv, o_lrem, o_lneg, o_lcmp, o_i2l, o_l2i, o_i2b, o_i2c, o_iushr, o_lshl, o_lshr, o_if_eq, o_if_ne, o_if_lt, o_if_ge, o_if_gt, o_if_le, o_icmp_eq, o_icmp_ne, o_icmp_lt, o_icmp_ge, o_icmp_gt, o_icmp_le, o_ifnull, o_ifnonnull, o_acmp_eq, o_acmp_ne, o_is, o_ls, o_as, o_iinc, o_kill, o_sw, o_ireturn, o_zreturn, o_nreturn, o_lreturn, o_areturn, o_return, o_athrow, o_call, entP, lg_sl, Value.category, st1, st2, List.set, List.getElem?_cons_zero, List.getElem?_cons_succ, List.foldl, popN, aft, o_mg, o_mgl, o_mga, o_mp, o_mpz, o_mpl, o_mia, o_mis, o_mbs, o_mc, mput_get, mput_arr, mput_let, mput_put, mset_get, mset_int, mset_let, mputL_get, mputL_arr, mputL_let, mputL_put, i64_8, mLen, vpL, nn_addL, nn_addR, nn_mulL, nn_add, nn_mul, nn_eqL, nn_ltL, nn_leL, nn_Llt, nn_Lle, nn_lt, nn_le, nn_eq, nn_in, nn_clamp, nn_succ, nn_pos, nn_neg1, msA_get, msA_int, msA_let, mset_msA, upd9_get, h.n.2, b0, b1, hq, b4]
      refine m_is (i := 5) (g := G2 q) (by omega) b6 (hFa q hq) ?_
      rw [c2 q 5 (by omega)]
      simp [bX2_settle_215, bX2_settle_202, o_ic, o_lc, o_null, o_il, o_ll, o_al, o_dup, o_pop, o_dup_x1, o_dup2, o_iadd, o_isub, o_imul, o_iand, o_ior, o_ixor, o_ishl, o_ishr, o_idiv, o_irem, o_ineg, o_ladd, o_lsub, o_lmul, o_land, o_lor, o_lxor, o_ldiv, o_lrem, o_lneg, o_lcmp, o_i2l, o_l2i, o_i2b, o_i2c, o_iushr, o_lshl, o_lshr, o_if_eq, o_if_ne, o_if_lt, o_if_ge, o_if_gt, o_if_le, o_icmp_eq, o_icmp_ne, o_icmp_lt, o_icmp_ge, o_icmp_gt, o_icmp_le, o_ifnull, o_ifnonnull, o_acmp_eq, o_acmp_ne, o_is, o_ls, o_as, o_iinc, o_kill, o_sw, o_ireturn, o_zreturn, o_nreturn, o_lreturn, o_areturn, o_return, o_athrow, o_call, entP, lg_sl, Value.category, st1, st2, List.set, List.getElem?_cons_zero, List.getElem?_cons_succ, List.foldl, popN, aft, o_mg, o_mgl, o_mga, o_mp, o_mpz, o_mpl, o_mia, o_mis, o_mbs, o_mc, mput_get, mput_arr, mput_let, mput_put, mset_get, mset_int, mset_let, mputL_get, mputL_arr, mputL_let, mputL_put, i64_8, mLen, vpL, nn_addL, nn_addR, nn_mulL, nn_add, nn_mul, nn_eqL, nn_ltL, nn_leL, nn_Llt, nn_Lle, nn_lt, nn_le, nn_eq, nn_in, nn_clamp, nn_succ, nn_pos, nn_neg1, msA_get, msA_int, msA_let, mset_msA, upd9_get, b2i_0, b1, b5, b6]
      refine ⟨fun g1 => stay (fun z => by have := ((hPq q).1 z).2.1; rw [g1] at this; cases this), fun g1 => ?_⟩
      refine m_is (i := 0) (g := G2 q) (by omega) b6 (hFa q hq) ?_
      rw [c2 q 0 (by omega)]
      simp [bX2_settle_215, bX2_settle_202, o_ic, o_lc, o_null, o_il, o_ll, o_al, o_dup, o_pop, o_dup_x1, o_dup2, o_iadd, o_isub, o_imul, o_iand, o_ior, o_ixor, o_ishl, o_ishr, o_idiv, o_irem, o_ineg, o_ladd, o_lsub, o_lmul, o_land, o_lor, o_lxor, o_ldiv, o_lrem, o_lneg, o_lcmp, o_i2l, o_l2i, o_i2b, o_i2c, o_iushr, o_lshl, o_lshr, o_if_eq, o_if_ne, o_if_lt, o_if_ge, o_if_gt, o_if_le, o_icmp_eq, o_icmp_ne, o_icmp_lt, o_icmp_ge, o_icmp_gt, o_icmp_le, o_ifnull, o_ifnonnull, o_acmp_eq, o_acmp_ne, o_is, o_ls, o_as, o_iinc, o_kill, o_sw, o_ireturn, o_zreturn, o_nreturn, o_lreturn, o_areturn, o_return, o_athrow, o_call, entP, lg_sl, Value.category, st1, st2, List.set, List.getElem?_cons_zero, List.getElem?_cons_succ, List.foldl, popN, aft, o_mg, o_mgl, o_mga, o_mp, o_mpz, o_mpl, o_mia, o_mis, o_mbs, o_mc, mput_get, mput_arr, mput_let, mput_put, mset_get, mset_int, mset_let, mputL_get, mputL_arr, mputL_let, mputL_put, i64_8, mLen, vpL, nn_addL, nn_addR, nn_mulL, nn_add, nn_mul, nn_eqL, nn_ltL, nn_leL, nn_Llt, nn_Lle, nn_lt, nn_le, nn_eq, nn_in, nn_clamp, nn_succ, nn_pos, nn_neg1, msA_get, msA_int, msA_let, mset_msA, upd9_get, b2i_0, b1, b5, b6]
      refine ⟨fun g2 => mark ((hPq q).2 ⟨hq, g1, Or.inl g2⟩), fun g2 => ?_⟩
      refine m_allNext (i := 5) (G := G2) h.fa hq (by omega) (by omega) hFa ?_
      have e3 : (fun j => G2 j 5 = true) = fun j => G j 5 = true := by funext j; rw [c2 j 5 (by omega)]
      rw [e3]
      generalize hg : b9 (nxA (t1R R) (t2R R) (fun j => G j 5 = true) q) = gb
      simp [bX2_settle_215, bX2_settle_202, o_ic, o_lc, o_null, o_il, o_ll, o_al, o_dup, o_pop, o_dup_x1, o_dup2, o_iadd, o_isub, o_imul, o_iand, o_ior, o_ixor, o_ishl, o_ishr, o_idiv, o_irem, o_ineg, o_ladd, o_lsub, o_lmul, o_land, o_lor, o_lxor, o_ldiv, o_lrem, o_lneg, o_lcmp, o_i2l, o_l2i, o_i2b, o_i2c, o_iushr, o_lshl, o_lshr, o_if_eq, o_if_ne, o_if_lt, o_if_ge, o_if_gt, o_if_le, o_icmp_eq, o_icmp_ne, o_icmp_lt, o_icmp_ge, o_icmp_gt, o_icmp_le, o_ifnull, o_ifnonnull, o_acmp_eq, o_acmp_ne, o_is, o_ls, o_as, o_iinc, o_kill, o_sw, o_ireturn, o_zreturn, o_nreturn, o_lreturn, o_areturn, o_return, o_athrow, o_call, entP, lg_sl, Value.category, st1, st2, List.set, List.getElem?_cons_zero, List.getElem?_cons_succ, List.foldl, popN, aft, o_mg, o_mgl, o_mga, o_mp, o_mpz, o_mpl, o_mia, o_mis, o_mbs, o_mc, mput_get, mput_arr, mput_let, mput_put, mset_get, mset_int, mset_let, mputL_get, mputL_arr, mputL_let, mputL_put, i64_8, mLen, vpL, nn_addL, nn_addR, nn_mulL, nn_add, nn_mul, nn_eqL, nn_ltL, nn_leL, nn_Llt, nn_Lle, nn_lt, nn_le, nn_eq, nn_in, nn_clamp, nn_succ, nn_pos, nn_neg1, msA_get, msA_int, msA_let, mset_msA, upd9_get, b2i_0, b1, b5, b6]
      refine ⟨fun g3 => stay (fun z => ?_), fun g3 => mark ((hPq q).2 ⟨hq, g1, Or.inr (b9_not.1 (hg.trans g3))⟩)⟩
      rcases ((hPq q).1 z).2.2 with z | z
      · rw [g2] at z; cases z
      · exact z (b9_iff.1 (hg.trans g3))
  refine hind (nds R).length 0 φ0 (by omega) ?_
  have : (fun j => decide (j < 0) && b9 (P j)) = fun _ => false := by funext j; simp
  rw [this]; exact h0
