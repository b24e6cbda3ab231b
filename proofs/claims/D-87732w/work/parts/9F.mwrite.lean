/-! THE MODEL writes -/
set_option maxRecDepth 100000
theorem lt16 {x : Int32} : (16 ≤ x) ↔ ¬ x < 16 := by rw [Int32.not_lt]
theorem m_hasT {mo : Nat} {Q : Ret MS} {ms : MS} {R : Rt} {q : Nat} (hq : q < 4) (hs : (sms R.1).length ≤ 32) (w : WfR R) (hT : TgOk R) (hPl : PlM ms q R) (kk : Q (.inl (some (.int (b2i (b9 (hasTR R)) 1)))) ms) : pX2_hasT mo [.ref mo, .int (nn q)] ms Q := by
  have l := nds_240 w
  have l1 := w.1
  have b0 : (sms R.1).length < 2147483648 := by omega
  have b1 : q < 2147483648 := by omega
  have b2 : q < 5 := by omega
  have b3 : 240 * q + R.1.length < 2147483648 := by omega
  have b4 : 32 * q + (sms R.1).length < 2147483648 := by omega
  simp [pX2_hasT, bX2_hasT_0, o_ic, o_lc, o_null, o_il, o_ll, o_al, o_dup, o_pop, o_dup_x1, o_dup2, o_iadd, o_isub, o_imul, o_iand, o_ior, o_ixor, o_ishl, o_ishr, o_idiv, o_irem, o_ineg, o_ladd, o_lsub, o_lmul, o_land, o_lor, o_lxor, o_ldiv, o_lrem, o_lneg, o_lcmp, o_i2l, o_l2i, o_i2b, o_i2c, o_iushr, o_lshl, o_lshr, o_if_eq, o_if_ne, o_if_lt, o_if_ge, o_if_gt, o_if_le, o_icmp_eq, o_icmp_ne, o_icmp_lt, o_icmp_ge, o_icmp_gt, o_icmp_le, o_ifnull, o_ifnonnull, o_acmp_eq, o_acmp_ne, o_is, o_ls, o_as, o_iinc, o_kill, o_sw, o_ireturn, o_zreturn, o_nreturn, o_lreturn, o_areturn, o_return, o_athrow, o_call, entP, lg_sl, Value.category, st1, st2, List.set, List.getElem?_cons_zero, List.getElem?_cons_succ, List.foldl, popN, aft, o_mg, o_mgl, o_mga, o_mp, o_mpz, o_mpl, o_mia, o_mis, o_mbs, o_mc, mput_get, mput_arr, mput_let, mput_put, mset_get, mset_int, mset_let, mputL_get, mputL_arr, mputL_let, mputL_put, i64_8, mLen, vpL, nn_addL, nn_addR, nn_mulL, nn_add, nn_mul]
  -- sums
  have sums : ∀ g : Bool, (g = true ↔ ∃ k, k < R.1.length ∧ hasTN (ndA (nds R) k)) → bX2_hasT_162 mo Q [some (.ref mo), some (.int (nn q)), some (.int (b2i g 1)), some (.int (nn (32 * q + 0))), none, none] [] ms := by
    intro g0 hg0
    unfold bX2_hasT_162
    intro X hX
    have hind : ∀ r e (g : Bool), e + r = (sms R.1).length → (g = true ↔ (g0 = true ∨ ∃ e', e' < e ∧ (tO (smA R e').2.1 ∨ tO (smA R e').2.2))) → X [some (.ref mo), some (.int (nn q)), some (.int (b2i g 1)), some (.int (nn (32 * q + e))), none, none] [] ms := by
      intro r
      induction r with
      | zero =>
        intro e g e1 hg
        apply hX
        have e2 : e = (sms R.1).length := by omega
        have hg' : b9 (hasTR R) = g := by
          have hiff : hasTR R ↔ g = true := by rw [hg, hg0, e2]; rfl
          cases g with
          | true => exact b9_iff.2 (hiff.2 rfl)
          | false => exact b9_not.2 (fun z => nomatch (hiff.1 z))
        rw [hg'] at kk
        subst e2
        have e6 : b2i g 1 = 0 ∨ b2i g 1 = 1 := by cases g <;> simp [b2i]
        simp [bX2_hasT_215, o_ic, o_lc, o_null, o_il, o_ll, o_al, o_dup, o_pop, o_dup_x1, o_dup2, o_iadd, o_isub, o_imul, o_iand, o_ior, o_ixor, o_ishl, o_ishr, o_idiv, o_irem, o_ineg, o_ladd, o_lsub, o_lmul, o_land, o_lor, o_lxor, o_ldiv, o_lrem, o_lneg, o_lcmp, o_i2l, o_l2i, o_i2b, o_i2c, o_iushr, o_lshl, o_lshr, o_if_eq, o_if_ne, o_if_lt, o_if_ge, o_if_gt, o_if_le, o_icmp_eq, o_icmp_ne, o_icmp_lt, o_icmp_ge, o_icmp_gt, o_icmp_le, o_ifnull, o_ifnonnull, o_acmp_eq, o_acmp_ne, o_is, o_ls, o_as, o_iinc, o_kill, o_sw, o_ireturn, o_zreturn, o_nreturn, o_lreturn, o_areturn, o_return, o_athrow, o_call, entP, lg_sl, Value.category, st1, st2, List.set, List.getElem?_cons_zero, List.getElem?_cons_succ, List.foldl, popN, aft, o_mg, o_mgl, o_mga, o_mp, o_mpz, o_mpl, o_mia, o_mis, o_mbs, o_mc, mput_get, mput_arr, mput_let, mput_put, mset_get, mset_int, mset_let, mputL_get, mputL_arr, mputL_let, mputL_put, i64_8, mLen, vpL, nn_addL, nn_addR, nn_mulL, nn_add, nn_mul, nn_eqL, nn_ltL, nn_leL, nn_Llt, nn_Lle, nn_lt, nn_le, nn_eq, nn_in, nn_clamp, nn_succ, nn_pos, nn_neg1, b1, b2, b4, hPl.1.2.2.2.2]
        exact ⟨e6, kk⟩
      | succ r ih =>
        intro e g e1 hg
        apply hX
        have he : e < (sms R.1).length := by omega
        obtain ⟨s1, s2, s3, s4, s5⟩ := hPl.2.2.2.1 e he
        have c1 : 32 * q + e < 2147483648 := by omega
        have c2 : 32 * q + e < 160 := by omega
        have c3 : ¬ 32 * q + (sms R.1).length ≤ 32 * q + e := by omega
        have c4 : 32 * q + e < 32 * q + (sms R.1).length := by omega
        have yes : (g = true ∨ tO (smA R e).2.1 ∨ tO (smA R e).2.2) → X [some (.ref mo), some (.int (nn q)), some (.int 1), some (.int (nn (32 * q + e + 1))), none, none] [] ms := fun z => by
          refine ih (e + 1) true (by omega) ⟨fun _ => ?_, fun _ => rfl⟩
          rcases z with z | z
          · rcases hg.1 z with y | ⟨e', y1, y2⟩
            · exact Or.inl y
            · exact Or.inr ⟨e', by omega, y2⟩
          · exact Or.inr ⟨e, by omega, z⟩
        have no : g = false → ¬ tO (smA R e).2.1 → ¬ tO (smA R e).2.2 → X [some (.ref mo), some (.int (nn q)), some (.int 0), some (.int (nn (32 * q + e + 1))), none, none] [] ms := fun z1 z2 z3 => by
          refine ih (e + 1) false (by omega) ⟨(fun y => nomatch y), fun y => ?_⟩
          exfalso
          rcases y with y | ⟨e', y1, y2⟩
          · have := hg.2 (Or.inl y); rw [z1] at this; cases this
          · by_cases c : e' = e
            · subst c; exact y2.elim z2 z3
            · have := hg.2 (Or.inr ⟨e', by omega, y2⟩); rw [z1] at this; cases this
        simp [bX2_hasT_203, bX2_hasT_207, bX2_hasT_208, o_ic, o_lc, o_null, o_il, o_ll, o_al, o_dup, o_pop, o_dup_x1, o_dup2, o_iadd, o_isub, o_imul, o_iand, o_ior, o_ixor, o_ishl, o_ishr, o_idiv, o_irem, o_ineg, o_ladd, o_lsub, o_lmul, o_land, o_lor, o_lxor, o_ldiv, o_lrem, o_lneg, o_lcmp, o_i2l, o_l2i, o_i2b, o_i2c, o_iushr, o_lshl, o_lshr, o_if_eq, o_if_ne, o_if_lt, o_if_ge, o_if_gt, o_if_le, o_icmp_eq, o_icmp_ne, o_icmp_lt, o_icmp_ge, o_icmp_gt, o_icmp_le, o_ifnull, o_ifnonnull, o_acmp_eq, o_acmp_ne, o_is, o_ls, o_as, o_iinc, o_kill, o_sw, o_ireturn, o_zreturn, o_nreturn, o_lreturn, o_areturn, o_return, o_athrow, o_call, entP, lg_sl, Value.category, st1, st2, List.set, List.getElem?_cons_zero, List.getElem?_cons_succ, List.foldl, popN, aft, o_mg, o_mgl, o_mga, o_mp, o_mpz, o_mpl, o_mia, o_mis, o_mbs, o_mc, mput_get, mput_arr, mput_let, mput_put, mset_get, mset_int, mset_let, mputL_get, mputL_arr, mputL_let, mputL_put, i64_8, mLen, vpL, nn_addL, nn_addR, nn_mulL, nn_add, nn_mul, nn_eqL, nn_ltL, nn_leL, nn_Llt, nn_Lle, nn_lt, nn_le, nn_eq, nn_in, nn_clamp, nn_succ, nn_pos, nn_neg1, b1, b2, b4, hPl.1.2.2.2.2, c1, c2, c3, c4, s2, s4, b2i_0]
        refine ⟨fun z => yes (Or.inl z), fun z => ⟨fun z2 => yes (Or.inr (Or.inl (lt16.1 z2))), fun z2 => ⟨fun z3 => no z (fun y => y z2) (fun y => y z3), fun z3 => yes (Or.inr (Or.inr (lt16.1 z3)))⟩⟩⟩
    exact hind (sms R.1).length 0 g0 (by omega) ⟨fun z => Or.inl z, fun z => z.elim id (fun ⟨e', h1, _⟩ => by omega)⟩
  unfold bX2_hasT_8
  intro X hX
  have hind : ∀ r k (g : Bool), k + r = R.1.length → (g = true ↔ ∃ k', k' < k ∧ hasTN (ndA (nds R) k')) → X [some (.ref mo), some (.int (nn q)), some (.int (b2i g 1)), some (.int (nn (240 * q + k))), none, none] [] ms := by
    intro r
    induction r with
    | zero =>
      intro k g e1 hg
      apply hX
      have e2 : k = R.1.length := by omega
      subst e2
      simp [bX2_hasT_157, o_ic, o_lc, o_null, o_il, o_ll, o_al, o_dup, o_pop, o_dup_x1, o_dup2, o_iadd, o_isub, o_imul, o_iand, o_ior, o_ixor, o_ishl, o_ishr, o_idiv, o_irem, o_ineg, o_ladd, o_lsub, o_lmul, o_land, o_lor, o_lxor, o_ldiv, o_lrem, o_lneg, o_lcmp, o_i2l, o_l2i, o_i2b, o_i2c, o_iushr, o_lshl, o_lshr, o_if_eq, o_if_ne, o_if_lt, o_if_ge, o_if_gt, o_if_le, o_icmp_eq, o_icmp_ne, o_icmp_lt, o_icmp_ge, o_icmp_gt, o_icmp_le, o_ifnull, o_ifnonnull, o_acmp_eq, o_acmp_ne, o_is, o_ls, o_as, o_iinc, o_kill, o_sw, o_ireturn, o_zreturn, o_nreturn, o_lreturn, o_areturn, o_return, o_athrow, o_call, entP, lg_sl, Value.category, st1, st2, List.set, List.getElem?_cons_zero, List.getElem?_cons_succ, List.foldl, popN, aft, o_mg, o_mgl, o_mga, o_mp, o_mpz, o_mpl, o_mia, o_mis, o_mbs, o_mc, mput_get, mput_arr, mput_let, mput_put, mset_get, mset_int, mset_let, mputL_get, mputL_arr, mputL_let, mputL_put, i64_8, mLen, vpL, nn_addL, nn_addR, nn_mulL, nn_add, nn_mul, nn_eqL, nn_ltL, nn_leL, nn_Llt, nn_Lle, nn_lt, nn_le, nn_eq, nn_in, nn_clamp, nn_succ, nn_pos, nn_neg1, b1, b2, b3, hPl.1.2.2.2.1]
      exact sums g hg
    | succ r ih =>
      intro k g e1 hg
      apply hX
      have hk : k < R.1.length := by omega
      have hk' : k < (nds R).length := by rw [nds_len]; omega
      obtain ⟨⟨c1, c2, c3, c4, c5, c6, c7, c8, c9⟩, ok⟩ := hPl.nd w hT hk'
      have b5 : nK (ndA (nds R) k) < 2147483648 := by have := ok.1; omega
      have d1 : 240 * q + k < 2147483648 := by omega
      have d2 : 240 * q + k < 1200 := by omega
      have d3 : ¬ 240 * q + R.1.length ≤ 240 * q + k := by omega
      have d4 : 240 * q + k < 240 * q + R.1.length := by omega
      have yes : (g = true ∨ hasTN (ndA (nds R) k)) → ∀ v4 v5 : Int32, bX2_hasT_145 mo Q X [some (.ref mo), some (.int (nn q)), some (.int (b2i g 1)), some (.int (nn (240 * q + k))), some (.int v4), some (.int v5)] [] ms := fun z v4 v5 => by
        have := ih (k + 1) true (by omega) ⟨fun _ => by
          rcases z with z | z
          · obtain ⟨k', y1, y2⟩ := hg.1 z; exact ⟨k', by omega, y2⟩
          · exact ⟨k, by omega, z⟩, fun _ => rfl⟩
        simp [bX2_hasT_145, bX2_hasT_150, o_ic, o_lc, o_null, o_il, o_ll, o_al, o_dup, o_pop, o_dup_x1, o_dup2, o_iadd, o_isub, o_imul, o_iand, o_ior, o_ixor, o_ishl, o_ishr, o_idiv, o_irem, o_ineg, o_ladd, o_lsub, o_lmul, o_land, o_lor, o_lxor, o_ldiv, o_lrem, o_lneg, o_lcmp, o_i2l, o_l2i, o_i2b, o_i2c, o_iushr, o_lshl, o_lshr, o_if_eq, o_if_ne, o_if_lt, o_if_ge, o_if_gt, o_if_le, o_icmp_eq, o_icmp_ne, o_icmp_lt, o_icmp_ge, o_icmp_gt, o_icmp_le, o_ifnull, o_ifnonnull, o_acmp_eq, o_acmp_ne, o_is, o_ls, o_as, o_iinc, o_kill, o_sw, o_ireturn, o_zreturn, o_nreturn, o_lreturn, o_areturn, o_return, o_athrow, o_call, entP, lg_sl, Value.category, st1, st2, List.set, List.getElem?_cons_zero, List.getElem?_cons_succ, List.foldl, popN, aft, o_mg, o_mgl, o_mga, o_mp, o_mpz, o_mpl, o_mia, o_mis, o_mbs, o_mc, mput_get, mput_arr, mput_let, mput_put, mset_get, mset_int, mset_let, mputL_get, mputL_arr, mputL_let, mputL_put, i64_8, mLen, vpL, nn_addL, nn_addR, nn_mulL, nn_add, nn_mul]
        exact this
      have no : g = false → ¬ hasTN (ndA (nds R) k) → ∀ v4 v5 : Int32, bX2_hasT_149 mo Q X [some (.ref mo), some (.int (nn q)), some (.int (b2i g 1)), some (.int (nn (240 * q + k))), some (.int v4), some (.int v5)] [] ms := fun z1 z2 v4 v5 => by
        have := ih (k + 1) false (by omega) ⟨(fun y => nomatch y), fun ⟨k', y1, y2⟩ => by
          exfalso
          by_cases c : k' = k
          · subst c; exact z2 y2
          · have := hg.2 ⟨k', by omega, y2⟩; rw [z1] at this; cases this⟩
        simp [bX2_hasT_149, bX2_hasT_150, o_ic, o_lc, o_null, o_il, o_ll, o_al, o_dup, o_pop, o_dup_x1, o_dup2, o_iadd, o_isub, o_imul, o_iand, o_ior, o_ixor, o_ishl, o_ishr, o_idiv, o_irem, o_ineg, o_ladd, o_lsub, o_lmul, o_land, o_lor, o_lxor, o_ldiv, o_lrem, o_lneg, o_lcmp, o_i2l, o_l2i, o_i2b, o_i2c, o_iushr, o_lshl, o_lshr, o_if_eq, o_if_ne, o_if_lt, o_if_ge, o_if_gt, o_if_le, o_icmp_eq, o_icmp_ne, o_icmp_lt, o_icmp_ge, o_icmp_gt, o_icmp_le, o_ifnull, o_ifnonnull, o_acmp_eq, o_acmp_ne, o_is, o_ls, o_as, o_iinc, o_kill, o_sw, o_ireturn, o_zreturn, o_nreturn, o_lreturn, o_areturn, o_return, o_athrow, o_call, entP, lg_sl, Value.category, st1, st2, List.set, List.getElem?_cons_zero, List.getElem?_cons_succ, List.foldl, popN, aft, o_mg, o_mgl, o_mga, o_mp, o_mpz, o_mpl, o_mia, o_mis, o_mbs, o_mc, mput_get, mput_arr, mput_let, mput_put, mset_get, mset_int, mset_let, mputL_get, mputL_arr, mputL_let, mputL_put, i64_8, mLen, vpL, nn_addL, nn_addR, nn_mulL, nn_add, nn_mul]
        exact this
      -- behind a: whether b is asked
      have q129 : g = false → nNm (ndA (nds R) k) < 16 → ¬ ((nK (ndA (nds R) k) = 1 ∨ nK (ndA (nds R) k) = 2 ∨ nK (ndA (nds R) k) = 3 ∨ nK (ndA (nds R) k) = 5) ∧ tO (nOa (ndA (nds R) k))) → ∀ (v4 : Int32) (gb : Bool), (gb = true ↔ nK (ndA (nds R) k) = 2 ∨ nK (ndA (nds R) k) = 5) → bX2_hasT_129 mo Q X [some (.ref mo), some (.int (nn q)), some (.int (b2i g 1)), some (.int (nn (240 * q + k))), some (.int v4), some (.int (b2i gb 1))] [] ms := by
        intro z1 z2 z3 v4 gb hgb
        simp [bX2_hasT_129, o_ic, o_lc, o_null, o_il, o_ll, o_al, o_dup, o_pop, o_dup_x1, o_dup2, o_iadd, o_isub, o_imul, o_iand, o_ior, o_ixor, o_ishl, o_ishr, o_idiv, o_irem, o_ineg, o_ladd, o_lsub, o_lmul, o_land, o_lor, o_lxor, o_ldiv, o_lrem, o_lneg, o_lcmp, o_i2l, o_l2i, o_i2b, o_i2c, o_iushr, o_lshl, o_lshr, o_if_eq, o_if_ne, o_if_lt, o_if_ge, o_if_gt, o_if_le, o_icmp_eq, o_icmp_ne, o_icmp_lt, o_icmp_ge, o_icmp_gt, o_icmp_le, o_ifnull, o_ifnonnull, o_acmp_eq, o_acmp_ne, o_is, o_ls, o_as, o_iinc, o_kill, o_sw, o_ireturn, o_zreturn, o_nreturn, o_lreturn, o_areturn, o_return, o_athrow, o_call, entP, lg_sl, Value.category, st1, st2, List.set, List.getElem?_cons_zero, List.getElem?_cons_succ, List.foldl, popN, aft, o_mg, o_mgl, o_mga, o_mp, o_mpz, o_mpl, o_mia, o_mis, o_mbs, o_mc, mput_get, mput_arr, mput_let, mput_put, mset_get, mset_int, mset_let, mputL_get, mputL_arr, mputL_let, mputL_put, i64_8, mLen, vpL, nn_addL, nn_addR, nn_mulL, nn_add, nn_mul, nn_eqL, nn_ltL, nn_leL, nn_Llt, nn_Lle, nn_lt, nn_le, nn_eq, nn_in, nn_clamp, nn_succ, nn_pos, nn_neg1, d1, d2, b2i_0]
        refine ⟨fun y => no z1 (fun x => ?_) _ _, fun y => ?_⟩
        · rcases x with x | x | x
          · exact x z2
          · exact z3 x
          · rw [hgb.2 x.1] at y; cases y
        · have hkb := hgb.1 y
          obtain ⟨e23, -⟩ := c8 (by simp; omega)
          rw [e23]
          refine ⟨fun u => no z1 (fun x => ?_) _ _, fun u => yes (Or.inr (Or.inr (Or.inr ⟨hkb, lt16.1 u⟩))) _ _⟩
          rcases x with x | x | x
          · exact x z2
          · exact z3 x
          · exact x.2 u
      have q96 : ∀ (ga gb : Bool), (ga = true ↔ nK (ndA (nds R) k) = 1 ∨ nK (ndA (nds R) k) = 2 ∨ nK (ndA (nds R) k) = 3 ∨ nK (ndA (nds R) k) = 5) → (gb = true ↔ nK (ndA (nds R) k) = 2 ∨ nK (ndA (nds R) k) = 5) → bX2_hasT_96 mo Q X [some (.ref mo), some (.int (nn q)), some (.int (b2i g 1)), some (.int (nn (240 * q + k))), some (.int (b2i ga 1)), none] [.int (b2i gb 1)] ms := by
        intro ga gb hga hgb
        simp [bX2_hasT_96, o_ic, o_lc, o_null, o_il, o_ll, o_al, o_dup, o_pop, o_dup_x1, o_dup2, o_iadd, o_isub, o_imul, o_iand, o_ior, o_ixor, o_ishl, o_ishr, o_idiv, o_irem, o_ineg, o_ladd, o_lsub, o_lmul, o_land, o_lor, o_lxor, o_ldiv, o_lrem, o_lneg, o_lcmp, o_i2l, o_l2i, o_i2b, o_i2c, o_iushr, o_lshl, o_lshr, o_if_eq, o_if_ne, o_if_lt, o_if_ge, o_if_gt, o_if_le, o_icmp_eq, o_icmp_ne, o_icmp_lt, o_icmp_ge, o_icmp_gt, o_icmp_le, o_ifnull, o_ifnonnull, o_acmp_eq, o_acmp_ne, o_is, o_ls, o_as, o_iinc, o_kill, o_sw, o_ireturn, o_zreturn, o_nreturn, o_lreturn, o_areturn, o_return, o_athrow, o_call, entP, lg_sl, Value.category, st1, st2, List.set, List.getElem?_cons_zero, List.getElem?_cons_succ, List.foldl, popN, aft, o_mg, o_mgl, o_mga, o_mp, o_mpz, o_mpl, o_mia, o_mis, o_mbs, o_mc, mput_get, mput_arr, mput_let, mput_put, mset_get, mset_int, mset_let, mputL_get, mputL_arr, mputL_let, mputL_put, i64_8, mLen, vpL, nn_addL, nn_addR, nn_mulL, nn_add, nn_mul, nn_eqL, nn_ltL, nn_leL, nn_Llt, nn_Lle, nn_lt, nn_le, nn_eq, nn_in, nn_clamp, nn_succ, nn_pos, nn_neg1, d1, d2, b2i_0, c3]
        refine ⟨fun y => yes (Or.inl y) _ _, fun y => ⟨fun y2 => yes (Or.inr (Or.inl (lt16.1 y2))) _ _, fun y2 => ⟨fun y3 => ?_, fun y3 => ?_⟩⟩⟩
        · refine q129 y y2 (fun x => ?_) _ gb hgb
          rw [hga.2 x.1] at y3; cases y3
        · have hka := hga.1 y3
          obtain ⟨e21, -⟩ := c7 (by simp; omega)
          rw [e21]
          refine ⟨fun u => yes (Or.inr (Or.inr (Or.inl ⟨hka, lt16.1 u⟩))) _ _, fun u => ?_⟩
          exact q129 y y2 (fun x => x.2 u) _ gb hgb
      have q69 : ∀ (ga : Bool), (ga = true ↔ nK (ndA (nds R) k) = 1 ∨ nK (ndA (nds R) k) = 2 ∨ nK (ndA (nds R) k) = 3 ∨ nK (ndA (nds R) k) = 5) → bX2_hasT_69 mo Q X [some (.ref mo), some (.int (nn q)), some (.int (b2i g 1)), some (.int (nn (240 * q + k))), none, none] [.int (b2i ga 1)] ms := by
        intro ga hga
        simp [bX2_hasT_69, bX2_hasT_91, bX2_hasT_95, o_ic, o_lc, o_null, o_il, o_ll, o_al, o_dup, o_pop, o_dup_x1, o_dup2, o_iadd, o_isub, o_imul, o_iand, o_ior, o_ixor, o_ishl, o_ishr, o_idiv, o_irem, o_ineg, o_ladd, o_lsub, o_lmul, o_land, o_lor, o_lxor, o_ldiv, o_lrem, o_lneg, o_lcmp, o_i2l, o_l2i, o_i2b, o_i2c, o_iushr, o_lshl, o_lshr, o_if_eq, o_if_ne, o_if_lt, o_if_ge, o_if_gt, o_if_le, o_icmp_eq, o_icmp_ne, o_icmp_lt, o_icmp_ge, o_icmp_gt, o_icmp_le, o_ifnull, o_ifnonnull, o_acmp_eq, o_acmp_ne, o_is, o_ls, o_as, o_iinc, o_kill, o_sw, o_ireturn, o_zreturn, o_nreturn, o_lreturn, o_areturn, o_return, o_athrow, o_call, entP, lg_sl, Value.category, st1, st2, List.set, List.getElem?_cons_zero, List.getElem?_cons_succ, List.foldl, popN, aft, o_mg, o_mgl, o_mga, o_mp, o_mpz, o_mpl, o_mia, o_mis, o_mbs, o_mc, mput_get, mput_arr, mput_let, mput_put, mset_get, mset_int, mset_let, mputL_get, mputL_arr, mputL_let, mputL_put, i64_8, mLen, vpL, nn_addL, nn_addR, nn_mulL, nn_add, nn_mul, nn_eqL, nn_ltL, nn_leL, nn_Llt, nn_Lle, nn_lt, nn_le, nn_eq, nn_in, nn_clamp, nn_succ, nn_pos, nn_neg1, d1, d2, c1, b5]
        refine ⟨fun y => q96 ga true hga ⟨fun _ => Or.inl y, fun _ => rfl⟩, fun y => ⟨fun y2 => q96 ga false hga ⟨(fun u => nomatch u), fun u => by omega⟩, fun y2 => q96 ga true hga ⟨fun _ => Or.inr y2, fun _ => rfl⟩⟩⟩
      simp [bX2_hasT_64, bX2_hasT_68, o_ic, o_lc, o_null, o_il, o_ll, o_al, o_dup, o_pop, o_dup_x1, o_dup2, o_iadd, o_isub, o_imul, o_iand, o_ior, o_ixor, o_ishl, o_ishr, o_idiv, o_irem, o_ineg, o_ladd, o_lsub, o_lmul, o_land, o_lor, o_lxor, o_ldiv, o_lrem, o_lneg, o_lcmp, o_i2l, o_l2i, o_i2b, o_i2c, o_iushr, o_lshl, o_lshr, o_if_eq, o_if_ne, o_if_lt, o_if_ge, o_if_gt, o_if_le, o_icmp_eq, o_icmp_ne, o_icmp_lt, o_icmp_ge, o_icmp_gt, o_icmp_le, o_ifnull, o_ifnonnull, o_acmp_eq, o_acmp_ne, o_is, o_ls, o_as, o_iinc, o_kill, o_sw, o_ireturn, o_zreturn, o_nreturn, o_lreturn, o_areturn, o_return, o_athrow, o_call, entP, lg_sl, Value.category, st1, st2, List.set, List.getElem?_cons_zero, List.getElem?_cons_succ, List.foldl, popN, aft, o_mg, o_mgl, o_mga, o_mp, o_mpz, o_mpl, o_mia, o_mis, o_mbs, o_mc, mput_get, mput_arr, mput_let, mput_put, mset_get, mset_int, mset_let, mputL_get, mputL_arr, mputL_let, mputL_put, i64_8, mLen, vpL, nn_addL, nn_addR, nn_mulL, nn_add, nn_mul, nn_eqL, nn_ltL, nn_leL, nn_Llt, nn_Lle, nn_lt, nn_le, nn_eq, nn_in, nn_clamp, nn_succ, nn_pos, nn_neg1, b1, b2, b3, hPl.1.2.2.2.1, d1, d2, d3, d4, c1, b5]
      refine ⟨fun y => q69 true ⟨fun _ => Or.inl y, fun _ => rfl⟩, fun y => ⟨fun y2 => q69 true ⟨fun _ => Or.inr (Or.inl y2), fun _ => rfl⟩, fun y2 => ⟨fun y3 => q69 true ⟨fun _ => Or.inr (Or.inr (Or.inl y3)), fun _ => rfl⟩, fun y3 => ⟨fun y4 => q69 false ⟨(fun u => nomatch u), fun u => by omega⟩, fun y4 => q69 true ⟨fun _ => Or.inr (Or.inr (Or.inr y4)), fun _ => rfl⟩⟩⟩⟩⟩
  exact hind R.1.length 0 false (by omega) ⟨(fun y => nomatch y), fun ⟨k', h1, _⟩ => by omega⟩
