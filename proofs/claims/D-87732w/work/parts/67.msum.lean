/-! THE MODEL notes a sum -/
set_option maxRecDepth 100000
/-- the sums of the routine that is read -/
def SumM (ms : MS) (sm : List Sm) : Prop := ms.2.2 12 4 = nn (min sm.length 32) ∧ ms.1 38 = (if 32 < sm.length then 1 else 0) ∧ ∀ e s, e < 32 → sm[e]? = some s → ms.2.2 26 (128 + e) = s.1 ∧ ms.2.2 27 (128 + e) = s.2.1.1 ∧ ms.2.2 28 (128 + e) = s.2.1.2 ∧ ms.2.2 29 (128 + e) = s.2.2.1 ∧ ms.2.2 30 (128 + e) = s.2.2.2
def smI (sm : List Sm) (s : Sm) : Nat := min (sm.idxOf s) 32
/-- what summed may write -/
def PSum (n : Nat) : Nat → Nat → Prop := fun k i => ((k = 15 ∨ k = 18) ∧ i = n) ∨ (k = 12 ∧ i = 4) ∨ ((k = 26 ∨ k = 27 ∨ k = 28 ∨ k = 29 ∨ k = 30) ∧ 128 ≤ i)
theorem m_sumend {mo : Nat} {Q : Ret MS} {ms : MS} {n : Nat} {s : Sm} {sm : List Sm} (hn : n < 1200) (hS : SumM ms sm)
    (k : ∀ ms', FrG (PSum n) [38] ms ms' → ms'.2.2 15 n = ms.2.2 15 n → ms'.2.2 18 n = nn (smI (sAdd sm (some s)) s) → SumM ms' (sAdd sm (some s)) → ms'.2.1 = ms.2.1 → (∀ j, j < 8 → ms'.1 j = ms.1 j) → Q (.inl none) ms') :
    bX2_summed_105 mo Q [some (.ref mo), some (.int (nn n)), some (.int s.1), some (.int s.2.1.1), some (.int s.2.1.2), some (.int s.2.2.1), some (.int s.2.2.2), some (.int (nn (min (sm.idxOf s) 32))), some (.int (nn 128))] [] ms := by
  obtain ⟨h1, h2, h3⟩ := hS
  have b1 : n < 2147483648 := by omega
  have hi := List.idxOf_le_length (l := sm) (a := s)
  have b2 : min (sm.idxOf s) 32 < 2147483648 := by omega
  have b3 : min sm.length 32 < 2147483648 := by omega
  simp [bX2_summed_105, bX2_summed_125, o_ic, o_lc, o_null, o_il, o_ll, o_al, o_dup, o_pop, o_dup_x1, o_dup2, o_iadd, o_isub, o_imul, o_iand, o_ior, o_ixor, o_ishl, o_ishr, o_idiv, o_irem, o_ineg, o_ladd, o_lsub, o_lmul, o_land, o_lor, o_lxor, o_ldiv, o_lrem, o_lneg, o_lcmp, o_i2l, o_l2i, o_i2b, o_i2c, o_iushr, o_lshl, o_lshr, o_if_eq, o_if_ne, o_if_lt, o_if_ge, o_if_gt, o_if_le, o_icmp_eq, o_icmp_ne, o_icmp_lt, o_icmp_ge, o_icmp_gt, o_icmp_le, o_ifnull, o_ifnonnull, o_acmp_eq, o_acmp_ne, o_is, o_ls, o_as, o_iinc, o_kill, o_sw, o_ireturn, o_zreturn, o_nreturn, o_lreturn, o_areturn, o_return, o_athrow, o_call, entP, lg_sl, Value.category, st1, st2, List.set, List.getElem?_cons_zero, List.getElem?_cons_succ, List.foldl, popN, aft, o_mg, o_mgl, o_mga, o_mp, o_mpz, o_mpl, o_mia, o_mis, o_mbs, o_mc, mput_get, mput_arr, mput_let, mput_put, mset_get, mset_int, mset_let, mputL_get, mputL_arr, mputL_let, mputL_put, i64_8, mLen, vpL, nn_addL, nn_addR, nn_mulL, nn_add, nn_mul, nn_eqL, nn_ltL, nn_leL, nn_Llt, nn_Lle, nn_lt, nn_le, nn_eq, nn_in, nn_clamp, nn_succ, nn_pos, nn_neg1, b1, b2, b3, hn, h1]
  by_cases hm : s ∈ sm
  · have e1 : sAdd sm (some s) = sm := by simp [sAdd, hm]
    have hlt := List.idxOf_lt_length_of_mem hm
    rw [e1] at k
    by_cases h32 : 32 ≤ sm.idxOf s
    · refine ⟨fun _ => ⟨fun h => by omega, fun _ => ?_⟩, fun h => by omega⟩
      refine k _ ((FrG.rfl9.set (Or.inl ⟨Or.inr rfl, rfl⟩)).put (by simp)) ?_ ?_ ?_ rfl ?_
      · simp [mput_get, mput_arr, mput_let, mput_put, mset_get, mset_int, mset_let, mputL_get, mputL_arr, mputL_let, mputL_put, i64_8, mLen]
      · simp [mput_get, mput_arr, mput_let, mput_put, mset_get, mset_int, mset_let, mputL_get, mputL_arr, mputL_let, mputL_put, i64_8, mLen, smI]
      · refine ⟨by simp [mput_get, mput_arr, mput_let, mput_put, mset_get, mset_int, mset_let, mputL_get, mputL_arr, mputL_let, mputL_put, i64_8, mLen]; exact h1, ?_, fun e s' he hs => ?_⟩
        · have : 32 < sm.length := by omega
          simp [mput_get, mput_arr, mput_let, mput_put, mset_get, mset_int, mset_let, mputL_get, mputL_arr, mputL_let, mputL_put, i64_8, mLen, this]
        · simp [mput_get, mput_arr, mput_let, mput_put, mset_get, mset_int, mset_let, mputL_get, mputL_arr, mputL_let, mputL_put, i64_8, mLen]; exact h3 e s' he hs
      · intro j hj; rw [mput_get, if_neg (by omega)]; rfl
    · refine ⟨fun h => by omega, fun _ => ?_⟩
      refine k _ (FrG.rfl9.set (Or.inl ⟨Or.inr rfl, rfl⟩)) ?_ ?_ ?_ rfl (fun _ _ => rfl)
      · simp [mput_get, mput_arr, mput_let, mput_put, mset_get, mset_int, mset_let, mputL_get, mputL_arr, mputL_let, mputL_put, i64_8, mLen]
      · simp [mput_get, mput_arr, mput_let, mput_put, mset_get, mset_int, mset_let, mputL_get, mputL_arr, mputL_let, mputL_put, i64_8, mLen, smI]
      · exact ⟨by simp [mput_get, mput_arr, mput_let, mput_put, mset_get, mset_int, mset_let, mputL_get, mputL_arr, mputL_let, mputL_put, i64_8, mLen]; exact h1, by simp [mput_get, mput_arr, mput_let, mput_put, mset_get, mset_int, mset_let, mputL_get, mputL_arr, mputL_let, mputL_put, i64_8, mLen]; exact h2, fun e s' he hs => by simp [mput_get, mput_arr, mput_let, mput_put, mset_get, mset_int, mset_let, mputL_get, mputL_arr, mputL_let, mputL_put, i64_8, mLen]; exact h3 e s' he hs⟩
  · have e1 : sAdd sm (some s) = sm ++ [s] := by simp [sAdd, hm]
    have e2 : sm.idxOf s = sm.length := List.idxOf_eq_length hm
    have e3 : (sm ++ [s]).idxOf s = sm.length := by rw [List.idxOf_append, if_neg hm]; simp
    rw [e1] at k
    rw [e2]
    refine ⟨fun _ => ⟨fun h => ?_, fun h => ?_⟩, fun h => by omega⟩
    · have l32 : sm.length < 32 := by omega
      have m32 : min sm.length 32 = sm.length := by omega
      rw [m32] at h1 ⊢
      have b4 : 128 + sm.length < 2147483648 := by omega
      have b5 : 128 + sm.length < 160 := by omega
      have e4 : nn 128 + nn sm.length = nn (128 + sm.length) := nn_add _ _
      simp [bX2_summed_138, o_ic, o_lc, o_null, o_il, o_ll, o_al, o_dup, o_pop, o_dup_x1, o_dup2, o_iadd, o_isub, o_imul, o_iand, o_ior, o_ixor, o_ishl, o_ishr, o_idiv, o_irem, o_ineg, o_ladd, o_lsub, o_lmul, o_land, o_lor, o_lxor, o_ldiv, o_lrem, o_lneg, o_lcmp, o_i2l, o_l2i, o_i2b, o_i2c, o_iushr, o_lshl, o_lshr, o_if_eq, o_if_ne, o_if_lt, o_if_ge, o_if_gt, o_if_le, o_icmp_eq, o_icmp_ne, o_icmp_lt, o_icmp_ge, o_icmp_gt, o_icmp_le, o_ifnull, o_ifnonnull, o_acmp_eq, o_acmp_ne, o_is, o_ls, o_as, o_iinc, o_kill, o_sw, o_ireturn, o_zreturn, o_nreturn, o_lreturn, o_areturn, o_return, o_athrow, o_call, entP, lg_sl, Value.category, st1, st2, List.set, List.getElem?_cons_zero, List.getElem?_cons_succ, List.foldl, popN, aft, o_mg, o_mgl, o_mga, o_mp, o_mpz, o_mpl, o_mia, o_mis, o_mbs, o_mc, mput_get, mput_arr, mput_let, mput_put, mset_get, mset_int, mset_let, mputL_get, mputL_arr, mputL_let, mputL_put, i64_8, mLen, vpL, nn_addL, nn_addR, nn_mulL, nn_add, nn_mul, nn_eqL, nn_ltL, nn_leL, nn_Llt, nn_Lle, nn_lt, nn_le, nn_eq, nn_in, nn_clamp, nn_succ, nn_pos, nn_neg1, b4, b5, h1]
      refine k _ ?_ ?_ ?_ ?_ rfl (fun _ _ => rfl)
      · refine FrG.set (FrG.set (FrG.set (FrG.set (FrG.set (FrG.set (FrG.set FrG.rfl9 ?_) ?_) ?_) ?_) ?_) ?_) ?_
        · exact Or.inl ⟨Or.inr rfl, rfl⟩
        · exact Or.inr (Or.inr ⟨by simp, by omega⟩)
        · exact Or.inr (Or.inr ⟨by simp, by omega⟩)
        · exact Or.inr (Or.inr ⟨by simp, by omega⟩)
        · exact Or.inr (Or.inr ⟨by simp, by omega⟩)
        · exact Or.inr (Or.inr ⟨by simp, by omega⟩)
        · exact Or.inr (Or.inl ⟨rfl, rfl⟩)
      · simp [mput_get, mput_arr, mput_let, mput_put, mset_get, mset_int, mset_let, mputL_get, mputL_arr, mputL_let, mputL_put, i64_8, mLen]
      · simp [mput_get, mput_arr, mput_let, mput_put, mset_get, mset_int, mset_let, mputL_get, mputL_arr, mputL_let, mputL_put, i64_8, mLen, smI, e3, m32]
      · refine ⟨?_, ?_, fun e s' he hs => ?_⟩
        · have m33 : min (sm.length + 1) 32 = sm.length + 1 := by omega
          simp [mput_get, mput_arr, mput_let, mput_put, mset_get, mset_int, mset_let, mputL_get, mputL_arr, mputL_let, mputL_put, i64_8, mLen, m33]
        · have n1 : ¬ 32 < sm.length := by omega
          have n2 : ¬ 32 < sm.length + 1 := by omega
          simp [mput_get, mput_arr, mput_let, mput_put, mset_get, mset_int, mset_let, mputL_get, mputL_arr, mputL_let, mputL_put, i64_8, mLen, n2]; rw [h2, if_neg n1]
        · by_cases he' : e = sm.length
          · subst he'
            simp at hs
            subst hs
            simp [mput_get, mput_arr, mput_let, mput_put, mset_get, mset_int, mset_let, mputL_get, mputL_arr, mputL_let, mputL_put, i64_8, mLen]
          · have hl : e < sm.length := by
              have := (List.getElem?_eq_some_iff.1 hs).1
              simp at this; omega
            rw [List.getElem?_append_left hl] at hs
            simp [mput_get, mput_arr, mput_let, mput_put, mset_get, mset_int, mset_let, mputL_get, mputL_arr, mputL_let, mputL_put, i64_8, mLen, he']
            exact h3 e s' he hs
    · have l32 : 32 ≤ sm.length := by omega
      have m32 : min sm.length 32 = 32 := by omega
      refine k _ ((FrG.rfl9.set (Or.inl ⟨Or.inr rfl, rfl⟩)).put (by simp)) ?_ ?_ ?_ rfl ?_
      · simp [mput_get, mput_arr, mput_let, mput_put, mset_get, mset_int, mset_let, mputL_get, mputL_arr, mputL_let, mputL_put, i64_8, mLen]
      · simp [mput_get, mput_arr, mput_let, mput_put, mset_get, mset_int, mset_let, mputL_get, mputL_arr, mputL_let, mputL_put, i64_8, mLen, smI, e3]
      · refine ⟨?_, ?_, fun e s' he hs => ?_⟩
        · have m33 : min (sm.length + 1) 32 = 32 := by omega
          simp [mput_get, mput_arr, mput_let, mput_put, mset_get, mset_int, mset_let, mputL_get, mputL_arr, mputL_let, mputL_put, i64_8, mLen, h1, m32, m33]
        · have n2 : 32 < sm.length + 1 := by omega
          simp [mput_get, mput_arr, mput_let, mput_put, mset_get, mset_int, mset_let, mputL_get, mputL_arr, mputL_let, mputL_put, i64_8, mLen, n2]
        · have hl : e < sm.length := by omega
          rw [List.getElem?_append_left hl] at hs
          simp [mput_get, mput_arr, mput_let, mput_put, mset_get, mset_int, mset_let, mputL_get, mputL_arr, mputL_let, mputL_put, i64_8, mLen]
          exact h3 e s' he hs
      · intro j hj; rw [mput_get, if_neg (by omega)]; rfl
theorem m_summed {mo : Nat} {Q : Ret MS} {ms : MS} {n : Nat} {s : Sm} {sm : List Sm} (hn : n < 1200) (hS : SumM ms sm)
    (k : ∀ ms', FrG (PSum n) [38] ms ms' → ms'.2.2 15 n = 0 → ms'.2.2 18 n = nn (smI (sAdd sm (some s)) s) → SumM ms' (sAdd sm (some s)) → ms'.2.1 = ms.2.1 → (∀ j, j < 8 → ms'.1 j = ms.1 j) → Q (.inl none) ms') :
    pX2_summed mo [.ref mo, .int (nn n), .int s.1, .int s.2.1.1, .int s.2.1.2, .int s.2.2.1, .int s.2.2.2] ms Q := by
  have b1 : n < 2147483648 := by omega
  simp [pX2_summed, bX2_summed_0, o_ic, o_lc, o_null, o_il, o_ll, o_al, o_dup, o_pop, o_dup_x1, o_dup2, o_iadd, o_isub, o_imul, o_iand, o_ior, o_ixor, o_ishl, o_ishr, o_idiv, o_irem, o_ineg, o_ladd, o_lsub, o_lmul, o_land, o_lor, o_lxor, o_ldiv, o_lrem, o_lneg, o_lcmp, o_i2l, o_l2i, o_i2b, o_i2c, o_iushr, o_lshl, o_lshr, o_if_eq, o_if_ne, o_if_lt, o_if_ge, o_if_gt, o_if_le, o_icmp_eq, o_icmp_ne, o_icmp_lt, o_icmp_ge, o_icmp_gt, o_icmp_le, o_ifnull, o_ifnonnull, o_acmp_eq, o_acmp_ne, o_is, o_ls, o_as, o_iinc, o_kill, o_sw, o_ireturn, o_zreturn, o_nreturn, o_lreturn, o_areturn, o_return, o_athrow, o_call, entP, lg_sl, Value.category, st1, st2, List.set, List.getElem?_cons_zero, List.getElem?_cons_succ, List.foldl, popN, aft, o_mg, o_mgl, o_mga, o_mp, o_mpz, o_mpl, o_mia, o_mis, o_mbs, o_mc, mput_get, mput_arr, mput_let, mput_put, mset_get, mset_int, mset_let, mputL_get, mputL_arr, mputL_let, mputL_put, i64_8, mLen, vpL, nn_addL, nn_addR, nn_mulL, nn_add, nn_mul, nn_eqL, nn_ltL, nn_leL, nn_Llt, nn_Lle, nn_lt, nn_le, nn_eq, nn_in, nn_clamp, nn_succ, nn_pos, nn_neg1, b1, hn]
  have hS0 : SumM (mset ms 15 n 0) sm := by
    obtain ⟨h1, h2, h3⟩ := hS
    exact ⟨by simp [mput_get, mput_arr, mput_let, mput_put, mset_get, mset_int, mset_let, mputL_get, mputL_arr, mputL_let, mputL_put, i64_8, mLen]; exact h1, by simp [mput_get, mput_arr, mput_let, mput_put, mset_get, mset_int, mset_let, mputL_get, mputL_arr, mputL_let, mputL_put, i64_8, mLen]; exact h2, fun e s' he hs => by simp [mput_get, mput_arr, mput_let, mput_put, mset_get, mset_int, mset_let, mputL_get, mputL_arr, mputL_let, mputL_put, i64_8, mLen]; exact h3 e s' he hs⟩
  have kk : bX2_summed_105 mo Q [some (.ref mo), some (.int (nn n)), some (.int s.1), some (.int s.2.1.1), some (.int s.2.1.2), some (.int s.2.2.1), some (.int s.2.2.2), some (.int (nn (min (sm.idxOf s) 32))), some (.int (nn 128))] [] (mset ms 15 n 0) := by
    refine m_sumend hn hS0 (fun ms' f1 f2 f3 f4 f5 f6 => k ms' ((FrG.rfl9.set (Or.inl ⟨Or.inl rfl, rfl⟩)).trans f1) ?_ f3 f4 f5 f6)
    rw [f2]; simp [mput_get, mput_arr, mput_let, mput_put, mset_get, mset_int, mset_let, mputL_get, mputL_arr, mputL_let, mputL_put, i64_8, mLen]
  have hS1 := hS0
  generalize mset ms 15 n 0 = ms1 at kk hS0 hS1
  obtain ⟨h1, h2, h3⟩ := hS0
  unfold bX2_summed_15
  intro X hX
  have hi := List.idxOf_le_length (l := sm) (a := s)
  have hind : ∀ r e, e + r = min (sm.idxOf s) 32 → X [some (.ref mo), some (.int (nn n)), some (.int s.1), some (.int s.2.1.1), some (.int s.2.1.2), some (.int s.2.2.1), some (.int s.2.2.2), some (.int (nn e)), some (.int (nn 128))] [] ms1 := by
    intro r
    induction r with
    | zero =>
      intro e he
      apply hX
      have e0 : e = min (sm.idxOf s) 32 := by omega
      have b2 : e < 2147483648 := by omega
      have b3 : min sm.length 32 < 2147483648 := by omega
      have e4 : nn 128 + nn e = nn (128 + e) := nn_add _ _
      have b4 : 128 + e < 2147483648 := by omega
      rw [← e0] at kk
      by_cases hc : e < min sm.length 32
      · have hm : s ∈ sm := by
          refine Classical.byContradiction fun q => ?_
          have := List.idxOf_eq_length q; omega
        have hg : sm[e]? = some s := by
          have : e = sm.idxOf s := by omega
          rw [this]; exact idx_get hm
        obtain ⟨g1, g2, g3, g4, g5⟩ := h3 e s (by omega) hg
        have b5 : 128 + e < 160 := by omega
        have hc1 : e < sm.length := by omega
        have hc2 : e < 32 := by omega
        simp [o_ic, o_lc, o_null, o_il, o_ll, o_al, o_dup, o_pop, o_dup_x1, o_dup2, o_iadd, o_isub, o_imul, o_iand, o_ior, o_ixor, o_ishl, o_ishr, o_idiv, o_irem, o_ineg, o_ladd, o_lsub, o_lmul, o_land, o_lor, o_lxor, o_ldiv, o_lrem, o_lneg, o_lcmp, o_i2l, o_l2i, o_i2b, o_i2c, o_iushr, o_lshl, o_lshr, o_if_eq, o_if_ne, o_if_lt, o_if_ge, o_if_gt, o_if_le, o_icmp_eq, o_icmp_ne, o_icmp_lt, o_icmp_ge, o_icmp_gt, o_icmp_le, o_ifnull, o_ifnonnull, o_acmp_eq, o_acmp_ne, o_is, o_ls, o_as, o_iinc, o_kill, o_sw, o_ireturn, o_zreturn, o_nreturn, o_lreturn, o_areturn, o_return, o_athrow, o_call, entP, lg_sl, Value.category, st1, st2, List.set, List.getElem?_cons_zero, List.getElem?_cons_succ, List.foldl, popN, aft, o_mg, o_mgl, o_mga, o_mp, o_mpz, o_mpl, o_mia, o_mis, o_mbs, o_mc, mput_get, mput_arr, mput_let, mput_put, mset_get, mset_int, mset_let, mputL_get, mputL_arr, mputL_let, mputL_put, i64_8, mLen, vpL, nn_addL, nn_addR, nn_mulL, nn_add, nn_mul, nn_eqL, nn_ltL, nn_leL, nn_Llt, nn_Lle, nn_lt, nn_le, nn_eq, nn_in, nn_clamp, nn_succ, nn_pos, nn_neg1, b2, b3, b4, b5, h1, hc1, hc2, g1, g2, g3, g4, g5]
        exact ⟨fun h => kk, fun _ => kk⟩
      · simp [o_ic, o_lc, o_null, o_il, o_ll, o_al, o_dup, o_pop, o_dup_x1, o_dup2, o_iadd, o_isub, o_imul, o_iand, o_ior, o_ixor, o_ishl, o_ishr, o_idiv, o_irem, o_ineg, o_ladd, o_lsub, o_lmul, o_land, o_lor, o_lxor, o_ldiv, o_lrem, o_lneg, o_lcmp, o_i2l, o_l2i, o_i2b, o_i2c, o_iushr, o_lshl, o_lshr, o_if_eq, o_if_ne, o_if_lt, o_if_ge, o_if_gt, o_if_le, o_icmp_eq, o_icmp_ne, o_icmp_lt, o_icmp_ge, o_icmp_gt, o_icmp_le, o_ifnull, o_ifnonnull, o_acmp_eq, o_acmp_ne, o_is, o_ls, o_as, o_iinc, o_kill, o_sw, o_ireturn, o_zreturn, o_nreturn, o_lreturn, o_areturn, o_return, o_athrow, o_call, entP, lg_sl, Value.category, st1, st2, List.set, List.getElem?_cons_zero, List.getElem?_cons_succ, List.foldl, popN, aft, o_mg, o_mgl, o_mga, o_mp, o_mpz, o_mpl, o_mia, o_mis, o_mbs, o_mc, mput_get, mput_arr, mput_let, mput_put, mset_get, mset_int, mset_let, mputL_get, mputL_arr, mputL_let, mputL_put, i64_8, mLen, vpL, nn_addL, nn_addR, nn_mulL, nn_add, nn_mul, nn_eqL, nn_ltL, nn_leL, nn_Llt, nn_Lle, nn_lt, nn_le, nn_eq, nn_in, nn_clamp, nn_succ, nn_pos, nn_neg1, b2, b3, b4, h1]
        exact ⟨fun _ => kk, fun h => by omega⟩
    | succ r ih =>
      intro e he
      apply hX
      have b2 : e < 2147483648 := by omega
      have b3 : min sm.length 32 < 2147483648 := by omega
      have e4 : nn 128 + nn e = nn (128 + e) := nn_add _ _
      have b4 : 128 + e < 2147483648 := by omega
      have b5 : 128 + e < 160 := by omega
      have hc1 : e < sm.length := by omega
      have hc2 : e < 32 := by omega
      obtain ⟨s', hs'⟩ : ∃ s', sm[e]? = some s' := ⟨_, List.getElem?_eq_getElem hc1⟩
      obtain ⟨g1, g2, g3, g4, g5⟩ := h3 e s' (by omega) hs'
      have hne : s' ≠ s := by rintro rfl; have := idx_le_get hs'; omega
      have go := ih (e + 1) (by omega)
      simp [bX2_summed_99, o_ic, o_lc, o_null, o_il, o_ll, o_al, o_dup, o_pop, o_dup_x1, o_dup2, o_iadd, o_isub, o_imul, o_iand, o_ior, o_ixor, o_ishl, o_ishr, o_idiv, o_irem, o_ineg, o_ladd, o_lsub, o_lmul, o_land, o_lor, o_lxor, o_ldiv, o_lrem, o_lneg, o_lcmp, o_i2l, o_l2i, o_i2b, o_i2c, o_iushr, o_lshl, o_lshr, o_if_eq, o_if_ne, o_if_lt, o_if_ge, o_if_gt, o_if_le, o_icmp_eq, o_icmp_ne, o_icmp_lt, o_icmp_ge, o_icmp_gt, o_icmp_le, o_ifnull, o_ifnonnull, o_acmp_eq, o_acmp_ne, o_is, o_ls, o_as, o_iinc, o_kill, o_sw, o_ireturn, o_zreturn, o_nreturn, o_lreturn, o_areturn, o_return, o_athrow, o_call, entP, lg_sl, Value.category, st1, st2, List.set, List.getElem?_cons_zero, List.getElem?_cons_succ, List.foldl, popN, aft, o_mg, o_mgl, o_mga, o_mp, o_mpz, o_mpl, o_mia, o_mis, o_mbs, o_mc, mput_get, mput_arr, mput_let, mput_put, mset_get, mset_int, mset_let, mputL_get, mputL_arr, mputL_let, mputL_put, i64_8, mLen, vpL, nn_addL, nn_addR, nn_mulL, nn_add, nn_mul, nn_eqL, nn_ltL, nn_leL, nn_Llt, nn_Lle, nn_lt, nn_le, nn_eq, nn_in, nn_clamp, nn_succ, nn_pos, nn_neg1, b2, b3, b4, b5, h1, hc1, hc2, g1, g2, g3, g4, g5]
      refine ⟨fun h => by omega, fun _ => ⟨fun _ => go, fun q1 => ⟨fun _ => go, fun q2 => ⟨fun _ => go, fun q3 => ⟨fun _ => go, fun q4 => ⟨fun q5 => absurd ?_ hne, fun _ => go⟩⟩⟩⟩⟩⟩
      exact Prod.ext q1 (Prod.ext (Prod.ext q2 q3) (Prod.ext q4 q5))
  exact hind (min (sm.idxOf s) 32) 0 (by omega)
