/-! THE MODEL runs: sums -/
set_option maxRecDepth 100000
theorem sms_from {fs : List FIt} {s : Sm} (h : s ∈ sms fs) : ∃ x ∈ fs, iS x.2 = some s := by
  unfold sms at h
  have : ∀ (fs : List FIt) (l : List Sm), s ∈ fs.foldl (fun l x => sAdd l (iS x.2)) l → s ∈ l ∨ ∃ x ∈ fs, iS x.2 = some s := by
    intro fs
    induction fs with
    | nil => intro l h; exact Or.inl h
    | cons a fs ih =>
      intro l h
      rcases ih _ h with h | ⟨x, hx, h⟩
      · change s ∈ sAdd l (iS a.2) at h
        unfold sAdd at h
        split at h
        · next s' hs' =>
          split at h
          · exact Or.inl h
          · simp at h
            rcases h with h | h
            · exact Or.inl h
            · subst h; exact Or.inr ⟨a, by simp, hs'⟩
        · exact Or.inl h
      · exact Or.inr ⟨x, by simp [hx], h⟩
  rcases this fs [] h with h | h
  · simp at h
  · exact h
theorem smA_ok {R : Rt} (w : WfR R) {e : Nat} (he : e < (sms R.1).length) : SOk (smA R e) := by
  have hm : smA R e ∈ sms R.1 := by
    unfold smA; rw [List.getD_eq_getElem?_getD, List.getElem?_eq_getElem he]; exact List.getElem_mem he
  obtain ⟨x, hx, hs⟩ := sms_from hm
  obtain ⟨i, hi⟩ := List.getElem?_of_mem hx
  have ok := (w.2.2.2.2.1 i x hi).2.2.2.2
  by_cases c : x.2.1 = 0
  · obtain ⟨s, h1, h2⟩ := ok.2.2.2.2.2.2.1 c
    rw [hs] at h1; cases h1; exact h2
  · rw [ok.2.2.2.2.2.2.2.1 c] at hs; cases hs
/-- what is seen of a run -/
def RsV (ms : MS) (st : RS) : Prop := (∀ j, j < 48 → ms.2.2 46 j = st.1 j) ∧ (∀ j, j < 16 → ms.2.2 47 j = st.2.1 j) ∧ (∀ j, j < 32 → ms.2.2 49 j = nn (st.2.2.2.1 j)) ∧ ms.1 55 = nn st.2.2.2.2.1 ∧ ms.1 53 = nn st.2.2.2.2.2.1.length ∧ (∀ i v, i < 100 → st.2.2.2.2.2.1[i]? = some v → ms.2.2 50 i = v) ∧ ms.1 52 = nn st.2.2.2.2.2.2
def KpM (ms : MS) (st : RS) : Prop := ∀ j, j < 32 → ms.2.2 48 j = st.2.2.1 j
def PRn : Nat → Nat → Prop := fun k _ => 46 ≤ k ∧ k ≤ 50
abbrev ksR : List Nat := [51, 52, 53, 54, 55, 56]
theorem m_of {mo : Nat} {Q : Ret MS} {ms : MS} {now : Nat → Int32} {o : Opd} (ho : OOk o) (hn : ∀ j, j < 48 → ms.2.2 46 j = now j) (k : Q (.inl (some (.int (wth now o)))) ms) : pX2_of mo [.ref mo, .int o.1, .int o.2] ms Q := by
  unfold wth at k
  rcases ho with ⟨n, h1, rfl⟩ | ⟨m, h1, rfl | rfl⟩
  · have b1 : n < 2147483648 := by omega
    simp [nn_eqL, nn_ltL, nn_leL, nn_Llt, nn_Lle, nn_lt, nn_le, nn_eq, nn_in, nn_clamp, nn_succ, nn_pos, nn_neg1, b1] at k
    simp [pX2_of, bX2_of_14, bX2_of_8, bX2_of_0, o_ic, o_lc, o_null, o_il, o_ll, o_al, o_dup, o_pop, o_dup_x1, o_dup2, o_iadd, o_isub, o_imul, o_iand, o_ior, o_ixor, o_ishl, o_ishr, o_idiv, o_irem, o_ineg, o_ladd, o_lsub, o_lmul, o_land, o_lor, o_lxor, o_ldiv, o_lrem, o_lneg, o_lcmp, o_i2l, o_l2i, o_i2b, o_i2c, o_iushr, o_lshl, o_lshr, o_if_eq, o_if_ne, o_if_lt, o_if_ge, o_if_gt, o_if_le, o_icmp_eq, o_icmp_ne, o_icmp_lt, o_icmp_ge, o_icmp_gt, o_icmp_le, o_ifnull, o_ifnonnull, o_acmp_eq, o_acmp_ne, o_is, o_ls, o_as, o_iinc, o_kill, o_sw, o_ireturn, o_zreturn, o_nreturn, o_lreturn, o_areturn, o_return, o_athrow, o_call, entP, lg_sl, Value.category, st1, st2, List.set, List.getElem?_cons_zero, List.getElem?_cons_succ, List.foldl, popN, aft, o_mg, o_mgl, o_mga, o_mp, o_mpz, o_mpl, o_mia, o_mis, o_mbs, o_mc, mput_get, mput_arr, mput_let, mput_put, mset_get, mset_int, mset_let, mputL_get, mputL_arr, mputL_let, mputL_put, i64_8, mLen, vpL, nn_addL, nn_addR, nn_mulL, nn_add, nn_mul, nn_eqL, nn_ltL, nn_leL, nn_Llt, nn_Lle, nn_lt, nn_le, nn_eq, nn_in, nn_clamp, nn_succ, nn_pos, nn_neg1, b1, h1]
    rw [hn n h1]; exact k
  · rw [if_pos (show (-1 : Int32) < 0 by decide)] at k
    simp [pX2_of, bX2_of_14, bX2_of_8, bX2_of_0, o_ic, o_lc, o_null, o_il, o_ll, o_al, o_dup, o_pop, o_dup_x1, o_dup2, o_iadd, o_isub, o_imul, o_iand, o_ior, o_ixor, o_ishl, o_ishr, o_idiv, o_irem, o_ineg, o_ladd, o_lsub, o_lmul, o_land, o_lor, o_lxor, o_ldiv, o_lrem, o_lneg, o_lcmp, o_i2l, o_l2i, o_i2b, o_i2c, o_iushr, o_lshl, o_lshr, o_if_eq, o_if_ne, o_if_lt, o_if_ge, o_if_gt, o_if_le, o_icmp_eq, o_icmp_ne, o_icmp_lt, o_icmp_ge, o_icmp_gt, o_icmp_le, o_ifnull, o_ifnonnull, o_acmp_eq, o_acmp_ne, o_is, o_ls, o_as, o_iinc, o_kill, o_sw, o_ireturn, o_zreturn, o_nreturn, o_lreturn, o_areturn, o_return, o_athrow, o_call, entP, lg_sl, Value.category, st1, st2, List.set, List.getElem?_cons_zero, List.getElem?_cons_succ, List.foldl, popN, aft, o_mg, o_mgl, o_mga, o_mp, o_mpz, o_mpl, o_mia, o_mis, o_mbs, o_mc, mput_get, mput_arr, mput_let, mput_put, mset_get, mset_int, mset_let, mputL_get, mputL_arr, mputL_let, mputL_put, i64_8, mLen]
    exact k
  · rw [if_pos (show (-1 : Int32) < 0 by decide)] at k
    simp [pX2_of, bX2_of_14, bX2_of_8, bX2_of_0, o_ic, o_lc, o_null, o_il, o_ll, o_al, o_dup, o_pop, o_dup_x1, o_dup2, o_iadd, o_isub, o_imul, o_iand, o_ior, o_ixor, o_ishl, o_ishr, o_idiv, o_irem, o_ineg, o_ladd, o_lsub, o_lmul, o_land, o_lor, o_lxor, o_ldiv, o_lrem, o_lneg, o_lcmp, o_i2l, o_l2i, o_i2b, o_i2c, o_iushr, o_lshl, o_lshr, o_if_eq, o_if_ne, o_if_lt, o_if_ge, o_if_gt, o_if_le, o_icmp_eq, o_icmp_ne, o_icmp_lt, o_icmp_ge, o_icmp_gt, o_icmp_le, o_ifnull, o_ifnonnull, o_acmp_eq, o_acmp_ne, o_is, o_ls, o_as, o_iinc, o_kill, o_sw, o_ireturn, o_zreturn, o_nreturn, o_lreturn, o_areturn, o_return, o_athrow, o_call, entP, lg_sl, Value.category, st1, st2, List.set, List.getElem?_cons_zero, List.getElem?_cons_succ, List.foldl, popN, aft, o_mg, o_mgl, o_mga, o_mp, o_mpz, o_mpl, o_mia, o_mis, o_mbs, o_mc, mput_get, mput_arr, mput_let, mput_put, mset_get, mset_int, mset_let, mputL_get, mputL_arr, mputL_let, mputL_put, i64_8, mLen]
    exact k
theorem PlM.frR {ms ms' : MS} {q : Nat} {R : Rt} (h : PlM ms q R) (e : ∀ k, k < 46 → ms'.2.2 k = ms.2.2 k) : PlM ms' q R := by
  obtain ⟨⟨a1, a2, a3, a4, a5⟩, b, c, d, f⟩ := h
  refine ⟨⟨?_, ?_, ?_, ?_, ?_⟩, ?_, ?_, ?_, ?_⟩
  · rw [e 8 (by omega)]; exact a1
  · rw [e 9 (by omega)]; exact a2
  · rw [e 10 (by omega)]; exact a3
  · rw [e 11 (by omega)]; exact a4
  · rw [e 12 (by omega)]; exact a5
  · rw [e 13 (by omega)]; exact b
  · intro k x hx
    have := c k x hx
    unfold NdM at this ⊢
    rw [e 15 (by omega), e 16 (by omega), e 17 (by omega), e 18 (by omega), e 19 (by omega), e 20 (by omega), e 21 (by omega), e 22 (by omega), e 23 (by omega), e 24 (by omega), e 25 (by omega)]
    exact this
  · rw [e 26 (by omega), e 27 (by omega), e 28 (by omega), e 29 (by omega), e 30 (by omega)]; exact d
  · rw [e 31 (by omega)]; exact f
theorem FrG.lo {ms ms' : MS} {ks : List Nat} (h : FrG PRn ks ms ms') : ∀ k, k < 46 → ms'.2.2 k = ms.2.2 k := fun k hk => by funext i; exact h.2 k i (by unfold PRn; omega)
/-- a sum is worked -/
theorem m_work {mo : Nat} {Q : Ret MS} {ms : MS} {R : Rt} {q e : Nat} {st : RS} (hq : q < 4) (he : e < (sms R.1).length) (hs : (sms R.1).length ≤ 32) (w : WfR R) (hPl : PlM ms q R) (hV : RsV ms st) (h56 : ms.1 56 = 0)
    (k : ∀ ms' v, FrG PRn ksR ms ms' → RsV ms' (bump st e) → ms'.2.2 48 = ms.2.2 48 → ms'.1 51 = ms.1 51 → ms'.1 54 = ms.1 54 → (match wrk (smA R e) st.1 st.2.1 with
      | some x => v = x ∧ ms'.1 56 = 0
      | none => ms'.1 56 = 1) → Q (.inl (some (.int v))) ms') : pX2_work mo [.ref mo, .int (nn q), .int (nn e)] ms Q := by
  obtain ⟨s1, s2, s3, s4, s5⟩ := hPl.2.2.2.1 e he
  obtain ⟨v1, v2, v3, v4, v5, v6, v7⟩ := id hV
  have be : e < 2147483648 := by omega
  have be2 : e < 32 := by omega
  have b3 : 32 * q + e < 2147483648 := by omega
  have b4 : 32 * q + e < 160 := by omega
  simp [pX2_work, bX2_work_0, o_ic, o_lc, o_null, o_il, o_ll, o_al, o_dup, o_pop, o_dup_x1, o_dup2, o_iadd, o_isub, o_imul, o_iand, o_ior, o_ixor, o_ishl, o_ishr, o_idiv, o_irem, o_ineg, o_ladd, o_lsub, o_lmul, o_land, o_lor, o_lxor, o_ldiv, o_lrem, o_lneg, o_lcmp, o_i2l, o_l2i, o_i2b, o_i2c, o_iushr, o_lshl, o_lshr, o_if_eq, o_if_ne, o_if_lt, o_if_ge, o_if_gt, o_if_le, o_icmp_eq, o_icmp_ne, o_icmp_lt, o_icmp_ge, o_icmp_gt, o_icmp_le, o_ifnull, o_ifnonnull, o_acmp_eq, o_acmp_ne, o_is, o_ls, o_as, o_iinc, o_kill, o_sw, o_ireturn, o_zreturn, o_nreturn, o_lreturn, o_areturn, o_return, o_athrow, o_call, entP, lg_sl, Value.category, st1, st2, List.set, List.getElem?_cons_zero, List.getElem?_cons_succ, List.foldl, popN, aft, o_mg, o_mgl, o_mga, o_mp, o_mpz, o_mpl, o_mia, o_mis, o_mbs, o_mc, mput_get, mput_arr, mput_let, mput_put, mset_get, mset_int, mset_let, mputL_get, mputL_arr, mputL_let, mputL_put, i64_8, mLen, vpL, nn_addL, nn_addR, nn_mulL, nn_add, nn_mul, nn_eqL, nn_ltL, nn_leL, nn_Llt, nn_Lle, nn_lt, nn_le, nn_eq, nn_in, nn_clamp, nn_succ, nn_pos, nn_neg1, be, be2, b3, b4, s4, s5, v3 e be2, v4]
  generalize hm1 : mput (mset ms 49 e (nn (st.2.2.2.1 e + 1))) 55 (nn (st.2.2.2.2.1 + 1)) = ms1
  have fr1 : FrG PRn ksR ms ms1 := by rw [← hm1]; exact (FrG.rfl9.set (by unfold PRn; omega)).put (by simp)
  have hV1 : RsV ms1 (bump st e) := by
    rw [← hm1]
    refine ⟨fun j hj => by simp [mput_get, mput_arr, mput_let, mput_put, mset_get, mset_int, mset_let, mputL_get, mputL_arr, mputL_let, mputL_put, i64_8, mLen]; exact v1 j hj, fun j hj => by simp [mput_get, mput_arr, mput_let, mput_put, mset_get, mset_int, mset_let, mputL_get, mputL_arr, mputL_let, mputL_put, i64_8, mLen]; exact v2 j hj, fun j hj => ?_, by simp [mput_get, mput_arr, mput_let, mput_put, mset_get, mset_int, mset_let, mputL_get, mputL_arr, mputL_let, mputL_put, i64_8, mLen, bump], by simp [mput_get, mput_arr, mput_let, mput_put, mset_get, mset_int, mset_let, mputL_get, mputL_arr, mputL_let, mputL_put, i64_8, mLen]; exact v5, fun i v hi hv => by simp [mput_get, mput_arr, mput_let, mput_put, mset_get, mset_int, mset_let, mputL_get, mputL_arr, mputL_let, mputL_put, i64_8, mLen]; exact v6 i v hi hv, by simp [mput_get, mput_arr, mput_let, mput_put, mset_get, mset_int, mset_let, mputL_get, mputL_arr, mputL_let, mputL_put, i64_8, mLen]; exact v7⟩
    simp [mput_get, mput_arr, mput_let, mput_put, mset_get, mset_int, mset_let, mputL_get, mputL_arr, mputL_let, mputL_put, i64_8, mLen, bump, updN]
    split
    · rfl
    · exact v3 j hj
  have e48 : ms1.2.2 48 = ms.2.2 48 := by rw [← hm1]; funext i; simp [mput_get, mput_arr, mput_let, mput_put, mset_get, mset_int, mset_let, mputL_get, mputL_arr, mputL_let, mputL_put, i64_8, mLen]
  have e51 : ms1.1 51 = ms.1 51 := by rw [← hm1]; simp [mput_get, mput_arr, mput_let, mput_put, mset_get, mset_int, mset_let, mputL_get, mputL_arr, mputL_let, mputL_put, i64_8, mLen]
  have e54 : ms1.1 54 = ms.1 54 := by rw [← hm1]; simp [mput_get, mput_arr, mput_let, mput_put, mset_get, mset_int, mset_let, mputL_get, mputL_arr, mputL_let, mputL_put, i64_8, mLen]
  have e56 : ms1.1 56 = 0 := by rw [← hm1]; simp [mput_get, mput_arr, mput_let, mput_put, mset_get, mset_int, mset_let, mputL_get, mputL_arr, mputL_let, mputL_put, i64_8, mLen]; exact h56
  have lo := fr1.lo
  clear hm1
  have w1 : ∀ j, j < 48 → ms1.2.2 46 j = st.1 j := hV1.1
  have w2 : ∀ j, j < 16 → ms1.2.2 47 j = st.2.1 j := hV1.2.1
  rw [← lo 26 (by omega)] at s1
  rw [← lo 27 (by omega)] at s2
  rw [← lo 28 (by omega)] at s3
  rcases smA_ok w he with ⟨g1, ⟨r, hr1, hr2⟩, g3⟩ | ⟨g1, g2, g3⟩
  · refine m_of (o := (smA R e).2.2) g3 w1 ?_
    unfold wrk at k
    rw [if_pos g1] at k
    generalize hb : wth st.1 (smA R e).2.2 = b at k
    rw [hr2] at s3 k
    simp only at s3 k
    simp [bX2_work_69, bX2_work_73, bX2_work_74, bX2_work_88, bX2_work_105, o_ic, o_lc, o_null, o_il, o_ll, o_al, o_dup, o_pop, o_dup_x1, o_dup2, o_iadd, o_isub, o_imul, o_iand, o_ior, o_ixor, o_ishl, o_ishr, o_idiv, o_irem, o_ineg, o_ladd, o_lsub, o_lmul, o_land, o_lor, o_lxor, o_ldiv, o_lrem, o_lneg, o_lcmp, o_i2l, o_l2i, o_i2b, o_i2c, o_iushr, o_lshl, o_lshr, o_if_eq, o_if_ne, o_if_lt, o_if_ge, o_if_gt, o_if_le, o_icmp_eq, o_icmp_ne, o_icmp_lt, o_icmp_ge, o_icmp_gt, o_icmp_le, o_ifnull, o_ifnonnull, o_acmp_eq, o_acmp_ne, o_is, o_ls, o_as, o_iinc, o_kill, o_sw, o_ireturn, o_zreturn, o_nreturn, o_lreturn, o_areturn, o_return, o_athrow, o_call, entP, lg_sl, Value.category, st1, st2, List.set, List.getElem?_cons_zero, List.getElem?_cons_succ, List.foldl, popN, aft, o_mg, o_mgl, o_mga, o_mp, o_mpz, o_mpl, o_mia, o_mis, o_mbs, o_mc, mput_get, mput_arr, mput_let, mput_put, mset_get, mset_int, mset_let, mputL_get, mputL_arr, mputL_let, mputL_put, i64_8, mLen, vpL, nn_addL, nn_addR, nn_mulL, nn_add, nn_mul, nn_eqL, nn_ltL, nn_leL, nn_Llt, nn_Lle, nn_lt, nn_le, nn_eq, nn_in, nn_clamp, nn_succ, nn_pos, nn_neg1, b3, b4, s1, g1, s3]
    have bad : (b < 0 ∨ 7 < b) → Q (.inl (some (.int 0))) (mput ms1 56 1) := by
      intro hz
      rw [if_pos hz] at k
      refine k _ _ (fr1.put (by simp)) ?_ e48 (by simp [mput_get, mput_arr, mput_let, mput_put, mset_get, mset_int, mset_let, mputL_get, mputL_arr, mputL_let, mputL_put, i64_8, mLen]; exact e51) (by simp [mput_get, mput_arr, mput_let, mput_put, mset_get, mset_int, mset_let, mputL_get, mputL_arr, mputL_let, mputL_put, i64_8, mLen]; exact e54) (by simp [mput_get, mput_arr, mput_let, mput_put, mset_get, mset_int, mset_let, mputL_get, mputL_arr, mputL_let, mputL_put, i64_8, mLen])
      obtain ⟨x1, x2, x3, x4, x5, x6, x7⟩ := hV1
      exact ⟨x1, x2, x3, by simp [mput_get, mput_arr, mput_let, mput_put, mset_get, mset_int, mset_let, mputL_get, mputL_arr, mputL_let, mputL_put, i64_8, mLen]; exact x4, by simp [mput_get, mput_arr, mput_let, mput_put, mset_get, mset_int, mset_let, mputL_get, mputL_arr, mputL_let, mputL_put, i64_8, mLen]; exact x5, x6, by simp [mput_get, mput_arr, mput_let, mput_put, mset_get, mset_int, mset_let, mputL_get, mputL_arr, mputL_let, mputL_put, i64_8, mLen]; exact x7⟩
    refine ⟨fun h1 => bad (Or.inl h1), fun h1 => ⟨fun h2 => ?_, fun h2 => bad (Or.inr h2)⟩⟩
    have nz : ¬ (b < 0 ∨ 7 < b) := fun z => z.elim (fun z => ab1 z h1) (fun z => ab2 z h2)
    rw [if_neg nz] at k
    obtain ⟨b', hb'1, hb'2⟩ : ∃ b', b' < 8 ∧ b = nn b' := by
      rcases ix_cases b 8 (by omega) with ⟨b', hz1, hz2, -⟩ | ⟨-, hz⟩
      · exact ⟨b', hz1, hz2⟩
      · exfalso
        rcases hz with hz | hz
        · exact ab1 hz h1
        · rw [Int32.le_iff_toInt_le] at hz h2
          have e4 : (nn 8).toInt = 8 := rfl
          have e3 : (7 : Int32).toInt = 7 := rfl
          omega
    subst hb'2
    have b5 : 8 * r + b' < 2147483648 := by omega
    have b6 : 8 * r + b' < 16 := by omega
    simp [o_ic, o_lc, o_null, o_il, o_ll, o_al, o_dup, o_pop, o_dup_x1, o_dup2, o_iadd, o_isub, o_imul, o_iand, o_ior, o_ixor, o_ishl, o_ishr, o_idiv, o_irem, o_ineg, o_ladd, o_lsub, o_lmul, o_land, o_lor, o_lxor, o_ldiv, o_lrem, o_lneg, o_lcmp, o_i2l, o_l2i, o_i2b, o_i2c, o_iushr, o_lshl, o_lshr, o_if_eq, o_if_ne, o_if_lt, o_if_ge, o_if_gt, o_if_le, o_icmp_eq, o_icmp_ne, o_icmp_lt, o_icmp_ge, o_icmp_gt, o_icmp_le, o_ifnull, o_ifnonnull, o_acmp_eq, o_acmp_ne, o_is, o_ls, o_as, o_iinc, o_kill, o_sw, o_ireturn, o_zreturn, o_nreturn, o_lreturn, o_areturn, o_return, o_athrow, o_call, entP, lg_sl, Value.category, st1, st2, List.set, List.getElem?_cons_zero, List.getElem?_cons_succ, List.foldl, popN, aft, o_mg, o_mgl, o_mga, o_mp, o_mpz, o_mpl, o_mia, o_mis, o_mbs, o_mc, mput_get, mput_arr, mput_let, mput_put, mset_get, mset_int, mset_let, mputL_get, mputL_arr, mputL_let, mputL_put, i64_8, mLen, vpL, nn_addL, nn_addR, nn_mulL, nn_add, nn_mul, nn_eqL, nn_ltL, nn_leL, nn_Llt, nn_Lle, nn_lt, nn_le, nn_eq, nn_in, nn_clamp, nn_succ, nn_pos, nn_neg1, b5, b6]
    refine k _ _ (fr1.put (by simp)) ?_ e48 (by simp [mput_get, mput_arr, mput_let, mput_put, mset_get, mset_int, mset_let, mputL_get, mputL_arr, mputL_let, mputL_put, i64_8, mLen]; exact e51) (by simp [mput_get, mput_arr, mput_let, mput_put, mset_get, mset_int, mset_let, mputL_get, mputL_arr, mputL_let, mputL_put, i64_8, mLen]; exact e54) ⟨?_, by simp [mput_get, mput_arr, mput_let, mput_put, mset_get, mset_int, mset_let, mputL_get, mputL_arr, mputL_let, mputL_put, i64_8, mLen]⟩
    · obtain ⟨x1, x2, x3, x4, x5, x6, x7⟩ := hV1
      exact ⟨x1, x2, x3, by simp [mput_get, mput_arr, mput_let, mput_put, mset_get, mset_int, mset_let, mputL_get, mputL_arr, mputL_let, mputL_put, i64_8, mLen]; exact x4, by simp [mput_get, mput_arr, mput_let, mput_put, mset_get, mset_int, mset_let, mputL_get, mputL_arr, mputL_let, mputL_put, i64_8, mLen]; exact x5, x6, by simp [mput_get, mput_arr, mput_let, mput_put, mset_get, mset_int, mset_let, mputL_get, mputL_arr, mputL_let, mputL_put, i64_8, mLen]; exact x7⟩
    · rw [w2 _ b6]; simp [vpL, nn_addL, nn_addR, nn_mulL, nn_add, nn_mul, nn_eqL, nn_ltL, nn_leL, nn_Llt, nn_Lle, nn_lt, nn_le, nn_eq, nn_in, nn_clamp, nn_succ, nn_pos, nn_neg1, b5]
  · have n114 : ¬ (smA R e).1 = 114 := by
      rcases g1 with g | g | g | g | g | g <;> rw [g] <;> decide
    refine m_of (o := (smA R e).2.2) g3 w1 ?_
    simp [o_ic, o_lc, o_null, o_il, o_ll, o_al, o_dup, o_pop, o_dup_x1, o_dup2, o_iadd, o_isub, o_imul, o_iand, o_ior, o_ixor, o_ishl, o_ishr, o_idiv, o_irem, o_ineg, o_ladd, o_lsub, o_lmul, o_land, o_lor, o_lxor, o_ldiv, o_lrem, o_lneg, o_lcmp, o_i2l, o_l2i, o_i2b, o_i2c, o_iushr, o_lshl, o_lshr, o_if_eq, o_if_ne, o_if_lt, o_if_ge, o_if_gt, o_if_le, o_icmp_eq, o_icmp_ne, o_icmp_lt, o_icmp_ge, o_icmp_gt, o_icmp_le, o_ifnull, o_ifnonnull, o_acmp_eq, o_acmp_ne, o_is, o_ls, o_as, o_iinc, o_kill, o_sw, o_ireturn, o_zreturn, o_nreturn, o_lreturn, o_areturn, o_return, o_athrow, o_call, entP, lg_sl, Value.category, st1, st2, List.set, List.getElem?_cons_zero, List.getElem?_cons_succ, List.foldl, popN, aft, o_mg, o_mgl, o_mga, o_mp, o_mpz, o_mpl, o_mia, o_mis, o_mbs, o_mc, mput_get, mput_arr, mput_let, mput_put, mset_get, mset_int, mset_let, mputL_get, mputL_arr, mputL_let, mputL_put, i64_8, mLen, vpL, nn_addL, nn_addR, nn_mulL, nn_add, nn_mul, nn_eqL, nn_ltL, nn_leL, nn_Llt, nn_Lle, nn_lt, nn_le, nn_eq, nn_in, nn_clamp, nn_succ, nn_pos, nn_neg1, b3, b4, s1, n114]
    unfold wrk at k
    rw [if_neg n114] at k
    generalize hb : wth st.1 (smA R e).2.2 = b at k
    simp [bX2_work_106, o_ic, o_lc, o_null, o_il, o_ll, o_al, o_dup, o_pop, o_dup_x1, o_dup2, o_iadd, o_isub, o_imul, o_iand, o_ior, o_ixor, o_ishl, o_ishr, o_idiv, o_irem, o_ineg, o_ladd, o_lsub, o_lmul, o_land, o_lor, o_lxor, o_ldiv, o_lrem, o_lneg, o_lcmp, o_i2l, o_l2i, o_i2b, o_i2c, o_iushr, o_lshl, o_lshr, o_if_eq, o_if_ne, o_if_lt, o_if_ge, o_if_gt, o_if_le, o_icmp_eq, o_icmp_ne, o_icmp_lt, o_icmp_ge, o_icmp_gt, o_icmp_le, o_ifnull, o_ifnonnull, o_acmp_eq, o_acmp_ne, o_is, o_ls, o_as, o_iinc, o_kill, o_sw, o_ireturn, o_zreturn, o_nreturn, o_lreturn, o_areturn, o_return, o_athrow, o_call, entP, lg_sl, Value.category, st1, st2, List.set, List.getElem?_cons_zero, List.getElem?_cons_succ, List.foldl, popN, aft, o_mg, o_mgl, o_mga, o_mp, o_mpz, o_mpl, o_mia, o_mis, o_mbs, o_mc, mput_get, mput_arr, mput_let, mput_put, mset_get, mset_int, mset_let, mputL_get, mputL_arr, mputL_let, mputL_put, i64_8, mLen, vpL, nn_addL, nn_addR, nn_mulL, nn_add, nn_mul, nn_eqL, nn_ltL, nn_leL, nn_Llt, nn_Lle, nn_lt, nn_le, nn_eq, nn_in, nn_clamp, nn_succ, nn_pos, nn_neg1, b3, b4, s2, s3]
    refine m_of (o := (smA R e).2.1) g2 w1 ?_
    generalize ha : wth st.1 (smA R e).2.1 = a at k
    have k' := fun v => k ms1 v fr1 hV1 e48 e51 e54
    have k56 : ∀ x, RsV (mput ms1 56 x) (bump st e) ∧ FrG PRn ksR ms (mput ms1 56 x) ∧ (mput ms1 56 x).1 51 = ms.1 51 ∧ (mput ms1 56 x).1 54 = ms.1 54 := fun x => by
      obtain ⟨x1, x2, x3, x4, x5, x6, x7⟩ := hV1
      exact ⟨⟨x1, x2, x3, by simp [mput_get, mput_arr, mput_let, mput_put, mset_get, mset_int, mset_let, mputL_get, mputL_arr, mputL_let, mputL_put, i64_8, mLen]; exact x4, by simp [mput_get, mput_arr, mput_let, mput_put, mset_get, mset_int, mset_let, mputL_get, mputL_arr, mputL_let, mputL_put, i64_8, mLen]; exact x5, x6, by simp [mput_get, mput_arr, mput_let, mput_put, mset_get, mset_int, mset_let, mputL_get, mputL_arr, mputL_let, mputL_put, i64_8, mLen]; exact x7⟩, fr1.put (by simp), by simp [mput_get, mput_arr, mput_let, mput_put, mset_get, mset_int, mset_let, mputL_get, mputL_arr, mputL_let, mputL_put, i64_8, mLen]; exact e51, by simp [mput_get, mput_arr, mput_let, mput_put, mset_get, mset_int, mset_let, mputL_get, mputL_arr, mputL_let, mputL_put, i64_8, mLen]; exact e54⟩
    simp [bX2_work_180, bX2_work_186, bX2_work_192, bX2_work_198, bX2_work_204, bX2_work_210, bX2_work_220, bX2_work_221, bX2_work_235, bX2_work_247, bX2_work_252, swR, o_ic, o_lc, o_null, o_il, o_ll, o_al, o_dup, o_pop, o_dup_x1, o_dup2, o_iadd, o_isub, o_imul, o_iand, o_ior, o_ixor, o_ishl, o_ishr, o_idiv, o_irem, o_ineg, o_ladd, o_lsub, o_lmul, o_land, o_lor, o_lxor, o_ldiv, o_lrem, o_lneg, o_lcmp, o_i2l, o_l2i, o_i2b, o_i2c, o_iushr, o_lshl, o_lshr, o_if_eq, o_if_ne, o_if_lt, o_if_ge, o_if_gt, o_if_le, o_icmp_eq, o_icmp_ne, o_icmp_lt, o_icmp_ge, o_icmp_gt, o_icmp_le, o_ifnull, o_ifnonnull, o_acmp_eq, o_acmp_ne, o_is, o_ls, o_as, o_iinc, o_kill, o_sw, o_ireturn, o_zreturn, o_nreturn, o_lreturn, o_areturn, o_return, o_athrow, o_call, entP, lg_sl, Value.category, st1, st2, List.set, List.getElem?_cons_zero, List.getElem?_cons_succ, List.foldl, popN, aft, o_mg, o_mgl, o_mga, o_mp, o_mpz, o_mpl, o_mia, o_mis, o_mbs, o_mc, mput_get, mput_arr, mput_let, mput_put, mset_get, mset_int, mset_let, mputL_get, mputL_arr, mputL_let, mputL_put, i64_8, mLen, vpL, nn_addL, nn_addR, nn_mulL, nn_add, nn_mul, nn_eqL, nn_ltL, nn_leL, nn_Llt, nn_Lle, nn_lt, nn_le, nn_eq, nn_in, nn_clamp, nn_succ, nn_pos, nn_neg1, b3, b4, s1]
    refine ⟨fun h1 => ?_, fun h1 => ⟨fun h2 => ?_, fun h2 => ⟨fun h3 => ?_, fun h3 => ⟨fun h4 => ?_, fun h4 => ⟨fun h5 => ?_, fun h5 => ⟨fun h6 => ⟨fun h7 => ⟨h6, ?_⟩, fun h7 => ?_⟩, fun h6 => ?_⟩⟩⟩⟩⟩⟩
    · rw [if_pos h1] at k'; exact k' _ ⟨rfl, e56⟩
    · rw [if_neg h1, if_pos h2] at k'; exact k' _ ⟨rfl, e56⟩
    · rw [if_neg h1, if_neg h2, if_pos h3] at k'; exact k' _ ⟨rfl, e56⟩
    · rw [if_neg h1, if_neg h2, if_neg h3, if_pos h4] at k'; exact k' _ ⟨rfl, e56⟩
    · rw [if_neg h1, if_neg h2, if_neg h3, if_neg h4, if_pos h5] at k'; exact k' _ ⟨rfl, e56⟩
    · rw [if_neg h1, if_neg h2, if_neg h3, if_neg h4, if_neg h5, if_neg h6, if_neg h7] at k
      obtain ⟨y1, y2, y3, y4⟩ := k56 0
      exact k _ _ y2 y1 e48 y3 y4 ⟨rfl, by simp [mput_get, mput_arr, mput_let, mput_put, mset_get, mset_int, mset_let, mputL_get, mputL_arr, mputL_let, mputL_put, i64_8, mLen]⟩
    · rw [if_neg h1, if_neg h2, if_neg h3, if_neg h4, if_neg h5, if_neg h6, if_pos h7] at k
      obtain ⟨y1, y2, y3, y4⟩ := k56 0
      exact k _ _ y2 y1 e48 y3 y4 ⟨rfl, by simp [mput_get, mput_arr, mput_let, mput_put, mset_get, mset_int, mset_let, mputL_get, mputL_arr, mputL_let, mputL_put, i64_8, mLen]⟩
    · rw [if_neg h1, if_neg h2, if_neg h3, if_neg h4, if_neg h5, if_pos h6] at k
      obtain ⟨y1, y2, y3, y4⟩ := k56 1
      exact k _ _ y2 y1 e48 y3 y4 (by simp [mput_get, mput_arr, mput_let, mput_put, mset_get, mset_int, mset_let, mputL_get, mputL_arr, mputL_let, mputL_put, i64_8, mLen])
