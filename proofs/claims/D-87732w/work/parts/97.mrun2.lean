/-! THE MODEL runs: all of it -/
set_option maxRecDepth 100000
theorem RsV.came {ms : MS} {st : RS} (h : RsV ms st) : RsV (mput ms 52 (nn (st.2.2.2.2.2.2 + 1))) (rCame st) := by
  obtain ⟨x1, x2, x3, x4, x5, x6, x7⟩ := h
  exact ⟨x1, x2, x3, by simp [mput_get, mput_arr, mput_let, mput_put, mset_get, mset_int, mset_let, mputL_get, mputL_arr, mputL_let, mputL_put, i64_8, mLen]; exact x4, by simp [mput_get, mput_arr, mput_let, mput_put, mset_get, mset_int, mset_let, mputL_get, mputL_arr, mputL_let, mputL_put, i64_8, mLen]; exact x5, x6, by simp [mput_get, mput_arr, mput_let, mput_put, mset_get, mset_int, mset_let, mputL_get, mputL_arr, mputL_let, mputL_put, i64_8, mLen, rCame]⟩
theorem mput_self (ms : MS) (k : Nat) : mput ms k (ms.1 k) = ms := by
  unfold mput
  ext j
  · simp only
    split
    · next h => rw [h]
    · rfl
  · rfl
  · rfl
theorem doesF_told (R : Rt) (pl k : Nat) (st : RS) : (doesF R pl k st).1.2.2.2.2.2.1.length ≤ st.2.2.2.2.2.1.length + if nK (ndA (nds R) k) = 3 then 1 else 0 := by
  unfold doesF
  simp only
  repeat' split
  all_goals first | omega | (simp [rNow, rRow, rTell, bump]; done) | (simp [rNow, rRow, rTell, bump]; omega) | skip
theorem stepF_told (R : Rt) (pl k : Nat) (st : RS) (h : st.2.2.2.2.2.1.length ≤ st.2.2.2.2.2.2) : (stepF R pl k st).1.2.2.2.2.2.1.length ≤ (stepF R pl k st).1.2.2.2.2.2.2 := by
  rw [stepF_came]
  unfold stepF
  have h1 := (setF_same R pl k (sms R.1).length 0 (st1F R k st)).2.2
  have h2 : (st1F R k st).2.2.2.2.2.1 = st.2.2.2.2.2.1 := by unfold st1F; split <;> rfl
  split
  · show (setF R pl k (sms R.1).length 0 (st1F R k st)).1.2.2.2.2.2.1.length ≤ _
    rw [h1, h2]; omega
  · have h3 := doesF_told R pl k (setF R pl k (sms R.1).length 0 (st1F R k st)).1
    rw [h1, h2] at h3
    by_cases c : nK (ndA (nds R) k) = 3
    · rw [if_pos c] at h3; rw [if_neg (by omega)]; omega
    · rw [if_neg c] at h3; split <;> omega
theorem x_step {mo : Nat} {Q : Ret MS} {R : Rt} {q pl k : Nat} {st : RS} {ms : MS} (hq : q < 4) (hpl : pl < 3) (hk : k < (nds R).length) (hs : (sms R.1).length ≤ 32) (w : WfR R) (hT : TgOk R) (hPl : PlM ms q R) (hV : RsV ms st) (hK : KpM ms st) (h56 : ms.1 56 = 0) (htl : st.2.2.2.2.2.1.length ≤ 1000)
    (kk : ∀ ms' v, StA ms ms' v (stepF R pl k st) → Q (.inl (some (.int v))) ms') : pX2_step mo [.ref mo, .int (nn q), .int (nn pl), .int (nn k), .int (nn (240 * q + k))] ms Q := by
  have l := nds_240 w
  have b3 : 240 * q + k < 2147483648 := by omega
  have b4 : 240 * q + k < 1200 := by omega
  obtain ⟨⟨c1, -⟩, ok⟩ := hPl.nd w hT hk
  have bk : nK (ndA (nds R) k) < 2147483648 := by have := ok.1; omega
  have e52 := hV.2.2.2.2.2.2
  have go : ∀ ms1, FrG PRn ksR ms ms1 → PlM ms1 q R → RsV ms1 (st1F R k st) → KpM ms1 (st1F R k st) → ms1.1 56 = 0 → ms1.1 51 = ms.1 51 → ms1.1 54 = ms.1 54 → bX2_step_29 mo Q [some (.ref mo), some (.int (nn q)), some (.int (nn pl)), some (.int (nn k)), some (.int (nn (240 * q + k))), some (.int (nn 0)), none, none] [] ms1 := by
    intro ms1 f1 p1 V1 K1 z56 z51 z54
    refine x_sets hq hpl hk hs w (sms R.1).length 0 (st1F R k st) ms1 (by omega) p1 V1 K1 z56 (fun ms2 v5 f2 V2 ka kb y51 y54 => ?_)
    unfold stepF at kk
    have h1 := (setF_same R pl k (sms R.1).length 0 (st1F R k st)).2.2
    have h2 : (st1F R k st).2.2.2.2.2.1 = st.2.2.2.2.2.1 := by unfold st1F; split <;> rfl
    generalize setF R pl k (sms R.1).length 0 (st1F R k st) = r at kk V2 ka kb h1
    cases hr : r.2 with
    | true =>
      rw [if_pos hr] at kk
      simp [bX2_step_79, o_ic, o_lc, o_null, o_il, o_ll, o_al, o_dup, o_pop, o_dup_x1, o_dup2, o_iadd, o_isub, o_imul, o_iand, o_ior, o_ixor, o_ishl, o_ishr, o_idiv, o_irem, o_ineg, o_ladd, o_lsub, o_lmul, o_land, o_lor, o_lxor, o_ldiv, o_lrem, o_lneg, o_lcmp, o_i2l, o_l2i, o_i2b, o_i2c, o_iushr, o_lshl, o_lshr, o_if_eq, o_if_ne, o_if_lt, o_if_ge, o_if_gt, o_if_le, o_icmp_eq, o_icmp_ne, o_icmp_lt, o_icmp_ge, o_icmp_gt, o_icmp_le, o_ifnull, o_ifnonnull, o_acmp_eq, o_acmp_ne, o_is, o_ls, o_as, o_iinc, o_kill, o_sw, o_ireturn, o_zreturn, o_nreturn, o_lreturn, o_areturn, o_return, o_athrow, o_call, entP, lg_sl, Value.category, st1, st2, List.set, List.getElem?_cons_zero, List.getElem?_cons_succ, List.foldl, popN, aft, o_mg, o_mgl, o_mga, o_mp, o_mpz, o_mpl, o_mia, o_mis, o_mbs, o_mc, mput_get, mput_arr, mput_let, mput_put, mset_get, mset_int, mset_let, mputL_get, mputL_arr, mputL_let, mputL_put, i64_8, mLen, kb hr]
      refine kk ms2 _ ⟨f1.trans f2, V2, y54.trans z54, ?_⟩
      simp; exact ⟨kb hr, y51.trans z51⟩
    | false =>
      rw [if_neg (by rw [hr]; simp)] at kk
      obtain ⟨K2, u56⟩ := ka hr
      simp [bX2_step_79, o_ic, o_lc, o_null, o_il, o_ll, o_al, o_dup, o_pop, o_dup_x1, o_dup2, o_iadd, o_isub, o_imul, o_iand, o_ior, o_ixor, o_ishl, o_ishr, o_idiv, o_irem, o_ineg, o_ladd, o_lsub, o_lmul, o_land, o_lor, o_lxor, o_ldiv, o_lrem, o_lneg, o_lcmp, o_i2l, o_l2i, o_i2b, o_i2c, o_iushr, o_lshl, o_lshr, o_if_eq, o_if_ne, o_if_lt, o_if_ge, o_if_gt, o_if_le, o_icmp_eq, o_icmp_ne, o_icmp_lt, o_icmp_ge, o_icmp_gt, o_icmp_le, o_ifnull, o_ifnonnull, o_acmp_eq, o_acmp_ne, o_is, o_ls, o_as, o_iinc, o_kill, o_sw, o_ireturn, o_zreturn, o_nreturn, o_lreturn, o_areturn, o_return, o_athrow, o_call, entP, lg_sl, Value.category, st1, st2, List.set, List.getElem?_cons_zero, List.getElem?_cons_succ, List.foldl, popN, aft, o_mg, o_mgl, o_mga, o_mp, o_mpz, o_mpl, o_mia, o_mis, o_mbs, o_mc, mput_get, mput_arr, mput_let, mput_put, mset_get, mset_int, mset_let, mputL_get, mputL_arr, mputL_let, mputL_put, i64_8, mLen, u56]
      have f12 := f1.trans f2
      refine x_does hq hpl hk hs w hT (hPl.frR (fun j hj => f12.lo j hj)) V2 K2 u56 (by rw [h1, h2]; exact htl) (fun ms3 v a3 => kk ms3 v ?_)
      obtain ⟨g1, g2, g3, g4⟩ := a3
      refine ⟨f12.trans g1, g2, g3.trans (y54.trans z54), ?_⟩
      cases hd : (doesF R pl k r.1).2 with
      | ok k' => rw [hd] at g4; exact ⟨g4.1, g4.2.1, g4.2.2.1, g4.2.2.2.trans (y51.trans z51)⟩
      | error h =>
        rw [hd] at g4
        simp only at g4 ⊢
        split
        · next c => rw [if_pos c] at g4; exact g4
        · next c => rw [if_neg c] at g4; exact ⟨g4.1, g4.2.trans (y51.trans z51)⟩
  simp [pX2_step, bX2_step_0, bX2_step_21, bX2_step_22, o_ic, o_lc, o_null, o_il, o_ll, o_al, o_dup, o_pop, o_dup_x1, o_dup2, o_iadd, o_isub, o_imul, o_iand, o_ior, o_ixor, o_ishl, o_ishr, o_idiv, o_irem, o_ineg, o_ladd, o_lsub, o_lmul, o_land, o_lor, o_lxor, o_ldiv, o_lrem, o_lneg, o_lcmp, o_i2l, o_l2i, o_i2b, o_i2c, o_iushr, o_lshl, o_lshr, o_if_eq, o_if_ne, o_if_lt, o_if_ge, o_if_gt, o_if_le, o_icmp_eq, o_icmp_ne, o_icmp_lt, o_icmp_ge, o_icmp_gt, o_icmp_le, o_ifnull, o_ifnonnull, o_acmp_eq, o_acmp_ne, o_is, o_ls, o_as, o_iinc, o_kill, o_sw, o_ireturn, o_zreturn, o_nreturn, o_lreturn, o_areturn, o_return, o_athrow, o_call, entP, lg_sl, Value.category, st1, st2, List.set, List.getElem?_cons_zero, List.getElem?_cons_succ, List.foldl, popN, aft, o_mg, o_mgl, o_mga, o_mp, o_mpz, o_mpl, o_mia, o_mis, o_mbs, o_mc, mput_get, mput_arr, mput_let, mput_put, mset_get, mset_int, mset_let, mputL_get, mputL_arr, mputL_let, mputL_put, i64_8, mLen, vpL, nn_addL, nn_addR, nn_mulL, nn_add, nn_mul, nn_eqL, nn_ltL, nn_leL, nn_Llt, nn_Lle, nn_lt, nn_le, nn_eq, nn_in, nn_clamp, nn_succ, nn_pos, nn_neg1, b3, b4, c1, bk, e52]
  refine ⟨fun h7 => ?_, fun h7 => ?_⟩
  · have e1 : st1F R k st = rCame st := by unfold st1F; rw [if_neg h7]
    refine go _ (FrG.rfl9.put (by simp)) (hPl.frR (fun j hj => rfl)) (by rw [e1]; exact hV.came) (by rw [e1]; exact hK) (by simp [mput_get, mput_arr, mput_let, mput_put, mset_get, mset_int, mset_let, mputL_get, mputL_arr, mputL_let, mputL_put, i64_8, mLen]; exact h56) (by simp [mput_get, mput_arr, mput_let, mput_put, mset_get, mset_int, mset_let, mputL_get, mputL_arr, mputL_let, mputL_put, i64_8, mLen]) (by simp [mput_get, mput_arr, mput_let, mput_put, mset_get, mset_int, mset_let, mputL_get, mputL_arr, mputL_let, mputL_put, i64_8, mLen])
  · have e1 : st1F R k st = st := by unfold st1F; rw [if_pos h7]
    have e2 : (mput ms 52 (nn st.2.2.2.2.2.2)) = ms := by rw [← e52]; exact mput_self ms 52
    have := go ms FrG.rfl9 hPl (by rw [e1]; exact hV) (by rw [e1]; exact hK) h56 rfl rfl
    first | (rw [e2]; exact this) | exact this
/-- what a run leaves -/
def RunM (ms' : MS) (r : (Int32 × Int32) × RS) : Prop := ms'.1 51 = r.1.1 ∧ ms'.1 54 = r.1.2 ∧ RsV ms' r.2 ∧ r.2.2.2.2.2.2.1.length ≤ 1000 ∧ r.2.2.2.2.2.2.2 ≤ 1000
theorem x_runloop {mo : Nat} {Q : Ret MS} {R : Rt} {q pl : Nat} (hq : q < 4) (hpl : pl < 3) (hs : (sms R.1).length ≤ 32) (w : WfR R) (hT : TgOk R) :
    ∀ m k st ms, mu R k st < m → k < (nds R).length → PlM ms q R → RsV ms st → KpM ms st → ms.1 56 = 0 → ms.1 51 = -1 → ms.1 54 = -1 → st.2.2.2.2.2.2 ≤ 1000 → st.2.2.2.2.2.1.length ≤ st.2.2.2.2.2.2 →
    (∀ ms', FrG PRn ksR ms ms' → RunM ms' (runF R pl m k st) → Q (.inl (some (.int (runF R pl m k st).1.1))) ms') →
    bX2_run_118 mo Q [some (.ref mo), some (.int (nn q)), some (.int (nn pl)), some (.int (nn k)), none] [] ms := by
  intro m k st ms h1 h2 h3 h4 h5 h6 h7 h8 h9 h10 kk
  unfold bX2_run_118
  intro X hX
  have l := nds_240 w
  have b1 : q < 2147483648 := by omega
  have b2 : q < 5 := by omega
  have done : ∀ ms' v k', ms'.1 51 = v → v ≠ -1 → Q (.inl (some (.int v))) ms' → X [some (.ref mo), some (.int (nn q)), some (.int (nn pl)), some (.int k'), none] [] ms' := by
    intro ms' v k' h51 hv hQ
    apply hX
    simp [bX2_run_211, o_ic, o_lc, o_null, o_il, o_ll, o_al, o_dup, o_pop, o_dup_x1, o_dup2, o_iadd, o_isub, o_imul, o_iand, o_ior, o_ixor, o_ishl, o_ishr, o_idiv, o_irem, o_ineg, o_ladd, o_lsub, o_lmul, o_land, o_lor, o_lxor, o_ldiv, o_lrem, o_lneg, o_lcmp, o_i2l, o_l2i, o_i2b, o_i2c, o_iushr, o_lshl, o_lshr, o_if_eq, o_if_ne, o_if_lt, o_if_ge, o_if_gt, o_if_le, o_icmp_eq, o_icmp_ne, o_icmp_lt, o_icmp_ge, o_icmp_gt, o_icmp_le, o_ifnull, o_ifnonnull, o_acmp_eq, o_acmp_ne, o_is, o_ls, o_as, o_iinc, o_kill, o_sw, o_ireturn, o_zreturn, o_nreturn, o_lreturn, o_areturn, o_return, o_athrow, o_call, entP, lg_sl, Value.category, st1, st2, List.set, List.getElem?_cons_zero, List.getElem?_cons_succ, List.foldl, popN, aft, o_mg, o_mgl, o_mga, o_mp, o_mpz, o_mpl, o_mia, o_mis, o_mbs, o_mc, mput_get, mput_arr, mput_let, mput_put, mset_get, mset_int, mset_let, mputL_get, mputL_arr, mputL_let, mputL_put, i64_8, mLen, h51, hv]
    exact hQ
  revert m k st ms
  intro m
  induction m with
  | zero => intro k st ms h1; omega
  | succ m ih =>
    intro k st ms h1 hk hPl hV hK h56 h51 h54 hc htl kk
    apply hX
    have b3 : 240 * q + k < 2147483648 := by omega
    have b4 : 240 * q + k < 1200 := by omega
    obtain ⟨⟨c1, c2, -⟩, ok⟩ := hPl.nd w hT hk
    have bk : nK (ndA (nds R) k) < 2147483648 := by have := ok.1; omega
    have e52 := hV.2.2.2.2.2.2
    have b5 : st.2.2.2.2.2.2 < 2147483648 := by omega
    unfold runF at kk
    have stp : ¬ (nK (ndA (nds R) k) ≠ 7 ∧ st.2.2.2.2.2.2 = 1000) → bX2_run_161 mo Q X [some (.ref mo), some (.int (nn q)), some (.int (nn pl)), some (.int (nn k)), none] [] ms := by
      intro hn
      rw [if_neg hn] at kk
      simp [bX2_run_161, o_ic, o_lc, o_null, o_il, o_ll, o_al, o_dup, o_pop, o_dup_x1, o_dup2, o_iadd, o_isub, o_imul, o_iand, o_ior, o_ixor, o_ishl, o_ishr, o_idiv, o_irem, o_ineg, o_ladd, o_lsub, o_lmul, o_land, o_lor, o_lxor, o_ldiv, o_lrem, o_lneg, o_lcmp, o_i2l, o_l2i, o_i2b, o_i2c, o_iushr, o_lshl, o_lshr, o_if_eq, o_if_ne, o_if_lt, o_if_ge, o_if_gt, o_if_le, o_icmp_eq, o_icmp_ne, o_icmp_lt, o_icmp_ge, o_icmp_gt, o_icmp_le, o_ifnull, o_ifnonnull, o_acmp_eq, o_acmp_ne, o_is, o_ls, o_as, o_iinc, o_kill, o_sw, o_ireturn, o_zreturn, o_nreturn, o_lreturn, o_areturn, o_return, o_athrow, o_call, entP, lg_sl, Value.category, st1, st2, List.set, List.getElem?_cons_zero, List.getElem?_cons_succ, List.foldl, popN, aft, o_mg, o_mgl, o_mga, o_mp, o_mpz, o_mpl, o_mia, o_mis, o_mbs, o_mc, mput_get, mput_arr, mput_let, mput_put, mset_get, mset_int, mset_let, mputL_get, mputL_arr, mputL_let, mputL_put, i64_8, mLen, vpL, nn_addL, nn_addR, nn_mulL, nn_add, nn_mul]
      refine x_step hq hpl hk hs w hT hPl hV hK h56 (by omega) (fun ms1 v a1 => ?_)
      obtain ⟨f1, V1, z54, a4⟩ := a1
      have hcm := stepF_came R pl k st
      have htl' := stepF_told R pl k st htl
      cases hr : (stepF R pl k st).2 with
      | ok k' =>
        rw [hr] at kk a4
        simp only at kk a4
        obtain ⟨rfl, K1, y56, y51⟩ := a4
        obtain ⟨m1, m2⟩ := mu_lt w hT hk hn hc hr
        simp [bX2_run_205, o_ic, o_lc, o_null, o_il, o_ll, o_al, o_dup, o_pop, o_dup_x1, o_dup2, o_iadd, o_isub, o_imul, o_iand, o_ior, o_ixor, o_ishl, o_ishr, o_idiv, o_irem, o_ineg, o_ladd, o_lsub, o_lmul, o_land, o_lor, o_lxor, o_ldiv, o_lrem, o_lneg, o_lcmp, o_i2l, o_l2i, o_i2b, o_i2c, o_iushr, o_lshl, o_lshr, o_if_eq, o_if_ne, o_if_lt, o_if_ge, o_if_gt, o_if_le, o_icmp_eq, o_icmp_ne, o_icmp_lt, o_icmp_ge, o_icmp_gt, o_icmp_le, o_ifnull, o_ifnonnull, o_acmp_eq, o_acmp_ne, o_is, o_ls, o_as, o_iinc, o_kill, o_sw, o_ireturn, o_zreturn, o_nreturn, o_lreturn, o_areturn, o_return, o_athrow, o_call, entP, lg_sl, Value.category, st1, st2, List.set, List.getElem?_cons_zero, List.getElem?_cons_succ, List.foldl, popN, aft, o_mg, o_mgl, o_mga, o_mp, o_mpz, o_mpl, o_mia, o_mis, o_mbs, o_mc, mput_get, mput_arr, mput_let, mput_put, mset_get, mset_int, mset_let, mputL_get, mputL_arr, mputL_let, mputL_put, i64_8, mLen, vpL, nn_addL, nn_addR, nn_mulL, nn_add, nn_mul, y56]
        exact ih k' (stepF R pl k st).1 ms1 (by omega) (stepF_next w hT hk hr).1 (hPl.frR (fun j hj => f1.lo j hj)) V1 K1 y56 (y51.trans h51) (z54.trans h54) m2 htl' (fun ms' g1 g2 => kk ms' (f1.trans g1) g2)
      | error h =>
        rw [hr] at kk a4
        simp only at kk a4
        have hcm2 : (stepF R pl k st).1.2.2.2.2.2.2 ≤ 1000 := by
          rw [hcm]
          by_cases c7 : nK (ndA (nds R) k) = 7
          · rw [if_pos c7]; omega
          · rw [if_neg c7]
            have : ¬ st.2.2.2.2.2.2 = 1000 := fun z => hn ⟨c7, z⟩
            omega
        have htl2 : (stepF R pl k st).1.2.2.2.2.2.1.length ≤ 1000 := by omega
        by_cases c : h = 0
        · rw [if_pos c] at kk a4
          simp [bX2_run_205, o_ic, o_lc, o_null, o_il, o_ll, o_al, o_dup, o_pop, o_dup_x1, o_dup2, o_iadd, o_isub, o_imul, o_iand, o_ior, o_ixor, o_ishl, o_ishr, o_idiv, o_irem, o_ineg, o_ladd, o_lsub, o_lmul, o_land, o_lor, o_lxor, o_ldiv, o_lrem, o_lneg, o_lcmp, o_i2l, o_l2i, o_i2b, o_i2c, o_iushr, o_lshl, o_lshr, o_if_eq, o_if_ne, o_if_lt, o_if_ge, o_if_gt, o_if_le, o_icmp_eq, o_icmp_ne, o_icmp_lt, o_icmp_ge, o_icmp_gt, o_icmp_le, o_ifnull, o_ifnonnull, o_acmp_eq, o_acmp_ne, o_is, o_ls, o_as, o_iinc, o_kill, o_sw, o_ireturn, o_zreturn, o_nreturn, o_lreturn, o_areturn, o_return, o_athrow, o_call, entP, lg_sl, Value.category, st1, st2, List.set, List.getElem?_cons_zero, List.getElem?_cons_succ, List.foldl, popN, aft, o_mg, o_mgl, o_mga, o_mp, o_mpz, o_mpl, o_mia, o_mis, o_mbs, o_mc, mput_get, mput_arr, mput_let, mput_put, mset_get, mset_int, mset_let, mputL_get, mputL_arr, mputL_let, mputL_put, i64_8, mLen, vpL, nn_addL, nn_addR, nn_mulL, nn_add, nn_mul, a4.2]
          exact done ms1 0 _ a4.1 (by decide) (kk ms1 f1 ⟨a4.1, z54.trans h54, V1, htl2, hcm2⟩)
        · rw [if_neg c] at kk a4
          have e16 : ms1.2.2 16 (240 * q + k) = nn (nB (ndA (nds R) k)) := by rw [f1.lo 16 (by omega)]; exact c2
          simp [bX2_run_205, o_ic, o_lc, o_null, o_il, o_ll, o_al, o_dup, o_pop, o_dup_x1, o_dup2, o_iadd, o_isub, o_imul, o_iand, o_ior, o_ixor, o_ishl, o_ishr, o_idiv, o_irem, o_ineg, o_ladd, o_lsub, o_lmul, o_land, o_lor, o_lxor, o_ldiv, o_lrem, o_lneg, o_lcmp, o_i2l, o_l2i, o_i2b, o_i2c, o_iushr, o_lshl, o_lshr, o_if_eq, o_if_ne, o_if_lt, o_if_ge, o_if_gt, o_if_le, o_icmp_eq, o_icmp_ne, o_icmp_lt, o_icmp_ge, o_icmp_gt, o_icmp_le, o_ifnull, o_ifnonnull, o_acmp_eq, o_acmp_ne, o_is, o_ls, o_as, o_iinc, o_kill, o_sw, o_ireturn, o_zreturn, o_nreturn, o_lreturn, o_areturn, o_return, o_athrow, o_call, entP, lg_sl, Value.category, st1, st2, List.set, List.getElem?_cons_zero, List.getElem?_cons_succ, List.foldl, popN, aft, o_mg, o_mgl, o_mga, o_mp, o_mpz, o_mpl, o_mia, o_mis, o_mbs, o_mc, mput_get, mput_arr, mput_let, mput_put, mset_get, mset_int, mset_let, mputL_get, mputL_arr, mputL_let, mputL_put, i64_8, mLen, vpL, nn_addL, nn_addR, nn_mulL, nn_add, nn_mul, nn_eqL, nn_ltL, nn_leL, nn_Llt, nn_Lle, nn_lt, nn_le, nn_eq, nn_in, nn_clamp, nn_succ, nn_pos, nn_neg1, a4.1, b3, b4, e16]
          have f2 : FrG PRn ksR ms (mput (mput ms1 51 1) 54 (nn (nB (ndA (nds R) k)))) := (f1.put (by simp)).put (by simp)
          refine done _ 1 _ (by simp [mput_get, mput_arr, mput_let, mput_put, mset_get, mset_int, mset_let, mputL_get, mputL_arr, mputL_let, mputL_put, i64_8, mLen]) (by decide) (kk _ f2 ⟨by simp [mput_get, mput_arr, mput_let, mput_put, mset_get, mset_int, mset_let, mputL_get, mputL_arr, mputL_let, mputL_put, i64_8, mLen], by simp [mput_get, mput_arr, mput_let, mput_put, mset_get, mset_int, mset_let, mputL_get, mputL_arr, mputL_let, mputL_put, i64_8, mLen], ?_, htl2, hcm2⟩)
          obtain ⟨x1, x2, x3, x4, x5, x6, x7⟩ := V1
          exact ⟨x1, x2, x3, by simp [mput_get, mput_arr, mput_let, mput_put, mset_get, mset_int, mset_let, mputL_get, mputL_arr, mputL_let, mputL_put, i64_8, mLen]; exact x4, by simp [mput_get, mput_arr, mput_let, mput_put, mset_get, mset_int, mset_let, mputL_get, mputL_arr, mputL_let, mputL_put, i64_8, mLen]; exact x5, x6, by simp [mput_get, mput_arr, mput_let, mput_put, mset_get, mset_int, mset_let, mputL_get, mputL_arr, mputL_let, mputL_put, i64_8, mLen]; exact x7⟩
    simp [o_ic, o_lc, o_null, o_il, o_ll, o_al, o_dup, o_pop, o_dup_x1, o_dup2, o_iadd, o_isub, o_imul, o_iand, o_ior, o_ixor, o_ishl, o_ishr, o_idiv, o_irem, o_ineg, o_ladd, o_lsub, o_lmul, o_land, o_lor, o_lxor, o_ldiv, o_lrem, o_lneg, o_lcmp, o_i2l, o_l2i, o_i2b, o_i2c, o_iushr, o_lshl, o_lshr, o_if_eq, o_if_ne, o_if_lt, o_if_ge, o_if_gt, o_if_le, o_icmp_eq, o_icmp_ne, o_icmp_lt, o_icmp_ge, o_icmp_gt, o_icmp_le, o_ifnull, o_ifnonnull, o_acmp_eq, o_acmp_ne, o_is, o_ls, o_as, o_iinc, o_kill, o_sw, o_ireturn, o_zreturn, o_nreturn, o_lreturn, o_areturn, o_return, o_athrow, o_call, entP, lg_sl, Value.category, st1, st2, List.set, List.getElem?_cons_zero, List.getElem?_cons_succ, List.foldl, popN, aft, o_mg, o_mgl, o_mga, o_mp, o_mpz, o_mpl, o_mia, o_mis, o_mbs, o_mc, mput_get, mput_arr, mput_let, mput_put, mset_get, mset_int, mset_let, mputL_get, mputL_arr, mputL_let, mputL_put, i64_8, mLen, vpL, nn_addL, nn_addR, nn_mulL, nn_add, nn_mul, nn_eqL, nn_ltL, nn_leL, nn_Llt, nn_Lle, nn_lt, nn_le, nn_eq, nn_in, nn_clamp, nn_succ, nn_pos, nn_neg1, h51, b3, b4, c1, bk, e52, b5]
    refine ⟨fun h7 => stp (fun z => z.1 h7), fun h7 => ⟨fun h1000 => stp (fun z => h1000 z.2), fun h1000 => ?_⟩⟩
    rw [if_pos ⟨h7, h1000⟩] at kk
    refine done _ 2 _ (by simp [mput_get, mput_arr, mput_let, mput_put, mset_get, mset_int, mset_let, mputL_get, mputL_arr, mputL_let, mputL_put, i64_8, mLen]) (by decide) (kk _ (FrG.rfl9.put (by simp)) ⟨by simp [mput_get, mput_arr, mput_let, mput_put, mset_get, mset_int, mset_let, mputL_get, mputL_arr, mputL_let, mputL_put, i64_8, mLen], by simp [mput_get, mput_arr, mput_let, mput_put, mset_get, mset_int, mset_let, mputL_get, mputL_arr, mputL_let, mputL_put, i64_8, mLen]; exact h54, ?_, by show st.2.2.2.2.2.1.length ≤ 1000; omega, hc⟩)
    obtain ⟨x1, x2, x3, x4, x5, x6, x7⟩ := hV
    exact ⟨x1, x2, x3, by simp [mput_get, mput_arr, mput_let, mput_put, mset_get, mset_int, mset_let, mputL_get, mputL_arr, mputL_let, mputL_put, i64_8, mLen]; exact x4, by simp [mput_get, mput_arr, mput_let, mput_put, mset_get, mset_int, mset_let, mputL_get, mputL_arr, mputL_let, mputL_put, i64_8, mLen]; exact x5, x6, by simp [mput_get, mput_arr, mput_let, mput_put, mset_get, mset_int, mset_let, mputL_get, mputL_arr, mputL_let, mputL_put, i64_8, mLen]; exact x7⟩
/-- a row of the Model is filled -/
theorem x_fill {mo : Nat} {ms : MS} {a n : Nat} {X : Cont MS} {v1 v2 : Option Value} {g : Nat → Int32} {Out : Nat → MS → Prop}
    (hout : ∀ ms', Out n ms' → X [some (.ref mo), v1, v2, some (.int (nn n)), none] [] ms') (hstep : ∀ i ms', i < n → (∀ ms'', ms'' = mset ms' a i (g i) → X [some (.ref mo), v1, v2, some (.int (nn (i + 1))), none] [] ms'') → ms'.1 = ms.1 → (∀ k j, k ≠ a → ms'.2.2 k j = ms.2.2 k j) → X [some (.ref mo), v1, v2, some (.int (nn i)), none] [] ms')
    (hO : ∀ ρ, (∀ j, j < n → ρ j = g j) → Out n (msA ms a ρ)) : X [some (.ref mo), v1, v2, some (.int (nn 0)), none] [] ms := by
  have hind : ∀ r i ρ, i + r = n → (∀ j, j < i → ρ j = g j) → X [some (.ref mo), v1, v2, some (.int (nn i)), none] [] (msA ms a ρ) := by
    intro r
    induction r with
    | zero =>
      intro i ρ e h
      have e' : i = n := by omega
      subst e'
      exact hout _ (hO ρ h)
    | succ r ih =>
      intro i ρ e h
      refine hstep i _ (by omega) (fun ms'' hms => ?_) rfl (fun k j hk => by rw [msA_get, if_neg hk])
      rw [hms, mset_msA]
      refine ih (i + 1) _ (by omega) (fun j hj => ?_)
      rw [upd9_get]
      by_cases c : j = i
      · rw [if_pos c, c]
      · rw [if_neg c]; exact h j (by omega)
  have := hind n 0 (ms.2.2 a) (by omega) (fun j hj => by omega)
  rw [msA_self] at this
  exact this
noncomputable def runP (P : Nat → PlA) (p pl : Int32) : Option (Rt × Nat) := match pl9 P p, ix pl 3 with
  | some x, some pl => some (x.1, pl)
  | _, _ => none
theorem q_run {mo : Nat} {Q : Ret MS} {ms : MS} {P : Nat → PlA} {p pl : Int32} {begins : Nat → Int32} (h : MPs ms P) (hB : ∀ j, j < 48 → ms.2.2 45 j = begins j)
    (kk : match runP P p pl with
      | none => Q (.inl (some (.int (-1)))) ms
      | some x => ∀ ms' kept, FrG PRn ksR ms ms' → RunM ms' (runA x.1 x.2 begins kept) → Q (.inl (some (.int (runA x.1 x.2 begins kept).1.1))) ms') : pX2_run mo [.ref mo, .int p, .int pl] ms Q := by
  simp [pX2_run, bX2_run_0, bX2_run_16, o_ic, o_lc, o_null, o_il, o_ll, o_al, o_dup, o_pop, o_dup_x1, o_dup2, o_iadd, o_isub, o_imul, o_iand, o_ior, o_ixor, o_ishl, o_ishr, o_idiv, o_irem, o_ineg, o_ladd, o_lsub, o_lmul, o_land, o_lor, o_lxor, o_ldiv, o_lrem, o_lneg, o_lcmp, o_i2l, o_l2i, o_i2b, o_i2c, o_iushr, o_lshl, o_lshr, o_if_eq, o_if_ne, o_if_lt, o_if_ge, o_if_gt, o_if_le, o_icmp_eq, o_icmp_ne, o_icmp_lt, o_icmp_ge, o_icmp_gt, o_icmp_le, o_ifnull, o_ifnonnull, o_acmp_eq, o_acmp_ne, o_is, o_ls, o_as, o_iinc, o_kill, o_sw, o_ireturn, o_zreturn, o_nreturn, o_lreturn, o_areturn, o_return, o_athrow, o_call, entP, lg_sl, Value.category, st1, st2, List.set, List.getElem?_cons_zero, List.getElem?_cons_succ, List.foldl, popN, aft, o_mg, o_mgl, o_mga, o_mp, o_mpz, o_mpl, o_mia, o_mis, o_mbs, o_mc, mput_get, mput_arr, mput_let, mput_put, mset_get, mset_int, mset_let, mputL_get, mputL_arr, mputL_let, mputL_put, i64_8, mLen]
  unfold runP at kk
  refine m_isThere h (fun hp => ?_) (fun q x hq hp hx hpl => ?_)
  · rw [hp] at kk
    simp [o_ic, o_lc, o_null, o_il, o_ll, o_al, o_dup, o_pop, o_dup_x1, o_dup2, o_iadd, o_isub, o_imul, o_iand, o_ior, o_ixor, o_ishl, o_ishr, o_idiv, o_irem, o_ineg, o_ladd, o_lsub, o_lmul, o_land, o_lor, o_lxor, o_ldiv, o_lrem, o_lneg, o_lcmp, o_i2l, o_l2i, o_i2b, o_i2c, o_iushr, o_lshl, o_lshr, o_if_eq, o_if_ne, o_if_lt, o_if_ge, o_if_gt, o_if_le, o_icmp_eq, o_icmp_ne, o_icmp_lt, o_icmp_ge, o_icmp_gt, o_icmp_le, o_ifnull, o_ifnonnull, o_acmp_eq, o_acmp_ne, o_is, o_ls, o_as, o_iinc, o_kill, o_sw, o_ireturn, o_zreturn, o_nreturn, o_lreturn, o_areturn, o_return, o_athrow, o_call, entP, lg_sl, Value.category, st1, st2, List.set, List.getElem?_cons_zero, List.getElem?_cons_succ, List.foldl, popN, aft]; exact kk
  · rw [hpl] at kk
    subst hp
    obtain ⟨⟨w1, w2, w3, w4, w5, w6⟩, hPl, -⟩ := h.at hq hx
    have l := nds_240 w1
    have b1 : q < 2147483648 := by omega
    simp [o_ic, o_lc, o_null, o_il, o_ll, o_al, o_dup, o_pop, o_dup_x1, o_dup2, o_iadd, o_isub, o_imul, o_iand, o_ior, o_ixor, o_ishl, o_ishr, o_idiv, o_irem, o_ineg, o_ladd, o_lsub, o_lmul, o_land, o_lor, o_lxor, o_ldiv, o_lrem, o_lneg, o_lcmp, o_i2l, o_l2i, o_i2b, o_i2c, o_iushr, o_lshl, o_lshr, o_if_eq, o_if_ne, o_if_lt, o_if_ge, o_if_gt, o_if_le, o_icmp_eq, o_icmp_ne, o_icmp_lt, o_icmp_ge, o_icmp_gt, o_icmp_le, o_ifnull, o_ifnonnull, o_acmp_eq, o_acmp_ne, o_is, o_ls, o_as, o_iinc, o_kill, o_sw, o_ireturn, o_zreturn, o_nreturn, o_lreturn, o_areturn, o_return, o_athrow, o_call, entP, lg_sl, Value.category, st1, st2, List.set, List.getElem?_cons_zero, List.getElem?_cons_succ, List.foldl, popN, aft, o_mg, o_mgl, o_mga, o_mp, o_mpz, o_mpl, o_mia, o_mis, o_mbs, o_mc, mput_get, mput_arr, mput_let, mput_put, mset_get, mset_int, mset_let, mputL_get, mputL_arr, mputL_let, mputL_put, i64_8, mLen]
    refine m_isPlacing (fun hi2 => ?_) (fun pl' hpl' hpe hi2 => ?_)
    · simp only [hi2] at kk
      simp [o_ic, o_lc, o_null, o_il, o_ll, o_al, o_dup, o_pop, o_dup_x1, o_dup2, o_iadd, o_isub, o_imul, o_iand, o_ior, o_ixor, o_ishl, o_ishr, o_idiv, o_irem, o_ineg, o_ladd, o_lsub, o_lmul, o_land, o_lor, o_lxor, o_ldiv, o_lrem, o_lneg, o_lcmp, o_i2l, o_l2i, o_i2b, o_i2c, o_iushr, o_lshl, o_lshr, o_if_eq, o_if_ne, o_if_lt, o_if_ge, o_if_gt, o_if_le, o_icmp_eq, o_icmp_ne, o_icmp_lt, o_icmp_ge, o_icmp_gt, o_icmp_le, o_ifnull, o_ifnonnull, o_acmp_eq, o_acmp_ne, o_is, o_ls, o_as, o_iinc, o_kill, o_sw, o_ireturn, o_zreturn, o_nreturn, o_lreturn, o_areturn, o_return, o_athrow, o_call, entP, lg_sl, Value.category, st1, st2, List.set, List.getElem?_cons_zero, List.getElem?_cons_succ, List.foldl, popN, aft]; exact kk
    · subst hpe
      simp only [hi2] at kk
      simp [bX2_run_18, o_ic, o_lc, o_null, o_il, o_ll, o_al, o_dup, o_pop, o_dup_x1, o_dup2, o_iadd, o_isub, o_imul, o_iand, o_ior, o_ixor, o_ishl, o_ishr, o_idiv, o_irem, o_ineg, o_ladd, o_lsub, o_lmul, o_land, o_lor, o_lxor, o_ldiv, o_lrem, o_lneg, o_lcmp, o_i2l, o_l2i, o_i2b, o_i2c, o_iushr, o_lshl, o_lshr, o_if_eq, o_if_ne, o_if_lt, o_if_ge, o_if_gt, o_if_le, o_icmp_eq, o_icmp_ne, o_icmp_lt, o_icmp_ge, o_icmp_gt, o_icmp_le, o_ifnull, o_ifnonnull, o_acmp_eq, o_acmp_ne, o_is, o_ls, o_as, o_iinc, o_kill, o_sw, o_ireturn, o_zreturn, o_nreturn, o_lreturn, o_areturn, o_return, o_athrow, o_call, entP, lg_sl, Value.category, st1, st2, List.set, List.getElem?_cons_zero, List.getElem?_cons_succ, List.foldl, popN, aft, o_mg, o_mgl, o_mga, o_mp, o_mpz, o_mpl, o_mia, o_mis, o_mbs, o_mc, mput_get, mput_arr, mput_let, mput_put, mset_get, mset_int, mset_let, mputL_get, mputL_arr, mputL_let, mputL_put, i64_8, mLen]
      unfold bX2_run_20
      intro X hX
      refine x_fill (a := 46) (n := 48) (g := begins) (Out := fun _ ms' => ∃ ρ, ms' = msA ms 46 ρ ∧ ∀ j, j < 48 → ρ j = begins j) (fun ms1 ho => ?_) (fun i ms1 hi hs e1 e2 => ?_) (fun ρ hρ => ⟨ρ, rfl, hρ⟩)
      · obtain ⟨ρ1, rfl, hρ1⟩ := ho
        apply hX
        simp [bX2_run_44, o_ic, o_lc, o_null, o_il, o_ll, o_al, o_dup, o_pop, o_dup_x1, o_dup2, o_iadd, o_isub, o_imul, o_iand, o_ior, o_ixor, o_ishl, o_ishr, o_idiv, o_irem, o_ineg, o_ladd, o_lsub, o_lmul, o_land, o_lor, o_lxor, o_ldiv, o_lrem, o_lneg, o_lcmp, o_i2l, o_l2i, o_i2b, o_i2c, o_iushr, o_lshl, o_lshr, o_if_eq, o_if_ne, o_if_lt, o_if_ge, o_if_gt, o_if_le, o_icmp_eq, o_icmp_ne, o_icmp_lt, o_icmp_ge, o_icmp_gt, o_icmp_le, o_ifnull, o_ifnonnull, o_acmp_eq, o_acmp_ne, o_is, o_ls, o_as, o_iinc, o_kill, o_sw, o_ireturn, o_zreturn, o_nreturn, o_lreturn, o_areturn, o_return, o_athrow, o_call, entP, lg_sl, Value.category, st1, st2, List.set, List.getElem?_cons_zero, List.getElem?_cons_succ, List.foldl, popN, aft, o_mg, o_mgl, o_mga, o_mp, o_mpz, o_mpl, o_mia, o_mis, o_mbs, o_mc, mput_get, mput_arr, mput_let, mput_put, mset_get, mset_int, mset_let, mputL_get, mputL_arr, mputL_let, mputL_put, i64_8, mLen, vpL, nn_addL, nn_addR, nn_mulL, nn_add, nn_mul, nn_eqL, nn_ltL, nn_leL, nn_Llt, nn_Lle, nn_lt, nn_le, nn_eq, nn_in, nn_clamp, nn_succ, nn_pos, nn_neg1]
        unfold bX2_run_46
        intro X2 hX2
        refine x_fill (a := 47) (n := 16) (g := fun _ => 0) (Out := fun _ ms' => ∃ ρ, ms' = msA (msA ms 46 ρ1) 47 ρ ∧ ∀ j, j < 16 → ρ j = 0) (fun ms1 ho => ?_) (fun i ms1 hi hs e1 e2 => ?_) (fun ρ hρ => ⟨ρ, rfl, hρ⟩)
        · obtain ⟨ρ2, rfl, hρ2⟩ := ho
          apply hX2
          simp [bX2_run_65, o_ic, o_lc, o_null, o_il, o_ll, o_al, o_dup, o_pop, o_dup_x1, o_dup2, o_iadd, o_isub, o_imul, o_iand, o_ior, o_ixor, o_ishl, o_ishr, o_idiv, o_irem, o_ineg, o_ladd, o_lsub, o_lmul, o_land, o_lor, o_lxor, o_ldiv, o_lrem, o_lneg, o_lcmp, o_i2l, o_l2i, o_i2b, o_i2c, o_iushr, o_lshl, o_lshr, o_if_eq, o_if_ne, o_if_lt, o_if_ge, o_if_gt, o_if_le, o_icmp_eq, o_icmp_ne, o_icmp_lt, o_icmp_ge, o_icmp_gt, o_icmp_le, o_ifnull, o_ifnonnull, o_acmp_eq, o_acmp_ne, o_is, o_ls, o_as, o_iinc, o_kill, o_sw, o_ireturn, o_zreturn, o_nreturn, o_lreturn, o_areturn, o_return, o_athrow, o_call, entP, lg_sl, Value.category, st1, st2, List.set, List.getElem?_cons_zero, List.getElem?_cons_succ, List.foldl, popN, aft, o_mg, o_mgl, o_mga, o_mp, o_mpz, o_mpl, o_mia, o_mis, o_mbs, o_mc, mput_get, mput_arr, mput_let, mput_put, mset_get, mset_int, mset_let, mputL_get, mputL_arr, mputL_let, mputL_put, i64_8, mLen, vpL, nn_addL, nn_addR, nn_mulL, nn_add, nn_mul, nn_eqL, nn_ltL, nn_leL, nn_Llt, nn_Lle, nn_lt, nn_le, nn_eq, nn_in, nn_clamp, nn_succ, nn_pos, nn_neg1]
          unfold bX2_run_67
          intro X3 hX3
          refine x_fill (a := 49) (n := 32) (g := fun _ => 0) (Out := fun _ ms' => ∃ ρ, ms' = msA (msA (msA ms 46 ρ1) 47 ρ2) 49 ρ ∧ ∀ j, j < 32 → ρ j = 0) (fun ms1 ho => ?_) (fun i ms1 hi hs e1 e2 => ?_) (fun ρ hρ => ⟨ρ, rfl, hρ⟩)
          · obtain ⟨ρ3, rfl, hρ3⟩ := ho
            apply hX3
            simp [bX2_run_86, o_ic, o_lc, o_null, o_il, o_ll, o_al, o_dup, o_pop, o_dup_x1, o_dup2, o_iadd, o_isub, o_imul, o_iand, o_ior, o_ixor, o_ishl, o_ishr, o_idiv, o_irem, o_ineg, o_ladd, o_lsub, o_lmul, o_land, o_lor, o_lxor, o_ldiv, o_lrem, o_lneg, o_lcmp, o_i2l, o_l2i, o_i2b, o_i2c, o_iushr, o_lshl, o_lshr, o_if_eq, o_if_ne, o_if_lt, o_if_ge, o_if_gt, o_if_le, o_icmp_eq, o_icmp_ne, o_icmp_lt, o_icmp_ge, o_icmp_gt, o_icmp_le, o_ifnull, o_ifnonnull, o_acmp_eq, o_acmp_ne, o_is, o_ls, o_as, o_iinc, o_kill, o_sw, o_ireturn, o_zreturn, o_nreturn, o_lreturn, o_areturn, o_return, o_athrow, o_call, entP, lg_sl, Value.category, st1, st2, List.set, List.getElem?_cons_zero, List.getElem?_cons_succ, List.foldl, popN, aft, o_mg, o_mgl, o_mga, o_mp, o_mpz, o_mpl, o_mia, o_mis, o_mbs, o_mc, mput_get, mput_arr, mput_let, mput_put, mset_get, mset_int, mset_let, mputL_get, mputL_arr, mputL_let, mputL_put, i64_8, mLen, vpL, nn_addL, nn_addR, nn_mulL, nn_add, nn_mul, nn_eqL, nn_ltL, nn_leL, nn_Llt, nn_Lle, nn_lt, nn_le, nn_eq, nn_in, nn_clamp, nn_succ, nn_pos, nn_neg1]
            have hn0 : 0 < (nds x.1).length := by
              rw [nds_len]
              have := w1.2.2.1 0 w4
              omega
            generalize hm : mput (mput (mput (mput (mput (mput (msA (msA (msA ms 46 ρ1) 47 ρ2) 49 ρ3) 52 0) 53 0) 54 (-1)) 55 0) 56 0) 51 (-1) = ms9
            have f9 : FrG PRn ksR ms ms9 := by
              rw [← hm]
              refine FrG.put (FrG.put (FrG.put (FrG.put (FrG.put (FrG.put ?_ (by simp)) (by simp)) (by simp)) (by simp)) (by simp)) (by simp)
              refine FrG.trans ((msA_fr ms 46 ρ1).mono (by simp) (fun k i z => by unfold PRn; omega)) (FrG.trans ((msA_fr _ 47 ρ2).mono (by simp) (fun k i z => by unfold PRn; omega)) ((msA_fr _ 49 ρ3).mono (by simp) (fun k i z => by unfold PRn; omega)))
            refine x_runloop hq hpl' w3 w1 w2 2100 0 (rs0 begins (ms9.2.2 48)) ms9 ?_ hn0 (hPl.frR (fun j hj => f9.lo j hj)) ?_ (fun j _ => rfl) ?_ ?_ ?_ ?_ ?_ (fun ms' g1 g2 => kk ms' (ms9.2.2 48) (f9.trans g1) g2)
            · unfold mu rs0; simp only; split <;> omega
            · rw [← hm]
              refine ⟨fun j hj => ?_, fun j hj => ?_, fun j hj => ?_, ?_, ?_, fun i v hi hv => ?_, ?_⟩
              · simp [mput_get, mput_arr, mput_let, mput_put, mset_get, mset_int, mset_let, mputL_get, mputL_arr, mputL_let, mputL_put, i64_8, mLen, msA_get, msA_int, msA_let, mset_msA, upd9_get, rs0]; exact hρ1 j hj
              · simp [mput_get, mput_arr, mput_let, mput_put, mset_get, mset_int, mset_let, mputL_get, mputL_arr, mputL_let, mputL_put, i64_8, mLen, msA_get, msA_int, msA_let, mset_msA, upd9_get, rs0]; exact hρ2 j hj
              · simp [mput_get, mput_arr, mput_let, mput_put, mset_get, mset_int, mset_let, mputL_get, mputL_arr, mputL_let, mputL_put, i64_8, mLen, msA_get, msA_int, msA_let, mset_msA, upd9_get, rs0]; rw [hρ3 j hj]; rfl
              · simp [mput_get, mput_arr, mput_let, mput_put, mset_get, mset_int, mset_let, mputL_get, mputL_arr, mputL_let, mputL_put, i64_8, mLen, rs0]; rfl
              · simp [mput_get, mput_arr, mput_let, mput_put, mset_get, mset_int, mset_let, mputL_get, mputL_arr, mputL_let, mputL_put, i64_8, mLen, rs0]; rfl
              · simp [rs0] at hv
              · simp [mput_get, mput_arr, mput_let, mput_put, mset_get, mset_int, mset_let, mputL_get, mputL_arr, mputL_let, mputL_put, i64_8, mLen, rs0]; rfl
            · rw [← hm]; simp [mput_get, mput_arr, mput_let, mput_put, mset_get, mset_int, mset_let, mputL_get, mputL_arr, mputL_let, mputL_put, i64_8, mLen]
            · rw [← hm]; simp [mput_get, mput_arr, mput_let, mput_put, mset_get, mset_int, mset_let, mputL_get, mputL_arr, mputL_let, mputL_put, i64_8, mLen]
            · rw [← hm]; simp [mput_get, mput_arr, mput_let, mput_put, mset_get, mset_int, mset_let, mputL_get, mputL_arr, mputL_let, mputL_put, i64_8, mLen]
            · simp [rs0]
            · simp [rs0]
          · apply hX3
            have b5 : i < 2147483648 := by omega
            have b6 : ¬ 32 ≤ i := by omega
            simp [o_ic, o_lc, o_null, o_il, o_ll, o_al, o_dup, o_pop, o_dup_x1, o_dup2, o_iadd, o_isub, o_imul, o_iand, o_ior, o_ixor, o_ishl, o_ishr, o_idiv, o_irem, o_ineg, o_ladd, o_lsub, o_lmul, o_land, o_lor, o_lxor, o_ldiv, o_lrem, o_lneg, o_lcmp, o_i2l, o_l2i, o_i2b, o_i2c, o_iushr, o_lshl, o_lshr, o_if_eq, o_if_ne, o_if_lt, o_if_ge, o_if_gt, o_if_le, o_icmp_eq, o_icmp_ne, o_icmp_lt, o_icmp_ge, o_icmp_gt, o_icmp_le, o_ifnull, o_ifnonnull, o_acmp_eq, o_acmp_ne, o_is, o_ls, o_as, o_iinc, o_kill, o_sw, o_ireturn, o_zreturn, o_nreturn, o_lreturn, o_areturn, o_return, o_athrow, o_call, entP, lg_sl, Value.category, st1, st2, List.set, List.getElem?_cons_zero, List.getElem?_cons_succ, List.foldl, popN, aft, o_mg, o_mgl, o_mga, o_mp, o_mpz, o_mpl, o_mia, o_mis, o_mbs, o_mc, mput_get, mput_arr, mput_let, mput_put, mset_get, mset_int, mset_let, mputL_get, mputL_arr, mputL_let, mputL_put, i64_8, mLen, vpL, nn_addL, nn_addR, nn_mulL, nn_add, nn_mul, nn_eqL, nn_ltL, nn_leL, nn_Llt, nn_Lle, nn_lt, nn_le, nn_eq, nn_in, nn_clamp, nn_succ, nn_pos, nn_neg1, b5, b6, hi]
            exact hs _ rfl
        · apply hX2
          have b5 : i < 2147483648 := by omega
          have b6 : ¬ 16 ≤ i := by omega
          simp [o_ic, o_lc, o_null, o_il, o_ll, o_al, o_dup, o_pop, o_dup_x1, o_dup2, o_iadd, o_isub, o_imul, o_iand, o_ior, o_ixor, o_ishl, o_ishr, o_idiv, o_irem, o_ineg, o_ladd, o_lsub, o_lmul, o_land, o_lor, o_lxor, o_ldiv, o_lrem, o_lneg, o_lcmp, o_i2l, o_l2i, o_i2b, o_i2c, o_iushr, o_lshl, o_lshr, o_if_eq, o_if_ne, o_if_lt, o_if_ge, o_if_gt, o_if_le, o_icmp_eq, o_icmp_ne, o_icmp_lt, o_icmp_ge, o_icmp_gt, o_icmp_le, o_ifnull, o_ifnonnull, o_acmp_eq, o_acmp_ne, o_is, o_ls, o_as, o_iinc, o_kill, o_sw, o_ireturn, o_zreturn, o_nreturn, o_lreturn, o_areturn, o_return, o_athrow, o_call, entP, lg_sl, Value.category, st1, st2, List.set, List.getElem?_cons_zero, List.getElem?_cons_succ, List.foldl, popN, aft, o_mg, o_mgl, o_mga, o_mp, o_mpz, o_mpl, o_mia, o_mis, o_mbs, o_mc, mput_get, mput_arr, mput_let, mput_put, mset_get, mset_int, mset_let, mputL_get, mputL_arr, mputL_let, mputL_put, i64_8, mLen, vpL, nn_addL, nn_addR, nn_mulL, nn_add, nn_mul, nn_eqL, nn_ltL, nn_leL, nn_Llt, nn_Lle, nn_lt, nn_le, nn_eq, nn_in, nn_clamp, nn_succ, nn_pos, nn_neg1, b5, b6, hi]
          exact hs _ rfl
      · apply hX
        have b5 : i < 2147483648 := by omega
        have b6 : ¬ 48 ≤ i := by omega
        have e45 : ms1.2.2 45 i = begins i := by rw [e2 45 i (by omega)]; exact hB i hi
        simp [o_ic, o_lc, o_null, o_il, o_ll, o_al, o_dup, o_pop, o_dup_x1, o_dup2, o_iadd, o_isub, o_imul, o_iand, o_ior, o_ixor, o_ishl, o_ishr, o_idiv, o_irem, o_ineg, o_ladd, o_lsub, o_lmul, o_land, o_lor, o_lxor, o_ldiv, o_lrem, o_lneg, o_lcmp, o_i2l, o_l2i, o_i2b, o_i2c, o_iushr, o_lshl, o_lshr, o_if_eq, o_if_ne, o_if_lt, o_if_ge, o_if_gt, o_if_le, o_icmp_eq, o_icmp_ne, o_icmp_lt, o_icmp_ge, o_icmp_gt, o_icmp_le, o_ifnull, o_ifnonnull, o_acmp_eq, o_acmp_ne, o_is, o_ls, o_as, o_iinc, o_kill, o_sw, o_ireturn, o_zreturn, o_nreturn, o_lreturn, o_areturn, o_return, o_athrow, o_call, entP, lg_sl, Value.category, st1, st2, List.set, List.getElem?_cons_zero, List.getElem?_cons_succ, List.foldl, popN, aft, o_mg, o_mgl, o_mga, o_mp, o_mpz, o_mpl, o_mia, o_mis, o_mbs, o_mc, mput_get, mput_arr, mput_let, mput_put, mset_get, mset_int, mset_let, mputL_get, mputL_arr, mputL_let, mputL_put, i64_8, mLen, vpL, nn_addL, nn_addR, nn_mulL, nn_add, nn_mul, nn_eqL, nn_ltL, nn_leL, nn_Llt, nn_Lle, nn_lt, nn_le, nn_eq, nn_in, nn_clamp, nn_succ, nn_pos, nn_neg1, b5, b6, hi, e45]
        exact hs _ rfl
