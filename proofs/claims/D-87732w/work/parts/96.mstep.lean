/-! THE MODEL runs: a node -/
set_option maxRecDepth 100000
theorem x_sets {mo : Nat} {Q : Ret MS} {R : Rt} {q pl k : Nat} {n : Int32} (hq : q < 4) (hpl : pl < 3) (hk : k < (nds R).length) (hs : (sms R.1).length ≤ 32) (w : WfR R) :
    ∀ m e st ms, e + m = (sms R.1).length → PlM ms q R → RsV ms st → KpM ms st → ms.1 56 = 0 →
    (∀ ms' v5, FrG PRn ksR ms ms' → RsV ms' (setF R pl k m e st).1 → ((setF R pl k m e st).2 = false → KpM ms' (setF R pl k m e st).1 ∧ ms'.1 56 = 0) → ((setF R pl k m e st).2 = true → ms'.1 56 = 1) → ms'.1 51 = ms.1 51 → ms'.1 54 = ms.1 54 → bX2_step_79 mo Q [some (.ref mo), some (.int (nn q)), some (.int (nn pl)), some (.int (nn k)), some (.int n), some (.int v5), none, none] [] ms') →
    bX2_step_29 mo Q [some (.ref mo), some (.int (nn q)), some (.int (nn pl)), some (.int (nn k)), some (.int n), some (.int (nn e)), none, none] [] ms := by
  intro m e st ms h1 h2 h3 h4 h5 kk
  unfold bX2_step_29
  intro X hX
  have l := nds_240 w
  have b0 : (sms R.1).length < 2147483648 := by omega
  have b1 : q < 2147483648 := by omega
  have b2 : q < 5 := by omega
  revert m e st ms
  intro m
  induction m with
  | zero =>
    intro e st ms h1 hPl hV hK h56 kk
    apply hX
    have b3 : e < 2147483648 := by omega
    have b4 : (sms R.1).length ≤ e := by omega
    have b5 : ¬ e < (sms R.1).length := by omega
    simp [o_ic, o_lc, o_null, o_il, o_ll, o_al, o_dup, o_pop, o_dup_x1, o_dup2, o_iadd, o_isub, o_imul, o_iand, o_ior, o_ixor, o_ishl, o_ishr, o_idiv, o_irem, o_ineg, o_ladd, o_lsub, o_lmul, o_land, o_lor, o_lxor, o_ldiv, o_lrem, o_lneg, o_lcmp, o_i2l, o_l2i, o_i2b, o_i2c, o_iushr, o_lshl, o_lshr, o_if_eq, o_if_ne, o_if_lt, o_if_ge, o_if_gt, o_if_le, o_icmp_eq, o_icmp_ne, o_icmp_lt, o_icmp_ge, o_icmp_gt, o_icmp_le, o_ifnull, o_ifnonnull, o_acmp_eq, o_acmp_ne, o_is, o_ls, o_as, o_iinc, o_kill, o_sw, o_ireturn, o_zreturn, o_nreturn, o_lreturn, o_areturn, o_return, o_athrow, o_call, entP, lg_sl, Value.category, st1, st2, List.set, List.getElem?_cons_zero, List.getElem?_cons_succ, List.foldl, popN, aft, o_mg, o_mgl, o_mga, o_mp, o_mpz, o_mpl, o_mia, o_mis, o_mbs, o_mc, mput_get, mput_arr, mput_let, mput_put, mset_get, mset_int, mset_let, mputL_get, mputL_arr, mputL_let, mputL_put, i64_8, mLen, vpL, nn_addL, nn_addR, nn_mulL, nn_add, nn_mul, nn_eqL, nn_ltL, nn_leL, nn_Llt, nn_Lle, nn_lt, nn_le, nn_eq, nn_in, nn_clamp, nn_succ, nn_pos, nn_neg1, b0, b1, b2, b3, b4, b5, hPl.1.2.2.2.2]
    exact kk ms _ FrG.rfl9 hV (fun _ => ⟨hK, h56⟩) (fun z => by cases z) rfl rfl
  | succ m ih =>
    intro e st ms h1 hPl hV hK h56 kk
    apply hX
    have he : e < (sms R.1).length := by omega
    have b3 : e < 2147483648 := by omega
    have b4 : ¬ (sms R.1).length ≤ e := by omega
    have b6 : e < 32 := by omega
    simp [o_ic, o_lc, o_null, o_il, o_ll, o_al, o_dup, o_pop, o_dup_x1, o_dup2, o_iadd, o_isub, o_imul, o_iand, o_ior, o_ixor, o_ishl, o_ishr, o_idiv, o_irem, o_ineg, o_ladd, o_lsub, o_lmul, o_land, o_lor, o_lxor, o_ldiv, o_lrem, o_lneg, o_lcmp, o_i2l, o_l2i, o_i2b, o_i2c, o_iushr, o_lshl, o_lshr, o_if_eq, o_if_ne, o_if_lt, o_if_ge, o_if_gt, o_if_le, o_icmp_eq, o_icmp_ne, o_icmp_lt, o_icmp_ge, o_icmp_gt, o_icmp_le, o_ifnull, o_ifnonnull, o_acmp_eq, o_acmp_ne, o_is, o_ls, o_as, o_iinc, o_kill, o_sw, o_ireturn, o_zreturn, o_nreturn, o_lreturn, o_areturn, o_return, o_athrow, o_call, entP, lg_sl, Value.category, st1, st2, List.set, List.getElem?_cons_zero, List.getElem?_cons_succ, List.foldl, popN, aft, o_mg, o_mgl, o_mga, o_mp, o_mpz, o_mpl, o_mia, o_mis, o_mbs, o_mc, mput_get, mput_arr, mput_let, mput_put, mset_get, mset_int, mset_let, mputL_get, mputL_arr, mputL_let, mputL_put, i64_8, mLen, vpL, nn_addL, nn_addR, nn_mulL, nn_add, nn_mul, nn_eqL, nn_ltL, nn_leL, nn_Llt, nn_Lle, nn_lt, nn_le, nn_eq, nn_in, nn_clamp, nn_succ, nn_pos, nn_neg1, b0, b1, b2, b3, b4, he, hPl.1.2.2.2.2, h56]
    refine m_isSet hq b6 hpl hk l (hPl.2.2.2.2 e he) ?_
    simp [bX2_step_73, o_ic, o_lc, o_null, o_il, o_ll, o_al, o_dup, o_pop, o_dup_x1, o_dup2, o_iadd, o_isub, o_imul, o_iand, o_ior, o_ixor, o_ishl, o_ishr, o_idiv, o_irem, o_ineg, o_ladd, o_lsub, o_lmul, o_land, o_lor, o_lxor, o_ldiv, o_lrem, o_lneg, o_lcmp, o_i2l, o_l2i, o_i2b, o_i2c, o_iushr, o_lshl, o_lshr, o_if_eq, o_if_ne, o_if_lt, o_if_ge, o_if_gt, o_if_le, o_icmp_eq, o_icmp_ne, o_icmp_lt, o_icmp_ge, o_icmp_gt, o_icmp_le, o_ifnull, o_ifnonnull, o_acmp_eq, o_acmp_ne, o_is, o_ls, o_as, o_iinc, o_kill, o_sw, o_ireturn, o_zreturn, o_nreturn, o_lreturn, o_areturn, o_return, o_athrow, o_call, entP, lg_sl, Value.category, st1, st2, List.set, List.getElem?_cons_zero, List.getElem?_cons_succ, List.foldl, popN, aft, o_mg, o_mgl, o_mga, o_mp, o_mpz, o_mpl, o_mia, o_mis, o_mbs, o_mc, mput_get, mput_arr, mput_let, mput_put, mset_get, mset_int, mset_let, mputL_get, mputL_arr, mputL_let, mputL_put, i64_8, mLen, vpL, nn_addL, nn_addR, nn_mulL, nn_add, nn_mul, nn_eqL, nn_ltL, nn_leL, nn_Llt, nn_Lle, nn_lt, nn_le, nn_eq, nn_in, nn_clamp, nn_succ, nn_pos, nn_neg1, b2i_0]
    unfold setF at kk
    refine ⟨fun g => ?_, fun g => ?_⟩
    · rw [if_neg (by rw [g]; simp)] at kk
      exact ih (e + 1) st ms (by omega) hPl hV hK h56 kk
    · rw [if_pos g] at kk
      refine m_work hq he hs w hPl hV h56 (fun ms1 v f1 V1 e48 e51 e54 hw => ?_)
      simp [bX2_step_73, o_ic, o_lc, o_null, o_il, o_ll, o_al, o_dup, o_pop, o_dup_x1, o_dup2, o_iadd, o_isub, o_imul, o_iand, o_ior, o_ixor, o_ishl, o_ishr, o_idiv, o_irem, o_ineg, o_ladd, o_lsub, o_lmul, o_land, o_lor, o_lxor, o_ldiv, o_lrem, o_lneg, o_lcmp, o_i2l, o_l2i, o_i2b, o_i2c, o_iushr, o_lshl, o_lshr, o_if_eq, o_if_ne, o_if_lt, o_if_ge, o_if_gt, o_if_le, o_icmp_eq, o_icmp_ne, o_icmp_lt, o_icmp_ge, o_icmp_gt, o_icmp_le, o_ifnull, o_ifnonnull, o_acmp_eq, o_acmp_ne, o_is, o_ls, o_as, o_iinc, o_kill, o_sw, o_ireturn, o_zreturn, o_nreturn, o_lreturn, o_areturn, o_return, o_athrow, o_call, entP, lg_sl, Value.category, st1, st2, List.set, List.getElem?_cons_zero, List.getElem?_cons_succ, List.foldl, popN, aft, o_mg, o_mgl, o_mga, o_mp, o_mpz, o_mpl, o_mia, o_mis, o_mbs, o_mc, mput_get, mput_arr, mput_let, mput_put, mset_get, mset_int, mset_let, mputL_get, mputL_arr, mputL_let, mputL_put, i64_8, mLen, vpL, nn_addL, nn_addR, nn_mulL, nn_add, nn_mul, nn_eqL, nn_ltL, nn_leL, nn_Llt, nn_Lle, nn_lt, nn_le, nn_eq, nn_in, nn_clamp, nn_succ, nn_pos, nn_neg1, b3, b6]
      have fr2 : FrG PRn ksR ms (mset ms1 48 e v) := f1.set (by unfold PRn; omega)
      have V2 : ∀ st', RsV ms1 st' → RsV (mset ms1 48 e v) st' := fun st' hv => by
        obtain ⟨x1, x2, x3, x4, x5, x6, x7⟩ := hv
        exact ⟨fun j hj => by simp [mput_get, mput_arr, mput_let, mput_put, mset_get, mset_int, mset_let, mputL_get, mputL_arr, mputL_let, mputL_put, i64_8, mLen]; exact x1 j hj, fun j hj => by simp [mput_get, mput_arr, mput_let, mput_put, mset_get, mset_int, mset_let, mputL_get, mputL_arr, mputL_let, mputL_put, i64_8, mLen]; exact x2 j hj, fun j hj => by simp [mput_get, mput_arr, mput_let, mput_put, mset_get, mset_int, mset_let, mputL_get, mputL_arr, mputL_let, mputL_put, i64_8, mLen]; exact x3 j hj, x4, x5, fun i u hi hu => by simp [mput_get, mput_arr, mput_let, mput_put, mset_get, mset_int, mset_let, mputL_get, mputL_arr, mputL_let, mputL_put, i64_8, mLen]; exact x6 i u hi hu, x7⟩
      cases hwk : wrk (smA R e) st.1 st.2.1 with
      | none =>
        rw [hwk] at kk hw
        simp only at kk hw
        -- refused: out at the next round
        apply hX
        have c1 : e + 1 < 2147483648 := by omega
        have e12 : ms1.2.2 12 q = nn (sms R.1).length := by rw [f1.lo 12 (by omega)]; exact hPl.1.2.2.2.2
        have kf := kk (mset ms1 48 e v) (nn (e + 1)) fr2 (V2 _ V1) (fun z => by cases z) (fun _ => hw) e51 e54
        simp [o_ic, o_lc, o_null, o_il, o_ll, o_al, o_dup, o_pop, o_dup_x1, o_dup2, o_iadd, o_isub, o_imul, o_iand, o_ior, o_ixor, o_ishl, o_ishr, o_idiv, o_irem, o_ineg, o_ladd, o_lsub, o_lmul, o_land, o_lor, o_lxor, o_ldiv, o_lrem, o_lneg, o_lcmp, o_i2l, o_l2i, o_i2b, o_i2c, o_iushr, o_lshl, o_lshr, o_if_eq, o_if_ne, o_if_lt, o_if_ge, o_if_gt, o_if_le, o_icmp_eq, o_icmp_ne, o_icmp_lt, o_icmp_ge, o_icmp_gt, o_icmp_le, o_ifnull, o_ifnonnull, o_acmp_eq, o_acmp_ne, o_is, o_ls, o_as, o_iinc, o_kill, o_sw, o_ireturn, o_zreturn, o_nreturn, o_lreturn, o_areturn, o_return, o_athrow, o_call, entP, lg_sl, Value.category, st1, st2, List.set, List.getElem?_cons_zero, List.getElem?_cons_succ, List.foldl, popN, aft, o_mg, o_mgl, o_mga, o_mp, o_mpz, o_mpl, o_mia, o_mis, o_mbs, o_mc, mput_get, mput_arr, mput_let, mput_put, mset_get, mset_int, mset_let, mputL_get, mputL_arr, mputL_let, mputL_put, i64_8, mLen, vpL, nn_addL, nn_addR, nn_mulL, nn_add, nn_mul, nn_eqL, nn_ltL, nn_leL, nn_Llt, nn_Lle, nn_lt, nn_le, nn_eq, nn_in, nn_clamp, nn_succ, nn_pos, nn_neg1, b0, b1, b2, c1, e12, hw]
        exact ⟨fun _ => kf, fun _ => kf⟩
      | some x =>
        rw [hwk] at kk hw
        simp only at kk hw
        refine ih (e + 1) (rKeep (bump st e) e x) (mset ms1 48 e v) (by omega) (hPl.frR (fun j hj => fr2.lo j hj)) ?_ (fun j hj => ?_) hw.2 (fun ms' v5 g1 g2 g3 g4 g5 g6 => kk ms' v5 (fr2.trans g1) g2 g3 g4 (g5.trans e51) (g6.trans e54))
        · exact V2 _ V1
        · show (mset ms1 48 e v).2.2 48 j = upd9 st.2.2.1 e x j
          rw [mset_get, upd9_get]
          by_cases c : j = e
          · subst c; simp; exact hw.1
          · rw [if_neg (by omega), if_neg c, e48]; exact hK j hj
/-- the end of a node -/
theorem x_step438 {mo : Nat} {Q : Ret MS} {ms : MS} {n : Nat} {o : Option Nat} {x1 x2 x3 x5 x6 x7 : Option Value} (hb : n < 1200) (h19 : ms.2.2 19 n = onn o) (k : Q (.inl (some (.int (onn o)))) ms) : bX2_step_438 mo Q [some (.ref mo), x1, x2, x3, some (.int (nn n)), x5, x6, x7] [] ms := by
  have b1 : n < 2147483648 := by omega
  simp [bX2_step_438, o_ic, o_lc, o_null, o_il, o_ll, o_al, o_dup, o_pop, o_dup_x1, o_dup2, o_iadd, o_isub, o_imul, o_iand, o_ior, o_ixor, o_ishl, o_ishr, o_idiv, o_irem, o_ineg, o_ladd, o_lsub, o_lmul, o_land, o_lor, o_lxor, o_ldiv, o_lrem, o_lneg, o_lcmp, o_i2l, o_l2i, o_i2b, o_i2c, o_iushr, o_lshl, o_lshr, o_if_eq, o_if_ne, o_if_lt, o_if_ge, o_if_gt, o_if_le, o_icmp_eq, o_icmp_ne, o_icmp_lt, o_icmp_ge, o_icmp_gt, o_icmp_le, o_ifnull, o_ifnonnull, o_acmp_eq, o_acmp_ne, o_is, o_ls, o_as, o_iinc, o_kill, o_sw, o_ireturn, o_zreturn, o_nreturn, o_lreturn, o_areturn, o_return, o_athrow, o_call, entP, lg_sl, Value.category, st1, st2, List.set, List.getElem?_cons_zero, List.getElem?_cons_succ, List.foldl, popN, aft, o_mg, o_mgl, o_mga, o_mp, o_mpz, o_mpl, o_mia, o_mis, o_mbs, o_mc, mput_get, mput_arr, mput_let, mput_put, mset_get, mset_int, mset_let, mputL_get, mputL_arr, mputL_let, mputL_put, i64_8, mLen, vpL, nn_addL, nn_addR, nn_mulL, nn_add, nn_mul, nn_eqL, nn_ltL, nn_leL, nn_Llt, nn_Lle, nn_lt, nn_le, nn_eq, nn_in, nn_clamp, nn_succ, nn_pos, nn_neg1, b1, hb, h19]
  exact k
def StA (ms ms' : MS) (v : Int32) (r : RS × Except Nat Nat) : Prop := FrG PRn ksR ms ms' ∧ RsV ms' r.1 ∧ ms'.1 54 = ms.1 54 ∧ match r.2 with
  | .ok k' => v = nn k' ∧ KpM ms' r.1 ∧ ms'.1 56 = 0 ∧ ms'.1 51 = ms.1 51
  | .error h => if h = 0 then ms'.1 51 = 0 ∧ ms'.1 56 = 0 else ms'.1 56 = 1 ∧ ms'.1 51 = ms.1 51
theorem x_does {mo : Nat} {Q : Ret MS} {R : Rt} {q pl k : Nat} {st : RS} {ms : MS} {v5 : Int32} (hq : q < 4) (hpl : pl < 3) (hk : k < (nds R).length) (hs : (sms R.1).length ≤ 32) (w : WfR R) (hT : TgOk R) (hPl : PlM ms q R) (hV : RsV ms st) (hK : KpM ms st) (h56 : ms.1 56 = 0) (htl : st.2.2.2.2.2.1.length ≤ 1000)
    (kk : ∀ ms' v, StA ms ms' v (doesF R pl k st) → Q (.inl (some (.int v))) ms') : bX2_step_88 mo Q [some (.ref mo), some (.int (nn q)), some (.int (nn pl)), some (.int (nn k)), some (.int (nn (240 * q + k))), some (.int v5), none, none] [] ms := by
  have l := nds_240 w
  have b1 : q < 2147483648 := by omega
  have b2 : q < 5 := by omega
  have b3 : 240 * q + k < 2147483648 := by omega
  have b4 : 240 * q + k < 1200 := by omega
  obtain ⟨⟨c1, c2, c3, c4, c5, c6, c7, c8, c9⟩, ok⟩ := hPl.nd w hT hk
  obtain ⟨o1, o2, o3, o4, o5, o6, o7, o8, o9, o10, o11, o12, o13, o14, o15, o16⟩ := ok
  have bk : nK (ndA (nds R) k) < 2147483648 := by omega
  obtain ⟨x1, x2, x3, x4, x5, x6, x7⟩ := id hV
  unfold doesF at kk
  simp only at kk
  simp [bX2_step_88, bX2_step_133, bX2_step_137, o_ic, o_lc, o_null, o_il, o_ll, o_al, o_dup, o_pop, o_dup_x1, o_dup2, o_iadd, o_isub, o_imul, o_iand, o_ior, o_ixor, o_ishl, o_ishr, o_idiv, o_irem, o_ineg, o_ladd, o_lsub, o_lmul, o_land, o_lor, o_lxor, o_ldiv, o_lrem, o_lneg, o_lcmp, o_i2l, o_l2i, o_i2b, o_i2c, o_iushr, o_lshl, o_lshr, o_if_eq, o_if_ne, o_if_lt, o_if_ge, o_if_gt, o_if_le, o_icmp_eq, o_icmp_ne, o_icmp_lt, o_icmp_ge, o_icmp_gt, o_icmp_le, o_ifnull, o_ifnonnull, o_acmp_eq, o_acmp_ne, o_is, o_ls, o_as, o_iinc, o_kill, o_sw, o_ireturn, o_zreturn, o_nreturn, o_lreturn, o_areturn, o_return, o_athrow, o_call, entP, lg_sl, Value.category, st1, st2, List.set, List.getElem?_cons_zero, List.getElem?_cons_succ, List.foldl, popN, aft, o_mg, o_mgl, o_mga, o_mp, o_mpz, o_mpl, o_mia, o_mis, o_mbs, o_mc, mput_get, mput_arr, mput_let, mput_put, mset_get, mset_int, mset_let, mputL_get, mputL_arr, mputL_let, mputL_put, i64_8, mLen, vpL, nn_addL, nn_addR, nn_mulL, nn_add, nn_mul, nn_eqL, nn_ltL, nn_leL, nn_Llt, nn_Lle, nn_lt, nn_le, nn_eq, nn_in, nn_clamp, nn_succ, nn_pos, nn_neg1, b3, b4, c1, bk]
  have nxt : ∀ ms', FrG PRn ksR ms ms' → ms'.2.2 19 (240 * q + k) = onn (nT1 (ndA (nds R) k)) := fun ms' f => by rw [f.lo 19 (by omega)]; exact c5
  have onV : nK (ndA (nds R) k) ≠ 6 → onn (nT1 (ndA (nds R) k)) = nn ((nT1 (ndA (nds R) k)).getD 0) := fun h6 => by
    obtain ⟨j, hj⟩ := o10 h6
    rw [hj]; rfl
  have hcase : nK (ndA (nds R) k) = 0 ∨ nK (ndA (nds R) k) = 1 ∨ nK (ndA (nds R) k) = 2 ∨ nK (ndA (nds R) k) = 3 ∨ nK (ndA (nds R) k) = 4 ∨ nK (ndA (nds R) k) = 5 ∨ nK (ndA (nds R) k) = 6 ∨ nK (ndA (nds R) k) = 7 := by omega
  rcases hcase with hk0 | hk0 | hk0 | hk0 | hk0 | hk0 | hk0 | hk0
  · -- a sum is set
    obtain ⟨e, he⟩ := o7 hk0
    have hel := o4 e he
    have be : e < 2147483648 := by omega
    have be2 : e < 32 := by omega
    obtain ⟨nm, hn1, hn2⟩ : ∃ nm, nm < 48 ∧ nNm (ndA (nds R) k) = nn nm := o6.resolve_left (o11.1 (by omega))
    have bn : nm < 2147483648 := by omega
    rw [if_pos hk0, he] at kk
    simp only at kk
    rw [he] at c4
    simp [hk0, bX2_step_155, bX2_step_208, swR, o_ic, o_lc, o_null, o_il, o_ll, o_al, o_dup, o_pop, o_dup_x1, o_dup2, o_iadd, o_isub, o_imul, o_iand, o_ior, o_ixor, o_ishl, o_ishr, o_idiv, o_irem, o_ineg, o_ladd, o_lsub, o_lmul, o_land, o_lor, o_lxor, o_ldiv, o_lrem, o_lneg, o_lcmp, o_i2l, o_l2i, o_i2b, o_i2c, o_iushr, o_lshl, o_lshr, o_if_eq, o_if_ne, o_if_lt, o_if_ge, o_if_gt, o_if_le, o_icmp_eq, o_icmp_ne, o_icmp_lt, o_icmp_ge, o_icmp_gt, o_icmp_le, o_ifnull, o_ifnonnull, o_acmp_eq, o_acmp_ne, o_is, o_ls, o_as, o_iinc, o_kill, o_sw, o_ireturn, o_zreturn, o_nreturn, o_lreturn, o_areturn, o_return, o_athrow, o_call, entP, lg_sl, Value.category, st1, st2, List.set, List.getElem?_cons_zero, List.getElem?_cons_succ, List.foldl, popN, aft, o_mg, o_mgl, o_mga, o_mp, o_mpz, o_mpl, o_mia, o_mis, o_mbs, o_mc, mput_get, mput_arr, mput_let, mput_put, mset_get, mset_int, mset_let, mputL_get, mputL_arr, mputL_let, mputL_put, i64_8, mLen, vpL, nn_addL, nn_addR, nn_mulL, nn_add, nn_mul, nn_eqL, nn_ltL, nn_leL, nn_Llt, nn_Lle, nn_lt, nn_le, nn_eq, nn_in, nn_clamp, nn_succ, nn_pos, nn_neg1, b3, b4, c1, c4, onn]
    refine m_isTaken hq be2 hpl hk l (hPl.2.2.2.2 e hel) ?_
    simp [o_ic, o_lc, o_null, o_il, o_ll, o_al, o_dup, o_pop, o_dup_x1, o_dup2, o_iadd, o_isub, o_imul, o_iand, o_ior, o_ixor, o_ishl, o_ishr, o_idiv, o_irem, o_ineg, o_ladd, o_lsub, o_lmul, o_land, o_lor, o_lxor, o_ldiv, o_lrem, o_lneg, o_lcmp, o_i2l, o_l2i, o_i2b, o_i2c, o_iushr, o_lshl, o_lshr, o_if_eq, o_if_ne, o_if_lt, o_if_ge, o_if_gt, o_if_le, o_icmp_eq, o_icmp_ne, o_icmp_lt, o_icmp_ge, o_icmp_gt, o_icmp_le, o_ifnull, o_ifnonnull, o_acmp_eq, o_acmp_ne, o_is, o_ls, o_as, o_iinc, o_kill, o_sw, o_ireturn, o_zreturn, o_nreturn, o_lreturn, o_areturn, o_return, o_athrow, o_call, entP, lg_sl, Value.category, st1, st2, List.set, List.getElem?_cons_zero, List.getElem?_cons_succ, List.foldl, popN, aft, o_mg, o_mgl, o_mga, o_mp, o_mpz, o_mpl, o_mia, o_mis, o_mbs, o_mc, mput_get, mput_arr, mput_let, mput_put, mset_get, mset_int, mset_let, mputL_get, mputL_arr, mputL_let, mputL_put, i64_8, mLen, vpL, nn_addL, nn_addR, nn_mulL, nn_add, nn_mul, nn_eqL, nn_ltL, nn_leL, nn_Llt, nn_Lle, nn_lt, nn_le, nn_eq, nn_in, nn_clamp, nn_succ, nn_pos, nn_neg1, b2i_0]
    -- the name is set
    have fin : ∀ ms1 stx v, FrG PRn ksR ms ms1 → RsV ms1 stx → KpM ms1 stx → ms1.1 56 = 0 → ms1.1 51 = ms.1 51 → ms1.1 54 = ms.1 54 → (∀ ms' v', StA ms ms' v' (rNow stx (nNm (ndA (nds R) k)) v, .ok ((nT1 (ndA (nds R) k)).getD 0)) → Q (.inl (some (.int v'))) ms') → bX2_step_246 mo Q [some (.ref mo), some (.int (nn q)), some (.int (nn pl)), some (.int (nn k)), some (.int (nn (240 * q + k))), some (.int 0), some (.int (nn e)), none] [.int v] ms1 := by
      intro ms1 stx v f1 V1 K1 z56 z51 z54 kf
      have e17 : ms1.2.2 17 (240 * q + k) = nn nm := by rw [f1.lo 17 (by omega), c3, hn2]
      simp [bX2_step_246, o_ic, o_lc, o_null, o_il, o_ll, o_al, o_dup, o_pop, o_dup_x1, o_dup2, o_iadd, o_isub, o_imul, o_iand, o_ior, o_ixor, o_ishl, o_ishr, o_idiv, o_irem, o_ineg, o_ladd, o_lsub, o_lmul, o_land, o_lor, o_lxor, o_ldiv, o_lrem, o_lneg, o_lcmp, o_i2l, o_l2i, o_i2b, o_i2c, o_iushr, o_lshl, o_lshr, o_if_eq, o_if_ne, o_if_lt, o_if_ge, o_if_gt, o_if_le, o_icmp_eq, o_icmp_ne, o_icmp_lt, o_icmp_ge, o_icmp_gt, o_icmp_le, o_ifnull, o_ifnonnull, o_acmp_eq, o_acmp_ne, o_is, o_ls, o_as, o_iinc, o_kill, o_sw, o_ireturn, o_zreturn, o_nreturn, o_lreturn, o_areturn, o_return, o_athrow, o_call, entP, lg_sl, Value.category, st1, st2, List.set, List.getElem?_cons_zero, List.getElem?_cons_succ, List.foldl, popN, aft, o_mg, o_mgl, o_mga, o_mp, o_mpz, o_mpl, o_mia, o_mis, o_mbs, o_mc, mput_get, mput_arr, mput_let, mput_put, mset_get, mset_int, mset_let, mputL_get, mputL_arr, mputL_let, mputL_put, i64_8, mLen, vpL, nn_addL, nn_addR, nn_mulL, nn_add, nn_mul, nn_eqL, nn_ltL, nn_leL, nn_Llt, nn_Lle, nn_lt, nn_le, nn_eq, nn_in, nn_clamp, nn_succ, nn_pos, nn_neg1, z56, b3, b4, e17, bn, hn1]
      have f2 : FrG PRn ksR ms (mset ms1 46 nm v) := f1.set (by unfold PRn; omega)
      refine x_step438 b4 (nxt _ f2) ?_
      rw [onV (by omega)]
      refine kf _ _ ⟨f2, ?_, z54, rfl, fun j hj => by simp [mput_get, mput_arr, mput_let, mput_put, mset_get, mset_int, mset_let, mputL_get, mputL_arr, mputL_let, mputL_put, i64_8, mLen]; exact K1 j hj, z56, z51⟩
      obtain ⟨y1, y2, y3, y4, y5, y6, y7⟩ := V1
      refine ⟨fun j hj => ?_, fun j hj => by simp [mput_get, mput_arr, mput_let, mput_put, mset_get, mset_int, mset_let, mputL_get, mputL_arr, mputL_let, mputL_put, i64_8, mLen]; exact y2 j hj, fun j hj => by simp [mput_get, mput_arr, mput_let, mput_put, mset_get, mset_int, mset_let, mputL_get, mputL_arr, mputL_let, mputL_put, i64_8, mLen]; exact y3 j hj, y4, y5, fun i u hi hu => by simp [mput_get, mput_arr, mput_let, mput_put, mset_get, mset_int, mset_let, mputL_get, mputL_arr, mputL_let, mputL_put, i64_8, mLen]; exact y6 i u hi hu, y7⟩
      show _ = upd9 stx.1 _ v j
      rw [mset_get, upd9_get, hn2, nn_clamp bn]
      by_cases c : j = nm
      · subst c; simp
      · rw [if_neg (by omega), if_neg c]; exact y1 j hj
    refine ⟨fun g => ?_, fun g => ?_⟩
    · rw [if_neg (by rw [g]; simp)] at kk
      simp [bX2_step_239, o_ic, o_lc, o_null, o_il, o_ll, o_al, o_dup, o_pop, o_dup_x1, o_dup2, o_iadd, o_isub, o_imul, o_iand, o_ior, o_ixor, o_ishl, o_ishr, o_idiv, o_irem, o_ineg, o_ladd, o_lsub, o_lmul, o_land, o_lor, o_lxor, o_ldiv, o_lrem, o_lneg, o_lcmp, o_i2l, o_l2i, o_i2b, o_i2c, o_iushr, o_lshl, o_lshr, o_if_eq, o_if_ne, o_if_lt, o_if_ge, o_if_gt, o_if_le, o_icmp_eq, o_icmp_ne, o_icmp_lt, o_icmp_ge, o_icmp_gt, o_icmp_le, o_ifnull, o_ifnonnull, o_acmp_eq, o_acmp_ne, o_is, o_ls, o_as, o_iinc, o_kill, o_sw, o_ireturn, o_zreturn, o_nreturn, o_lreturn, o_areturn, o_return, o_athrow, o_call, entP, lg_sl, Value.category, st1, st2, List.set, List.getElem?_cons_zero, List.getElem?_cons_succ, List.foldl, popN, aft, o_mg, o_mgl, o_mga, o_mp, o_mpz, o_mpl, o_mia, o_mis, o_mbs, o_mc, mput_get, mput_arr, mput_let, mput_put, mset_get, mset_int, mset_let, mputL_get, mputL_arr, mputL_let, mputL_put, i64_8, mLen]
      refine m_work hq hel hs w hPl hV h56 (fun ms1 v f1 V1 e48 e51 e54 hw => ?_)
      cases hwk : wrk (smA R e) st.1 st.2.1 with
      | none =>
        rw [hwk] at kk hw
        simp only at kk hw
        simp [bX2_step_246, o_ic, o_lc, o_null, o_il, o_ll, o_al, o_dup, o_pop, o_dup_x1, o_dup2, o_iadd, o_isub, o_imul, o_iand, o_ior, o_ixor, o_ishl, o_ishr, o_idiv, o_irem, o_ineg, o_ladd, o_lsub, o_lmul, o_land, o_lor, o_lxor, o_ldiv, o_lrem, o_lneg, o_lcmp, o_i2l, o_l2i, o_i2b, o_i2c, o_iushr, o_lshl, o_lshr, o_if_eq, o_if_ne, o_if_lt, o_if_ge, o_if_gt, o_if_le, o_icmp_eq, o_icmp_ne, o_icmp_lt, o_icmp_ge, o_icmp_gt, o_icmp_le, o_ifnull, o_ifnonnull, o_acmp_eq, o_acmp_ne, o_is, o_ls, o_as, o_iinc, o_kill, o_sw, o_ireturn, o_zreturn, o_nreturn, o_lreturn, o_areturn, o_return, o_athrow, o_call, entP, lg_sl, Value.category, st1, st2, List.set, List.getElem?_cons_zero, List.getElem?_cons_succ, List.foldl, popN, aft, o_mg, o_mgl, o_mga, o_mp, o_mpz, o_mpl, o_mia, o_mis, o_mbs, o_mc, mput_get, mput_arr, mput_let, mput_put, mset_get, mset_int, mset_let, mputL_get, mputL_arr, mputL_let, mputL_put, i64_8, mLen, vpL, nn_addL, nn_addR, nn_mulL, nn_add, nn_mul, nn_eqL, nn_ltL, nn_leL, nn_Llt, nn_Lle, nn_lt, nn_le, nn_eq, nn_in, nn_clamp, nn_succ, nn_pos, nn_neg1, hw]
        refine x_step438 b4 (nxt _ f1) (kk _ _ ⟨f1, V1, e54, ?_⟩)
        simp; exact ⟨hw, e51⟩
      | some x =>
        rw [hwk] at kk hw
        simp only at kk hw
        simp only [aft]
        rw [hw.1]
        exact fin ms1 (bump st e) x f1 V1 (fun j hj => by rw [e48]; exact hK j hj) hw.2 e51 e54 kk
    · rw [if_pos g] at kk
      have e48 : ms.2.2 48 e = st.2.2.1 e := hK e be2
      simp [o_ic, o_lc, o_null, o_il, o_ll, o_al, o_dup, o_pop, o_dup_x1, o_dup2, o_iadd, o_isub, o_imul, o_iand, o_ior, o_ixor, o_ishl, o_ishr, o_idiv, o_irem, o_ineg, o_ladd, o_lsub, o_lmul, o_land, o_lor, o_lxor, o_ldiv, o_lrem, o_lneg, o_lcmp, o_i2l, o_l2i, o_i2b, o_i2c, o_iushr, o_lshl, o_lshr, o_if_eq, o_if_ne, o_if_lt, o_if_ge, o_if_gt, o_if_le, o_icmp_eq, o_icmp_ne, o_icmp_lt, o_icmp_ge, o_icmp_gt, o_icmp_le, o_ifnull, o_ifnonnull, o_acmp_eq, o_acmp_ne, o_is, o_ls, o_as, o_iinc, o_kill, o_sw, o_ireturn, o_zreturn, o_nreturn, o_lreturn, o_areturn, o_return, o_athrow, o_call, entP, lg_sl, Value.category, st1, st2, List.set, List.getElem?_cons_zero, List.getElem?_cons_succ, List.foldl, popN, aft, o_mg, o_mgl, o_mga, o_mp, o_mpz, o_mpl, o_mia, o_mis, o_mbs, o_mc, mput_get, mput_arr, mput_let, mput_put, mset_get, mset_int, mset_let, mputL_get, mputL_arr, mputL_let, mputL_put, i64_8, mLen, vpL, nn_addL, nn_addR, nn_mulL, nn_add, nn_mul, nn_eqL, nn_ltL, nn_leL, nn_Llt, nn_Lle, nn_lt, nn_le, nn_eq, nn_in, nn_clamp, nn_succ, nn_pos, nn_neg1, be, be2, e48]
      exact fin ms st _ FrG.rfl9 hV hK h56 rfl rfl kk
  · -- a name is set
    obtain ⟨nm, hn1, hn2⟩ : ∃ nm, nm < 48 ∧ nNm (ndA (nds R) k) = nn nm := o6.resolve_left (o11.1 (by omega))
    have bn : nm < 2147483648 := by omega
    rw [if_neg (by omega), if_pos hk0] at kk
    obtain ⟨d1, d2⟩ := c7 (by rw [hk0]; simp)
    simp [hk0, vpL, nn_addL, nn_addR, nn_mulL, nn_add, nn_mul, nn_eqL, nn_ltL, nn_leL, nn_Llt, nn_Lle, nn_lt, nn_le, nn_eq, nn_in, nn_clamp, nn_succ, nn_pos, nn_neg1, d1, d2]
    refine m_of (o := nOa (ndA (nds R) k)) o12 x1 ?_
    simp [bX2_step_155, bX2_step_272, swR, o_ic, o_lc, o_null, o_il, o_ll, o_al, o_dup, o_pop, o_dup_x1, o_dup2, o_iadd, o_isub, o_imul, o_iand, o_ior, o_ixor, o_ishl, o_ishr, o_idiv, o_irem, o_ineg, o_ladd, o_lsub, o_lmul, o_land, o_lor, o_lxor, o_ldiv, o_lrem, o_lneg, o_lcmp, o_i2l, o_l2i, o_i2b, o_i2c, o_iushr, o_lshl, o_lshr, o_if_eq, o_if_ne, o_if_lt, o_if_ge, o_if_gt, o_if_le, o_icmp_eq, o_icmp_ne, o_icmp_lt, o_icmp_ge, o_icmp_gt, o_icmp_le, o_ifnull, o_ifnonnull, o_acmp_eq, o_acmp_ne, o_is, o_ls, o_as, o_iinc, o_kill, o_sw, o_ireturn, o_zreturn, o_nreturn, o_lreturn, o_areturn, o_return, o_athrow, o_call, entP, lg_sl, Value.category, st1, st2, List.set, List.getElem?_cons_zero, List.getElem?_cons_succ, List.foldl, popN, aft, o_mg, o_mgl, o_mga, o_mp, o_mpz, o_mpl, o_mia, o_mis, o_mbs, o_mc, mput_get, mput_arr, mput_let, mput_put, mset_get, mset_int, mset_let, mputL_get, mputL_arr, mputL_let, mputL_put, i64_8, mLen, vpL, nn_addL, nn_addR, nn_mulL, nn_add, nn_mul, nn_eqL, nn_ltL, nn_leL, nn_Llt, nn_Lle, nn_lt, nn_le, nn_eq, nn_in, nn_clamp, nn_succ, nn_pos, nn_neg1, b3, b4, c1, hk0, c3, hn2, bn, hn1]
    have f2 : FrG PRn ksR ms (mset ms 46 nm (wth st.1 (nOa (ndA (nds R) k)))) := FrG.rfl9.set (by unfold PRn; omega)
    refine x_step438 b4 (nxt _ f2) ?_
    rw [onV (by omega)]
    refine kk _ _ ⟨f2, ?_, rfl, rfl, fun j hj => by simp [mput_get, mput_arr, mput_let, mput_put, mset_get, mset_int, mset_let, mputL_get, mputL_arr, mputL_let, mputL_put, i64_8, mLen]; exact hK j hj, h56, rfl⟩
    refine ⟨fun j hj => ?_, fun j hj => by simp [mput_get, mput_arr, mput_let, mput_put, mset_get, mset_int, mset_let, mputL_get, mputL_arr, mputL_let, mputL_put, i64_8, mLen]; exact x2 j hj, fun j hj => by simp [mput_get, mput_arr, mput_let, mput_put, mset_get, mset_int, mset_let, mputL_get, mputL_arr, mputL_let, mputL_put, i64_8, mLen]; exact x3 j hj, x4, x5, fun i u hi hu => by simp [mput_get, mput_arr, mput_let, mput_put, mset_get, mset_int, mset_let, mputL_get, mputL_arr, mputL_let, mputL_put, i64_8, mLen]; exact x6 i u hi hu, x7⟩
    show _ = upd9 st.1 _ _ j
    rw [mset_get, upd9_get, hn2, nn_clamp bn]
    by_cases c : j = nm
    · subst c; simp
    · rw [if_neg (by omega), if_neg c]; exact x1 j hj
  · -- a put
    rw [if_neg (by omega), if_neg (by omega), if_pos hk0] at kk
    obtain ⟨d1, d2⟩ := c7 (by rw [hk0]; simp)
    obtain ⟨d3, d4⟩ := c8 (by rw [hk0]; simp)
    obtain ⟨r, hr1, hr2⟩ := o14 hk0
    have d5 := c9 hk0
    rw [hr2] at d5
    simp [hk0, vpL, nn_addL, nn_addR, nn_mulL, nn_add, nn_mul, nn_eqL, nn_ltL, nn_leL, nn_Llt, nn_Lle, nn_lt, nn_le, nn_eq, nn_in, nn_clamp, nn_succ, nn_pos, nn_neg1, d1, d2]
    refine m_of (o := nOa (ndA (nds R) k)) o12 x1 ?_
    generalize ha : wth st.1 (nOa (ndA (nds R) k)) = a at kk
    simp [bX2_step_155, bX2_step_289, bX2_step_302, bX2_step_306, bX2_step_307, swR, o_ic, o_lc, o_null, o_il, o_ll, o_al, o_dup, o_pop, o_dup_x1, o_dup2, o_iadd, o_isub, o_imul, o_iand, o_ior, o_ixor, o_ishl, o_ishr, o_idiv, o_irem, o_ineg, o_ladd, o_lsub, o_lmul, o_land, o_lor, o_lxor, o_ldiv, o_lrem, o_lneg, o_lcmp, o_i2l, o_l2i, o_i2b, o_i2c, o_iushr, o_lshl, o_lshr, o_if_eq, o_if_ne, o_if_lt, o_if_ge, o_if_gt, o_if_le, o_icmp_eq, o_icmp_ne, o_icmp_lt, o_icmp_ge, o_icmp_gt, o_icmp_le, o_ifnull, o_ifnonnull, o_acmp_eq, o_acmp_ne, o_is, o_ls, o_as, o_iinc, o_kill, o_sw, o_ireturn, o_zreturn, o_nreturn, o_lreturn, o_areturn, o_return, o_athrow, o_call, entP, lg_sl, Value.category, st1, st2, List.set, List.getElem?_cons_zero, List.getElem?_cons_succ, List.foldl, popN, aft, o_mg, o_mgl, o_mga, o_mp, o_mpz, o_mpl, o_mia, o_mis, o_mbs, o_mc, mput_get, mput_arr, mput_let, mput_put, mset_get, mset_int, mset_let, mputL_get, mputL_arr, mputL_let, mputL_put, i64_8, mLen, vpL, nn_addL, nn_addR, nn_mulL, nn_add, nn_mul, nn_eqL, nn_ltL, nn_leL, nn_Llt, nn_Lle, nn_lt, nn_le, nn_eq, nn_in, nn_clamp, nn_succ, nn_pos, nn_neg1, b3, b4, c1, hk0]
    have bad : (a < 0 ∨ 7 < a) → bX2_step_438 mo Q [some (.ref mo), some (.int (nn q)), some (.int (nn pl)), some (.int (nn k)), some (.int (nn (240 * q + k))), some (.int a), none, none] [] (mput ms 56 1) := by
      intro hz
      rw [if_pos hz] at kk
      have f2 : FrG PRn ksR ms (mput ms 56 1) := FrG.rfl9.put (by simp)
      refine x_step438 b4 (nxt _ f2) (kk _ _ ⟨f2, ⟨x1, x2, x3, by simp [mput_get, mput_arr, mput_let, mput_put, mset_get, mset_int, mset_let, mputL_get, mputL_arr, mputL_let, mputL_put, i64_8, mLen]; exact x4, by simp [mput_get, mput_arr, mput_let, mput_put, mset_get, mset_int, mset_let, mputL_get, mputL_arr, mputL_let, mputL_put, i64_8, mLen]; exact x5, x6, by simp [mput_get, mput_arr, mput_let, mput_put, mset_get, mset_int, mset_let, mputL_get, mputL_arr, mputL_let, mputL_put, i64_8, mLen]; exact x7⟩, by simp [mput_get, mput_arr, mput_let, mput_put, mset_get, mset_int, mset_let, mputL_get, mputL_arr, mputL_let, mputL_put, i64_8, mLen], ?_⟩)
      simp [mput_get, mput_arr, mput_let, mput_put, mset_get, mset_int, mset_let, mputL_get, mputL_arr, mputL_let, mputL_put, i64_8, mLen]
    refine ⟨fun h1 => bad (Or.inl h1), fun h1 => ⟨fun h2 => ?_, fun h2 => bad (Or.inr h2)⟩⟩
    have nz : ¬ (a < 0 ∨ 7 < a) := fun z => z.elim (fun z => ab1 z h1) (fun z => ab2 z h2)
    rw [if_neg nz] at kk
    obtain ⟨a', ha1, ha2⟩ : ∃ a', a' < 8 ∧ a = nn a' := by
      rcases ix_cases a 8 (by omega) with ⟨a', hz1, hz2, -⟩ | ⟨-, hz⟩
      · exact ⟨a', hz1, hz2⟩
      · exfalso
        rcases hz with hz | hz
        · exact ab1 hz h1
        · rw [Int32.le_iff_toInt_le] at hz h2
          have e4 : (nn 8).toInt = 8 := rfl
          have e3 : (7 : Int32).toInt = 7 := rfl
          omega
    subst ha2
    rw [hr2] at kk
    have b5 : 8 * r + a' < 2147483648 := by omega
    have b6 : 8 * r + a' < 16 := by omega
    have e8 : (8 : Int32) * nn r + nn a' = nn (8 * r + a') := by simp [vpL, nn_addL, nn_addR, nn_mulL, nn_add, nn_mul]
    rw [e8] at kk
    simp [d3, d4, d5]
    refine m_of (ms := mput ms 56 0) (o := nOb (ndA (nds R) k)) o13 x1 ?_
    simp [o_ic, o_lc, o_null, o_il, o_ll, o_al, o_dup, o_pop, o_dup_x1, o_dup2, o_iadd, o_isub, o_imul, o_iand, o_ior, o_ixor, o_ishl, o_ishr, o_idiv, o_irem, o_ineg, o_ladd, o_lsub, o_lmul, o_land, o_lor, o_lxor, o_ldiv, o_lrem, o_lneg, o_lcmp, o_i2l, o_l2i, o_i2b, o_i2c, o_iushr, o_lshl, o_lshr, o_if_eq, o_if_ne, o_if_lt, o_if_ge, o_if_gt, o_if_le, o_icmp_eq, o_icmp_ne, o_icmp_lt, o_icmp_ge, o_icmp_gt, o_icmp_le, o_ifnull, o_ifnonnull, o_acmp_eq, o_acmp_ne, o_is, o_ls, o_as, o_iinc, o_kill, o_sw, o_ireturn, o_zreturn, o_nreturn, o_lreturn, o_areturn, o_return, o_athrow, o_call, entP, lg_sl, Value.category, st1, st2, List.set, List.getElem?_cons_zero, List.getElem?_cons_succ, List.foldl, popN, aft, o_mg, o_mgl, o_mga, o_mp, o_mpz, o_mpl, o_mia, o_mis, o_mbs, o_mc, mput_get, mput_arr, mput_let, mput_put, mset_get, mset_int, mset_let, mputL_get, mputL_arr, mputL_let, mputL_put, i64_8, mLen, vpL, nn_addL, nn_addR, nn_mulL, nn_add, nn_mul, nn_eqL, nn_ltL, nn_leL, nn_Llt, nn_Lle, nn_lt, nn_le, nn_eq, nn_in, nn_clamp, nn_succ, nn_pos, nn_neg1, b5, b6]
    have f2 : FrG PRn ksR ms (mset (mput ms 56 0) 47 (8 * r + a') (wth st.1 (nOb (ndA (nds R) k)))) := (FrG.rfl9.put (by simp)).set (by unfold PRn; omega)
    refine x_step438 b4 (nxt _ f2) ?_
    rw [onV (by omega)]
    refine kk _ _ ⟨f2, ?_, by simp [mput_get, mput_arr, mput_let, mput_put, mset_get, mset_int, mset_let, mputL_get, mputL_arr, mputL_let, mputL_put, i64_8, mLen], rfl, fun j hj => by simp [mput_get, mput_arr, mput_let, mput_put, mset_get, mset_int, mset_let, mputL_get, mputL_arr, mputL_let, mputL_put, i64_8, mLen]; exact hK j hj, by simp [mput_get, mput_arr, mput_let, mput_put, mset_get, mset_int, mset_let, mputL_get, mputL_arr, mputL_let, mputL_put, i64_8, mLen], by simp [mput_get, mput_arr, mput_let, mput_put, mset_get, mset_int, mset_let, mputL_get, mputL_arr, mputL_let, mputL_put, i64_8, mLen]⟩
    refine ⟨fun j hj => by simp [mput_get, mput_arr, mput_let, mput_put, mset_get, mset_int, mset_let, mputL_get, mputL_arr, mputL_let, mputL_put, i64_8, mLen]; exact x1 j hj, fun j hj => ?_, fun j hj => by simp [mput_get, mput_arr, mput_let, mput_put, mset_get, mset_int, mset_let, mputL_get, mputL_arr, mputL_let, mputL_put, i64_8, mLen]; exact x3 j hj, by simp [mput_get, mput_arr, mput_let, mput_put, mset_get, mset_int, mset_let, mputL_get, mputL_arr, mputL_let, mputL_put, i64_8, mLen]; exact x4, by simp [mput_get, mput_arr, mput_let, mput_put, mset_get, mset_int, mset_let, mputL_get, mputL_arr, mputL_let, mputL_put, i64_8, mLen]; exact x5, fun i u hi hu => by simp [mput_get, mput_arr, mput_let, mput_put, mset_get, mset_int, mset_let, mputL_get, mputL_arr, mputL_let, mputL_put, i64_8, mLen]; exact x6 i u hi hu, by simp [mput_get, mput_arr, mput_let, mput_put, mset_get, mset_int, mset_let, mputL_get, mputL_arr, mputL_let, mputL_put, i64_8, mLen]; exact x7⟩
    show _ = upd9 st.2.1 (nn (8 * r + a')).toNatClampNeg _ j
    rw [mset_get, upd9_get, nn_clamp b5]
    by_cases c : j = 8 * r + a'
    · subst c; simp
    · rw [if_neg (by omega), if_neg c]; exact x2 j hj
  · -- a tell
    rw [if_neg (by omega), if_neg (by omega), if_neg (by omega), if_pos hk0] at kk
    obtain ⟨d1, d2⟩ := c7 (by rw [hk0]; simp)
    have bt : st.2.2.2.2.2.1.length < 2147483648 := by omega
    simp [hk0, vpL, nn_addL, nn_addR, nn_mulL, nn_add, nn_mul, nn_eqL, nn_ltL, nn_leL, nn_Llt, nn_Lle, nn_lt, nn_le, nn_eq, nn_in, nn_clamp, nn_succ, nn_pos, nn_neg1, d1, d2]
    refine m_of (o := nOa (ndA (nds R) k)) o12 x1 ?_
    generalize ha : wth st.1 (nOa (ndA (nds R) k)) = a at kk
    simp [bX2_step_155, bX2_step_356, bX2_step_376, swR, o_ic, o_lc, o_null, o_il, o_ll, o_al, o_dup, o_pop, o_dup_x1, o_dup2, o_iadd, o_isub, o_imul, o_iand, o_ior, o_ixor, o_ishl, o_ishr, o_idiv, o_irem, o_ineg, o_ladd, o_lsub, o_lmul, o_land, o_lor, o_lxor, o_ldiv, o_lrem, o_lneg, o_lcmp, o_i2l, o_l2i, o_i2b, o_i2c, o_iushr, o_lshl, o_lshr, o_if_eq, o_if_ne, o_if_lt, o_if_ge, o_if_gt, o_if_le, o_icmp_eq, o_icmp_ne, o_icmp_lt, o_icmp_ge, o_icmp_gt, o_icmp_le, o_ifnull, o_ifnonnull, o_acmp_eq, o_acmp_ne, o_is, o_ls, o_as, o_iinc, o_kill, o_sw, o_ireturn, o_zreturn, o_nreturn, o_lreturn, o_areturn, o_return, o_athrow, o_call, entP, lg_sl, Value.category, st1, st2, List.set, List.getElem?_cons_zero, List.getElem?_cons_succ, List.foldl, popN, aft, o_mg, o_mgl, o_mga, o_mp, o_mpz, o_mpl, o_mia, o_mis, o_mbs, o_mc, mput_get, mput_arr, mput_let, mput_put, mset_get, mset_int, mset_let, mputL_get, mputL_arr, mputL_let, mputL_put, i64_8, mLen, vpL, nn_addL, nn_addR, nn_mulL, nn_add, nn_mul, nn_eqL, nn_ltL, nn_leL, nn_Llt, nn_Lle, nn_lt, nn_le, nn_eq, nn_in, nn_clamp, nn_succ, nn_pos, nn_neg1, b3, b4, c1, hk0, x5, bt]
    refine ⟨fun h1 => ?_, fun h1 => ?_⟩
    · have f2 : FrG PRn ksR ms (mput ms 53 (nn (st.2.2.2.2.2.1.length + 1))) := FrG.rfl9.put (by simp)
      refine x_step438 b4 (nxt _ f2) ?_
      rw [onV (by omega)]
      refine kk _ _ ⟨f2, ⟨x1, x2, x3, by simp [mput_get, mput_arr, mput_let, mput_put, mset_get, mset_int, mset_let, mputL_get, mputL_arr, mputL_let, mputL_put, i64_8, mLen]; exact x4, by simp [mput_get, mput_arr, mput_let, mput_put, mset_get, mset_int, mset_let, mputL_get, mputL_arr, mputL_let, mputL_put, i64_8, mLen, rTell], fun i u hi hu => ?_, by simp [mput_get, mput_arr, mput_let, mput_put, mset_get, mset_int, mset_let, mputL_get, mputL_arr, mputL_let, mputL_put, i64_8, mLen]; exact x7⟩, by simp [mput_get, mput_arr, mput_let, mput_put, mset_get, mset_int, mset_let, mputL_get, mputL_arr, mputL_let, mputL_put, i64_8, mLen], rfl, hK, by simp [mput_get, mput_arr, mput_let, mput_put, mset_get, mset_int, mset_let, mputL_get, mputL_arr, mputL_let, mputL_put, i64_8, mLen]; exact h56, by simp [mput_get, mput_arr, mput_let, mput_put, mset_get, mset_int, mset_let, mputL_get, mputL_arr, mputL_let, mputL_put, i64_8, mLen]⟩
      refine x6 i u hi ?_
      change (st.2.2.2.2.2.1 ++ [a])[i]? = some u at hu
      rw [List.getElem?_append_left (by omega)] at hu
      exact hu
    · have hb100 : st.2.2.2.2.2.1.length < 100 := h1
      simp [hb100]
      have f2 : FrG PRn ksR ms (mput (mset ms 50 st.2.2.2.2.2.1.length a) 53 (nn (st.2.2.2.2.2.1.length + 1))) := (FrG.rfl9.set (by unfold PRn; omega)).put (by simp)
      refine x_step438 b4 (nxt _ f2) ?_
      rw [onV (by omega)]
      refine kk _ _ ⟨f2, ⟨fun j hj => by simp [mput_get, mput_arr, mput_let, mput_put, mset_get, mset_int, mset_let, mputL_get, mputL_arr, mputL_let, mputL_put, i64_8, mLen]; exact x1 j hj, fun j hj => by simp [mput_get, mput_arr, mput_let, mput_put, mset_get, mset_int, mset_let, mputL_get, mputL_arr, mputL_let, mputL_put, i64_8, mLen]; exact x2 j hj, fun j hj => by simp [mput_get, mput_arr, mput_let, mput_put, mset_get, mset_int, mset_let, mputL_get, mputL_arr, mputL_let, mputL_put, i64_8, mLen]; exact x3 j hj, by simp [mput_get, mput_arr, mput_let, mput_put, mset_get, mset_int, mset_let, mputL_get, mputL_arr, mputL_let, mputL_put, i64_8, mLen]; exact x4, by simp [mput_get, mput_arr, mput_let, mput_put, mset_get, mset_int, mset_let, mputL_get, mputL_arr, mputL_let, mputL_put, i64_8, mLen, rTell], fun i u hi hu => ?_, by simp [mput_get, mput_arr, mput_let, mput_put, mset_get, mset_int, mset_let, mputL_get, mputL_arr, mputL_let, mputL_put, i64_8, mLen]; exact x7⟩, by simp [mput_get, mput_arr, mput_let, mput_put, mset_get, mset_int, mset_let, mputL_get, mputL_arr, mputL_let, mputL_put, i64_8, mLen], rfl, fun j hj => by simp [mput_get, mput_arr, mput_let, mput_put, mset_get, mset_int, mset_let, mputL_get, mputL_arr, mputL_let, mputL_put, i64_8, mLen]; exact hK j hj, by simp [mput_get, mput_arr, mput_let, mput_put, mset_get, mset_int, mset_let, mputL_get, mputL_arr, mputL_let, mputL_put, i64_8, mLen]; exact h56, by simp [mput_get, mput_arr, mput_let, mput_put, mset_get, mset_int, mset_let, mputL_get, mputL_arr, mputL_let, mputL_put, i64_8, mLen]⟩
      change (st.2.2.2.2.2.1 ++ [a])[i]? = some u at hu
      by_cases c : i < st.2.2.2.2.2.1.length
      · rw [List.getElem?_append_left c] at hu
        have c' : ¬ i = st.2.2.2.2.2.1.length := by omega
        simp [mput_get, mput_arr, mput_let, mput_put, mset_get, mset_int, mset_let, mputL_get, mputL_arr, mputL_let, mputL_put, i64_8, mLen, c']; exact x6 i u hi hu
      · have c' : i = st.2.2.2.2.2.1.length := by
          have := (List.getElem?_eq_some_iff.1 hu).1
          simp at this; omega
        subst c'
        simp at hu
        simp [mput_get, mput_arr, mput_let, mput_put, mset_get, mset_int, mset_let, mputL_get, mputL_arr, mputL_let, mputL_put, i64_8, mLen]; exact hu
  · -- a go
    rw [if_neg (by omega), if_neg (by omega), if_neg (by omega), if_neg (by omega), if_neg (by omega), if_neg (by omega)] at kk
    simp [hk0, bX2_step_155, swR, o_ic, o_lc, o_null, o_il, o_ll, o_al, o_dup, o_pop, o_dup_x1, o_dup2, o_iadd, o_isub, o_imul, o_iand, o_ior, o_ixor, o_ishl, o_ishr, o_idiv, o_irem, o_ineg, o_ladd, o_lsub, o_lmul, o_land, o_lor, o_lxor, o_ldiv, o_lrem, o_lneg, o_lcmp, o_i2l, o_l2i, o_i2b, o_i2c, o_iushr, o_lshl, o_lshr, o_if_eq, o_if_ne, o_if_lt, o_if_ge, o_if_gt, o_if_le, o_icmp_eq, o_icmp_ne, o_icmp_lt, o_icmp_ge, o_icmp_gt, o_icmp_le, o_ifnull, o_ifnonnull, o_acmp_eq, o_acmp_ne, o_is, o_ls, o_as, o_iinc, o_kill, o_sw, o_ireturn, o_zreturn, o_nreturn, o_lreturn, o_areturn, o_return, o_athrow, o_call, entP, lg_sl, Value.category, st1, st2, List.set, List.getElem?_cons_zero, List.getElem?_cons_succ, List.foldl, popN, aft, o_mg, o_mgl, o_mga, o_mp, o_mpz, o_mpl, o_mia, o_mis, o_mbs, o_mc, mput_get, mput_arr, mput_let, mput_put, mset_get, mset_int, mset_let, mputL_get, mputL_arr, mputL_let, mputL_put, i64_8, mLen, vpL, nn_addL, nn_addR, nn_mulL, nn_add, nn_mul, nn_eqL, nn_ltL, nn_leL, nn_Llt, nn_Lle, nn_lt, nn_le, nn_eq, nn_in, nn_clamp, nn_succ, nn_pos, nn_neg1, b3, b4, c1]
    refine x_step438 b4 (nxt _ FrG.rfl9) ?_
    rw [onV (by omega)]
    exact kk _ _ ⟨FrG.rfl9, hV, rfl, rfl, hK, h56, rfl⟩
  · -- an if
    rw [if_neg (by omega), if_neg (by omega), if_neg (by omega), if_neg (by omega), if_pos hk0] at kk
    obtain ⟨d1, d2⟩ := c7 (by rw [hk0]; simp)
    obtain ⟨d3, d4⟩ := c8 (by rw [hk0]; simp)
    obtain ⟨j2, hj2⟩ := o15.1 hk0
    simp [hk0, vpL, nn_addL, nn_addR, nn_mulL, nn_add, nn_mul, nn_eqL, nn_ltL, nn_leL, nn_Llt, nn_Lle, nn_lt, nn_le, nn_eq, nn_in, nn_clamp, nn_succ, nn_pos, nn_neg1, d1, d2]
    refine m_of (o := nOa (ndA (nds R) k)) o12 x1 ?_
    generalize ha : wth st.1 (nOa (ndA (nds R) k)) = a at kk
    simp [bX2_step_155, bX2_step_389, swR, o_ic, o_lc, o_null, o_il, o_ll, o_al, o_dup, o_pop, o_dup_x1, o_dup2, o_iadd, o_isub, o_imul, o_iand, o_ior, o_ixor, o_ishl, o_ishr, o_idiv, o_irem, o_ineg, o_ladd, o_lsub, o_lmul, o_land, o_lor, o_lxor, o_ldiv, o_lrem, o_lneg, o_lcmp, o_i2l, o_l2i, o_i2b, o_i2c, o_iushr, o_lshl, o_lshr, o_if_eq, o_if_ne, o_if_lt, o_if_ge, o_if_gt, o_if_le, o_icmp_eq, o_icmp_ne, o_icmp_lt, o_icmp_ge, o_icmp_gt, o_icmp_le, o_ifnull, o_ifnonnull, o_acmp_eq, o_acmp_ne, o_is, o_ls, o_as, o_iinc, o_kill, o_sw, o_ireturn, o_zreturn, o_nreturn, o_lreturn, o_areturn, o_return, o_athrow, o_call, entP, lg_sl, Value.category, st1, st2, List.set, List.getElem?_cons_zero, List.getElem?_cons_succ, List.foldl, popN, aft, o_mg, o_mgl, o_mga, o_mp, o_mpz, o_mpl, o_mia, o_mis, o_mbs, o_mc, mput_get, mput_arr, mput_let, mput_put, mset_get, mset_int, mset_let, mputL_get, mputL_arr, mputL_let, mputL_put, i64_8, mLen, vpL, nn_addL, nn_addR, nn_mulL, nn_add, nn_mul, nn_eqL, nn_ltL, nn_leL, nn_Llt, nn_Lle, nn_lt, nn_le, nn_eq, nn_in, nn_clamp, nn_succ, nn_pos, nn_neg1, b3, b4, c1, hk0, d3, d4]
    refine m_of (o := nOb (ndA (nds R) k)) o13 x1 ?_
    generalize hb' : wth st.1 (nOb (ndA (nds R) k)) = b at kk
    simp [bX2_step_422, bX2_step_429, o_ic, o_lc, o_null, o_il, o_ll, o_al, o_dup, o_pop, o_dup_x1, o_dup2, o_iadd, o_isub, o_imul, o_iand, o_ior, o_ixor, o_ishl, o_ishr, o_idiv, o_irem, o_ineg, o_ladd, o_lsub, o_lmul, o_land, o_lor, o_lxor, o_ldiv, o_lrem, o_lneg, o_lcmp, o_i2l, o_l2i, o_i2b, o_i2c, o_iushr, o_lshl, o_lshr, o_if_eq, o_if_ne, o_if_lt, o_if_ge, o_if_gt, o_if_le, o_icmp_eq, o_icmp_ne, o_icmp_lt, o_icmp_ge, o_icmp_gt, o_icmp_le, o_ifnull, o_ifnonnull, o_acmp_eq, o_acmp_ne, o_is, o_ls, o_as, o_iinc, o_kill, o_sw, o_ireturn, o_zreturn, o_nreturn, o_lreturn, o_areturn, o_return, o_athrow, o_call, entP, lg_sl, Value.category, st1, st2, List.set, List.getElem?_cons_zero, List.getElem?_cons_succ, List.foldl, popN, aft, o_mg, o_mgl, o_mga, o_mp, o_mpz, o_mpl, o_mia, o_mis, o_mbs, o_mc, mput_get, mput_arr, mput_let, mput_put, mset_get, mset_int, mset_let, mputL_get, mputL_arr, mputL_let, mputL_put, i64_8, mLen, vpL, nn_addL, nn_addR, nn_mulL, nn_add, nn_mul, nn_eqL, nn_ltL, nn_leL, nn_Llt, nn_Lle, nn_lt, nn_le, nn_eq, nn_in, nn_clamp, nn_succ, nn_pos, nn_neg1, b3, b4, c5, c6]
    refine ⟨fun h1 => ?_, fun h1 => ?_⟩
    · rw [if_neg (fun z => ab2 z h1)] at kk
      rw [hj2] at kk ⊢
      exact kk _ _ ⟨FrG.rfl9, hV, rfl, rfl, hK, h56, rfl⟩
    · rw [if_pos h1] at kk
      rw [onV (by omega)]
      exact kk _ _ ⟨FrG.rfl9, hV, rfl, rfl, hK, h56, rfl⟩
  · -- a leave
    rw [if_neg (by omega), if_neg (by omega), if_neg (by omega), if_neg (by omega), if_neg (by omega), if_pos hk0] at kk
    simp [hk0, bX2_step_155, bX2_step_430, swR, o_ic, o_lc, o_null, o_il, o_ll, o_al, o_dup, o_pop, o_dup_x1, o_dup2, o_iadd, o_isub, o_imul, o_iand, o_ior, o_ixor, o_ishl, o_ishr, o_idiv, o_irem, o_ineg, o_ladd, o_lsub, o_lmul, o_land, o_lor, o_lxor, o_ldiv, o_lrem, o_lneg, o_lcmp, o_i2l, o_l2i, o_i2b, o_i2c, o_iushr, o_lshl, o_lshr, o_if_eq, o_if_ne, o_if_lt, o_if_ge, o_if_gt, o_if_le, o_icmp_eq, o_icmp_ne, o_icmp_lt, o_icmp_ge, o_icmp_gt, o_icmp_le, o_ifnull, o_ifnonnull, o_acmp_eq, o_acmp_ne, o_is, o_ls, o_as, o_iinc, o_kill, o_sw, o_ireturn, o_zreturn, o_nreturn, o_lreturn, o_areturn, o_return, o_athrow, o_call, entP, lg_sl, Value.category, st1, st2, List.set, List.getElem?_cons_zero, List.getElem?_cons_succ, List.foldl, popN, aft, o_mg, o_mgl, o_mga, o_mp, o_mpz, o_mpl, o_mia, o_mis, o_mbs, o_mc, mput_get, mput_arr, mput_let, mput_put, mset_get, mset_int, mset_let, mputL_get, mputL_arr, mputL_let, mputL_put, i64_8, mLen, vpL, nn_addL, nn_addR, nn_mulL, nn_add, nn_mul, nn_eqL, nn_ltL, nn_leL, nn_Llt, nn_Lle, nn_lt, nn_le, nn_eq, nn_in, nn_clamp, nn_succ, nn_pos, nn_neg1, b3, b4, c1]
    have f2 : FrG PRn ksR ms (mput ms 51 0) := FrG.rfl9.put (by simp)
    refine x_step438 b4 (nxt _ f2) (kk _ _ ⟨f2, ⟨x1, x2, x3, by simp [mput_get, mput_arr, mput_let, mput_put, mset_get, mset_int, mset_let, mputL_get, mputL_arr, mputL_let, mputL_put, i64_8, mLen]; exact x4, by simp [mput_get, mput_arr, mput_let, mput_put, mset_get, mset_int, mset_let, mputL_get, mputL_arr, mputL_let, mputL_put, i64_8, mLen]; exact x5, x6, by simp [mput_get, mput_arr, mput_let, mput_put, mset_get, mset_int, mset_let, mputL_get, mputL_arr, mputL_let, mputL_put, i64_8, mLen]; exact x7⟩, by simp [mput_get, mput_arr, mput_let, mput_put, mset_get, mset_int, mset_let, mputL_get, mputL_arr, mputL_let, mputL_put, i64_8, mLen], ?_⟩)
    simp [mput_get, mput_arr, mput_let, mput_put, mset_get, mset_int, mset_let, mputL_get, mputL_arr, mputL_let, mputL_put, i64_8, mLen]; exact h56
  · -- on the way
    rw [if_neg (by omega), if_neg (by omega), if_neg (by omega), if_neg (by omega), if_neg (by omega), if_neg (by omega)] at kk
    simp [hk0, bX2_step_155, swR, o_ic, o_lc, o_null, o_il, o_ll, o_al, o_dup, o_pop, o_dup_x1, o_dup2, o_iadd, o_isub, o_imul, o_iand, o_ior, o_ixor, o_ishl, o_ishr, o_idiv, o_irem, o_ineg, o_ladd, o_lsub, o_lmul, o_land, o_lor, o_lxor, o_ldiv, o_lrem, o_lneg, o_lcmp, o_i2l, o_l2i, o_i2b, o_i2c, o_iushr, o_lshl, o_lshr, o_if_eq, o_if_ne, o_if_lt, o_if_ge, o_if_gt, o_if_le, o_icmp_eq, o_icmp_ne, o_icmp_lt, o_icmp_ge, o_icmp_gt, o_icmp_le, o_ifnull, o_ifnonnull, o_acmp_eq, o_acmp_ne, o_is, o_ls, o_as, o_iinc, o_kill, o_sw, o_ireturn, o_zreturn, o_nreturn, o_lreturn, o_areturn, o_return, o_athrow, o_call, entP, lg_sl, Value.category, st1, st2, List.set, List.getElem?_cons_zero, List.getElem?_cons_succ, List.foldl, popN, aft, o_mg, o_mgl, o_mga, o_mp, o_mpz, o_mpl, o_mia, o_mis, o_mbs, o_mc, mput_get, mput_arr, mput_let, mput_put, mset_get, mset_int, mset_let, mputL_get, mputL_arr, mputL_let, mputL_put, i64_8, mLen, vpL, nn_addL, nn_addR, nn_mulL, nn_add, nn_mul, nn_eqL, nn_ltL, nn_leL, nn_Llt, nn_Lle, nn_lt, nn_le, nn_eq, nn_in, nn_clamp, nn_succ, nn_pos, nn_neg1, b3, b4, c1]
    refine x_step438 b4 (nxt _ FrG.rfl9) ?_
    rw [onV (by omega)]
    exact kk _ _ ⟨FrG.rfl9, hV, rfl, rfl, hK, h56, rfl⟩
