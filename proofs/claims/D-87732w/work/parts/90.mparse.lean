/-! THE MODEL parses -/
set_option maxRecDepth 100000
noncomputable def prs (tp : Nat → Nat) (td : Nat) : Except Flt Rt := match rdR tp td with
  | .error e => .error e
  | .ok R => match chk R with
    | some e => .error e
    | none => .ok R
/-- what a parse of place p answers and leaves -/
def PrA (ms ms' : MS) (p : Nat) (v : Int32) (r : Except Flt Rt) : Prop := match r with
  | .error e => FrG PB (1 :: 34 :: ksL) ms ms' ∧ v = -10 - nn e.2 ∧ ms'.1 34 = nn e.1
  | .ok R => WfR R ∧ TgOk R ∧ ms'.1 34 = 0 ∧ ((32 < (sms R.1).length ∧ FrG PB (1 :: 34 :: ksL) ms ms' ∧ v = -3) ∨ ((sms R.1).length ≤ 32 ∧ FrG (fun k i => PB k i ∨ PC p k i) (1 :: 34 :: ksL) ms ms' ∧ v = nn (nds R).length ∧ PlM ms' p R ∧ ms'.2.2 57 p = 0))
theorem chk_tg {R : Rt} (h : chk R = none) : TgOk R := by
  unfold chk at h
  cases hf : (nmz R.1).find? (fun x => x.2 == 0 || decide (R.2.length ≤ x.2)) with
  | some x => rw [hf] at h; cases h
  | none =>
    intro x hx t ht
    have hm : t ∈ nmz R.1 := by unfold nmz; rw [List.mem_flatMap]; exact ⟨x, hx, ht⟩
    have := List.find?_eq_none.1 hf t hm
    simp at this
    omega
theorem RdM.fr42 {ms ms' : MS} {R : Rt} (h : RdM ms R.1 R.2) (hf : FrG (fun k _ => k = 42) [32, 33] ms ms') : RdM ms' R.1 R.2 := by
  obtain ⟨a1, a2, a3, a4, a5, a6, a7, a8⟩ := h
  exact ⟨(hf.2 10 4 (by omega)).trans a1, (hf.2 9 4 (by omega)).trans a2, fun j x hx => (a3 j x hx).fr (fun i i1 i2 => hf.2 i _ (by omega)), fun b h hb' => by rw [hf.2 14 _ (by omega), hf.2 13 _ (by omega)]; exact a4 b h hb', a5.fr hf (by simp) (by omega) (fun k i _ _ => by omega), a6.fr hf (by simp) (by simp) (by simp), a7, a8⟩
theorem RdM.put {ms : MS} {R : Rt} {j : Nat} {x : Int32} (h : RdM ms R.1 R.2) (hj : j = 1 ∨ j = 34) : RdM (mput ms j x) R.1 R.2 := by
  obtain ⟨a1, a2, a3, a4, ⟨s1, s2, s3⟩, ⟨m1, m2⟩, a7, a8⟩ := h
  refine ⟨a1, a2, fun j x hx => (a3 j x hx).fr (fun i i1 i2 => rfl), a4, ⟨s1, ?_, s3⟩, ⟨?_, m2⟩, a7, a8⟩
  · rw [mput_get, if_neg (by omega)]; exact s2
  · rw [mput_get, if_neg (by omega)]; exact m1
/-- settle all sums -/
theorem x_settles {mo : Nat} {Q : Ret MS} {ms : MS} {R : Rt} {pv : Option Value} (h : TbM ms R)
    (k : ∀ φ, (∀ e, e < (sms R.1).length → ∀ j, j < (nds R).length → φ (30720 + 240 * e + j) = fwd R e j) → (∀ x, x < 30720 → φ x = ms.2.2 31 x) → bX2_parse_171 mo Q [some (.ref mo), pv, none] [] (msA ms 31 φ)) :
    bX2_parse_150 mo Q [some (.ref mo), pv, some (.int 0)] [] ms := by
  unfold bX2_parse_150
  intro X hX
  have l := h.n.1
  have l2 := h.2.2.2
  have h12 : ms.2.2 12 4 = nn (sms R.1).length := by rw [h.1.2.2.2.2.2.1, Nat.min_eq_left l2]
  have b0 : (sms R.1).length < 2147483648 := by omega
  have hind : ∀ r q φ, q + r = (sms R.1).length → (∀ e, e < q → ∀ j, j < (nds R).length → φ (30720 + 240 * e + j) = fwd R e j) → (∀ x, x < 30720 → φ x = ms.2.2 31 x) → X [some (.ref mo), pv, some (.int (nn q))] [] (msA ms 31 φ) := by
    intro r
    induction r with
    | zero =>
      intro q φ e1 h1 h2
      apply hX
      have b1 : q < 2147483648 := by omega
      have b3 : (sms R.1).length ≤ q := by omega
      have b4 : ¬ q < (sms R.1).length := by omega
      have := k φ (fun e he => h1 e (by omega)) h2
      simp [o_ic, o_lc, o_null, o_il, o_ll, o_al, o_dup, o_pop, o_dup_x1, o_dup2, o_iadd, o_isub, o_imul, o_iand, o_ior, o_ixor, o_ishl, o_ishr, o_idiv, o_irem, o_ineg, o_ladd, o_lsub, o_lmul, o_land, o_lor, o_lxor, o_ldiv, o_lrem, o_lneg, o_lcmp, o_i2l, o_l2i, o_i2b, o_i2c, o_iushr, o_lshl, o_lshr, o_if_eq, o_if_ne, o_if_lt, o_if_ge, o_if_gt, o_if_le, o_icmp_eq, o_icmp_ne, o_icmp_lt, o_icmp_ge, o_icmp_gt, o_icmp_le, o_ifnull, o_ifnonnull, o_acmp_eq, o_acmp_ne, o_is, o_ls, o_as, o_iinc, o_kill, o_sw, o_ireturn, o_zreturn, o_nreturn, o_lreturn, o_areturn, o_return, o_athrow, o_call, entP, lg_sl, Value.category, st1, st2, List.set, List.getElem?_cons_zero, List.getElem?_cons_succ, List.foldl, popN, aft, o_mg, o_mgl, o_mga, o_mp, o_mpz, o_mpl, o_mia, o_mis, o_mbs, o_mc, mput_get, mput_arr, mput_let, mput_put, mset_get, mset_int, mset_let, mputL_get, mputL_arr, mputL_let, mputL_put, i64_8, mLen, vpL, nn_addL, nn_addR, nn_mulL, nn_add, nn_mul, nn_eqL, nn_ltL, nn_leL, nn_Llt, nn_Lle, nn_lt, nn_le, nn_eq, nn_in, nn_clamp, nn_succ, nn_pos, nn_neg1, msA_get, msA_int, msA_let, mset_msA, upd9_get, h12, b0, b1, b3, b4]
      simp [bX2_parse_171, o_ic, o_lc, o_null, o_il, o_ll, o_al, o_dup, o_pop, o_dup_x1, o_dup2, o_iadd, o_isub, o_imul, o_iand, o_ior, o_ixor, o_ishl, o_ishr, o_idiv, o_irem, o_ineg, o_ladd, o_lsub, o_lmul, o_land, o_lor, o_lxor, o_ldiv, o_lrem, o_lneg, o_lcmp, o_i2l, o_l2i, o_i2b, o_i2c, o_iushr, o_lshl, o_lshr, o_if_eq, o_if_ne, o_if_lt, o_if_ge, o_if_gt, o_if_le, o_icmp_eq, o_icmp_ne, o_icmp_lt, o_icmp_ge, o_icmp_gt, o_icmp_le, o_ifnull, o_ifnonnull, o_acmp_eq, o_acmp_ne, o_is, o_ls, o_as, o_iinc, o_kill, o_sw, o_ireturn, o_zreturn, o_nreturn, o_lreturn, o_areturn, o_return, o_athrow, o_call, entP, lg_sl, Value.category, st1, st2, List.set, List.getElem?_cons_zero, List.getElem?_cons_succ, List.foldl, popN, aft, o_mg, o_mgl, o_mga, o_mp, o_mpz, o_mpl, o_mia, o_mis, o_mbs, o_mc, mput_get, mput_arr, mput_let, mput_put, mset_get, mset_int, mset_let, mputL_get, mputL_arr, mputL_let, mputL_put, i64_8, mLen] at this ⊢
      exact this
    | succ r ih =>
      intro q φ e1 h1 h2
      apply hX
      have hq : q < (sms R.1).length := by omega
      have b1 : q < 2147483648 := by omega
      have b4 : ¬ (sms R.1).length ≤ q := by omega
      simp [o_ic, o_lc, o_null, o_il, o_ll, o_al, o_dup, o_pop, o_dup_x1, o_dup2, o_iadd, o_isub, o_imul, o_iand, o_ior, o_ixor, o_ishl, o_ishr, o_idiv, o_irem, o_ineg, o_ladd, o_lsub, o_lmul, o_land, o_lor, o_lxor, o_ldiv, o_lrem, o_lneg, o_lcmp, o_i2l, o_l2i, o_i2b, o_i2c, o_iushr, o_lshl, o_lshr, o_if_eq, o_if_ne, o_if_lt, o_if_ge, o_if_gt, o_if_le, o_icmp_eq, o_icmp_ne, o_icmp_lt, o_icmp_ge, o_icmp_gt, o_icmp_le, o_ifnull, o_ifnonnull, o_acmp_eq, o_acmp_ne, o_is, o_ls, o_as, o_iinc, o_kill, o_sw, o_ireturn, o_zreturn, o_nreturn, o_lreturn, o_areturn, o_return, o_athrow, o_call, entP, lg_sl, Value.category, st1, st2, List.set, List.getElem?_cons_zero, List.getElem?_cons_succ, List.foldl, popN, aft, o_mg, o_mgl, o_mga, o_mp, o_mpz, o_mpl, o_mia, o_mis, o_mbs, o_mc, mput_get, mput_arr, mput_let, mput_put, mset_get, mset_int, mset_let, mputL_get, mputL_arr, mputL_let, mputL_put, i64_8, mLen, vpL, nn_addL, nn_addR, nn_mulL, nn_add, nn_mul, nn_eqL, nn_ltL, nn_leL, nn_Llt, nn_Lle, nn_lt, nn_le, nn_eq, nn_in, nn_clamp, nn_succ, nn_pos, nn_neg1, msA_get, msA_int, msA_let, mset_msA, upd9_get, h12, b0, b1, hq, b4]
      refine x_settle h hq (fun φ' g1 g2 => ?_)
      simp [o_ic, o_lc, o_null, o_il, o_ll, o_al, o_dup, o_pop, o_dup_x1, o_dup2, o_iadd, o_isub, o_imul, o_iand, o_ior, o_ixor, o_ishl, o_ishr, o_idiv, o_irem, o_ineg, o_ladd, o_lsub, o_lmul, o_land, o_lor, o_lxor, o_ldiv, o_lrem, o_lneg, o_lcmp, o_i2l, o_l2i, o_i2b, o_i2c, o_iushr, o_lshl, o_lshr, o_if_eq, o_if_ne, o_if_lt, o_if_ge, o_if_gt, o_if_le, o_icmp_eq, o_icmp_ne, o_icmp_lt, o_icmp_ge, o_icmp_gt, o_icmp_le, o_ifnull, o_ifnonnull, o_acmp_eq, o_acmp_ne, o_is, o_ls, o_as, o_iinc, o_kill, o_sw, o_ireturn, o_zreturn, o_nreturn, o_lreturn, o_areturn, o_return, o_athrow, o_call, entP, lg_sl, Value.category, st1, st2, List.set, List.getElem?_cons_zero, List.getElem?_cons_succ, List.foldl, popN, aft, o_mg, o_mgl, o_mga, o_mp, o_mpz, o_mpl, o_mia, o_mis, o_mbs, o_mc, mput_get, mput_arr, mput_let, mput_put, mset_get, mset_int, mset_let, mputL_get, mputL_arr, mputL_let, mputL_put, i64_8, mLen, vpL, nn_addL, nn_addR, nn_mulL, nn_add, nn_mul, nn_eqL, nn_ltL, nn_leL, nn_Llt, nn_Lle, nn_lt, nn_le, nn_eq, nn_in, nn_clamp, nn_succ, nn_pos, nn_neg1]
      refine ih (q + 1) φ' (by omega) (fun e he j hj => ?_) (fun x hx => ?_)
      · by_cases c : e = q
        · subst c; exact g1 j hj
        · rw [g2 _ (by omega)]; exact h1 e (by omega) j hj
      · rw [g2 x (by omega)]; exact h2 x hx
  have := hind (sms R.1).length 0 (ms.2.2 31) (by omega) (fun e he => by omega) (fun _ _ => rfl)
  rw [msA_self] at this
  exact this
theorem x_parse {mo : Nat} {Q : Ret MS} {tp : Nat → Nat} {td : Nat} {ms : MS} {p : Nat} (hp : p < 4) (hT : TapeM ms tp td)
    (k : ∀ ms' v, ms'.1 1 = 0 → PrA ms ms' p v (prs tp td) → Q (.inl (some (.int v))) ms') : pX2_parse mo [.ref mo, .int (nn p)] ms Q := by
  refine x_parse1 hp hT (fun ms1 f1 a1 => ?_)
  unfold prs at k
  have bad : ∀ (e : Flt) ms2, FrG PB ksL ms ms2 → BadM ms2 e → (∀ ms' v, ms'.1 1 = 0 → PrA ms ms' p v (.error e) → Q (.inl (some (.int v))) ms') → bX2_parse_106 mo Q [some (.ref mo), some (.int (nn p)), none] [] ms2 := by
    intro e ms2 fr hB kk
    obtain ⟨q1, q2, q3, q4⟩ := hB.ne
    simp [bX2_parse_106, o_ic, o_lc, o_null, o_il, o_ll, o_al, o_dup, o_pop, o_dup_x1, o_dup2, o_iadd, o_isub, o_imul, o_iand, o_ior, o_ixor, o_ishl, o_ishr, o_idiv, o_irem, o_ineg, o_ladd, o_lsub, o_lmul, o_land, o_lor, o_lxor, o_ldiv, o_lrem, o_lneg, o_lcmp, o_i2l, o_l2i, o_i2b, o_i2c, o_iushr, o_lshl, o_lshr, o_if_eq, o_if_ne, o_if_lt, o_if_ge, o_if_gt, o_if_le, o_icmp_eq, o_icmp_ne, o_icmp_lt, o_icmp_ge, o_icmp_gt, o_icmp_le, o_ifnull, o_ifnonnull, o_acmp_eq, o_acmp_ne, o_is, o_ls, o_as, o_iinc, o_kill, o_sw, o_ireturn, o_zreturn, o_nreturn, o_lreturn, o_areturn, o_return, o_athrow, o_call, entP, lg_sl, Value.category, st1, st2, List.set, List.getElem?_cons_zero, List.getElem?_cons_succ, List.foldl, popN, aft, o_mg, o_mgl, o_mga, o_mp, o_mpz, o_mpl, o_mia, o_mis, o_mbs, o_mc, mput_get, mput_arr, mput_let, mput_put, mset_get, mset_int, mset_let, mputL_get, mputL_arr, mputL_let, mputL_put, i64_8, mLen, vpL, nn_addL, nn_addR, nn_mulL, nn_add, nn_mul, nn_eqL, nn_ltL, nn_leL, nn_Llt, nn_Lle, nn_lt, nn_le, nn_eq, nn_in, nn_clamp, nn_succ, nn_pos, nn_neg1, q1, q2, q3]
    rw [hB.2.1]
    refine kk _ _ (by simp [mput_get, mput_arr, mput_let, mput_put, mset_get, mset_int, mset_let, mputL_get, mputL_arr, mputL_let, mputL_put, i64_8, mLen]) ⟨FrG.put (FrG.put (fr.mono (fun j hj => by simp at hj ⊢; omega) (fun _ _ z => z)) (by simp)) (by simp), rfl, by simp [mput_get, mput_arr, mput_let, mput_put, mset_get, mset_int, mset_let, mputL_get, mputL_arr, mputL_let, mputL_put, i64_8, mLen]⟩
  cases hr : rdR tp td with
  | error e =>
    rw [hr] at k a1
    have hB : BadM ms1 e := a1
    obtain ⟨q1, q2, q3, q4⟩ := hB.ne
    simp [bX2_parse_95, o_ic, o_lc, o_null, o_il, o_ll, o_al, o_dup, o_pop, o_dup_x1, o_dup2, o_iadd, o_isub, o_imul, o_iand, o_ior, o_ixor, o_ishl, o_ishr, o_idiv, o_irem, o_ineg, o_ladd, o_lsub, o_lmul, o_land, o_lor, o_lxor, o_ldiv, o_lrem, o_lneg, o_lcmp, o_i2l, o_l2i, o_i2b, o_i2c, o_iushr, o_lshl, o_lshr, o_if_eq, o_if_ne, o_if_lt, o_if_ge, o_if_gt, o_if_le, o_icmp_eq, o_icmp_ne, o_icmp_lt, o_icmp_ge, o_icmp_gt, o_icmp_le, o_ifnull, o_ifnonnull, o_acmp_eq, o_acmp_ne, o_is, o_ls, o_as, o_iinc, o_kill, o_sw, o_ireturn, o_zreturn, o_nreturn, o_lreturn, o_areturn, o_return, o_athrow, o_call, entP, lg_sl, Value.category, st1, st2, List.set, List.getElem?_cons_zero, List.getElem?_cons_succ, List.foldl, popN, aft, o_mg, o_mgl, o_mga, o_mp, o_mpz, o_mpl, o_mia, o_mis, o_mbs, o_mc, mput_get, mput_arr, mput_let, mput_put, mset_get, mset_int, mset_let, mputL_get, mputL_arr, mputL_let, mputL_put, i64_8, mLen, vpL, nn_addL, nn_addR, nn_mulL, nn_add, nn_mul, nn_eqL, nn_ltL, nn_leL, nn_Llt, nn_Lle, nn_lt, nn_le, nn_eq, nn_in, nn_clamp, nn_succ, nn_pos, nn_neg1, q1, q2, q3]
    exact bad e ms1 f1 hB k
  | ok R =>
    rw [hr] at k a1
    simp only at k
    obtain ⟨b0, hR, hz⟩ := a1
    obtain ⟨w, hnb⟩ := rdR_wf hr
    simp [bX2_parse_95, o_ic, o_lc, o_null, o_il, o_ll, o_al, o_dup, o_pop, o_dup_x1, o_dup2, o_iadd, o_isub, o_imul, o_iand, o_ior, o_ixor, o_ishl, o_ishr, o_idiv, o_irem, o_ineg, o_ladd, o_lsub, o_lmul, o_land, o_lor, o_lxor, o_ldiv, o_lrem, o_lneg, o_lcmp, o_i2l, o_l2i, o_i2b, o_i2c, o_iushr, o_lshl, o_lshr, o_if_eq, o_if_ne, o_if_lt, o_if_ge, o_if_gt, o_if_le, o_icmp_eq, o_icmp_ne, o_icmp_lt, o_icmp_ge, o_icmp_gt, o_icmp_le, o_ifnull, o_ifnonnull, o_acmp_eq, o_acmp_ne, o_is, o_ls, o_as, o_iinc, o_kill, o_sw, o_ireturn, o_zreturn, o_nreturn, o_lreturn, o_areturn, o_return, o_athrow, o_call, entP, lg_sl, Value.category, st1, st2, List.set, List.getElem?_cons_zero, List.getElem?_cons_succ, List.foldl, popN, aft, o_mg, o_mgl, o_mga, o_mp, o_mpz, o_mpl, o_mia, o_mis, o_mbs, o_mc, mput_get, mput_arr, mput_let, mput_put, mset_get, mset_int, mset_let, mputL_get, mputL_arr, mputL_let, mputL_put, i64_8, mLen, vpL, nn_addL, nn_addR, nn_mulL, nn_add, nn_mul, nn_eqL, nn_ltL, nn_leL, nn_Llt, nn_Lle, nn_lt, nn_le, nn_eq, nn_in, nn_clamp, nn_succ, nn_pos, nn_neg1, b0]
    refine x_ends w hnb hR hz b0 (fun ms2 f2 c2 => ?_)
    simp [o_ic, o_lc, o_null, o_il, o_ll, o_al, o_dup, o_pop, o_dup_x1, o_dup2, o_iadd, o_isub, o_imul, o_iand, o_ior, o_ixor, o_ishl, o_ishr, o_idiv, o_irem, o_ineg, o_ladd, o_lsub, o_lmul, o_land, o_lor, o_lxor, o_ldiv, o_lrem, o_lneg, o_lcmp, o_i2l, o_l2i, o_i2b, o_i2c, o_iushr, o_lshl, o_lshr, o_if_eq, o_if_ne, o_if_lt, o_if_ge, o_if_gt, o_if_le, o_icmp_eq, o_icmp_ne, o_icmp_lt, o_icmp_ge, o_icmp_gt, o_icmp_le, o_ifnull, o_ifnonnull, o_acmp_eq, o_acmp_ne, o_is, o_ls, o_as, o_iinc, o_kill, o_sw, o_ireturn, o_zreturn, o_nreturn, o_lreturn, o_areturn, o_return, o_athrow, o_call, entP, lg_sl, Value.category, st1, st2, List.set, List.getElem?_cons_zero, List.getElem?_cons_succ, List.foldl, popN, aft, o_mg, o_mgl, o_mga, o_mp, o_mpz, o_mpl, o_mia, o_mis, o_mbs, o_mc, mput_get, mput_arr, mput_let, mput_put, mset_get, mset_int, mset_let, mputL_get, mputL_arr, mputL_let, mputL_put, i64_8, mLen]
    have fr2 : FrG PB ksL ms ms2 := f1.trans (f2.mono (by simp) (fun k i z => by unfold PB; omega))
    cases hc : chk R with
    | some e =>
      rw [hc] at k c2
      exact bad e ms2 fr2 c2 k
    | none =>
      rw [hc] at k c2
      simp only at k
      have hTg := chk_tg hc
      have hR2 := hR.fr42 f2
      have b2 : ms2.1 32 = 0 := c2
      have l1 := w.1
      have l2 := w.2.1
      simp [bX2_parse_106, bX2_parse_134, o_ic, o_lc, o_null, o_il, o_ll, o_al, o_dup, o_pop, o_dup_x1, o_dup2, o_iadd, o_isub, o_imul, o_iand, o_ior, o_ixor, o_ishl, o_ishr, o_idiv, o_irem, o_ineg, o_ladd, o_lsub, o_lmul, o_land, o_lor, o_lxor, o_ldiv, o_lrem, o_lneg, o_lcmp, o_i2l, o_l2i, o_i2b, o_i2c, o_iushr, o_lshl, o_lshr, o_if_eq, o_if_ne, o_if_lt, o_if_ge, o_if_gt, o_if_le, o_icmp_eq, o_icmp_ne, o_icmp_lt, o_icmp_ge, o_icmp_gt, o_icmp_le, o_ifnull, o_ifnonnull, o_acmp_eq, o_acmp_ne, o_is, o_ls, o_as, o_iinc, o_kill, o_sw, o_ireturn, o_zreturn, o_nreturn, o_lreturn, o_areturn, o_return, o_athrow, o_call, entP, lg_sl, Value.category, st1, st2, List.set, List.getElem?_cons_zero, List.getElem?_cons_succ, List.foldl, popN, aft, o_mg, o_mgl, o_mga, o_mp, o_mpz, o_mpl, o_mia, o_mis, o_mbs, o_mc, mput_get, mput_arr, mput_let, mput_put, mset_get, mset_int, mset_let, mputL_get, mputL_arr, mputL_let, mputL_put, i64_8, mLen, vpL, nn_addL, nn_addR, nn_mulL, nn_add, nn_mul, nn_eqL, nn_ltL, nn_leL, nn_Llt, nn_Lle, nn_lt, nn_le, nn_eq, nn_in, nn_clamp, nn_succ, nn_pos, nn_neg1, b2]
      have h38 := hR2.2.2.2.2.1.2.1
      generalize hm3 : mput (mput ms2 1 0) 34 0 = ms3
      have fr3 : FrG PB (1 :: 34 :: ksL) ms ms3 := by rw [← hm3]; exact FrG.put (FrG.put (fr2.mono (fun j hj => by simp at hj ⊢; omega) (fun _ _ z => z)) (by simp)) (by simp)
      have hR3 : RdM ms3 R.1 R.2 := by rw [← hm3]; exact (hR2.put (Or.inl rfl)).put (Or.inr rfl)
      have e1 : ms3.1 1 = 0 := by rw [← hm3]; simp [mput_get, mput_arr, mput_let, mput_put, mset_get, mset_int, mset_let, mputL_get, mputL_arr, mputL_let, mputL_put, i64_8, mLen]
      have e34 : ms3.1 34 = 0 := by rw [← hm3]; simp [mput_get, mput_arr, mput_let, mput_put, mset_get, mset_int, mset_let, mputL_get, mputL_arr, mputL_let, mputL_put, i64_8, mLen]
      by_cases hm : 32 < (sms R.1).length
      · rw [if_pos hm] at h38
        refine ⟨fun z => by rw [h38] at z; exact absurd z (by decide), fun _ => ?_⟩
        exact k ms3 _ e1 ⟨w, hTg, e34, Or.inl ⟨hm, fr3, rfl⟩⟩
      · rw [if_neg hm] at h38
        refine ⟨fun _ => ?_, fun z => absurd h38 z⟩
        simp [bX2_parse_144, o_ic, o_lc, o_null, o_il, o_ll, o_al, o_dup, o_pop, o_dup_x1, o_dup2, o_iadd, o_isub, o_imul, o_iand, o_ior, o_ixor, o_ishl, o_ishr, o_idiv, o_irem, o_ineg, o_ladd, o_lsub, o_lmul, o_land, o_lor, o_lxor, o_ldiv, o_lrem, o_lneg, o_lcmp, o_i2l, o_l2i, o_i2b, o_i2c, o_iushr, o_lshl, o_lshr, o_if_eq, o_if_ne, o_if_lt, o_if_ge, o_if_gt, o_if_le, o_icmp_eq, o_icmp_ne, o_icmp_lt, o_icmp_ge, o_icmp_gt, o_icmp_le, o_ifnull, o_ifnonnull, o_acmp_eq, o_acmp_ne, o_is, o_ls, o_as, o_iinc, o_kill, o_sw, o_ireturn, o_zreturn, o_nreturn, o_lreturn, o_areturn, o_return, o_athrow, o_call, entP, lg_sl, Value.category, st1, st2, List.set, List.getElem?_cons_zero, List.getElem?_cons_succ, List.foldl, popN, aft, o_mg, o_mgl, o_mga, o_mp, o_mpz, o_mpl, o_mia, o_mis, o_mbs, o_mc, mput_get, mput_arr, mput_let, mput_put, mset_get, mset_int, mset_let, mputL_get, mputL_arr, mputL_let, mputL_put, i64_8, mLen]
        refine x_lead w hR3 (by omega) hTg (fun ms4 f4 i4 j4 n4 => ?_)
        simp [o_ic, o_lc, o_null, o_il, o_ll, o_al, o_dup, o_pop, o_dup_x1, o_dup2, o_iadd, o_isub, o_imul, o_iand, o_ior, o_ixor, o_ishl, o_ishr, o_idiv, o_irem, o_ineg, o_ladd, o_lsub, o_lmul, o_land, o_lor, o_lxor, o_ldiv, o_lrem, o_lneg, o_lcmp, o_i2l, o_l2i, o_i2b, o_i2c, o_iushr, o_lshl, o_lshr, o_if_eq, o_if_ne, o_if_lt, o_if_ge, o_if_gt, o_if_le, o_icmp_eq, o_icmp_ne, o_icmp_lt, o_icmp_ge, o_icmp_gt, o_icmp_le, o_ifnull, o_ifnonnull, o_acmp_eq, o_acmp_ne, o_is, o_ls, o_as, o_iinc, o_kill, o_sw, o_ireturn, o_zreturn, o_nreturn, o_lreturn, o_areturn, o_return, o_athrow, o_call, entP, lg_sl, Value.category, st1, st2, List.set, List.getElem?_cons_zero, List.getElem?_cons_succ, List.foldl, popN, aft, o_mg, o_mgl, o_mga, o_mp, o_mpz, o_mpl, o_mia, o_mis, o_mbs, o_mc, mput_get, mput_arr, mput_let, mput_put, mset_get, mset_int, mset_let, mputL_get, mputL_arr, mputL_let, mputL_put, i64_8, mLen]
        have hTb : TbM ms4 R := ⟨n4, w, hTg, by omega⟩
        refine x_settles hTb (fun φ g1 g2 => ?_)
        simp [bX2_parse_171, o_ic, o_lc, o_null, o_il, o_ll, o_al, o_dup, o_pop, o_dup_x1, o_dup2, o_iadd, o_isub, o_imul, o_iand, o_ior, o_ixor, o_ishl, o_ishr, o_idiv, o_irem, o_ineg, o_ladd, o_lsub, o_lmul, o_land, o_lor, o_lxor, o_ldiv, o_lrem, o_lneg, o_lcmp, o_i2l, o_l2i, o_i2b, o_i2c, o_iushr, o_lshl, o_lshr, o_if_eq, o_if_ne, o_if_lt, o_if_ge, o_if_gt, o_if_le, o_icmp_eq, o_icmp_ne, o_icmp_lt, o_icmp_ge, o_icmp_gt, o_icmp_le, o_ifnull, o_ifnonnull, o_acmp_eq, o_acmp_ne, o_is, o_ls, o_as, o_iinc, o_kill, o_sw, o_ireturn, o_zreturn, o_nreturn, o_lreturn, o_areturn, o_return, o_athrow, o_call, entP, lg_sl, Value.category, st1, st2, List.set, List.getElem?_cons_zero, List.getElem?_cons_succ, List.foldl, popN, aft, o_mg, o_mgl, o_mga, o_mp, o_mpz, o_mpl, o_mia, o_mis, o_mbs, o_mc, mput_get, mput_arr, mput_let, mput_put, mset_get, mset_int, mset_let, mputL_get, mputL_arr, mputL_let, mputL_put, i64_8, mLen]
        refine x_copy hp hTb.fa (fun e he j hj => by rw [msA_get, if_pos rfl]; exact g1 e he j hj) (fun ms5 f5 i5 p5 z5 => ?_)
        have bp : p < 2147483648 := by omega
        have bp5 : p < 5 := by omega
        simp [o_ic, o_lc, o_null, o_il, o_ll, o_al, o_dup, o_pop, o_dup_x1, o_dup2, o_iadd, o_isub, o_imul, o_iand, o_ior, o_ixor, o_ishl, o_ishr, o_idiv, o_irem, o_ineg, o_ladd, o_lsub, o_lmul, o_land, o_lor, o_lxor, o_ldiv, o_lrem, o_lneg, o_lcmp, o_i2l, o_l2i, o_i2b, o_i2c, o_iushr, o_lshl, o_lshr, o_if_eq, o_if_ne, o_if_lt, o_if_ge, o_if_gt, o_if_le, o_icmp_eq, o_icmp_ne, o_icmp_lt, o_icmp_ge, o_icmp_gt, o_icmp_le, o_ifnull, o_ifnonnull, o_acmp_eq, o_acmp_ne, o_is, o_ls, o_as, o_iinc, o_kill, o_sw, o_ireturn, o_zreturn, o_nreturn, o_lreturn, o_areturn, o_return, o_athrow, o_call, entP, lg_sl, Value.category, st1, st2, List.set, List.getElem?_cons_zero, List.getElem?_cons_succ, List.foldl, popN, aft, o_mg, o_mgl, o_mga, o_mp, o_mpz, o_mpl, o_mia, o_mis, o_mbs, o_mc, mput_get, mput_arr, mput_let, mput_put, mset_get, mset_int, mset_let, mputL_get, mputL_arr, mputL_let, mputL_put, i64_8, mLen, vpL, nn_addL, nn_addR, nn_mulL, nn_add, nn_mul, nn_eqL, nn_ltL, nn_leL, nn_Llt, nn_Lle, nn_lt, nn_le, nn_eq, nn_in, nn_clamp, nn_succ, nn_pos, nn_neg1, bp, bp5, p5.1.2.2.1]
        have fr5 : FrG (fun k i => PB k i ∨ PC p k i) (1 :: 34 :: ksL) ms ms5 := by
          refine FrG.trans (fr3.mono (fun _ z => z) (fun k i z => Or.inl z)) (FrG.trans (f4.mono (by simp) (fun k i z => Or.inl z)) (FrG.trans ?_ (f5.mono (by simp) (fun k i z => Or.inr z))))
          refine ⟨fun _ _ _ => rfl, fun j i hn => ?_⟩
          rw [msA_get]
          by_cases c : j = 31
          · subst c
            rw [if_pos rfl]
            exact g2 i (by unfold PB at hn; omega)
          · rw [if_neg c]
        refine k ms5 _ ?_ ⟨w, hTg, ?_, Or.inr ⟨by omega, fr5, rfl, p5, z5⟩⟩
        · rw [i5]; show ms4.1 1 = 0; rw [i4]; exact e1
        · rw [i5]; show ms4.1 34 = 0; rw [i4]; exact e34
theorem x_parseN {mo : Nat} {Q : Ret MS} {ms : MS} {p : Int32} (hp : p < 0 ∨ 3 < p) (k : Q (.inl (some (.int (-1)))) ms) : pX2_parse mo [.ref mo, .int p] ms Q := by
  simp [pX2_parse, bX2_parse_0, bX2_parse_9, o_ic, o_lc, o_null, o_il, o_ll, o_al, o_dup, o_pop, o_dup_x1, o_dup2, o_iadd, o_isub, o_imul, o_iand, o_ior, o_ixor, o_ishl, o_ishr, o_idiv, o_irem, o_ineg, o_ladd, o_lsub, o_lmul, o_land, o_lor, o_lxor, o_ldiv, o_lrem, o_lneg, o_lcmp, o_i2l, o_l2i, o_i2b, o_i2c, o_iushr, o_lshl, o_lshr, o_if_eq, o_if_ne, o_if_lt, o_if_ge, o_if_gt, o_if_le, o_icmp_eq, o_icmp_ne, o_icmp_lt, o_icmp_ge, o_icmp_gt, o_icmp_le, o_ifnull, o_ifnonnull, o_acmp_eq, o_acmp_ne, o_is, o_ls, o_as, o_iinc, o_kill, o_sw, o_ireturn, o_zreturn, o_nreturn, o_lreturn, o_areturn, o_return, o_athrow, o_call, entP, lg_sl, Value.category, st1, st2, List.set, List.getElem?_cons_zero, List.getElem?_cons_succ, List.foldl, popN, aft, o_mg, o_mgl, o_mga, o_mp, o_mpz, o_mpl, o_mia, o_mis, o_mbs, o_mc, mput_get, mput_arr, mput_let, mput_put, mset_get, mset_int, mset_let, mputL_get, mputL_arr, mputL_let, mputL_put, i64_8, mLen]
  refine ⟨fun _ => k, fun h => ⟨fun h2 => ?_, fun _ => k⟩⟩
  rw [Int32.lt_iff_toInt_lt, Int32.lt_iff_toInt_lt] at hp
  rw [Int32.le_iff_toInt_le] at h h2
  omega
