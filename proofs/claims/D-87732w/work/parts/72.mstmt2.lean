/-! THE MODEL reads a statement: all of it -/
set_option maxRecDepth 100000
/-- what statement may write -/
def PS (n : Nat) : Nat → Nat → Prop := fun k i => PL n k i ∨ (k = 10 ∧ i = 4)
theorem x_st225 {mo : Nat} {Q : Ret MS} {tp : Nat → Nat} {td : Nat} {ms : MS} {r : Except Flt Nat} {v : Int32} {x1 x2 x3 : Option Value} (hT : TapeM ms tp td) (hp : PM tp td r ms) (hv : v = 0 ∨ v = 1)
    (k : ∀ ms', FrK [32, 33] ms ms' → PM tp td (r.bind (fun g => sgx tp td g 59)) ms' → Q (.inl (some (.int v))) ms') : bX2_statement_225 mo Q [some (.ref mo), x1, x2, x3, some (.int v)] [] ms := by
  simp [bX2_statement_225, o_ic, o_lc, o_null, o_il, o_ll, o_al, o_dup, o_pop, o_dup_x1, o_dup2, o_iadd, o_isub, o_imul, o_iand, o_ior, o_ixor, o_ishl, o_ishr, o_idiv, o_irem, o_ineg, o_ladd, o_lsub, o_lmul, o_land, o_lor, o_lxor, o_ldiv, o_lrem, o_lneg, o_lcmp, o_i2l, o_l2i, o_i2b, o_i2c, o_iushr, o_lshl, o_lshr, o_if_eq, o_if_ne, o_if_lt, o_if_ge, o_if_gt, o_if_le, o_icmp_eq, o_icmp_ne, o_icmp_lt, o_icmp_ge, o_icmp_gt, o_icmp_le, o_ifnull, o_ifnonnull, o_acmp_eq, o_acmp_ne, o_is, o_ls, o_as, o_iinc, o_kill, o_sw, o_ireturn, o_zreturn, o_nreturn, o_lreturn, o_areturn, o_return, o_athrow, o_call, entP, lg_sl, Value.category, st1, st2, List.set, List.getElem?_cons_zero, List.getElem?_cons_succ, List.foldl, popN, aft, o_mg, o_mgl, o_mga, o_mp, o_mpz, o_mpl, o_mia, o_mis, o_mbs, o_mc, mput_get, mput_arr, mput_let, mput_put, mset_get, mset_int, mset_let, mputL_get, mputL_arr, mputL_let, mputL_put, i64_8, mLen]
  refine x_take (c := 59) hT hp (by omega) (fun ms' f p => ?_)
  simp [o_ic, o_lc, o_null, o_il, o_ll, o_al, o_dup, o_pop, o_dup_x1, o_dup2, o_iadd, o_isub, o_imul, o_iand, o_ior, o_ixor, o_ishl, o_ishr, o_idiv, o_irem, o_ineg, o_ladd, o_lsub, o_lmul, o_land, o_lor, o_lxor, o_ldiv, o_lrem, o_lneg, o_lcmp, o_i2l, o_l2i, o_i2b, o_i2c, o_iushr, o_lshl, o_lshr, o_if_eq, o_if_ne, o_if_lt, o_if_ge, o_if_gt, o_if_le, o_icmp_eq, o_icmp_ne, o_icmp_lt, o_icmp_ge, o_icmp_gt, o_icmp_le, o_ifnull, o_ifnonnull, o_acmp_eq, o_acmp_ne, o_is, o_ls, o_as, o_iinc, o_kill, o_sw, o_ireturn, o_zreturn, o_nreturn, o_lreturn, o_areturn, o_return, o_athrow, o_call, entP, lg_sl, Value.category, st1, st2, List.set, List.getElem?_cons_zero, List.getElem?_cons_succ, List.foldl, popN, aft, o_mg, o_mgl, o_mga, o_mp, o_mpz, o_mpl, o_mia, o_mis, o_mbs, o_mc]
  exact ⟨hv, k ms' f p⟩
theorem x_statement {mo : Nat} {Q : Ret MS} {tp : Nat → Nat} {td : Nat} {ms : MS} {f : Nat} {fs : List FIt} {hs : List (Nat × Nat)} (hT : TapeM ms tp td) (hp : TokM ms tp td f) (hb : ms.1 32 = 0) (hR : RdM ms fs hs) (h0 : 0 < hs.length) (hz : (nmz fs).length + 2 ≤ 200)
    (k : ∀ v ms', FrG (PS (960 + fs.length)) ksL ms ms' → PM tp td ((stmt tp td f fs.length).map (·.2)) ms' → (∀ it g, stmt tp td f fs.length = .ok (it, g) → v = (if 4 ≤ it.1 then 1 else 0) ∧ RdM ms' (fs ++ [(hs.length - 1, it)]) hs) → Q (.inl (some (.int v))) ms') : pX2_statement mo [.ref mo] ms Q := by
  have hlen := hR.2.2.2.2.2.2.1
  have hlh := hR.2.2.2.2.2.2.2
  have b1 : fs.length < 2147483648 := by omega
  simp [pX2_statement, bX2_statement_0, o_ic, o_lc, o_null, o_il, o_ll, o_al, o_dup, o_pop, o_dup_x1, o_dup2, o_iadd, o_isub, o_imul, o_iand, o_ior, o_ixor, o_ishl, o_ishr, o_idiv, o_irem, o_ineg, o_ladd, o_lsub, o_lmul, o_land, o_lor, o_lxor, o_ldiv, o_lrem, o_lneg, o_lcmp, o_i2l, o_l2i, o_i2b, o_i2c, o_iushr, o_lshl, o_lshr, o_if_eq, o_if_ne, o_if_lt, o_if_ge, o_if_gt, o_if_le, o_icmp_eq, o_icmp_ne, o_icmp_lt, o_icmp_ge, o_icmp_gt, o_icmp_le, o_ifnull, o_ifnonnull, o_acmp_eq, o_acmp_ne, o_is, o_ls, o_as, o_iinc, o_kill, o_sw, o_ireturn, o_zreturn, o_nreturn, o_lreturn, o_areturn, o_return, o_athrow, o_call, entP, lg_sl, Value.category, st1, st2, List.set, List.getElem?_cons_zero, List.getElem?_cons_succ, List.foldl, popN, aft, o_mg, o_mgl, o_mga, o_mp, o_mpz, o_mpl, o_mia, o_mis, o_mbs, o_mc, mput_get, mput_arr, mput_let, mput_put, mset_get, mset_int, mset_let, mputL_get, mputL_arr, mputL_let, mputL_put, i64_8, mLen]
  refine m_mayBegin hT hp ?_
  unfold stmt at k
  by_cases hB' : begs tp td f = false
  · rw [if_pos hB'] at k
    simp [hB', o_ic, o_lc, o_null, o_il, o_ll, o_al, o_dup, o_pop, o_dup_x1, o_dup2, o_iadd, o_isub, o_imul, o_iand, o_ior, o_ixor, o_ishl, o_ishr, o_idiv, o_irem, o_ineg, o_ladd, o_lsub, o_lmul, o_land, o_lor, o_lxor, o_ldiv, o_lrem, o_lneg, o_lcmp, o_i2l, o_l2i, o_i2b, o_i2c, o_iushr, o_lshl, o_lshr, o_if_eq, o_if_ne, o_if_lt, o_if_ge, o_if_gt, o_if_le, o_icmp_eq, o_icmp_ne, o_icmp_lt, o_icmp_ge, o_icmp_gt, o_icmp_le, o_ifnull, o_ifnonnull, o_acmp_eq, o_acmp_ne, o_is, o_ls, o_as, o_iinc, o_kill, o_sw, o_ireturn, o_zreturn, o_nreturn, o_lreturn, o_areturn, o_return, o_athrow, o_call, entP, lg_sl, Value.category, st1, st2, List.set, List.getElem?_cons_zero, List.getElem?_cons_succ, List.foldl, popN, aft, o_mg, o_mgl, o_mga, o_mp, o_mpz, o_mpl, o_mia, o_mis, o_mbs, o_mc]
    refine m_must0 (n := 2) hp hb (by omega) (by omega) ?_
    simp [bX2_statement_37, o_ic, o_lc, o_null, o_il, o_ll, o_al, o_dup, o_pop, o_dup_x1, o_dup2, o_iadd, o_isub, o_imul, o_iand, o_ior, o_ixor, o_ishl, o_ishr, o_idiv, o_irem, o_ineg, o_ladd, o_lsub, o_lmul, o_land, o_lor, o_lxor, o_ldiv, o_lrem, o_lneg, o_lcmp, o_i2l, o_l2i, o_i2b, o_i2c, o_iushr, o_lshl, o_lshr, o_if_eq, o_if_ne, o_if_lt, o_if_ge, o_if_gt, o_if_le, o_icmp_eq, o_icmp_ne, o_icmp_lt, o_icmp_ge, o_icmp_gt, o_icmp_le, o_ifnull, o_ifnonnull, o_acmp_eq, o_acmp_ne, o_is, o_ls, o_as, o_iinc, o_kill, o_sw, o_ireturn, o_zreturn, o_nreturn, o_lreturn, o_areturn, o_return, o_athrow, o_call, entP, lg_sl, Value.category, st1, st2, List.set, List.getElem?_cons_zero, List.getElem?_cons_succ, List.foldl, popN, aft]
    exact k _ _ ((FrG.rfl9.put (by simp)).put (by simp)) ⟨rfl, rfl, flt_r (by omega) (by omega)⟩ (fun it g h => by cases h)
  have hB : begs tp td f = true := by simpa using hB'
  rw [if_neg (by simp [hB])] at k
  simp [hB, o_ic, o_lc, o_null, o_il, o_ll, o_al, o_dup, o_pop, o_dup_x1, o_dup2, o_iadd, o_isub, o_imul, o_iand, o_ior, o_ixor, o_ishl, o_ishr, o_idiv, o_irem, o_ineg, o_ladd, o_lsub, o_lmul, o_land, o_lor, o_lxor, o_ldiv, o_lrem, o_lneg, o_lcmp, o_i2l, o_l2i, o_i2b, o_i2c, o_iushr, o_lshl, o_lshr, o_if_eq, o_if_ne, o_if_lt, o_if_ge, o_if_gt, o_if_le, o_icmp_eq, o_icmp_ne, o_icmp_lt, o_icmp_ge, o_icmp_gt, o_icmp_le, o_ifnull, o_ifnonnull, o_acmp_eq, o_acmp_ne, o_is, o_ls, o_as, o_iinc, o_kill, o_sw, o_ireturn, o_zreturn, o_nreturn, o_lreturn, o_areturn, o_return, o_athrow, o_call, entP, lg_sl, Value.category, st1, st2, List.set, List.getElem?_cons_zero, List.getElem?_cons_succ, List.foldl, popN, aft, o_mg, o_mgl, o_mga, o_mp, o_mpz, o_mpl, o_mia, o_mis, o_mbs, o_mc]
  refine m_must1 hb ?_
  simp [bX2_statement_29, bX2_statement_30, o_ic, o_lc, o_null, o_il, o_ll, o_al, o_dup, o_pop, o_dup_x1, o_dup2, o_iadd, o_isub, o_imul, o_iand, o_ior, o_ixor, o_ishl, o_ishr, o_idiv, o_irem, o_ineg, o_ladd, o_lsub, o_lmul, o_land, o_lor, o_lxor, o_ldiv, o_lrem, o_lneg, o_lcmp, o_i2l, o_l2i, o_i2b, o_i2c, o_iushr, o_lshl, o_lshr, o_if_eq, o_if_ne, o_if_lt, o_if_ge, o_if_gt, o_if_le, o_icmp_eq, o_icmp_ne, o_icmp_lt, o_icmp_ge, o_icmp_gt, o_icmp_le, o_ifnull, o_ifnonnull, o_acmp_eq, o_acmp_ne, o_is, o_ls, o_as, o_iinc, o_kill, o_sw, o_ireturn, o_zreturn, o_nreturn, o_lreturn, o_areturn, o_return, o_athrow, o_call, entP, lg_sl, Value.category, st1, st2, List.set, List.getElem?_cons_zero, List.getElem?_cons_succ, List.foldl, popN, aft, o_mg, o_mgl, o_mga, o_mp, o_mpz, o_mpl, o_mia, o_mis, o_mbs, o_mc, mput_get, mput_arr, mput_let, mput_put, mset_get, mset_int, mset_let, mputL_get, mputL_arr, mputL_let, mputL_put, i64_8, mLen, vpL, nn_addL, nn_addR, nn_mulL, nn_add, nn_mul, nn_eqL, nn_ltL, nn_leL, nn_Llt, nn_Lle, nn_lt, nn_le, nn_eq, nn_in, nn_clamp, nn_succ, nn_pos, nn_neg1, hR.1, b1]
  by_cases hl : 160 ≤ fs.length
  · rw [if_pos hl] at k
    refine ⟨fun _ => ?_, fun h => by omega⟩
    refine m_must0 (n := 3) hp hb (by omega) (by omega) ?_
    simp [bX2_statement_37, o_ic, o_lc, o_null, o_il, o_ll, o_al, o_dup, o_pop, o_dup_x1, o_dup2, o_iadd, o_isub, o_imul, o_iand, o_ior, o_ixor, o_ishl, o_ishr, o_idiv, o_irem, o_ineg, o_ladd, o_lsub, o_lmul, o_land, o_lor, o_lxor, o_ldiv, o_lrem, o_lneg, o_lcmp, o_i2l, o_l2i, o_i2b, o_i2c, o_iushr, o_lshl, o_lshr, o_if_eq, o_if_ne, o_if_lt, o_if_ge, o_if_gt, o_if_le, o_icmp_eq, o_icmp_ne, o_icmp_lt, o_icmp_ge, o_icmp_gt, o_icmp_le, o_ifnull, o_ifnonnull, o_acmp_eq, o_acmp_ne, o_is, o_ls, o_as, o_iinc, o_kill, o_sw, o_ireturn, o_zreturn, o_nreturn, o_lreturn, o_areturn, o_return, o_athrow, o_call, entP, lg_sl, Value.category, st1, st2, List.set, List.getElem?_cons_zero, List.getElem?_cons_succ, List.foldl, popN, aft]
    exact k _ _ ((FrG.rfl9.put (by simp)).put (by simp)) ⟨rfl, rfl, flt_r (by omega) (by omega)⟩ (fun it g h => by cases h)
  rw [if_neg hl] at k
  refine ⟨fun h => absurd h hl, fun _ => ?_⟩
  refine m_must1 hb ?_
  have b2 : 960 + fs.length < 2147483648 := by omega
  have b3 : 960 + fs.length < 1200 := by omega
  have b4 : hs.length < 2147483648 := by omega
  simp [bX2_statement_39, o_ic, o_lc, o_null, o_il, o_ll, o_al, o_dup, o_pop, o_dup_x1, o_dup2, o_iadd, o_isub, o_imul, o_iand, o_ior, o_ixor, o_ishl, o_ishr, o_idiv, o_irem, o_ineg, o_ladd, o_lsub, o_lmul, o_land, o_lor, o_lxor, o_ldiv, o_lrem, o_lneg, o_lcmp, o_i2l, o_l2i, o_i2b, o_i2c, o_iushr, o_lshl, o_lshr, o_if_eq, o_if_ne, o_if_lt, o_if_ge, o_if_gt, o_if_le, o_icmp_eq, o_icmp_ne, o_icmp_lt, o_icmp_ge, o_icmp_gt, o_icmp_le, o_ifnull, o_ifnonnull, o_acmp_eq, o_acmp_ne, o_is, o_ls, o_as, o_iinc, o_kill, o_sw, o_ireturn, o_zreturn, o_nreturn, o_lreturn, o_areturn, o_return, o_athrow, o_call, entP, lg_sl, Value.category, st1, st2, List.set, List.getElem?_cons_zero, List.getElem?_cons_succ, List.foldl, popN, aft, o_mg, o_mgl, o_mga, o_mp, o_mpz, o_mpl, o_mia, o_mis, o_mbs, o_mc, mput_get, mput_arr, mput_let, mput_put, mset_get, mset_int, mset_let, mputL_get, mputL_arr, mputL_let, mputL_put, i64_8, mLen, vpL, nn_addL, nn_addR, nn_mulL, nn_add, nn_mul, nn_eqL, nn_ltL, nn_leL, nn_Llt, nn_Lle, nn_lt, nn_le, nn_eq, nn_in, nn_clamp, nn_succ, nn_pos, nn_neg1, hR.1, hR.2.1, b1, b2, b3]
  rw [nn_pred h0]
  generalize hn : 960 + fs.length = n at b2 b3
  have hn9 : 960 ≤ n := by omega
  generalize hm1 : mset (mset (mset (mset (mset (mset ms 10 4 (nn (fs.length + 1))) 16 n (nn (hs.length - 1))) 17 n (-1)) 18 n (-1)) 19 n (-1)) 20 n (-1) = ms1
  have fr1 : FrG (fun k i => (k = 10 ∧ i = 4) ∨ PN n [16, 17, 18, 19, 20] k i) [] ms ms1 := by
    rw [← hm1]
    refine FrG.set (FrG.set (FrG.set (FrG.set (FrG.set (FrG.set FrG.rfl9 ?_) ?_) ?_) ?_) ?_) ?_
    · exact Or.inl ⟨rfl, rfl⟩
    all_goals exact Or.inr ⟨by simp, rfl⟩
  have hT1 : TapeM ms1 tp td := fr1.tape (by simp) (by simp [PN]) hT
  have ht1 : TokM ms1 tp td f := by rw [← hm1]; exact hp
  have hb1 : ms1.1 32 = 0 := by rw [← hm1]; exact hb
  have c10 : ms1.2.2 10 4 = nn (fs.length + 1) := by rw [← hm1]; simp [mput_get, mput_arr, mput_let, mput_put, mset_get, mset_int, mset_let, mputL_get, mputL_arr, mputL_let, mputL_put, i64_8, mLen]
  have c16 : ms1.2.2 16 n = nn (hs.length - 1) := by rw [← hm1]; simp [mput_get, mput_arr, mput_let, mput_put, mset_get, mset_int, mset_let, mputL_get, mputL_arr, mputL_let, mputL_put, i64_8, mLen]
  have c17 : ms1.2.2 17 n = -1 := by rw [← hm1]; simp [mput_get, mput_arr, mput_let, mput_put, mset_get, mset_int, mset_let, mputL_get, mputL_arr, mputL_let, mputL_put, i64_8, mLen]
  have c18 : ms1.2.2 18 n = -1 := by rw [← hm1]; simp [mput_get, mput_arr, mput_let, mput_put, mset_get, mset_int, mset_let, mputL_get, mputL_arr, mputL_let, mputL_put, i64_8, mLen]
  have c19 : ms1.2.2 19 n = -1 := by rw [← hm1]; simp [mput_get, mput_arr, mput_let, mput_put, mset_get, mset_int, mset_let, mputL_get, mputL_arr, mputL_let, mputL_put, i64_8, mLen]
  have c20 : ms1.2.2 20 n = -1 := by rw [← hm1]; simp [mput_get, mput_arr, mput_let, mput_put, mset_get, mset_int, mset_let, mputL_get, mputL_arr, mputL_let, mputL_put, i64_8, mLen]
  have hS1 : SumM ms1 (sms fs) := hR.2.2.2.2.1.fr fr1 (by simp) (by simp [PN]) (fun k i a b => by simp [PN]; omega)
  have hN1 : NmM ms1 (nmz fs) := hR.2.2.2.2.2.1.fr fr1 (by simp) (by simp [PN]) (by simp [PN])
  -- the end of each way
  have fin : ∀ (v : Int32) (ms2 : MS) (x2 x3 : Option Value) (P : Nat → Nat → Prop) (ks : List Nat), (v = 0 ∨ v = 1) → FrG P ks ms1 ms2 → (∀ j ∈ ks, j ∈ ksL) → (∀ j i, P j i → PL n j i) → PM tp td ((line9 tp td f).map (·.2)) ms2 → (∀ it g, line9 tp td f = .ok (it, g) → v = (if 4 ≤ it.1 then 1 else 0) ∧ ItM ms2 n (sAdd (sms fs) (iS it)) (hs.length - 1, it) ∧ SumM ms2 (sAdd (sms fs) (iS it)) ∧ NmM ms2 (nmz fs ++ iT it)) → bX2_statement_225 mo Q [some (.ref mo), some (.int (nn n)), x2, x3, some (.int v)] [] ms2 := by
    intro v ms2 x2 x3 P ks hv f2 hks hP p2 h2
    have f2' := f2.mono hks hP
    refine x_st225 (f2'.tape (by simp) (by simp [PL]) hT1) p2 hv (fun ms3 f3 p3 => ?_)
    have frA : FrG (PS n) ksL ms ms3 := by
      refine FrG.trans (FrG.trans (fr1.mono (by simp) (fun j i q => ?_)) (f2'.mono (fun _ q => q) (fun j i q => Or.inl q))) (f3.G.mono (by simp) (fun _ _ q => q))
      rcases q with q | q
      · exact Or.inr q
      · exact Or.inl (Or.inl ⟨by have := q.1; simp at this; omega, q.2⟩)
    refine k v ms3 (by rw [hn]; exact frA) ?_ (fun it g h => ?_)
    · have e : (do let (it, g) ← line9 tp td f; let g ← sgx tp td g 59; Except.ok (it, g) : Except Flt (Itm × Nat)).map (·.2) = ((line9 tp td f).map (·.2)).bind (fun g => sgx tp td g 59) := by
        cases line9 tp td f with
        | error e => rfl
        | ok x =>
          show ((sgx tp td x.2 59).bind (fun g => Except.ok (x.1, g))).map (·.2) = sgx tp td x.2 59
          cases sgx tp td x.2 59 <;> rfl
      exact e ▸ p3
    · cases h9 : line9 tp td f with
      | error e => rw [h9] at h; cases h
      | ok x =>
        rw [h9] at h
        have h' : (sgx tp td x.2 59).bind (fun g => Except.ok (x.1, g)) = .ok (it, g) := h
        cases h10 : sgx tp td x.2 59 with
        | error e => rw [h10] at h'; cases h'
        | ok g' =>
          rw [h10] at h'
          have h'' : (x.1, g') = (it, g) := Except.ok.inj h'
          cases h''
          obtain ⟨e1, e2, e3, e4⟩ := h2 x.1 x.2 h9
          refine ⟨e1, ?_⟩
          have f13 : FrG (PL n) ksL ms1 ms3 := f2'.trans (f3.G.mono (by simp) (fun _ _ q => q))
          refine RdM.add hR (by omega) frA (fun j i q => ?_) ?_ ?_ ?_ ?_
          · rw [hn]; exact q.imp id (fun q => q.1)
          · rw [f13.2 10 4 (by simp [PL])]; exact c10
          · rw [hn, sms_snoc]; exact e2.fr (fun j _ _ => by rw [f3.2])
          · rw [sms_snoc]; exact e3.fr (f3.G (P := fun _ _ => False)) (by simp) (by simp) (by simp)
          · rw [nmz_snoc]; exact e4.fr (f3.G (P := fun _ _ => False)) (by simp) (by simp) (by simp)
  clear k hm1
  refine m_named hT1 ht1 ?_
  simp [o_ic, o_lc, o_null, o_il, o_ll, o_al, o_dup, o_pop, o_dup_x1, o_dup2, o_iadd, o_isub, o_imul, o_iand, o_ior, o_ixor, o_ishl, o_ishr, o_idiv, o_irem, o_ineg, o_ladd, o_lsub, o_lmul, o_land, o_lor, o_lxor, o_ldiv, o_lrem, o_lneg, o_lcmp, o_i2l, o_l2i, o_i2b, o_i2c, o_iushr, o_lshl, o_lshr, o_if_eq, o_if_ne, o_if_lt, o_if_ge, o_if_gt, o_if_le, o_icmp_eq, o_icmp_ne, o_icmp_lt, o_icmp_ge, o_icmp_gt, o_icmp_le, o_ifnull, o_ifnonnull, o_acmp_eq, o_acmp_ne, o_is, o_ls, o_as, o_iinc, o_kill, o_sw, o_ireturn, o_zreturn, o_nreturn, o_lreturn, o_areturn, o_return, o_athrow, o_call, entP, lg_sl, Value.category, st1, st2, List.set, List.getElem?_cons_zero, List.getElem?_cons_succ, List.foldl, popN, aft, o_mg, o_mgl, o_mga, o_mp, o_mpz, o_mpl, o_mia, o_mis, o_mbs, o_mc, mput_get, mput_arr, mput_let, mput_put, mset_get, mset_int, mset_let, mputL_get, mputL_arr, mputL_let, mputL_put, i64_8, mLen]
  refine m_numbered (c := 114) (most := 1) hT1 ht1 (by omega) (by omega) ?_
  cases hnm : nmA tp td f with
  | some nm =>
    have bn := (nmA_srt hnm).2
    have b5 : nm < 2147483648 := by omega
    simp [bX2_statement_137, bX2_statement_138, o_ic, o_lc, o_null, o_il, o_ll, o_al, o_dup, o_pop, o_dup_x1, o_dup2, o_iadd, o_isub, o_imul, o_iand, o_ior, o_ixor, o_ishl, o_ishr, o_idiv, o_irem, o_ineg, o_ladd, o_lsub, o_lmul, o_land, o_lor, o_lxor, o_ldiv, o_lrem, o_lneg, o_lcmp, o_i2l, o_l2i, o_i2b, o_i2c, o_iushr, o_lshl, o_lshr, o_if_eq, o_if_ne, o_if_lt, o_if_ge, o_if_gt, o_if_le, o_icmp_eq, o_icmp_ne, o_icmp_lt, o_icmp_ge, o_icmp_gt, o_icmp_le, o_ifnull, o_ifnonnull, o_acmp_eq, o_acmp_ne, o_is, o_ls, o_as, o_iinc, o_kill, o_sw, o_ireturn, o_zreturn, o_nreturn, o_lreturn, o_areturn, o_return, o_athrow, o_call, entP, lg_sl, Value.category, st1, st2, List.set, List.getElem?_cons_zero, List.getElem?_cons_succ, List.foldl, popN, aft, o_mg, o_mgl, o_mga, o_mp, o_mpz, o_mpl, o_mia, o_mis, o_mbs, o_mc, onn, vpL, nn_addL, nn_addR, nn_mulL, nn_add, nn_mul, nn_eqL, nn_ltL, nn_leL, nn_Llt, nn_Lle, nn_lt, nn_le, nn_eq, nn_in, nn_clamp, nn_succ, nn_pos, nn_neg1, b5]
    have hl9 : line9 tp td f = asgR tp td nm f := by unfold line9 asgR; rw [hnm]; rfl
    rw [hl9] at fin
    refine x_assigned b3 hT1 ht1 hb1 hS1 (fun ms2 f2 p2 h2 => ?_)
    simp [o_ic, o_lc, o_null, o_il, o_ll, o_al, o_dup, o_pop, o_dup_x1, o_dup2, o_iadd, o_isub, o_imul, o_iand, o_ior, o_ixor, o_ishl, o_ishr, o_idiv, o_irem, o_ineg, o_ladd, o_lsub, o_lmul, o_land, o_lor, o_lxor, o_ldiv, o_lrem, o_lneg, o_lcmp, o_i2l, o_l2i, o_i2b, o_i2c, o_iushr, o_lshl, o_lshr, o_if_eq, o_if_ne, o_if_lt, o_if_ge, o_if_gt, o_if_le, o_icmp_eq, o_icmp_ne, o_icmp_lt, o_icmp_ge, o_icmp_gt, o_icmp_le, o_ifnull, o_ifnonnull, o_acmp_eq, o_acmp_ne, o_is, o_ls, o_as, o_iinc, o_kill, o_sw, o_ireturn, o_zreturn, o_nreturn, o_lreturn, o_areturn, o_return, o_athrow, o_call, entP, lg_sl, Value.category, st1, st2, List.set, List.getElem?_cons_zero, List.getElem?_cons_succ, List.foldl, popN, aft, o_mg, o_mgl, o_mga, o_mp, o_mpz, o_mpl, o_mia, o_mis, o_mbs, o_mc]
    refine fin 0 ms2 _ _ _ _ (Or.inl rfl) f2 (by simp) (fun j i q => by unfold PV at q; unfold PL; omega) p2 (fun it g h => ?_)
    obtain ⟨v1, v2, v3, v4, v5⟩ := h2 it g h
    have hk2 : it.1 < 2 ∧ iT it = [] := by
      unfold asgR at h
      cases h6 : sgx tp td (nx tp td f) 61 with
      | error e => rw [h6] at h; cases h
      | ok g6 =>
        rw [h6] at h
        change valu tp td nm g6 = _ at h
        unfold valu at h
        cases h7 : numb tp td g6 114 1 with
        | some row =>
          rw [h7] at h
          simp only [bind, Except.bind] at h
          repeat' split at h
          all_goals first | cases h | skip
          all_goals exact ⟨Nat.lt_of_sub_eq_succ rfl, rfl⟩
        | none =>
          rw [h7] at h
          simp only [bind, Except.bind] at h
          repeat' split at h
          all_goals first | cases h | skip
          all_goals exact ⟨Nat.lt_of_sub_eq_succ rfl, rfl⟩
    refine ⟨by rw [if_neg (by omega)], ⟨v1, ?_, v2, ?_, ?_, ?_, ?_, ?_, ?_⟩, v3, ?_⟩
    · rw [f2.2 16 n (by unfold PV; omega)]; exact c16
    · rw [v4]; cases h8 : iS it with
      | none => exact c18
      | some s => rfl
    · rw [hk2.2, f2.2 19 n (by unfold PV; omega)]; exact c19
    · rw [hk2.2, f2.2 20 n (by unfold PV; omega)]; exact c20
    · intro q; have q1 : it.1 = 1 := by simp at q; omega
      exact v5 q1
    · intro q; simp at q; omega
    · intro q; have : it.1 = 2 := q; omega
    · rw [hk2.2, List.append_nil]; exact hN1.fr f2 (by simp) (by simp [PV]) (by simp [PV])
  | none =>
    cases hrw : numb tp td f 114 1 with
    | some row =>
      have br := numb_le hrw
      have b5 : row < 2147483648 := by omega
      simp [bX2_statement_137, bX2_statement_138, bX2_statement_153, o_ic, o_lc, o_null, o_il, o_ll, o_al, o_dup, o_pop, o_dup_x1, o_dup2, o_iadd, o_isub, o_imul, o_iand, o_ior, o_ixor, o_ishl, o_ishr, o_idiv, o_irem, o_ineg, o_ladd, o_lsub, o_lmul, o_land, o_lor, o_lxor, o_ldiv, o_lrem, o_lneg, o_lcmp, o_i2l, o_l2i, o_i2b, o_i2c, o_iushr, o_lshl, o_lshr, o_if_eq, o_if_ne, o_if_lt, o_if_ge, o_if_gt, o_if_le, o_icmp_eq, o_icmp_ne, o_icmp_lt, o_icmp_ge, o_icmp_gt, o_icmp_le, o_ifnull, o_ifnonnull, o_acmp_eq, o_acmp_ne, o_is, o_ls, o_as, o_iinc, o_kill, o_sw, o_ireturn, o_zreturn, o_nreturn, o_lreturn, o_areturn, o_return, o_athrow, o_call, entP, lg_sl, Value.category, st1, st2, List.set, List.getElem?_cons_zero, List.getElem?_cons_succ, List.foldl, popN, aft, o_mg, o_mgl, o_mga, o_mp, o_mpz, o_mpl, o_mia, o_mis, o_mbs, o_mc, onn, vpL, nn_addL, nn_addR, nn_mulL, nn_add, nn_mul, nn_eqL, nn_ltL, nn_leL, nn_Llt, nn_Lle, nn_lt, nn_le, nn_eq, nn_in, nn_clamp, nn_succ, nn_pos, nn_neg1, b5]
      have hl9 : line9 tp td f = (putR tp td f).map (fun x => ((2, -1, nn row, x.1.1, x.1.2, none, []), x.2)) := by
        unfold line9 putR; rw [hnm, hrw]
        simp only [bind, Except.bind]
        repeat' split
        all_goals first | rfl | simp_all [Except.map]
      refine x_put (row := nn row) b3 hT1 ht1 hb1 (fun ms2 f2 p2 h2 => ?_)
      simp [o_ic, o_lc, o_null, o_il, o_ll, o_al, o_dup, o_pop, o_dup_x1, o_dup2, o_iadd, o_isub, o_imul, o_iand, o_ior, o_ixor, o_ishl, o_ishr, o_idiv, o_irem, o_ineg, o_ladd, o_lsub, o_lmul, o_land, o_lor, o_lxor, o_ldiv, o_lrem, o_lneg, o_lcmp, o_i2l, o_l2i, o_i2b, o_i2c, o_iushr, o_lshl, o_lshr, o_if_eq, o_if_ne, o_if_lt, o_if_ge, o_if_gt, o_if_le, o_icmp_eq, o_icmp_ne, o_icmp_lt, o_icmp_ge, o_icmp_gt, o_icmp_le, o_ifnull, o_ifnonnull, o_acmp_eq, o_acmp_ne, o_is, o_ls, o_as, o_iinc, o_kill, o_sw, o_ireturn, o_zreturn, o_nreturn, o_lreturn, o_areturn, o_return, o_athrow, o_call, entP, lg_sl, Value.category, st1, st2, List.set, List.getElem?_cons_zero, List.getElem?_cons_succ, List.foldl, popN, aft, o_mg, o_mgl, o_mga, o_mp, o_mpz, o_mpl, o_mia, o_mis, o_mbs, o_mc]
      refine fin 0 ms2 _ _ _ _ (Or.inl rfl) f2 (by simp) (fun j i q => Or.inl ⟨by have := q.1; simp at this; omega, q.2⟩) ?_ (fun it g h => ?_)
      · rw [hl9]; cases h8 : putR tp td f with
        | error e => rw [h8] at p2; exact p2
        | ok x => rw [h8] at p2; exact p2
      · rw [hl9] at h
        cases h8 : putR tp td f with
        | error e => rw [h8] at h; cases h
        | ok x =>
          rw [h8] at h
          obtain ⟨d1, d2, d3, d4, d5, d6⟩ := h2 x.1.1 x.1.2 x.2 h8
          have h' : ((2, -1, nn row, x.1.1, x.1.2, none, []), x.2) = (it, g) := Except.ok.inj h
          cases h'
          refine ⟨rfl, ⟨d1, ?_, ?_, ?_, ?_, ?_, fun _ => ⟨d3, d4⟩, fun _ => ⟨d5, d6⟩, fun _ => d2⟩, ?_, ?_⟩
          · rw [f2.2 16 n (by simp [PN])]; exact c16
          · rw [f2.2 17 n (by simp [PN])]; exact c17
          · rw [f2.2 18 n (by simp [PN])]; exact c18
          · rw [f2.2 19 n (by simp [PN])]; exact c19
          · rw [f2.2 20 n (by simp [PN])]; exact c20
          · exact hS1.fr f2 (by simp) (by simp [PN]) (fun j i a b => by simp [PN]; omega)
          · show NmM ms2 (nmz fs ++ []); rw [List.append_nil]; exact hN1.fr f2 (by simp) (by simp [PN]) (by simp [PN])
    | none =>
      have hl9 : line9 tp td f = (if isW tp td f wTell then (opnd tp td (nx tp td f)).map (fun x => ((3, -1, 0, x.1, (0, 0), none, []), x.2)) else if isW tp td f wGo then (tgt tp td (nx tp td f)).map (fun x => ((4, -1, 0, (0, 0), (0, 0), none, [(nx tp td f, x.1)]), x.2)) else if isW tp td f wIf then (testR tp td f).map (fun x => ((5, -1, 0, x.1.1, x.1.2.1, none, [x.1.2.2.1, x.1.2.2.2]), x.2)) else .ok ((6, -1, 0, (0, 0), (0, 0), none, []), nx tp td f)) := by
        unfold line9 testR; rw [hnm, hrw]
        simp only [bind, Except.bind]
        repeat' split
        all_goals first | rfl | simp_all [Except.map]
      simp [o_ic, o_lc, o_null, o_il, o_ll, o_al, o_dup, o_pop, o_dup_x1, o_dup2, o_iadd, o_isub, o_imul, o_iand, o_ior, o_ixor, o_ishl, o_ishr, o_idiv, o_irem, o_ineg, o_ladd, o_lsub, o_lmul, o_land, o_lor, o_lxor, o_ldiv, o_lrem, o_lneg, o_lcmp, o_i2l, o_l2i, o_i2b, o_i2c, o_iushr, o_lshl, o_lshr, o_if_eq, o_if_ne, o_if_lt, o_if_ge, o_if_gt, o_if_le, o_icmp_eq, o_icmp_ne, o_icmp_lt, o_icmp_ge, o_icmp_gt, o_icmp_le, o_ifnull, o_ifnonnull, o_acmp_eq, o_acmp_ne, o_is, o_ls, o_as, o_iinc, o_kill, o_sw, o_ireturn, o_zreturn, o_nreturn, o_lreturn, o_areturn, o_return, o_athrow, o_call, entP, lg_sl, Value.category, st1, st2, List.set, List.getElem?_cons_zero, List.getElem?_cons_succ, List.foldl, popN, aft, o_mg, o_mgl, o_mga, o_mp, o_mpz, o_mpl, o_mia, o_mis, o_mbs, o_mc, onn]
      refine m_isWord 116 [101, 108, 108] _ (by decide) (by decide) rfl hT1 ht1 ?_
      by_cases h3 : isW tp td f [116, 101, 108, 108] = true
      · rw [if_pos h3] at hl9
        simp [bX2_statement_137, bX2_statement_138, bX2_statement_153, bX2_statement_166, o_ic, o_lc, o_null, o_il, o_ll, o_al, o_dup, o_pop, o_dup_x1, o_dup2, o_iadd, o_isub, o_imul, o_iand, o_ior, o_ixor, o_ishl, o_ishr, o_idiv, o_irem, o_ineg, o_ladd, o_lsub, o_lmul, o_land, o_lor, o_lxor, o_ldiv, o_lrem, o_lneg, o_lcmp, o_i2l, o_l2i, o_i2b, o_i2c, o_iushr, o_lshl, o_lshr, o_if_eq, o_if_ne, o_if_lt, o_if_ge, o_if_gt, o_if_le, o_icmp_eq, o_icmp_ne, o_icmp_lt, o_icmp_ge, o_icmp_gt, o_icmp_le, o_ifnull, o_ifnonnull, o_acmp_eq, o_acmp_ne, o_is, o_ls, o_as, o_iinc, o_kill, o_sw, o_ireturn, o_zreturn, o_nreturn, o_lreturn, o_areturn, o_return, o_athrow, o_call, entP, lg_sl, Value.category, st1, st2, List.set, List.getElem?_cons_zero, List.getElem?_cons_succ, List.foldl, popN, aft, o_mg, o_mgl, o_mga, o_mp, o_mpz, o_mpl, o_mia, o_mis, o_mbs, o_mc, h3]
        refine m_isWord 116 [101, 108, 108] _ (by decide) (by decide) rfl hT1 ht1 ?_
        simp [o_ic, o_lc, o_null, o_il, o_ll, o_al, o_dup, o_pop, o_dup_x1, o_dup2, o_iadd, o_isub, o_imul, o_iand, o_ior, o_ixor, o_ishl, o_ishr, o_idiv, o_irem, o_ineg, o_ladd, o_lsub, o_lmul, o_land, o_lor, o_lxor, o_ldiv, o_lrem, o_lneg, o_lcmp, o_i2l, o_l2i, o_i2b, o_i2c, o_iushr, o_lshl, o_lshr, o_if_eq, o_if_ne, o_if_lt, o_if_ge, o_if_gt, o_if_le, o_icmp_eq, o_icmp_ne, o_icmp_lt, o_icmp_ge, o_icmp_gt, o_icmp_le, o_ifnull, o_ifnonnull, o_acmp_eq, o_acmp_ne, o_is, o_ls, o_as, o_iinc, o_kill, o_sw, o_ireturn, o_zreturn, o_nreturn, o_lreturn, o_areturn, o_return, o_athrow, o_call, entP, lg_sl, Value.category, st1, st2, List.set, List.getElem?_cons_zero, List.getElem?_cons_succ, List.foldl, popN, aft, o_mg, o_mgl, o_mga, o_mp, o_mpz, o_mpl, o_mia, o_mis, o_mbs, o_mc, h3]
        refine x_tell b3 hT1 ht1 hb1 (fun ms2 f2 e15 p2 h2 => ?_)
        simp [o_ic, o_lc, o_null, o_il, o_ll, o_al, o_dup, o_pop, o_dup_x1, o_dup2, o_iadd, o_isub, o_imul, o_iand, o_ior, o_ixor, o_ishl, o_ishr, o_idiv, o_irem, o_ineg, o_ladd, o_lsub, o_lmul, o_land, o_lor, o_lxor, o_ldiv, o_lrem, o_lneg, o_lcmp, o_i2l, o_l2i, o_i2b, o_i2c, o_iushr, o_lshl, o_lshr, o_if_eq, o_if_ne, o_if_lt, o_if_ge, o_if_gt, o_if_le, o_icmp_eq, o_icmp_ne, o_icmp_lt, o_icmp_ge, o_icmp_gt, o_icmp_le, o_ifnull, o_ifnonnull, o_acmp_eq, o_acmp_ne, o_is, o_ls, o_as, o_iinc, o_kill, o_sw, o_ireturn, o_zreturn, o_nreturn, o_lreturn, o_areturn, o_return, o_athrow, o_call, entP, lg_sl, Value.category, st1, st2, List.set, List.getElem?_cons_zero, List.getElem?_cons_succ, List.foldl, popN, aft, o_mg, o_mgl, o_mga, o_mp, o_mpz, o_mpl, o_mia, o_mis, o_mbs, o_mc]
        refine fin 0 ms2 _ _ _ _ (Or.inl rfl) f2 (by simp) (fun j i q => Or.inl ⟨by have := q.1; simp at this; omega, q.2⟩) ?_ (fun it g h => ?_)
        · rw [hl9]; have p3 := p2.pm
          cases h8 : opnd tp td (nx tp td f) with
          | error e => rw [h8] at p3; exact p3
          | ok x => rw [h8] at p3; exact p3
        · rw [hl9] at h
          cases h8 : opnd tp td (nx tp td f) with
          | error e => rw [h8] at h; cases h
          | ok x =>
            rw [h8] at h
            obtain ⟨d1, d2⟩ := h2 x.1 x.2 h8
            have h' : ((3, -1, 0, x.1, (0, 0), none, []), x.2) = (it, g) := Except.ok.inj h
            cases h'
            refine ⟨rfl, ⟨e15, ?_, ?_, ?_, ?_, ?_, fun _ => ⟨d1, d2⟩, fun q => by simp at q, fun q => by simp at q⟩, ?_, ?_⟩
            · rw [f2.2 16 n (by simp [PN])]; exact c16
            · rw [f2.2 17 n (by simp [PN])]; exact c17
            · rw [f2.2 18 n (by simp [PN])]; exact c18
            · rw [f2.2 19 n (by simp [PN])]; exact c19
            · rw [f2.2 20 n (by simp [PN])]; exact c20
            · exact hS1.fr f2 (by simp) (by simp [PN]) (fun j i a b => by simp [PN]; omega)
            · show NmM ms2 (nmz fs ++ []); rw [List.append_nil]; exact hN1.fr f2 (by simp) (by simp [PN]) (by simp [PN])
      rw [if_neg h3] at hl9
      simp [bX2_statement_138, bX2_statement_153, bX2_statement_166, o_ic, o_lc, o_null, o_il, o_ll, o_al, o_dup, o_pop, o_dup_x1, o_dup2, o_iadd, o_isub, o_imul, o_iand, o_ior, o_ixor, o_ishl, o_ishr, o_idiv, o_irem, o_ineg, o_ladd, o_lsub, o_lmul, o_land, o_lor, o_lxor, o_ldiv, o_lrem, o_lneg, o_lcmp, o_i2l, o_l2i, o_i2b, o_i2c, o_iushr, o_lshl, o_lshr, o_if_eq, o_if_ne, o_if_lt, o_if_ge, o_if_gt, o_if_le, o_icmp_eq, o_icmp_ne, o_icmp_lt, o_icmp_ge, o_icmp_gt, o_icmp_le, o_ifnull, o_ifnonnull, o_acmp_eq, o_acmp_ne, o_is, o_ls, o_as, o_iinc, o_kill, o_sw, o_ireturn, o_zreturn, o_nreturn, o_lreturn, o_areturn, o_return, o_athrow, o_call, entP, lg_sl, Value.category, st1, st2, List.set, List.getElem?_cons_zero, List.getElem?_cons_succ, List.foldl, popN, aft, o_mg, o_mgl, o_mga, o_mp, o_mpz, o_mpl, o_mia, o_mis, o_mbs, o_mc, h3]
      refine m_isWord 116 [101, 108, 108] _ (by decide) (by decide) rfl hT1 ht1 ?_
      simp [bX2_statement_184, o_ic, o_lc, o_null, o_il, o_ll, o_al, o_dup, o_pop, o_dup_x1, o_dup2, o_iadd, o_isub, o_imul, o_iand, o_ior, o_ixor, o_ishl, o_ishr, o_idiv, o_irem, o_ineg, o_ladd, o_lsub, o_lmul, o_land, o_lor, o_lxor, o_ldiv, o_lrem, o_lneg, o_lcmp, o_i2l, o_l2i, o_i2b, o_i2c, o_iushr, o_lshl, o_lshr, o_if_eq, o_if_ne, o_if_lt, o_if_ge, o_if_gt, o_if_le, o_icmp_eq, o_icmp_ne, o_icmp_lt, o_icmp_ge, o_icmp_gt, o_icmp_le, o_ifnull, o_ifnonnull, o_acmp_eq, o_acmp_ne, o_is, o_ls, o_as, o_iinc, o_kill, o_sw, o_ireturn, o_zreturn, o_nreturn, o_lreturn, o_areturn, o_return, o_athrow, o_call, entP, lg_sl, Value.category, st1, st2, List.set, List.getElem?_cons_zero, List.getElem?_cons_succ, List.foldl, popN, aft, o_mg, o_mgl, o_mga, o_mp, o_mpz, o_mpl, o_mia, o_mis, o_mbs, o_mc, h3]
      refine m_isWord 103 [111] _ (by decide) (by decide) rfl hT1 ht1 ?_
      by_cases h4 : isW tp td f [103, 111] = true
      · rw [if_pos h4] at hl9
        simp [o_ic, o_lc, o_null, o_il, o_ll, o_al, o_dup, o_pop, o_dup_x1, o_dup2, o_iadd, o_isub, o_imul, o_iand, o_ior, o_ixor, o_ishl, o_ishr, o_idiv, o_irem, o_ineg, o_ladd, o_lsub, o_lmul, o_land, o_lor, o_lxor, o_ldiv, o_lrem, o_lneg, o_lcmp, o_i2l, o_l2i, o_i2b, o_i2c, o_iushr, o_lshl, o_lshr, o_if_eq, o_if_ne, o_if_lt, o_if_ge, o_if_gt, o_if_le, o_icmp_eq, o_icmp_ne, o_icmp_lt, o_icmp_ge, o_icmp_gt, o_icmp_le, o_ifnull, o_ifnonnull, o_acmp_eq, o_acmp_ne, o_is, o_ls, o_as, o_iinc, o_kill, o_sw, o_ireturn, o_zreturn, o_nreturn, o_lreturn, o_areturn, o_return, o_athrow, o_call, entP, lg_sl, Value.category, st1, st2, List.set, List.getElem?_cons_zero, List.getElem?_cons_succ, List.foldl, popN, aft, o_mg, o_mgl, o_mga, o_mp, o_mpz, o_mpl, o_mia, o_mis, o_mbs, o_mc, h4]
        refine x_go b3 hT1 ht1 hb1 (by omega) hN1 (fun ms2 f2 p2 h2 => ?_)
        simp [o_ic, o_lc, o_null, o_il, o_ll, o_al, o_dup, o_pop, o_dup_x1, o_dup2, o_iadd, o_isub, o_imul, o_iand, o_ior, o_ixor, o_ishl, o_ishr, o_idiv, o_irem, o_ineg, o_ladd, o_lsub, o_lmul, o_land, o_lor, o_lxor, o_ldiv, o_lrem, o_lneg, o_lcmp, o_i2l, o_l2i, o_i2b, o_i2c, o_iushr, o_lshl, o_lshr, o_if_eq, o_if_ne, o_if_lt, o_if_ge, o_if_gt, o_if_le, o_icmp_eq, o_icmp_ne, o_icmp_lt, o_icmp_ge, o_icmp_gt, o_icmp_le, o_ifnull, o_ifnonnull, o_acmp_eq, o_acmp_ne, o_is, o_ls, o_as, o_iinc, o_kill, o_sw, o_ireturn, o_zreturn, o_nreturn, o_lreturn, o_areturn, o_return, o_athrow, o_call, entP, lg_sl, Value.category, st1, st2, List.set, List.getElem?_cons_zero, List.getElem?_cons_succ, List.foldl, popN, aft, o_mg, o_mgl, o_mga, o_mp, o_mpz, o_mpl, o_mia, o_mis, o_mbs, o_mc]
        refine fin 1 ms2 _ _ _ _ (Or.inr rfl) f2 (by simp) (fun j i q => ?_) ?_ (fun it g h => ?_)
        · rcases q with q | q | q
          · exact Or.inl ⟨by have := q.1; simp at this; omega, q.2⟩
          · exact Or.inr (Or.inl q)
          · exact Or.inr (Or.inr (Or.inl q))
        · rw [hl9]
          cases h8 : tgt tp td (nx tp td f) with
          | error e => rw [h8] at p2; exact p2
          | ok x => rw [h8] at p2; exact p2
        · rw [hl9] at h
          cases h8 : tgt tp td (nx tp td f) with
          | error e => rw [h8] at h; cases h
          | ok x =>
            rw [h8] at h
            obtain ⟨d1, d2, d3⟩ := h2 x.1 x.2 h8
            have h' : ((4, -1, 0, (0, 0), (0, 0), none, [(nx tp td f, x.1)]), x.2) = (it, g) := Except.ok.inj h
            cases h'
            refine ⟨rfl, ⟨d1, ?_, ?_, ?_, d2, ?_, fun q => by simp at q, fun q => by simp at q, fun q => by simp at q⟩, ?_, d3⟩
            · rw [f2.2 16 n (by simp [PN])]; exact c16
            · rw [f2.2 17 n (by simp [PN])]; exact c17
            · rw [f2.2 18 n (by simp [PN])]; exact c18
            · rw [f2.2 20 n (by simp [PN])]; exact c20
            · exact hS1.fr f2 (by simp) (by simp [PN]) (fun j i a b => by simp [PN]; omega)
      rw [if_neg h4] at hl9
      simp [bX2_statement_202, o_ic, o_lc, o_null, o_il, o_ll, o_al, o_dup, o_pop, o_dup_x1, o_dup2, o_iadd, o_isub, o_imul, o_iand, o_ior, o_ixor, o_ishl, o_ishr, o_idiv, o_irem, o_ineg, o_ladd, o_lsub, o_lmul, o_land, o_lor, o_lxor, o_ldiv, o_lrem, o_lneg, o_lcmp, o_i2l, o_l2i, o_i2b, o_i2c, o_iushr, o_lshl, o_lshr, o_if_eq, o_if_ne, o_if_lt, o_if_ge, o_if_gt, o_if_le, o_icmp_eq, o_icmp_ne, o_icmp_lt, o_icmp_ge, o_icmp_gt, o_icmp_le, o_ifnull, o_ifnonnull, o_acmp_eq, o_acmp_ne, o_is, o_ls, o_as, o_iinc, o_kill, o_sw, o_ireturn, o_zreturn, o_nreturn, o_lreturn, o_areturn, o_return, o_athrow, o_call, entP, lg_sl, Value.category, st1, st2, List.set, List.getElem?_cons_zero, List.getElem?_cons_succ, List.foldl, popN, aft, o_mg, o_mgl, o_mga, o_mp, o_mpz, o_mpl, o_mia, o_mis, o_mbs, o_mc, h4]
      refine m_isWord 105 [102] _ (by decide) (by decide) rfl hT1 ht1 ?_
      by_cases h5 : isW tp td f [105, 102] = true
      · rw [if_pos h5] at hl9
        simp [o_ic, o_lc, o_null, o_il, o_ll, o_al, o_dup, o_pop, o_dup_x1, o_dup2, o_iadd, o_isub, o_imul, o_iand, o_ior, o_ixor, o_ishl, o_ishr, o_idiv, o_irem, o_ineg, o_ladd, o_lsub, o_lmul, o_land, o_lor, o_lxor, o_ldiv, o_lrem, o_lneg, o_lcmp, o_i2l, o_l2i, o_i2b, o_i2c, o_iushr, o_lshl, o_lshr, o_if_eq, o_if_ne, o_if_lt, o_if_ge, o_if_gt, o_if_le, o_icmp_eq, o_icmp_ne, o_icmp_lt, o_icmp_ge, o_icmp_gt, o_icmp_le, o_ifnull, o_ifnonnull, o_acmp_eq, o_acmp_ne, o_is, o_ls, o_as, o_iinc, o_kill, o_sw, o_ireturn, o_zreturn, o_nreturn, o_lreturn, o_areturn, o_return, o_athrow, o_call, entP, lg_sl, Value.category, st1, st2, List.set, List.getElem?_cons_zero, List.getElem?_cons_succ, List.foldl, popN, aft, o_mg, o_mgl, o_mga, o_mp, o_mpz, o_mpl, o_mia, o_mis, o_mbs, o_mc, h5]
        refine x_test b3 hT1 ht1 hb1 (by omega) hN1 (fun ms2 f2 p2 h2 => ?_)
        simp [o_ic, o_lc, o_null, o_il, o_ll, o_al, o_dup, o_pop, o_dup_x1, o_dup2, o_iadd, o_isub, o_imul, o_iand, o_ior, o_ixor, o_ishl, o_ishr, o_idiv, o_irem, o_ineg, o_ladd, o_lsub, o_lmul, o_land, o_lor, o_lxor, o_ldiv, o_lrem, o_lneg, o_lcmp, o_i2l, o_l2i, o_i2b, o_i2c, o_iushr, o_lshl, o_lshr, o_if_eq, o_if_ne, o_if_lt, o_if_ge, o_if_gt, o_if_le, o_icmp_eq, o_icmp_ne, o_icmp_lt, o_icmp_ge, o_icmp_gt, o_icmp_le, o_ifnull, o_ifnonnull, o_acmp_eq, o_acmp_ne, o_is, o_ls, o_as, o_iinc, o_kill, o_sw, o_ireturn, o_zreturn, o_nreturn, o_lreturn, o_areturn, o_return, o_athrow, o_call, entP, lg_sl, Value.category, st1, st2, List.set, List.getElem?_cons_zero, List.getElem?_cons_succ, List.foldl, popN, aft, o_mg, o_mgl, o_mga, o_mp, o_mpz, o_mpl, o_mia, o_mis, o_mbs, o_mc]
        refine fin 1 ms2 _ _ _ _ (Or.inr rfl) f2 (by simp) (fun j i q => ?_) ?_ (fun it g h => ?_)
        · rcases q with q | q | q
          · exact Or.inl ⟨by have := q.1; simp at this; omega, q.2⟩
          · exact Or.inr (Or.inl q)
          · exact Or.inr (Or.inr (Or.inl q))
        · rw [hl9]
          cases h8 : testR tp td f with
          | error e => rw [h8] at p2; exact p2
          | ok x => rw [h8] at p2; exact p2
        · rw [hl9] at h
          cases h8 : testR tp td f with
          | error e => rw [h8] at h; cases h
          | ok x =>
            rw [h8] at h
            obtain ⟨d1, d2, d3, d4, d5, d6, d7, d8⟩ := h2 x.1.1 x.1.2.1 x.1.2.2.1 x.1.2.2.2 x.2 h8
            have h' : ((5, -1, 0, x.1.1, x.1.2.1, none, [x.1.2.2.1, x.1.2.2.2]), x.2) = (it, g) := Except.ok.inj h
            cases h'
            refine ⟨rfl, ⟨d1, ?_, ?_, ?_, d2, d3, fun _ => ⟨d4, d5⟩, fun _ => ⟨d6, d7⟩, fun q => by simp at q⟩, ?_, d8⟩
            · rw [f2.2 16 n (by simp [PN])]; exact c16
            · rw [f2.2 17 n (by simp [PN])]; exact c17
            · rw [f2.2 18 n (by simp [PN])]; exact c18
            · exact hS1.fr f2 (by simp) (by simp [PN]) (fun j i a b => by simp [PN]; omega)
      rw [if_neg h5] at hl9
      simp [bX2_statement_220, o_ic, o_lc, o_null, o_il, o_ll, o_al, o_dup, o_pop, o_dup_x1, o_dup2, o_iadd, o_isub, o_imul, o_iand, o_ior, o_ixor, o_ishl, o_ishr, o_idiv, o_irem, o_ineg, o_ladd, o_lsub, o_lmul, o_land, o_lor, o_lxor, o_ldiv, o_lrem, o_lneg, o_lcmp, o_i2l, o_l2i, o_i2b, o_i2c, o_iushr, o_lshl, o_lshr, o_if_eq, o_if_ne, o_if_lt, o_if_ge, o_if_gt, o_if_le, o_icmp_eq, o_icmp_ne, o_icmp_lt, o_icmp_ge, o_icmp_gt, o_icmp_le, o_ifnull, o_ifnonnull, o_acmp_eq, o_acmp_ne, o_is, o_ls, o_as, o_iinc, o_kill, o_sw, o_ireturn, o_zreturn, o_nreturn, o_lreturn, o_areturn, o_return, o_athrow, o_call, entP, lg_sl, Value.category, st1, st2, List.set, List.getElem?_cons_zero, List.getElem?_cons_succ, List.foldl, popN, aft, o_mg, o_mgl, o_mga, o_mp, o_mpz, o_mpl, o_mia, o_mis, o_mbs, o_mc, h5]
      refine x_leave b3 hT1 ht1 hb1 (fun ms2 f2 e15 p2 => ?_)
      simp [o_ic, o_lc, o_null, o_il, o_ll, o_al, o_dup, o_pop, o_dup_x1, o_dup2, o_iadd, o_isub, o_imul, o_iand, o_ior, o_ixor, o_ishl, o_ishr, o_idiv, o_irem, o_ineg, o_ladd, o_lsub, o_lmul, o_land, o_lor, o_lxor, o_ldiv, o_lrem, o_lneg, o_lcmp, o_i2l, o_l2i, o_i2b, o_i2c, o_iushr, o_lshl, o_lshr, o_if_eq, o_if_ne, o_if_lt, o_if_ge, o_if_gt, o_if_le, o_icmp_eq, o_icmp_ne, o_icmp_lt, o_icmp_ge, o_icmp_gt, o_icmp_le, o_ifnull, o_ifnonnull, o_acmp_eq, o_acmp_ne, o_is, o_ls, o_as, o_iinc, o_kill, o_sw, o_ireturn, o_zreturn, o_nreturn, o_lreturn, o_areturn, o_return, o_athrow, o_call, entP, lg_sl, Value.category, st1, st2, List.set, List.getElem?_cons_zero, List.getElem?_cons_succ, List.foldl, popN, aft, o_mg, o_mgl, o_mga, o_mp, o_mpz, o_mpl, o_mia, o_mis, o_mbs, o_mc]
      refine fin 1 ms2 _ _ _ _ (Or.inr rfl) f2 (by simp) (fun j i q => Or.inl ⟨by have := q.1; simp at this; omega, q.2⟩) ?_ (fun it g h => ?_)
      · rw [hl9]; exact p2
      · rw [hl9] at h
        cases h
        refine ⟨rfl, ⟨e15, ?_, ?_, ?_, ?_, ?_, fun q => by simp at q, fun q => by simp at q, fun q => by simp at q⟩, ?_, ?_⟩
        · rw [f2.2 16 n (by simp [PN])]; exact c16
        · rw [f2.2 17 n (by simp [PN])]; exact c17
        · rw [f2.2 18 n (by simp [PN])]; exact c18
        · rw [f2.2 19 n (by simp [PN])]; exact c19
        · rw [f2.2 20 n (by simp [PN])]; exact c20
        · exact hS1.fr f2 (by simp) (by simp [PN]) (fun j i a b => by simp [PN]; omega)
        · show NmM ms2 (nmz fs ++ []); rw [List.append_nil]; exact hN1.fr f2 (by simp) (by simp [PN]) (by simp [PN])
