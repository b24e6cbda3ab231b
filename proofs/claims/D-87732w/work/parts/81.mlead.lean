/-! THE MODEL's lead -/
set_option maxRecDepth 100000
/-- a node, as it stands in the Model's rows -/
def NdM (ms : MS) (n : Nat) (x : Nd) : Prop := ms.2.2 15 n = nn (nK x) ∧ ms.2.2 16 n = nn (nB x) ∧ ms.2.2 17 n = nNm x ∧ ms.2.2 18 n = onn (nSm x) ∧ ms.2.2 19 n = onn (nT1 x) ∧ ms.2.2 20 n = onn (nT2 x) ∧ (nK x ∈ [1, 2, 3, 5] → ms.2.2 21 n = (nOa x).1 ∧ ms.2.2 22 n = (nOa x).2) ∧ (nK x ∈ [2, 5] → ms.2.2 23 n = (nOb x).1 ∧ ms.2.2 24 n = (nOb x).2) ∧ (nK x = 2 → ms.2.2 25 n = nRw x)
theorem m_waysTo {mo : Nat} {Q : Ret MS} {ms : MS} {R : Rt} {b : Nat} (w : WfR R) (hE : EM ms R) (hb : b < 2147483648) (hT : ∀ a t, a < R.2.length → egT R a t → t < 40) (k : Q (.inl (some (.int (nn (wyE R b))))) ms) : pX2_waysTo mo [.ref mo, .int (nn b)] ms Q := by
  have l2 := w.2.1
  have l1 := w.1
  have b2 : R.2.length < 2147483648 := by omega
  simp [pX2_waysTo, bX2_waysTo_0, o_ic, o_lc, o_null, o_il, o_ll, o_al, o_dup, o_pop, o_dup_x1, o_dup2, o_iadd, o_isub, o_imul, o_iand, o_ior, o_ixor, o_ishl, o_ishr, o_idiv, o_irem, o_ineg, o_ladd, o_lsub, o_lmul, o_land, o_lor, o_lxor, o_ldiv, o_lrem, o_lneg, o_lcmp, o_i2l, o_l2i, o_i2b, o_i2c, o_iushr, o_lshl, o_lshr, o_if_eq, o_if_ne, o_if_lt, o_if_ge, o_if_gt, o_if_le, o_icmp_eq, o_icmp_ne, o_icmp_lt, o_icmp_ge, o_icmp_gt, o_icmp_le, o_ifnull, o_ifnonnull, o_acmp_eq, o_acmp_ne, o_is, o_ls, o_as, o_iinc, o_kill, o_sw, o_ireturn, o_zreturn, o_nreturn, o_lreturn, o_areturn, o_return, o_athrow, o_call, entP, lg_sl, Value.category, st1, st2, List.set, List.getElem?_cons_zero, List.getElem?_cons_succ, List.foldl, popN, aft, o_mg, o_mgl, o_mga, o_mp, o_mpz, o_mpl, o_mia, o_mis, o_mbs, o_mc, mput_get, mput_arr, mput_let, mput_put, mset_get, mset_int, mset_let, mputL_get, mputL_arr, mputL_let, mputL_put, i64_8, mLen]
  unfold bX2_waysTo_4
  intro X hX
  have hind : ∀ r a, a + r = R.2.length → X [some (.ref mo), some (.int (nn b)), some (.int (nn (wyC R b a))), some (.int (nn a)), none] [] ms := by
    intro r
    induction r with
    | zero =>
      intro a e
      apply hX
      have b1 : a < 2147483648 := by omega
      have b3 : R.2.length ≤ a := by omega
      have b4 : ¬ a < R.2.length := by omega
      have e' : a = R.2.length := by omega
      simp [bX2_waysTo_63, o_ic, o_lc, o_null, o_il, o_ll, o_al, o_dup, o_pop, o_dup_x1, o_dup2, o_iadd, o_isub, o_imul, o_iand, o_ior, o_ixor, o_ishl, o_ishr, o_idiv, o_irem, o_ineg, o_ladd, o_lsub, o_lmul, o_land, o_lor, o_lxor, o_ldiv, o_lrem, o_lneg, o_lcmp, o_i2l, o_l2i, o_i2b, o_i2c, o_iushr, o_lshl, o_lshr, o_if_eq, o_if_ne, o_if_lt, o_if_ge, o_if_gt, o_if_le, o_icmp_eq, o_icmp_ne, o_icmp_lt, o_icmp_ge, o_icmp_gt, o_icmp_le, o_ifnull, o_ifnonnull, o_acmp_eq, o_acmp_ne, o_is, o_ls, o_as, o_iinc, o_kill, o_sw, o_ireturn, o_zreturn, o_nreturn, o_lreturn, o_areturn, o_return, o_athrow, o_call, entP, lg_sl, Value.category, st1, st2, List.set, List.getElem?_cons_zero, List.getElem?_cons_succ, List.foldl, popN, aft, o_mg, o_mgl, o_mga, o_mp, o_mpz, o_mpl, o_mia, o_mis, o_mbs, o_mc, mput_get, mput_arr, mput_let, mput_put, mset_get, mset_int, mset_let, mputL_get, mputL_arr, mputL_let, mputL_put, i64_8, mLen, vpL, nn_addL, nn_addR, nn_mulL, nn_add, nn_mul, nn_eqL, nn_ltL, nn_leL, nn_Llt, nn_Lle, nn_lt, nn_le, nn_eq, nn_in, nn_clamp, nn_succ, nn_pos, nn_neg1, hE.1, b1, b2, b3, b4]
      rw [e']; exact k
    | succ r ih =>
      intro a e
      apply hX
      have ha : a < R.2.length := by omega
      have b1 : a < 2147483648 := by omega
      have b4 : ¬ R.2.length ≤ a := by omega
      obtain ⟨c1, c2, c3, c4, c5⟩ := hE.2.2 a ha
      have hl := (end_get w ha).2.1
      have b6 : 960 + lastN R a < 2147483648 := by omega
      have b7 : 960 + lastN R a < 1200 := by omega
      simp [o_ic, o_lc, o_null, o_il, o_ll, o_al, o_dup, o_pop, o_dup_x1, o_dup2, o_iadd, o_isub, o_imul, o_iand, o_ior, o_ixor, o_ishl, o_ishr, o_idiv, o_irem, o_ineg, o_ladd, o_lsub, o_lmul, o_land, o_lor, o_lxor, o_ldiv, o_lrem, o_lneg, o_lcmp, o_i2l, o_l2i, o_i2b, o_i2c, o_iushr, o_lshl, o_lshr, o_if_eq, o_if_ne, o_if_lt, o_if_ge, o_if_gt, o_if_le, o_icmp_eq, o_icmp_ne, o_icmp_lt, o_icmp_ge, o_icmp_gt, o_icmp_le, o_ifnull, o_ifnonnull, o_acmp_eq, o_acmp_ne, o_is, o_ls, o_as, o_iinc, o_kill, o_sw, o_ireturn, o_zreturn, o_nreturn, o_lreturn, o_areturn, o_return, o_athrow, o_call, entP, lg_sl, Value.category, st1, st2, List.set, List.getElem?_cons_zero, List.getElem?_cons_succ, List.foldl, popN, aft, o_mg, o_mgl, o_mga, o_mp, o_mpz, o_mpl, o_mia, o_mis, o_mbs, o_mc, mput_get, mput_arr, mput_let, mput_put, mset_get, mset_int, mset_let, mputL_get, mputL_arr, mputL_let, mputL_put, i64_8, mLen, vpL, nn_addL, nn_addR, nn_mulL, nn_add, nn_mul, nn_eqL, nn_ltL, nn_leL, nn_Llt, nn_Lle, nn_lt, nn_le, nn_eq, nn_in, nn_clamp, nn_succ, nn_pos, nn_neg1, hE.1, b1, b2, ha, b4]
      refine m_lastNode w hE ha ?_
      have q1 : onn (et1 R a) = nn b ↔ et1 R a = some b := by
        cases h : et1 R a with
        | none => simp only [onn]; constructor
                  · intro q; exact ((nn_neg1 hb).1 q.symm).elim
                  · intro q; cases q
        | some t =>
          have := hT a t ha (Or.inl h)
          simp only [onn]; rw [nn_eq (by omega) hb]; simp
      have q2 : onn (et2 R a) = nn b ↔ et2 R a = some b := by
        cases h : et2 R a with
        | none => simp only [onn]; constructor
                  · intro q; exact ((nn_neg1 hb).1 q.symm).elim
                  · intro q; cases q
        | some t =>
          have := hT a t ha (Or.inr h)
          simp only [onn]; rw [nn_eq (by omega) hb]; simp
      have := ih (a + 1) (by omega)
      unfold wyC at this
      simp [bX2_waysTo_37, bX2_waysTo_38, bX2_waysTo_53, bX2_waysTo_54, o_ic, o_lc, o_null, o_il, o_ll, o_al, o_dup, o_pop, o_dup_x1, o_dup2, o_iadd, o_isub, o_imul, o_iand, o_ior, o_ixor, o_ishl, o_ishr, o_idiv, o_irem, o_ineg, o_ladd, o_lsub, o_lmul, o_land, o_lor, o_lxor, o_ldiv, o_lrem, o_lneg, o_lcmp, o_i2l, o_l2i, o_i2b, o_i2c, o_iushr, o_lshl, o_lshr, o_if_eq, o_if_ne, o_if_lt, o_if_ge, o_if_gt, o_if_le, o_icmp_eq, o_icmp_ne, o_icmp_lt, o_icmp_ge, o_icmp_gt, o_icmp_le, o_ifnull, o_ifnonnull, o_acmp_eq, o_acmp_ne, o_is, o_ls, o_as, o_iinc, o_kill, o_sw, o_ireturn, o_zreturn, o_nreturn, o_lreturn, o_areturn, o_return, o_athrow, o_call, entP, lg_sl, Value.category, st1, st2, List.set, List.getElem?_cons_zero, List.getElem?_cons_succ, List.foldl, popN, aft, o_mg, o_mgl, o_mga, o_mp, o_mpz, o_mpl, o_mia, o_mis, o_mbs, o_mc, mput_get, mput_arr, mput_let, mput_put, mset_get, mset_int, mset_let, mputL_get, mputL_arr, mputL_let, mputL_put, i64_8, mLen, vpL, nn_addL, nn_addR, nn_mulL, nn_add, nn_mul, nn_eqL, nn_ltL, nn_leL, nn_Llt, nn_Lle, nn_lt, nn_le, nn_eq, nn_in, nn_clamp, nn_succ, nn_pos, nn_neg1, b6, b7, c4, c5, q1, q2]
      refine ⟨fun h1 => ⟨fun h2 => ?_, fun h2 => ?_⟩, fun h1 => ⟨fun h2 => ?_, fun h2 => ?_⟩⟩
      · simpa [h1, h2] using this
      · simpa [h1, h2, vpL, nn_addL, nn_addR, nn_mulL, nn_add, nn_mul] using this
      · simpa [h1, h2, vpL, nn_addL, nn_addR, nn_mulL, nn_add, nn_mul] using this
      · have e2 : (nn (wyC R b a) : Int32) + 2 = nn (wyC R b a + 2) := nn_add _ 2
        simp [h1, h2] at this
        first | exact this | (rw [e2]; exact this) | simpa [vpL, nn_addL, nn_addR, nn_mulL, nn_add, nn_mul, e2] using this
  exact hind R.2.length 0 (by omega)
/-- a node on the way, as it stands -/
def OwM (ms : MS) (R : Rt) (n b : Nat) : Prop := ms.2.2 15 n = 7 ∧ ms.2.2 16 n = nn b ∧ ms.2.2 17 n = -1 ∧ ms.2.2 18 n = -1 ∧ ms.2.2 19 n = nn (fstN R.2 b) ∧ ms.2.2 20 n = -1
/-- on-way nodes so far -/
def OwMs (ms : MS) (R : Rt) (ow : List Nat) : Prop := ms.2.2 10 4 = nn (R.1.length + ow.length) ∧ ∀ j b, ow[j]? = some b → OwM ms R (960 + R.1.length + j) b
theorem m_through {mo : Nat} {Q : Ret MS} {ms : MS} {R : Rt} {t : Nat} {ow : List Nat} (w : WfR R) (ht : t < R.2.length) (h13 : ms.2.2 13 (164 + t) = nn (fstN R.2 t)) (h43 : ms.2.2 43 t = nn (wyE R t)) (hO : OwMs ms R ow) (hl : ow.length < 80)
    (k : ∀ ms', FrG (fun k i => (k = 10 ∧ i = 4) ∨ ((15 ≤ k ∧ k ≤ 20) ∧ i = 960 + R.1.length + ow.length)) [] ms ms' → ms'.1 = ms.1 → ms'.2.1 = ms.2.1 → OwMs ms' R (thr R.1.length (fstN R.2) (wyE R) t ow).2 → Q (.inl (some (.int (nn (thr R.1.length (fstN R.2) (wyE R) t ow).1)))) ms') : pX2_through mo [.ref mo, .int (nn t)] ms Q := by
  have l2 := w.2.1
  have l1 := w.1
  have b1 : t < 2147483648 := by omega
  have b2 : t < 40 := by omega
  have b3 : 164 + t < 2147483648 := by omega
  have b4 : 164 + t < 205 := by omega
  have b5 : wyE R t < 2147483648 := by have := wyC_le R t R.2.length; unfold wyE; omega
  simp [pX2_through, bX2_through_0, o_ic, o_lc, o_null, o_il, o_ll, o_al, o_dup, o_pop, o_dup_x1, o_dup2, o_iadd, o_isub, o_imul, o_iand, o_ior, o_ixor, o_ishl, o_ishr, o_idiv, o_irem, o_ineg, o_ladd, o_lsub, o_lmul, o_land, o_lor, o_lxor, o_ldiv, o_lrem, o_lneg, o_lcmp, o_i2l, o_l2i, o_i2b, o_i2c, o_iushr, o_lshl, o_lshr, o_if_eq, o_if_ne, o_if_lt, o_if_ge, o_if_gt, o_if_le, o_icmp_eq, o_icmp_ne, o_icmp_lt, o_icmp_ge, o_icmp_gt, o_icmp_le, o_ifnull, o_ifnonnull, o_acmp_eq, o_acmp_ne, o_is, o_ls, o_as, o_iinc, o_kill, o_sw, o_ireturn, o_zreturn, o_nreturn, o_lreturn, o_areturn, o_return, o_athrow, o_call, entP, lg_sl, Value.category, st1, st2, List.set, List.getElem?_cons_zero, List.getElem?_cons_succ, List.foldl, popN, aft, o_mg, o_mgl, o_mga, o_mp, o_mpz, o_mpl, o_mia, o_mis, o_mbs, o_mc, mput_get, mput_arr, mput_let, mput_put, mset_get, mset_int, mset_let, mputL_get, mputL_arr, mputL_let, mputL_put, i64_8, mLen, vpL, nn_addL, nn_addR, nn_mulL, nn_add, nn_mul, nn_eqL, nn_ltL, nn_leL, nn_Llt, nn_Lle, nn_lt, nn_le, nn_eq, nn_in, nn_clamp, nn_succ, nn_pos, nn_neg1, b1, b2, b3, b4, b5, h13, h43]
  unfold thr at k
  by_cases c : wyE R t < 2
  · rw [if_pos c] at k
    refine ⟨fun h => by omega, fun _ => k ms FrG.rfl9 rfl rfl hO⟩
  · rw [if_neg c] at k
    refine ⟨fun _ => ?_, fun h => absurd h c⟩
    have b6 : 960 + (R.1.length + ow.length) < 2147483648 := by omega
    have b7 : 960 + (R.1.length + ow.length) < 1200 := by omega
    have e0 : 960 + (R.1.length + ow.length) = 960 + R.1.length + ow.length := by omega
    simp [bX2_through_23, o_ic, o_lc, o_null, o_il, o_ll, o_al, o_dup, o_pop, o_dup_x1, o_dup2, o_iadd, o_isub, o_imul, o_iand, o_ior, o_ixor, o_ishl, o_ishr, o_idiv, o_irem, o_ineg, o_ladd, o_lsub, o_lmul, o_land, o_lor, o_lxor, o_ldiv, o_lrem, o_lneg, o_lcmp, o_i2l, o_l2i, o_i2b, o_i2c, o_iushr, o_lshl, o_lshr, o_if_eq, o_if_ne, o_if_lt, o_if_ge, o_if_gt, o_if_le, o_icmp_eq, o_icmp_ne, o_icmp_lt, o_icmp_ge, o_icmp_gt, o_icmp_le, o_ifnull, o_ifnonnull, o_acmp_eq, o_acmp_ne, o_is, o_ls, o_as, o_iinc, o_kill, o_sw, o_ireturn, o_zreturn, o_nreturn, o_lreturn, o_areturn, o_return, o_athrow, o_call, entP, lg_sl, Value.category, st1, st2, List.set, List.getElem?_cons_zero, List.getElem?_cons_succ, List.foldl, popN, aft, o_mg, o_mgl, o_mga, o_mp, o_mpz, o_mpl, o_mia, o_mis, o_mbs, o_mc, mput_get, mput_arr, mput_let, mput_put, mset_get, mset_int, mset_let, mputL_get, mputL_arr, mputL_let, mputL_put, i64_8, mLen, vpL, nn_addL, nn_addR, nn_mulL, nn_add, nn_mul, nn_eqL, nn_ltL, nn_leL, nn_Llt, nn_Lle, nn_lt, nn_le, nn_eq, nn_in, nn_clamp, nn_succ, nn_pos, nn_neg1, hO.1, b6, b7]
    rw [nn_pred (by omega), Nat.add_sub_cancel, e0]
    refine k _ ?_ rfl rfl ⟨?_, fun j b hj => ?_⟩
    · refine FrG.set (FrG.set (FrG.set (FrG.set (FrG.set (FrG.set (FrG.set FrG.rfl9 ?_) ?_) ?_) ?_) ?_) ?_) ?_
      all_goals first | exact Or.inr ⟨by omega, rfl⟩ | exact Or.inl ⟨rfl, rfl⟩
    · simp [mput_get, mput_arr, mput_let, mput_put, mset_get, mset_int, mset_let, mputL_get, mputL_arr, mputL_let, mputL_put, i64_8, mLen, Nat.add_assoc]
    · by_cases cj : j < ow.length
      · simp only at hj
        rw [List.getElem?_append_left cj] at hj
        have := hO.2 j b hj
        unfold OwM at this ⊢
        have n1 : ¬ (960 + R.1.length + j = 960 + R.1.length + ow.length) := by omega
        have n2 : ¬ (j = ow.length) := by omega
        simp [mput_get, mput_arr, mput_let, mput_put, mset_get, mset_int, mset_let, mputL_get, mputL_arr, mputL_let, mputL_put, i64_8, mLen, n1, n2]
        exact this
      · simp only at hj
        have : j = ow.length := by
          have := (List.getElem?_eq_some_iff.1 hj).1
          simp at this; omega
        subst this
        simp at hj
        subst hj
        unfold OwM
        simp [mput_get, mput_arr, mput_let, mput_put, mset_get, mset_int, mset_let, mputL_get, mputL_arr, mputL_let, mputL_put, i64_8, mLen]
