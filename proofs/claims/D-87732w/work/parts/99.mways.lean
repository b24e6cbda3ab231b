/-! THE MODEL: ways -/
set_option maxRecDepth 100000
theorem m_end {mo : Nat} {Q : Ret MS} {ms : MS} {R : Rt} {p b : Nat} (w : WfR R) (hPl : PlM ms p R) (hp : p < 4) (hb : b < R.2.length) (k : Q (.inl (some (.int (nn (240 * p + lastN R b))))) ms) : pX2_end mo [.ref mo, .int (nn p), .int (nn b)] ms Q := by
  obtain ⟨⟨e8, e9, e10, e11, e12⟩, e13, -⟩ := id hPl
  have l1 := w.1
  have l2 := w.2.1
  have b1 : b + 1 < 2147483648 := by omega
  have b2 : R.2.length < 2147483648 := by omega
  have bp : p < 2147483648 := by omega
  have bp5 : p < 5 := by omega
  have h3 := w.2.2.1 b hb
  simp [pX2_end, bX2_end_39, bX2_end_33, bX2_end_0, o_ic, o_lc, o_null, o_il, o_ll, o_al, o_dup, o_pop, o_dup_x1, o_dup2, o_iadd, o_isub, o_imul, o_iand, o_ior, o_ixor, o_ishl, o_ishr, o_idiv, o_irem, o_ineg, o_ladd, o_lsub, o_lmul, o_land, o_lor, o_lxor, o_ldiv, o_lrem, o_lneg, o_lcmp, o_i2l, o_l2i, o_i2b, o_i2c, o_iushr, o_lshl, o_lshr, o_if_eq, o_if_ne, o_if_lt, o_if_ge, o_if_gt, o_if_le, o_icmp_eq, o_icmp_ne, o_icmp_lt, o_icmp_ge, o_icmp_gt, o_icmp_le, o_ifnull, o_ifnonnull, o_acmp_eq, o_acmp_ne, o_is, o_ls, o_as, o_iinc, o_kill, o_sw, o_ireturn, o_zreturn, o_nreturn, o_lreturn, o_areturn, o_return, o_athrow, o_call, entP, lg_sl, Value.category, st1, st2, List.set, List.getElem?_cons_zero, List.getElem?_cons_succ, List.foldl, popN, aft, o_mg, o_mgl, o_mga, o_mp, o_mpz, o_mpl, o_mia, o_mis, o_mbs, o_mc, mput_get, mput_arr, mput_let, mput_put, mset_get, mset_int, mset_let, mputL_get, mputL_arr, mputL_let, mputL_put, i64_8, mLen, vpL, nn_addL, nn_addR, nn_mulL, nn_add, nn_mul, nn_eqL, nn_ltL, nn_leL, nn_Llt, nn_Lle, nn_lt, nn_le, nn_eq, nn_in, nn_clamp, nn_succ, nn_pos, nn_neg1, e9, b1, b2, bp, bp5]
  unfold lastN nxtN at k
  unfold nxtN at h3
  by_cases c : b + 1 < R.2.length
  · rw [if_pos c] at k h3
    refine ⟨fun q => by omega, fun _ => ?_⟩
    have b3 : 41 * p + b + 1 < 2147483648 := by omega
    have b4 : 41 * p + b + 1 < 205 := by omega
    have e := e13 (b + 1) c
    rw [← Nat.add_assoc] at e
    simp [vpL, nn_addL, nn_addR, nn_mulL, nn_add, nn_mul, nn_eqL, nn_ltL, nn_leL, nn_Llt, nn_Lle, nn_lt, nn_le, nn_eq, nn_in, nn_clamp, nn_succ, nn_pos, nn_neg1, b3, b4, e]
    rw [nn_pred (by omega), show 240 * p + fstN R.2 (b + 1) - 1 = 240 * p + (fstN R.2 (b + 1) - 1) by omega]
    exact k
  · rw [if_neg c] at k h3
    refine ⟨fun _ => ?_, fun q => by omega⟩
    simp [e11, vpL, nn_addL, nn_addR, nn_mulL, nn_add, nn_mul]
    rw [nn_pred (by omega), show 240 * p + R.1.length - 1 = 240 * p + (R.1.length - 1) by omega]
    exact k
theorem last_lt {R : Rt} (w : WfR R) {b : Nat} (hb : b < R.2.length) : lastN R b < (nds R).length ∧ lastN R b < R.1.length := by
  have := (end_get w hb).2.1
  rw [nds_len]; omega
theorem m_passes {mo : Nat} {Q : Ret MS} {ms : MS} {R : Rt} {p b t : Nat} (w : WfR R) (hT : TgOk R) (hPl : PlM ms p R) (hp : p < 4) (hb : b < R.2.length) (ht : t < R.2.length) (k : Q (.inl (some (.int (onn (psN R b t))))) ms) : pX2_passes mo [.ref mo, .int (nn p), .int (nn (240 * p + lastN R b)), .int (nn t)] ms Q := by
  obtain ⟨⟨e8, e9, e10, e11, e12⟩, e13, -⟩ := id hPl
  have l := nds_240 w
  have l1 := w.1
  have l2 := w.2.1
  obtain ⟨hl, hl2⟩ := last_lt w hb
  obtain ⟨⟨c1, c2, c3, c4, c5, c6, -⟩, ok⟩ := hPl.nd w hT hl
  have b1 : 240 * p + lastN R b < 2147483648 := by omega
  have b2 : 240 * p + lastN R b < 1200 := by omega
  have b3 : 41 * p + t < 2147483648 := by omega
  have b4 : 41 * p + t < 205 := by omega
  have hft := (w.2.2.1 t ht)
  have bf : fstN R.2 t < 2147483648 := by omega
  -- x leads into t
  have kin : ∀ x, x < (nds R).length → (ms.2.2 15 (240 * p + x) = nn (nK (ndA (nds R) x)) ∧ ms.2.2 19 (240 * p + x) = onn (nT1 (ndA (nds R) x)) ∧ nK (ndA (nds R) x) < 2147483648 ∧ (onn (nT1 (ndA (nds R) x)) = nn (fstN R.2 t) ↔ nT1 (ndA (nds R) x) = some (fstN R.2 t))) := by
    intro x hx
    obtain ⟨⟨d1, d2, d3, d4, d5, d6, -⟩, dok⟩ := hPl.nd w hT hx
    refine ⟨d1, d5, by have := dok.1; omega, ?_⟩
    cases h9 : nT1 (ndA (nds R) x) with
    | none => simp only [onn]; constructor
              · intro z; exact ((nn_neg1 bf).1 z.symm).elim
              · intro z; cases z
    | some j =>
      have := dok.2.1 j h9
      simp only [onn]; rw [nn_eq (by omega) bf]; simp
  have second : ¬ (∃ x, t1R R (lastN R b) = some x ∧ inB R t x) → ∀ v5, bX2_passes_72 mo Q [some (.ref mo), some (.int (nn p)), some (.int (nn (240 * p + lastN R b))), some (.int (nn t)), some (.int (nn (fstN R.2 t))), some (.int v5)] [] ms := by
    intro hn v5
    unfold psN at k
    rw [if_neg (by rw [b9_not.2 hn]; simp)] at k
    cases h2 : nT2 (ndA (nds R) (lastN R b)) with
    | none =>
      rw [if_neg (by rw [b9_not.2 (fun z => by obtain ⟨x, z, -⟩ := z; unfold t2R at z; rw [h2] at z; cases z)]; simp)] at k
      rw [h2] at c6
      simp [bX2_passes_72, bX2_passes_131, o_ic, o_lc, o_null, o_il, o_ll, o_al, o_dup, o_pop, o_dup_x1, o_dup2, o_iadd, o_isub, o_imul, o_iand, o_ior, o_ixor, o_ishl, o_ishr, o_idiv, o_irem, o_ineg, o_ladd, o_lsub, o_lmul, o_land, o_lor, o_lxor, o_ldiv, o_lrem, o_lneg, o_lcmp, o_i2l, o_l2i, o_i2b, o_i2c, o_iushr, o_lshl, o_lshr, o_if_eq, o_if_ne, o_if_lt, o_if_ge, o_if_gt, o_if_le, o_icmp_eq, o_icmp_ne, o_icmp_lt, o_icmp_ge, o_icmp_gt, o_icmp_le, o_ifnull, o_ifnonnull, o_acmp_eq, o_acmp_ne, o_is, o_ls, o_as, o_iinc, o_kill, o_sw, o_ireturn, o_zreturn, o_nreturn, o_lreturn, o_areturn, o_return, o_athrow, o_call, entP, lg_sl, Value.category, st1, st2, List.set, List.getElem?_cons_zero, List.getElem?_cons_succ, List.foldl, popN, aft, o_mg, o_mgl, o_mga, o_mp, o_mpz, o_mpl, o_mia, o_mis, o_mbs, o_mc, mput_get, mput_arr, mput_let, mput_put, mset_get, mset_int, mset_let, mputL_get, mputL_arr, mputL_let, mputL_put, i64_8, mLen, vpL, nn_addL, nn_addR, nn_mulL, nn_add, nn_mul, nn_eqL, nn_ltL, nn_leL, nn_Llt, nn_Lle, nn_lt, nn_le, nn_eq, nn_in, nn_clamp, nn_succ, nn_pos, nn_neg1, b1, b2, c6, onn]
      exact k
    | some x =>
      have hx := ok.2.2.1 x h2
      obtain ⟨d1, d2, d3, d4⟩ := kin x hx
      rw [h2] at c6
      have bx : x < 2147483648 := by omega
      have b5 : 240 * p + x < 2147483648 := by omega
      have b6 : 240 * p + x < 1200 := by omega
      have yes : inB R t x → Q (.inl (some (.int (nn x)))) ms := fun z => by
        rw [if_pos (b9_iff.2 ⟨x, h2, z⟩)] at k
        unfold t2R at k; rw [h2] at k; exact k
      have no : ¬ inB R t x → Q (.inl (some (.int (-1)))) ms := fun z => by
        rw [if_neg (by rw [b9_not.2 (fun y => by obtain ⟨x', y1, y2⟩ := y; unfold t2R at y1; rw [h2] at y1; cases y1; exact z y2)]; simp)] at k
        exact k
      simp [bX2_passes_72, bX2_passes_131, bX2_passes_128, o_ic, o_lc, o_null, o_il, o_ll, o_al, o_dup, o_pop, o_dup_x1, o_dup2, o_iadd, o_isub, o_imul, o_iand, o_ior, o_ixor, o_ishl, o_ishr, o_idiv, o_irem, o_ineg, o_ladd, o_lsub, o_lmul, o_land, o_lor, o_lxor, o_ldiv, o_lrem, o_lneg, o_lcmp, o_i2l, o_l2i, o_i2b, o_i2c, o_iushr, o_lshl, o_lshr, o_if_eq, o_if_ne, o_if_lt, o_if_ge, o_if_gt, o_if_le, o_icmp_eq, o_icmp_ne, o_icmp_lt, o_icmp_ge, o_icmp_gt, o_icmp_le, o_ifnull, o_ifnonnull, o_acmp_eq, o_acmp_ne, o_is, o_ls, o_as, o_iinc, o_kill, o_sw, o_ireturn, o_zreturn, o_nreturn, o_lreturn, o_areturn, o_return, o_athrow, o_call, entP, lg_sl, Value.category, st1, st2, List.set, List.getElem?_cons_zero, List.getElem?_cons_succ, List.foldl, popN, aft, o_mg, o_mgl, o_mga, o_mp, o_mpz, o_mpl, o_mia, o_mis, o_mbs, o_mc, mput_get, mput_arr, mput_let, mput_put, mset_get, mset_int, mset_let, mputL_get, mputL_arr, mputL_let, mputL_put, i64_8, mLen, vpL, nn_addL, nn_addR, nn_mulL, nn_add, nn_mul, nn_eqL, nn_ltL, nn_leL, nn_Llt, nn_Lle, nn_lt, nn_le, nn_eq, nn_in, nn_clamp, nn_succ, nn_pos, nn_neg1, b1, b2, c6, onn, bx, bf, b5, b6, d1, d2, d3, d4]
      refine ⟨fun z => yes (Or.inl z), fun z => ⟨fun z2 => no (fun y => y.elim z (fun y => z2 y.1)), fun z2 => ⟨fun z3 => no (fun y => y.elim z (fun y => z3 (d4.2 y.2))), fun z3 => yes (Or.inr ⟨z2, d4.1 z3⟩)⟩⟩⟩
  simp [pX2_passes, bX2_passes_0, o_ic, o_lc, o_null, o_il, o_ll, o_al, o_dup, o_pop, o_dup_x1, o_dup2, o_iadd, o_isub, o_imul, o_iand, o_ior, o_ixor, o_ishl, o_ishr, o_idiv, o_irem, o_ineg, o_ladd, o_lsub, o_lmul, o_land, o_lor, o_lxor, o_ldiv, o_lrem, o_lneg, o_lcmp, o_i2l, o_l2i, o_i2b, o_i2c, o_iushr, o_lshl, o_lshr, o_if_eq, o_if_ne, o_if_lt, o_if_ge, o_if_gt, o_if_le, o_icmp_eq, o_icmp_ne, o_icmp_lt, o_icmp_ge, o_icmp_gt, o_icmp_le, o_ifnull, o_ifnonnull, o_acmp_eq, o_acmp_ne, o_is, o_ls, o_as, o_iinc, o_kill, o_sw, o_ireturn, o_zreturn, o_nreturn, o_lreturn, o_areturn, o_return, o_athrow, o_call, entP, lg_sl, Value.category, st1, st2, List.set, List.getElem?_cons_zero, List.getElem?_cons_succ, List.foldl, popN, aft, o_mg, o_mgl, o_mga, o_mp, o_mpz, o_mpl, o_mia, o_mis, o_mbs, o_mc, mput_get, mput_arr, mput_let, mput_put, mset_get, mset_int, mset_let, mputL_get, mputL_arr, mputL_let, mputL_put, i64_8, mLen, vpL, nn_addL, nn_addR, nn_mulL, nn_add, nn_mul, nn_eqL, nn_ltL, nn_leL, nn_Llt, nn_Lle, nn_lt, nn_le, nn_eq, nn_in, nn_clamp, nn_succ, nn_pos, nn_neg1, b3, b4, e13 t ht, b1, b2, c5]
  cases h1 : nT1 (ndA (nds R) (lastN R b)) with
  | none =>
    simp [onn]
    exact second (fun z => by obtain ⟨x, z, -⟩ := z; unfold t1R at z; rw [h1] at z; cases z) _
  | some x =>
    have hx := ok.2.1 x h1
    obtain ⟨d1, d2, d3, d4⟩ := kin x hx
    have bx : x < 2147483648 := by omega
    have b5 : 240 * p + x < 2147483648 := by omega
    have b6 : 240 * p + x < 1200 := by omega
    have yes : inB R t x → Q (.inl (some (.int (nn x)))) ms := fun z => by
      unfold psN at k
      rw [if_pos (b9_iff.2 ⟨x, h1, z⟩)] at k
      unfold t1R at k; rw [h1] at k; exact k
    have no := fun z : ¬ inB R t x => second (fun y => by obtain ⟨x', y1, y2⟩ := y; unfold t1R at y1; rw [h1] at y1; cases y1; exact z y2) (nn x)
    simp [bX2_passes_69, o_ic, o_lc, o_null, o_il, o_ll, o_al, o_dup, o_pop, o_dup_x1, o_dup2, o_iadd, o_isub, o_imul, o_iand, o_ior, o_ixor, o_ishl, o_ishr, o_idiv, o_irem, o_ineg, o_ladd, o_lsub, o_lmul, o_land, o_lor, o_lxor, o_ldiv, o_lrem, o_lneg, o_lcmp, o_i2l, o_l2i, o_i2b, o_i2c, o_iushr, o_lshl, o_lshr, o_if_eq, o_if_ne, o_if_lt, o_if_ge, o_if_gt, o_if_le, o_icmp_eq, o_icmp_ne, o_icmp_lt, o_icmp_ge, o_icmp_gt, o_icmp_le, o_ifnull, o_ifnonnull, o_acmp_eq, o_acmp_ne, o_is, o_ls, o_as, o_iinc, o_kill, o_sw, o_ireturn, o_zreturn, o_nreturn, o_lreturn, o_areturn, o_return, o_athrow, o_call, entP, lg_sl, Value.category, st1, st2, List.set, List.getElem?_cons_zero, List.getElem?_cons_succ, List.foldl, popN, aft, o_mg, o_mgl, o_mga, o_mp, o_mpz, o_mpl, o_mia, o_mis, o_mbs, o_mc, mput_get, mput_arr, mput_let, mput_put, mset_get, mset_int, mset_let, mputL_get, mputL_arr, mputL_let, mputL_put, i64_8, mLen, vpL, nn_addL, nn_addR, nn_mulL, nn_add, nn_mul, nn_eqL, nn_ltL, nn_leL, nn_Llt, nn_Lle, nn_lt, nn_le, nn_eq, nn_in, nn_clamp, nn_succ, nn_pos, nn_neg1, onn, bx, bf, b5, b6, d1, d2, d3, d4]
    refine ⟨fun z => yes (Or.inl z), fun z => ⟨fun z2 => no (fun y => y.elim z (fun y => z2 y.1)), fun z2 => ⟨fun z3 => no (fun y => y.elim z (fun y => z3 (d4.2 y.2))), fun z3 => yes (Or.inr ⟨z2, d4.1 z3⟩)⟩⟩⟩
/-- step: its answer, and the way behind it -/
noncomputable def sStep (P : Nat → PlA) (p b : Int32) : Int32 × Option (List Nat) := match pl9 P p with
  | none => (-1, none)
  | some x => match ix b x.1.2.length with
    | none => (-1, none)
    | some b => if b9 (match x.2.getLast? with
        | none => b = 0
        | some a => ∃ y, psN x.1 a b = some y) = true then (if x.2.length = 60 then (-3, none) else (nn (x.2.length + 1), some (x.2 ++ [b]))) else (-2, none)
/-- what step may write -/
def PWy (q : Nat) : Nat → Nat → Prop := fun k i => (k = 57 ∧ i = q) ∨ (k = 58 ∧ 60 * q ≤ i ∧ i < 60 * q + 60)
theorem q_step {mo : Nat} {Q : Ret MS} {ms : MS} {P : Nat → PlA} {p b : Int32} (h : MPs ms P)
    (kk : match (sStep P p b).2 with
      | none => Q (.inl (some (.int (sStep P p b).1))) ms
      | some way => ∀ ms' q x, q < 4 → p = nn q → P q = some x → FrG (PWy q) [] ms ms' → MPl ms' q (some (x.1, way)) → Q (.inl (some (.int (sStep P p b).1))) ms') : pX2_step_2 mo [.ref mo, .int p, .int b] ms Q := by
  simp [pX2_step_2, bX2_step_2_0, bX2_step_2_22, o_ic, o_lc, o_null, o_il, o_ll, o_al, o_dup, o_pop, o_dup_x1, o_dup2, o_iadd, o_isub, o_imul, o_iand, o_ior, o_ixor, o_ishl, o_ishr, o_idiv, o_irem, o_ineg, o_ladd, o_lsub, o_lmul, o_land, o_lor, o_lxor, o_ldiv, o_lrem, o_lneg, o_lcmp, o_i2l, o_l2i, o_i2b, o_i2c, o_iushr, o_lshl, o_lshr, o_if_eq, o_if_ne, o_if_lt, o_if_ge, o_if_gt, o_if_le, o_icmp_eq, o_icmp_ne, o_icmp_lt, o_icmp_ge, o_icmp_gt, o_icmp_le, o_ifnull, o_ifnonnull, o_acmp_eq, o_acmp_ne, o_is, o_ls, o_as, o_iinc, o_kill, o_sw, o_ireturn, o_zreturn, o_nreturn, o_lreturn, o_areturn, o_return, o_athrow, o_call, entP, lg_sl, Value.category, st1, st2, List.set, List.getElem?_cons_zero, List.getElem?_cons_succ, List.foldl, popN, aft, o_mg, o_mgl, o_mga, o_mp, o_mpz, o_mpl, o_mia, o_mis, o_mbs, o_mc, mput_get, mput_arr, mput_let, mput_put, mset_get, mset_int, mset_let, mputL_get, mputL_arr, mputL_let, mputL_put, i64_8, mLen]
  unfold sStep at kk
  refine m_isThere h (fun hp => ?_) (fun q x hq hp hx hpl => ?_)
  · rw [hp] at kk
    simp [o_ic, o_lc, o_null, o_il, o_ll, o_al, o_dup, o_pop, o_dup_x1, o_dup2, o_iadd, o_isub, o_imul, o_iand, o_ior, o_ixor, o_ishl, o_ishr, o_idiv, o_irem, o_ineg, o_ladd, o_lsub, o_lmul, o_land, o_lor, o_lxor, o_ldiv, o_lrem, o_lneg, o_lcmp, o_i2l, o_l2i, o_i2b, o_i2c, o_iushr, o_lshl, o_lshr, o_if_eq, o_if_ne, o_if_lt, o_if_ge, o_if_gt, o_if_le, o_icmp_eq, o_icmp_ne, o_icmp_lt, o_icmp_ge, o_icmp_gt, o_icmp_le, o_ifnull, o_ifnonnull, o_acmp_eq, o_acmp_ne, o_is, o_ls, o_as, o_iinc, o_kill, o_sw, o_ireturn, o_zreturn, o_nreturn, o_lreturn, o_areturn, o_return, o_athrow, o_call, entP, lg_sl, Value.category, st1, st2, List.set, List.getElem?_cons_zero, List.getElem?_cons_succ, List.foldl, popN, aft]; exact kk
  · rw [hpl] at kk
    simp only at kk
    subst hp
    obtain ⟨hok, hPl, h57, h58⟩ := h.at hq hx
    obtain ⟨w1, w2, w3, w4, w5, w6, w7⟩ := id hok
    obtain ⟨⟨e8, e9, e10, e11, e12⟩, e13, -⟩ := id hPl
    have l2 := w1.2.1
    have b1 : q < 2147483648 := by omega
    have b2 : q < 5 := by omega
    have b0 : x.1.2.length < 2147483648 := by omega
    rcases ix_cases b x.1.2.length b0 with ⟨t, ht, rfl, hi, bt⟩ | ⟨hi, hr⟩
    · rw [hi] at kk
      simp only at kk
      have bw : x.2.length < 2147483648 := by omega
      simp [bX2_step_2_24, o_ic, o_lc, o_null, o_il, o_ll, o_al, o_dup, o_pop, o_dup_x1, o_dup2, o_iadd, o_isub, o_imul, o_iand, o_ior, o_ixor, o_ishl, o_ishr, o_idiv, o_irem, o_ineg, o_ladd, o_lsub, o_lmul, o_land, o_lor, o_lxor, o_ldiv, o_lrem, o_lneg, o_lcmp, o_i2l, o_l2i, o_i2b, o_i2c, o_iushr, o_lshl, o_lshr, o_if_eq, o_if_ne, o_if_lt, o_if_ge, o_if_gt, o_if_le, o_icmp_eq, o_icmp_ne, o_icmp_lt, o_icmp_ge, o_icmp_gt, o_icmp_le, o_ifnull, o_ifnonnull, o_acmp_eq, o_acmp_ne, o_is, o_ls, o_as, o_iinc, o_kill, o_sw, o_ireturn, o_zreturn, o_nreturn, o_lreturn, o_areturn, o_return, o_athrow, o_call, entP, lg_sl, Value.category, st1, st2, List.set, List.getElem?_cons_zero, List.getElem?_cons_succ, List.foldl, popN, aft, o_mg, o_mgl, o_mga, o_mp, o_mpz, o_mpl, o_mia, o_mis, o_mbs, o_mc, mput_get, mput_arr, mput_let, mput_put, mset_get, mset_int, mset_let, mputL_get, mputL_arr, mputL_let, mputL_put, i64_8, mLen, vpL, nn_addL, nn_addR, nn_mulL, nn_add, nn_mul, nn_eqL, nn_ltL, nn_leL, nn_Llt, nn_Lle, nn_lt, nn_le, nn_eq, nn_in, nn_clamp, nn_succ, nn_pos, nn_neg1, b1, b2, b0, bt, ht, e9, h57, bw]
      -- behind the question
      have good : b9 (match x.2.getLast? with | none => t = 0 | some a => ∃ y, psN x.1 a t = some y) = true → bX2_step_2_79 mo Q [some (.ref mo), some (.int (nn q)), some (.int (nn t)), some (.int (nn x.2.length)), none] [.int 1] ms := by
        intro hg
        rw [if_pos hg] at kk
        simp [bX2_step_2_79, bX2_step_2_89, o_ic, o_lc, o_null, o_il, o_ll, o_al, o_dup, o_pop, o_dup_x1, o_dup2, o_iadd, o_isub, o_imul, o_iand, o_ior, o_ixor, o_ishl, o_ishr, o_idiv, o_irem, o_ineg, o_ladd, o_lsub, o_lmul, o_land, o_lor, o_lxor, o_ldiv, o_lrem, o_lneg, o_lcmp, o_i2l, o_l2i, o_i2b, o_i2c, o_iushr, o_lshl, o_lshr, o_if_eq, o_if_ne, o_if_lt, o_if_ge, o_if_gt, o_if_le, o_icmp_eq, o_icmp_ne, o_icmp_lt, o_icmp_ge, o_icmp_gt, o_icmp_le, o_ifnull, o_ifnonnull, o_acmp_eq, o_acmp_ne, o_is, o_ls, o_as, o_iinc, o_kill, o_sw, o_ireturn, o_zreturn, o_nreturn, o_lreturn, o_areturn, o_return, o_athrow, o_call, entP, lg_sl, Value.category, st1, st2, List.set, List.getElem?_cons_zero, List.getElem?_cons_succ, List.foldl, popN, aft, o_mg, o_mgl, o_mga, o_mp, o_mpz, o_mpl, o_mia, o_mis, o_mbs, o_mc, mput_get, mput_arr, mput_let, mput_put, mset_get, mset_int, mset_let, mputL_get, mputL_arr, mputL_let, mputL_put, i64_8, mLen, vpL, nn_addL, nn_addR, nn_mulL, nn_add, nn_mul, nn_eqL, nn_ltL, nn_leL, nn_Llt, nn_Lle, nn_lt, nn_le, nn_eq, nn_in, nn_clamp, nn_succ, nn_pos, nn_neg1, bw]
        by_cases h60 : x.2.length = 60
        · rw [if_pos h60] at kk
          refine ⟨fun z => absurd h60 z, fun _ => kk⟩
        · rw [if_neg h60] at kk
          simp only at kk
          refine ⟨fun _ => ?_, fun z => absurd z h60⟩
          have b3 : 60 * q + x.2.length < 2147483648 := by omega
          have b4 : 60 * q + x.2.length < 300 := by omega
          simp [bX2_step_2_98, o_ic, o_lc, o_null, o_il, o_ll, o_al, o_dup, o_pop, o_dup_x1, o_dup2, o_iadd, o_isub, o_imul, o_iand, o_ior, o_ixor, o_ishl, o_ishr, o_idiv, o_irem, o_ineg, o_ladd, o_lsub, o_lmul, o_land, o_lor, o_lxor, o_ldiv, o_lrem, o_lneg, o_lcmp, o_i2l, o_l2i, o_i2b, o_i2c, o_iushr, o_lshl, o_lshr, o_if_eq, o_if_ne, o_if_lt, o_if_ge, o_if_gt, o_if_le, o_icmp_eq, o_icmp_ne, o_icmp_lt, o_icmp_ge, o_icmp_gt, o_icmp_le, o_ifnull, o_ifnonnull, o_acmp_eq, o_acmp_ne, o_is, o_ls, o_as, o_iinc, o_kill, o_sw, o_ireturn, o_zreturn, o_nreturn, o_lreturn, o_areturn, o_return, o_athrow, o_call, entP, lg_sl, Value.category, st1, st2, List.set, List.getElem?_cons_zero, List.getElem?_cons_succ, List.foldl, popN, aft, o_mg, o_mgl, o_mga, o_mp, o_mpz, o_mpl, o_mia, o_mis, o_mbs, o_mc, mput_get, mput_arr, mput_let, mput_put, mset_get, mset_int, mset_let, mputL_get, mputL_arr, mputL_let, mputL_put, i64_8, mLen, vpL, nn_addL, nn_addR, nn_mulL, nn_add, nn_mul, nn_eqL, nn_ltL, nn_leL, nn_Llt, nn_Lle, nn_lt, nn_le, nn_eq, nn_in, nn_clamp, nn_succ, nn_pos, nn_neg1, b3, b4, b1, b2, h57]
          refine kk _ q x hq rfl hx ((FrG.rfl9.set (Or.inr ⟨rfl, by omega, by omega⟩)).set (Or.inl ⟨rfl, rfl⟩)) ⟨?_, ?_, ?_, ?_⟩
          · refine ⟨w1, w2, w3, w4, by simp; omega, fun c hc => ?_, fun i a c ha hc => ?_⟩
            · simp at hc
              rcases hc with hc | hc
              · exact w6 c hc
              · subst hc; exact ht
            · by_cases ci : i + 1 < x.2.length
              · simp only at ha hc
                rw [List.getElem?_append_left (by omega)] at ha
                rw [List.getElem?_append_left ci] at hc
                exact w7 i a c ha hc
              · have ci' : i + 1 = x.2.length := by
                  have := (List.getElem?_eq_some_iff.1 hc).1
                  simp at this; omega
                simp only at ha hc
                rw [List.getElem?_append_left (by omega)] at ha
                rw [ci'] at hc
                simp at hc
                subst hc
                have := b9_iff.1 hg
                have hgl : x.2.getLast? = some a := by rw [List.getLast?_eq_getElem?, show x.2.length - 1 = i by omega]; exact ha
                rw [hgl] at this
                exact this
          · refine hPl.frR (fun j hj => ?_)
            funext i
            rw [mset_get, if_neg (by omega), mset_get, if_neg (by omega)]
          · simp [mput_get, mput_arr, mput_let, mput_put, mset_get, mset_int, mset_let, mputL_get, mputL_arr, mputL_let, mputL_put, i64_8, mLen]
          · intro i c hc
            by_cases ci : i < x.2.length
            · simp only at hc
              rw [List.getElem?_append_left ci] at hc
              have n1 : ¬ i = x.2.length := by omega
              simp [mput_get, mput_arr, mput_let, mput_put, mset_get, mset_int, mset_let, mputL_get, mputL_arr, mputL_let, mputL_put, i64_8, mLen, n1]; exact h58 i c hc
            · have ci' : i = x.2.length := by
                have := (List.getElem?_eq_some_iff.1 hc).1
                simp at this; omega
              subst ci'
              simp at hc
              subst hc
              simp [mput_get, mput_arr, mput_let, mput_put, mset_get, mset_int, mset_let, mputL_get, mputL_arr, mputL_let, mputL_put, i64_8, mLen]
      have bad : b9 (match x.2.getLast? with | none => t = 0 | some a => ∃ y, psN x.1 a t = some y) = false → bX2_step_2_79 mo Q [some (.ref mo), some (.int (nn q)), some (.int (nn t)), some (.int (nn x.2.length)), none] [.int 0] ms := by
        intro hg
        rw [if_neg (by rw [hg]; simp)] at kk
        simp [bX2_step_2_79, o_ic, o_lc, o_null, o_il, o_ll, o_al, o_dup, o_pop, o_dup_x1, o_dup2, o_iadd, o_isub, o_imul, o_iand, o_ior, o_ixor, o_ishl, o_ishr, o_idiv, o_irem, o_ineg, o_ladd, o_lsub, o_lmul, o_land, o_lor, o_lxor, o_ldiv, o_lrem, o_lneg, o_lcmp, o_i2l, o_l2i, o_i2b, o_i2c, o_iushr, o_lshl, o_lshr, o_if_eq, o_if_ne, o_if_lt, o_if_ge, o_if_gt, o_if_le, o_icmp_eq, o_icmp_ne, o_icmp_lt, o_icmp_ge, o_icmp_gt, o_icmp_le, o_ifnull, o_ifnonnull, o_acmp_eq, o_acmp_ne, o_is, o_ls, o_as, o_iinc, o_kill, o_sw, o_ireturn, o_zreturn, o_nreturn, o_lreturn, o_areturn, o_return, o_athrow, o_call, entP, lg_sl, Value.category, st1, st2, List.set, List.getElem?_cons_zero, List.getElem?_cons_succ, List.foldl, popN, aft, o_mg, o_mgl, o_mga, o_mp, o_mpz, o_mpl, o_mia, o_mis, o_mbs, o_mc, mput_get, mput_arr, mput_let, mput_put, mset_get, mset_int, mset_let, mputL_get, mputL_arr, mputL_let, mputL_put, i64_8, mLen]
        exact kk
      refine ⟨fun hne => ?_, fun h0 => ?_⟩
      · obtain ⟨a, ha⟩ : ∃ a, x.2.getLast? = some a := by
          cases hgl : x.2.getLast? with
          | none => rw [List.getLast?_eq_none_iff] at hgl; rw [hgl] at hne; simp at hne
          | some a => exact ⟨a, rfl⟩
        rw [ha] at good bad
        simp only at good bad
        have ham : a ∈ x.2 := List.mem_of_getLast? ha
        have hal := w6 a ham
        rw [List.getLast?_eq_getElem?] at ha
        have hpos : 0 < x.2.length := by
          rcases Nat.eq_zero_or_pos x.2.length with z | z
          · exact absurd (List.length_eq_zero_iff.1 z) (by simpa using hne)
          · exact z
        have e58 := h58 _ _ ha
        have b3 : 60 * q + x.2.length - 1 < 2147483648 := by omega
        have b4 : 60 * q + x.2.length - 1 < 300 := by omega
        have e9' : nn (60 * q + x.2.length) - 1 = nn (60 * q + x.2.length - 1) := nn_pred (by omega)
        rw [show 60 * q + (x.2.length - 1) = 60 * q + x.2.length - 1 by omega] at e58
        simp [bX2_step_2_47, o_ic, o_lc, o_null, o_il, o_ll, o_al, o_dup, o_pop, o_dup_x1, o_dup2, o_iadd, o_isub, o_imul, o_iand, o_ior, o_ixor, o_ishl, o_ishr, o_idiv, o_irem, o_ineg, o_ladd, o_lsub, o_lmul, o_land, o_lor, o_lxor, o_ldiv, o_lrem, o_lneg, o_lcmp, o_i2l, o_l2i, o_i2b, o_i2c, o_iushr, o_lshl, o_lshr, o_if_eq, o_if_ne, o_if_lt, o_if_ge, o_if_gt, o_if_le, o_icmp_eq, o_icmp_ne, o_icmp_lt, o_icmp_ge, o_icmp_gt, o_icmp_le, o_ifnull, o_ifnonnull, o_acmp_eq, o_acmp_ne, o_is, o_ls, o_as, o_iinc, o_kill, o_sw, o_ireturn, o_zreturn, o_nreturn, o_lreturn, o_areturn, o_return, o_athrow, o_call, entP, lg_sl, Value.category, st1, st2, List.set, List.getElem?_cons_zero, List.getElem?_cons_succ, List.foldl, popN, aft, o_mg, o_mgl, o_mga, o_mp, o_mpz, o_mpl, o_mia, o_mis, o_mbs, o_mc, mput_get, mput_arr, mput_let, mput_put, mset_get, mset_int, mset_let, mputL_get, mputL_arr, mputL_let, mputL_put, i64_8, mLen, vpL, nn_addL, nn_addR, nn_mulL, nn_add, nn_mul, e9', nn_eqL, nn_ltL, nn_leL, nn_Llt, nn_Lle, nn_lt, nn_le, nn_eq, nn_in, nn_clamp, nn_succ, nn_pos, nn_neg1, b3, b4, e58]
        refine m_end w1 hPl hq hal ?_
        simp [o_ic, o_lc, o_null, o_il, o_ll, o_al, o_dup, o_pop, o_dup_x1, o_dup2, o_iadd, o_isub, o_imul, o_iand, o_ior, o_ixor, o_ishl, o_ishr, o_idiv, o_irem, o_ineg, o_ladd, o_lsub, o_lmul, o_land, o_lor, o_lxor, o_ldiv, o_lrem, o_lneg, o_lcmp, o_i2l, o_l2i, o_i2b, o_i2c, o_iushr, o_lshl, o_lshr, o_if_eq, o_if_ne, o_if_lt, o_if_ge, o_if_gt, o_if_le, o_icmp_eq, o_icmp_ne, o_icmp_lt, o_icmp_ge, o_icmp_gt, o_icmp_le, o_ifnull, o_ifnonnull, o_acmp_eq, o_acmp_ne, o_is, o_ls, o_as, o_iinc, o_kill, o_sw, o_ireturn, o_zreturn, o_nreturn, o_lreturn, o_areturn, o_return, o_athrow, o_call, entP, lg_sl, Value.category, st1, st2, List.set, List.getElem?_cons_zero, List.getElem?_cons_succ, List.foldl, popN, aft, o_mg, o_mgl, o_mga, o_mp, o_mpz, o_mpl, o_mia, o_mis, o_mbs, o_mc, mput_get, mput_arr, mput_let, mput_put, mset_get, mset_int, mset_let, mputL_get, mputL_arr, mputL_let, mputL_put, i64_8, mLen]
        refine m_passes w1 w2 hPl hq hal ht ?_
        cases hps : psN x.1 a t with
        | none =>
          simp [bX2_step_2_78, o_ic, o_lc, o_null, o_il, o_ll, o_al, o_dup, o_pop, o_dup_x1, o_dup2, o_iadd, o_isub, o_imul, o_iand, o_ior, o_ixor, o_ishl, o_ishr, o_idiv, o_irem, o_ineg, o_ladd, o_lsub, o_lmul, o_land, o_lor, o_lxor, o_ldiv, o_lrem, o_lneg, o_lcmp, o_i2l, o_l2i, o_i2b, o_i2c, o_iushr, o_lshl, o_lshr, o_if_eq, o_if_ne, o_if_lt, o_if_ge, o_if_gt, o_if_le, o_icmp_eq, o_icmp_ne, o_icmp_lt, o_icmp_ge, o_icmp_gt, o_icmp_le, o_ifnull, o_ifnonnull, o_acmp_eq, o_acmp_ne, o_is, o_ls, o_as, o_iinc, o_kill, o_sw, o_ireturn, o_zreturn, o_nreturn, o_lreturn, o_areturn, o_return, o_athrow, o_call, entP, lg_sl, Value.category, st1, st2, List.set, List.getElem?_cons_zero, List.getElem?_cons_succ, List.foldl, popN, aft, o_mg, o_mgl, o_mga, o_mp, o_mpz, o_mpl, o_mia, o_mis, o_mbs, o_mc, mput_get, mput_arr, mput_let, mput_put, mset_get, mset_int, mset_let, mputL_get, mputL_arr, mputL_let, mputL_put, i64_8, mLen, onn]
          exact bad (b9_not.2 (fun z => by obtain ⟨y, z⟩ := z; rw [hps] at z; cases z))
        | some y =>
          have hy : y < (nds x.1).length := by
            unfold psN at hps
            have okl := (hPl.nd w1 w2 (last_lt w1 hal).1).2
            split at hps
            · exact okl.2.1 y hps
            · split at hps
              · exact okl.2.2.1 y hps
              · cases hps
          have l := nds_240 w1
          have by1 : y < 2147483648 := by omega
          simp [bX2_step_2_78, o_ic, o_lc, o_null, o_il, o_ll, o_al, o_dup, o_pop, o_dup_x1, o_dup2, o_iadd, o_isub, o_imul, o_iand, o_ior, o_ixor, o_ishl, o_ishr, o_idiv, o_irem, o_ineg, o_ladd, o_lsub, o_lmul, o_land, o_lor, o_lxor, o_ldiv, o_lrem, o_lneg, o_lcmp, o_i2l, o_l2i, o_i2b, o_i2c, o_iushr, o_lshl, o_lshr, o_if_eq, o_if_ne, o_if_lt, o_if_ge, o_if_gt, o_if_le, o_icmp_eq, o_icmp_ne, o_icmp_lt, o_icmp_ge, o_icmp_gt, o_icmp_le, o_ifnull, o_ifnonnull, o_acmp_eq, o_acmp_ne, o_is, o_ls, o_as, o_iinc, o_kill, o_sw, o_ireturn, o_zreturn, o_nreturn, o_lreturn, o_areturn, o_return, o_athrow, o_call, entP, lg_sl, Value.category, st1, st2, List.set, List.getElem?_cons_zero, List.getElem?_cons_succ, List.foldl, popN, aft, o_mg, o_mgl, o_mga, o_mp, o_mpz, o_mpl, o_mia, o_mis, o_mbs, o_mc, mput_get, mput_arr, mput_let, mput_put, mset_get, mset_int, mset_let, mputL_get, mputL_arr, mputL_let, mputL_put, i64_8, mLen, onn, nn_eqL, nn_ltL, nn_leL, nn_Llt, nn_Lle, nn_lt, nn_le, nn_eq, nn_in, nn_clamp, nn_succ, nn_pos, nn_neg1, by1]
          exact good (b9_iff.2 ⟨y, hps⟩)
      · have hnil : x.2 = [] := by
          first | exact h0 | exact List.length_eq_zero_iff.1 h0
        have hgl : x.2.getLast? = none := by rw [hnil]; rfl
        rw [hgl] at good bad
        simp only at good bad
        simp [bX2_step_2_43, o_ic, o_lc, o_null, o_il, o_ll, o_al, o_dup, o_pop, o_dup_x1, o_dup2, o_iadd, o_isub, o_imul, o_iand, o_ior, o_ixor, o_ishl, o_ishr, o_idiv, o_irem, o_ineg, o_ladd, o_lsub, o_lmul, o_land, o_lor, o_lxor, o_ldiv, o_lrem, o_lneg, o_lcmp, o_i2l, o_l2i, o_i2b, o_i2c, o_iushr, o_lshl, o_lshr, o_if_eq, o_if_ne, o_if_lt, o_if_ge, o_if_gt, o_if_le, o_icmp_eq, o_icmp_ne, o_icmp_lt, o_icmp_ge, o_icmp_gt, o_icmp_le, o_ifnull, o_ifnonnull, o_acmp_eq, o_acmp_ne, o_is, o_ls, o_as, o_iinc, o_kill, o_sw, o_ireturn, o_zreturn, o_nreturn, o_lreturn, o_areturn, o_return, o_athrow, o_call, entP, lg_sl, Value.category, st1, st2, List.set, List.getElem?_cons_zero, List.getElem?_cons_succ, List.foldl, popN, aft, o_mg, o_mgl, o_mga, o_mp, o_mpz, o_mpl, o_mia, o_mis, o_mbs, o_mc, mput_get, mput_arr, mput_let, mput_put, mset_get, mset_int, mset_let, mputL_get, mputL_arr, mputL_let, mputL_put, i64_8, mLen, vpL, nn_addL, nn_addR, nn_mulL, nn_add, nn_mul, nn_eqL, nn_ltL, nn_leL, nn_Llt, nn_Lle, nn_lt, nn_le, nn_eq, nn_in, nn_clamp, nn_succ, nn_pos, nn_neg1, bt]
        exact ⟨fun z => bad (b9_not.2 z), fun z => good (b9_iff.2 z)⟩
    · rw [hi] at kk
      simp only at kk
      simp [o_ic, o_lc, o_null, o_il, o_ll, o_al, o_dup, o_pop, o_dup_x1, o_dup2, o_iadd, o_isub, o_imul, o_iand, o_ior, o_ixor, o_ishl, o_ishr, o_idiv, o_irem, o_ineg, o_ladd, o_lsub, o_lmul, o_land, o_lor, o_lxor, o_ldiv, o_lrem, o_lneg, o_lcmp, o_i2l, o_l2i, o_i2b, o_i2c, o_iushr, o_lshl, o_lshr, o_if_eq, o_if_ne, o_if_lt, o_if_ge, o_if_gt, o_if_le, o_icmp_eq, o_icmp_ne, o_icmp_lt, o_icmp_ge, o_icmp_gt, o_icmp_le, o_ifnull, o_ifnonnull, o_acmp_eq, o_acmp_ne, o_is, o_ls, o_as, o_iinc, o_kill, o_sw, o_ireturn, o_zreturn, o_nreturn, o_lreturn, o_areturn, o_return, o_athrow, o_call, entP, lg_sl, Value.category, st1, st2, List.set, List.getElem?_cons_zero, List.getElem?_cons_succ, List.foldl, popN, aft, o_mg, o_mgl, o_mga, o_mp, o_mpz, o_mpl, o_mia, o_mis, o_mbs, o_mc, mput_get, mput_arr, mput_let, mput_put, mset_get, mset_int, mset_let, mputL_get, mputL_arr, mputL_let, mputL_put, i64_8, mLen, vpL, nn_addL, nn_addR, nn_mulL, nn_add, nn_mul, nn_eqL, nn_ltL, nn_leL, nn_Llt, nn_Lle, nn_lt, nn_le, nn_eq, nn_in, nn_clamp, nn_succ, nn_pos, nn_neg1, b1, b2, e9]
      refine ⟨fun _ => kk, fun h1 => ⟨fun h2 => ?_, fun _ => kk⟩⟩
      rcases hr with hr | hr
      · exact (ab1 hr h1).elim
      · exact (ab2 h2 hr).elim
theorem q_home {mo : Nat} {Q : Ret MS} {ms : MS} {P : Nat → PlA} {p : Int32} (h : MPs ms P)
    (k : match pl9 P p with
      | none => Q (.inl (some (.int (-1)))) ms
      | some x => ∀ ms' q, q < 4 → p = nn q → P q = some x → FrG (PWy q) [] ms ms' → MPl ms' q (some (x.1, [])) → Q (.inl (some (.int (nn x.2.length)))) ms') : pX2_home mo [.ref mo, .int p] ms Q := by
  simp [pX2_home, bX2_home_0, o_ic, o_lc, o_null, o_il, o_ll, o_al, o_dup, o_pop, o_dup_x1, o_dup2, o_iadd, o_isub, o_imul, o_iand, o_ior, o_ixor, o_ishl, o_ishr, o_idiv, o_irem, o_ineg, o_ladd, o_lsub, o_lmul, o_land, o_lor, o_lxor, o_ldiv, o_lrem, o_lneg, o_lcmp, o_i2l, o_l2i, o_i2b, o_i2c, o_iushr, o_lshl, o_lshr, o_if_eq, o_if_ne, o_if_lt, o_if_ge, o_if_gt, o_if_le, o_icmp_eq, o_icmp_ne, o_icmp_lt, o_icmp_ge, o_icmp_gt, o_icmp_le, o_ifnull, o_ifnonnull, o_acmp_eq, o_acmp_ne, o_is, o_ls, o_as, o_iinc, o_kill, o_sw, o_ireturn, o_zreturn, o_nreturn, o_lreturn, o_areturn, o_return, o_athrow, o_call, entP, lg_sl, Value.category, st1, st2, List.set, List.getElem?_cons_zero, List.getElem?_cons_succ, List.foldl, popN, aft, o_mg, o_mgl, o_mga, o_mp, o_mpz, o_mpl, o_mia, o_mis, o_mbs, o_mc, mput_get, mput_arr, mput_let, mput_put, mset_get, mset_int, mset_let, mputL_get, mputL_arr, mputL_let, mputL_put, i64_8, mLen]
  refine m_isThere h (fun hp => ?_) (fun q x hq hp hx hpl => ?_)
  · rw [hp] at k
    simp [o_ic, o_lc, o_null, o_il, o_ll, o_al, o_dup, o_pop, o_dup_x1, o_dup2, o_iadd, o_isub, o_imul, o_iand, o_ior, o_ixor, o_ishl, o_ishr, o_idiv, o_irem, o_ineg, o_ladd, o_lsub, o_lmul, o_land, o_lor, o_lxor, o_ldiv, o_lrem, o_lneg, o_lcmp, o_i2l, o_l2i, o_i2b, o_i2c, o_iushr, o_lshl, o_lshr, o_if_eq, o_if_ne, o_if_lt, o_if_ge, o_if_gt, o_if_le, o_icmp_eq, o_icmp_ne, o_icmp_lt, o_icmp_ge, o_icmp_gt, o_icmp_le, o_ifnull, o_ifnonnull, o_acmp_eq, o_acmp_ne, o_is, o_ls, o_as, o_iinc, o_kill, o_sw, o_ireturn, o_zreturn, o_nreturn, o_lreturn, o_areturn, o_return, o_athrow, o_call, entP, lg_sl, Value.category, st1, st2, List.set, List.getElem?_cons_zero, List.getElem?_cons_succ, List.foldl, popN, aft]; exact k
  · rw [hpl] at k
    simp only at k
    subst hp
    obtain ⟨hok, hPl, h57, h58⟩ := h.at hq hx
    obtain ⟨w1, w2, w3, w4, w5, w6, w7⟩ := id hok
    have b1 : q < 2147483648 := by omega
    have b2 : q < 5 := by omega
    simp [bX2_home_10, o_ic, o_lc, o_null, o_il, o_ll, o_al, o_dup, o_pop, o_dup_x1, o_dup2, o_iadd, o_isub, o_imul, o_iand, o_ior, o_ixor, o_ishl, o_ishr, o_idiv, o_irem, o_ineg, o_ladd, o_lsub, o_lmul, o_land, o_lor, o_lxor, o_ldiv, o_lrem, o_lneg, o_lcmp, o_i2l, o_l2i, o_i2b, o_i2c, o_iushr, o_lshl, o_lshr, o_if_eq, o_if_ne, o_if_lt, o_if_ge, o_if_gt, o_if_le, o_icmp_eq, o_icmp_ne, o_icmp_lt, o_icmp_ge, o_icmp_gt, o_icmp_le, o_ifnull, o_ifnonnull, o_acmp_eq, o_acmp_ne, o_is, o_ls, o_as, o_iinc, o_kill, o_sw, o_ireturn, o_zreturn, o_nreturn, o_lreturn, o_areturn, o_return, o_athrow, o_call, entP, lg_sl, Value.category, st1, st2, List.set, List.getElem?_cons_zero, List.getElem?_cons_succ, List.foldl, popN, aft, o_mg, o_mgl, o_mga, o_mp, o_mpz, o_mpl, o_mia, o_mis, o_mbs, o_mc, mput_get, mput_arr, mput_let, mput_put, mset_get, mset_int, mset_let, mputL_get, mputL_arr, mputL_let, mputL_put, i64_8, mLen, vpL, nn_addL, nn_addR, nn_mulL, nn_add, nn_mul, nn_eqL, nn_ltL, nn_leL, nn_Llt, nn_Lle, nn_lt, nn_le, nn_eq, nn_in, nn_clamp, nn_succ, nn_pos, nn_neg1, b1, b2, h57]
    refine k _ q hq rfl hx (FrG.rfl9.set (Or.inl ⟨rfl, rfl⟩)) ⟨⟨w1, w2, w3, w4, by simp, fun b hb => by simp at hb, fun i a b ha => by simp at ha⟩, hPl.frR (fun j hj => ?_), by simp [mput_get, mput_arr, mput_let, mput_put, mset_get, mset_int, mset_let, mputL_get, mputL_arr, mputL_let, mputL_put, i64_8, mLen]; rfl, fun i b hi => by simp at hi⟩
    funext i
    rw [mset_get, if_neg (by omega)]
