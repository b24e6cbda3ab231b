/-! THE MODEL reads puts and tests -/
set_option maxRecDepth 100000
theorem PMo.pm {tp : Nat → Nat} {td : Nat} {r : Except Flt (Opd × Nat)} {ms : MS} (h : PMo tp td r ms) : PM tp td (r.map (·.2)) ms := by
  cases r with
  | ok x => exact ⟨h.1, h.2.1⟩
  | error e => exact h
theorem PM.set {tp : Nat → Nat} {td : Nat} {r : Except Flt Nat} {ms : MS} {k i : Nat} {x : Int32} (h : PM tp td r ms) : PM tp td r (mset ms k i x) := by
  cases r with
  | ok f => exact h
  | error e => exact h
/-- what is read of a put -/
def putR (tp : Nat → Nat) (td f : Nat) : Except Flt ((Opd × Opd) × Nat) := do
  let g ← sgx tp td (nx tp td f) 91
  let (a, g) ← opnd tp td g
  let g ← sgx tp td g 93
  let g ← sgx tp td g 61
  let (b, g) ← opnd tp td g
  .ok ((a, b), g)
theorem x_put {mo : Nat} {Q : Ret MS} {tp : Nat → Nat} {td : Nat} {ms : MS} {f n : Nat} {row : Int32} (hn : n < 1200) (hT : TapeM ms tp td) (hp : TokM ms tp td f) (hb : ms.1 32 = 0)
    (k : ∀ ms', FrG (PN n [15, 25, 21, 22, 23, 24]) ksO ms ms' → PM tp td ((putR tp td f).map (·.2)) ms' → (∀ a b g, putR tp td f = .ok ((a, b), g) → ms'.2.2 15 n = 2 ∧ ms'.2.2 25 n = row ∧ ms'.2.2 21 n = a.1 ∧ ms'.2.2 22 n = a.2 ∧ ms'.2.2 23 n = b.1 ∧ ms'.2.2 24 n = b.2) → Q (.inl none) ms') : pX2_put mo [.ref mo, .int (nn n), .int row] ms Q := by
  have b1 : n < 2147483648 := by omega
  simp [pX2_put, bX2_put_0, o_ic, o_lc, o_null, o_il, o_ll, o_al, o_dup, o_pop, o_dup_x1, o_dup2, o_iadd, o_isub, o_imul, o_iand, o_ior, o_ixor, o_ishl, o_ishr, o_idiv, o_irem, o_ineg, o_ladd, o_lsub, o_lmul, o_land, o_lor, o_lxor, o_ldiv, o_lrem, o_lneg, o_lcmp, o_i2l, o_l2i, o_i2b, o_i2c, o_iushr, o_lshl, o_lshr, o_if_eq, o_if_ne, o_if_lt, o_if_ge, o_if_gt, o_if_le, o_icmp_eq, o_icmp_ne, o_icmp_lt, o_icmp_ge, o_icmp_gt, o_icmp_le, o_ifnull, o_ifnonnull, o_acmp_eq, o_acmp_ne, o_is, o_ls, o_as, o_iinc, o_kill, o_sw, o_ireturn, o_zreturn, o_nreturn, o_lreturn, o_areturn, o_return, o_athrow, o_call, entP, lg_sl, Value.category, st1, st2, List.set, List.getElem?_cons_zero, List.getElem?_cons_succ, List.foldl, popN, aft, o_mg, o_mgl, o_mga, o_mp, o_mpz, o_mpl, o_mia, o_mis, o_mbs, o_mc, mput_get, mput_arr, mput_let, mput_put, mset_get, mset_int, mset_let, mputL_get, mputL_arr, mputL_let, mputL_put, i64_8, mLen, nn_eqL, nn_ltL, nn_leL, nn_Llt, nn_Lle, nn_lt, nn_le, nn_eq, nn_in, nn_clamp, nn_succ, nn_pos, nn_neg1, b1, hn]
  refine x_next (ms := mset (mset ms 15 n 2) 25 n row) ((hT.set (by omega)).set (by omega)) hp.set.set (fun ms1 hf ht => ?_)
  have hT1 := hf.tape ((hT.set (k := 15) (i := n) (x := 2) (by omega)).set (k := 25) (i := n) (x := row) (by omega))
  simp [o_ic, o_lc, o_null, o_il, o_ll, o_al, o_dup, o_pop, o_dup_x1, o_dup2, o_iadd, o_isub, o_imul, o_iand, o_ior, o_ixor, o_ishl, o_ishr, o_idiv, o_irem, o_ineg, o_ladd, o_lsub, o_lmul, o_land, o_lor, o_lxor, o_ldiv, o_lrem, o_lneg, o_lcmp, o_i2l, o_l2i, o_i2b, o_i2c, o_iushr, o_lshl, o_lshr, o_if_eq, o_if_ne, o_if_lt, o_if_ge, o_if_gt, o_if_le, o_icmp_eq, o_icmp_ne, o_icmp_lt, o_icmp_ge, o_icmp_gt, o_icmp_le, o_ifnull, o_ifnonnull, o_acmp_eq, o_acmp_ne, o_is, o_ls, o_as, o_iinc, o_kill, o_sw, o_ireturn, o_zreturn, o_nreturn, o_lreturn, o_areturn, o_return, o_athrow, o_call, entP, lg_sl, Value.category, st1, st2, List.set, List.getElem?_cons_zero, List.getElem?_cons_succ, List.foldl, popN, aft, o_mg, o_mgl, o_mga, o_mp, o_mpz, o_mpl, o_mia, o_mis, o_mbs, o_mc]
  refine x_take (r := .ok (nx tp td f)) (c := 91) hT1 ⟨ht, (hf.tok 32 (by omega)).trans hb⟩ (by omega) (fun ms2 f2 p2 => ?_)
  simp [o_ic, o_lc, o_null, o_il, o_ll, o_al, o_dup, o_pop, o_dup_x1, o_dup2, o_iadd, o_isub, o_imul, o_iand, o_ior, o_ixor, o_ishl, o_ishr, o_idiv, o_irem, o_ineg, o_ladd, o_lsub, o_lmul, o_land, o_lor, o_lxor, o_ldiv, o_lrem, o_lneg, o_lcmp, o_i2l, o_l2i, o_i2b, o_i2c, o_iushr, o_lshl, o_lshr, o_if_eq, o_if_ne, o_if_lt, o_if_ge, o_if_gt, o_if_le, o_icmp_eq, o_icmp_ne, o_icmp_lt, o_icmp_ge, o_icmp_gt, o_icmp_le, o_ifnull, o_ifnonnull, o_acmp_eq, o_acmp_ne, o_is, o_ls, o_as, o_iinc, o_kill, o_sw, o_ireturn, o_zreturn, o_nreturn, o_lreturn, o_areturn, o_return, o_athrow, o_call, entP, lg_sl, Value.category, st1, st2, List.set, List.getElem?_cons_zero, List.getElem?_cons_succ, List.foldl, popN, aft, o_mg, o_mgl, o_mga, o_mp, o_mpz, o_mpl, o_mia, o_mis, o_mbs, o_mc]
  have hT2 := f2.tape (by simp) hT1
  refine x_first hn hT2 p2 (fun ms3 f3 p3 v3 => ?_)
  simp [o_ic, o_lc, o_null, o_il, o_ll, o_al, o_dup, o_pop, o_dup_x1, o_dup2, o_iadd, o_isub, o_imul, o_iand, o_ior, o_ixor, o_ishl, o_ishr, o_idiv, o_irem, o_ineg, o_ladd, o_lsub, o_lmul, o_land, o_lor, o_lxor, o_ldiv, o_lrem, o_lneg, o_lcmp, o_i2l, o_l2i, o_i2b, o_i2c, o_iushr, o_lshl, o_lshr, o_if_eq, o_if_ne, o_if_lt, o_if_ge, o_if_gt, o_if_le, o_icmp_eq, o_icmp_ne, o_icmp_lt, o_icmp_ge, o_icmp_gt, o_icmp_le, o_ifnull, o_ifnonnull, o_acmp_eq, o_acmp_ne, o_is, o_ls, o_as, o_iinc, o_kill, o_sw, o_ireturn, o_zreturn, o_nreturn, o_lreturn, o_areturn, o_return, o_athrow, o_call, entP, lg_sl, Value.category, st1, st2, List.set, List.getElem?_cons_zero, List.getElem?_cons_succ, List.foldl, popN, aft, o_mg, o_mgl, o_mga, o_mp, o_mpz, o_mpl, o_mia, o_mis, o_mbs, o_mc]
  have hT3 := f3.tape (by simp) (by simp [PN]) hT2
  refine x_take (c := 93) hT3 p3.pm (by omega) (fun ms4 f4 p4 => ?_)
  simp [o_ic, o_lc, o_null, o_il, o_ll, o_al, o_dup, o_pop, o_dup_x1, o_dup2, o_iadd, o_isub, o_imul, o_iand, o_ior, o_ixor, o_ishl, o_ishr, o_idiv, o_irem, o_ineg, o_ladd, o_lsub, o_lmul, o_land, o_lor, o_lxor, o_ldiv, o_lrem, o_lneg, o_lcmp, o_i2l, o_l2i, o_i2b, o_i2c, o_iushr, o_lshl, o_lshr, o_if_eq, o_if_ne, o_if_lt, o_if_ge, o_if_gt, o_if_le, o_icmp_eq, o_icmp_ne, o_icmp_lt, o_icmp_ge, o_icmp_gt, o_icmp_le, o_ifnull, o_ifnonnull, o_acmp_eq, o_acmp_ne, o_is, o_ls, o_as, o_iinc, o_kill, o_sw, o_ireturn, o_zreturn, o_nreturn, o_lreturn, o_areturn, o_return, o_athrow, o_call, entP, lg_sl, Value.category, st1, st2, List.set, List.getElem?_cons_zero, List.getElem?_cons_succ, List.foldl, popN, aft, o_mg, o_mgl, o_mga, o_mp, o_mpz, o_mpl, o_mia, o_mis, o_mbs, o_mc]
  have hT4 := f4.tape (by simp) hT3
  refine x_take (c := 61) hT4 p4 (by omega) (fun ms5 f5 p5 => ?_)
  simp [o_ic, o_lc, o_null, o_il, o_ll, o_al, o_dup, o_pop, o_dup_x1, o_dup2, o_iadd, o_isub, o_imul, o_iand, o_ior, o_ixor, o_ishl, o_ishr, o_idiv, o_irem, o_ineg, o_ladd, o_lsub, o_lmul, o_land, o_lor, o_lxor, o_ldiv, o_lrem, o_lneg, o_lcmp, o_i2l, o_l2i, o_i2b, o_i2c, o_iushr, o_lshl, o_lshr, o_if_eq, o_if_ne, o_if_lt, o_if_ge, o_if_gt, o_if_le, o_icmp_eq, o_icmp_ne, o_icmp_lt, o_icmp_ge, o_icmp_gt, o_icmp_le, o_ifnull, o_ifnonnull, o_acmp_eq, o_acmp_ne, o_is, o_ls, o_as, o_iinc, o_kill, o_sw, o_ireturn, o_zreturn, o_nreturn, o_lreturn, o_areturn, o_return, o_athrow, o_call, entP, lg_sl, Value.category, st1, st2, List.set, List.getElem?_cons_zero, List.getElem?_cons_succ, List.foldl, popN, aft, o_mg, o_mgl, o_mga, o_mp, o_mpz, o_mpl, o_mia, o_mis, o_mbs, o_mc]
  have hT5 := f5.tape (by simp) hT4
  refine x_second hn hT5 p5 (fun ms6 f6 p6 v6 => ?_)
  simp [o_ic, o_lc, o_null, o_il, o_ll, o_al, o_dup, o_pop, o_dup_x1, o_dup2, o_iadd, o_isub, o_imul, o_iand, o_ior, o_ixor, o_ishl, o_ishr, o_idiv, o_irem, o_ineg, o_ladd, o_lsub, o_lmul, o_land, o_lor, o_lxor, o_ldiv, o_lrem, o_lneg, o_lcmp, o_i2l, o_l2i, o_i2b, o_i2c, o_iushr, o_lshl, o_lshr, o_if_eq, o_if_ne, o_if_lt, o_if_ge, o_if_gt, o_if_le, o_icmp_eq, o_icmp_ne, o_icmp_lt, o_icmp_ge, o_icmp_gt, o_icmp_le, o_ifnull, o_ifnonnull, o_acmp_eq, o_acmp_ne, o_is, o_ls, o_as, o_iinc, o_kill, o_sw, o_ireturn, o_zreturn, o_nreturn, o_lreturn, o_areturn, o_return, o_athrow, o_call, entP, lg_sl, Value.category, st1, st2, List.set, List.getElem?_cons_zero, List.getElem?_cons_succ, List.foldl, popN, aft]
  have fr : FrG (PN n [15, 25, 21, 22, 23, 24]) ksO ms ms6 := by
    refine FrG.trans ((FrG.rfl9.set ⟨by simp, rfl⟩).set ⟨by simp, rfl⟩) (FrG.trans hf.G ?_)
    refine FrG.trans (f2.G.mono (by simp) (fun _ _ q => q)) (FrG.trans (f3.mono (fun _ q => q) (fun k i q => ⟨by have := q.1; simp at this ⊢; omega, q.2⟩)) ?_)
    refine FrG.trans (f4.G.mono (by simp) (fun _ _ q => q)) (FrG.trans (f5.G.mono (by simp) (fun _ _ q => q)) ?_)
    exact f6.mono (fun _ q => q) (fun k i q => ⟨by have := q.1; simp at this ⊢; omega, q.2⟩)
  have hput : putR tp td f = (((Except.ok (nx tp td f)).bind (fun f => sgx tp td f 91)).bind (opnd tp td)).bind (fun x => ((sgx tp td x.2 93).bind (fun f => sgx tp td f 61)).bind (fun g => (opnd tp td g).bind (fun y => .ok ((x.1, y.1), y.2)))) := by
    unfold putR
    simp only [bind, Except.bind]
    cases sgx tp td (nx tp td f) 91 with
    | error e => rfl
    | ok g1 =>
      simp only
      cases opnd tp td g1 with
      | error e => rfl
      | ok x =>
        simp only
        cases sgx tp td x.2 93 with
        | error e => rfl
        | ok g3 => rfl
  generalize ((Except.ok (nx tp td f)).bind (fun f => sgx tp td f 91)).bind (opnd tp td) = r3 at hput p3 v3 p4 p5 p6 v6
  cases r3 with
  | error e =>
    refine k ms6 fr ?_ (fun a b g h => ?_)
    · rw [hput]; exact p6
    · rw [hput] at h; cases h
  | ok x =>
    have e21 := v3 x.1 x.2 rfl
    have hput' : putR tp td f = ((sgx tp td x.2 93).bind (fun f => sgx tp td f 61)).bind (fun g => (opnd tp td g).bind (fun y => .ok ((x.1, y.1), y.2))) := hput
    have p6' : PMo tp td (((sgx tp td x.2 93).bind (fun f => sgx tp td f 61)).bind (opnd tp td)) ms6 := p6
    have v6' : ∀ o g, ((sgx tp td x.2 93).bind (fun f => sgx tp td f 61)).bind (opnd tp td) = .ok (o, g) → ms6.2.2 23 n = o.1 ∧ ms6.2.2 24 n = o.2 := v6
    generalize (sgx tp td x.2 93).bind (fun f => sgx tp td f 61) = r5 at hput' p6' v6'
    cases r5 with
    | error e =>
      refine k ms6 fr ?_ (fun a b g h => ?_)
      · rw [hput']; exact p6'
      · rw [hput'] at h; cases h
    | ok g5 =>
      have hput2 : putR tp td f = (opnd tp td g5).bind (fun y => .ok ((x.1, y.1), y.2)) := hput'
      have p7 : PMo tp td (opnd tp td g5) ms6 := p6'
      have v7 : ∀ o g, opnd tp td g5 = .ok (o, g) → ms6.2.2 23 n = o.1 ∧ ms6.2.2 24 n = o.2 := v6'
      generalize opnd tp td g5 = r6 at hput2 p7 v7
      cases r6 with
      | error e =>
        refine k ms6 fr ?_ (fun a b g h => ?_)
        · rw [hput2]; exact p7
        · rw [hput2] at h; cases h
      | ok y =>
        refine k ms6 fr ?_ (fun a b g h => ?_)
        · rw [hput2]; exact p7.pm
        · rw [hput2] at h
          have hab : ((x.1, y.1), y.2) = ((a, b), g) := Except.ok.inj h
          cases hab
          obtain ⟨u1, u2⟩ := v7 y.1 y.2 rfl
          refine ⟨?_, ?_, ?_, ?_, u1, u2⟩
          · rw [f6.2 15 n (by simp [PN]), f5.2, f4.2, f3.2 15 n (by simp [PN]), f2.2, hf.2]; simp [mput_get, mput_arr, mput_let, mput_put, mset_get, mset_int, mset_let, mputL_get, mputL_arr, mputL_let, mputL_put, i64_8, mLen]
          · rw [f6.2 25 n (by simp [PN]), f5.2, f4.2, f3.2 25 n (by simp [PN]), f2.2, hf.2]; simp [mput_get, mput_arr, mput_let, mput_put, mset_get, mset_int, mset_let, mputL_get, mputL_arr, mputL_let, mputL_put, i64_8, mLen]
          · rw [f6.2 21 n (by simp [PN]), f5.2, f4.2]; exact e21.1
          · rw [f6.2 22 n (by simp [PN]), f5.2, f4.2]; exact e21.2
