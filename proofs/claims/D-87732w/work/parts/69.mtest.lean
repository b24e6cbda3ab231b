/-! THE MODEL reads tests; what may begin -/
set_option maxRecDepth 100000
def testR (tp : Nat → Nat) (td f : Nat) : Except Flt ((Opd × Opd × (Nat × Nat) × (Nat × Nat)) × Nat) := do
  let (a, g) ← opnd tp td (nx tp td f)
  let g ← sgx tp td g 60
  let (b, g) ← opnd tp td g
  let (t1, g1) ← tgt tp td g
  let (t2, g2) ← tgt tp td g1
  .ok ((a, b, (g, t1), (g1, t2)), g2)
theorem NmM.fr {P : Nat → Nat → Prop} {ks : List Nat} {ms ms' : MS} {l : List (Nat × Nat)} (h : NmM ms l) (hf : FrG P ks ms ms') (h1 : 41 ∉ ks) (h2 : ∀ i, ¬ P 39 i) (h3 : ∀ i, ¬ P 40 i) : NmM ms' l :=
  ⟨(hf.1 41 (by omega) h1).trans h.1, fun i x hx => by rw [hf.2 39 i (h2 i), hf.2 40 i (h3 i)]; exact h.2 i x hx⟩
theorem x_test {mo : Nat} {Q : Ret MS} {tp : Nat → Nat} {td : Nat} {ms : MS} {f n : Nat} {l : List (Nat × Nat)} (hn : n < 1200) (hT : TapeM ms tp td) (hp : TokM ms tp td f) (hb : ms.1 32 = 0) (hl : l.length + 1 < 200) (hN : NmM ms l)
    (k : ∀ ms', FrG (fun k i => PN n [15, 19, 20, 21, 22, 23, 24] k i ∨ k = 39 ∨ k = 40) [32, 33, 35, 36, 41] ms ms' → PM tp td ((testR tp td f).map (·.2)) ms' → (∀ a b t u g, testR tp td f = .ok ((a, b, t, u), g) → ms'.2.2 15 n = 5 ∧ ms'.2.2 19 n = nn t.2 ∧ ms'.2.2 20 n = nn u.2 ∧ ms'.2.2 21 n = a.1 ∧ ms'.2.2 22 n = a.2 ∧ ms'.2.2 23 n = b.1 ∧ ms'.2.2 24 n = b.2 ∧ NmM ms' (l ++ [t, u])) → Q (.inl none) ms') : pX2_test mo [.ref mo, .int (nn n)] ms Q := by
  have b1 : n < 2147483648 := by omega
  simp [pX2_test, bX2_test_0, o_ic, o_lc, o_null, o_il, o_ll, o_al, o_dup, o_pop, o_dup_x1, o_dup2, o_iadd, o_isub, o_imul, o_iand, o_ior, o_ixor, o_ishl, o_ishr, o_idiv, o_irem, o_ineg, o_ladd, o_lsub, o_lmul, o_land, o_lor, o_lxor, o_ldiv, o_lrem, o_lneg, o_lcmp, o_i2l, o_l2i, o_i2b, o_i2c, o_iushr, o_lshl, o_lshr, o_if_eq, o_if_ne, o_if_lt, o_if_ge, o_if_gt, o_if_le, o_icmp_eq, o_icmp_ne, o_icmp_lt, o_icmp_ge, o_icmp_gt, o_icmp_le, o_ifnull, o_ifnonnull, o_acmp_eq, o_acmp_ne, o_is, o_ls, o_as, o_iinc, o_kill, o_sw, o_ireturn, o_zreturn, o_nreturn, o_lreturn, o_areturn, o_return, o_athrow, o_call, entP, lg_sl, Value.category, st1, st2, List.set, List.getElem?_cons_zero, List.getElem?_cons_succ, List.foldl, popN, aft, o_mg, o_mgl, o_mga, o_mp, o_mpz, o_mpl, o_mia, o_mis, o_mbs, o_mc, mput_get, mput_arr, mput_let, mput_put, mset_get, mset_int, mset_let, mputL_get, mputL_arr, mputL_let, mputL_put, i64_8, mLen, vpL, nn_addL, nn_addR, nn_mulL, nn_add, nn_mul, nn_eqL, nn_ltL, nn_leL, nn_Llt, nn_Lle, nn_lt, nn_le, nn_eq, nn_in, nn_clamp, nn_succ, nn_pos, nn_neg1, b1, hn]
  refine x_next (ms := mset ms 15 n 5) (hT.set (by omega)) hp.set (fun ms1 f1 t1 => ?_)
  have hT1 := f1.tape (hT.set (k := 15) (i := n) (x := 5) (by omega))
  simp [o_ic, o_lc, o_null, o_il, o_ll, o_al, o_dup, o_pop, o_dup_x1, o_dup2, o_iadd, o_isub, o_imul, o_iand, o_ior, o_ixor, o_ishl, o_ishr, o_idiv, o_irem, o_ineg, o_ladd, o_lsub, o_lmul, o_land, o_lor, o_lxor, o_ldiv, o_lrem, o_lneg, o_lcmp, o_i2l, o_l2i, o_i2b, o_i2c, o_iushr, o_lshl, o_lshr, o_if_eq, o_if_ne, o_if_lt, o_if_ge, o_if_gt, o_if_le, o_icmp_eq, o_icmp_ne, o_icmp_lt, o_icmp_ge, o_icmp_gt, o_icmp_le, o_ifnull, o_ifnonnull, o_acmp_eq, o_acmp_ne, o_is, o_ls, o_as, o_iinc, o_kill, o_sw, o_ireturn, o_zreturn, o_nreturn, o_lreturn, o_areturn, o_return, o_athrow, o_call, entP, lg_sl, Value.category, st1, st2, List.set, List.getElem?_cons_zero, List.getElem?_cons_succ, List.foldl, popN, aft, o_mg, o_mgl, o_mga, o_mp, o_mpz, o_mpl, o_mia, o_mis, o_mbs, o_mc]
  refine x_first (r := .ok (nx tp td f)) hn hT1 ⟨t1, (f1.tok 32 (by omega)).trans hb⟩ (fun ms2 f2 p2 v2 => ?_)
  have hT2 := f2.tape (by simp) (by simp [PN]) hT1
  simp [o_ic, o_lc, o_null, o_il, o_ll, o_al, o_dup, o_pop, o_dup_x1, o_dup2, o_iadd, o_isub, o_imul, o_iand, o_ior, o_ixor, o_ishl, o_ishr, o_idiv, o_irem, o_ineg, o_ladd, o_lsub, o_lmul, o_land, o_lor, o_lxor, o_ldiv, o_lrem, o_lneg, o_lcmp, o_i2l, o_l2i, o_i2b, o_i2c, o_iushr, o_lshl, o_lshr, o_if_eq, o_if_ne, o_if_lt, o_if_ge, o_if_gt, o_if_le, o_icmp_eq, o_icmp_ne, o_icmp_lt, o_icmp_ge, o_icmp_gt, o_icmp_le, o_ifnull, o_ifnonnull, o_acmp_eq, o_acmp_ne, o_is, o_ls, o_as, o_iinc, o_kill, o_sw, o_ireturn, o_zreturn, o_nreturn, o_lreturn, o_areturn, o_return, o_athrow, o_call, entP, lg_sl, Value.category, st1, st2, List.set, List.getElem?_cons_zero, List.getElem?_cons_succ, List.foldl, popN, aft, o_mg, o_mgl, o_mga, o_mp, o_mpz, o_mpl, o_mia, o_mis, o_mbs, o_mc]
  refine x_take (c := 60) hT2 p2.pm (by omega) (fun ms3 f3 p3 => ?_)
  have hT3 := f3.tape (by simp) hT2
  simp [o_ic, o_lc, o_null, o_il, o_ll, o_al, o_dup, o_pop, o_dup_x1, o_dup2, o_iadd, o_isub, o_imul, o_iand, o_ior, o_ixor, o_ishl, o_ishr, o_idiv, o_irem, o_ineg, o_ladd, o_lsub, o_lmul, o_land, o_lor, o_lxor, o_ldiv, o_lrem, o_lneg, o_lcmp, o_i2l, o_l2i, o_i2b, o_i2c, o_iushr, o_lshl, o_lshr, o_if_eq, o_if_ne, o_if_lt, o_if_ge, o_if_gt, o_if_le, o_icmp_eq, o_icmp_ne, o_icmp_lt, o_icmp_ge, o_icmp_gt, o_icmp_le, o_ifnull, o_ifnonnull, o_acmp_eq, o_acmp_ne, o_is, o_ls, o_as, o_iinc, o_kill, o_sw, o_ireturn, o_zreturn, o_nreturn, o_lreturn, o_areturn, o_return, o_athrow, o_call, entP, lg_sl, Value.category, st1, st2, List.set, List.getElem?_cons_zero, List.getElem?_cons_succ, List.foldl, popN, aft, o_mg, o_mgl, o_mga, o_mp, o_mpz, o_mpl, o_mia, o_mis, o_mbs, o_mc]
  refine x_second hn hT3 p3 (fun ms4 f4 p4 v4 => ?_)
  have hT4 := f4.tape (by simp) (by simp [PN]) hT3
  have fr4 : FrG (fun k i => PN n [15, 21, 22, 23, 24] k i) [32, 33, 35, 36] ms ms4 := by
    refine FrG.trans (FrG.rfl9.set ⟨by simp, rfl⟩) (FrG.trans f1.G ?_)
    refine FrG.trans (f2.mono (by simp) (fun k i q => ⟨by have := q.1; simp at this ⊢; omega, q.2⟩)) (FrG.trans (f3.G.mono (by simp) (fun _ _ q => q)) ?_)
    exact f4.mono (by simp) (fun k i q => ⟨by have := q.1; simp at this ⊢; omega, q.2⟩)
  have hN4 : NmM ms4 l := hN.fr fr4 (by simp) (by simp [PN]) (by simp [PN])
  simp [o_ic, o_lc, o_null, o_il, o_ll, o_al, o_dup, o_pop, o_dup_x1, o_dup2, o_iadd, o_isub, o_imul, o_iand, o_ior, o_ixor, o_ishl, o_ishr, o_idiv, o_irem, o_ineg, o_ladd, o_lsub, o_lmul, o_land, o_lor, o_lxor, o_ldiv, o_lrem, o_lneg, o_lcmp, o_i2l, o_l2i, o_i2b, o_i2c, o_iushr, o_lshl, o_lshr, o_if_eq, o_if_ne, o_if_lt, o_if_ge, o_if_gt, o_if_le, o_icmp_eq, o_icmp_ne, o_icmp_lt, o_icmp_ge, o_icmp_gt, o_icmp_le, o_ifnull, o_ifnonnull, o_acmp_eq, o_acmp_ne, o_is, o_ls, o_as, o_iinc, o_kill, o_sw, o_ireturn, o_zreturn, o_nreturn, o_lreturn, o_areturn, o_return, o_athrow, o_call, entP, lg_sl, Value.category, st1, st2, List.set, List.getElem?_cons_zero, List.getElem?_cons_succ, List.foldl, popN, aft, o_mg, o_mgl, o_mga, o_mp, o_mpz, o_mpl, o_mia, o_mis, o_mbs, o_mc]
  refine x_block (l := l) hT4 p4.pm (by omega) (fun _ _ => hN4) (fun u ms5 f5 p5 v5 => ?_)
  have hT5 := f5.tape (by simp) (by simp) hT4
  simp [o_ic, o_lc, o_null, o_il, o_ll, o_al, o_dup, o_pop, o_dup_x1, o_dup2, o_iadd, o_isub, o_imul, o_iand, o_ior, o_ixor, o_ishl, o_ishr, o_idiv, o_irem, o_ineg, o_ladd, o_lsub, o_lmul, o_land, o_lor, o_lxor, o_ldiv, o_lrem, o_lneg, o_lcmp, o_i2l, o_l2i, o_i2b, o_i2c, o_iushr, o_lshl, o_lshr, o_if_eq, o_if_ne, o_if_lt, o_if_ge, o_if_gt, o_if_le, o_icmp_eq, o_icmp_ne, o_icmp_lt, o_icmp_ge, o_icmp_gt, o_icmp_le, o_ifnull, o_ifnonnull, o_acmp_eq, o_acmp_ne, o_is, o_ls, o_as, o_iinc, o_kill, o_sw, o_ireturn, o_zreturn, o_nreturn, o_lreturn, o_areturn, o_return, o_athrow, o_call, entP, lg_sl, Value.category, st1, st2, List.set, List.getElem?_cons_zero, List.getElem?_cons_succ, List.foldl, popN, aft, o_mg, o_mgl, o_mga, o_mp, o_mpz, o_mpl, o_mia, o_mis, o_mbs, o_mc, mput_get, mput_arr, mput_let, mput_put, mset_get, mset_int, mset_let, mputL_get, mputL_arr, mputL_let, mputL_put, i64_8, mLen, vpL, nn_addL, nn_addR, nn_mulL, nn_add, nn_mul, nn_eqL, nn_ltL, nn_leL, nn_Llt, nn_Lle, nn_lt, nn_le, nn_eq, nn_in, nn_clamp, nn_succ, nn_pos, nn_neg1, b1, hn]
  have hT5' := hT5.set (k := 19) (i := n) (x := u) (by omega)
  have fin : ∀ (l' : List (Nat × Nat)) (r5 : Except Flt Nat), l'.length < 200 → PM tp td r5 ms5 → (∀ g, r5 = .ok g → NmM ms5 l') → (∀ v ms6, FrG (fun k _ => k = 39 ∨ k = 40) [32, 33, 41] (mset ms5 19 n u) ms6 → PM tp td ((r5.bind (tgt tp td)).map (·.2)) ms6 → (∀ f b g, r5 = .ok f → tgt tp td f = .ok (b, g) → v = nn b ∧ NmM ms6 (l' ++ [(f, b)])) → Q (.inl none) (mset ms6 20 n v)) → pX2_block mo [.ref mo] (mset ms5 19 n u) (aft [some (.ref mo), some (.int (nn n))] [.int (nn n), .ref (mad mo 20)] (fun _ a σ => Q (.inr a) σ) (o_mis mo 20 (o_return Q))) := by
    intro l' r5 hl' hp' hN' kk
    refine x_block (l := l') hT5' hp'.set hl' (fun g hg => ⟨(hN' g hg).1, fun i x hx => by simp [mput_get, mput_arr, mput_let, mput_put, mset_get, mset_int, mset_let, mputL_get, mputL_arr, mputL_let, mputL_put, i64_8, mLen]; exact (hN' g hg).2 i x hx⟩) (fun v ms6 f6 p6 v6 => ?_)
    simp [o_ic, o_lc, o_null, o_il, o_ll, o_al, o_dup, o_pop, o_dup_x1, o_dup2, o_iadd, o_isub, o_imul, o_iand, o_ior, o_ixor, o_ishl, o_ishr, o_idiv, o_irem, o_ineg, o_ladd, o_lsub, o_lmul, o_land, o_lor, o_lxor, o_ldiv, o_lrem, o_lneg, o_lcmp, o_i2l, o_l2i, o_i2b, o_i2c, o_iushr, o_lshl, o_lshr, o_if_eq, o_if_ne, o_if_lt, o_if_ge, o_if_gt, o_if_le, o_icmp_eq, o_icmp_ne, o_icmp_lt, o_icmp_ge, o_icmp_gt, o_icmp_le, o_ifnull, o_ifnonnull, o_acmp_eq, o_acmp_ne, o_is, o_ls, o_as, o_iinc, o_kill, o_sw, o_ireturn, o_zreturn, o_nreturn, o_lreturn, o_areturn, o_return, o_athrow, o_call, entP, lg_sl, Value.category, st1, st2, List.set, List.getElem?_cons_zero, List.getElem?_cons_succ, List.foldl, popN, aft, o_mg, o_mgl, o_mga, o_mp, o_mpz, o_mpl, o_mia, o_mis, o_mbs, o_mc, mput_get, mput_arr, mput_let, mput_put, mset_get, mset_int, mset_let, mputL_get, mputL_arr, mputL_let, mputL_put, i64_8, mLen, vpL, nn_addL, nn_addR, nn_mulL, nn_add, nn_mul, nn_eqL, nn_ltL, nn_leL, nn_Llt, nn_Lle, nn_lt, nn_le, nn_eq, nn_in, nn_clamp, nn_succ, nn_pos, nn_neg1, b1, hn]
    exact kk v ms6 f6 p6 v6
  have frE : ∀ v ms6, FrG (fun k _ => k = 39 ∨ k = 40) [32, 33, 41] (mset ms5 19 n u) ms6 → FrG (fun k i => PN n [15, 19, 20, 21, 22, 23, 24] k i ∨ k = 39 ∨ k = 40) [32, 33, 35, 36, 41] ms (mset ms6 20 n v) := by
    intro v ms6 f6
    refine FrG.set (FrG.trans (FrG.set (FrG.trans (fr4.mono (by simp) (fun k i q => Or.inl ⟨by have := q.1; simp at this ⊢; omega, q.2⟩)) (f5.mono (by simp) (fun k i q => Or.inr q))) ?_) (f6.mono (by simp) (fun k i q => Or.inr q))) ?_
    · exact Or.inl ⟨by simp, rfl⟩
    · exact Or.inl ⟨by simp, rfl⟩
  have bad : ∀ e, PM tp td (.error e) ms5 → testR tp td f = .error e → pX2_block mo [.ref mo] (mset ms5 19 n u) (aft [some (.ref mo), some (.int (nn n))] [.int (nn n), .ref (mad mo 20)] (fun _ a σ => Q (.inr a) σ) (o_mis mo 20 (o_return Q))) := by
    intro e he ht
    refine fin [] (.error e) (by simp) he (fun g h => by cases h) (fun v ms6 f6 p6 v6 => k _ (frE v ms6 f6) ?_ (fun a b t u g h => ?_))
    · rw [ht]; exact PM.set p6
    · rw [ht] at h; cases h
  cases h2 : opnd tp td (nx tp td f) with
  | error e =>
    simp [h2, Except.bind, Except.map] at p5
    exact bad e p5 (by simp [testR, h2, bind, Except.bind])
  | ok x =>
    cases h3 : sgx tp td x.2 60 with
    | error e =>
      simp [h2, h3, Except.bind, Except.map] at p5
      exact bad e p5 (by simp [testR, h2, h3, bind, Except.bind])
    | ok g3 =>
      cases h4 : opnd tp td g3 with
      | error e =>
        simp [h2, h3, h4, Except.bind, Except.map] at p5
        exact bad e p5 (by simp [testR, h2, h3, h4, bind, Except.bind])
      | ok y =>
        cases h5 : tgt tp td y.2 with
        | error e =>
          simp [h2, h3, h4, h5, Except.bind, Except.map] at p5
          exact bad e p5 (by simp [testR, h2, h3, h4, h5, bind, Except.bind])
        | ok t =>
          simp [h2, h3, h4, h5, Except.bind, Except.map] at p5
          obtain ⟨w1, w2⟩ := v5 y.2 t.1 t.2 (by simp [h2, h3, h4, Except.bind, Except.map]) h5
          refine fin (l ++ [(y.2, t.1)]) (.ok t.2) (by simp; omega) p5 (fun g h => w2) (fun v ms6 f6 p6 v6 => k _ (frE v ms6 f6) ?_ (fun a b t' u' g h => ?_))
          · have e9 : (testR tp td f).map (·.2) = ((Except.ok t.2).bind (tgt tp td)).map (·.2) := by
              simp [testR, h2, h3, h4, h5, bind, Except.bind]
              cases tgt tp td t.2 <;> rfl
            rw [e9]; exact PM.set p6
          · cases h6 : tgt tp td t.2 with
            | error e => simp [testR, h2, h3, h4, h5, h6, bind, Except.bind] at h
            | ok z =>
              simp [testR, h2, h3, h4, h5, h6, bind, Except.bind] at h
              obtain ⟨⟨rfl, rfl, rfl, rfl⟩, rfl⟩ := h
              obtain ⟨z1, z2⟩ := v6 t.2 z.1 z.2 rfl h6
              have c2 := v2 x.1 x.2 (by simp [h2, Except.bind])
              have c4 := v4 y.1 y.2 (by simp [h2, h3, h4, Except.bind, Except.map])
              have up : ∀ j, j ≠ 20 → j ≠ 19 → j ≠ 39 → j ≠ 40 → (mset ms6 20 n v).2.2 j n = ms4.2.2 j n := fun j j1 j2 j3 j4 => by
                rw [mset_get, if_neg (by omega), f6.2 j n (by simp [j3, j4]), mset_get, if_neg (by omega), f5.2 j n (by simp [j3, j4])]
              refine ⟨?_, ?_, ?_, ?_, ?_, ?_, ?_, ?_⟩
              · rw [up 15 (by omega) (by omega) (by omega) (by omega), f4.2 15 n (by simp [PN]), f3.2, f2.2 15 n (by simp [PN]), f1.2]; simp [mput_get, mput_arr, mput_let, mput_put, mset_get, mset_int, mset_let, mputL_get, mputL_arr, mputL_let, mputL_put, i64_8, mLen]
              · rw [mset_get, if_neg (by omega), f6.2 19 n (by simp)]; simp [mput_get, mput_arr, mput_let, mput_put, mset_get, mset_int, mset_let, mputL_get, mputL_arr, mputL_let, mputL_put, i64_8, mLen]; exact w1
              · simp [mput_get, mput_arr, mput_let, mput_put, mset_get, mset_int, mset_let, mputL_get, mputL_arr, mputL_let, mputL_put, i64_8, mLen]; exact z1
              · rw [up 21 (by omega) (by omega) (by omega) (by omega), f4.2 21 n (by simp [PN]), f3.2]; exact c2.1
              · rw [up 22 (by omega) (by omega) (by omega) (by omega), f4.2 22 n (by simp [PN]), f3.2]; exact c2.2
              · rw [up 23 (by omega) (by omega) (by omega) (by omega)]; exact c4.1
              · rw [up 24 (by omega) (by omega) (by omega) (by omega)]; exact c4.2
              · have z3 : NmM ms6 (l ++ [(y.2, t.1), (t.2, z.1)]) := by simpa using z2
                exact ⟨z3.1, fun i x hx => by simp [mput_get, mput_arr, mput_let, mput_put, mset_get, mset_int, mset_let, mputL_get, mputL_arr, mputL_let, mputL_put, i64_8, mLen]; exact z3.2 i x hx⟩
