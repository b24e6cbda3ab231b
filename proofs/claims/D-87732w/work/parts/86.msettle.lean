/-! THE MODEL settles a sum -/
set_option maxRecDepth 100000
theorem TbM.fa {ms : MS} {R : Rt} {φ : Nat → Int32} (h : TbM ms R) : TbM (msA ms 31 φ) R := by
  obtain ⟨⟨a1, a2, a3, a4, a5, a6, a7, a8⟩, b⟩ := h
  have e : ∀ k i, k ≠ 31 → (msA ms 31 φ).2.2 k i = ms.2.2 k i := fun k i hk => by rw [msA_get, if_neg hk]
  refine ⟨⟨by rw [e 9 _ (by omega)]; exact a1, by rw [e 10 _ (by omega)]; exact a2, by rw [e 11 _ (by omega)]; exact a3, fun b hb => by rw [e 13 _ (by omega)]; exact a4 b hb, fun k x hx => ?_, ⟨by rw [e 12 _ (by omega)]; exact a6, a7, fun j s hj hs => ?_⟩⟩, b⟩
  · have := a5 k x hx
    unfold NdM at this ⊢
    rw [e 15 _ (by omega), e 16 _ (by omega), e 17 _ (by omega), e 18 _ (by omega), e 19 _ (by omega), e 20 _ (by omega), e 21 _ (by omega), e 22 _ (by omega), e 23 _ (by omega), e 24 _ (by omega), e 25 _ (by omega)]
    exact this
  · rw [e 26 _ (by omega), e 27 _ (by omega), e 28 _ (by omega), e 29 _ (by omega), e 30 _ (by omega)]
    exact a8 j s hj hs
def cntT (n : Nat) (X : Nat → Bool) : Nat := (List.range n).countP X
theorem cntT_succ (n : Nat) (X : Nat → Bool) : cntT (n + 1) X = cntT n X + if X n = true then 1 else 0 := by
  unfold cntT; rw [List.range_succ, List.countP_append]; simp [List.countP_cons]
theorem cntT_congr : ∀ (n : Nat) {X Y : Nat → Bool}, (∀ j, j < n → X j = Y j) → cntT n X = cntT n Y
  | 0, _, _, _ => rfl
  | n + 1, X, Y, h => by rw [cntT_succ, cntT_succ, cntT_congr n (fun j hj => h j (by omega)), h n (by omega)]
theorem cntT_upd : ∀ (n : Nat) {X : Nat → Bool} {t : Nat}, t < n → X t = true → cntT n (updB X t false) < cntT n X
  | 0, _, _, h, _ => by omega
  | n + 1, X, t, h, h0 => by
    rw [cntT_succ, cntT_succ]
    by_cases e : t = n
    · subst e
      rw [cntT_congr t (X := updB X t false) (Y := X) (fun j hj => by unfold updB; rw [if_neg (by omega)])]
      simp [updB, h0]
    · have := cntT_upd n (t := t) (X := X) (by omega) h0
      have e2 : updB X t false n = X n := by unfold updB; rw [if_neg (by omega)]
      rw [e2]; omega
theorem hol_col {R : Rt} {e i : Nat} {G : Nat → Nat → Bool} {X : Nat → Bool} {Y : Nat → Prop} {k : Nat} (hi : i = 2 ∨ i = 3 ∨ i = 5 ∨ i = 7) : hol R e i (fun j => updB (G j) i (X j)) Y k ↔ hol R e i G Y k := by
  rcases hi with rfl | rfl | rfl | rfl
  all_goals simp [hol, updB]
/-- the row at f, of which column i is X -/
def RwX (f n i : Nat) (G : Nat → Nat → Bool) (φ0 φ : Nat → Int32) (X : Nat → Bool) : Prop := (∀ k, k < n → φ (f + k) = wd8 (updB (G k) i (X k))) ∧ (∀ x, ¬ (f ≤ x ∧ x < f + n) → φ x = φ0 x) ∧ ∀ j, X j = true → j < n
abbrev FN (R : Rt) (e i : Nat) (G : Nat → Nat → Bool) : (Nat → Prop) → Nat → Prop := fun Y k => k < (nds R).length ∧ hol R e i G Y k
theorem FN_mono {R : Rt} {e i : Nat} {G : Nat → Nat → Bool} (X Y : Nat → Prop) (h : ∀ j, X j → Y j) (k : Nat) (q : FN R e i G X k) : FN R e i G Y k := ⟨q.1, hol_mono h q.2⟩
theorem x_narrow {mo : Nat} {Q : Ret MS} {ms : MS} {R : Rt} {e i : Nat} {G : Nat → Nat → Bool} {φ0 : Nat → Int32} (h : TbM ms R) (he : e < (sms R.1).length) (hi : i = 2 ∨ i = 3 ∨ i = 5 ∨ i = 7) (h0 : RwX (30720 + 240 * e) (nds R).length i G φ0 φ0 (fun j => decide (j < (nds R).length)))
    (k : ∀ φ, RwX (30720 + 240 * e) (nds R).length i G φ0 φ (fun j => b9 (gfp9 (FN R e i G) j)) → Q (.inl none) (msA ms 31 φ)) : pX2_narrow mo [.ref mo, .int (nn e), .int (p2 i)] (msA ms 31 φ0) Q := by
  have l := h.n.1
  have l2 := h.2.2.2
  have hn : ∀ φ, (msA ms 31 φ).2.2 10 4 = nn (nds R).length := fun φ => by rw [msA_get, if_neg (by omega)]; exact h.n.2
  have b0 : (nds R).length < 2147483648 := by omega
  have hi8 : i < 8 := by omega
  simp [pX2_narrow, bX2_narrow_0, o_ic, o_lc, o_null, o_il, o_ll, o_al, o_dup, o_pop, o_dup_x1, o_dup2, o_iadd, o_isub, o_imul, o_iand, o_ior, o_ixor, o_ishl, o_ishr, o_idiv, o_irem, o_ineg, o_ladd, o_lsub, o_lmul, o_land, o_lor, o_lxor, o_ldiv, o_lrem, o_lneg, o_lcmp, o_i2l, o_l2i, o_i2b, o_i2c, o_iushr, o_lshl, o_lshr, o_if_eq, o_if_ne, o_if_lt, o_if_ge, o_if_gt, o_if_le, o_icmp_eq, o_icmp_ne, o_icmp_lt, o_icmp_ge, o_icmp_gt, o_icmp_le, o_ifnull, o_ifnonnull, o_acmp_eq, o_acmp_ne, o_is, o_ls, o_as, o_iinc, o_kill, o_sw, o_ireturn, o_zreturn, o_nreturn, o_lreturn, o_areturn, o_return, o_athrow, o_call, entP, lg_sl, Value.category, st1, st2, List.set, List.getElem?_cons_zero, List.getElem?_cons_succ, List.foldl, popN, aft, o_mg, o_mgl, o_mga, o_mp, o_mpz, o_mpl, o_mia, o_mis, o_mbs, o_mc, mput_get, mput_arr, mput_let, mput_put, mset_get, mset_int, mset_let, mputL_get, mputL_arr, mputL_let, mputL_put, i64_8, mLen]
  refine m_base (p := 4) (e := e) ?_
  rw [show (32 * 4 + e) * 240 = 30720 + 240 * e by omega]
  simp [o_ic, o_lc, o_null, o_il, o_ll, o_al, o_dup, o_pop, o_dup_x1, o_dup2, o_iadd, o_isub, o_imul, o_iand, o_ior, o_ixor, o_ishl, o_ishr, o_idiv, o_irem, o_ineg, o_ladd, o_lsub, o_lmul, o_land, o_lor, o_lxor, o_ldiv, o_lrem, o_lneg, o_lcmp, o_i2l, o_l2i, o_i2b, o_i2c, o_iushr, o_lshl, o_lshr, o_if_eq, o_if_ne, o_if_lt, o_if_ge, o_if_gt, o_if_le, o_icmp_eq, o_icmp_ne, o_icmp_lt, o_icmp_ge, o_icmp_gt, o_icmp_le, o_ifnull, o_ifnonnull, o_acmp_eq, o_acmp_ne, o_is, o_ls, o_as, o_iinc, o_kill, o_sw, o_ireturn, o_zreturn, o_nreturn, o_lreturn, o_areturn, o_return, o_athrow, o_call, entP, lg_sl, Value.category, st1, st2, List.set, List.getElem?_cons_zero, List.getElem?_cons_succ, List.foldl, popN, aft, o_mg, o_mgl, o_mga, o_mp, o_mpz, o_mpl, o_mia, o_mis, o_mbs, o_mc, mput_get, mput_arr, mput_let, mput_put, mset_get, mset_int, mset_let, mputL_get, mputL_arr, mputL_let, mputL_put, i64_8, mLen]
  generalize hf : 30720 + 240 * e = f at h0 k
  have hfl : f + 240 ≤ 38400 := by omega
  unfold bX2_narrow_10
  intro X hX
  -- one pass
  have pass : ∀ (J : Cont MS) r q φ Y (m : Int32), q + r = (nds R).length → RwX f (nds R).length i G φ0 φ Y → (∀ j, gfp9 (FN R e i G) j → Y j = true) → (m = 0 ∨ m = 1) →
      (∀ φ' Y' (m' : Int32), RwX f (nds R).length i G φ0 φ' Y' → (∀ j, gfp9 (FN R e i G) j → Y' j = true) → (m' = 0 ∨ m' = 1) → (m' = 0 → m = 0 ∧ Y' = Y ∧ ∀ j, q ≤ j → Y j = true → hol R e i G (fun j => Y j = true) j) → (m' = 1 → m = 1 ∨ cntT (nds R).length Y' < cntT (nds R).length Y) → cntT (nds R).length Y' ≤ cntT (nds R).length Y → J [some (.ref mo), some (.int (nn e)), some (.int (p2 i)), some (.int (nn f)), some (.int m'), none] [] (msA ms 31 φ')) →
      bX2_narrow_21 mo Q J [some (.ref mo), some (.int (nn e)), some (.int (p2 i)), some (.int (nn f)), some (.int m), some (.int (nn q))] [] (msA ms 31 φ) := by
    intro J r q φ Y m h1 h2 h3 h4 k
    unfold bX2_narrow_21
    intro Z hZ
    revert r q φ Y m
    intro r
    induction r with
    | zero =>
      intro q φ Y m e1 hR hg hm kk
      apply hZ
      have b1 : q < 2147483648 := by omega
      have b3 : (nds R).length ≤ q := by omega
      have b4 : ¬ q < (nds R).length := by omega
      have hn' := hn φ
      simp only [msA_get] at hn'
      simp [bX2_narrow_82, o_ic, o_lc, o_null, o_il, o_ll, o_al, o_dup, o_pop, o_dup_x1, o_dup2, o_iadd, o_isub, o_imul, o_iand, o_ior, o_ixor, o_ishl, o_ishr, o_idiv, o_irem, o_ineg, o_ladd, o_lsub, o_lmul, o_land, o_lor, o_lxor, o_ldiv, o_lrem, o_lneg, o_lcmp, o_i2l, o_l2i, o_i2b, o_i2c, o_iushr, o_lshl, o_lshr, o_if_eq, o_if_ne, o_if_lt, o_if_ge, o_if_gt, o_if_le, o_icmp_eq, o_icmp_ne, o_icmp_lt, o_icmp_ge, o_icmp_gt, o_icmp_le, o_ifnull, o_ifnonnull, o_acmp_eq, o_acmp_ne, o_is, o_ls, o_as, o_iinc, o_kill, o_sw, o_ireturn, o_zreturn, o_nreturn, o_lreturn, o_areturn, o_return, o_athrow, o_call, entP, lg_sl, Value.category, st1, st2, List.set, List.getElem?_cons_zero, List.getElem?_cons_succ, List.foldl, popN, aft, o_mg, o_mgl, o_mga, o_mp, o_mpz, o_mpl, o_mia, o_mis, o_mbs, o_mc, mput_get, mput_arr, mput_let, mput_put, mset_get, mset_int, mset_let, mputL_get, mputL_arr, mputL_let, mputL_put, i64_8, mLen, vpL, nn_addL, nn_addR, nn_mulL, nn_add, nn_mul, nn_eqL, nn_ltL, nn_leL, nn_Llt, nn_Lle, nn_lt, nn_le, nn_eq, nn_in, nn_clamp, nn_succ, nn_pos, nn_neg1, msA_get, msA_int, msA_let, mset_msA, upd9_get, b0, b1, b3, b4]
      rw [h.n.2]
      simp [o_ic, o_lc, o_null, o_il, o_ll, o_al, o_dup, o_pop, o_dup_x1, o_dup2, o_iadd, o_isub, o_imul, o_iand, o_ior, o_ixor, o_ishl, o_ishr, o_idiv, o_irem, o_ineg, o_ladd, o_lsub, o_lmul, o_land, o_lor, o_lxor, o_ldiv, o_lrem, o_lneg, o_lcmp, o_i2l, o_l2i, o_i2b, o_i2c, o_iushr, o_lshl, o_lshr, o_if_eq, o_if_ne, o_if_lt, o_if_ge, o_if_gt, o_if_le, o_icmp_eq, o_icmp_ne, o_icmp_lt, o_icmp_ge, o_icmp_gt, o_icmp_le, o_ifnull, o_ifnonnull, o_acmp_eq, o_acmp_ne, o_is, o_ls, o_as, o_iinc, o_kill, o_sw, o_ireturn, o_zreturn, o_nreturn, o_lreturn, o_areturn, o_return, o_athrow, o_call, entP, lg_sl, Value.category, st1, st2, List.set, List.getElem?_cons_zero, List.getElem?_cons_succ, List.foldl, popN, aft, o_mg, o_mgl, o_mga, o_mp, o_mpz, o_mpl, o_mia, o_mis, o_mbs, o_mc, mput_get, mput_arr, mput_let, mput_put, mset_get, mset_int, mset_let, mputL_get, mputL_arr, mputL_let, mputL_put, i64_8, mLen, vpL, nn_addL, nn_addR, nn_mulL, nn_add, nn_mul, nn_eqL, nn_ltL, nn_leL, nn_Llt, nn_Lle, nn_lt, nn_le, nn_eq, nn_in, nn_clamp, nn_succ, nn_pos, nn_neg1, msA_get, msA_int, msA_let, mset_msA, upd9_get, b0, b1, b3, b4]
      exact kk φ Y m hR hg hm (fun q' => ⟨q', rfl, fun j hj hY => by have := hR.2.2 j hY; omega⟩) (fun q' => Or.inl q') (Nat.le_refl _)
    | succ r ih =>
      intro q φ Y m e1 hR hg hm kk
      apply hZ
      have hq : q < (nds R).length := by omega
      have b1 : q < 2147483648 := by omega
      have b4 : ¬ (nds R).length ≤ q := by omega
      have b5 : f + q < 2147483648 := by omega
      have b6 : f + q < 38400 := by omega
      have hFa : FaM (msA ms 31 φ) f (nds R).length (fun j => updB (G j) i (Y j)) := fun j hj => by rw [msA_get, if_pos rfl]; exact hR.1 j hj
      have hsame : (Y q = true → hol R e i G (fun j => Y j = true) q) → Z [some (.ref mo), some (.int (nn e)), some (.int (p2 i)), some (.int (nn f)), some (.int m), some (.int (nn (q + 1)))] [] (msA ms 31 φ) := fun hh => ih (q + 1) φ Y m (by omega) hR hg hm (fun φ' Y' m' p1 p2 p3 p4 p5 p6 => kk φ' Y' m' p1 p2 p3 (fun z => ⟨(p4 z).1, (p4 z).2.1, fun j hj hY => by
        by_cases c : j = q
        · subst c; exact hh hY
        · exact (p4 z).2.2 j (by omega) hY⟩) p5 p6)
      simp [o_ic, o_lc, o_null, o_il, o_ll, o_al, o_dup, o_pop, o_dup_x1, o_dup2, o_iadd, o_isub, o_imul, o_iand, o_ior, o_ixor, o_ishl, o_ishr, o_idiv, o_irem, o_ineg, o_ladd, o_lsub, o_lmul, o_land, o_lor, o_lxor, o_ldiv, o_lrem, o_lneg, o_lcmp, o_i2l, o_l2i, o_i2b, o_i2c, o_iushr, o_lshl, o_lshr, o_if_eq, o_if_ne, o_if_lt, o_if_ge, o_if_gt, o_if_le, o_icmp_eq, o_icmp_ne, o_icmp_lt, o_icmp_ge, o_icmp_gt, o_icmp_le, o_ifnull, o_ifnonnull, o_acmp_eq, o_acmp_ne, o_is, o_ls, o_as, o_iinc, o_kill, o_sw, o_ireturn, o_zreturn, o_nreturn, o_lreturn, o_areturn, o_return, o_athrow, o_call, entP, lg_sl, Value.category, st1, st2, List.set, List.getElem?_cons_zero, List.getElem?_cons_succ, List.foldl, popN, aft, o_mg, o_mgl, o_mga, o_mp, o_mpz, o_mpl, o_mia, o_mis, o_mbs, o_mc, mput_get, mput_arr, mput_let, mput_put, mset_get, mset_int, mset_let, mputL_get, mputL_arr, mputL_let, mputL_put, i64_8, mLen, vpL, nn_addL, nn_addR, nn_mulL, nn_add, nn_mul, nn_eqL, nn_ltL, nn_leL, nn_Llt, nn_Lle, nn_lt, nn_le, nn_eq, nn_in, nn_clamp, nn_succ, nn_pos, nn_neg1, msA_get, msA_int, msA_let, mset_msA, upd9_get, h.n.2, b0, b1, hq, b4]
      refine m_is (g := updB (G q) i (Y q)) hi8 b6 (hFa q hq) ?_
      have eY : updB (G q) i (Y q) i = Y q := by simp [updB]
      rw [eY]
      simp [bX2_narrow_76, o_ic, o_lc, o_null, o_il, o_ll, o_al, o_dup, o_pop, o_dup_x1, o_dup2, o_iadd, o_isub, o_imul, o_iand, o_ior, o_ixor, o_ishl, o_ishr, o_idiv, o_irem, o_ineg, o_ladd, o_lsub, o_lmul, o_land, o_lor, o_lxor, o_ldiv, o_lrem, o_lneg, o_lcmp, o_i2l, o_l2i, o_i2b, o_i2c, o_iushr, o_lshl, o_lshr, o_if_eq, o_if_ne, o_if_lt, o_if_ge, o_if_gt, o_if_le, o_icmp_eq, o_icmp_ne, o_icmp_lt, o_icmp_ge, o_icmp_gt, o_icmp_le, o_ifnull, o_ifnonnull, o_acmp_eq, o_acmp_ne, o_is, o_ls, o_as, o_iinc, o_kill, o_sw, o_ireturn, o_zreturn, o_nreturn, o_lreturn, o_areturn, o_return, o_athrow, o_call, entP, lg_sl, Value.category, st1, st2, List.set, List.getElem?_cons_zero, List.getElem?_cons_succ, List.foldl, popN, aft, o_mg, o_mgl, o_mga, o_mp, o_mpz, o_mpl, o_mia, o_mis, o_mbs, o_mc, mput_get, mput_arr, mput_let, mput_put, mset_get, mset_int, mset_let, mputL_get, mputL_arr, mputL_let, mputL_put, i64_8, mLen, vpL, nn_addL, nn_addR, nn_mulL, nn_add, nn_mul, nn_eqL, nn_ltL, nn_leL, nn_Llt, nn_Lle, nn_lt, nn_le, nn_eq, nn_in, nn_clamp, nn_succ, nn_pos, nn_neg1, b2i_0]
      refine ⟨fun g1 => hsame (fun z => by rw [g1] at z; cases z), fun g1 => ?_⟩
      rw [← hf] at hFa ⊢
      refine m_holds (G := fun j => updB (G j) i (Y j)) h.fa he hq hi hFa ?_
      have eH : hol R e i (fun j => updB (G j) i (Y j)) (fun j => updB (G j) i (Y j) i = true) q ↔ hol R e i G (fun j => Y j = true) q := by
        rw [hol_col hi]; simp [updB]
      rw [hf] at hFa ⊢
      simp [bX2_narrow_58, bX2_narrow_76, o_ic, o_lc, o_null, o_il, o_ll, o_al, o_dup, o_pop, o_dup_x1, o_dup2, o_iadd, o_isub, o_imul, o_iand, o_ior, o_ixor, o_ishl, o_ishr, o_idiv, o_irem, o_ineg, o_ladd, o_lsub, o_lmul, o_land, o_lor, o_lxor, o_ldiv, o_lrem, o_lneg, o_lcmp, o_i2l, o_l2i, o_i2b, o_i2c, o_iushr, o_lshl, o_lshr, o_if_eq, o_if_ne, o_if_lt, o_if_ge, o_if_gt, o_if_le, o_icmp_eq, o_icmp_ne, o_icmp_lt, o_icmp_ge, o_icmp_gt, o_icmp_le, o_ifnull, o_ifnonnull, o_acmp_eq, o_acmp_ne, o_is, o_ls, o_as, o_iinc, o_kill, o_sw, o_ireturn, o_zreturn, o_nreturn, o_lreturn, o_areturn, o_return, o_athrow, o_call, entP, lg_sl, Value.category, st1, st2, List.set, List.getElem?_cons_zero, List.getElem?_cons_succ, List.foldl, popN, aft, o_mg, o_mgl, o_mga, o_mp, o_mpz, o_mpl, o_mia, o_mis, o_mbs, o_mc, mput_get, mput_arr, mput_let, mput_put, mset_get, mset_int, mset_let, mputL_get, mputL_arr, mputL_let, mputL_put, i64_8, mLen, vpL, nn_addL, nn_addR, nn_mulL, nn_add, nn_mul, nn_eqL, nn_ltL, nn_leL, nn_Llt, nn_Lle, nn_lt, nn_le, nn_eq, nn_in, nn_clamp, nn_succ, nn_pos, nn_neg1, msA_get, msA_int, msA_let, mset_msA, upd9_get, b2i_0, b5, b6]
      refine ⟨fun g2 => ?_, fun g2 => hsame (fun _ => eH.1 (b9_iff.1 g2))⟩
      have nh : ¬ hol R e i G (fun j => Y j = true) q := fun z => b9_not.1 g2 (eH.2 z)
      have e9 : (p2 i ^^^ (-1)) = ~~~ p2 i := by simp
      rw [hR.1 q hq, ← e9, wd8_not _ hi]
      have hlt := cntT_upd (nds R).length (X := Y) (t := q) hq g1
      refine ih (q + 1) _ (updB Y q false) 1 (by omega) ⟨fun j hj => ?_, fun x hx => ?_, fun j hj => ?_⟩ (fun j hj => ?_) (Or.inr rfl) (fun φ' Y' m' p1 p2 p3 p4 p5 p6 => kk φ' Y' m' p1 p2 p3 (fun z => absurd (p4 z).1 (by decide)) (fun _ => Or.inr (by omega)) (by omega))
      · rw [upd9_get]
        by_cases c : j = q
        · subst c; rw [if_pos rfl]; congr 1; funext z; by_cases c2 : z = i <;> simp [updB, c2]
        · rw [if_neg (by omega), hR.1 j hj]; simp [updB, c]
      · rw [upd9_get, if_neg (by omega)]; exact hR.2.1 x hx
      · unfold updB at hj
        split at hj
        · cases hj
        · exact hR.2.2 j hj
      · unfold updB
        split
        · next c => subst c; exact absurd (hol_mono hg (gfp9_unf FN_mono hj).2) nh
        · exact hg j hj
  have hind : ∀ c φ Y, cntT (nds R).length Y < c → RwX f (nds R).length i G φ0 φ Y → (∀ j, gfp9 (FN R e i G) j → Y j = true) → X [some (.ref mo), some (.int (nn e)), some (.int (p2 i)), some (.int (nn f)), some (.int 1), none] [] (msA ms 31 φ) := by
    intro c
    induction c with
    | zero => intro φ Y hc; omega
    | succ c ih =>
      intro φ Y hc hR hg
      apply hX
      simp [o_ic, o_lc, o_null, o_il, o_ll, o_al, o_dup, o_pop, o_dup_x1, o_dup2, o_iadd, o_isub, o_imul, o_iand, o_ior, o_ixor, o_ishl, o_ishr, o_idiv, o_irem, o_ineg, o_ladd, o_lsub, o_lmul, o_land, o_lor, o_lxor, o_ldiv, o_lrem, o_lneg, o_lcmp, o_i2l, o_l2i, o_i2b, o_i2c, o_iushr, o_lshl, o_lshr, o_if_eq, o_if_ne, o_if_lt, o_if_ge, o_if_gt, o_if_le, o_icmp_eq, o_icmp_ne, o_icmp_lt, o_icmp_ge, o_icmp_gt, o_icmp_le, o_ifnull, o_ifnonnull, o_acmp_eq, o_acmp_ne, o_is, o_ls, o_as, o_iinc, o_kill, o_sw, o_ireturn, o_zreturn, o_nreturn, o_lreturn, o_areturn, o_return, o_athrow, o_call, entP, lg_sl, Value.category, st1, st2, List.set, List.getElem?_cons_zero, List.getElem?_cons_succ, List.foldl, popN, aft, o_mg, o_mgl, o_mga, o_mp, o_mpz, o_mpl, o_mia, o_mis, o_mbs, o_mc, mput_get, mput_arr, mput_let, mput_put, mset_get, mset_int, mset_let, mputL_get, mputL_arr, mputL_let, mputL_put, i64_8, mLen]
      refine pass X (nds R).length 0 φ Y 0 (by omega) hR hg (Or.inl rfl) (fun φ' Y' m' p1 p2 p3 p4 p5 p6 => ?_)
      rcases p3 with p3 | p3
      · obtain ⟨-, e1, e2⟩ := p4 p3
        subst e1
        rw [p3]
        apply hX
        simp [bX2_narrow_85, o_ic, o_lc, o_null, o_il, o_ll, o_al, o_dup, o_pop, o_dup_x1, o_dup2, o_iadd, o_isub, o_imul, o_iand, o_ior, o_ixor, o_ishl, o_ishr, o_idiv, o_irem, o_ineg, o_ladd, o_lsub, o_lmul, o_land, o_lor, o_lxor, o_ldiv, o_lrem, o_lneg, o_lcmp, o_i2l, o_l2i, o_i2b, o_i2c, o_iushr, o_lshl, o_lshr, o_if_eq, o_if_ne, o_if_lt, o_if_ge, o_if_gt, o_if_le, o_icmp_eq, o_icmp_ne, o_icmp_lt, o_icmp_ge, o_icmp_gt, o_icmp_le, o_ifnull, o_ifnonnull, o_acmp_eq, o_acmp_ne, o_is, o_ls, o_as, o_iinc, o_kill, o_sw, o_ireturn, o_zreturn, o_nreturn, o_lreturn, o_areturn, o_return, o_athrow, o_call, entP, lg_sl, Value.category, st1, st2, List.set, List.getElem?_cons_zero, List.getElem?_cons_succ, List.foldl, popN, aft, o_mg, o_mgl, o_mga, o_mp, o_mpz, o_mpl, o_mia, o_mis, o_mbs, o_mc, mput_get, mput_arr, mput_let, mput_put, mset_get, mset_int, mset_let, mputL_get, mputL_arr, mputL_let, mputL_put, i64_8, mLen]
        have hY : Y' = fun j => b9 (gfp9 (FN R e i G) j) := by
          funext j
          cases hj : Y' j with
          | false =>
            symm
            exact b9_not.2 (fun z => by rw [p2 j z] at hj; cases hj)
          | true =>
            symm
            refine b9_iff.2 (gfp9_top (X := fun j => Y' j = true) (fun j hj => ⟨p1.2.2 j hj, e2 j (Nat.zero_le j) hj⟩) hj)
        rw [← hY] at k
        exact k φ' p1
      · rw [p3]
        have := (p5 p3).resolve_left (by decide)
        exact ih φ' Y' (by omega) p1 p2
  exact hind _ φ0 _ (Nat.lt_succ_self _) h0 (fun j hj => by simpa using (gfp9_unf FN_mono hj).1)
