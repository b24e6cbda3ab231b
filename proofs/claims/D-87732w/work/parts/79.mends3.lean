/-! THE MODEL's ends: what leaves; all of it -/
set_option maxRecDepth 100000
def Pass2 (R : Rt) (b : Nat) (ρ : Nat → Int32) (m : Int32) (ρ' : Nat → Int32) (m' : Int32) : Prop := B01 R.2.length ρ' ∧ (∀ j, j < R.2.length → ρ' j = 1 → Lvs R j) ∧ (∀ j, j < R.2.length → ρ j = 1 → ρ' j = 1) ∧ (m' = 0 ∨ m' = 1) ∧ (m' = 0 → m = 0 ∧ ρ' = ρ ∧ ∀ a, b ≤ a → a < R.2.length → ∀ t, egT R a t → ρ t = 1 → ρ a = 1) ∧ (m' = 1 → m = 1 ∨ cnt0 R.2.length ρ' < cnt0 R.2.length ρ) ∧ cnt0 R.2.length ρ' ≤ cnt0 R.2.length ρ
theorem x_pass2 {mo : Nat} {Q : Ret MS} {ms : MS} {R : Rt} {J : Cont MS} (w : WfR R) (hE : EM ms R) (hT : ∀ a t, a < R.2.length → egT R a t → 0 < t ∧ t < R.2.length) : ∀ r b ρ m, b + r = R.2.length → B01 R.2.length ρ → (∀ j, j < R.2.length → ρ j = 1 → Lvs R j) → (m = 0 ∨ m = 1) →
    (∀ ρ' m', Pass2 R b ρ m ρ' m' → J [some (.ref mo), some (.int m'), none, none, none] [] (msA ms 42 ρ')) → bX2_ends_284 mo Q J [some (.ref mo), some (.int m), some (.int (nn b)), none, none] [] (msA ms 42 ρ) := by
  intro r b ρ m h1 h2 h3 h5 k
  unfold bX2_ends_284
  intro X hX
  revert r b ρ m
  intro r
  have l2 := w.2.1
  have b2 : R.2.length < 2147483648 := by omega
  obtain ⟨a1, a2, a3⟩ := hE
  induction r with
  | zero =>
    intro b ρ m e h1 h2 h4 k
    apply hX
    have b1 : b < 2147483648 := by omega
    have b3 : R.2.length ≤ b := by omega
    have b4 : ¬ b < R.2.length := by omega
    simp [bX2_ends_385, o_ic, o_lc, o_null, o_il, o_ll, o_al, o_dup, o_pop, o_dup_x1, o_dup2, o_iadd, o_isub, o_imul, o_iand, o_ior, o_ixor, o_ishl, o_ishr, o_idiv, o_irem, o_ineg, o_ladd, o_lsub, o_lmul, o_land, o_lor, o_lxor, o_ldiv, o_lrem, o_lneg, o_lcmp, o_i2l, o_l2i, o_i2b, o_i2c, o_iushr, o_lshl, o_lshr, o_if_eq, o_if_ne, o_if_lt, o_if_ge, o_if_gt, o_if_le, o_icmp_eq, o_icmp_ne, o_icmp_lt, o_icmp_ge, o_icmp_gt, o_icmp_le, o_ifnull, o_ifnonnull, o_acmp_eq, o_acmp_ne, o_is, o_ls, o_as, o_iinc, o_kill, o_sw, o_ireturn, o_zreturn, o_nreturn, o_lreturn, o_areturn, o_return, o_athrow, o_call, entP, lg_sl, Value.category, st1, st2, List.set, List.getElem?_cons_zero, List.getElem?_cons_succ, List.foldl, popN, aft, o_mg, o_mgl, o_mga, o_mp, o_mpz, o_mpl, o_mia, o_mis, o_mbs, o_mc, mput_get, mput_arr, mput_let, mput_put, mset_get, mset_int, mset_let, mputL_get, mputL_arr, mputL_let, mputL_put, i64_8, mLen, vpL, nn_addL, nn_addR, nn_mulL, nn_add, nn_mul, nn_eqL, nn_ltL, nn_leL, nn_Llt, nn_Lle, nn_lt, nn_le, nn_eq, nn_in, nn_clamp, nn_succ, nn_pos, nn_neg1, msA_get, msA_int, msA_let, mset_msA, upd9_get, a1, b1, b2, b3, b4]
    refine k ρ m ⟨h1, h2, fun _ _ q => q, h4, fun q => ⟨q, rfl, fun a _ _ => by omega⟩, fun q => Or.inl q, Nat.le_refl _⟩
  | succ r ih =>
    intro b ρ m e h1 h2 h4 k
    apply hX
    have hb : b < R.2.length := by omega
    have b1 : b < 2147483648 := by omega
    have b3 : ¬ R.2.length ≤ b := by omega
    have b4 : b < 40 := by omega
    obtain ⟨c1, c2, c3, c4, c5⟩ := a3 b hb
    have hl := (end_get w hb).2.1
    have l1 := w.1
    have b5 : 960 + lastN R b < 2147483648 := by omega
    have b6 : 960 + lastN R b < 1200 := by omega
    have hEm : ∀ ρ, EM (msA ms 42 ρ) R := fun ρ => EM.fr ⟨a1, a2, a3⟩ (fun j hj => by funext i; rw [msA_get, if_neg (by omega)])
    have ho1 : ∀ t, et1 R b = some t → t < R.2.length := fun t h => (hT b t hb (Or.inl h)).2
    have ho2 : ∀ t, et2 R b = some t → t < R.2.length := fun t h => (hT b t hb (Or.inr h)).2
    simp [o_ic, o_lc, o_null, o_il, o_ll, o_al, o_dup, o_pop, o_dup_x1, o_dup2, o_iadd, o_isub, o_imul, o_iand, o_ior, o_ixor, o_ishl, o_ishr, o_idiv, o_irem, o_ineg, o_ladd, o_lsub, o_lmul, o_land, o_lor, o_lxor, o_ldiv, o_lrem, o_lneg, o_lcmp, o_i2l, o_l2i, o_i2b, o_i2c, o_iushr, o_lshl, o_lshr, o_if_eq, o_if_ne, o_if_lt, o_if_ge, o_if_gt, o_if_le, o_icmp_eq, o_icmp_ne, o_icmp_lt, o_icmp_ge, o_icmp_gt, o_icmp_le, o_ifnull, o_ifnonnull, o_acmp_eq, o_acmp_ne, o_is, o_ls, o_as, o_iinc, o_kill, o_sw, o_ireturn, o_zreturn, o_nreturn, o_lreturn, o_areturn, o_return, o_athrow, o_call, entP, lg_sl, Value.category, st1, st2, List.set, List.getElem?_cons_zero, List.getElem?_cons_succ, List.foldl, popN, aft, o_mg, o_mgl, o_mga, o_mp, o_mpz, o_mpl, o_mia, o_mis, o_mbs, o_mc, mput_get, mput_arr, mput_let, mput_put, mset_get, mset_int, mset_let, mputL_get, mputL_arr, mputL_let, mputL_put, i64_8, mLen, vpL, nn_addL, nn_addR, nn_mulL, nn_add, nn_mul, nn_eqL, nn_ltL, nn_leL, nn_Llt, nn_Lle, nn_lt, nn_le, nn_eq, nn_in, nn_clamp, nn_succ, nn_pos, nn_neg1, msA_get, msA_int, msA_let, mset_msA, upd9_get, a1, b1, b2, b3, b4, hb]
    have same : (∀ t, egT R b t → ρ t = 1 → ρ b = 1) → X [some (.ref mo), some (.int m), some (.int (nn (b + 1))), none, none] [] (msA ms 42 ρ) := fun hcl => ih (b + 1) ρ m (by omega) h1 h2 h4 (fun ρ' m' p => k ρ' m' (by
      obtain ⟨p1, p2, p3, p4, p5, p6, p7⟩ := p
      refine ⟨p1, p2, p3, p4, fun q => ⟨(p5 q).1, (p5 q).2.1, fun a ha1 ha2 t ha3 => ?_⟩, p6, p7⟩
      by_cases ea : a = b
      · subst ea; exact hcl t ha3
      · exact (p5 q).2.2 a (by omega) ha2 t ha3))
    have more : ρ b = 0 → (∃ t, egT R b t ∧ ρ t = 1) → X [some (.ref mo), some (.int 1), some (.int (nn (b + 1))), none, none] [] (msA ms 42 (upd9 ρ b 1)) := by
      rintro hb0 ⟨t, ht, ht1⟩
      have hc := cnt0_upd R.2.length (ρ := ρ) (t := b) (x := 1) hb hb0 (by decide)
      refine ih (b + 1) (upd9 ρ b 1) 1 (by omega) (fun j hj => ?_) (fun j hj hj1 => ?_) (Or.inr rfl) (fun ρ' m' p => k ρ' m' ?_)
      · rw [upd9_get]; split
        · exact Or.inr rfl
        · exact h1 j hj
      · rw [upd9_get] at hj1
        split at hj1
        · next e => subst e; exact fun S s0 s1 => s1 j t hb ht (h2 t (hT j t hb ht).2 ht1 S s0 s1)
        · exact h2 j hj hj1
      · obtain ⟨p1, p2, p3, p4, p5, p6, p7⟩ := p
        refine ⟨p1, p2, fun j hj q => p3 j hj ?_, p4, fun q => absurd (p5 q).1 (by decide), fun _ => Or.inr (by omega), by omega⟩
        rw [upd9_get]; split
        · rfl
        · exact q
    -- is it so or not
    have yes : (∃ t, egT R b t ∧ ρ t = 1) → ∀ v3, bX2_ends_346 mo Q J X [some (.ref mo), some (.int m), some (.int (nn b)), some (.int v3), none] [] (msA ms 42 ρ) := by
      intro hex v3
      simp [bX2_ends_346, bX2_ends_351, bX2_ends_370, bX2_ends_379, o_ic, o_lc, o_null, o_il, o_ll, o_al, o_dup, o_pop, o_dup_x1, o_dup2, o_iadd, o_isub, o_imul, o_iand, o_ior, o_ixor, o_ishl, o_ishr, o_idiv, o_irem, o_ineg, o_ladd, o_lsub, o_lmul, o_land, o_lor, o_lxor, o_ldiv, o_lrem, o_lneg, o_lcmp, o_i2l, o_l2i, o_i2b, o_i2c, o_iushr, o_lshl, o_lshr, o_if_eq, o_if_ne, o_if_lt, o_if_ge, o_if_gt, o_if_le, o_icmp_eq, o_icmp_ne, o_icmp_lt, o_icmp_ge, o_icmp_gt, o_icmp_le, o_ifnull, o_ifnonnull, o_acmp_eq, o_acmp_ne, o_is, o_ls, o_as, o_iinc, o_kill, o_sw, o_ireturn, o_zreturn, o_nreturn, o_lreturn, o_areturn, o_return, o_athrow, o_call, entP, lg_sl, Value.category, st1, st2, List.set, List.getElem?_cons_zero, List.getElem?_cons_succ, List.foldl, popN, aft, o_mg, o_mgl, o_mga, o_mp, o_mpz, o_mpl, o_mia, o_mis, o_mbs, o_mc, mput_get, mput_arr, mput_let, mput_put, mset_get, mset_int, mset_let, mputL_get, mputL_arr, mputL_let, mputL_put, i64_8, mLen, vpL, nn_addL, nn_addR, nn_mulL, nn_add, nn_mul, nn_eqL, nn_ltL, nn_leL, nn_Llt, nn_Lle, nn_lt, nn_le, nn_eq, nn_in, nn_clamp, nn_succ, nn_pos, nn_neg1, msA_get, msA_int, msA_let, mset_msA, upd9_get, b1, b4]
      refine ⟨fun h => more h hex, fun h => same (fun _ _ _ => (h1 b hb).resolve_left h)⟩
    have no : (∀ t, egT R b t → ρ t = 0) → ∀ v3, bX2_ends_350 mo Q J X [some (.ref mo), some (.int m), some (.int (nn b)), some (.int v3), none] [] (msA ms 42 ρ) := by
      intro hex v3
      simp [bX2_ends_350, bX2_ends_351, bX2_ends_379, o_ic, o_lc, o_null, o_il, o_ll, o_al, o_dup, o_pop, o_dup_x1, o_dup2, o_iadd, o_isub, o_imul, o_iand, o_ior, o_ixor, o_ishl, o_ishr, o_idiv, o_irem, o_ineg, o_ladd, o_lsub, o_lmul, o_land, o_lor, o_lxor, o_ldiv, o_lrem, o_lneg, o_lcmp, o_i2l, o_l2i, o_i2b, o_i2c, o_iushr, o_lshl, o_lshr, o_if_eq, o_if_ne, o_if_lt, o_if_ge, o_if_gt, o_if_le, o_icmp_eq, o_icmp_ne, o_icmp_lt, o_icmp_ge, o_icmp_gt, o_icmp_le, o_ifnull, o_ifnonnull, o_acmp_eq, o_acmp_ne, o_is, o_ls, o_as, o_iinc, o_kill, o_sw, o_ireturn, o_zreturn, o_nreturn, o_lreturn, o_areturn, o_return, o_athrow, o_call, entP, lg_sl, Value.category, st1, st2, List.set, List.getElem?_cons_zero, List.getElem?_cons_succ, List.foldl, popN, aft, o_mg, o_mgl, o_mga, o_mp, o_mpz, o_mpl, o_mia, o_mis, o_mbs, o_mc, mput_get, mput_arr, mput_let, mput_put, mset_get, mset_int, mset_let, mputL_get, mputL_arr, mputL_let, mputL_put, i64_8, mLen, vpL, nn_addL, nn_addR, nn_mulL, nn_add, nn_mul, nn_eqL, nn_ltL, nn_leL, nn_Llt, nn_Lle, nn_lt, nn_le, nn_eq, nn_in, nn_clamp, nn_succ, nn_pos, nn_neg1, msA_get, msA_int, msA_let, mset_msA, upd9_get, b1, b4]
      exact same (fun t ht q => by rw [hex t ht] at q; exact absurd q (by decide))
    have second : (∀ t, et1 R b = some t → ρ t = 0) → bX2_ends_323 mo Q J X [some (.ref mo), some (.int m), some (.int (nn b)), some (.int (nn (960 + lastN R b))), none] [] (msA ms 42 ρ) := by
      intro hn1
      cases h9 : et2 R b with
      | none =>
        rw [h9] at c5
        simp [bX2_ends_323, o_ic, o_lc, o_null, o_il, o_ll, o_al, o_dup, o_pop, o_dup_x1, o_dup2, o_iadd, o_isub, o_imul, o_iand, o_ior, o_ixor, o_ishl, o_ishr, o_idiv, o_irem, o_ineg, o_ladd, o_lsub, o_lmul, o_land, o_lor, o_lxor, o_ldiv, o_lrem, o_lneg, o_lcmp, o_i2l, o_l2i, o_i2b, o_i2c, o_iushr, o_lshl, o_lshr, o_if_eq, o_if_ne, o_if_lt, o_if_ge, o_if_gt, o_if_le, o_icmp_eq, o_icmp_ne, o_icmp_lt, o_icmp_ge, o_icmp_gt, o_icmp_le, o_ifnull, o_ifnonnull, o_acmp_eq, o_acmp_ne, o_is, o_ls, o_as, o_iinc, o_kill, o_sw, o_ireturn, o_zreturn, o_nreturn, o_lreturn, o_areturn, o_return, o_athrow, o_call, entP, lg_sl, Value.category, st1, st2, List.set, List.getElem?_cons_zero, List.getElem?_cons_succ, List.foldl, popN, aft, o_mg, o_mgl, o_mga, o_mp, o_mpz, o_mpl, o_mia, o_mis, o_mbs, o_mc, mput_get, mput_arr, mput_let, mput_put, mset_get, mset_int, mset_let, mputL_get, mputL_arr, mputL_let, mputL_put, i64_8, mLen, vpL, nn_addL, nn_addR, nn_mulL, nn_add, nn_mul, nn_eqL, nn_ltL, nn_leL, nn_Llt, nn_Lle, nn_lt, nn_le, nn_eq, nn_in, nn_clamp, nn_succ, nn_pos, nn_neg1, msA_get, msA_int, msA_let, mset_msA, upd9_get, b5, b6, c5, onn]
        exact no (fun t ht => ht.elim (hn1 t) (fun q => by rw [h9] at q; cases q)) _
      | some t =>
        rw [h9] at c5
        have ht := ho2 t h9
        have b7 : t < 2147483648 := by omega
        have b8 : t < 40 := by omega
        simp [bX2_ends_323, o_ic, o_lc, o_null, o_il, o_ll, o_al, o_dup, o_pop, o_dup_x1, o_dup2, o_iadd, o_isub, o_imul, o_iand, o_ior, o_ixor, o_ishl, o_ishr, o_idiv, o_irem, o_ineg, o_ladd, o_lsub, o_lmul, o_land, o_lor, o_lxor, o_ldiv, o_lrem, o_lneg, o_lcmp, o_i2l, o_l2i, o_i2b, o_i2c, o_iushr, o_lshl, o_lshr, o_if_eq, o_if_ne, o_if_lt, o_if_ge, o_if_gt, o_if_le, o_icmp_eq, o_icmp_ne, o_icmp_lt, o_icmp_ge, o_icmp_gt, o_icmp_le, o_ifnull, o_ifnonnull, o_acmp_eq, o_acmp_ne, o_is, o_ls, o_as, o_iinc, o_kill, o_sw, o_ireturn, o_zreturn, o_nreturn, o_lreturn, o_areturn, o_return, o_athrow, o_call, entP, lg_sl, Value.category, st1, st2, List.set, List.getElem?_cons_zero, List.getElem?_cons_succ, List.foldl, popN, aft, o_mg, o_mgl, o_mga, o_mp, o_mpz, o_mpl, o_mia, o_mis, o_mbs, o_mc, mput_get, mput_arr, mput_let, mput_put, mset_get, mset_int, mset_let, mputL_get, mputL_arr, mputL_let, mputL_put, i64_8, mLen, vpL, nn_addL, nn_addR, nn_mulL, nn_add, nn_mul, nn_eqL, nn_ltL, nn_leL, nn_Llt, nn_Lle, nn_lt, nn_le, nn_eq, nn_in, nn_clamp, nn_succ, nn_pos, nn_neg1, msA_get, msA_int, msA_let, mset_msA, upd9_get, b5, b6, c5, onn, b7, b8]
        refine ⟨fun h => no (fun t' ht' => ht'.elim (hn1 t') (fun q => by rw [h9] at q; cases q; exact h)) _, fun h => yes ⟨t, Or.inr h9, (h1 t ht).resolve_left h⟩ _⟩
    refine m_lastNode w (hEm ρ) hb ?_
    cases h9 : et1 R b with
    | none =>
      rw [h9] at c4
      simp [o_ic, o_lc, o_null, o_il, o_ll, o_al, o_dup, o_pop, o_dup_x1, o_dup2, o_iadd, o_isub, o_imul, o_iand, o_ior, o_ixor, o_ishl, o_ishr, o_idiv, o_irem, o_ineg, o_ladd, o_lsub, o_lmul, o_land, o_lor, o_lxor, o_ldiv, o_lrem, o_lneg, o_lcmp, o_i2l, o_l2i, o_i2b, o_i2c, o_iushr, o_lshl, o_lshr, o_if_eq, o_if_ne, o_if_lt, o_if_ge, o_if_gt, o_if_le, o_icmp_eq, o_icmp_ne, o_icmp_lt, o_icmp_ge, o_icmp_gt, o_icmp_le, o_ifnull, o_ifnonnull, o_acmp_eq, o_acmp_ne, o_is, o_ls, o_as, o_iinc, o_kill, o_sw, o_ireturn, o_zreturn, o_nreturn, o_lreturn, o_areturn, o_return, o_athrow, o_call, entP, lg_sl, Value.category, st1, st2, List.set, List.getElem?_cons_zero, List.getElem?_cons_succ, List.foldl, popN, aft, o_mg, o_mgl, o_mga, o_mp, o_mpz, o_mpl, o_mia, o_mis, o_mbs, o_mc, mput_get, mput_arr, mput_let, mput_put, mset_get, mset_int, mset_let, mputL_get, mputL_arr, mputL_let, mputL_put, i64_8, mLen, vpL, nn_addL, nn_addR, nn_mulL, nn_add, nn_mul, nn_eqL, nn_ltL, nn_leL, nn_Llt, nn_Lle, nn_lt, nn_le, nn_eq, nn_in, nn_clamp, nn_succ, nn_pos, nn_neg1, msA_get, msA_int, msA_let, mset_msA, upd9_get, b5, b6, c4, onn]
      exact second (fun t q => by rw [h9] at q; cases q)
    | some t =>
      rw [h9] at c4
      have ht := ho1 t h9
      have b7 : t < 2147483648 := by omega
      have b8 : t < 40 := by omega
      simp [o_ic, o_lc, o_null, o_il, o_ll, o_al, o_dup, o_pop, o_dup_x1, o_dup2, o_iadd, o_isub, o_imul, o_iand, o_ior, o_ixor, o_ishl, o_ishr, o_idiv, o_irem, o_ineg, o_ladd, o_lsub, o_lmul, o_land, o_lor, o_lxor, o_ldiv, o_lrem, o_lneg, o_lcmp, o_i2l, o_l2i, o_i2b, o_i2c, o_iushr, o_lshl, o_lshr, o_if_eq, o_if_ne, o_if_lt, o_if_ge, o_if_gt, o_if_le, o_icmp_eq, o_icmp_ne, o_icmp_lt, o_icmp_ge, o_icmp_gt, o_icmp_le, o_ifnull, o_ifnonnull, o_acmp_eq, o_acmp_ne, o_is, o_ls, o_as, o_iinc, o_kill, o_sw, o_ireturn, o_zreturn, o_nreturn, o_lreturn, o_areturn, o_return, o_athrow, o_call, entP, lg_sl, Value.category, st1, st2, List.set, List.getElem?_cons_zero, List.getElem?_cons_succ, List.foldl, popN, aft, o_mg, o_mgl, o_mga, o_mp, o_mpz, o_mpl, o_mia, o_mis, o_mbs, o_mc, mput_get, mput_arr, mput_let, mput_put, mset_get, mset_int, mset_let, mputL_get, mputL_arr, mputL_let, mputL_put, i64_8, mLen, vpL, nn_addL, nn_addR, nn_mulL, nn_add, nn_mul, nn_eqL, nn_ltL, nn_leL, nn_Llt, nn_Lle, nn_lt, nn_le, nn_eq, nn_in, nn_clamp, nn_succ, nn_pos, nn_neg1, msA_get, msA_int, msA_let, mset_msA, upd9_get, b5, b6, c4, onn, b7, b8]
      refine ⟨fun h => yes ⟨t, Or.inl h9, (h1 t ht).resolve_left h⟩ _, fun h => second (fun t' q => by rw [h9] at q; cases q; exact h)⟩
theorem x_reach2 {mo : Nat} {Q : Ret MS} {ms : MS} {R : Rt} (w : WfR R) (hE : EM ms R) (hT : ∀ a t, a < R.2.length → egT R a t → 0 < t ∧ t < R.2.length) (k : ∀ ρ, (∀ j, j < R.2.length → (ρ j = 0 ↔ ¬ Lvs R j)) → bX2_ends_388 mo Q [some (.ref mo), none, none, none, none] [] (msA ms 42 ρ)) :
    ∀ ρ, B01 R.2.length ρ → (∀ j, j < R.2.length → ρ j = 1 → Lvs R j) → (∀ j, j < R.2.length → (endI R j).1 = 6 → ρ j = 1) → bX2_ends_276 mo Q [some (.ref mo), some (.int 1), none, none, none] [] (msA ms 42 ρ) := by
  unfold bX2_ends_276
  intro ρ h1 h2 h3 X hX
  have hind : ∀ c ρ, cnt0 R.2.length ρ < c → B01 R.2.length ρ → (∀ j, j < R.2.length → ρ j = 1 → Lvs R j) → (∀ j, j < R.2.length → (endI R j).1 = 6 → ρ j = 1) → X [some (.ref mo), some (.int 1), none, none, none] [] (msA ms 42 ρ) := by
    intro c
    induction c with
    | zero => intro ρ hc; omega
    | succ c ih =>
      intro ρ hc h1 h2 h3
      apply hX
      simp [o_ic, o_lc, o_null, o_il, o_ll, o_al, o_dup, o_pop, o_dup_x1, o_dup2, o_iadd, o_isub, o_imul, o_iand, o_ior, o_ixor, o_ishl, o_ishr, o_idiv, o_irem, o_ineg, o_ladd, o_lsub, o_lmul, o_land, o_lor, o_lxor, o_ldiv, o_lrem, o_lneg, o_lcmp, o_i2l, o_l2i, o_i2b, o_i2c, o_iushr, o_lshl, o_lshr, o_if_eq, o_if_ne, o_if_lt, o_if_ge, o_if_gt, o_if_le, o_icmp_eq, o_icmp_ne, o_icmp_lt, o_icmp_ge, o_icmp_gt, o_icmp_le, o_ifnull, o_ifnonnull, o_acmp_eq, o_acmp_ne, o_is, o_ls, o_as, o_iinc, o_kill, o_sw, o_ireturn, o_zreturn, o_nreturn, o_lreturn, o_areturn, o_return, o_athrow, o_call, entP, lg_sl, Value.category, st1, st2, List.set, List.getElem?_cons_zero, List.getElem?_cons_succ, List.foldl, popN, aft, o_mg, o_mgl, o_mga, o_mp, o_mpz, o_mpl, o_mia, o_mis, o_mbs, o_mc, mput_get, mput_arr, mput_let, mput_put, mset_get, mset_int, mset_let, mputL_get, mputL_arr, mputL_let, mputL_put, i64_8, mLen]
      refine x_pass2 w hE hT R.2.length 0 ρ 0 (by omega) h1 h2 (Or.inl rfl) (fun ρ' m' p => ?_)
      obtain ⟨p1, p2, p3, p4, p5, p6, p7⟩ := p
      rcases p4 with p4 | p4
      · obtain ⟨-, e, hcl⟩ := p5 p4
        subst e
        rw [p4]
        apply hX
        have hkk := k ρ' (fun j hj => ⟨fun q q' => ?_, fun q => (p1 j hj).resolve_right (fun q' => q (p2 j hj q'))⟩)
        · simp [bX2_ends_388, o_ic, o_lc, o_null, o_il, o_ll, o_al, o_dup, o_pop, o_dup_x1, o_dup2, o_iadd, o_isub, o_imul, o_iand, o_ior, o_ixor, o_ishl, o_ishr, o_idiv, o_irem, o_ineg, o_ladd, o_lsub, o_lmul, o_land, o_lor, o_lxor, o_ldiv, o_lrem, o_lneg, o_lcmp, o_i2l, o_l2i, o_i2b, o_i2c, o_iushr, o_lshl, o_lshr, o_if_eq, o_if_ne, o_if_lt, o_if_ge, o_if_gt, o_if_le, o_icmp_eq, o_icmp_ne, o_icmp_lt, o_icmp_ge, o_icmp_gt, o_icmp_le, o_ifnull, o_ifnonnull, o_acmp_eq, o_acmp_ne, o_is, o_ls, o_as, o_iinc, o_kill, o_sw, o_ireturn, o_zreturn, o_nreturn, o_lreturn, o_areturn, o_return, o_athrow, o_call, entP, lg_sl, Value.category, st1, st2, List.set, List.getElem?_cons_zero, List.getElem?_cons_succ, List.foldl, popN, aft, o_mg, o_mgl, o_mga, o_mp, o_mpz, o_mpl, o_mia, o_mis, o_mbs, o_mc, mput_get, mput_arr, mput_let, mput_put, mset_get, mset_int, mset_let, mputL_get, mputL_arr, mputL_let, mputL_put, i64_8, mLen] at hkk
          simp [bX2_ends_388, o_ic, o_lc, o_null, o_il, o_ll, o_al, o_dup, o_pop, o_dup_x1, o_dup2, o_iadd, o_isub, o_imul, o_iand, o_ior, o_ixor, o_ishl, o_ishr, o_idiv, o_irem, o_ineg, o_ladd, o_lsub, o_lmul, o_land, o_lor, o_lxor, o_ldiv, o_lrem, o_lneg, o_lcmp, o_i2l, o_l2i, o_i2b, o_i2c, o_iushr, o_lshl, o_lshr, o_if_eq, o_if_ne, o_if_lt, o_if_ge, o_if_gt, o_if_le, o_icmp_eq, o_icmp_ne, o_icmp_lt, o_icmp_ge, o_icmp_gt, o_icmp_le, o_ifnull, o_ifnonnull, o_acmp_eq, o_acmp_ne, o_is, o_ls, o_as, o_iinc, o_kill, o_sw, o_ireturn, o_zreturn, o_nreturn, o_lreturn, o_areturn, o_return, o_athrow, o_call, entP, lg_sl, Value.category, st1, st2, List.set, List.getElem?_cons_zero, List.getElem?_cons_succ, List.foldl, popN, aft, o_mg, o_mgl, o_mga, o_mp, o_mpz, o_mpl, o_mia, o_mis, o_mbs, o_mc, mput_get, mput_arr, mput_let, mput_put, mset_get, mset_int, mset_let, mputL_get, mputL_arr, mputL_let, mputL_put, i64_8, mLen]
          exact hkk
        · have : j < R.2.length → ρ' j = 1 := q' (fun j => j < R.2.length → ρ' j = 1) (fun a ha h6 _ => h3 a ha h6) (fun a t ha ht hS _ => hcl a (Nat.zero_le a) ha t ht (hS (hT a t ha ht).2))
          rw [q] at this; exact absurd (this hj) (by decide)
      · rw [p4]
        have := (p6 p4).resolve_left (by decide)
        exact ih ρ' (by omega) p1 p2 (fun j hj h6 => p3 j hj (h3 j hj h6))
  exact hind _ ρ (Nat.lt_succ_self _) h1 h2 h3
/-- the first marks of both -/
theorem x_init1 {mo : Nat} {Q : Ret MS} {ms : MS} {R : Rt} (w : WfR R) (h9 : ms.2.2 9 4 = nn R.2.length) (k : ∀ ρ, (∀ j, j < R.2.length → ρ j = if j = 0 then 1 else 0) → bX2_ends_99 mo Q [some (.ref mo), none, none, none, none] [] (msA ms 42 ρ)) :
    ∀ ρ, bX2_ends_68 mo Q [some (.ref mo), some (.int 0), none, none, none] [] (msA ms 42 ρ) := by
  intro ρ
  unfold bX2_ends_68
  intro X hX
  have l2 := w.2.1
  have b2 : R.2.length < 2147483648 := by omega
  have hind : ∀ r b ρ, b + r = R.2.length → (∀ j, j < b → ρ j = if j = 0 then 1 else 0) → X [some (.ref mo), some (.int (nn b)), none, none, none] [] (msA ms 42 ρ) := by
    intro r
    induction r with
    | zero =>
      intro b ρ e h
      apply hX
      have b1 : b < 2147483648 := by omega
      have b3 : R.2.length ≤ b := by omega
      have b4 : ¬ b < R.2.length := by omega
      have := k ρ (fun j hj => h j (by omega))
      simp [bX2_ends_99, o_ic, o_lc, o_null, o_il, o_ll, o_al, o_dup, o_pop, o_dup_x1, o_dup2, o_iadd, o_isub, o_imul, o_iand, o_ior, o_ixor, o_ishl, o_ishr, o_idiv, o_irem, o_ineg, o_ladd, o_lsub, o_lmul, o_land, o_lor, o_lxor, o_ldiv, o_lrem, o_lneg, o_lcmp, o_i2l, o_l2i, o_i2b, o_i2c, o_iushr, o_lshl, o_lshr, o_if_eq, o_if_ne, o_if_lt, o_if_ge, o_if_gt, o_if_le, o_icmp_eq, o_icmp_ne, o_icmp_lt, o_icmp_ge, o_icmp_gt, o_icmp_le, o_ifnull, o_ifnonnull, o_acmp_eq, o_acmp_ne, o_is, o_ls, o_as, o_iinc, o_kill, o_sw, o_ireturn, o_zreturn, o_nreturn, o_lreturn, o_areturn, o_return, o_athrow, o_call, entP, lg_sl, Value.category, st1, st2, List.set, List.getElem?_cons_zero, List.getElem?_cons_succ, List.foldl, popN, aft, o_mg, o_mgl, o_mga, o_mp, o_mpz, o_mpl, o_mia, o_mis, o_mbs, o_mc, mput_get, mput_arr, mput_let, mput_put, mset_get, mset_int, mset_let, mputL_get, mputL_arr, mputL_let, mputL_put, i64_8, mLen] at this
      simp [bX2_ends_99, o_ic, o_lc, o_null, o_il, o_ll, o_al, o_dup, o_pop, o_dup_x1, o_dup2, o_iadd, o_isub, o_imul, o_iand, o_ior, o_ixor, o_ishl, o_ishr, o_idiv, o_irem, o_ineg, o_ladd, o_lsub, o_lmul, o_land, o_lor, o_lxor, o_ldiv, o_lrem, o_lneg, o_lcmp, o_i2l, o_l2i, o_i2b, o_i2c, o_iushr, o_lshl, o_lshr, o_if_eq, o_if_ne, o_if_lt, o_if_ge, o_if_gt, o_if_le, o_icmp_eq, o_icmp_ne, o_icmp_lt, o_icmp_ge, o_icmp_gt, o_icmp_le, o_ifnull, o_ifnonnull, o_acmp_eq, o_acmp_ne, o_is, o_ls, o_as, o_iinc, o_kill, o_sw, o_ireturn, o_zreturn, o_nreturn, o_lreturn, o_areturn, o_return, o_athrow, o_call, entP, lg_sl, Value.category, st1, st2, List.set, List.getElem?_cons_zero, List.getElem?_cons_succ, List.foldl, popN, aft, o_mg, o_mgl, o_mga, o_mp, o_mpz, o_mpl, o_mia, o_mis, o_mbs, o_mc, mput_get, mput_arr, mput_let, mput_put, mset_get, mset_int, mset_let, mputL_get, mputL_arr, mputL_let, mputL_put, i64_8, mLen, vpL, nn_addL, nn_addR, nn_mulL, nn_add, nn_mul, nn_eqL, nn_ltL, nn_leL, nn_Llt, nn_Lle, nn_lt, nn_le, nn_eq, nn_in, nn_clamp, nn_succ, nn_pos, nn_neg1, msA_get, msA_int, msA_let, mset_msA, upd9_get, h9, b1, b2, b3, b4]
      exact this
    | succ r ih =>
      intro b ρ e h
      apply hX
      have b1 : b < 2147483648 := by omega
      have b3 : b < R.2.length := by omega
      have b4 : ¬ R.2.length ≤ b := by omega
      have b5 : b < 40 := by omega
      simp [bX2_ends_91, bX2_ends_92, o_ic, o_lc, o_null, o_il, o_ll, o_al, o_dup, o_pop, o_dup_x1, o_dup2, o_iadd, o_isub, o_imul, o_iand, o_ior, o_ixor, o_ishl, o_ishr, o_idiv, o_irem, o_ineg, o_ladd, o_lsub, o_lmul, o_land, o_lor, o_lxor, o_ldiv, o_lrem, o_lneg, o_lcmp, o_i2l, o_l2i, o_i2b, o_i2c, o_iushr, o_lshl, o_lshr, o_if_eq, o_if_ne, o_if_lt, o_if_ge, o_if_gt, o_if_le, o_icmp_eq, o_icmp_ne, o_icmp_lt, o_icmp_ge, o_icmp_gt, o_icmp_le, o_ifnull, o_ifnonnull, o_acmp_eq, o_acmp_ne, o_is, o_ls, o_as, o_iinc, o_kill, o_sw, o_ireturn, o_zreturn, o_nreturn, o_lreturn, o_areturn, o_return, o_athrow, o_call, entP, lg_sl, Value.category, st1, st2, List.set, List.getElem?_cons_zero, List.getElem?_cons_succ, List.foldl, popN, aft, o_mg, o_mgl, o_mga, o_mp, o_mpz, o_mpl, o_mia, o_mis, o_mbs, o_mc, mput_get, mput_arr, mput_let, mput_put, mset_get, mset_int, mset_let, mputL_get, mputL_arr, mputL_let, mputL_put, i64_8, mLen, vpL, nn_addL, nn_addR, nn_mulL, nn_add, nn_mul, nn_eqL, nn_ltL, nn_leL, nn_Llt, nn_Lle, nn_lt, nn_le, nn_eq, nn_in, nn_clamp, nn_succ, nn_pos, nn_neg1, msA_get, msA_int, msA_let, mset_msA, upd9_get, h9, b1, b2, b3, b4, b5]
      refine ⟨fun h0 => ?_, fun h0 => ?_⟩
      · refine ih (b + 1) _ (by omega) (fun j hj => ?_)
        rw [upd9_get]
        by_cases ej : j = b
        · rw [if_pos ej, if_neg (by omega)]
        · rw [if_neg ej]; exact h j (by omega)
      · refine ih (b + 1) _ (by omega) (fun j hj => ?_)
        rw [upd9_get]
        by_cases ej : j = b
        · rw [if_pos ej, if_pos (by omega)]
        · rw [if_neg ej]; exact h j (by omega)
  exact hind R.2.length 0 ρ (by omega) (fun j hj => by omega)
theorem x_init2 {mo : Nat} {Q : Ret MS} {ms : MS} {R : Rt} (w : WfR R) (hE : EM ms R) (k : ∀ ρ, (∀ j, j < R.2.length → ρ j = if (endI R j).1 = 6 then 1 else 0) → bX2_ends_274 mo Q [some (.ref mo), none, none, none, none] [] (msA ms 42 ρ)) :
    ∀ ρ, bX2_ends_232 mo Q [some (.ref mo), none, some (.int 0), none, none] [] (msA ms 42 ρ) := by
  intro ρ
  unfold bX2_ends_232
  intro X hX
  have l2 := w.2.1
  have b2 : R.2.length < 2147483648 := by omega
  obtain ⟨a1, a2, a3⟩ := hE
  have hind : ∀ r b ρ, b + r = R.2.length → (∀ j, j < b → ρ j = if (endI R j).1 = 6 then 1 else 0) → X [some (.ref mo), none, some (.int (nn b)), none, none] [] (msA ms 42 ρ) := by
    intro r
    induction r with
    | zero =>
      intro b ρ e h
      apply hX
      have b1 : b < 2147483648 := by omega
      have b3 : R.2.length ≤ b := by omega
      have b4 : ¬ b < R.2.length := by omega
      have := k ρ (fun j hj => h j (by omega))
      simp [bX2_ends_274, o_ic, o_lc, o_null, o_il, o_ll, o_al, o_dup, o_pop, o_dup_x1, o_dup2, o_iadd, o_isub, o_imul, o_iand, o_ior, o_ixor, o_ishl, o_ishr, o_idiv, o_irem, o_ineg, o_ladd, o_lsub, o_lmul, o_land, o_lor, o_lxor, o_ldiv, o_lrem, o_lneg, o_lcmp, o_i2l, o_l2i, o_i2b, o_i2c, o_iushr, o_lshl, o_lshr, o_if_eq, o_if_ne, o_if_lt, o_if_ge, o_if_gt, o_if_le, o_icmp_eq, o_icmp_ne, o_icmp_lt, o_icmp_ge, o_icmp_gt, o_icmp_le, o_ifnull, o_ifnonnull, o_acmp_eq, o_acmp_ne, o_is, o_ls, o_as, o_iinc, o_kill, o_sw, o_ireturn, o_zreturn, o_nreturn, o_lreturn, o_areturn, o_return, o_athrow, o_call, entP, lg_sl, Value.category, st1, st2, List.set, List.getElem?_cons_zero, List.getElem?_cons_succ, List.foldl, popN, aft, o_mg, o_mgl, o_mga, o_mp, o_mpz, o_mpl, o_mia, o_mis, o_mbs, o_mc, mput_get, mput_arr, mput_let, mput_put, mset_get, mset_int, mset_let, mputL_get, mputL_arr, mputL_let, mputL_put, i64_8, mLen] at this
      simp [bX2_ends_274, o_ic, o_lc, o_null, o_il, o_ll, o_al, o_dup, o_pop, o_dup_x1, o_dup2, o_iadd, o_isub, o_imul, o_iand, o_ior, o_ixor, o_ishl, o_ishr, o_idiv, o_irem, o_ineg, o_ladd, o_lsub, o_lmul, o_land, o_lor, o_lxor, o_ldiv, o_lrem, o_lneg, o_lcmp, o_i2l, o_l2i, o_i2b, o_i2c, o_iushr, o_lshl, o_lshr, o_if_eq, o_if_ne, o_if_lt, o_if_ge, o_if_gt, o_if_le, o_icmp_eq, o_icmp_ne, o_icmp_lt, o_icmp_ge, o_icmp_gt, o_icmp_le, o_ifnull, o_ifnonnull, o_acmp_eq, o_acmp_ne, o_is, o_ls, o_as, o_iinc, o_kill, o_sw, o_ireturn, o_zreturn, o_nreturn, o_lreturn, o_areturn, o_return, o_athrow, o_call, entP, lg_sl, Value.category, st1, st2, List.set, List.getElem?_cons_zero, List.getElem?_cons_succ, List.foldl, popN, aft, o_mg, o_mgl, o_mga, o_mp, o_mpz, o_mpl, o_mia, o_mis, o_mbs, o_mc, mput_get, mput_arr, mput_let, mput_put, mset_get, mset_int, mset_let, mputL_get, mputL_arr, mputL_let, mputL_put, i64_8, mLen, vpL, nn_addL, nn_addR, nn_mulL, nn_add, nn_mul, nn_eqL, nn_ltL, nn_leL, nn_Llt, nn_Lle, nn_lt, nn_le, nn_eq, nn_in, nn_clamp, nn_succ, nn_pos, nn_neg1, msA_get, msA_int, msA_let, mset_msA, upd9_get, a1, b1, b2, b3, b4]
      exact this
    | succ r ih =>
      intro b ρ e h
      apply hX
      have hb : b < R.2.length := by omega
      have b1 : b < 2147483648 := by omega
      have b4 : ¬ R.2.length ≤ b := by omega
      have b5 : b < 40 := by omega
      obtain ⟨c1, c2, c3, c4, c5⟩ := a3 b hb
      obtain ⟨-, hl, -, hk⟩ := end_get w hb
      have l1 := w.1
      have b6 : 960 + lastN R b < 2147483648 := by omega
      have b7 : 960 + lastN R b < 1200 := by omega
      have b8 : (endI R b).1 < 2147483648 := by have := hk.1; omega
      simp [o_ic, o_lc, o_null, o_il, o_ll, o_al, o_dup, o_pop, o_dup_x1, o_dup2, o_iadd, o_isub, o_imul, o_iand, o_ior, o_ixor, o_ishl, o_ishr, o_idiv, o_irem, o_ineg, o_ladd, o_lsub, o_lmul, o_land, o_lor, o_lxor, o_ldiv, o_lrem, o_lneg, o_lcmp, o_i2l, o_l2i, o_i2b, o_i2c, o_iushr, o_lshl, o_lshr, o_if_eq, o_if_ne, o_if_lt, o_if_ge, o_if_gt, o_if_le, o_icmp_eq, o_icmp_ne, o_icmp_lt, o_icmp_ge, o_icmp_gt, o_icmp_le, o_ifnull, o_ifnonnull, o_acmp_eq, o_acmp_ne, o_is, o_ls, o_as, o_iinc, o_kill, o_sw, o_ireturn, o_zreturn, o_nreturn, o_lreturn, o_areturn, o_return, o_athrow, o_call, entP, lg_sl, Value.category, st1, st2, List.set, List.getElem?_cons_zero, List.getElem?_cons_succ, List.foldl, popN, aft, o_mg, o_mgl, o_mga, o_mp, o_mpz, o_mpl, o_mia, o_mis, o_mbs, o_mc, mput_get, mput_arr, mput_let, mput_put, mset_get, mset_int, mset_let, mputL_get, mputL_arr, mputL_let, mputL_put, i64_8, mLen, vpL, nn_addL, nn_addR, nn_mulL, nn_add, nn_mul, nn_eqL, nn_ltL, nn_leL, nn_Llt, nn_Lle, nn_lt, nn_le, nn_eq, nn_in, nn_clamp, nn_succ, nn_pos, nn_neg1, msA_get, msA_int, msA_let, mset_msA, upd9_get, a1, b1, b2, hb, b4, b5]
      refine m_lastNode w (EM.fr ⟨a1, a2, a3⟩ (fun j hj => by funext i; rw [msA_get, if_neg (by omega)])) hb ?_
      simp [bX2_ends_266, bX2_ends_267, o_ic, o_lc, o_null, o_il, o_ll, o_al, o_dup, o_pop, o_dup_x1, o_dup2, o_iadd, o_isub, o_imul, o_iand, o_ior, o_ixor, o_ishl, o_ishr, o_idiv, o_irem, o_ineg, o_ladd, o_lsub, o_lmul, o_land, o_lor, o_lxor, o_ldiv, o_lrem, o_lneg, o_lcmp, o_i2l, o_l2i, o_i2b, o_i2c, o_iushr, o_lshl, o_lshr, o_if_eq, o_if_ne, o_if_lt, o_if_ge, o_if_gt, o_if_le, o_icmp_eq, o_icmp_ne, o_icmp_lt, o_icmp_ge, o_icmp_gt, o_icmp_le, o_ifnull, o_ifnonnull, o_acmp_eq, o_acmp_ne, o_is, o_ls, o_as, o_iinc, o_kill, o_sw, o_ireturn, o_zreturn, o_nreturn, o_lreturn, o_areturn, o_return, o_athrow, o_call, entP, lg_sl, Value.category, st1, st2, List.set, List.getElem?_cons_zero, List.getElem?_cons_succ, List.foldl, popN, aft, o_mg, o_mgl, o_mga, o_mp, o_mpz, o_mpl, o_mia, o_mis, o_mbs, o_mc, mput_get, mput_arr, mput_let, mput_put, mset_get, mset_int, mset_let, mputL_get, mputL_arr, mputL_let, mputL_put, i64_8, mLen, vpL, nn_addL, nn_addR, nn_mulL, nn_add, nn_mul, nn_eqL, nn_ltL, nn_leL, nn_Llt, nn_Lle, nn_lt, nn_le, nn_eq, nn_in, nn_clamp, nn_succ, nn_pos, nn_neg1, msA_get, msA_int, msA_let, mset_msA, upd9_get, b6, b7, c3, b8, b1, b5]
      refine ⟨fun h0 => ?_, fun h0 => ?_⟩
      · refine ih (b + 1) _ (by omega) (fun j hj => ?_)
        rw [upd9_get]
        by_cases ej : j = b
        · subst ej; rw [if_pos rfl, if_neg h0]
        · rw [if_neg ej]; exact h j (by omega)
      · refine ih (b + 1) _ (by omega) (fun j hj => ?_)
        rw [upd9_get]
        by_cases ej : j = b
        · subst ej; rw [if_pos rfl, if_pos h0]
        · rw [if_neg ej]; exact h j (by omega)
  exact hind R.2.length 0 ρ (by omega) (fun j hj => by omega)
def ChM (ms : MS) (o : Option Flt) : Prop := match o with
  | some e => BadM ms e
  | none => ms.1 32 = 0
theorem find_congr {l : List Nat} {p q : Nat → Bool} (h : ∀ x ∈ l, p x = q x) : l.find? p = l.find? q := by
  induction l with
  | nil => rfl
  | cons a l ih =>
    rw [List.find?_cons, List.find?_cons, h a (List.mem_cons_self), ih (fun x hx => h x (List.mem_cons_of_mem _ hx))]
theorem x_ends {mo : Nat} {Q : Ret MS} {ms : MS} {R : Rt} (w : WfR R) (hnb : 0 < R.2.length) (hR : RdM ms R.1 R.2) (hz : (nmz R.1).length ≤ 2 * R.2.length) (hb : ms.1 32 = 0)
    (k : ∀ ms', FrG (fun k _ => k = 42) [32, 33] ms ms' → ChM ms' (chk R) → Q (.inl none) ms') : pX2_ends mo [.ref mo] ms Q := by
  have l2 := w.2.1
  have hE := RdM.EM hR w
  have ht : ∀ x ∈ nmz R.1, x.2 < 40 := by
    intro x hx
    unfold nmz at hx
    rw [List.mem_flatMap] at hx
    obtain ⟨y, hy, hxy⟩ := hx
    obtain ⟨i, hi⟩ := List.getElem?_of_mem hy
    exact (w.2.2.2.2.1 i y hi).2.2.2.2.2.2.2.2.2.2.2.2.2.2.2 x hxy
  simp [pX2_ends, bX2_ends_0, o_ic, o_lc, o_null, o_il, o_ll, o_al, o_dup, o_pop, o_dup_x1, o_dup2, o_iadd, o_isub, o_imul, o_iand, o_ior, o_ixor, o_ishl, o_ishr, o_idiv, o_irem, o_ineg, o_ladd, o_lsub, o_lmul, o_land, o_lor, o_lxor, o_ldiv, o_lrem, o_lneg, o_lcmp, o_i2l, o_l2i, o_i2b, o_i2c, o_iushr, o_lshl, o_lshr, o_if_eq, o_if_ne, o_if_lt, o_if_ge, o_if_gt, o_if_le, o_icmp_eq, o_icmp_ne, o_icmp_lt, o_icmp_ge, o_icmp_gt, o_icmp_le, o_ifnull, o_ifnonnull, o_acmp_eq, o_acmp_ne, o_is, o_ls, o_as, o_iinc, o_kill, o_sw, o_ireturn, o_zreturn, o_nreturn, o_lreturn, o_areturn, o_return, o_athrow, o_call, entP, lg_sl, Value.category, st1, st2, List.set, List.getElem?_cons_zero, List.getElem?_cons_succ, List.foldl, popN, aft, o_mg, o_mgl, o_mga, o_mp, o_mpz, o_mpl, o_mia, o_mis, o_mbs, o_mc, mput_get, mput_arr, mput_let, mput_put, mset_get, mset_int, mset_let, mputL_get, mputL_arr, mputL_let, mputL_put, i64_8, mLen]
  refine x_names (by omega) l2 hR.2.2.2.2.2.1 hb hE.1 ht (fun ms1 h1 => ?_)
  unfold chk at k
  cases hf : (nmz R.1).find? (fun x => x.2 == 0 || decide (R.2.length ≤ x.2)) with
  | some x =>
    rw [hf] at h1 k
    simp only at h1
    subst h1
    simp [bX2_ends_58, o_ic, o_lc, o_null, o_il, o_ll, o_al, o_dup, o_pop, o_dup_x1, o_dup2, o_iadd, o_isub, o_imul, o_iand, o_ior, o_ixor, o_ishl, o_ishr, o_idiv, o_irem, o_ineg, o_ladd, o_lsub, o_lmul, o_land, o_lor, o_lxor, o_ldiv, o_lrem, o_lneg, o_lcmp, o_i2l, o_l2i, o_i2b, o_i2c, o_iushr, o_lshl, o_lshr, o_if_eq, o_if_ne, o_if_lt, o_if_ge, o_if_gt, o_if_le, o_icmp_eq, o_icmp_ne, o_icmp_lt, o_icmp_ge, o_icmp_gt, o_icmp_le, o_ifnull, o_ifnonnull, o_acmp_eq, o_acmp_ne, o_is, o_ls, o_as, o_iinc, o_kill, o_sw, o_ireturn, o_zreturn, o_nreturn, o_lreturn, o_areturn, o_return, o_athrow, o_call, entP, lg_sl, Value.category, st1, st2, List.set, List.getElem?_cons_zero, List.getElem?_cons_succ, List.foldl, popN, aft, o_mg, o_mgl, o_mga, o_mp, o_mpz, o_mpl, o_mia, o_mis, o_mbs, o_mc, mput_get, mput_arr, mput_let, mput_put, mset_get, mset_int, mset_let, mputL_get, mputL_arr, mputL_let, mputL_put, i64_8, mLen, flM_int]
    exact k _ ((FrG.rfl9.put (by simp)).put (by simp)) ⟨rfl, rfl, show 0 < 4 by omega, show 4 < 7 by omega⟩
  | none =>
    rw [hf] at h1 k
    simp only at h1 k
    subst h1
    have hT : ∀ a t, a < R.2.length → egT R a t → 0 < t ∧ t < R.2.length := by
      intro a t ha hat
      obtain ⟨g1, g2, g3, g4⟩ := end_get w ha
      have hx : ∃ x ∈ iT (endI R a), x.2 = t := by
        rcases hat with q | q
        · unfold et1 at q
          rw [Option.map_eq_some_iff] at q
          obtain ⟨x, hx1, hx2⟩ := q
          exact ⟨x, List.mem_of_getElem? hx1, hx2⟩
        · unfold et2 at q
          rw [Option.map_eq_some_iff] at q
          obtain ⟨x, hx1, hx2⟩ := q
          exact ⟨x, List.mem_of_getElem? hx1, hx2⟩
      obtain ⟨x, hx1, hx2⟩ := hx
      have hm : x ∈ nmz R.1 := by unfold nmz; rw [List.mem_flatMap]; exact ⟨_, List.mem_of_getElem? g1, hx1⟩
      have := List.find?_eq_none.1 hf x hm
      simp at this
      subst hx2
      omega
    have go58 : ∀ (v : Option Value), bX2_ends_58 mo Q [some (.ref mo), none, none, none, none] [] ms1 := by
      intro _
      simp [bX2_ends_58, bX2_ends_66, o_ic, o_lc, o_null, o_il, o_ll, o_al, o_dup, o_pop, o_dup_x1, o_dup2, o_iadd, o_isub, o_imul, o_iand, o_ior, o_ixor, o_ishl, o_ishr, o_idiv, o_irem, o_ineg, o_ladd, o_lsub, o_lmul, o_land, o_lor, o_lxor, o_ldiv, o_lrem, o_lneg, o_lcmp, o_i2l, o_l2i, o_i2b, o_i2c, o_iushr, o_lshl, o_lshr, o_if_eq, o_if_ne, o_if_lt, o_if_ge, o_if_gt, o_if_le, o_icmp_eq, o_icmp_ne, o_icmp_lt, o_icmp_ge, o_icmp_gt, o_icmp_le, o_ifnull, o_ifnonnull, o_acmp_eq, o_acmp_ne, o_is, o_ls, o_as, o_iinc, o_kill, o_sw, o_ireturn, o_zreturn, o_nreturn, o_lreturn, o_areturn, o_return, o_athrow, o_call, entP, lg_sl, Value.category, st1, st2, List.set, List.getElem?_cons_zero, List.getElem?_cons_succ, List.foldl, popN, aft, o_mg, o_mgl, o_mga, o_mp, o_mpz, o_mpl, o_mia, o_mis, o_mbs, o_mc, mput_get, mput_arr, mput_let, mput_put, mset_get, mset_int, mset_let, mputL_get, mputL_arr, mputL_let, mputL_put, i64_8, mLen, hb]
      have := x_init1 (Q := Q) (mo := mo) w hE.1 (fun ρ hρ => ?_) (ms1.2.2 42)
      · rw [msA_self] at this; exact this
      · simp [bX2_ends_99, o_ic, o_lc, o_null, o_il, o_ll, o_al, o_dup, o_pop, o_dup_x1, o_dup2, o_iadd, o_isub, o_imul, o_iand, o_ior, o_ixor, o_ishl, o_ishr, o_idiv, o_irem, o_ineg, o_ladd, o_lsub, o_lmul, o_land, o_lor, o_lxor, o_ldiv, o_lrem, o_lneg, o_lcmp, o_i2l, o_l2i, o_i2b, o_i2c, o_iushr, o_lshl, o_lshr, o_if_eq, o_if_ne, o_if_lt, o_if_ge, o_if_gt, o_if_le, o_icmp_eq, o_icmp_ne, o_icmp_lt, o_icmp_ge, o_icmp_gt, o_icmp_le, o_ifnull, o_ifnonnull, o_acmp_eq, o_acmp_ne, o_is, o_ls, o_as, o_iinc, o_kill, o_sw, o_ireturn, o_zreturn, o_nreturn, o_lreturn, o_areturn, o_return, o_athrow, o_call, entP, lg_sl, Value.category, st1, st2, List.set, List.getElem?_cons_zero, List.getElem?_cons_succ, List.foldl, popN, aft, o_mg, o_mgl, o_mga, o_mp, o_mpz, o_mpl, o_mia, o_mis, o_mbs, o_mc, mput_get, mput_arr, mput_let, mput_put, mset_get, mset_int, mset_let, mputL_get, mputL_arr, mputL_let, mputL_put, i64_8, mLen]
        refine x_reach1 w hE hT (fun ρ1 hρ1 => ?_) ρ (fun j hj => ?_) (fun j hj hj1 => ?_) ?_
        · simp [bX2_ends_179, o_ic, o_lc, o_null, o_il, o_ll, o_al, o_dup, o_pop, o_dup_x1, o_dup2, o_iadd, o_isub, o_imul, o_iand, o_ior, o_ixor, o_ishl, o_ishr, o_idiv, o_irem, o_ineg, o_ladd, o_lsub, o_lmul, o_land, o_lor, o_lxor, o_ldiv, o_lrem, o_lneg, o_lcmp, o_i2l, o_l2i, o_i2b, o_i2c, o_iushr, o_lshl, o_lshr, o_if_eq, o_if_ne, o_if_lt, o_if_ge, o_if_gt, o_if_le, o_icmp_eq, o_icmp_ne, o_icmp_lt, o_icmp_ge, o_icmp_gt, o_icmp_le, o_ifnull, o_ifnonnull, o_acmp_eq, o_acmp_ne, o_is, o_ls, o_as, o_iinc, o_kill, o_sw, o_ireturn, o_zreturn, o_nreturn, o_lreturn, o_areturn, o_return, o_athrow, o_call, entP, lg_sl, Value.category, st1, st2, List.set, List.getElem?_cons_zero, List.getElem?_cons_succ, List.foldl, popN, aft, o_mg, o_mgl, o_mga, o_mp, o_mpz, o_mpl, o_mia, o_mis, o_mbs, o_mc, mput_get, mput_arr, mput_let, mput_put, mset_get, mset_int, mset_let, mputL_get, mputL_arr, mputL_let, mputL_put, i64_8, mLen, vpL, nn_addL, nn_addR, nn_mulL, nn_add, nn_mul, nn_eqL, nn_ltL, nn_leL, nn_Llt, nn_Lle, nn_lt, nn_le, nn_eq, nn_in, nn_clamp, nn_succ, nn_pos, nn_neg1, msA_get, msA_int, msA_let, mset_msA, upd9_get, hE.1]
          refine x_scan5 (R := R) (ρ := ρ1) l2 (fun b hb' => by rw [msA_get, if_neg (by omega)]; exact (hE.2.2 b hb').2.1) (by funext i; rw [msA_get, if_pos rfl]) (fun ms2 h2 => ?_)
          have hcg : (List.range R.2.length).find? (fun b => ρ1 b == 0) = (List.range R.2.length).find? (fun b => b9 (¬ Rch R b)) := by
            refine find_congr (fun x hx => ?_)
            rw [List.mem_range] at hx
            have := hρ1 x hx
            by_cases q : ρ1 x = 0
            · rw [b9_iff.2 (this.1 q)]; simp [q]
            · rw [b9_not.2 (fun q' => q (this.2 q'))]; simp [q]
          rw [hcg] at h2
          cases hf2 : (List.range R.2.length).find? (fun b => b9 (¬ Rch R b)) with
          | some b =>
            rw [hf2] at h2 k
            simp only at h2
            subst h2
            simp [bX2_ends_222, o_ic, o_lc, o_null, o_il, o_ll, o_al, o_dup, o_pop, o_dup_x1, o_dup2, o_iadd, o_isub, o_imul, o_iand, o_ior, o_ixor, o_ishl, o_ishr, o_idiv, o_irem, o_ineg, o_ladd, o_lsub, o_lmul, o_land, o_lor, o_lxor, o_ldiv, o_lrem, o_lneg, o_lcmp, o_i2l, o_l2i, o_i2b, o_i2c, o_iushr, o_lshl, o_lshr, o_if_eq, o_if_ne, o_if_lt, o_if_ge, o_if_gt, o_if_le, o_icmp_eq, o_icmp_ne, o_icmp_lt, o_icmp_ge, o_icmp_gt, o_icmp_le, o_ifnull, o_ifnonnull, o_acmp_eq, o_acmp_ne, o_is, o_ls, o_as, o_iinc, o_kill, o_sw, o_ireturn, o_zreturn, o_nreturn, o_lreturn, o_areturn, o_return, o_athrow, o_call, entP, lg_sl, Value.category, st1, st2, List.set, List.getElem?_cons_zero, List.getElem?_cons_succ, List.foldl, popN, aft, o_mg, o_mgl, o_mga, o_mp, o_mpz, o_mpl, o_mia, o_mis, o_mbs, o_mc, mput_get, mput_arr, mput_let, mput_put, mset_get, mset_int, mset_let, mputL_get, mputL_arr, mputL_let, mputL_put, i64_8, mLen, flM_int]
            refine k _ ⟨fun j hj hn => ?_, fun j i hn => ?_⟩ ⟨rfl, rfl, show 0 < 5 by omega, show 5 < 7 by omega⟩
            · simp at hn; rw [flM_int, if_neg hn.2, if_neg hn.1]; rfl
            · rw [flM_arr, msA_get, if_neg hn]
          | none =>
            rw [hf2] at h2 k
            simp only at h2 k
            subst h2
            simp [bX2_ends_222, bX2_ends_230, o_ic, o_lc, o_null, o_il, o_ll, o_al, o_dup, o_pop, o_dup_x1, o_dup2, o_iadd, o_isub, o_imul, o_iand, o_ior, o_ixor, o_ishl, o_ishr, o_idiv, o_irem, o_ineg, o_ladd, o_lsub, o_lmul, o_land, o_lor, o_lxor, o_ldiv, o_lrem, o_lneg, o_lcmp, o_i2l, o_l2i, o_i2b, o_i2c, o_iushr, o_lshl, o_lshr, o_if_eq, o_if_ne, o_if_lt, o_if_ge, o_if_gt, o_if_le, o_icmp_eq, o_icmp_ne, o_icmp_lt, o_icmp_ge, o_icmp_gt, o_icmp_le, o_ifnull, o_ifnonnull, o_acmp_eq, o_acmp_ne, o_is, o_ls, o_as, o_iinc, o_kill, o_sw, o_ireturn, o_zreturn, o_nreturn, o_lreturn, o_areturn, o_return, o_athrow, o_call, entP, lg_sl, Value.category, st1, st2, List.set, List.getElem?_cons_zero, List.getElem?_cons_succ, List.foldl, popN, aft, o_mg, o_mgl, o_mga, o_mp, o_mpz, o_mpl, o_mia, o_mis, o_mbs, o_mc, mput_get, mput_arr, mput_let, mput_put, mset_get, mset_int, mset_let, mputL_get, mputL_arr, mputL_let, mputL_put, i64_8, mLen, msA_get, msA_int, msA_let, mset_msA, upd9_get, hb]
            refine x_init2 (ms := ms1) w hE (fun ρ2 hρ2 => ?_) ρ1
            simp [bX2_ends_274, o_ic, o_lc, o_null, o_il, o_ll, o_al, o_dup, o_pop, o_dup_x1, o_dup2, o_iadd, o_isub, o_imul, o_iand, o_ior, o_ixor, o_ishl, o_ishr, o_idiv, o_irem, o_ineg, o_ladd, o_lsub, o_lmul, o_land, o_lor, o_lxor, o_ldiv, o_lrem, o_lneg, o_lcmp, o_i2l, o_l2i, o_i2b, o_i2c, o_iushr, o_lshl, o_lshr, o_if_eq, o_if_ne, o_if_lt, o_if_ge, o_if_gt, o_if_le, o_icmp_eq, o_icmp_ne, o_icmp_lt, o_icmp_ge, o_icmp_gt, o_icmp_le, o_ifnull, o_ifnonnull, o_acmp_eq, o_acmp_ne, o_is, o_ls, o_as, o_iinc, o_kill, o_sw, o_ireturn, o_zreturn, o_nreturn, o_lreturn, o_areturn, o_return, o_athrow, o_call, entP, lg_sl, Value.category, st1, st2, List.set, List.getElem?_cons_zero, List.getElem?_cons_succ, List.foldl, popN, aft, o_mg, o_mgl, o_mga, o_mp, o_mpz, o_mpl, o_mia, o_mis, o_mbs, o_mc, mput_get, mput_arr, mput_let, mput_put, mset_get, mset_int, mset_let, mputL_get, mputL_arr, mputL_let, mputL_put, i64_8, mLen]
            refine x_reach2 w hE hT (fun ρ3 hρ3 => ?_) ρ2 (fun j hj => ?_) (fun j hj hj1 => ?_) (fun j hj h6 => ?_)
            · simp [bX2_ends_388, o_ic, o_lc, o_null, o_il, o_ll, o_al, o_dup, o_pop, o_dup_x1, o_dup2, o_iadd, o_isub, o_imul, o_iand, o_ior, o_ixor, o_ishl, o_ishr, o_idiv, o_irem, o_ineg, o_ladd, o_lsub, o_lmul, o_land, o_lor, o_lxor, o_ldiv, o_lrem, o_lneg, o_lcmp, o_i2l, o_l2i, o_i2b, o_i2c, o_iushr, o_lshl, o_lshr, o_if_eq, o_if_ne, o_if_lt, o_if_ge, o_if_gt, o_if_le, o_icmp_eq, o_icmp_ne, o_icmp_lt, o_icmp_ge, o_icmp_gt, o_icmp_le, o_ifnull, o_ifnonnull, o_acmp_eq, o_acmp_ne, o_is, o_ls, o_as, o_iinc, o_kill, o_sw, o_ireturn, o_zreturn, o_nreturn, o_lreturn, o_areturn, o_return, o_athrow, o_call, entP, lg_sl, Value.category, st1, st2, List.set, List.getElem?_cons_zero, List.getElem?_cons_succ, List.foldl, popN, aft, o_mg, o_mgl, o_mga, o_mp, o_mpz, o_mpl, o_mia, o_mis, o_mbs, o_mc, mput_get, mput_arr, mput_let, mput_put, mset_get, mset_int, mset_let, mputL_get, mputL_arr, mputL_let, mputL_put, i64_8, mLen, vpL, nn_addL, nn_addR, nn_mulL, nn_add, nn_mul, nn_eqL, nn_ltL, nn_leL, nn_Llt, nn_Lle, nn_lt, nn_le, nn_eq, nn_in, nn_clamp, nn_succ, nn_pos, nn_neg1, msA_get, msA_int, msA_let, mset_msA, upd9_get, hE.1]
              refine x_scan6 (R := R) (ρ := ρ3) l2 (fun b hb' => by rw [msA_get, if_neg (by omega)]; exact (hE.2.2 b hb').2.1) (by funext i; rw [msA_get, if_pos rfl]) (fun ms4 h4 => ?_)
              have hcg : (List.range R.2.length).find? (fun b => ρ3 b == 0) = (List.range R.2.length).find? (fun b => b9 (¬ Lvs R b)) := by
                refine find_congr (fun x hx => ?_)
                rw [List.mem_range] at hx
                have := hρ3 x hx
                by_cases q : ρ3 x = 0
                · rw [b9_iff.2 (this.1 q)]; simp [q]
                · rw [b9_not.2 (fun q' => q (this.2 q'))]; simp [q]
              rw [hcg] at h4
              simp [bX2_ends_432, o_ic, o_lc, o_null, o_il, o_ll, o_al, o_dup, o_pop, o_dup_x1, o_dup2, o_iadd, o_isub, o_imul, o_iand, o_ior, o_ixor, o_ishl, o_ishr, o_idiv, o_irem, o_ineg, o_ladd, o_lsub, o_lmul, o_land, o_lor, o_lxor, o_ldiv, o_lrem, o_lneg, o_lcmp, o_i2l, o_l2i, o_i2b, o_i2c, o_iushr, o_lshl, o_lshr, o_if_eq, o_if_ne, o_if_lt, o_if_ge, o_if_gt, o_if_le, o_icmp_eq, o_icmp_ne, o_icmp_lt, o_icmp_ge, o_icmp_gt, o_icmp_le, o_ifnull, o_ifnonnull, o_acmp_eq, o_acmp_ne, o_is, o_ls, o_as, o_iinc, o_kill, o_sw, o_ireturn, o_zreturn, o_nreturn, o_lreturn, o_areturn, o_return, o_athrow, o_call, entP, lg_sl, Value.category, st1, st2, List.set, List.getElem?_cons_zero, List.getElem?_cons_succ, List.foldl, popN, aft, o_mg, o_mgl, o_mga, o_mp, o_mpz, o_mpl, o_mia, o_mis, o_mbs, o_mc, mput_get, mput_arr, mput_let, mput_put, mset_get, mset_int, mset_let, mputL_get, mputL_arr, mputL_let, mputL_put, i64_8, mLen]
              cases hf3 : (List.range R.2.length).find? (fun b => b9 (¬ Lvs R b)) with
              | some b =>
                rw [hf3] at h4 k
                simp only at h4
                subst h4
                refine k _ ⟨fun j hj hn => ?_, fun j i hn => ?_⟩ ⟨rfl, rfl, show 0 < 6 by omega, show 6 < 7 by omega⟩
                · simp at hn; rw [flM_int, if_neg hn.2, if_neg hn.1]; rfl
                · rw [flM_arr, msA_get, if_neg hn]
              | none =>
                rw [hf3] at h4 k
                simp only at h4
                subst h4
                exact k _ ⟨fun j hj hn => rfl, fun j i hn => by rw [msA_get, if_neg hn]⟩ hb
            · rw [hρ2 j hj]; split
              · exact Or.inr rfl
              · exact Or.inl rfl
            · rw [hρ2 j hj] at hj1
              split at hj1
              · next h6 => exact fun S s0 _ => s0 j hj h6
              · exact absurd hj1 (by decide)
            · rw [hρ2 j hj, if_pos h6]
        · rw [hρ j hj]; split
          · exact Or.inr rfl
          · exact Or.inl rfl
        · rw [hρ j hj] at hj1
          split at hj1
          · next h0 => subst h0; exact fun S s0 _ => s0
          · exact absurd hj1 (by decide)
        · rw [hρ 0 hnb]; rfl
    exact go58 none
