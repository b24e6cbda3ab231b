/-! THE MODEL's ends: what is reached -/
set_option maxRecDepth 100000
def B01 (n : Nat) (ρ : Nat → Int32) : Prop := ∀ j, j < n → ρ j = 0 ∨ ρ j = 1
def cnt0 (n : Nat) (ρ : Nat → Int32) : Nat := (List.range n).countP (fun j => ρ j == 0)
theorem cnt0_succ (n : Nat) (ρ : Nat → Int32) : cnt0 (n + 1) ρ = cnt0 n ρ + if ρ n = 0 then 1 else 0 := by
  unfold cnt0; rw [List.range_succ, List.countP_append]; simp [List.countP_cons]
theorem cnt0_congr : ∀ (n : Nat) {ρ ρ' : Nat → Int32}, (∀ j, j < n → ρ j = ρ' j) → cnt0 n ρ = cnt0 n ρ'
  | 0, _, _, _ => rfl
  | n + 1, ρ, ρ', h => by rw [cnt0_succ, cnt0_succ, cnt0_congr n (fun j hj => h j (by omega)), h n (by omega)]
theorem cnt0_upd : ∀ (n : Nat) {ρ : Nat → Int32} {t : Nat} {x : Int32}, t < n → ρ t = 0 → x ≠ 0 → cnt0 n (upd9 ρ t x) < cnt0 n ρ
  | 0, _, _, _, h, _, _ => by omega
  | n + 1, ρ, t, x, h, h0, hx => by
    rw [cnt0_succ, cnt0_succ]
    by_cases e : t = n
    · subst e
      rw [cnt0_congr t (ρ := upd9 ρ t x) (ρ' := ρ) (fun j hj => by rw [upd9_get, if_neg (by omega)])]
      simp [upd9_get, h0, hx]
    · have := cnt0_upd n (t := t) (x := x) (ρ := ρ) (by omega) h0 hx
      have e2 : upd9 ρ t x n = ρ n := by rw [upd9_get, if_neg (by omega)]
      rw [e2]; omega
theorem cnt0_le (n : Nat) (ρ : Nat → Int32) : cnt0 n ρ ≤ n := by
  induction n with
  | zero => simp [cnt0]
  | succ n ih => rw [cnt0_succ]; split <;> omega
/-- one pass of the first reach: what it leaves -/
def Pass1 (R : Rt) (b : Nat) (ρ : Nat → Int32) (m : Int32) (ρ' : Nat → Int32) (m' : Int32) : Prop := B01 R.2.length ρ' ∧ (∀ j, j < R.2.length → ρ' j = 1 → Rch R j) ∧ ρ' 0 = 1 ∧ (m' = 0 ∨ m' = 1) ∧ (m' = 0 → m = 0 ∧ ρ' = ρ ∧ ∀ a, b ≤ a → a < R.2.length → ρ a = 1 → ∀ t, egT R a t → ρ t = 1) ∧ (m' = 1 → m = 1 ∨ cnt0 R.2.length ρ' < cnt0 R.2.length ρ) ∧ cnt0 R.2.length ρ' ≤ cnt0 R.2.length ρ
theorem x_pass1 {mo : Nat} {Q : Ret MS} {ms : MS} {R : Rt} {J : Cont MS} (w : WfR R) (hE : EM ms R) (hT : ∀ a t, a < R.2.length → egT R a t → 0 < t ∧ t < R.2.length) : ∀ r b ρ m, b + r = R.2.length → B01 R.2.length ρ → (∀ j, j < R.2.length → ρ j = 1 → Rch R j) → ρ 0 = 1 → (m = 0 ∨ m = 1) →
    (∀ ρ' m', Pass1 R b ρ m ρ' m' → J [some (.ref mo), some (.int m'), none, none, none] [] (msA ms 42 ρ')) → bX2_ends_109 mo Q J [some (.ref mo), some (.int m), some (.int (nn b)), none, none] [] (msA ms 42 ρ) := by
  intro r b ρ m h1 h2 h3 h4 h5 k
  unfold bX2_ends_109
  intro X hX
  revert r b ρ m
  intro r
  have l2 := w.2.1
  have b2 : R.2.length < 2147483648 := by omega
  obtain ⟨a1, a2, a3⟩ := hE
  induction r with
  | zero =>
    intro b ρ m e h1 h2 h3 h4 k
    apply hX
    have b1 : b < 2147483648 := by omega
    have b3 : R.2.length ≤ b := by omega
    have b4 : ¬ b < R.2.length := by omega
    simp [bX2_ends_176, o_ic, o_lc, o_null, o_il, o_ll, o_al, o_dup, o_pop, o_dup_x1, o_dup2, o_iadd, o_isub, o_imul, o_iand, o_ior, o_ixor, o_ishl, o_ishr, o_idiv, o_irem, o_ineg, o_ladd, o_lsub, o_lmul, o_land, o_lor, o_lxor, o_ldiv, o_lrem, o_lneg, o_lcmp, o_i2l, o_l2i, o_i2b, o_i2c, o_iushr, o_lshl, o_lshr, o_if_eq, o_if_ne, o_if_lt, o_if_ge, o_if_gt, o_if_le, o_icmp_eq, o_icmp_ne, o_icmp_lt, o_icmp_ge, o_icmp_gt, o_icmp_le, o_ifnull, o_ifnonnull, o_acmp_eq, o_acmp_ne, o_is, o_ls, o_as, o_iinc, o_kill, o_sw, o_ireturn, o_zreturn, o_nreturn, o_lreturn, o_areturn, o_return, o_athrow, o_call, entP, lg_sl, Value.category, st1, st2, List.set, List.getElem?_cons_zero, List.getElem?_cons_succ, List.foldl, popN, aft, o_mg, o_mgl, o_mga, o_mp, o_mpz, o_mpl, o_mia, o_mis, o_mbs, o_mc, mput_get, mput_arr, mput_let, mput_put, mset_get, mset_int, mset_let, mputL_get, mputL_arr, mputL_let, mputL_put, i64_8, mLen, vpL, nn_addL, nn_addR, nn_mulL, nn_add, nn_mul, nn_eqL, nn_ltL, nn_leL, nn_Llt, nn_Lle, nn_lt, nn_le, nn_eq, nn_in, nn_clamp, nn_succ, nn_pos, nn_neg1, msA_get, msA_int, msA_let, mset_msA, upd9_get, a1, b1, b2, b3, b4]
    refine k ρ m ⟨h1, h2, h3, h4, fun q => ⟨q, rfl, fun a _ _ => by omega⟩, fun q => Or.inl q, Nat.le_refl _⟩
  | succ r ih =>
    intro b ρ m e h1 h2 h3 h4 k
    apply hX
    have hb : b < R.2.length := by omega
    have b1 : b < 2147483648 := by omega
    have b3 : ¬ R.2.length ≤ b := by omega
    have b4 : b < 40 := by omega
    obtain ⟨c1, c2, c3, c4, c5⟩ := a3 b hb
    have hl := (end_get w hb).2.1
    have l1 := w.1
    have b5 : 960 + lastN R b < 2147483648 := by omega
    have b6 : 960 + lastN R b < 1200 := by omega
    have hEm : ∀ ρ, EM (msA ms 42 ρ) R := fun ρ => EM.fr ⟨a1, a2, a3⟩ (fun j hj => by funext i; rw [msA_get, if_neg (by omega)])
    have ho1 : ∀ t, et1 R b = some t → t < R.2.length := fun t h => (hT b t hb (Or.inl h)).2
    have ho2 : ∀ t, et2 R b = some t → t < R.2.length := fun t h => (hT b t hb (Or.inr h)).2
    simp [bX2_ends_160, bX2_ends_164, bX2_ends_168, bX2_ends_169, o_ic, o_lc, o_null, o_il, o_ll, o_al, o_dup, o_pop, o_dup_x1, o_dup2, o_iadd, o_isub, o_imul, o_iand, o_ior, o_ixor, o_ishl, o_ishr, o_idiv, o_irem, o_ineg, o_ladd, o_lsub, o_lmul, o_land, o_lor, o_lxor, o_ldiv, o_lrem, o_lneg, o_lcmp, o_i2l, o_l2i, o_i2b, o_i2c, o_iushr, o_lshl, o_lshr, o_if_eq, o_if_ne, o_if_lt, o_if_ge, o_if_gt, o_if_le, o_icmp_eq, o_icmp_ne, o_icmp_lt, o_icmp_ge, o_icmp_gt, o_icmp_le, o_ifnull, o_ifnonnull, o_acmp_eq, o_acmp_ne, o_is, o_ls, o_as, o_iinc, o_kill, o_sw, o_ireturn, o_zreturn, o_nreturn, o_lreturn, o_areturn, o_return, o_athrow, o_call, entP, lg_sl, Value.category, st1, st2, List.set, List.getElem?_cons_zero, List.getElem?_cons_succ, List.foldl, popN, aft, o_mg, o_mgl, o_mga, o_mp, o_mpz, o_mpl, o_mia, o_mis, o_mbs, o_mc, mput_get, mput_arr, mput_let, mput_put, mset_get, mset_int, mset_let, mputL_get, mputL_arr, mputL_let, mputL_put, i64_8, mLen, vpL, nn_addL, nn_addR, nn_mulL, nn_add, nn_mul, nn_eqL, nn_ltL, nn_leL, nn_Llt, nn_Lle, nn_lt, nn_le, nn_eq, nn_in, nn_clamp, nn_succ, nn_pos, nn_neg1, msA_get, msA_int, msA_let, mset_msA, upd9_get, a1, b1, b2, b3, b4, hb]
    -- on, with nothing new at b
    have same : (ρ b = 1 → ∀ t, egT R b t → ρ t = 1) → X [some (.ref mo), some (.int m), some (.int (nn (b + 1))), none, none] [] (msA ms 42 ρ) := fun hcl => ih (b + 1) ρ m (by omega) h1 h2 h3 h4 (fun ρ' m' p => k ρ' m' (by
      obtain ⟨p1, p2, p3, p4, p5, p6, p7⟩ := p
      refine ⟨p1, p2, p3, p4, fun q => ⟨(p5 q).1, (p5 q).2.1, fun a ha1 ha2 ha3 => ?_⟩, p6, p7⟩
      by_cases ea : a = b
      · subst ea; exact hcl ha3
      · exact (p5 q).2.2 a (by omega) ha2 ha3))
    have hm : ∀ (Z : Prop), (m = 0 → Z) → (m = 1 → Z) → Z := fun Z z0 z1 => h4.elim z0 z1
    -- on, with more
    have more : ∀ ρ2, B01 R.2.length ρ2 → (∀ j, j < R.2.length → ρ2 j = 1 → Rch R j) → ρ2 0 = 1 → cnt0 R.2.length ρ2 < cnt0 R.2.length ρ → X [some (.ref mo), some (.int 1), some (.int (nn (b + 1))), none, none] [] (msA ms 42 ρ2) := fun ρ2 q1 q2 q3 q4 => ih (b + 1) ρ2 1 (by omega) q1 q2 q3 (Or.inr rfl) (fun ρ' m' p => k ρ' m' (by
      obtain ⟨p1, p2, p3, p4, p5, p6, p7⟩ := p
      refine ⟨p1, p2, p3, p4, fun q => absurd (p5 q).1 (by decide), fun _ => Or.inr (by omega), by omega⟩))
    refine ⟨fun h0 => ?_, fun hn0 => ?_⟩
    · have hcl : ρ b = 1 → ∀ t, egT R b t → ρ t = 1 := fun q => by rw [h0] at q; exact absurd q (by decide)
      refine ⟨fun q => ?_, fun q => ?_⟩
      · have := same hcl; rw [q] at this; exact this
      · have := same hcl; rw [h4.resolve_left q] at this; exact this
    · have hρb : ρ b = 1 := (h1 b hb).resolve_left hn0
      have hRb := h2 b hb hρb
      have step : ∀ (ρ2 : Nat → Int32) t, B01 R.2.length ρ2 → (∀ j, j < R.2.length → ρ2 j = 1 → Rch R j) → ρ2 0 = 1 → egT R b t → ρ2 t = 0 → B01 R.2.length (upd9 ρ2 t 1) ∧ (∀ j, j < R.2.length → upd9 ρ2 t 1 j = 1 → Rch R j) ∧ upd9 ρ2 t 1 0 = 1 ∧ cnt0 R.2.length (upd9 ρ2 t 1) < cnt0 R.2.length ρ2 := by
        intro ρ2 t q1 q2 q3 q4 q5
        refine ⟨fun j hj => ?_, fun j hj hj1 => ?_, ?_, cnt0_upd _ (hT b t hb q4).2 q5 (by decide)⟩
        · rw [upd9_get]; split
          · exact Or.inr rfl
          · exact q1 j hj
        · rw [upd9_get] at hj1
          split at hj1
          · next e => subst e; exact fun S s0 s1 => s1 b j hb (hRb S s0 s1) q4
          · exact q2 j hj hj1
        · rw [upd9_get]; split
          · rfl
          · exact q3
      refine m_lastNode w (hEm ρ) hb ?_
      simp [o_ic, o_lc, o_null, o_il, o_ll, o_al, o_dup, o_pop, o_dup_x1, o_dup2, o_iadd, o_isub, o_imul, o_iand, o_ior, o_ixor, o_ishl, o_ishr, o_idiv, o_irem, o_ineg, o_ladd, o_lsub, o_lmul, o_land, o_lor, o_lxor, o_ldiv, o_lrem, o_lneg, o_lcmp, o_i2l, o_l2i, o_i2b, o_i2c, o_iushr, o_lshl, o_lshr, o_if_eq, o_if_ne, o_if_lt, o_if_ge, o_if_gt, o_if_le, o_icmp_eq, o_icmp_ne, o_icmp_lt, o_icmp_ge, o_icmp_gt, o_icmp_le, o_ifnull, o_ifnonnull, o_acmp_eq, o_acmp_ne, o_is, o_ls, o_as, o_iinc, o_kill, o_sw, o_ireturn, o_zreturn, o_nreturn, o_lreturn, o_areturn, o_return, o_athrow, o_call, entP, lg_sl, Value.category, st1, st2, List.set, List.getElem?_cons_zero, List.getElem?_cons_succ, List.foldl, popN, aft, o_mg, o_mgl, o_mga, o_mp, o_mpz, o_mpl, o_mia, o_mis, o_mbs, o_mc, mput_get, mput_arr, mput_let, mput_put, mset_get, mset_int, mset_let, mputL_get, mputL_arr, mputL_let, mputL_put, i64_8, mLen, vpL, nn_addL, nn_addR, nn_mulL, nn_add, nn_mul, nn_eqL, nn_ltL, nn_leL, nn_Llt, nn_Lle, nn_lt, nn_le, nn_eq, nn_in, nn_clamp, nn_succ, nn_pos, nn_neg1, msA_get, msA_int, msA_let, mset_msA, upd9_get, b5, b6, c4]
      refine m_mark (fun t h => h1 t (ho1 t h)) (fun t h => by have := ho1 t h; omega) (fun hc1 => ?_) (fun t ht ht0 => ?_)
      · simp [o_ic, o_lc, o_null, o_il, o_ll, o_al, o_dup, o_pop, o_dup_x1, o_dup2, o_iadd, o_isub, o_imul, o_iand, o_ior, o_ixor, o_ishl, o_ishr, o_idiv, o_irem, o_ineg, o_ladd, o_lsub, o_lmul, o_land, o_lor, o_lxor, o_ldiv, o_lrem, o_lneg, o_lcmp, o_i2l, o_l2i, o_i2b, o_i2c, o_iushr, o_lshl, o_lshr, o_if_eq, o_if_ne, o_if_lt, o_if_ge, o_if_gt, o_if_le, o_icmp_eq, o_icmp_ne, o_icmp_lt, o_icmp_ge, o_icmp_gt, o_icmp_le, o_ifnull, o_ifnonnull, o_acmp_eq, o_acmp_ne, o_is, o_ls, o_as, o_iinc, o_kill, o_sw, o_ireturn, o_zreturn, o_nreturn, o_lreturn, o_areturn, o_return, o_athrow, o_call, entP, lg_sl, Value.category, st1, st2, List.set, List.getElem?_cons_zero, List.getElem?_cons_succ, List.foldl, popN, aft, o_mg, o_mgl, o_mga, o_mp, o_mpz, o_mpl, o_mia, o_mis, o_mbs, o_mc, mput_get, mput_arr, mput_let, mput_put, mset_get, mset_int, mset_let, mputL_get, mputL_arr, mputL_let, mputL_put, i64_8, mLen]
        refine m_lastNode w (hEm ρ) hb ?_
        simp [o_ic, o_lc, o_null, o_il, o_ll, o_al, o_dup, o_pop, o_dup_x1, o_dup2, o_iadd, o_isub, o_imul, o_iand, o_ior, o_ixor, o_ishl, o_ishr, o_idiv, o_irem, o_ineg, o_ladd, o_lsub, o_lmul, o_land, o_lor, o_lxor, o_ldiv, o_lrem, o_lneg, o_lcmp, o_i2l, o_l2i, o_i2b, o_i2c, o_iushr, o_lshl, o_lshr, o_if_eq, o_if_ne, o_if_lt, o_if_ge, o_if_gt, o_if_le, o_icmp_eq, o_icmp_ne, o_icmp_lt, o_icmp_ge, o_icmp_gt, o_icmp_le, o_ifnull, o_ifnonnull, o_acmp_eq, o_acmp_ne, o_is, o_ls, o_as, o_iinc, o_kill, o_sw, o_ireturn, o_zreturn, o_nreturn, o_lreturn, o_areturn, o_return, o_athrow, o_call, entP, lg_sl, Value.category, st1, st2, List.set, List.getElem?_cons_zero, List.getElem?_cons_succ, List.foldl, popN, aft, o_mg, o_mgl, o_mga, o_mp, o_mpz, o_mpl, o_mia, o_mis, o_mbs, o_mc, mput_get, mput_arr, mput_let, mput_put, mset_get, mset_int, mset_let, mputL_get, mputL_arr, mputL_let, mputL_put, i64_8, mLen, vpL, nn_addL, nn_addR, nn_mulL, nn_add, nn_mul, nn_eqL, nn_ltL, nn_leL, nn_Llt, nn_Lle, nn_lt, nn_le, nn_eq, nn_in, nn_clamp, nn_succ, nn_pos, nn_neg1, msA_get, msA_int, msA_let, mset_msA, upd9_get, b5, b6, c5]
        refine m_mark (fun t h => h1 t (ho2 t h)) (fun t h => by have := ho2 t h; omega) (fun hc2 => ?_) (fun t ht ht0 => ?_)
        · have hcl : ρ b = 1 → ∀ t, egT R b t → ρ t = 1 := fun _ t ht => ht.elim (hc1 t) (hc2 t)
          simp [o_ic, o_lc, o_null, o_il, o_ll, o_al, o_dup, o_pop, o_dup_x1, o_dup2, o_iadd, o_isub, o_imul, o_iand, o_ior, o_ixor, o_ishl, o_ishr, o_idiv, o_irem, o_ineg, o_ladd, o_lsub, o_lmul, o_land, o_lor, o_lxor, o_ldiv, o_lrem, o_lneg, o_lcmp, o_i2l, o_l2i, o_i2b, o_i2c, o_iushr, o_lshl, o_lshr, o_if_eq, o_if_ne, o_if_lt, o_if_ge, o_if_gt, o_if_le, o_icmp_eq, o_icmp_ne, o_icmp_lt, o_icmp_ge, o_icmp_gt, o_icmp_le, o_ifnull, o_ifnonnull, o_acmp_eq, o_acmp_ne, o_is, o_ls, o_as, o_iinc, o_kill, o_sw, o_ireturn, o_zreturn, o_nreturn, o_lreturn, o_areturn, o_return, o_athrow, o_call, entP, lg_sl, Value.category, st1, st2, List.set, List.getElem?_cons_zero, List.getElem?_cons_succ, List.foldl, popN, aft, o_mg, o_mgl, o_mga, o_mp, o_mpz, o_mpl, o_mia, o_mis, o_mbs, o_mc, mput_get, mput_arr, mput_let, mput_put, mset_get, mset_int, mset_let, mputL_get, mputL_arr, mputL_let, mputL_put, i64_8, mLen, vpL, nn_addL, nn_addR, nn_mulL, nn_add, nn_mul, nn_eqL, nn_ltL, nn_leL, nn_Llt, nn_Lle, nn_lt, nn_le, nn_eq, nn_in, nn_clamp, nn_succ, nn_pos, nn_neg1]
          refine ⟨fun q => ?_, fun q => ?_⟩
          · have := same hcl; rw [q] at this; exact this
          · have := same hcl; rw [h4.resolve_left q] at this; exact this
        · obtain ⟨s1, s2, s3, s4⟩ := step ρ t h1 h2 h3 (Or.inr ht) ht0
          simp [o_ic, o_lc, o_null, o_il, o_ll, o_al, o_dup, o_pop, o_dup_x1, o_dup2, o_iadd, o_isub, o_imul, o_iand, o_ior, o_ixor, o_ishl, o_ishr, o_idiv, o_irem, o_ineg, o_ladd, o_lsub, o_lmul, o_land, o_lor, o_lxor, o_ldiv, o_lrem, o_lneg, o_lcmp, o_i2l, o_l2i, o_i2b, o_i2c, o_iushr, o_lshl, o_lshr, o_if_eq, o_if_ne, o_if_lt, o_if_ge, o_if_gt, o_if_le, o_icmp_eq, o_icmp_ne, o_icmp_lt, o_icmp_ge, o_icmp_gt, o_icmp_le, o_ifnull, o_ifnonnull, o_acmp_eq, o_acmp_ne, o_is, o_ls, o_as, o_iinc, o_kill, o_sw, o_ireturn, o_zreturn, o_nreturn, o_lreturn, o_areturn, o_return, o_athrow, o_call, entP, lg_sl, Value.category, st1, st2, List.set, List.getElem?_cons_zero, List.getElem?_cons_succ, List.foldl, popN, aft, o_mg, o_mgl, o_mga, o_mp, o_mpz, o_mpl, o_mia, o_mis, o_mbs, o_mc, mput_get, mput_arr, mput_let, mput_put, mset_get, mset_int, mset_let, mputL_get, mputL_arr, mputL_let, mputL_put, i64_8, mLen, vpL, nn_addL, nn_addR, nn_mulL, nn_add, nn_mul, nn_eqL, nn_ltL, nn_leL, nn_Llt, nn_Lle, nn_lt, nn_le, nn_eq, nn_in, nn_clamp, nn_succ, nn_pos, nn_neg1]
          exact more _ s1 s2 s3 s4
      · obtain ⟨s1, s2, s3, s4⟩ := step ρ t h1 h2 h3 (Or.inl ht) ht0
        simp [o_ic, o_lc, o_null, o_il, o_ll, o_al, o_dup, o_pop, o_dup_x1, o_dup2, o_iadd, o_isub, o_imul, o_iand, o_ior, o_ixor, o_ishl, o_ishr, o_idiv, o_irem, o_ineg, o_ladd, o_lsub, o_lmul, o_land, o_lor, o_lxor, o_ldiv, o_lrem, o_lneg, o_lcmp, o_i2l, o_l2i, o_i2b, o_i2c, o_iushr, o_lshl, o_lshr, o_if_eq, o_if_ne, o_if_lt, o_if_ge, o_if_gt, o_if_le, o_icmp_eq, o_icmp_ne, o_icmp_lt, o_icmp_ge, o_icmp_gt, o_icmp_le, o_ifnull, o_ifnonnull, o_acmp_eq, o_acmp_ne, o_is, o_ls, o_as, o_iinc, o_kill, o_sw, o_ireturn, o_zreturn, o_nreturn, o_lreturn, o_areturn, o_return, o_athrow, o_call, entP, lg_sl, Value.category, st1, st2, List.set, List.getElem?_cons_zero, List.getElem?_cons_succ, List.foldl, popN, aft, o_mg, o_mgl, o_mga, o_mp, o_mpz, o_mpl, o_mia, o_mis, o_mbs, o_mc, mput_get, mput_arr, mput_let, mput_put, mset_get, mset_int, mset_let, mputL_get, mputL_arr, mputL_let, mputL_put, i64_8, mLen]
        refine m_lastNode w (hEm _) hb ?_
        simp [o_ic, o_lc, o_null, o_il, o_ll, o_al, o_dup, o_pop, o_dup_x1, o_dup2, o_iadd, o_isub, o_imul, o_iand, o_ior, o_ixor, o_ishl, o_ishr, o_idiv, o_irem, o_ineg, o_ladd, o_lsub, o_lmul, o_land, o_lor, o_lxor, o_ldiv, o_lrem, o_lneg, o_lcmp, o_i2l, o_l2i, o_i2b, o_i2c, o_iushr, o_lshl, o_lshr, o_if_eq, o_if_ne, o_if_lt, o_if_ge, o_if_gt, o_if_le, o_icmp_eq, o_icmp_ne, o_icmp_lt, o_icmp_ge, o_icmp_gt, o_icmp_le, o_ifnull, o_ifnonnull, o_acmp_eq, o_acmp_ne, o_is, o_ls, o_as, o_iinc, o_kill, o_sw, o_ireturn, o_zreturn, o_nreturn, o_lreturn, o_areturn, o_return, o_athrow, o_call, entP, lg_sl, Value.category, st1, st2, List.set, List.getElem?_cons_zero, List.getElem?_cons_succ, List.foldl, popN, aft, o_mg, o_mgl, o_mga, o_mp, o_mpz, o_mpl, o_mia, o_mis, o_mbs, o_mc, mput_get, mput_arr, mput_let, mput_put, mset_get, mset_int, mset_let, mputL_get, mputL_arr, mputL_let, mputL_put, i64_8, mLen, vpL, nn_addL, nn_addR, nn_mulL, nn_add, nn_mul, nn_eqL, nn_ltL, nn_leL, nn_Llt, nn_Lle, nn_lt, nn_le, nn_eq, nn_in, nn_clamp, nn_succ, nn_pos, nn_neg1, msA_get, msA_int, msA_let, mset_msA, upd9_get, b5, b6, c5]
        refine m_mark (fun t' h => s1 t' (ho2 t' h)) (fun t' h => by have := ho2 t' h; omega) (fun hc2 => ?_) (fun t' ht' ht0' => ?_)
        · simp [o_ic, o_lc, o_null, o_il, o_ll, o_al, o_dup, o_pop, o_dup_x1, o_dup2, o_iadd, o_isub, o_imul, o_iand, o_ior, o_ixor, o_ishl, o_ishr, o_idiv, o_irem, o_ineg, o_ladd, o_lsub, o_lmul, o_land, o_lor, o_lxor, o_ldiv, o_lrem, o_lneg, o_lcmp, o_i2l, o_l2i, o_i2b, o_i2c, o_iushr, o_lshl, o_lshr, o_if_eq, o_if_ne, o_if_lt, o_if_ge, o_if_gt, o_if_le, o_icmp_eq, o_icmp_ne, o_icmp_lt, o_icmp_ge, o_icmp_gt, o_icmp_le, o_ifnull, o_ifnonnull, o_acmp_eq, o_acmp_ne, o_is, o_ls, o_as, o_iinc, o_kill, o_sw, o_ireturn, o_zreturn, o_nreturn, o_lreturn, o_areturn, o_return, o_athrow, o_call, entP, lg_sl, Value.category, st1, st2, List.set, List.getElem?_cons_zero, List.getElem?_cons_succ, List.foldl, popN, aft, o_mg, o_mgl, o_mga, o_mp, o_mpz, o_mpl, o_mia, o_mis, o_mbs, o_mc, mput_get, mput_arr, mput_let, mput_put, mset_get, mset_int, mset_let, mputL_get, mputL_arr, mputL_let, mputL_put, i64_8, mLen, vpL, nn_addL, nn_addR, nn_mulL, nn_add, nn_mul, nn_eqL, nn_ltL, nn_leL, nn_Llt, nn_Lle, nn_lt, nn_le, nn_eq, nn_in, nn_clamp, nn_succ, nn_pos, nn_neg1]
          exact more _ s1 s2 s3 s4
        · obtain ⟨z1, z2, z3, z4⟩ := step _ t' s1 s2 s3 (Or.inr ht') ht0'
          simp [o_ic, o_lc, o_null, o_il, o_ll, o_al, o_dup, o_pop, o_dup_x1, o_dup2, o_iadd, o_isub, o_imul, o_iand, o_ior, o_ixor, o_ishl, o_ishr, o_idiv, o_irem, o_ineg, o_ladd, o_lsub, o_lmul, o_land, o_lor, o_lxor, o_ldiv, o_lrem, o_lneg, o_lcmp, o_i2l, o_l2i, o_i2b, o_i2c, o_iushr, o_lshl, o_lshr, o_if_eq, o_if_ne, o_if_lt, o_if_ge, o_if_gt, o_if_le, o_icmp_eq, o_icmp_ne, o_icmp_lt, o_icmp_ge, o_icmp_gt, o_icmp_le, o_ifnull, o_ifnonnull, o_acmp_eq, o_acmp_ne, o_is, o_ls, o_as, o_iinc, o_kill, o_sw, o_ireturn, o_zreturn, o_nreturn, o_lreturn, o_areturn, o_return, o_athrow, o_call, entP, lg_sl, Value.category, st1, st2, List.set, List.getElem?_cons_zero, List.getElem?_cons_succ, List.foldl, popN, aft, o_mg, o_mgl, o_mga, o_mp, o_mpz, o_mpl, o_mia, o_mis, o_mbs, o_mc, mput_get, mput_arr, mput_let, mput_put, mset_get, mset_int, mset_let, mputL_get, mputL_arr, mputL_let, mputL_put, i64_8, mLen, vpL, nn_addL, nn_addR, nn_mulL, nn_add, nn_mul, nn_eqL, nn_ltL, nn_leL, nn_Llt, nn_Lle, nn_lt, nn_le, nn_eq, nn_in, nn_clamp, nn_succ, nn_pos, nn_neg1]
          exact more _ z1 z2 z3 (by omega)
theorem x_reach1 {mo : Nat} {Q : Ret MS} {ms : MS} {R : Rt} (w : WfR R) (hE : EM ms R) (hT : ∀ a t, a < R.2.length → egT R a t → 0 < t ∧ t < R.2.length) (k : ∀ ρ, (∀ j, j < R.2.length → (ρ j = 0 ↔ ¬ Rch R j)) → bX2_ends_179 mo Q [some (.ref mo), none, none, none, none] [] (msA ms 42 ρ)) :
    ∀ ρ, B01 R.2.length ρ → (∀ j, j < R.2.length → ρ j = 1 → Rch R j) → ρ 0 = 1 → bX2_ends_101 mo Q [some (.ref mo), some (.int 1), none, none, none] [] (msA ms 42 ρ) := by
  unfold bX2_ends_101
  intro ρ h1 h2 h3 X hX
  have hind : ∀ c ρ, cnt0 R.2.length ρ < c → B01 R.2.length ρ → (∀ j, j < R.2.length → ρ j = 1 → Rch R j) → ρ 0 = 1 → X [some (.ref mo), some (.int 1), none, none, none] [] (msA ms 42 ρ) := by
    intro c
    induction c with
    | zero => intro ρ hc; omega
    | succ c ih =>
      intro ρ hc h1 h2 h3
      apply hX
      simp [o_ic, o_lc, o_null, o_il, o_ll, o_al, o_dup, o_pop, o_dup_x1, o_dup2, o_iadd, o_isub, o_imul, o_iand, o_ior, o_ixor, o_ishl, o_ishr, o_idiv, o_irem, o_ineg, o_ladd, o_lsub, o_lmul, o_land, o_lor, o_lxor, o_ldiv, o_lrem, o_lneg, o_lcmp, o_i2l, o_l2i, o_i2b, o_i2c, o_iushr, o_lshl, o_lshr, o_if_eq, o_if_ne, o_if_lt, o_if_ge, o_if_gt, o_if_le, o_icmp_eq, o_icmp_ne, o_icmp_lt, o_icmp_ge, o_icmp_gt, o_icmp_le, o_ifnull, o_ifnonnull, o_acmp_eq, o_acmp_ne, o_is, o_ls, o_as, o_iinc, o_kill, o_sw, o_ireturn, o_zreturn, o_nreturn, o_lreturn, o_areturn, o_return, o_athrow, o_call, entP, lg_sl, Value.category, st1, st2, List.set, List.getElem?_cons_zero, List.getElem?_cons_succ, List.foldl, popN, aft, o_mg, o_mgl, o_mga, o_mp, o_mpz, o_mpl, o_mia, o_mis, o_mbs, o_mc, mput_get, mput_arr, mput_let, mput_put, mset_get, mset_int, mset_let, mputL_get, mputL_arr, mputL_let, mputL_put, i64_8, mLen]
      refine x_pass1 w hE hT R.2.length 0 ρ 0 (by omega) h1 h2 h3 (Or.inl rfl) (fun ρ' m' p => ?_)
      obtain ⟨p1, p2, p3, p4, p5, p6, p7⟩ := p
      rcases p4 with p4 | p4
      · obtain ⟨-, e, hcl⟩ := p5 p4
        subst e
        rw [p4]
        apply hX
        have hkk := k ρ' (fun j hj => ⟨fun q q' => ?_, fun q => (p1 j hj).resolve_right (fun q' => q (p2 j hj q'))⟩)
        · simp [bX2_ends_179, o_ic, o_lc, o_null, o_il, o_ll, o_al, o_dup, o_pop, o_dup_x1, o_dup2, o_iadd, o_isub, o_imul, o_iand, o_ior, o_ixor, o_ishl, o_ishr, o_idiv, o_irem, o_ineg, o_ladd, o_lsub, o_lmul, o_land, o_lor, o_lxor, o_ldiv, o_lrem, o_lneg, o_lcmp, o_i2l, o_l2i, o_i2b, o_i2c, o_iushr, o_lshl, o_lshr, o_if_eq, o_if_ne, o_if_lt, o_if_ge, o_if_gt, o_if_le, o_icmp_eq, o_icmp_ne, o_icmp_lt, o_icmp_ge, o_icmp_gt, o_icmp_le, o_ifnull, o_ifnonnull, o_acmp_eq, o_acmp_ne, o_is, o_ls, o_as, o_iinc, o_kill, o_sw, o_ireturn, o_zreturn, o_nreturn, o_lreturn, o_areturn, o_return, o_athrow, o_call, entP, lg_sl, Value.category, st1, st2, List.set, List.getElem?_cons_zero, List.getElem?_cons_succ, List.foldl, popN, aft, o_mg, o_mgl, o_mga, o_mp, o_mpz, o_mpl, o_mia, o_mis, o_mbs, o_mc, mput_get, mput_arr, mput_let, mput_put, mset_get, mset_int, mset_let, mputL_get, mputL_arr, mputL_let, mputL_put, i64_8, mLen] at hkk
          simp [bX2_ends_179, o_ic, o_lc, o_null, o_il, o_ll, o_al, o_dup, o_pop, o_dup_x1, o_dup2, o_iadd, o_isub, o_imul, o_iand, o_ior, o_ixor, o_ishl, o_ishr, o_idiv, o_irem, o_ineg, o_ladd, o_lsub, o_lmul, o_land, o_lor, o_lxor, o_ldiv, o_lrem, o_lneg, o_lcmp, o_i2l, o_l2i, o_i2b, o_i2c, o_iushr, o_lshl, o_lshr, o_if_eq, o_if_ne, o_if_lt, o_if_ge, o_if_gt, o_if_le, o_icmp_eq, o_icmp_ne, o_icmp_lt, o_icmp_ge, o_icmp_gt, o_icmp_le, o_ifnull, o_ifnonnull, o_acmp_eq, o_acmp_ne, o_is, o_ls, o_as, o_iinc, o_kill, o_sw, o_ireturn, o_zreturn, o_nreturn, o_lreturn, o_areturn, o_return, o_athrow, o_call, entP, lg_sl, Value.category, st1, st2, List.set, List.getElem?_cons_zero, List.getElem?_cons_succ, List.foldl, popN, aft, o_mg, o_mgl, o_mga, o_mp, o_mpz, o_mpl, o_mia, o_mis, o_mbs, o_mc, mput_get, mput_arr, mput_let, mput_put, mset_get, mset_int, mset_let, mputL_get, mputL_arr, mputL_let, mputL_put, i64_8, mLen]
          exact hkk
        · have : ρ' j = 1 := q' (fun j => ρ' j = 1) p3 (fun a t ha hS ht => hcl a (Nat.zero_le a) ha hS t ht)
          rw [q] at this; exact absurd this (by decide)
      · rw [p4]
        have := (p6 p4).resolve_left (by decide)
        exact ih ρ' (by omega) p1 p2 p3
  exact hind _ ρ (Nat.lt_succ_self _) h1 h2 h3
