/-! THE COMPONENT's lists: add -/
set_option maxRecDepth 100000
theorem AL.sI0 {κ : Nat → Option Nat} {σ : AH} {a b k : Nat} {v : Int32} {l : List Nat} (h : AL κ σ a l) (hk : k ≠ 2) : AL κ (hsI σ b k v) a l := by
  obtain ⟨h1, h2, h3, d, h4, h5⟩ := h
  exact ⟨h1, by rw [hI_sI, if_neg (by omega)]; exact h2, h3, d, h4, h5⟩
theorem Hok.sI {κ : Nat → Option Nat} {σ : AH} {a k : Nat} {v : Int32} (h : Hok κ σ) (ha : hT σ a ≠ 0) : Hok κ (hsI σ a k v) := ⟨h.1.sI ha, h.2.1, h.2.2⟩
/-- the last step of add -/
theorem cq_put {κ : Nat → Option Nat} {Q : Ret AH} {σ : AH} {a x d : Nat} {l : List Nat} (hk : Hok κ σ) (h : AL κ σ a l) (hd : hR σ a 1 = some d) (hdt : hT σ d = 104) (hroom : l.length < hL σ d) (hx : hT σ x ∈ objTs ++ [60])
    (k : ∀ σ', Hok κ σ' → HF (fun b => b = a ∨ b = d) 0 0 σ σ' → AL κ σ' a (l ++ [x]) → Q (.inl none) σ') : bJ2_add_2_11 κ Q [some (.ref a), some (.ref x), some (.ref d), some (.int (nn l.length))] [] σ := by
  obtain ⟨f1, f2, dk, f3, f4, f5⟩ := id hk
  obtain ⟨h1, h2, h3, d', h4, h5⟩ := id h
  rw [hd] at h4
  cases h4
  have hl := h.len
  have bl : l.length < 2147483648 := by omega
  have nk : ¬ KTg (hT σ a) := by rw [h1]; unfold KTg; omega
  have nk2 : ¬ KTg (hT σ d) := by rw [hdt]; unfold KTg; omega
  have ha : hT σ a ≠ 0 := by rw [h1]; decide
  have hdn : hT σ d ≠ 0 := by rw [hdt]; decide
  have had : a ≠ d := fun q => by rw [q, hdt] at h1; cases h1
  rcases h5 with ⟨rfl, hk30⟩ | ⟨k1, k2, k3, k4, k5⟩
  · rw [f3] at hk30; cases hk30; rw [f5] at hroom; simp at hroom
  · have hx' := hx
    simp [objTs] at hx'
    simp [bJ2_add_2_11, o_ic, o_lc, o_null, o_il, o_ll, o_al, o_dup, o_pop, o_dup_x1, o_dup2, o_iadd, o_isub, o_imul, o_iand, o_ior, o_ixor, o_ishl, o_ishr, o_idiv, o_irem, o_ineg, o_ladd, o_lsub, o_lmul, o_land, o_lor, o_lxor, o_ldiv, o_lrem, o_lneg, o_lcmp, o_i2l, o_l2i, o_i2b, o_i2c, o_iushr, o_lshl, o_lshr, o_if_eq, o_if_ne, o_if_lt, o_if_ge, o_if_gt, o_if_le, o_icmp_eq, o_icmp_ne, o_icmp_lt, o_icmp_ge, o_icmp_gt, o_icmp_le, o_ifnull, o_ifnonnull, o_acmp_eq, o_acmp_ne, o_is, o_ls, o_as, o_iinc, o_kill, o_sw, o_ireturn, o_zreturn, o_nreturn, o_lreturn, o_areturn, o_return, o_athrow, o_call, entP, lg_sl, Value.category, st1, st2, List.set, List.getElem?_cons_zero, List.getElem?_cons_succ, List.foldl, popN, aft, o_gI, o_gR, o_pI, o_pN, o_pR, o_aI, o_aG, o_aR, o_len, o_aR8, o_sI, o_sB, o_sZ, o_sG, o_new, o_newA, o_cast, o_inst, o_cst, o_oi, o_sR, o_gIc, o_gSv, o_gSc, o_getc, o_dead, o_acopy, o_castA, o_castI, o_sR7, o_mna, o_mmax, o_mmin, o_mabs, hT_sI, hT_sR, hT_sG, hL_sI, hL_sR, hL_sG, hI_sI, hI_sR, hI_sG, hG_sI, hG_sR, hG_sG, hR_sI, hR_sR, hR_sG, hN_sI, hN_sR, hN_sG, hC_sI, hC_sR, hC_sG, hS_sI, hS_sR, hS_sG, hT_nw, hL_nw, hI_nw, hG_nw, hR_nw, hN_nw, hC_nw, hS_nw, hvc, hvi, dspI, vref, va_rf, vpL, nn_addL, nn_addR, nn_mulL, nn_add, nn_mul, nn_eqL, nn_ltL, nn_leL, nn_Llt, nn_Lle, nn_lt, nn_le, nn_eq, nn_in, nn_clamp, nn_succ, nn_pos, nn_neg1, objTs, h1, hdt, bl, hroom]
    refine ⟨hx', ?_⟩
    refine k _ ⟨(f1.sR hdn).sI (by rw [hT_sR]; exact ha), ⟨?_, ?_⟩, dk, f3, f4, f5⟩ (((HF.rfl9 (M := fun b => b = a ∨ b = d)).sR f1 (Or.inl (Or.inr rfl)) nk2).sI f1 (Or.inl (Or.inl rfl)) (by rw [hT_sR]; exact nk)) ⟨h1, ?_, fun y hy => ?_, d, ?_, Or.inr ⟨hdt, ?_, k3, k4, fun i => ?_⟩⟩
    · intro b e hb hb1
      rw [hR_sI, hR_sR] at hb1
      rw [hT_sI, hT_sR] at hb
      rw [hN_sI, hN_sR]
      rw [if_neg (fun q => by rw [q.1, hdt] at hb; cases hb)] at hb1
      exact f2.1 b e hb hb1
    · intro b c e hb hc hb1 hc1 he
      rw [hR_sI, hR_sR] at hb1 hc1
      rw [hT_sI, hT_sR] at hb hc he
      rw [if_neg (fun q => by rw [q.1, hdt] at hb; cases hb)] at hb1
      rw [if_neg (fun q => by rw [q.1, hdt] at hc; cases hc)] at hc1
      exact f2.2 b c e hb hc hb1 hc1 he
    · rw [hI_sI, if_pos ⟨rfl, rfl⟩]; simp
    · simp at hy
      rcases hy with hy | hy
      · exact h3 y hy
      · subst hy; exact hx
    · rw [hR_sI, hR_sR, if_neg (fun q => had q.1)]; exact hd
    · rw [hL_sI, hL_sR]; simp; omega
    · rw [hR_sI, hR_sR]
      by_cases c : i = l.length
      · subst c; rw [if_pos ⟨rfl, rfl⟩]; simp
      · rw [if_neg (fun q => c q.2), k5]
        by_cases c2 : i < l.length
        · rw [List.getElem?_append_left c2]
        · rw [List.getElem?_eq_none_iff.2 (by omega), List.getElem?_eq_none_iff.2 (by simp; omega)]
theorem cq_add {κ : Nat → Option Nat} {Q : Ret AH} {σ : AH} {a x : Nat} {l : List Nat} (hk : Hok κ σ) (h : AL κ σ a l) (hx : hT σ x ∈ objTs ++ [60]) (hl : l.length < 600) (hc : 1 ≤ hC σ) (hs : 10 + 2 * l.length ≤ hS σ)
    (k : ∀ σ', Hok κ σ' → HF (fun b => b = a ∨ (hR σ a 1 = some b ∧ hT σ b = 104)) 1 (10 + 2 * l.length) σ σ' → AL κ σ' a (l ++ [x]) → Q (.inl (some (.int 1))) σ') : pJ2_add κ [.ref a, .ref x] σ Q := by
  obtain ⟨f1, f2, dk, f3, f4, f5⟩ := id hk
  obtain ⟨h1, h2, h3, d, h4, h5⟩ := id h
  have nk : ¬ KTg (hT σ a) := by rw [h1]; unfold KTg; omega
  have ha : hT σ a ≠ 0 := by rw [h1]; decide
  have bl : l.length < 2147483648 := by omega
  simp [pJ2_add, bJ2_add_0, o_ic, o_lc, o_null, o_il, o_ll, o_al, o_dup, o_pop, o_dup_x1, o_dup2, o_iadd, o_isub, o_imul, o_iand, o_ior, o_ixor, o_ishl, o_ishr, o_idiv, o_irem, o_ineg, o_ladd, o_lsub, o_lmul, o_land, o_lor, o_lxor, o_ldiv, o_lrem, o_lneg, o_lcmp, o_i2l, o_l2i, o_i2b, o_i2c, o_iushr, o_lshl, o_lshr, o_if_eq, o_if_ne, o_if_lt, o_if_ge, o_if_gt, o_if_le, o_icmp_eq, o_icmp_ne, o_icmp_lt, o_icmp_ge, o_icmp_gt, o_icmp_le, o_ifnull, o_ifnonnull, o_acmp_eq, o_acmp_ne, o_is, o_ls, o_as, o_iinc, o_kill, o_sw, o_ireturn, o_zreturn, o_nreturn, o_lreturn, o_areturn, o_return, o_athrow, o_call, entP, lg_sl, Value.category, st1, st2, List.set, List.getElem?_cons_zero, List.getElem?_cons_succ, List.foldl, popN, aft, o_gI, o_gR, o_pI, o_pN, o_pR, o_aI, o_aG, o_aR, o_len, o_aR8, o_sI, o_sB, o_sZ, o_sG, o_new, o_newA, o_cast, o_inst, o_cst, o_oi, o_sR, o_gIc, o_gSv, o_gSc, o_getc, o_dead, o_acopy, o_castA, o_castI, o_sR7, o_mna, o_mmax, o_mmin, o_mabs, hT_sI, hT_sR, hT_sG, hL_sI, hL_sR, hL_sG, hI_sI, hI_sR, hI_sG, hG_sI, hG_sR, hG_sG, hR_sI, hR_sR, hR_sG, hN_sI, hN_sR, hN_sG, hC_sI, hC_sR, hC_sG, hS_sI, hS_sR, hS_sG, hT_nw, hL_nw, hI_nw, hG_nw, hR_nw, hN_nw, hC_nw, hS_nw, hvc, hvi, dspI, vref, va_rf, h1, h4, h2]
  generalize hv : hI σ a 0 + 1 = v
  have hk1 : Hok κ (hsI σ a 0 v) := hk.sI ha
  have hA1 : AL κ (hsI σ a 0 v) a l := h.sI0 (by omega)
  have fr1 : HF (fun b => b = a ∨ (hR σ a 1 = some b ∧ hT σ b = 104)) 0 0 σ (hsI σ a 0 v) := (HF.rfl9 (M := fun b => b = a ∨ (hR σ a 1 = some b ∧ hT σ b = 104))).sI f1 (Or.inl (Or.inl rfl)) nk
  have e4 : hR (hsI σ a 0 v) a 1 = some d := h4
  have hdlt : d < hN σ := f2.1 a d h1 h4
  have hLd : l.length ≤ hL σ d ∧ hL σ d ≤ 1000 ∧ (100 ≤ hT σ d ∧ hT σ d < 108 ∨ 150 ≤ hT σ d ∧ hT σ d < 159) ∧ (l.length < hL σ d → hT σ d = 104) := by
    rcases h5 with ⟨rfl, hk30⟩ | ⟨k1, k2, k3, k4, k5⟩
    · rw [f3] at hk30; cases hk30
      rw [f4, f5]; simp
    · exact ⟨k2, k4, Or.inl (by omega), fun _ => k1⟩
  have bL : hL σ d < 2147483648 := by omega
  have eL : nI (hL σ d) = nn (hL σ d) := rfl
  simp [pJ2_add_2, bJ2_add_2_0, o_ic, o_lc, o_null, o_il, o_ll, o_al, o_dup, o_pop, o_dup_x1, o_dup2, o_iadd, o_isub, o_imul, o_iand, o_ior, o_ixor, o_ishl, o_ishr, o_idiv, o_irem, o_ineg, o_ladd, o_lsub, o_lmul, o_land, o_lor, o_lxor, o_ldiv, o_lrem, o_lneg, o_lcmp, o_i2l, o_l2i, o_i2b, o_i2c, o_iushr, o_lshl, o_lshr, o_if_eq, o_if_ne, o_if_lt, o_if_ge, o_if_gt, o_if_le, o_icmp_eq, o_icmp_ne, o_icmp_lt, o_icmp_ge, o_icmp_gt, o_icmp_le, o_ifnull, o_ifnonnull, o_acmp_eq, o_acmp_ne, o_is, o_ls, o_as, o_iinc, o_kill, o_sw, o_ireturn, o_zreturn, o_nreturn, o_lreturn, o_areturn, o_return, o_athrow, o_call, entP, lg_sl, Value.category, st1, st2, List.set, List.getElem?_cons_zero, List.getElem?_cons_succ, List.foldl, popN, aft, o_gI, o_gR, o_pI, o_pN, o_pR, o_aI, o_aG, o_aR, o_len, o_aR8, o_sI, o_sB, o_sZ, o_sG, o_new, o_newA, o_cast, o_inst, o_cst, o_oi, o_sR, o_gIc, o_gSv, o_gSc, o_getc, o_dead, o_acopy, o_castA, o_castI, o_sR7, o_mna, o_mmax, o_mmin, o_mabs, hT_sI, hT_sR, hT_sG, hL_sI, hL_sR, hL_sG, hI_sI, hI_sR, hI_sG, hG_sI, hG_sR, hG_sG, hR_sI, hR_sR, hR_sG, hN_sI, hN_sR, hN_sG, hC_sI, hC_sR, hC_sG, hS_sI, hS_sR, hS_sG, hT_nw, hL_nw, hI_nw, hG_nw, hR_nw, hN_nw, hC_nw, hS_nw, hvc, hvi, dspI, vref, va_rf, nn_eqL, nn_ltL, nn_leL, nn_Llt, nn_Lle, nn_lt, nn_le, nn_eq, nn_in, nn_clamp, nn_succ, nn_pos, nn_neg1, bl, bL, eL, hLd.2.2.1]
  refine ⟨fun hne => ?_, fun hfull => ?_⟩
  · -- there is room
    have hroom : l.length < hL σ d := by omega
    have hdt := hLd.2.2.2 hroom
    refine cq_put hk1 hA1 e4 hdt hroom hx (fun σ' k1 fr2 A2 => ?_)
    simp [o_ic, o_lc, o_null, o_il, o_ll, o_al, o_dup, o_pop, o_dup_x1, o_dup2, o_iadd, o_isub, o_imul, o_iand, o_ior, o_ixor, o_ishl, o_ishr, o_idiv, o_irem, o_ineg, o_ladd, o_lsub, o_lmul, o_land, o_lor, o_lxor, o_ldiv, o_lrem, o_lneg, o_lcmp, o_i2l, o_l2i, o_i2b, o_i2c, o_iushr, o_lshl, o_lshr, o_if_eq, o_if_ne, o_if_lt, o_if_ge, o_if_gt, o_if_le, o_icmp_eq, o_icmp_ne, o_icmp_lt, o_icmp_ge, o_icmp_gt, o_icmp_le, o_ifnull, o_ifnonnull, o_acmp_eq, o_acmp_ne, o_is, o_ls, o_as, o_iinc, o_kill, o_sw, o_ireturn, o_zreturn, o_nreturn, o_lreturn, o_areturn, o_return, o_athrow, o_call, entP, lg_sl, Value.category, st1, st2, List.set, List.getElem?_cons_zero, List.getElem?_cons_succ, List.foldl, popN, aft]
    refine k σ' k1 ((fr1.trans (fr2.mono (fun b _ z => ?_) (Nat.le_refl 0) (Nat.le_refl 0))).mono (fun _ _ z => z) (by omega) (by omega)) A2
    rcases z with z | z
    · exact Or.inl z
    · subst z; exact Or.inr ⟨h4, hdt⟩
  · -- a longer row
    simp [h1]
    refine cq_grow hk1 hA1 e4 hfull.symm hl hc hs (fun σ2 d2 k2 fr2 A2 e5 e6 e7 e8 e9 => ?_)
    simp [o_ic, o_lc, o_null, o_il, o_ll, o_al, o_dup, o_pop, o_dup_x1, o_dup2, o_iadd, o_isub, o_imul, o_iand, o_ior, o_ixor, o_ishl, o_ishr, o_idiv, o_irem, o_ineg, o_ladd, o_lsub, o_lmul, o_land, o_lor, o_lxor, o_ldiv, o_lrem, o_lneg, o_lcmp, o_i2l, o_l2i, o_i2b, o_i2c, o_iushr, o_lshl, o_lshr, o_if_eq, o_if_ne, o_if_lt, o_if_ge, o_if_gt, o_if_le, o_icmp_eq, o_icmp_ne, o_icmp_lt, o_icmp_ge, o_icmp_gt, o_icmp_le, o_ifnull, o_ifnonnull, o_acmp_eq, o_acmp_ne, o_is, o_ls, o_as, o_iinc, o_kill, o_sw, o_ireturn, o_zreturn, o_nreturn, o_lreturn, o_areturn, o_return, o_athrow, o_call, entP, lg_sl, Value.category, st1, st2, List.set, List.getElem?_cons_zero, List.getElem?_cons_succ, List.foldl, popN, aft]
    have hx2 : hT σ2 x ∈ objTs ++ [60] := by
      have hxn : hT (hsI σ a 0 v) x ≠ 0 := tag_ne hx
      rw [(fr2.tag hk1.1 hxn).1]; exact hx
    refine cq_put k2 A2 e5 e6 e8 hx2 (fun σ' k3 fr3 A3 => ?_)
    simp [o_ic, o_lc, o_null, o_il, o_ll, o_al, o_dup, o_pop, o_dup_x1, o_dup2, o_iadd, o_isub, o_imul, o_iand, o_ior, o_ixor, o_ishl, o_ishr, o_idiv, o_irem, o_ineg, o_ladd, o_lsub, o_lmul, o_land, o_lor, o_lxor, o_ldiv, o_lrem, o_lneg, o_lcmp, o_i2l, o_l2i, o_i2b, o_i2c, o_iushr, o_lshl, o_lshr, o_if_eq, o_if_ne, o_if_lt, o_if_ge, o_if_gt, o_if_le, o_icmp_eq, o_icmp_ne, o_icmp_lt, o_icmp_ge, o_icmp_gt, o_icmp_le, o_ifnull, o_ifnonnull, o_acmp_eq, o_acmp_ne, o_is, o_ls, o_as, o_iinc, o_kill, o_sw, o_ireturn, o_zreturn, o_nreturn, o_lreturn, o_areturn, o_return, o_athrow, o_call, entP, lg_sl, Value.category, st1, st2, List.set, List.getElem?_cons_zero, List.getElem?_cons_succ, List.foldl, popN, aft]
    refine k σ' k3 ?_ A3
    obtain ⟨a1, a2, a3, a4, a5⟩ := fr1
    obtain ⟨b1, b2, b3, b4, b5⟩ := fr2
    obtain ⟨c1, c2, c3, c4, c5⟩ := fr3
    have hN1 : hN (hsI σ a 0 v) = hN σ := rfl
    refine ⟨by omega, fun b hb => ?_, fun b hb hm j => ?_, by omega, by omega⟩
    · have := a2 b hb
      have := b2 b (by omega)
      have := c2 b (by omega)
      omega
    · have hba : ¬ b = a ∨ KTg (hT σ b) := hm.imp (fun q z => q (Or.inl z)) id
      obtain ⟨x1, x2, x3⟩ := a3 b hb hm j
      obtain ⟨y1, y2, y3⟩ := b3 b (by omega) (by rw [(a2 b hb).1]; exact hba) j
      obtain ⟨z1, z2, z3⟩ := c3 b (by omega) (by
        rw [(b2 b (by omega)).1, (a2 b hb).1]
        rcases hba with q | q
        · exact Or.inl (fun z => z.elim q (fun z => by omega))
        · exact Or.inr q) j
      exact ⟨z1.trans (y1.trans x1), z2.trans (y2.trans x2), z3.trans (y3.trans x3)⟩
