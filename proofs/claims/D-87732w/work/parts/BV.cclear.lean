/-! THE COMPONENT: small numbers, and a list made empty -/
set_option maxRecDepth 100000
theorem cq_valueOf0 {κ : Nat → Option Nat} {Q : Ret AH} {σ : AH} {m : Nat} (hK : Kst κ σ) (c : m < 128) (k : ∀ x, hT σ x = 60 → hI σ x 0 = nn m → Q (.inl (some (.ref x))) σ) : pJ13_valueOf κ [.int (nn m)] σ Q := by
  obtain ⟨⟨c0, g1, g2, g3, g4⟩, -⟩ := hK
  have bm : m < 2147483648 := by omega
  have n1 : ¬ nn m < -128 := fun z => by
    rw [Int32.lt_iff_toInt_lt, nn_toInt bm] at z
    have : (-128 : Int32).toInt = -128 := rfl
    omega
  have n1' : (-128 : Int32) ≤ nn m := Int32.not_lt.1 n1
  have n2 : ¬ 127 < nn m := fun z => by have := (nn_lt (a := 127) (by omega) bm).1 z; omega
  have n2' : nn m ≤ 127 := Int32.not_lt.1 n2
  obtain ⟨y, y1, y2, y3⟩ := g4 (m + 128) (by omega)
  have b2 : m + 128 < 2147483648 := by omega
  have b3 : m + 128 < 256 := by omega
  simp [pJ13_valueOf, bJ13_valueOf_23, bJ13_valueOf_0, o_ic, o_lc, o_null, o_il, o_ll, o_al, o_dup, o_pop, o_dup_x1, o_dup2, o_iadd, o_isub, o_imul, o_iand, o_ior, o_ixor, o_ishl, o_ishr, o_idiv, o_irem, o_ineg, o_ladd, o_lsub, o_lmul, o_land, o_lor, o_lxor, o_ldiv, o_lrem, o_lneg, o_lcmp, o_i2l, o_l2i, o_i2b, o_i2c, o_iushr, o_lshl, o_lshr, o_if_eq, o_if_ne, o_if_lt, o_if_ge, o_if_gt, o_if_le, o_icmp_eq, o_icmp_ne, o_icmp_lt, o_icmp_ge, o_icmp_gt, o_icmp_le, o_ifnull, o_ifnonnull, o_acmp_eq, o_acmp_ne, o_is, o_ls, o_as, o_iinc, o_kill, o_sw, o_ireturn, o_zreturn, o_nreturn, o_lreturn, o_areturn, o_return, o_athrow, o_call, entP, lg_sl, Value.category, st1, st2, List.set, List.getElem?_cons_zero, List.getElem?_cons_succ, List.foldl, popN, aft, o_gI, o_gR, o_pI, o_pN, o_pR, o_aI, o_aG, o_aR, o_len, o_aR8, o_sI, o_sB, o_sZ, o_sG, o_new, o_newA, o_cast, o_inst, o_cst, o_oi, o_sR, o_gIc, o_gSv, o_gSc, o_getc, o_dead, o_acopy, o_castA, o_castI, o_sR7, o_mna, o_mmax, o_mmin, o_mabs, hT_sI, hT_sR, hT_sG, hL_sI, hL_sR, hL_sG, hI_sI, hI_sR, hI_sG, hG_sI, hG_sR, hG_sG, hR_sI, hR_sR, hR_sG, hN_sI, hN_sR, hN_sG, hC_sI, hC_sR, hC_sG, hS_sI, hS_sR, hS_sG, hT_nw, hL_nw, hI_nw, hG_nw, hR_nw, hN_nw, hC_nw, hS_nw, hvc, hvi, dspI, vref, va_rf, n1, n1', n2, n2', g1, g2, g3, nn_addR, nn_eqL, nn_ltL, nn_leL, nn_Llt, nn_Lle, nn_lt, nn_le, nn_eq, nn_in, nn_clamp, nn_succ, nn_pos, nn_neg1, b2, b3, y1]
  refine k y y2 ?_
  rw [y3, show (128 : Int32) = nn 128 from rfl, nn_sub (by omega)]; congr 1
theorem cq_clear {κ : Nat → Option Nat} {Q : Ret AH} {σ : AH} {a : Nat} {l : List Nat} (hk : Hok κ σ) (h : AL κ σ a l)
    (k : ∀ σ', Hok κ σ' → HF (fun b => b = a ∨ (hR σ a 1 = some b ∧ hT σ b = 104)) 0 0 σ σ' → AL κ σ' a [] → Q (.inl none) σ') : pJ2_clear κ [.ref a] σ Q := by
  obtain ⟨h1, h2, h3, d, h4, h5⟩ := id h
  simp [pJ2_clear, bJ2_clear_0, o_ic, o_lc, o_null, o_il, o_ll, o_al, o_dup, o_pop, o_dup_x1, o_dup2, o_iadd, o_isub, o_imul, o_iand, o_ior, o_ixor, o_ishl, o_ishr, o_idiv, o_irem, o_ineg, o_ladd, o_lsub, o_lmul, o_land, o_lor, o_lxor, o_ldiv, o_lrem, o_lneg, o_lcmp, o_i2l, o_l2i, o_i2b, o_i2c, o_iushr, o_lshl, o_lshr, o_if_eq, o_if_ne, o_if_lt, o_if_ge, o_if_gt, o_if_le, o_icmp_eq, o_icmp_ne, o_icmp_lt, o_icmp_ge, o_icmp_gt, o_icmp_le, o_ifnull, o_ifnonnull, o_acmp_eq, o_acmp_ne, o_is, o_ls, o_as, o_iinc, o_kill, o_sw, o_ireturn, o_zreturn, o_nreturn, o_lreturn, o_areturn, o_return, o_athrow, o_call, entP, lg_sl, Value.category, st1, st2, List.set, List.getElem?_cons_zero, List.getElem?_cons_succ, List.foldl, popN, aft, o_gI, o_gR, o_pI, o_pN, o_pR, o_aI, o_aG, o_aR, o_len, o_aR8, o_sI, o_sB, o_sZ, o_sG, o_new, o_newA, o_cast, o_inst, o_cst, o_oi, o_sR, o_gIc, o_gSv, o_gSc, o_getc, o_dead, o_acopy, o_castA, o_castI, o_sR7, o_mna, o_mmax, o_mmin, o_mabs, hT_sI, hT_sR, hT_sG, hL_sI, hL_sR, hL_sG, hI_sI, hI_sR, hI_sG, hG_sI, hG_sR, hG_sG, hR_sI, hR_sR, hR_sG, hN_sI, hN_sR, hN_sG, hC_sI, hC_sR, hC_sG, hS_sI, hS_sR, hS_sG, hT_nw, hL_nw, hI_nw, hG_nw, hR_nw, hN_nw, hC_nw, hS_nw, hvc, hvi, dspI, vref, va_rf, h1, h4, va_rf]
  have f1 := hk.1
  have ha : hT σ a ≠ 0 := by rw [h1]; decide
  have nk : ¬ KTg (hT σ a) := by rw [h1]; unfold KTg; omega
  have bl : l.length < 2147483648 := by have := h.len; omega
  rw [h2]
  generalize hI σ a 0 + 1 = v
  have F1 : HF (fun b => b = a ∨ (hR σ a 1 = some b ∧ hT σ b = 104)) 0 0 σ (hsI (hsI σ a 0 v) a 2 0) := ((HF.rfl9 (M := fun b => b = a ∨ (hR σ a 1 = some b ∧ hT σ b = 104))).sI f1 (Or.inl (Or.inl rfl)) nk).sI f1 (Or.inl (Or.inl rfl)) nk
  unfold bJ2_clear_27
  intro X hX
  have hda : ∀ q, hT σ d = 104 → d = a → q := fun q z z2 => by rw [z2, h1] at z; cases z
  have hind : ∀ m i σ', i + m = l.length → Hok κ σ' → HF (fun b => b = a ∨ (hR σ a 1 = some b ∧ hT σ b = 104)) 0 0 σ σ' → hT σ' = hT σ → hL σ' = hL σ → hI σ' a 2 = 0 → hR σ' a 1 = some d → ((l = [] ∧ κ 30 = some d) ∨ (hT σ d = 104 ∧ l.length ≤ hL σ d ∧ 10 ≤ hL σ d ∧ hL σ d ≤ 1000 ∧ ∀ j, hR σ' d j = if j < i then none else l[j]?)) → X [none, some (.ref d), some (.int (nn l.length)), some (.int (nn i))] [] σ' := by
    intro m
    induction m with
    | zero =>
      intro i σ' hi' k1 F eT eL e2 e4 e5
      have : i = l.length := by omega
      subst this
      apply hX
      simp [o_ic, o_lc, o_null, o_il, o_ll, o_al, o_dup, o_pop, o_dup_x1, o_dup2, o_iadd, o_isub, o_imul, o_iand, o_ior, o_ixor, o_ishl, o_ishr, o_idiv, o_irem, o_ineg, o_ladd, o_lsub, o_lmul, o_land, o_lor, o_lxor, o_ldiv, o_lrem, o_lneg, o_lcmp, o_i2l, o_l2i, o_i2b, o_i2c, o_iushr, o_lshl, o_lshr, o_if_eq, o_if_ne, o_if_lt, o_if_ge, o_if_gt, o_if_le, o_icmp_eq, o_icmp_ne, o_icmp_lt, o_icmp_ge, o_icmp_gt, o_icmp_le, o_ifnull, o_ifnonnull, o_acmp_eq, o_acmp_ne, o_is, o_ls, o_as, o_iinc, o_kill, o_sw, o_ireturn, o_zreturn, o_nreturn, o_lreturn, o_areturn, o_return, o_athrow, o_call, entP, lg_sl, Value.category, st1, st2, List.set, List.getElem?_cons_zero, List.getElem?_cons_succ, List.foldl, popN, aft, bJ2_clear_42]
      refine k σ' k1 F ⟨by rw [eT]; exact h1, e2, fun x hx => by simp at hx, d, e4, ?_⟩
      rcases e5 with ⟨z1, z2⟩ | ⟨z1, z2, z3, z4, z5⟩
      · exact Or.inl ⟨rfl, z2⟩
      · refine Or.inr ⟨by rw [eT]; exact z1, by simp, by rw [eL]; exact z3, by rw [eL]; exact z4, fun j => ?_⟩
        rw [z5 j]
        by_cases c : j < l.length
        · rw [if_pos c]; simp
        · rw [if_neg c, List.getElem?_eq_none (by omega)]; simp
    | succ m ih =>
      intro i σ' hi' k1 F eT eL e2 e4 e5
      have bi : i < 2147483648 := by omega
      have nle : ¬ nn l.length ≤ nn i := by
        rw [Int32.le_iff_toInt_le, nn_toInt bi, nn_toInt bl]; omega
      rcases e5 with ⟨z1, z2⟩ | ⟨z1, z2, z3, z4, z5⟩
      · rw [z1] at hi'; simp at hi'
      have td : hT σ' d = 104 := by rw [eT]; exact z1
      have ld : i < hL σ' d := by rw [eL]; omega
      apply hX
      simp [o_ic, o_lc, o_null, o_il, o_ll, o_al, o_dup, o_pop, o_dup_x1, o_dup2, o_iadd, o_isub, o_imul, o_iand, o_ior, o_ixor, o_ishl, o_ishr, o_idiv, o_irem, o_ineg, o_ladd, o_lsub, o_lmul, o_land, o_lor, o_lxor, o_ldiv, o_lrem, o_lneg, o_lcmp, o_i2l, o_l2i, o_i2b, o_i2c, o_iushr, o_lshl, o_lshr, o_if_eq, o_if_ne, o_if_lt, o_if_ge, o_if_gt, o_if_le, o_icmp_eq, o_icmp_ne, o_icmp_lt, o_icmp_ge, o_icmp_gt, o_icmp_le, o_ifnull, o_ifnonnull, o_acmp_eq, o_acmp_ne, o_is, o_ls, o_as, o_iinc, o_kill, o_sw, o_ireturn, o_zreturn, o_nreturn, o_lreturn, o_areturn, o_return, o_athrow, o_call, entP, lg_sl, Value.category, st1, st2, List.set, List.getElem?_cons_zero, List.getElem?_cons_succ, List.foldl, popN, aft, o_gI, o_gR, o_pI, o_pN, o_pR, o_aI, o_aG, o_aR, o_len, o_aR8, o_sI, o_sB, o_sZ, o_sG, o_new, o_newA, o_cast, o_inst, o_cst, o_oi, o_sR, o_gIc, o_gSv, o_gSc, o_getc, o_dead, o_acopy, o_castA, o_castI, o_sR7, o_mna, o_mmax, o_mmin, o_mabs, nle, td, nn_in bi, nn_clamp bi, ld]
      rw [nn_addR]
      refine ih (i + 1) _ (by omega) (k1.sR (by rw [td]; decide) (by rw [td]; decide)) (F.sR f1 (Or.inl (Or.inr ⟨h4, z1⟩)) (by rw [td]; unfold KTg; omega)) eT eL e2 ?_ (Or.inr ⟨z1, z2, z3, z4, fun j => ?_⟩)
      · rw [hR_sR, if_neg (fun z => hda False z1 z.1.symm)]; exact e4
      · rw [hR_sR]
        by_cases c : j = i
        · rw [if_pos ⟨rfl, c⟩, if_pos (by omega)]
        · rw [if_neg (fun z => c z.2), z5 j]
          by_cases c2 : j < i
          · rw [if_pos c2, if_pos (by omega)]
          · rw [if_neg c2, if_neg (by omega)]
  refine hind l.length 0 _ (by omega) ((hk.sI ha).sI ha) F1 rfl rfl (by rw [hI_sI, if_pos ⟨rfl, rfl⟩]) h4 ?_
  rcases h5 with z | ⟨z1, z2, z3, z4, z5⟩
  · exact Or.inl z
  · exact Or.inr ⟨z1, z2, z3, z4, fun j => by rw [if_neg (by omega)]; exact z5 j⟩
