/-! THE COMPONENT: the lines of a block, blocks -/
set_option maxRecDepth 100000
theorem sq_1 (k : Nat) : (k + 1) * (k + 1) = k * k + 2 * k + 1 := by rw [Nat.add_mul, Nat.mul_add]; omega
theorem sq_le {a b : Nat} (h : a ≤ b) : a * a ≤ b * b := Nat.mul_le_mul h h
theorem ItmC.hl2 {κ : Nat → Option Nat} {M MR : Nat → Prop} {c s lo hi : Nat} {σ σ' : AH} {a : Nat} {it : Itm} (h : ItmC κ σ a it lo hi) (hk : Hok κ σ) (hF : HL κ M MR c s σ σ') (ho : Off M MR lo hi) {hi' : Nat} (hh : hi ≤ hi') : ItmC κ σ' a it lo hi' := by
  obtain ⟨h1, h2, h3, h4, h5⟩ := h.hl hk hF ho
  exact ⟨h1, by omega, h3.wd (Nat.le_refl _) hh, h4.wd (Nat.le_refl _) hh, h5⟩
theorem ls_body {κ : Nat → Option Nat} {Q : Ret AH} {rd o w nb : Nat} {l ws hds : List Nat} {σ0 σb : AH} {X : Cont AH} (hw : rd + 9 ≤ w) (hN0 : hN σ0 ≤ w) (hk0 : Hok κ σ0) (hnb : nb ≤ 40) (r1 : 5000 ≤ hC σ0) (r2 : 100000 ≤ hS σ0) (hr0 : rd + 9 ≤ hN σ0)
    (hX : ∀ L st σ, (o_il 3 <|
    o_if_ne (bX3_block_225 κ Q) <|
    o_al 0 <|
    o_cst κ 1 <|
    o_call 2 (hvc [(3, pX3_isWord κ)]) (fun _ a σ => Q (.inr a) σ) <|
    o_if_ne (bX3_block_147 κ Q X) <|
    o_al 0 <|
    o_cst κ 2 <|
    o_call 2 (hvc [(3, pX3_isWord κ)]) (fun _ a σ => Q (.inr a) σ) <|
    o_if_ne (bX3_block_147 κ Q X) <|
    o_al 0 <|
    o_cst κ 3 <|
    o_call 2 (hvc [(3, pX3_isWord κ)]) (fun _ a σ => Q (.inr a) σ) <|
    o_if_ne (bX3_block_147 κ Q X) <|
    o_al 0 <|
    o_cst κ 4 <|
    o_call 2 (hvc [(3, pX3_isWord κ)]) (fun _ a σ => Q (.inr a) σ) <|
    o_if_ne (bX3_block_147 κ Q X) <|
    o_al 0 <|
    o_call 1 (hvc [(3, pX3_nameHere κ)]) (fun _ a σ => Q (.inr a) σ) <|
    o_ic (-1) <|
    o_icmp_ne (bX3_block_147 κ Q X) <|
    o_al 0 <|
    o_ic 114 <|
    o_ic 1 <|
    o_call 3 (hvc [(3, pX3_numbered κ)]) (fun _ a σ => Q (.inr a) σ) <|
    o_ic (-1) <|
    o_icmp_eq (bX3_block_151 κ Q X) <|
    (bX3_block_147 κ Q X)) L st σ → X L st σ) :
    ∀ n (σ : AH) f ln nl as its, LRd κ σ rd o l nl f → CX κ σ rd ln ws hds → AL κ σ w as → ItsC κ σ as its (w + 1) (hN σ) →
    HL κ (M9 rd) NoM (20 * ln + 10 * nb) (ln * ln + 60 * ln + 422 * nl.length + 300 * nb) σ0 σ → HLx κ (MW rd w) NoM σb σ → as.length ≤ ln → ln ≤ 160 → nl.length ≤ 78 → 160 - ln < n →
    (∀ (σ' : AH) its' g as', body (tpF l) l.length n f ln = .ok (its', g) → LRd κ σ' rd o l (nl ++ its'.flatMap iT) g → CX κ σ' rd (ln + its'.length) ws hds → AL κ σ' w (as ++ as') → ItsC κ σ' (as ++ as') (its ++ its') (w + 1) (hN σ') → HL κ (M9 rd) NoM (20 * (ln + its'.length) + 10 * nb) ((ln + its'.length) * (ln + its'.length) + 60 * (ln + its'.length) + 422 * (nl ++ its'.flatMap iT).length + 300 * nb) σ0 σ' → HLx κ (MW rd w) NoM σb σ' → Q (.inl none) σ') →
    (∀ (σ' : AH) a e, body (tpF l) l.length n f ln = .error e → HL κ (M9 rd) NoM 5000 100000 σ0 σ' → FltC σ' a e → Q (.inr a) σ') →
    X [some (.ref rd), none, some (.ref w), some (.int 0), none, none] [] σ := by
  intro n
  induction n with
  | zero => intro σ f ln nl as its L C A I H0 Hb ha hln hnl hfu; omega
  | succ n ih =>
    intro σ f ln nl as its L C A I H0 Hb ha hln hnl hfu ok er
    have hsq := sq_le hln
    have rC := H0.C
    have rS := H0.S
    apply hX
    refine ls_begs L (fun hb => ?_) (fun hb => ?_)
    rotate_left
    · simp [bX3_block_151, bX3_block_152, o_ic, o_lc, o_null, o_il, o_ll, o_al, o_dup, o_pop, o_dup_x1, o_dup2, o_iadd, o_isub, o_imul, o_iand, o_ior, o_ixor, o_ishl, o_ishr, o_idiv, o_irem, o_ineg, o_ladd, o_lsub, o_lmul, o_land, o_lor, o_lxor, o_ldiv, o_lrem, o_lneg, o_lcmp, o_i2l, o_l2i, o_i2b, o_i2c, o_iushr, o_lshl, o_lshr, o_if_eq, o_if_ne, o_if_lt, o_if_ge, o_if_gt, o_if_le, o_icmp_eq, o_icmp_ne, o_icmp_lt, o_icmp_ge, o_icmp_gt, o_icmp_le, o_ifnull, o_ifnonnull, o_acmp_eq, o_acmp_ne, o_is, o_ls, o_as, o_iinc, o_kill, o_sw, o_ireturn, o_zreturn, o_nreturn, o_lreturn, o_areturn, o_return, o_athrow, o_call, entP, lg_sl, Value.category, st1, st2, List.set, List.getElem?_cons_zero, List.getElem?_cons_succ, List.foldl, popN, aft, o_gI, o_gR, o_pI, o_pN, o_pR, o_aI, o_aG, o_aR, o_len, o_aR8, o_sI, o_sB, o_sZ, o_sG, o_new, o_newA, o_cast, o_inst, o_cst, o_oi, o_sR, o_gIc, o_gSv, o_gSc, o_getc, o_dead, o_acopy, o_castA, o_castI, o_sR7, o_mna, o_mmax, o_mmin, o_mabs, hT_sI, hT_sR, hT_sG, hL_sI, hL_sR, hL_sG, hI_sI, hI_sR, hI_sG, hG_sI, hG_sR, hG_sG, hR_sI, hR_sR, hR_sG, hN_sI, hN_sR, hN_sG, hC_sI, hC_sR, hC_sG, hS_sI, hS_sR, hS_sG, hT_nw, hL_nw, hI_nw, hG_nw, hR_nw, hN_nw, hC_nw, hS_nw, hvc, hvi, dspI, vref, va_rf, L.rd3]
      refine ct_fault (n := 2) L.ok L.1.2.2.1 L.2 (by omega) (by omega) (fun σ' a k' f' e' => ?_)
      simp [o_ic, o_lc, o_null, o_il, o_ll, o_al, o_dup, o_pop, o_dup_x1, o_dup2, o_iadd, o_isub, o_imul, o_iand, o_ior, o_ixor, o_ishl, o_ishr, o_idiv, o_irem, o_ineg, o_ladd, o_lsub, o_lmul, o_land, o_lor, o_lxor, o_ldiv, o_lrem, o_lneg, o_lcmp, o_i2l, o_l2i, o_i2b, o_i2c, o_iushr, o_lshl, o_lshr, o_if_eq, o_if_ne, o_if_lt, o_if_ge, o_if_gt, o_if_le, o_icmp_eq, o_icmp_ne, o_icmp_lt, o_icmp_ge, o_icmp_gt, o_icmp_le, o_ifnull, o_ifnonnull, o_acmp_eq, o_acmp_ne, o_is, o_ls, o_as, o_iinc, o_kill, o_sw, o_ireturn, o_zreturn, o_nreturn, o_lreturn, o_areturn, o_return, o_athrow, o_call, entP, lg_sl, Value.category, st1, st2, List.set, List.getElem?_cons_zero, List.getElem?_cons_succ, List.foldl, popN, aft]
      exact er σ' a _ (by unfold body stmt; rw [if_pos hb]; rfl) ((H0.trans (HL.ofNo f' L.ok k')).up (by omega) (by omega)) e'
    · obtain ⟨a1, -, a3, -, -, -, -, a8, -⟩ := id C
      have bl : ln < 2147483648 := by omega
      simp [bX3_block_147, bX3_block_152, bX3_block_165, o_ic, o_lc, o_null, o_il, o_ll, o_al, o_dup, o_pop, o_dup_x1, o_dup2, o_iadd, o_isub, o_imul, o_iand, o_ior, o_ixor, o_ishl, o_ishr, o_idiv, o_irem, o_ineg, o_ladd, o_lsub, o_lmul, o_land, o_lor, o_lxor, o_ldiv, o_lrem, o_lneg, o_lcmp, o_i2l, o_l2i, o_i2b, o_i2c, o_iushr, o_lshl, o_lshr, o_if_eq, o_if_ne, o_if_lt, o_if_ge, o_if_gt, o_if_le, o_icmp_eq, o_icmp_ne, o_icmp_lt, o_icmp_ge, o_icmp_gt, o_icmp_le, o_ifnull, o_ifnonnull, o_acmp_eq, o_acmp_ne, o_is, o_ls, o_as, o_iinc, o_kill, o_sw, o_ireturn, o_zreturn, o_nreturn, o_lreturn, o_areturn, o_return, o_athrow, o_call, entP, lg_sl, Value.category, st1, st2, List.set, List.getElem?_cons_zero, List.getElem?_cons_succ, List.foldl, popN, aft, o_gI, o_gR, o_pI, o_pN, o_pR, o_aI, o_aG, o_aR, o_len, o_aR8, o_sI, o_sB, o_sZ, o_sG, o_new, o_newA, o_cast, o_inst, o_cst, o_oi, o_sR, o_gIc, o_gSv, o_gSc, o_getc, o_dead, o_acopy, o_castA, o_castI, o_sR7, o_mna, o_mmax, o_mmin, o_mabs, hT_sI, hT_sR, hT_sG, hL_sI, hL_sR, hL_sG, hI_sI, hI_sR, hI_sG, hG_sI, hG_sR, hG_sG, hR_sI, hR_sR, hR_sG, hN_sI, hN_sR, hN_sG, hC_sI, hC_sR, hC_sG, hS_sI, hS_sR, hS_sG, hT_nw, hL_nw, hI_nw, hG_nw, hR_nw, hN_nw, hC_nw, hS_nw, hvc, hvi, dspI, vref, va_rf, nn_eqL, nn_ltL, nn_leL, nn_Llt, nn_Lle, nn_lt, nn_le, nn_eq, nn_in, nn_clamp, nn_succ, nn_pos, nn_neg1, L.rd3, a1, a3, a8, bl]
      refine ⟨fun hne => ?_, fun heq => ?_⟩
      rotate_left
      · refine ct_fault (n := 3) L.ok L.1.2.2.1 L.2 (by omega) (by omega) (fun σ' a k' f' e' => ?_)
        simp [o_ic, o_lc, o_null, o_il, o_ll, o_al, o_dup, o_pop, o_dup_x1, o_dup2, o_iadd, o_isub, o_imul, o_iand, o_ior, o_ixor, o_ishl, o_ishr, o_idiv, o_irem, o_ineg, o_ladd, o_lsub, o_lmul, o_land, o_lor, o_lxor, o_ldiv, o_lrem, o_lneg, o_lcmp, o_i2l, o_l2i, o_i2b, o_i2c, o_iushr, o_lshl, o_lshr, o_if_eq, o_if_ne, o_if_lt, o_if_ge, o_if_gt, o_if_le, o_icmp_eq, o_icmp_ne, o_icmp_lt, o_icmp_ge, o_icmp_gt, o_icmp_le, o_ifnull, o_ifnonnull, o_acmp_eq, o_acmp_ne, o_is, o_ls, o_as, o_iinc, o_kill, o_sw, o_ireturn, o_zreturn, o_nreturn, o_lreturn, o_areturn, o_return, o_athrow, o_call, entP, lg_sl, Value.category, st1, st2, List.set, List.getElem?_cons_zero, List.getElem?_cons_succ, List.foldl, popN, aft]
        exact er σ' a _ (by unfold body stmt; rw [if_neg (by rw [hb]; decide), if_pos (by omega)]; rfl) ((H0.trans (HL.ofNo f' L.ok k')).up (by omega) (by omega)) e'
      · obtain ⟨L1, C1, F1⟩ := C.ln1 L
        simp [bX3_block_184, o_ic, o_lc, o_null, o_il, o_ll, o_al, o_dup, o_pop, o_dup_x1, o_dup2, o_iadd, o_isub, o_imul, o_iand, o_ior, o_ixor, o_ishl, o_ishr, o_idiv, o_irem, o_ineg, o_ladd, o_lsub, o_lmul, o_land, o_lor, o_lxor, o_ldiv, o_lrem, o_lneg, o_lcmp, o_i2l, o_l2i, o_i2b, o_i2c, o_iushr, o_lshl, o_lshr, o_if_eq, o_if_ne, o_if_lt, o_if_ge, o_if_gt, o_if_le, o_icmp_eq, o_icmp_ne, o_icmp_lt, o_icmp_ge, o_icmp_gt, o_icmp_le, o_ifnull, o_ifnonnull, o_acmp_eq, o_acmp_ne, o_is, o_ls, o_as, o_iinc, o_kill, o_sw, o_ireturn, o_zreturn, o_nreturn, o_lreturn, o_areturn, o_return, o_athrow, o_call, entP, lg_sl, Value.category, st1, st2, List.set, List.getElem?_cons_zero, List.getElem?_cons_succ, List.foldl, popN, aft, o_gI, o_gR, o_pI, o_pN, o_pR, o_aI, o_aG, o_aR, o_len, o_aR8, o_sI, o_sB, o_sZ, o_sG, o_new, o_newA, o_cast, o_inst, o_cst, o_oi, o_sR, o_gIc, o_gSv, o_gSc, o_getc, o_dead, o_acopy, o_castA, o_castI, o_sR7, o_mna, o_mmax, o_mmin, o_mabs, hT_sI, hT_sR, hT_sG, hL_sI, hL_sR, hL_sG, hI_sI, hI_sR, hI_sG, hG_sI, hG_sR, hG_sG, hR_sI, hR_sR, hR_sG, hN_sI, hN_sR, hN_sG, hC_sI, hC_sR, hC_sG, hS_sI, hS_sR, hS_sG, hT_nw, hL_nw, hI_nw, hG_nw, hR_nw, hN_nw, hC_nw, hS_nw, hvc, hvi, dspI, vref, va_rf, L.rd3, a1, a3, a8, nn_succ]
        have F1w : HL κ (MW rd w) NoM 0 0 σ (hsI σ (rd + 1) 4 (nn (ln + 1))) := F1.imp (fun b q => Or.inl (by have : b = rd + 1 := q; omega)) (fun _ q => q)
        have H1 : HL κ (M9 rd) NoM (20 * ln + 10 * nb) (ln * ln + 60 * ln + 422 * nl.length + 300 * nb) σ0 (hsI σ (rd + 1) 4 (nn (ln + 1))) := (H0.trans (F1.imp (fun b q => by have : b = rd + 1 := q; show rd ≤ b ∧ b < rd + 9; omega) (fun _ q => q))).up (by omega) (by omega)
        have hNw : w < hN σ := L.ok.1.lt (by rw [A.1]; decide)
        have e9 : hN (hsI σ (rd + 1) 4 (nn (ln + 1))) = hN σ := rfl
        refine ls_line (σ := hsI σ (rd + 1) 4 (nn (ln + 1))) L1 hb (by omega) (by have := H1.C; omega) (by have := H1.S; omega) (fun σ2 x it g2 e2 F2 L2 I2 => ?_) (fun σ2 a e he F2 E2 => ?_)
        rotate_left
        · simp [o_ic, o_lc, o_null, o_il, o_ll, o_al, o_dup, o_pop, o_dup_x1, o_dup2, o_iadd, o_isub, o_imul, o_iand, o_ior, o_ixor, o_ishl, o_ishr, o_idiv, o_irem, o_ineg, o_ladd, o_lsub, o_lmul, o_land, o_lor, o_lxor, o_ldiv, o_lrem, o_lneg, o_lcmp, o_i2l, o_l2i, o_i2b, o_i2c, o_iushr, o_lshl, o_lshr, o_if_eq, o_if_ne, o_if_lt, o_if_ge, o_if_gt, o_if_le, o_icmp_eq, o_icmp_ne, o_icmp_lt, o_icmp_ge, o_icmp_gt, o_icmp_le, o_ifnull, o_ifnonnull, o_acmp_eq, o_acmp_ne, o_is, o_ls, o_as, o_iinc, o_kill, o_sw, o_ireturn, o_zreturn, o_nreturn, o_lreturn, o_areturn, o_return, o_athrow, o_call, entP, lg_sl, Value.category, st1, st2, List.set, List.getElem?_cons_zero, List.getElem?_cons_succ, List.foldl, popN, aft]
          exact er σ2 a e (by unfold body stmt; rw [if_neg (by rw [hb]; decide), if_neg (by omega)]; simp only [bind, Except.bind]; rw [he]) ((H1.trans (F2.imp (fun b q => by show rd ≤ b ∧ b < rd + 9; rcases q with q | q | q <;> omega) (fun _ q => q))).up (by omega) (by omega)) E2
        have hok := line9_ok e2
        have hiT : (iT it).length ≤ 2 := by
          obtain ⟨-, -, -, -, -, -, -, -, q4, q5, q6, -⟩ := hok
          by_cases z4 : it.1 = 4
          · obtain ⟨t, e⟩ := q4 z4; rw [e]; simp
          · by_cases z5 : it.1 = 5
            · obtain ⟨t, u, e⟩ := q5 z5; rw [e]; simp
            · rw [q6 z4 z5]; simp
        have F2m : HL κ (M9 rd) NoM 16 (40 + 422 * (iT it).length) _ σ2 := F2.imp (fun b q => by show rd ≤ b ∧ b < rd + 9; rcases q with q | q | q <;> omega) (fun _ q => q)
        have F2w : HL κ (MW rd w) NoM 16 (40 + 422 * (iT it).length) _ σ2 := F2.imp (fun b q => Or.inl (by rcases q with q | q | q <;> omega)) (fun _ q => q)
        have C2 := C1.ls L1 F2
        have H2 := H1.trans F2m
        have A2 : AL κ σ2 w as := F2.al (F1.al A (by show ¬ w = rd + 1; omega)) (by intro q; rcases q with q | q | q <;> omega)
        have I1 : ItsC κ (hsI σ (rd + 1) 4 (nn (ln + 1))) as its (w + 1) (hN σ) := I.hl L.ok F1 (fun a h1 h2 => ⟨by show ¬ a = rd + 1; omega, id⟩)
        have I2' : ItsC κ σ2 as its (w + 1) (hN σ) := I1.hl L1.ok F2 (fun a h1 h2 => ⟨fun q => by rcases q with q | q | q <;> omega, id⟩)
        simp [o_ic, o_lc, o_null, o_il, o_ll, o_al, o_dup, o_pop, o_dup_x1, o_dup2, o_iadd, o_isub, o_imul, o_iand, o_ior, o_ixor, o_ishl, o_ishr, o_idiv, o_irem, o_ineg, o_ladd, o_lsub, o_lmul, o_land, o_lor, o_lxor, o_ldiv, o_lrem, o_lneg, o_lcmp, o_i2l, o_l2i, o_i2b, o_i2c, o_iushr, o_lshl, o_lshr, o_if_eq, o_if_ne, o_if_lt, o_if_ge, o_if_gt, o_if_le, o_icmp_eq, o_icmp_ne, o_icmp_lt, o_icmp_ge, o_icmp_gt, o_icmp_le, o_ifnull, o_ifnonnull, o_acmp_eq, o_acmp_ne, o_is, o_ls, o_as, o_iinc, o_kill, o_sw, o_ireturn, o_zreturn, o_nreturn, o_lreturn, o_areturn, o_return, o_athrow, o_call, entP, lg_sl, Value.category, st1, st2, List.set, List.getElem?_cons_zero, List.getElem?_cons_succ, List.foldl, popN, aft, o_gI, o_gR, o_pI, o_pN, o_pR, o_aI, o_aG, o_aR, o_len, o_aR8, o_sI, o_sB, o_sZ, o_sG, o_new, o_newA, o_cast, o_inst, o_cst, o_oi, o_sR, o_gIc, o_gSv, o_gSc, o_getc, o_dead, o_acopy, o_castA, o_castI, o_sR7, o_mna, o_mmax, o_mmin, o_mabs, hT_sI, hT_sR, hT_sG, hL_sI, hL_sR, hL_sG, hI_sI, hI_sR, hI_sG, hG_sI, hG_sR, hG_sG, hR_sI, hR_sR, hR_sG, hN_sI, hN_sR, hN_sG, hC_sI, hC_sR, hC_sG, hS_sI, hS_sR, hS_sG, hT_nw, hL_nw, hI_nw, hG_nw, hR_nw, hN_nw, hC_nw, hS_nw, hvc, hvi, dspI, vref, va_rf, L2.rd3]
        refine ls_sign (ch := 59) L2 (by omega) (by have := H2.C; omega) (by have := H2.S; omega) (fun σ3 g3 e3 F3 L3 => ?_) (fun σ3 a e he F3 E3 => ?_)
        rotate_left
        · simp [o_ic, o_lc, o_null, o_il, o_ll, o_al, o_dup, o_pop, o_dup_x1, o_dup2, o_iadd, o_isub, o_imul, o_iand, o_ior, o_ixor, o_ishl, o_ishr, o_idiv, o_irem, o_ineg, o_ladd, o_lsub, o_lmul, o_land, o_lor, o_lxor, o_ldiv, o_lrem, o_lneg, o_lcmp, o_i2l, o_l2i, o_i2b, o_i2c, o_iushr, o_lshl, o_lshr, o_if_eq, o_if_ne, o_if_lt, o_if_ge, o_if_gt, o_if_le, o_icmp_eq, o_icmp_ne, o_icmp_lt, o_icmp_ge, o_icmp_gt, o_icmp_le, o_ifnull, o_ifnonnull, o_acmp_eq, o_acmp_ne, o_is, o_ls, o_as, o_iinc, o_kill, o_sw, o_ireturn, o_zreturn, o_nreturn, o_lreturn, o_areturn, o_return, o_athrow, o_call, entP, lg_sl, Value.category, st1, st2, List.set, List.getElem?_cons_zero, List.getElem?_cons_succ, List.foldl, popN, aft]
          exact er σ3 a e (by unfold body stmt; rw [if_neg (by rw [hb]; decide), if_neg (by omega)]; simp only [bind, Except.bind]; rw [e2]; simp only; rw [he]) ((H2.trans (F3.imp (fun b q => by show rd ≤ b ∧ b < rd + 9; rcases q with q | q | q <;> omega) (fun _ q => q))).up (by omega) (by omega)) E3
        have F3m : HL κ (M9 rd) NoM 0 0 σ2 σ3 := F3.imp (fun b q => by show rd ≤ b ∧ b < rd + 9; rcases q with q | q | q <;> omega) (fun _ q => q)
        have F3w : HL κ (MW rd w) NoM 0 0 σ2 σ3 := F3.imp (fun b q => Or.inl (by rcases q with q | q | q <;> omega)) (fun _ q => q)
        have C3 := C2.ls L2 F3
        have H3 := H2.trans F3m
        have A3 : AL κ σ3 w as := F3.al A2 (by intro q; rcases q with q | q | q <;> omega)
        have I3 : ItsC κ σ3 as its (w + 1) (hN σ) := I2'.hl L2.ok F3 (fun a h1 h2 => ⟨fun q => by rcases q with q | q | q <;> omega, id⟩)
        have T2 : hT σ2 x = 7 + it.1 := I2.2.2.1.2.1
        have T3 : hT σ3 x = 7 + it.1 := F3.tg L2.ok T2 (by omega)
        have k6 := hok.1
        have J3 : ItmC κ σ3 x it (hN σ) (hN σ3) := I2.hl2 L2.ok F3 (fun a h1 h2 => ⟨fun q => by rw [e9] at h1; rcases q with q | q | q <;> omega, id⟩) F3.lt
        simp [o_ic, o_lc, o_null, o_il, o_ll, o_al, o_dup, o_pop, o_dup_x1, o_dup2, o_iadd, o_isub, o_imul, o_iand, o_ior, o_ixor, o_ishl, o_ishr, o_idiv, o_irem, o_ineg, o_ladd, o_lsub, o_lmul, o_land, o_lor, o_lxor, o_ldiv, o_lrem, o_lneg, o_lcmp, o_i2l, o_l2i, o_i2b, o_i2c, o_iushr, o_lshl, o_lshr, o_if_eq, o_if_ne, o_if_lt, o_if_ge, o_if_gt, o_if_le, o_icmp_eq, o_icmp_ne, o_icmp_lt, o_icmp_ge, o_icmp_gt, o_icmp_le, o_ifnull, o_ifnonnull, o_acmp_eq, o_acmp_ne, o_is, o_ls, o_as, o_iinc, o_kill, o_sw, o_ireturn, o_zreturn, o_nreturn, o_lreturn, o_areturn, o_return, o_athrow, o_call, entP, lg_sl, Value.category, st1, st2, List.set, List.getElem?_cons_zero, List.getElem?_cons_succ, List.foldl, popN, aft, o_gI, o_gR, o_pI, o_pN, o_pR, o_aI, o_aG, o_aR, o_len, o_aR8, o_sI, o_sB, o_sZ, o_sG, o_new, o_newA, o_cast, o_inst, o_cst, o_oi, o_sR, o_gIc, o_gSv, o_gSc, o_getc, o_dead, o_acopy, o_castA, o_castI, o_sR7, o_mna, o_mmax, o_mmin, o_mabs, hT_sI, hT_sR, hT_sG, hL_sI, hL_sR, hL_sG, hI_sI, hI_sR, hI_sG, hG_sI, hG_sR, hG_sG, hR_sI, hR_sR, hR_sG, hN_sI, hN_sR, hN_sG, hC_sI, hC_sR, hC_sG, hS_sI, hS_sR, hS_sG, hT_nw, hL_nw, hI_nw, hG_nw, hR_nw, hN_nw, hC_nw, hS_nw, hvc, hvi, dspI, vref, va_rf, A3.1]
        have hin : hT σ3 x ∈ objTs ++ [60] := by rw [T3]; simp [objTs]; omega
        refine cq_add L3.ok A3 hin (by omega) (by have := H3.C; omega) (by have := H3.S; omega) (fun σ4 k4 f4 A4 => ?_)
        have F4 := HL.ofAdd f4 L3.ok k4 A3
        obtain ⟨L4, C4⟩ := C3.row L3 hw A3.1 F4
        have F4w : HL κ (MW rd w) NoM 1 (10 + 2 * as.length) σ3 σ4 := F4.imp (fun b q => Or.inr q) (fun _ q => q)
        have H4 : HL κ (M9 rd) NoM (20 * (ln + 1) + 10 * nb) ((ln + 1) * (ln + 1) + 60 * (ln + 1) + 422 * (nl ++ iT it).length + 300 * nb) σ0 σ4 := (H3.after F4 hk0 (fun b q => Or.inr (by have : b = w := q; omega)) (fun _ q => q.elim)).up (by omega) (by simp only [List.length_append]; have := sq_1 ln; omega)
        have Hb4 := (((Hb.trans F1w).trans F2w).trans F3w).trans F4w
        have hle34 : hN σ3 ≤ hN σ4 := F4.lt
        have I4 : ItsC κ σ4 as its (w + 1) (hN σ) := I3.hl L3.ok F4 (fun a h1 h2 => ⟨by show ¬ a = w; omega, id⟩)
        have J4 : ItmC κ σ4 x it (hN σ) (hN σ4) := J3.hl2 L3.ok F4 (fun a h1 h2 => ⟨by show ¬ a = w; omega, id⟩) F4.lt
        have K4 := I4.snoc J4
        have T4 : hT σ4 x = 7 + it.1 := F4.tg L3.ok T3 (by omega)
        have es : stmt (tpF l) l.length f ln = .ok (it, g3) := by unfold stmt; rw [if_neg (by rw [hb]; decide), if_neg (by omega)]; simp only [bind, Except.bind]; rw [e2]; simp only; rw [e3]
        by_cases c4 : 4 ≤ it.1
        · have q1 : hT σ4 x = 11 ∨ hT σ4 x = 12 ∨ hT σ4 x = 13 := by omega
          simp [o_ic, o_lc, o_null, o_il, o_ll, o_al, o_dup, o_pop, o_dup_x1, o_dup2, o_iadd, o_isub, o_imul, o_iand, o_ior, o_ixor, o_ishl, o_ishr, o_idiv, o_irem, o_ineg, o_ladd, o_lsub, o_lmul, o_land, o_lor, o_lxor, o_ldiv, o_lrem, o_lneg, o_lcmp, o_i2l, o_l2i, o_i2b, o_i2c, o_iushr, o_lshl, o_lshr, o_if_eq, o_if_ne, o_if_lt, o_if_ge, o_if_gt, o_if_le, o_icmp_eq, o_icmp_ne, o_icmp_lt, o_icmp_ge, o_icmp_gt, o_icmp_le, o_ifnull, o_ifnonnull, o_acmp_eq, o_acmp_ne, o_is, o_ls, o_as, o_iinc, o_kill, o_sw, o_ireturn, o_zreturn, o_nreturn, o_lreturn, o_areturn, o_return, o_athrow, o_call, entP, lg_sl, Value.category, st1, st2, List.set, List.getElem?_cons_zero, List.getElem?_cons_succ, List.foldl, popN, aft, o_gI, o_gR, o_pI, o_pN, o_pR, o_aI, o_aG, o_aR, o_len, o_aR8, o_sI, o_sB, o_sZ, o_sG, o_new, o_newA, o_cast, o_inst, o_cst, o_oi, o_sR, o_gIc, o_gSv, o_gSc, o_getc, o_dead, o_acopy, o_castA, o_castI, o_sR7, o_mna, o_mmax, o_mmin, o_mabs, q1]
          left
          apply hX
          simp [bX3_block_225, o_ic, o_lc, o_null, o_il, o_ll, o_al, o_dup, o_pop, o_dup_x1, o_dup2, o_iadd, o_isub, o_imul, o_iand, o_ior, o_ixor, o_ishl, o_ishr, o_idiv, o_irem, o_ineg, o_ladd, o_lsub, o_lmul, o_land, o_lor, o_lxor, o_ldiv, o_lrem, o_lneg, o_lcmp, o_i2l, o_l2i, o_i2b, o_i2c, o_iushr, o_lshl, o_lshr, o_if_eq, o_if_ne, o_if_lt, o_if_ge, o_if_gt, o_if_le, o_icmp_eq, o_icmp_ne, o_icmp_lt, o_icmp_ge, o_icmp_gt, o_icmp_le, o_ifnull, o_ifnonnull, o_acmp_eq, o_acmp_ne, o_is, o_ls, o_as, o_iinc, o_kill, o_sw, o_ireturn, o_zreturn, o_nreturn, o_lreturn, o_areturn, o_return, o_athrow, o_call, entP, lg_sl, Value.category, st1, st2, List.set, List.getElem?_cons_zero, List.getElem?_cons_succ, List.foldl, popN, aft]
          refine ok σ4 [it] g3 [x] (by unfold body; simp only [bind, Except.bind]; rw [es]; simp only; rw [if_pos c4]) ?_ C4 A4 K4 ?_ Hb4
          · simpa using L4
          · simpa using H4
        · have q1 : hT σ4 x = 7 ∨ hT σ4 x = 8 ∨ hT σ4 x = 9 ∨ hT σ4 x = 10 ∨ hT σ4 x = 14 := by omega
          have hno : iT it = [] := hok.2.2.2.2.2.2.2.2.2.2.1 (by omega) (by omega)
          rw [hno] at L4 H4
          rw [List.append_nil] at L4 H4
          simp [o_ic, o_lc, o_null, o_il, o_ll, o_al, o_dup, o_pop, o_dup_x1, o_dup2, o_iadd, o_isub, o_imul, o_iand, o_ior, o_ixor, o_ishl, o_ishr, o_idiv, o_irem, o_ineg, o_ladd, o_lsub, o_lmul, o_land, o_lor, o_lxor, o_ldiv, o_lrem, o_lneg, o_lcmp, o_i2l, o_l2i, o_i2b, o_i2c, o_iushr, o_lshl, o_lshr, o_if_eq, o_if_ne, o_if_lt, o_if_ge, o_if_gt, o_if_le, o_icmp_eq, o_icmp_ne, o_icmp_lt, o_icmp_ge, o_icmp_gt, o_icmp_le, o_ifnull, o_ifnonnull, o_acmp_eq, o_acmp_ne, o_is, o_ls, o_as, o_iinc, o_kill, o_sw, o_ireturn, o_zreturn, o_nreturn, o_lreturn, o_areturn, o_return, o_athrow, o_call, entP, lg_sl, Value.category, st1, st2, List.set, List.getElem?_cons_zero, List.getElem?_cons_succ, List.foldl, popN, aft, o_gI, o_gR, o_pI, o_pN, o_pR, o_aI, o_aG, o_aR, o_len, o_aR8, o_sI, o_sB, o_sZ, o_sG, o_new, o_newA, o_cast, o_inst, o_cst, o_oi, o_sR, o_gIc, o_gSv, o_gSc, o_getc, o_dead, o_acopy, o_castA, o_castI, o_sR7, o_mna, o_mmax, o_mmin, o_mabs, q1]
          right
          refine ih σ4 g3 (ln + 1) nl (as ++ [x]) (its ++ [it]) L4 C4 A4 K4 H4 Hb4 (by simp; omega) (by omega) hnl (by omega) (fun σ' its' g as' eb L' C' A' I' H' Hb' => ?_) (fun σ' a e eb H' E' => ?_)
          · refine ok σ' (it :: its') g (x :: as') (by unfold body; simp only [bind, Except.bind]; rw [es]; simp only; rw [if_neg c4, eb]) ?_ ?_ ?_ ?_ ?_ Hb'
            · simpa [hno] using L'
            · simpa [Nat.add_assoc, Nat.add_comm 1] using C'
            · simpa using A'
            · simpa using I'
            · simpa [hno, Nat.add_assoc, Nat.add_comm 1] using H'
          · exact er σ' a e (by unfold body; simp only [bind, Except.bind]; rw [es]; simp only; rw [if_neg c4, eb]) H' E'
