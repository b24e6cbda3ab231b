/-! THE COMPONENT: check -/
set_option maxRecDepth 100000
section CK2
variable {κ : Nat → Option Nat} {Q : Ret AH} {σ σ' : AH}
/-- what check sees -/
def CkV (κ : Nat → Option Nat) (σ : AH) (rd : Nat) (R : Rt) (wss : List (Nat × List Nat)) : Prop := Hok κ σ ∧ hT σ rd = 3 ∧ hR σ rd 0 = some (rd + 1) ∧ EndV κ σ (rd + 1) R wss ∧ hR σ rd 5 = some (rd + 6) ∧ hR σ rd 6 = some (rd + 7) ∧ NmC κ σ (rd + 6) (rd + 7) (nmz R.1) ∧ hR σ rd 7 = some (rd + 8) ∧ ∃ xs, AL κ σ (rd + 8) xs ∧ xs.length = R.2.length ∧ ∀ b, b < R.2.length → ∃ x, xs[b]? = some x ∧ IntO σ x (nn (hdN R b))
theorem CkV.new {c s rd : Nat} {R : Rt} {wss : List (Nat × List Nat)} (h : CkV κ σ rd R wss) (hF : HL κ NoM NoM c s σ σ') : CkV κ σ' rd R wss := by
  obtain ⟨h1, h2, h3, h4, h5, h6, h7, h8, xs, h9, h10, h11⟩ := h
  refine ⟨hF.ok, hF.tg h1 h2 (by decide), (hF.ref h1 h2 (by decide) id 0).trans h3, h4.new h1 hF, (hF.ref h1 h2 (by decide) id 5).trans h5, (hF.ref h1 h2 (by decide) id 6).trans h6, h7.hl h1 hF id id (fun _ q => q.elim), (hF.ref h1 h2 (by decide) id 7).trans h8, xs, hF.al h9 id, h10, fun b hb => ?_⟩
  obtain ⟨x, e1, e2⟩ := h11 b hb
  exact ⟨x, e1, e2.hl h1 hF id⟩
/-- a fault is made and thrown -/
theorem ck_throw {c s : Nat} {L : Lc} {σ0 : AH} {x v q : Nat} (hk : Hok κ σ) (H : HL κ NoM NoM c s σ0 σ) (hx : IntO σ x (nn q)) (r1 : 1 ≤ hC σ) (r2 : 8 ≤ hS σ)
    (er : ∀ σ' a, HL κ NoM NoM (c + 1) (s + 8) σ0 σ' → FltC σ' a (v, q) → Q (.inr a) σ') :
    pX5_init κ [.ref (hN σ), .int (nn v), .int (nn q)] (hnw σ 5 0 8) (aft L [.ref (hN σ)] (fun _ a σ => Q (.inr a) σ) (o_athrow (fun _ a σ => Q (.inr a) σ))) := by
  have k1 : Hok κ (hnw σ 5 0 8) := hk.nw (by decide)
  have t1 : hT (hnw σ 5 0 8) (hN σ) = 5 := by rw [hT_nw, if_pos rfl]
  refine ct_newFault k1 t1 (fun σ2 o2 e6 e7 => ?_)
  simp [o_ic, o_lc, o_null, o_il, o_ll, o_al, o_dup, o_pop, o_dup_x1, o_dup2, o_iadd, o_isub, o_imul, o_iand, o_ior, o_ixor, o_ishl, o_ishr, o_idiv, o_irem, o_ineg, o_ladd, o_lsub, o_lmul, o_land, o_lor, o_lxor, o_ldiv, o_lrem, o_lneg, o_lcmp, o_i2l, o_l2i, o_i2b, o_i2c, o_iushr, o_lshl, o_lshr, o_if_eq, o_if_ne, o_if_lt, o_if_ge, o_if_gt, o_if_le, o_icmp_eq, o_icmp_ne, o_icmp_lt, o_icmp_ge, o_icmp_gt, o_icmp_le, o_ifnull, o_ifnonnull, o_acmp_eq, o_acmp_ne, o_is, o_ls, o_as, o_iinc, o_kill, o_sw, o_ireturn, o_zreturn, o_nreturn, o_lreturn, o_areturn, o_return, o_athrow, o_call, entP, lg_sl, Value.category, st1, st2, List.set, List.getElem?_cons_zero, List.getElem?_cons_succ, List.foldl, popN, aft]
  exact er σ2 (hN σ) (H.trans (HL.ofNo (OwC.new hk.1 o2) hk o2.1)) ⟨by rw [o2.2.2.1]; exact t1, e6, e7⟩
/-- first: names of blocks -/
theorem ck_names {rd : Nat} {R : Rt} {wss : List (Nat × List Nat)} (hV : CkV κ σ rd R wss) (hn : ∀ x ∈ nmz R.1, x.2 < 40) (hl : (nmz R.1).length ≤ 80) (r1 : 1 ≤ hC σ) (r2 : 8 ≤ hS σ)
    (ok : (nmz R.1).find? (fun x => x.2 == 0 || decide (R.2.length ≤ x.2)) = none → bX3_check_86 κ Q [some (.ref rd), some (.int (nn (nmz R.1).length)), none, none, none, none, none] [] σ)
    (er : ∀ σ' a x, (nmz R.1).find? (fun x => x.2 == 0 || decide (R.2.length ≤ x.2)) = some x → HL κ NoM NoM 1 8 σ σ' → FltC σ' a (4, x.1) → Q (.inr a) σ') : pX3_check κ [.ref rd] σ Q := by
  obtain ⟨h1, h2, h3, h4, h5, h6, ⟨xs, ys, n1, n2, n3, n4, n5⟩, -⟩ := id hV
  obtain ⟨bl, g1, g2, g3, g4, g5, -⟩ := id h4
  simp [pX3_check, bX3_check_0, o_ic, o_lc, o_null, o_il, o_ll, o_al, o_dup, o_pop, o_dup_x1, o_dup2, o_iadd, o_isub, o_imul, o_iand, o_ior, o_ixor, o_ishl, o_ishr, o_idiv, o_irem, o_ineg, o_ladd, o_lsub, o_lmul, o_land, o_lor, o_lxor, o_ldiv, o_lrem, o_lneg, o_lcmp, o_i2l, o_l2i, o_i2b, o_i2c, o_iushr, o_lshl, o_lshr, o_if_eq, o_if_ne, o_if_lt, o_if_ge, o_if_gt, o_if_le, o_icmp_eq, o_icmp_ne, o_icmp_lt, o_icmp_ge, o_icmp_gt, o_icmp_le, o_ifnull, o_ifnonnull, o_acmp_eq, o_acmp_ne, o_is, o_ls, o_as, o_iinc, o_kill, o_sw, o_ireturn, o_zreturn, o_nreturn, o_lreturn, o_areturn, o_return, o_athrow, o_call, entP, lg_sl, Value.category, st1, st2, List.set, List.getElem?_cons_zero, List.getElem?_cons_succ, List.foldl, popN, aft]
  unfold bX3_check_2
  intro X hX
  have main : ∀ m k, k + m = (nmz R.1).length → (nmz R.1).find? (fun x => x.2 == 0 || decide (R.2.length ≤ x.2)) = ((nmz R.1).drop k).find? (fun x => x.2 == 0 || decide (R.2.length ≤ x.2)) → X [some (.ref rd), some (.int (nn k)), none, none, none, none, none] [] σ := by
    intro m
    induction m with
    | zero =>
      intro k hk he
      apply hX
      have b1 : k < 2147483648 := by omega
      have b2 : xs.length < 2147483648 := by omega
      have le : xs.length ≤ k := by omega
      simp [o_ic, o_lc, o_null, o_il, o_ll, o_al, o_dup, o_pop, o_dup_x1, o_dup2, o_iadd, o_isub, o_imul, o_iand, o_ior, o_ixor, o_ishl, o_ishr, o_idiv, o_irem, o_ineg, o_ladd, o_lsub, o_lmul, o_land, o_lor, o_lxor, o_ldiv, o_lrem, o_lneg, o_lcmp, o_i2l, o_l2i, o_i2b, o_i2c, o_iushr, o_lshl, o_lshr, o_if_eq, o_if_ne, o_if_lt, o_if_ge, o_if_gt, o_if_le, o_icmp_eq, o_icmp_ne, o_icmp_lt, o_icmp_ge, o_icmp_gt, o_icmp_le, o_ifnull, o_ifnonnull, o_acmp_eq, o_acmp_ne, o_is, o_ls, o_as, o_iinc, o_kill, o_sw, o_ireturn, o_zreturn, o_nreturn, o_lreturn, o_areturn, o_return, o_athrow, o_call, entP, lg_sl, Value.category, st1, st2, List.set, List.getElem?_cons_zero, List.getElem?_cons_succ, List.foldl, popN, aft, o_gI, o_gR, o_pI, o_pN, o_pR, o_aI, o_aG, o_aR, o_len, o_aR8, o_sI, o_sB, o_sZ, o_sG, o_new, o_newA, o_cast, o_inst, o_cst, o_oi, o_sR, o_gIc, o_gSv, o_gSc, o_getc, o_dead, o_acopy, o_castA, o_castI, o_sR7, o_mna, o_mmax, o_mmin, o_mabs, h2, h5, va_rf]
      refine hv_size n1 ?_
      simp [o_ic, o_lc, o_null, o_il, o_ll, o_al, o_dup, o_pop, o_dup_x1, o_dup2, o_iadd, o_isub, o_imul, o_iand, o_ior, o_ixor, o_ishl, o_ishr, o_idiv, o_irem, o_ineg, o_ladd, o_lsub, o_lmul, o_land, o_lor, o_lxor, o_ldiv, o_lrem, o_lneg, o_lcmp, o_i2l, o_l2i, o_i2b, o_i2c, o_iushr, o_lshl, o_lshr, o_if_eq, o_if_ne, o_if_lt, o_if_ge, o_if_gt, o_if_le, o_icmp_eq, o_icmp_ne, o_icmp_lt, o_icmp_ge, o_icmp_gt, o_icmp_le, o_ifnull, o_ifnonnull, o_acmp_eq, o_acmp_ne, o_is, o_ls, o_as, o_iinc, o_kill, o_sw, o_ireturn, o_zreturn, o_nreturn, o_lreturn, o_areturn, o_return, o_athrow, o_call, entP, lg_sl, Value.category, st1, st2, List.set, List.getElem?_cons_zero, List.getElem?_cons_succ, List.foldl, popN, aft, o_gI, o_gR, o_pI, o_pN, o_pR, o_aI, o_aG, o_aR, o_len, o_aR8, o_sI, o_sB, o_sZ, o_sG, o_new, o_newA, o_cast, o_inst, o_cst, o_oi, o_sR, o_gIc, o_gSv, o_gSc, o_getc, o_dead, o_acopy, o_castA, o_castI, o_sR7, o_mna, o_mmax, o_mmin, o_mabs, nn_eqL, nn_ltL, nn_leL, nn_Llt, nn_Lle, nn_lt, nn_le, nn_eq, nn_in, nn_clamp, nn_succ, nn_pos, nn_neg1, b1, b2, le]
      rw [List.drop_of_length_le (by omega)] at he
      have e : k = (nmz R.1).length := by omega
      subst e
      exact ok he
    | succ m ih =>
      intro k hk he
      apply hX
      have hkl : k < (nmz R.1).length := by omega
      have b1 : k < 2147483648 := by omega
      have b2 : xs.length < 2147483648 := by omega
      have nle : ¬ xs.length ≤ k := by omega
      have hg : (nmz R.1)[k]? = some (nmz R.1)[k] := List.getElem?_eq_getElem hkl
      rw [List.drop_eq_getElem_cons hkl] at he
      have hm := hn _ (List.getElem_mem hkl)
      obtain ⟨x, y, e1, e2, e3, e4⟩ := n5 k _ hg
      generalize (nmz R.1)[k] = q at hg he hm e2 e4
      have bq : q.2 < 2147483648 := by omega
      have tx : hT σ x = 20 ∨ hT σ x = 60 := e2.1
      have ty : hT σ y = 20 ∨ hT σ y = 60 := e4.1
      have k1 : Hok κ (hnw σ 5 0 8) := h1.nw (by decide)
      have F1 : HL κ NoM NoM 1 8 σ (hnw σ 5 0 8) := ((HL.rfl9 (M := NoM) (MR := NoM) h1).nw k1).up (by omega) (by omega)
      have bad : (q.2 == 0 || decide (R.2.length ≤ q.2)) = true → bX3_check_57 κ Q [some (.ref rd), some (.int (nn k)), none, none, none, none, none] [] σ := by
        intro hb
        rw [List.find?_cons_of_pos (p := fun x : Nat × Nat => x.2 == 0 || decide (R.2.length ≤ x.2)) hb] at he
        have t2 : hT (hnw σ 5 0 8) rd = 3 := F1.tg h1 h2 (by decide)
        have r6 : hR (hnw σ 5 0 8) rd 6 = some (rd + 7) := h6
        have A2 : AL κ (hnw σ 5 0 8) (rd + 7) ys := F1.al n2 id
        have I2 : IntO (hnw σ 5 0 8) y (nn q.1) := e4.hl h1 F1 id
        have ty2 : hT (hnw σ 5 0 8) y = 20 ∨ hT (hnw σ 5 0 8) y = 60 := I2.1
        simp [bX3_check_57, o_ic, o_lc, o_null, o_il, o_ll, o_al, o_dup, o_pop, o_dup_x1, o_dup2, o_iadd, o_isub, o_imul, o_iand, o_ior, o_ixor, o_ishl, o_ishr, o_idiv, o_irem, o_ineg, o_ladd, o_lsub, o_lmul, o_land, o_lor, o_lxor, o_ldiv, o_lrem, o_lneg, o_lcmp, o_i2l, o_l2i, o_i2b, o_i2c, o_iushr, o_lshl, o_lshr, o_if_eq, o_if_ne, o_if_lt, o_if_ge, o_if_gt, o_if_le, o_icmp_eq, o_icmp_ne, o_icmp_lt, o_icmp_ge, o_icmp_gt, o_icmp_le, o_ifnull, o_ifnonnull, o_acmp_eq, o_acmp_ne, o_is, o_ls, o_as, o_iinc, o_kill, o_sw, o_ireturn, o_zreturn, o_nreturn, o_lreturn, o_areturn, o_return, o_athrow, o_call, entP, lg_sl, Value.category, st1, st2, List.set, List.getElem?_cons_zero, List.getElem?_cons_succ, List.foldl, popN, aft, o_gI, o_gR, o_pI, o_pN, o_pR, o_aI, o_aG, o_aR, o_len, o_aR8, o_sI, o_sB, o_sZ, o_sG, o_new, o_newA, o_cast, o_inst, o_cst, o_oi, o_sR, o_gIc, o_gSv, o_gSc, o_getc, o_dead, o_acopy, o_castA, o_castI, o_sR7, o_mna, o_mmax, o_mmin, o_mabs, r1, r2, t2, r6, va_rf]
        refine hv_get A2 e3 ?_
        simp [o_ic, o_lc, o_null, o_il, o_ll, o_al, o_dup, o_pop, o_dup_x1, o_dup2, o_iadd, o_isub, o_imul, o_iand, o_ior, o_ixor, o_ishl, o_ishr, o_idiv, o_irem, o_ineg, o_ladd, o_lsub, o_lmul, o_land, o_lor, o_lxor, o_ldiv, o_lrem, o_lneg, o_lcmp, o_i2l, o_l2i, o_i2b, o_i2c, o_iushr, o_lshl, o_lshr, o_if_eq, o_if_ne, o_if_lt, o_if_ge, o_if_gt, o_if_le, o_icmp_eq, o_icmp_ne, o_icmp_lt, o_icmp_ge, o_icmp_gt, o_icmp_le, o_ifnull, o_ifnonnull, o_acmp_eq, o_acmp_ne, o_is, o_ls, o_as, o_iinc, o_kill, o_sw, o_ireturn, o_zreturn, o_nreturn, o_lreturn, o_areturn, o_return, o_athrow, o_call, entP, lg_sl, Value.category, st1, st2, List.set, List.getElem?_cons_zero, List.getElem?_cons_succ, List.foldl, popN, aft, o_gI, o_gR, o_pI, o_pN, o_pR, o_aI, o_aG, o_aR, o_len, o_aR8, o_sI, o_sB, o_sZ, o_sG, o_new, o_newA, o_cast, o_inst, o_cst, o_oi, o_sR, o_gIc, o_gSv, o_gSc, o_getc, o_dead, o_acopy, o_castA, o_castI, o_sR7, o_mna, o_mmax, o_mmin, o_mabs, ty2]
        refine hv_int I2 ?_
        simp [o_ic, o_lc, o_null, o_il, o_ll, o_al, o_dup, o_pop, o_dup_x1, o_dup2, o_iadd, o_isub, o_imul, o_iand, o_ior, o_ixor, o_ishl, o_ishr, o_idiv, o_irem, o_ineg, o_ladd, o_lsub, o_lmul, o_land, o_lor, o_lxor, o_ldiv, o_lrem, o_lneg, o_lcmp, o_i2l, o_l2i, o_i2b, o_i2c, o_iushr, o_lshl, o_lshr, o_if_eq, o_if_ne, o_if_lt, o_if_ge, o_if_gt, o_if_le, o_icmp_eq, o_icmp_ne, o_icmp_lt, o_icmp_ge, o_icmp_gt, o_icmp_le, o_ifnull, o_ifnonnull, o_acmp_eq, o_acmp_ne, o_is, o_ls, o_as, o_iinc, o_kill, o_sw, o_ireturn, o_zreturn, o_nreturn, o_lreturn, o_areturn, o_return, o_athrow, o_call, entP, lg_sl, Value.category, st1, st2, List.set, List.getElem?_cons_zero, List.getElem?_cons_succ, List.foldl, popN, aft, o_gI, o_gR, o_pI, o_pN, o_pR, o_aI, o_aG, o_aR, o_len, o_aR8, o_sI, o_sB, o_sZ, o_sG, o_new, o_newA, o_cast, o_inst, o_cst, o_oi, o_sR, o_gIc, o_gSv, o_gSc, o_getc, o_dead, o_acopy, o_castA, o_castI, o_sR7, o_mna, o_mmax, o_mmin, o_mabs, hvi]
        refine ck_throw (v := 4) h1 (HL.rfl9 h1) e4 r1 r2 (fun σ' a F E => ?_)
        exact er σ' a q he (F.up (by omega) (by omega)) E
      simp [o_ic, o_lc, o_null, o_il, o_ll, o_al, o_dup, o_pop, o_dup_x1, o_dup2, o_iadd, o_isub, o_imul, o_iand, o_ior, o_ixor, o_ishl, o_ishr, o_idiv, o_irem, o_ineg, o_ladd, o_lsub, o_lmul, o_land, o_lor, o_lxor, o_ldiv, o_lrem, o_lneg, o_lcmp, o_i2l, o_l2i, o_i2b, o_i2c, o_iushr, o_lshl, o_lshr, o_if_eq, o_if_ne, o_if_lt, o_if_ge, o_if_gt, o_if_le, o_icmp_eq, o_icmp_ne, o_icmp_lt, o_icmp_ge, o_icmp_gt, o_icmp_le, o_ifnull, o_ifnonnull, o_acmp_eq, o_acmp_ne, o_is, o_ls, o_as, o_iinc, o_kill, o_sw, o_ireturn, o_zreturn, o_nreturn, o_lreturn, o_areturn, o_return, o_athrow, o_call, entP, lg_sl, Value.category, st1, st2, List.set, List.getElem?_cons_zero, List.getElem?_cons_succ, List.foldl, popN, aft, o_gI, o_gR, o_pI, o_pN, o_pR, o_aI, o_aG, o_aR, o_len, o_aR8, o_sI, o_sB, o_sZ, o_sG, o_new, o_newA, o_cast, o_inst, o_cst, o_oi, o_sR, o_gIc, o_gSv, o_gSc, o_getc, o_dead, o_acopy, o_castA, o_castI, o_sR7, o_mna, o_mmax, o_mmin, o_mabs, h2, h5, va_rf]
      refine hv_size n1 ?_
      simp [o_ic, o_lc, o_null, o_il, o_ll, o_al, o_dup, o_pop, o_dup_x1, o_dup2, o_iadd, o_isub, o_imul, o_iand, o_ior, o_ixor, o_ishl, o_ishr, o_idiv, o_irem, o_ineg, o_ladd, o_lsub, o_lmul, o_land, o_lor, o_lxor, o_ldiv, o_lrem, o_lneg, o_lcmp, o_i2l, o_l2i, o_i2b, o_i2c, o_iushr, o_lshl, o_lshr, o_if_eq, o_if_ne, o_if_lt, o_if_ge, o_if_gt, o_if_le, o_icmp_eq, o_icmp_ne, o_icmp_lt, o_icmp_ge, o_icmp_gt, o_icmp_le, o_ifnull, o_ifnonnull, o_acmp_eq, o_acmp_ne, o_is, o_ls, o_as, o_iinc, o_kill, o_sw, o_ireturn, o_zreturn, o_nreturn, o_lreturn, o_areturn, o_return, o_athrow, o_call, entP, lg_sl, Value.category, st1, st2, List.set, List.getElem?_cons_zero, List.getElem?_cons_succ, List.foldl, popN, aft, o_gI, o_gR, o_pI, o_pN, o_pR, o_aI, o_aG, o_aR, o_len, o_aR8, o_sI, o_sB, o_sZ, o_sG, o_new, o_newA, o_cast, o_inst, o_cst, o_oi, o_sR, o_gIc, o_gSv, o_gSc, o_getc, o_dead, o_acopy, o_castA, o_castI, o_sR7, o_mna, o_mmax, o_mmin, o_mabs, nn_eqL, nn_ltL, nn_leL, nn_Llt, nn_Lle, nn_lt, nn_le, nn_eq, nn_in, nn_clamp, nn_succ, nn_pos, nn_neg1, b1, b2, nle, h2, h5, va_rf]
      refine hv_get n1 e1 ?_
      simp [o_ic, o_lc, o_null, o_il, o_ll, o_al, o_dup, o_pop, o_dup_x1, o_dup2, o_iadd, o_isub, o_imul, o_iand, o_ior, o_ixor, o_ishl, o_ishr, o_idiv, o_irem, o_ineg, o_ladd, o_lsub, o_lmul, o_land, o_lor, o_lxor, o_ldiv, o_lrem, o_lneg, o_lcmp, o_i2l, o_l2i, o_i2b, o_i2c, o_iushr, o_lshl, o_lshr, o_if_eq, o_if_ne, o_if_lt, o_if_ge, o_if_gt, o_if_le, o_icmp_eq, o_icmp_ne, o_icmp_lt, o_icmp_ge, o_icmp_gt, o_icmp_le, o_ifnull, o_ifnonnull, o_acmp_eq, o_acmp_ne, o_is, o_ls, o_as, o_iinc, o_kill, o_sw, o_ireturn, o_zreturn, o_nreturn, o_lreturn, o_areturn, o_return, o_athrow, o_call, entP, lg_sl, Value.category, st1, st2, List.set, List.getElem?_cons_zero, List.getElem?_cons_succ, List.foldl, popN, aft, o_gI, o_gR, o_pI, o_pN, o_pR, o_aI, o_aG, o_aR, o_len, o_aR8, o_sI, o_sB, o_sZ, o_sG, o_new, o_newA, o_cast, o_inst, o_cst, o_oi, o_sR, o_gIc, o_gSv, o_gSc, o_getc, o_dead, o_acopy, o_castA, o_castI, o_sR7, o_mna, o_mmax, o_mmin, o_mabs, tx]
      refine hv_int e2 ?_
      simp [o_ic, o_lc, o_null, o_il, o_ll, o_al, o_dup, o_pop, o_dup_x1, o_dup2, o_iadd, o_isub, o_imul, o_iand, o_ior, o_ixor, o_ishl, o_ishr, o_idiv, o_irem, o_ineg, o_ladd, o_lsub, o_lmul, o_land, o_lor, o_lxor, o_ldiv, o_lrem, o_lneg, o_lcmp, o_i2l, o_l2i, o_i2b, o_i2c, o_iushr, o_lshl, o_lshr, o_if_eq, o_if_ne, o_if_lt, o_if_ge, o_if_gt, o_if_le, o_icmp_eq, o_icmp_ne, o_icmp_lt, o_icmp_ge, o_icmp_gt, o_icmp_le, o_ifnull, o_ifnonnull, o_acmp_eq, o_acmp_ne, o_is, o_ls, o_as, o_iinc, o_kill, o_sw, o_ireturn, o_zreturn, o_nreturn, o_lreturn, o_areturn, o_return, o_athrow, o_call, entP, lg_sl, Value.category, st1, st2, List.set, List.getElem?_cons_zero, List.getElem?_cons_succ, List.foldl, popN, aft, o_gI, o_gR, o_pI, o_pN, o_pR, o_aI, o_aG, o_aR, o_len, o_aR8, o_sI, o_sB, o_sZ, o_sG, o_new, o_newA, o_cast, o_inst, o_cst, o_oi, o_sR, o_gIc, o_gSv, o_gSc, o_getc, o_dead, o_acopy, o_castA, o_castI, o_sR7, o_mna, o_mmax, o_mmin, o_mabs, nn_eqL, nn_ltL, nn_leL, nn_Llt, nn_Lle, nn_lt, nn_le, nn_eq, nn_in, nn_clamp, nn_succ, nn_pos, nn_neg1, bq, h2, h5, va_rf]
      refine ⟨fun z => bad (by simp [z]), fun z => ?_⟩
      refine hv_get n1 e1 ?_
      simp [o_ic, o_lc, o_null, o_il, o_ll, o_al, o_dup, o_pop, o_dup_x1, o_dup2, o_iadd, o_isub, o_imul, o_iand, o_ior, o_ixor, o_ishl, o_ishr, o_idiv, o_irem, o_ineg, o_ladd, o_lsub, o_lmul, o_land, o_lor, o_lxor, o_ldiv, o_lrem, o_lneg, o_lcmp, o_i2l, o_l2i, o_i2b, o_i2c, o_iushr, o_lshl, o_lshr, o_if_eq, o_if_ne, o_if_lt, o_if_ge, o_if_gt, o_if_le, o_icmp_eq, o_icmp_ne, o_icmp_lt, o_icmp_ge, o_icmp_gt, o_icmp_le, o_ifnull, o_ifnonnull, o_acmp_eq, o_acmp_ne, o_is, o_ls, o_as, o_iinc, o_kill, o_sw, o_ireturn, o_zreturn, o_nreturn, o_lreturn, o_areturn, o_return, o_athrow, o_call, entP, lg_sl, Value.category, st1, st2, List.set, List.getElem?_cons_zero, List.getElem?_cons_succ, List.foldl, popN, aft, o_gI, o_gR, o_pI, o_pN, o_pR, o_aI, o_aG, o_aR, o_len, o_aR8, o_sI, o_sB, o_sZ, o_sG, o_new, o_newA, o_cast, o_inst, o_cst, o_oi, o_sR, o_gIc, o_gSv, o_gSc, o_getc, o_dead, o_acopy, o_castA, o_castI, o_sR7, o_mna, o_mmax, o_mmin, o_mabs, tx]
      refine hv_int e2 ?_
      simp [o_ic, o_lc, o_null, o_il, o_ll, o_al, o_dup, o_pop, o_dup_x1, o_dup2, o_iadd, o_isub, o_imul, o_iand, o_ior, o_ixor, o_ishl, o_ishr, o_idiv, o_irem, o_ineg, o_ladd, o_lsub, o_lmul, o_land, o_lor, o_lxor, o_ldiv, o_lrem, o_lneg, o_lcmp, o_i2l, o_l2i, o_i2b, o_i2c, o_iushr, o_lshl, o_lshr, o_if_eq, o_if_ne, o_if_lt, o_if_ge, o_if_gt, o_if_le, o_icmp_eq, o_icmp_ne, o_icmp_lt, o_icmp_ge, o_icmp_gt, o_icmp_le, o_ifnull, o_ifnonnull, o_acmp_eq, o_acmp_ne, o_is, o_ls, o_as, o_iinc, o_kill, o_sw, o_ireturn, o_zreturn, o_nreturn, o_lreturn, o_areturn, o_return, o_athrow, o_call, entP, lg_sl, Value.category, st1, st2, List.set, List.getElem?_cons_zero, List.getElem?_cons_succ, List.foldl, popN, aft, o_gI, o_gR, o_pI, o_pN, o_pR, o_aI, o_aG, o_aR, o_len, o_aR8, o_sI, o_sB, o_sZ, o_sG, o_new, o_newA, o_cast, o_inst, o_cst, o_oi, o_sR, o_gIc, o_gSv, o_gSc, o_getc, o_dead, o_acopy, o_castA, o_castI, o_sR7, o_mna, o_mmax, o_mmin, o_mabs, nn_eqL, nn_ltL, nn_leL, nn_Llt, nn_Lle, nn_lt, nn_le, nn_eq, nn_in, nn_clamp, nn_succ, nn_pos, nn_neg1, bq, h2, h3, g1, g2, va_rf]
      refine hv_size g3 ?_
      have b3 : wss.length < 2147483648 := by omega
      simp [o_ic, o_lc, o_null, o_il, o_ll, o_al, o_dup, o_pop, o_dup_x1, o_dup2, o_iadd, o_isub, o_imul, o_iand, o_ior, o_ixor, o_ishl, o_ishr, o_idiv, o_irem, o_ineg, o_ladd, o_lsub, o_lmul, o_land, o_lor, o_lxor, o_ldiv, o_lrem, o_lneg, o_lcmp, o_i2l, o_l2i, o_i2b, o_i2c, o_iushr, o_lshl, o_lshr, o_if_eq, o_if_ne, o_if_lt, o_if_ge, o_if_gt, o_if_le, o_icmp_eq, o_icmp_ne, o_icmp_lt, o_icmp_ge, o_icmp_gt, o_icmp_le, o_ifnull, o_ifnonnull, o_acmp_eq, o_acmp_ne, o_is, o_ls, o_as, o_iinc, o_kill, o_sw, o_ireturn, o_zreturn, o_nreturn, o_lreturn, o_areturn, o_return, o_athrow, o_call, entP, lg_sl, Value.category, st1, st2, List.set, List.getElem?_cons_zero, List.getElem?_cons_succ, List.foldl, popN, aft, o_gI, o_gR, o_pI, o_pN, o_pR, o_aI, o_aG, o_aR, o_len, o_aR8, o_sI, o_sB, o_sZ, o_sG, o_new, o_newA, o_cast, o_inst, o_cst, o_oi, o_sR, o_gIc, o_gSv, o_gSc, o_getc, o_dead, o_acopy, o_castA, o_castI, o_sR7, o_mna, o_mmax, o_mmin, o_mabs, nn_eqL, nn_ltL, nn_leL, nn_Llt, nn_Lle, nn_lt, nn_le, nn_eq, nn_in, nn_clamp, nn_succ, nn_pos, nn_neg1, bq, b3]
      refine ⟨fun y => ?_, fun y => bad (by simp; right; omega)⟩
      simp [bX3_check_80, o_ic, o_lc, o_null, o_il, o_ll, o_al, o_dup, o_pop, o_dup_x1, o_dup2, o_iadd, o_isub, o_imul, o_iand, o_ior, o_ixor, o_ishl, o_ishr, o_idiv, o_irem, o_ineg, o_ladd, o_lsub, o_lmul, o_land, o_lor, o_lxor, o_ldiv, o_lrem, o_lneg, o_lcmp, o_i2l, o_l2i, o_i2b, o_i2c, o_iushr, o_lshl, o_lshr, o_if_eq, o_if_ne, o_if_lt, o_if_ge, o_if_gt, o_if_le, o_icmp_eq, o_icmp_ne, o_icmp_lt, o_icmp_ge, o_icmp_gt, o_icmp_le, o_ifnull, o_ifnonnull, o_acmp_eq, o_acmp_ne, o_is, o_ls, o_as, o_iinc, o_kill, o_sw, o_ireturn, o_zreturn, o_nreturn, o_lreturn, o_areturn, o_return, o_athrow, o_call, entP, lg_sl, Value.category, st1, st2, List.set, List.getElem?_cons_zero, List.getElem?_cons_succ, List.foldl, popN, aft, nn_succ]
      refine ih (k + 1) (by omega) ?_
      rw [he, List.find?_cons_of_neg]
      simp
      exact ⟨z, by omega⟩
  exact main (nmz R.1).length 0 (by omega) (by simp)
/-- last: heads of blocks that are not so -/
theorem ck_heads6 {rd V c s : Nat} {R : Rt} {wss : List (Nat × List Nat)} {σ0 : AH} {v : Nat → Bool} (hV : CkV κ σ rd R wss) (H : HL κ NoM NoM c s σ0 σ) (hB : BA σ V v) (r1 : 1 ≤ hC σ) (r2 : 8 ≤ hS σ)
    (ok : (List.range R.2.length).find? (fun b => !v b) = none → Q (.inl none) σ)
    (er : ∀ σ' a b, (List.range R.2.length).find? (fun b => !v b) = some b → HL κ NoM NoM (c + 1) (s + 8) σ0 σ' → FltC σ' a (6, hdN R b) → Q (.inr a) σ') :
    bX3_check_273 κ Q [some (.ref rd), none, some (.ref V), some (.int 0), none, none, none] [] σ := by
  obtain ⟨h1, h2, h3, h4, h5, h6, -, h8, xs, h9, h10, h11⟩ := id hV
  obtain ⟨bl, g1, g2, g3, g4, g5, -⟩ := id h4
  unfold bX3_check_273
  intro X hX
  have main : ∀ m k, k + m = R.2.length → (List.range R.2.length).find? (fun b => !v b) = (List.range' k m).find? (fun b => !v b) → X [some (.ref rd), none, some (.ref V), some (.int (nn k)), none, none, none] [] σ := by
    intro m
    induction m with
    | zero =>
      intro k hk he
      apply hX
      have b1 : k < 2147483648 := by omega
      have b2 : wss.length < 2147483648 := by omega
      have le : wss.length ≤ k := by omega
      simp [o_ic, o_lc, o_null, o_il, o_ll, o_al, o_dup, o_pop, o_dup_x1, o_dup2, o_iadd, o_isub, o_imul, o_iand, o_ior, o_ixor, o_ishl, o_ishr, o_idiv, o_irem, o_ineg, o_ladd, o_lsub, o_lmul, o_land, o_lor, o_lxor, o_ldiv, o_lrem, o_lneg, o_lcmp, o_i2l, o_l2i, o_i2b, o_i2c, o_iushr, o_lshl, o_lshr, o_if_eq, o_if_ne, o_if_lt, o_if_ge, o_if_gt, o_if_le, o_icmp_eq, o_icmp_ne, o_icmp_lt, o_icmp_ge, o_icmp_gt, o_icmp_le, o_ifnull, o_ifnonnull, o_acmp_eq, o_acmp_ne, o_is, o_ls, o_as, o_iinc, o_kill, o_sw, o_ireturn, o_zreturn, o_nreturn, o_lreturn, o_areturn, o_return, o_athrow, o_call, entP, lg_sl, Value.category, st1, st2, List.set, List.getElem?_cons_zero, List.getElem?_cons_succ, List.foldl, popN, aft, o_gI, o_gR, o_pI, o_pN, o_pR, o_aI, o_aG, o_aR, o_len, o_aR8, o_sI, o_sB, o_sZ, o_sG, o_new, o_newA, o_cast, o_inst, o_cst, o_oi, o_sR, o_gIc, o_gSv, o_gSc, o_getc, o_dead, o_acopy, o_castA, o_castI, o_sR7, o_mna, o_mmax, o_mmin, o_mabs, h2, h3, g1, g2, va_rf]
      refine hv_size g3 ?_
      simp [o_ic, o_lc, o_null, o_il, o_ll, o_al, o_dup, o_pop, o_dup_x1, o_dup2, o_iadd, o_isub, o_imul, o_iand, o_ior, o_ixor, o_ishl, o_ishr, o_idiv, o_irem, o_ineg, o_ladd, o_lsub, o_lmul, o_land, o_lor, o_lxor, o_ldiv, o_lrem, o_lneg, o_lcmp, o_i2l, o_l2i, o_i2b, o_i2c, o_iushr, o_lshl, o_lshr, o_if_eq, o_if_ne, o_if_lt, o_if_ge, o_if_gt, o_if_le, o_icmp_eq, o_icmp_ne, o_icmp_lt, o_icmp_ge, o_icmp_gt, o_icmp_le, o_ifnull, o_ifnonnull, o_acmp_eq, o_acmp_ne, o_is, o_ls, o_as, o_iinc, o_kill, o_sw, o_ireturn, o_zreturn, o_nreturn, o_lreturn, o_areturn, o_return, o_athrow, o_call, entP, lg_sl, Value.category, st1, st2, List.set, List.getElem?_cons_zero, List.getElem?_cons_succ, List.foldl, popN, aft, o_gI, o_gR, o_pI, o_pN, o_pR, o_aI, o_aG, o_aR, o_len, o_aR8, o_sI, o_sB, o_sZ, o_sG, o_new, o_newA, o_cast, o_inst, o_cst, o_oi, o_sR, o_gIc, o_gSv, o_gSc, o_getc, o_dead, o_acopy, o_castA, o_castI, o_sR7, o_mna, o_mmax, o_mmin, o_mabs, nn_eqL, nn_ltL, nn_leL, nn_Llt, nn_Lle, nn_lt, nn_le, nn_eq, nn_in, nn_clamp, nn_succ, nn_pos, nn_neg1, b1, b2, le, bX3_check_323]
      exact ok (by rw [he]; rfl)
    | succ m ih =>
      intro k hk he
      apply hX
      have b1 : k < 2147483648 := by omega
      have b2 : wss.length < 2147483648 := by omega
      have nle : ¬ wss.length ≤ k := by omega
      have k40 : k < 40 := by omega
      obtain ⟨x, e1, e2⟩ := h11 k (by omega)
      have k1 : Hok κ (hnw σ 5 0 8) := h1.nw (by decide)
      have F1 : HL κ NoM NoM 1 8 σ (hnw σ 5 0 8) := ((HL.rfl9 (M := NoM) (MR := NoM) h1).nw k1).up (by omega) (by omega)
      rw [List.range'_succ] at he
      simp [o_ic, o_lc, o_null, o_il, o_ll, o_al, o_dup, o_pop, o_dup_x1, o_dup2, o_iadd, o_isub, o_imul, o_iand, o_ior, o_ixor, o_ishl, o_ishr, o_idiv, o_irem, o_ineg, o_ladd, o_lsub, o_lmul, o_land, o_lor, o_lxor, o_ldiv, o_lrem, o_lneg, o_lcmp, o_i2l, o_l2i, o_i2b, o_i2c, o_iushr, o_lshl, o_lshr, o_if_eq, o_if_ne, o_if_lt, o_if_ge, o_if_gt, o_if_le, o_icmp_eq, o_icmp_ne, o_icmp_lt, o_icmp_ge, o_icmp_gt, o_icmp_le, o_ifnull, o_ifnonnull, o_acmp_eq, o_acmp_ne, o_is, o_ls, o_as, o_iinc, o_kill, o_sw, o_ireturn, o_zreturn, o_nreturn, o_lreturn, o_areturn, o_return, o_athrow, o_call, entP, lg_sl, Value.category, st1, st2, List.set, List.getElem?_cons_zero, List.getElem?_cons_succ, List.foldl, popN, aft, o_gI, o_gR, o_pI, o_pN, o_pR, o_aI, o_aG, o_aR, o_len, o_aR8, o_sI, o_sB, o_sZ, o_sG, o_new, o_newA, o_cast, o_inst, o_cst, o_oi, o_sR, o_gIc, o_gSv, o_gSc, o_getc, o_dead, o_acopy, o_castA, o_castI, o_sR7, o_mna, o_mmax, o_mmin, o_mabs, h2, h3, g1, g2, va_rf]
      refine hv_size g3 ?_
      simp [o_ic, o_lc, o_null, o_il, o_ll, o_al, o_dup, o_pop, o_dup_x1, o_dup2, o_iadd, o_isub, o_imul, o_iand, o_ior, o_ixor, o_ishl, o_ishr, o_idiv, o_irem, o_ineg, o_ladd, o_lsub, o_lmul, o_land, o_lor, o_lxor, o_ldiv, o_lrem, o_lneg, o_lcmp, o_i2l, o_l2i, o_i2b, o_i2c, o_iushr, o_lshl, o_lshr, o_if_eq, o_if_ne, o_if_lt, o_if_ge, o_if_gt, o_if_le, o_icmp_eq, o_icmp_ne, o_icmp_lt, o_icmp_ge, o_icmp_gt, o_icmp_le, o_ifnull, o_ifnonnull, o_acmp_eq, o_acmp_ne, o_is, o_ls, o_as, o_iinc, o_kill, o_sw, o_ireturn, o_zreturn, o_nreturn, o_lreturn, o_areturn, o_return, o_athrow, o_call, entP, lg_sl, Value.category, st1, st2, List.set, List.getElem?_cons_zero, List.getElem?_cons_succ, List.foldl, popN, aft, o_gI, o_gR, o_pI, o_pN, o_pR, o_aI, o_aG, o_aR, o_len, o_aR8, o_sI, o_sB, o_sZ, o_sG, o_new, o_newA, o_cast, o_inst, o_cst, o_oi, o_sR, o_gIc, o_gSv, o_gSc, o_getc, o_dead, o_acopy, o_castA, o_castI, o_sR7, o_mna, o_mmax, o_mmin, o_mabs, nn_eqL, nn_ltL, nn_leL, nn_Llt, nn_Lle, nn_lt, nn_le, nn_eq, nn_in, nn_clamp, nn_succ, nn_pos, nn_neg1, b1, b2, nle, hB.1, hB.2.1, k40, hB.2.2 k k40, b2i_0]
      cases hv : v k with
      | true =>
        simp [bX3_check_317, o_ic, o_lc, o_null, o_il, o_ll, o_al, o_dup, o_pop, o_dup_x1, o_dup2, o_iadd, o_isub, o_imul, o_iand, o_ior, o_ixor, o_ishl, o_ishr, o_idiv, o_irem, o_ineg, o_ladd, o_lsub, o_lmul, o_land, o_lor, o_lxor, o_ldiv, o_lrem, o_lneg, o_lcmp, o_i2l, o_l2i, o_i2b, o_i2c, o_iushr, o_lshl, o_lshr, o_if_eq, o_if_ne, o_if_lt, o_if_ge, o_if_gt, o_if_le, o_icmp_eq, o_icmp_ne, o_icmp_lt, o_icmp_ge, o_icmp_gt, o_icmp_le, o_ifnull, o_ifnonnull, o_acmp_eq, o_acmp_ne, o_is, o_ls, o_as, o_iinc, o_kill, o_sw, o_ireturn, o_zreturn, o_nreturn, o_lreturn, o_areturn, o_return, o_athrow, o_call, entP, lg_sl, Value.category, st1, st2, List.set, List.getElem?_cons_zero, List.getElem?_cons_succ, List.foldl, popN, aft, nn_succ]
        refine ih (k + 1) (by omega) ?_
        rw [he, List.find?_cons_of_neg (by simp [hv])]
      | false =>
        rw [List.find?_cons_of_pos (by simp [hv])] at he
        have t2 : hT (hnw σ 5 0 8) rd = 3 := F1.tg h1 h2 (by decide)
        have r8 : hR (hnw σ 5 0 8) rd 7 = some (rd + 8) := h8
        have A2 : AL κ (hnw σ 5 0 8) (rd + 8) xs := F1.al h9 id
        have I2 : IntO (hnw σ 5 0 8) x (nn (hdN R k)) := e2.hl h1 F1 id
        have ty2 : hT (hnw σ 5 0 8) x = 20 ∨ hT (hnw σ 5 0 8) x = 60 := I2.1
        simp [o_ic, o_lc, o_null, o_il, o_ll, o_al, o_dup, o_pop, o_dup_x1, o_dup2, o_iadd, o_isub, o_imul, o_iand, o_ior, o_ixor, o_ishl, o_ishr, o_idiv, o_irem, o_ineg, o_ladd, o_lsub, o_lmul, o_land, o_lor, o_lxor, o_ldiv, o_lrem, o_lneg, o_lcmp, o_i2l, o_l2i, o_i2b, o_i2c, o_iushr, o_lshl, o_lshr, o_if_eq, o_if_ne, o_if_lt, o_if_ge, o_if_gt, o_if_le, o_icmp_eq, o_icmp_ne, o_icmp_lt, o_icmp_ge, o_icmp_gt, o_icmp_le, o_ifnull, o_ifnonnull, o_acmp_eq, o_acmp_ne, o_is, o_ls, o_as, o_iinc, o_kill, o_sw, o_ireturn, o_zreturn, o_nreturn, o_lreturn, o_areturn, o_return, o_athrow, o_call, entP, lg_sl, Value.category, st1, st2, List.set, List.getElem?_cons_zero, List.getElem?_cons_succ, List.foldl, popN, aft, o_gI, o_gR, o_pI, o_pN, o_pR, o_aI, o_aG, o_aR, o_len, o_aR8, o_sI, o_sB, o_sZ, o_sG, o_new, o_newA, o_cast, o_inst, o_cst, o_oi, o_sR, o_gIc, o_gSv, o_gSc, o_getc, o_dead, o_acopy, o_castA, o_castI, o_sR7, o_mna, o_mmax, o_mmin, o_mabs, r1, r2, t2, r8, va_rf]
        refine hv_get A2 e1 ?_
        simp [o_ic, o_lc, o_null, o_il, o_ll, o_al, o_dup, o_pop, o_dup_x1, o_dup2, o_iadd, o_isub, o_imul, o_iand, o_ior, o_ixor, o_ishl, o_ishr, o_idiv, o_irem, o_ineg, o_ladd, o_lsub, o_lmul, o_land, o_lor, o_lxor, o_ldiv, o_lrem, o_lneg, o_lcmp, o_i2l, o_l2i, o_i2b, o_i2c, o_iushr, o_lshl, o_lshr, o_if_eq, o_if_ne, o_if_lt, o_if_ge, o_if_gt, o_if_le, o_icmp_eq, o_icmp_ne, o_icmp_lt, o_icmp_ge, o_icmp_gt, o_icmp_le, o_ifnull, o_ifnonnull, o_acmp_eq, o_acmp_ne, o_is, o_ls, o_as, o_iinc, o_kill, o_sw, o_ireturn, o_zreturn, o_nreturn, o_lreturn, o_areturn, o_return, o_athrow, o_call, entP, lg_sl, Value.category, st1, st2, List.set, List.getElem?_cons_zero, List.getElem?_cons_succ, List.foldl, popN, aft, o_gI, o_gR, o_pI, o_pN, o_pR, o_aI, o_aG, o_aR, o_len, o_aR8, o_sI, o_sB, o_sZ, o_sG, o_new, o_newA, o_cast, o_inst, o_cst, o_oi, o_sR, o_gIc, o_gSv, o_gSc, o_getc, o_dead, o_acopy, o_castA, o_castI, o_sR7, o_mna, o_mmax, o_mmin, o_mabs, ty2]
        refine hv_int I2 ?_
        simp [o_ic, o_lc, o_null, o_il, o_ll, o_al, o_dup, o_pop, o_dup_x1, o_dup2, o_iadd, o_isub, o_imul, o_iand, o_ior, o_ixor, o_ishl, o_ishr, o_idiv, o_irem, o_ineg, o_ladd, o_lsub, o_lmul, o_land, o_lor, o_lxor, o_ldiv, o_lrem, o_lneg, o_lcmp, o_i2l, o_l2i, o_i2b, o_i2c, o_iushr, o_lshl, o_lshr, o_if_eq, o_if_ne, o_if_lt, o_if_ge, o_if_gt, o_if_le, o_icmp_eq, o_icmp_ne, o_icmp_lt, o_icmp_ge, o_icmp_gt, o_icmp_le, o_ifnull, o_ifnonnull, o_acmp_eq, o_acmp_ne, o_is, o_ls, o_as, o_iinc, o_kill, o_sw, o_ireturn, o_zreturn, o_nreturn, o_lreturn, o_areturn, o_return, o_athrow, o_call, entP, lg_sl, Value.category, st1, st2, List.set, List.getElem?_cons_zero, List.getElem?_cons_succ, List.foldl, popN, aft, o_gI, o_gR, o_pI, o_pN, o_pR, o_aI, o_aG, o_aR, o_len, o_aR8, o_sI, o_sB, o_sZ, o_sG, o_new, o_newA, o_cast, o_inst, o_cst, o_oi, o_sR, o_gIc, o_gSv, o_gSc, o_getc, o_dead, o_acopy, o_castA, o_castI, o_sR7, o_mna, o_mmax, o_mmin, o_mabs, hvi]
        refine ck_throw (v := 6) h1 H e2 r1 r2 (fun σ' a F E => ?_)
        exact er σ' a k he F E
  exact main R.2.length 0 (by omega) (by rw [List.range_eq_range'])
theorem ck_heads5 {rd A V c s : Nat} {R : Rt} {wss : List (Nat × List Nat)} {σ0 : AH} {v : Nat → Bool} (hV : CkV κ σ rd R wss) (H : HL κ NoM NoM c s σ0 σ) (hB : BA σ A v) (r1 : 1 ≤ hC σ) (r2 : 8 ≤ hS σ)
    (ok : (List.range R.2.length).find? (fun b => !v b) = none → bX3_check_273 κ Q [some (.ref rd), none, some (.ref V), some (.int 0), none, none, none] [] σ)
    (er : ∀ σ' a b, (List.range R.2.length).find? (fun b => !v b) = some b → HL κ NoM NoM (c + 1) (s + 8) σ0 σ' → FltC σ' a (5, hdN R b) → Q (.inr a) σ') :
    bX3_check_222 κ Q [some (.ref rd), some (.ref A), some (.ref V), some (.int 0), none, none, none] [] σ := by
  obtain ⟨h1, h2, h3, h4, h5, h6, -, h8, xs, h9, h10, h11⟩ := id hV
  obtain ⟨bl, g1, g2, g3, g4, g5, -⟩ := id h4
  unfold bX3_check_222
  intro X hX
  have main : ∀ m k, k + m = R.2.length → (List.range R.2.length).find? (fun b => !v b) = (List.range' k m).find? (fun b => !v b) → X [some (.ref rd), some (.ref A), some (.ref V), some (.int (nn k)), none, none, none] [] σ := by
    intro m
    induction m with
    | zero =>
      intro k hk he
      apply hX
      have b1 : k < 2147483648 := by omega
      have b2 : wss.length < 2147483648 := by omega
      have le : wss.length ≤ k := by omega
      simp [o_ic, o_lc, o_null, o_il, o_ll, o_al, o_dup, o_pop, o_dup_x1, o_dup2, o_iadd, o_isub, o_imul, o_iand, o_ior, o_ixor, o_ishl, o_ishr, o_idiv, o_irem, o_ineg, o_ladd, o_lsub, o_lmul, o_land, o_lor, o_lxor, o_ldiv, o_lrem, o_lneg, o_lcmp, o_i2l, o_l2i, o_i2b, o_i2c, o_iushr, o_lshl, o_lshr, o_if_eq, o_if_ne, o_if_lt, o_if_ge, o_if_gt, o_if_le, o_icmp_eq, o_icmp_ne, o_icmp_lt, o_icmp_ge, o_icmp_gt, o_icmp_le, o_ifnull, o_ifnonnull, o_acmp_eq, o_acmp_ne, o_is, o_ls, o_as, o_iinc, o_kill, o_sw, o_ireturn, o_zreturn, o_nreturn, o_lreturn, o_areturn, o_return, o_athrow, o_call, entP, lg_sl, Value.category, st1, st2, List.set, List.getElem?_cons_zero, List.getElem?_cons_succ, List.foldl, popN, aft, o_gI, o_gR, o_pI, o_pN, o_pR, o_aI, o_aG, o_aR, o_len, o_aR8, o_sI, o_sB, o_sZ, o_sG, o_new, o_newA, o_cast, o_inst, o_cst, o_oi, o_sR, o_gIc, o_gSv, o_gSc, o_getc, o_dead, o_acopy, o_castA, o_castI, o_sR7, o_mna, o_mmax, o_mmin, o_mabs, h2, h3, g1, g2, va_rf]
      refine hv_size g3 ?_
      simp [o_ic, o_lc, o_null, o_il, o_ll, o_al, o_dup, o_pop, o_dup_x1, o_dup2, o_iadd, o_isub, o_imul, o_iand, o_ior, o_ixor, o_ishl, o_ishr, o_idiv, o_irem, o_ineg, o_ladd, o_lsub, o_lmul, o_land, o_lor, o_lxor, o_ldiv, o_lrem, o_lneg, o_lcmp, o_i2l, o_l2i, o_i2b, o_i2c, o_iushr, o_lshl, o_lshr, o_if_eq, o_if_ne, o_if_lt, o_if_ge, o_if_gt, o_if_le, o_icmp_eq, o_icmp_ne, o_icmp_lt, o_icmp_ge, o_icmp_gt, o_icmp_le, o_ifnull, o_ifnonnull, o_acmp_eq, o_acmp_ne, o_is, o_ls, o_as, o_iinc, o_kill, o_sw, o_ireturn, o_zreturn, o_nreturn, o_lreturn, o_areturn, o_return, o_athrow, o_call, entP, lg_sl, Value.category, st1, st2, List.set, List.getElem?_cons_zero, List.getElem?_cons_succ, List.foldl, popN, aft, o_gI, o_gR, o_pI, o_pN, o_pR, o_aI, o_aG, o_aR, o_len, o_aR8, o_sI, o_sB, o_sZ, o_sG, o_new, o_newA, o_cast, o_inst, o_cst, o_oi, o_sR, o_gIc, o_gSv, o_gSc, o_getc, o_dead, o_acopy, o_castA, o_castI, o_sR7, o_mna, o_mmax, o_mmin, o_mabs, nn_eqL, nn_ltL, nn_leL, nn_Llt, nn_Lle, nn_lt, nn_le, nn_eq, nn_in, nn_clamp, nn_succ, nn_pos, nn_neg1, b1, b2, le, bX3_check_271]
      exact ok (by rw [he]; rfl)
    | succ m ih =>
      intro k hk he
      apply hX
      have b1 : k < 2147483648 := by omega
      have b2 : wss.length < 2147483648 := by omega
      have nle : ¬ wss.length ≤ k := by omega
      have k40 : k < 40 := by omega
      obtain ⟨x, e1, e2⟩ := h11 k (by omega)
      have k1 : Hok κ (hnw σ 5 0 8) := h1.nw (by decide)
      have F1 : HL κ NoM NoM 1 8 σ (hnw σ 5 0 8) := ((HL.rfl9 (M := NoM) (MR := NoM) h1).nw k1).up (by omega) (by omega)
      rw [List.range'_succ] at he
      simp [o_ic, o_lc, o_null, o_il, o_ll, o_al, o_dup, o_pop, o_dup_x1, o_dup2, o_iadd, o_isub, o_imul, o_iand, o_ior, o_ixor, o_ishl, o_ishr, o_idiv, o_irem, o_ineg, o_ladd, o_lsub, o_lmul, o_land, o_lor, o_lxor, o_ldiv, o_lrem, o_lneg, o_lcmp, o_i2l, o_l2i, o_i2b, o_i2c, o_iushr, o_lshl, o_lshr, o_if_eq, o_if_ne, o_if_lt, o_if_ge, o_if_gt, o_if_le, o_icmp_eq, o_icmp_ne, o_icmp_lt, o_icmp_ge, o_icmp_gt, o_icmp_le, o_ifnull, o_ifnonnull, o_acmp_eq, o_acmp_ne, o_is, o_ls, o_as, o_iinc, o_kill, o_sw, o_ireturn, o_zreturn, o_nreturn, o_lreturn, o_areturn, o_return, o_athrow, o_call, entP, lg_sl, Value.category, st1, st2, List.set, List.getElem?_cons_zero, List.getElem?_cons_succ, List.foldl, popN, aft, o_gI, o_gR, o_pI, o_pN, o_pR, o_aI, o_aG, o_aR, o_len, o_aR8, o_sI, o_sB, o_sZ, o_sG, o_new, o_newA, o_cast, o_inst, o_cst, o_oi, o_sR, o_gIc, o_gSv, o_gSc, o_getc, o_dead, o_acopy, o_castA, o_castI, o_sR7, o_mna, o_mmax, o_mmin, o_mabs, h2, h3, g1, g2, va_rf]
      refine hv_size g3 ?_
      simp [o_ic, o_lc, o_null, o_il, o_ll, o_al, o_dup, o_pop, o_dup_x1, o_dup2, o_iadd, o_isub, o_imul, o_iand, o_ior, o_ixor, o_ishl, o_ishr, o_idiv, o_irem, o_ineg, o_ladd, o_lsub, o_lmul, o_land, o_lor, o_lxor, o_ldiv, o_lrem, o_lneg, o_lcmp, o_i2l, o_l2i, o_i2b, o_i2c, o_iushr, o_lshl, o_lshr, o_if_eq, o_if_ne, o_if_lt, o_if_ge, o_if_gt, o_if_le, o_icmp_eq, o_icmp_ne, o_icmp_lt, o_icmp_ge, o_icmp_gt, o_icmp_le, o_ifnull, o_ifnonnull, o_acmp_eq, o_acmp_ne, o_is, o_ls, o_as, o_iinc, o_kill, o_sw, o_ireturn, o_zreturn, o_nreturn, o_lreturn, o_areturn, o_return, o_athrow, o_call, entP, lg_sl, Value.category, st1, st2, List.set, List.getElem?_cons_zero, List.getElem?_cons_succ, List.foldl, popN, aft, o_gI, o_gR, o_pI, o_pN, o_pR, o_aI, o_aG, o_aR, o_len, o_aR8, o_sI, o_sB, o_sZ, o_sG, o_new, o_newA, o_cast, o_inst, o_cst, o_oi, o_sR, o_gIc, o_gSv, o_gSc, o_getc, o_dead, o_acopy, o_castA, o_castI, o_sR7, o_mna, o_mmax, o_mmin, o_mabs, nn_eqL, nn_ltL, nn_leL, nn_Llt, nn_Lle, nn_lt, nn_le, nn_eq, nn_in, nn_clamp, nn_succ, nn_pos, nn_neg1, b1, b2, nle, hB.1, hB.2.1, k40, hB.2.2 k k40, b2i_0]
      cases hv : v k with
      | true =>
        simp [bX3_check_265, o_ic, o_lc, o_null, o_il, o_ll, o_al, o_dup, o_pop, o_dup_x1, o_dup2, o_iadd, o_isub, o_imul, o_iand, o_ior, o_ixor, o_ishl, o_ishr, o_idiv, o_irem, o_ineg, o_ladd, o_lsub, o_lmul, o_land, o_lor, o_lxor, o_ldiv, o_lrem, o_lneg, o_lcmp, o_i2l, o_l2i, o_i2b, o_i2c, o_iushr, o_lshl, o_lshr, o_if_eq, o_if_ne, o_if_lt, o_if_ge, o_if_gt, o_if_le, o_icmp_eq, o_icmp_ne, o_icmp_lt, o_icmp_ge, o_icmp_gt, o_icmp_le, o_ifnull, o_ifnonnull, o_acmp_eq, o_acmp_ne, o_is, o_ls, o_as, o_iinc, o_kill, o_sw, o_ireturn, o_zreturn, o_nreturn, o_lreturn, o_areturn, o_return, o_athrow, o_call, entP, lg_sl, Value.category, st1, st2, List.set, List.getElem?_cons_zero, List.getElem?_cons_succ, List.foldl, popN, aft, nn_succ]
        refine ih (k + 1) (by omega) ?_
        rw [he, List.find?_cons_of_neg (by simp [hv])]
      | false =>
        rw [List.find?_cons_of_pos (by simp [hv])] at he
        have t2 : hT (hnw σ 5 0 8) rd = 3 := F1.tg h1 h2 (by decide)
        have r8 : hR (hnw σ 5 0 8) rd 7 = some (rd + 8) := h8
        have A2 : AL κ (hnw σ 5 0 8) (rd + 8) xs := F1.al h9 id
        have I2 : IntO (hnw σ 5 0 8) x (nn (hdN R k)) := e2.hl h1 F1 id
        have ty2 : hT (hnw σ 5 0 8) x = 20 ∨ hT (hnw σ 5 0 8) x = 60 := I2.1
        simp [o_ic, o_lc, o_null, o_il, o_ll, o_al, o_dup, o_pop, o_dup_x1, o_dup2, o_iadd, o_isub, o_imul, o_iand, o_ior, o_ixor, o_ishl, o_ishr, o_idiv, o_irem, o_ineg, o_ladd, o_lsub, o_lmul, o_land, o_lor, o_lxor, o_ldiv, o_lrem, o_lneg, o_lcmp, o_i2l, o_l2i, o_i2b, o_i2c, o_iushr, o_lshl, o_lshr, o_if_eq, o_if_ne, o_if_lt, o_if_ge, o_if_gt, o_if_le, o_icmp_eq, o_icmp_ne, o_icmp_lt, o_icmp_ge, o_icmp_gt, o_icmp_le, o_ifnull, o_ifnonnull, o_acmp_eq, o_acmp_ne, o_is, o_ls, o_as, o_iinc, o_kill, o_sw, o_ireturn, o_zreturn, o_nreturn, o_lreturn, o_areturn, o_return, o_athrow, o_call, entP, lg_sl, Value.category, st1, st2, List.set, List.getElem?_cons_zero, List.getElem?_cons_succ, List.foldl, popN, aft, o_gI, o_gR, o_pI, o_pN, o_pR, o_aI, o_aG, o_aR, o_len, o_aR8, o_sI, o_sB, o_sZ, o_sG, o_new, o_newA, o_cast, o_inst, o_cst, o_oi, o_sR, o_gIc, o_gSv, o_gSc, o_getc, o_dead, o_acopy, o_castA, o_castI, o_sR7, o_mna, o_mmax, o_mmin, o_mabs, r1, r2, t2, r8, va_rf]
        refine hv_get A2 e1 ?_
        simp [o_ic, o_lc, o_null, o_il, o_ll, o_al, o_dup, o_pop, o_dup_x1, o_dup2, o_iadd, o_isub, o_imul, o_iand, o_ior, o_ixor, o_ishl, o_ishr, o_idiv, o_irem, o_ineg, o_ladd, o_lsub, o_lmul, o_land, o_lor, o_lxor, o_ldiv, o_lrem, o_lneg, o_lcmp, o_i2l, o_l2i, o_i2b, o_i2c, o_iushr, o_lshl, o_lshr, o_if_eq, o_if_ne, o_if_lt, o_if_ge, o_if_gt, o_if_le, o_icmp_eq, o_icmp_ne, o_icmp_lt, o_icmp_ge, o_icmp_gt, o_icmp_le, o_ifnull, o_ifnonnull, o_acmp_eq, o_acmp_ne, o_is, o_ls, o_as, o_iinc, o_kill, o_sw, o_ireturn, o_zreturn, o_nreturn, o_lreturn, o_areturn, o_return, o_athrow, o_call, entP, lg_sl, Value.category, st1, st2, List.set, List.getElem?_cons_zero, List.getElem?_cons_succ, List.foldl, popN, aft, o_gI, o_gR, o_pI, o_pN, o_pR, o_aI, o_aG, o_aR, o_len, o_aR8, o_sI, o_sB, o_sZ, o_sG, o_new, o_newA, o_cast, o_inst, o_cst, o_oi, o_sR, o_gIc, o_gSv, o_gSc, o_getc, o_dead, o_acopy, o_castA, o_castI, o_sR7, o_mna, o_mmax, o_mmin, o_mabs, ty2]
        refine hv_int I2 ?_
        simp [o_ic, o_lc, o_null, o_il, o_ll, o_al, o_dup, o_pop, o_dup_x1, o_dup2, o_iadd, o_isub, o_imul, o_iand, o_ior, o_ixor, o_ishl, o_ishr, o_idiv, o_irem, o_ineg, o_ladd, o_lsub, o_lmul, o_land, o_lor, o_lxor, o_ldiv, o_lrem, o_lneg, o_lcmp, o_i2l, o_l2i, o_i2b, o_i2c, o_iushr, o_lshl, o_lshr, o_if_eq, o_if_ne, o_if_lt, o_if_ge, o_if_gt, o_if_le, o_icmp_eq, o_icmp_ne, o_icmp_lt, o_icmp_ge, o_icmp_gt, o_icmp_le, o_ifnull, o_ifnonnull, o_acmp_eq, o_acmp_ne, o_is, o_ls, o_as, o_iinc, o_kill, o_sw, o_ireturn, o_zreturn, o_nreturn, o_lreturn, o_areturn, o_return, o_athrow, o_call, entP, lg_sl, Value.category, st1, st2, List.set, List.getElem?_cons_zero, List.getElem?_cons_succ, List.foldl, popN, aft, o_gI, o_gR, o_pI, o_pN, o_pR, o_aI, o_aG, o_aR, o_len, o_aR8, o_sI, o_sB, o_sZ, o_sG, o_new, o_newA, o_cast, o_inst, o_cst, o_oi, o_sR, o_gIc, o_gSv, o_gSc, o_getc, o_dead, o_acopy, o_castA, o_castI, o_sR7, o_mna, o_mmax, o_mmin, o_mabs, hvi]
        refine ck_throw (v := 5) h1 H e2 r1 r2 (fun σ' a F E => ?_)
        exact er σ' a k he F E
  exact main R.2.length 0 (by omega) (by rw [List.range_eq_range'])
theorem find_congr9 {n : Nat} {p q : Nat → Bool} (h : ∀ b, b < n → p b = q b) : (List.range n).find? p = (List.range n).find? q := by
  have : ∀ l : List Nat, (∀ b ∈ l, p b = q b) → l.find? p = l.find? q := by
    intro l
    induction l with
    | nil => intro _; rfl
    | cons a l ih =>
      intro hl
      rw [List.find?_cons, List.find?_cons, hl a (by simp), ih (fun b hb => hl b (by simp [hb]))]
  exact this _ (fun b hb => h b (by simpa using hb))
theorem ct_check {rd : Nat} {R : Rt} {wss : List (Nat × List Nat)} (hV : CkV κ σ rd R wss) (w : WfR R) (h0 : 0 < R.2.length) (hn : ∀ x ∈ nmz R.1, x.2 < 40) (hl : (nmz R.1).length ≤ 80) (r1 : 3 ≤ hC σ) (r2 : 100 ≤ hS σ)
    (ok : ∀ σ', chk R = none → HL κ NoM NoM 3 100 σ σ' → Q (.inl none) σ')
    (er : ∀ σ' a e, chk R = some e → HL κ NoM NoM 3 100 σ σ' → FltC σ' a e → Q (.inr a) σ') : pX3_check κ [.ref rd] σ Q := by
  unfold chk at ok er
  refine ck_names hV hn hl (by omega) (by omega) (fun hf => ?_) (fun σ' a x hf F E => ?_)
  rotate_left
  · rw [hf] at er
    exact er σ' a _ rfl (F.up (by omega) (by omega)) E
  rw [hf] at ok er
  simp only at ok er
  have hT9 : TgOk R := by
    intro x hx t ht
    rw [List.find?_eq_none] at hf
    have hm : t ∈ nmz R.1 := by unfold nmz; rw [List.mem_flatMap]; exact ⟨x, hx, ht⟩
    have := hf t hm
    simp at this
    exact this.2
  obtain ⟨h1, h2, h3, h4, -⟩ := id hV
  -- two rows
  have kA : Hok κ (hnw σ 103 40 40) := h1.nw (by decide)
  have FA : HL κ NoM NoM 1 40 σ (hnw σ 103 40 40) := ((HL.rfl9 (M := NoM) (MR := NoM) h1).nw kA).up (by omega) (by omega)
  have hz := (h1.1 (hN σ) (Nat.le_refl _)).2
  have hz1 := (h1.1 (hN σ + 1) (by omega)).2
  have tA : hT (hnw σ 103 40 40) (hN σ) = 103 := by rw [hT_nw, if_pos rfl]
  have FA1 : HL κ NoM NoM 1 40 σ (hsI (hnw σ 103 40 40) (hN σ) 0 1) := FA.sI (Or.inr (Nat.le_refl _)) tA (by decide)
  have kA1 := FA1.ok
  have kB : Hok κ (hnw (hsI (hnw σ 103 40 40) (hN σ) 0 1) 103 40 40) := kA1.nw (by decide)
  have FB : HL κ NoM NoM 2 80 σ (hnw (hsI (hnw σ 103 40 40) (hN σ) 0 1) 103 40 40) := (FA1.nw kB).up (by omega) (by omega)
  have S0 : CkS κ σ (hnw (hsI (hnw σ 103 40 40) (hN σ) 0 1) 103 40 40) (hN σ) (hN σ + 1) com0 lea0 := by
    refine ⟨FB, ⟨?_, ?_, fun i hi => ?_⟩, ⟨?_, ?_, fun i hi => ?_⟩, Nat.le_refl _, by omega, by omega⟩
    · simp [hT_nw, hN_sI, hN_nw, hT_sI]
    · simp [hL_nw, hN_sI, hN_nw, hL_sI]
    · rw [hI_nw, hI_sI, hI_nw]
      by_cases c : i = 0
      · subst c; rw [if_pos ⟨rfl, rfl⟩]; rfl
      · rw [if_neg (fun q => c q.2), (hz i).1]; unfold com0; simp [c]; rfl
    · simp [hT_nw, hN_sI, hN_nw, hT_sI]
    · simp [hL_nw, hN_sI, hN_nw, hL_sI]
    · rw [hI_nw, hI_sI, hI_nw, if_neg (by omega), (hz1 i).1]; rfl
  have q1 : 1 ≤ hC σ := by omega
  have q2 : 40 ≤ hS σ := by omega
  have q3 : 1 ≤ hC σ - 1 := by omega
  have q4 : 40 ≤ hS σ - 40 := by omega
  simp [bX3_check_86, o_ic, o_lc, o_null, o_il, o_ll, o_al, o_dup, o_pop, o_dup_x1, o_dup2, o_iadd, o_isub, o_imul, o_iand, o_ior, o_ixor, o_ishl, o_ishr, o_idiv, o_irem, o_ineg, o_ladd, o_lsub, o_lmul, o_land, o_lor, o_lxor, o_ldiv, o_lrem, o_lneg, o_lcmp, o_i2l, o_l2i, o_i2b, o_i2c, o_iushr, o_lshl, o_lshr, o_if_eq, o_if_ne, o_if_lt, o_if_ge, o_if_gt, o_if_le, o_icmp_eq, o_icmp_ne, o_icmp_lt, o_icmp_ge, o_icmp_gt, o_icmp_le, o_ifnull, o_ifnonnull, o_acmp_eq, o_acmp_ne, o_is, o_ls, o_as, o_iinc, o_kill, o_sw, o_ireturn, o_zreturn, o_nreturn, o_lreturn, o_areturn, o_return, o_athrow, o_call, entP, lg_sl, Value.category, st1, st2, List.set, List.getElem?_cons_zero, List.getElem?_cons_succ, List.foldl, popN, aft, o_gI, o_gR, o_pI, o_pN, o_pR, o_aI, o_aG, o_aR, o_len, o_aR8, o_sI, o_sB, o_sZ, o_sG, o_new, o_newA, o_cast, o_inst, o_cst, o_oi, o_sR, o_gIc, o_gSv, o_gSc, o_getc, o_dead, o_acopy, o_castA, o_castI, o_sR7, o_mna, o_mmax, o_mmin, o_mabs, tA, hL_nw, hC_sI, hS_sI, hC_nw, hS_nw, hN_sI, hN_nw, vpL, q1, q2, q3, q4]
  unfold bX3_check_102
  intro X hX
  have hnb : R.2.length ≤ 40 := w.2.1
  have main : ∀ m k (σ' : AH), k + m = 40 → CkS κ σ σ' (hN σ) (hN σ + 1) (itr9 (psC R) k com0) (itr9 (psV R) k lea0) → X [some (.ref rd), some (.ref (hN σ)), some (.ref (hN σ + 1)), some (.int (nn k)), none, none, none] [] σ' := by
    intro m
    induction m with
    | zero =>
      intro k σ' hk hS
      have e : k = 40 := by omega
      subst e
      apply hX
      have hV' := hV.new hS.1
      simp [o_ic, o_lc, o_null, o_il, o_ll, o_al, o_dup, o_pop, o_dup_x1, o_dup2, o_iadd, o_isub, o_imul, o_iand, o_ior, o_ixor, o_ishl, o_ishr, o_idiv, o_irem, o_ineg, o_ladd, o_lsub, o_lmul, o_land, o_lor, o_lxor, o_ldiv, o_lrem, o_lneg, o_lcmp, o_i2l, o_l2i, o_i2b, o_i2c, o_iushr, o_lshl, o_lshr, o_if_eq, o_if_ne, o_if_lt, o_if_ge, o_if_gt, o_if_le, o_icmp_eq, o_icmp_ne, o_icmp_lt, o_icmp_ge, o_icmp_gt, o_icmp_le, o_ifnull, o_ifnonnull, o_acmp_eq, o_acmp_ne, o_is, o_ls, o_as, o_iinc, o_kill, o_sw, o_ireturn, o_zreturn, o_nreturn, o_lreturn, o_areturn, o_return, o_athrow, o_call, entP, lg_sl, Value.category, st1, st2, List.set, List.getElem?_cons_zero, List.getElem?_cons_succ, List.foldl, popN, aft, nn_leL, nn_Lle, bX3_check_220]
      have c1 : (List.range R.2.length).find? (fun b => !itr9 (psC R) 40 com0 b) = (List.range R.2.length).find? (fun b => b9 (¬ Rch R b)) := find_congr9 (fun b hb => by
        cases q : itr9 (psC R) 40 com0 b with
        | true => rw [b9_not.2 (fun z => z ((com_iff w hT9 h0 b).1 q))]; rfl
        | false => rw [b9_iff.2 (fun z => by rw [(com_iff w hT9 h0 b).2 z] at q; cases q)]; rfl)
      have c2 : (List.range R.2.length).find? (fun b => !itr9 (psV R) 40 lea0 b) = (List.range R.2.length).find? (fun b => b9 (¬ Lvs R b)) := find_congr9 (fun b hb => by
        cases q : itr9 (psV R) 40 lea0 b with
        | true => rw [b9_not.2 (fun z => z ((lea_iff w b).1 q))]; rfl
        | false => rw [b9_iff.2 (fun z => by rw [(lea_iff w b).2 z] at q; cases q)]; rfl)
      refine ck_heads5 hV' hS.1 hS.2.1 (by have := hS.1.C; omega) (by have := hS.1.S; omega) (fun hf5 => ?_) (fun σ2 a b hf5 F E => ?_)
      · rw [c1] at hf5
        rw [hf5] at ok er
        refine ck_heads6 hV' hS.1 hS.2.2.1 (by have := hS.1.C; omega) (by have := hS.1.S; omega) (fun hf6 => ?_) (fun σ2 a b hf6 F E => ?_)
        · rw [c2] at hf6
          rw [hf6] at ok
          exact ok σ' rfl (hS.1.up (by omega) (by omega))
        · rw [c2] at hf6
          rw [hf6] at er
          exact er σ2 a _ rfl (F.up (by omega) (by omega)) E
      · rw [c1] at hf5
        rw [hf5] at er
        exact er σ2 a _ rfl (F.up (by omega) (by omega)) E
    | succ m ih =>
      intro k σ' hk hS
      apply hX
      have b1 : k < 2147483648 := by omega
      have nle : ¬ 40 ≤ k := by omega
      simp [o_ic, o_lc, o_null, o_il, o_ll, o_al, o_dup, o_pop, o_dup_x1, o_dup2, o_iadd, o_isub, o_imul, o_iand, o_ior, o_ixor, o_ishl, o_ishr, o_idiv, o_irem, o_ineg, o_ladd, o_lsub, o_lmul, o_land, o_lor, o_lxor, o_ldiv, o_lrem, o_lneg, o_lcmp, o_i2l, o_l2i, o_i2b, o_i2c, o_iushr, o_lshl, o_lshr, o_if_eq, o_if_ne, o_if_lt, o_if_ge, o_if_gt, o_if_le, o_icmp_eq, o_icmp_ne, o_icmp_lt, o_icmp_ge, o_icmp_gt, o_icmp_le, o_ifnull, o_ifnonnull, o_acmp_eq, o_acmp_ne, o_is, o_ls, o_as, o_iinc, o_kill, o_sw, o_ireturn, o_zreturn, o_nreturn, o_lreturn, o_areturn, o_return, o_athrow, o_call, entP, lg_sl, Value.category, st1, st2, List.set, List.getElem?_cons_zero, List.getElem?_cons_succ, List.foldl, popN, aft, nn_eqL, nn_ltL, nn_leL, nn_Llt, nn_Lle, nn_lt, nn_le, nn_eq, nn_in, nn_clamp, nn_succ, nn_pos, nn_neg1, b1, nle]
      refine ck_pass (k := k) h1 h2 h3 h4 w hT9 R.2.length 0 σ' _ _ (by omega) hS (fun σ2 h2' => ?_)
      exact ih (k + 1) σ2 (by omega) h2'
  exact main 40 0 _ (by omega) S0
end CK2
