/-! THE COMPONENT: names of blocks -/
set_option maxRecDepth 100000
/-- the names of blocks so far: place, block -/
def NmC (κ : Nat → Option Nat) (σ : AH) (nm na : Nat) (nl : List (Nat × Nat)) : Prop := ∃ xs ys, AL κ σ nm xs ∧ AL κ σ na ys ∧ xs.length = nl.length ∧ ys.length = nl.length ∧ ∀ (i : Nat) (q : Nat × Nat), nl[i]? = some q → ∃ x y, xs[i]? = some x ∧ IntO σ x (nn q.2) ∧ ys[i]? = some y ∧ IntO σ y (nn q.1)
/-- a reader with its names -/
def LnC (κ : Nat → Option Nat) (σ : AH) (rd o : Nat) (l : List Nat) (nm na : Nat) (nl : List (Nat × Nat)) : Prop := Hok κ σ ∧ Kst κ σ ∧ RdrC σ rd o l ∧ hR σ rd 5 = some nm ∧ hR σ rd 6 = some na ∧ nm ≠ na ∧ NmC κ σ nm na nl
abbrev ML (rd nm na : Nat) : Nat → Prop := fun b => b = rd ∨ b = nm ∨ b = na
section LN
variable {κ : Nat → Option Nat} {M MR : Nat → Prop} {c s : Nat} {σ σ' : AH} {rd o nm na : Nat} {l : List Nat} {nl : List (Nat × Nat)}
theorem NmC.hl (h : NmC κ σ nm na nl) (hk : Hok κ σ) (hF : HL κ M MR c s σ σ') (m1 : ¬ M nm) (m2 : ¬ M na) (m3 : ∀ b, M b → hT σ b ≠ 20 ∧ hT σ b ≠ 60) : NmC κ σ' nm na nl := by
  obtain ⟨xs, ys, h1, h2, h3, h4, h5⟩ := h
  refine ⟨xs, ys, hF.al h1 m1, hF.al h2 m2, h3, h4, fun i q hq => ?_⟩
  obtain ⟨x, y, e1, e2, e3, e4⟩ := h5 i q hq
  exact ⟨x, y, e1, e2.hl hk hF (fun z => e2.1.elim (m3 x z).1 (m3 x z).2), e3, e4.hl hk hF (fun z => e4.1.elim (m3 y z).1 (m3 y z).2)⟩
theorem LnC.hl (h : LnC κ σ rd o l nm na nl) (hF : HL κ M NoM c s σ σ') (m1 : ¬ M nm) (m2 : ¬ M na) (m3 : ∀ b, M b → hT σ b ≠ 20 ∧ hT σ b ≠ 60 ∧ hT σ b ≠ 1 ∧ hT σ b ≠ 102) : LnC κ σ' rd o l nm na nl := by
  obtain ⟨h1, h2, h3, h4, h5, h6, h7⟩ := h
  exact ⟨hF.ok, h2.hl h1 hF, h3.hl h1 hF (fun b hb => hb.elim (fun z => (m3 b z).2.2) (fun z => z.elim)) id, (hF.ref h1 h3.1 (by decide) id 5).trans h4, (hF.ref h1 h3.1 (by decide) id 6).trans h5, h6, h7.hl h1 hF m1 m2 (fun b hb => ⟨(m3 b hb).1, (m3 b hb).2.1⟩)⟩
theorem LnC.tgs (h : LnC κ σ rd o l nm na nl) : hT σ rd = 3 ∧ hT σ nm = 19 ∧ hT σ na = 19 := by
  obtain ⟨h1, h2, h3, h4, h5, h6, xs, ys, g1, g2, -⟩ := h
  exact ⟨h3.1, g1.1, g2.1⟩
/-- steps of the reader alone -/
theorem LnC.rdr (h : LnC κ σ rd o l nm na nl) (hF : HL κ (fun b => b = rd) NoM c s σ σ') : LnC κ σ' rd o l nm na nl := by
  obtain ⟨t1, t2, t3⟩ := h.tgs
  exact h.hl hF (fun q => by rw [q, t1] at t2; cases t2) (fun q => by rw [q, t1] at t3; cases t3) (fun b q => by subst q; rw [t1]; decide)
theorem LnC.new (h : LnC κ σ rd o l nm na nl) (hF : HL κ NoM NoM c s σ σ') : LnC κ σ' rd o l nm na nl := h.hl hF id id (fun b q => q.elim)
end LN
theorem NmC.snoc {κ : Nat → Option Nat} {σ : AH} {nm na x y p b : Nat} {xs ys : List Nat} {nl : List (Nat × Nat)} (h1 : AL κ σ nm (xs ++ [x])) (h2 : AL κ σ na (ys ++ [y])) (h3 : xs.length = nl.length) (h4 : ys.length = nl.length)
    (h5 : ∀ (i : Nat) (q : Nat × Nat), nl[i]? = some q → ∃ x y, xs[i]? = some x ∧ IntO σ x (nn q.2) ∧ ys[i]? = some y ∧ IntO σ y (nn q.1)) (hx : IntO σ x (nn b)) (hy : IntO σ y (nn p)) : NmC κ σ nm na (nl ++ [(p, b)]) := by
  refine ⟨_, _, h1, h2, by simp [h3], by simp [h4], fun i q hq => ?_⟩
  by_cases c : i < nl.length
  · rw [List.getElem?_append_left c] at hq
    obtain ⟨x', y', e1, e2, e3, e4⟩ := h5 i q hq
    exact ⟨x', y', by rw [List.getElem?_append_left (by omega)]; exact e1, e2, by rw [List.getElem?_append_left (by omega)]; exact e3, e4⟩
  · have hi := (List.getElem?_eq_some_iff.1 hq).1
    simp at hi
    have e : i = nl.length := by omega
    subst e
    simp at hq
    subst hq
    refine ⟨x, y, ?_, hx, ?_, hy⟩
    · rw [← h3]; simp
    · rw [← h4]; simp
theorem ct_target {κ : Nat → Option Nat} {Q : Ret AH} {σ : AH} {rd o f nm na : Nat} {l : List Nat} {nl : List (Nat × Nat)} (h : LnC κ σ rd o l nm na nl) (ht : TokC σ rd (tpF l) l.length f) (hn : nl.length < 100) (r1 : 4 ≤ hC σ) (r2 : 422 ≤ hS σ)
    (ok : ∀ σ' b g, tgt (tpF l) l.length f = .ok (b, g) → HL κ (ML rd nm na) NoM 4 422 σ σ' → LnC κ σ' rd o l nm na (nl ++ [(f, b)]) → TokC σ' rd (tpF l) l.length g → Q (.inl (some (.int (nn b)))) σ')
    (er : ∀ σ' a e, tgt (tpF l) l.length f = .error e → HL κ (ML rd nm na) NoM 4 422 σ σ' → FltC σ' a e → Q (.inr a) σ') : pX3_target κ [.ref rd] σ Q := by
  obtain ⟨hk, hK, h3, h4, h5, h6, xs, ys, g1, g2, g3, g4, g5⟩ := id h
  have h1' := h3.1
  have hl : l.length ≤ 3000 := h3.2.2.2.2.1
  simp [pX3_target, bX3_target_0, o_ic, o_lc, o_null, o_il, o_ll, o_al, o_dup, o_pop, o_dup_x1, o_dup2, o_iadd, o_isub, o_imul, o_iand, o_ior, o_ixor, o_ishl, o_ishr, o_idiv, o_irem, o_ineg, o_ladd, o_lsub, o_lmul, o_land, o_lor, o_lxor, o_ldiv, o_lrem, o_lneg, o_lcmp, o_i2l, o_l2i, o_i2b, o_i2c, o_iushr, o_lshl, o_lshr, o_if_eq, o_if_ne, o_if_lt, o_if_ge, o_if_gt, o_if_le, o_icmp_eq, o_icmp_ne, o_icmp_lt, o_icmp_ge, o_icmp_gt, o_icmp_le, o_ifnull, o_ifnonnull, o_acmp_eq, o_acmp_ne, o_is, o_ls, o_as, o_iinc, o_kill, o_sw, o_ireturn, o_zreturn, o_nreturn, o_lreturn, o_areturn, o_return, o_athrow, o_call, entP, lg_sl, Value.category, st1, st2, List.set, List.getElem?_cons_zero, List.getElem?_cons_succ, List.foldl, popN, aft, o_gI, o_gR, o_pI, o_pN, o_pR, o_aI, o_aG, o_aR, o_len, o_aR8, o_sI, o_sB, o_sZ, o_sG, o_new, o_newA, o_cast, o_inst, o_cst, o_oi, o_sR, o_gIc, o_gSv, o_gSc, o_getc, o_dead, o_acopy, o_castA, o_castI, o_sR7, o_mna, o_mmax, o_mmin, o_mabs, hT_sI, hT_sR, hT_sG, hL_sI, hL_sR, hL_sG, hI_sI, hI_sR, hI_sG, hG_sI, hG_sR, hG_sG, hR_sI, hR_sR, hR_sG, hN_sI, hN_sR, hN_sG, hC_sI, hC_sR, hC_sG, hS_sI, hS_sR, hS_sG, hT_nw, hL_nw, hI_nw, hG_nw, hR_nw, hN_nw, hC_nw, hS_nw, hvc, hvi, dspI, vref, va_rf, h1']
  refine ct_numbered (c := 98) (most := 39) h3 ht (by omega) (by omega) ?_
  unfold tgt at ok er
  cases hb : numb (tpF l) l.length f 98 39 with
  | none =>
    rw [hb] at er
    simp [onn, o_ic, o_lc, o_null, o_il, o_ll, o_al, o_dup, o_pop, o_dup_x1, o_dup2, o_iadd, o_isub, o_imul, o_iand, o_ior, o_ixor, o_ishl, o_ishr, o_idiv, o_irem, o_ineg, o_ladd, o_lsub, o_lmul, o_land, o_lor, o_lxor, o_ldiv, o_lrem, o_lneg, o_lcmp, o_i2l, o_l2i, o_i2b, o_i2c, o_iushr, o_lshl, o_lshr, o_if_eq, o_if_ne, o_if_lt, o_if_ge, o_if_gt, o_if_le, o_icmp_eq, o_icmp_ne, o_icmp_lt, o_icmp_ge, o_icmp_gt, o_icmp_le, o_ifnull, o_ifnonnull, o_acmp_eq, o_acmp_ne, o_is, o_ls, o_as, o_iinc, o_kill, o_sw, o_ireturn, o_zreturn, o_nreturn, o_lreturn, o_areturn, o_return, o_athrow, o_call, entP, lg_sl, Value.category, st1, st2, List.set, List.getElem?_cons_zero, List.getElem?_cons_succ, List.foldl, popN, aft, o_gI, o_gR, o_pI, o_pN, o_pR, o_aI, o_aG, o_aR, o_len, o_aR8, o_sI, o_sB, o_sZ, o_sG, o_new, o_newA, o_cast, o_inst, o_cst, o_oi, o_sR, o_gIc, o_gSv, o_gSc, o_getc, o_dead, o_acopy, o_castA, o_castI, o_sR7, o_mna, o_mmax, o_mmin, o_mabs, hT_sI, hT_sR, hT_sG, hL_sI, hL_sR, hL_sG, hI_sI, hI_sR, hI_sG, hG_sI, hG_sR, hG_sG, hR_sI, hR_sR, hR_sG, hN_sI, hN_sR, hN_sG, hC_sI, hC_sR, hC_sG, hS_sI, hS_sR, hS_sG, hT_nw, hL_nw, hI_nw, hG_nw, hR_nw, hN_nw, hC_nw, hS_nw, hvc, hvi, dspI, vref, va_rf, h1']
    refine ct_fault (n := 2) hk h3 ht (by omega) (by omega) (fun σ' a k' f' e' => ?_)
    simp [o_ic, o_lc, o_null, o_il, o_ll, o_al, o_dup, o_pop, o_dup_x1, o_dup2, o_iadd, o_isub, o_imul, o_iand, o_ior, o_ixor, o_ishl, o_ishr, o_idiv, o_irem, o_ineg, o_ladd, o_lsub, o_lmul, o_land, o_lor, o_lxor, o_ldiv, o_lrem, o_lneg, o_lcmp, o_i2l, o_l2i, o_i2b, o_i2c, o_iushr, o_lshl, o_lshr, o_if_eq, o_if_ne, o_if_lt, o_if_ge, o_if_gt, o_if_le, o_icmp_eq, o_icmp_ne, o_icmp_lt, o_icmp_ge, o_icmp_gt, o_icmp_le, o_ifnull, o_ifnonnull, o_acmp_eq, o_acmp_ne, o_is, o_ls, o_as, o_iinc, o_kill, o_sw, o_ireturn, o_zreturn, o_nreturn, o_lreturn, o_areturn, o_return, o_athrow, o_call, entP, lg_sl, Value.category, st1, st2, List.set, List.getElem?_cons_zero, List.getElem?_cons_succ, List.foldl, popN, aft]
    exact er σ' a _ rfl ((HL.ofNo f' hk k').up (by omega) (by omega)) e'
  | some b =>
    rw [hb] at ok
    have bb := numb_le hb
    have b1 : b < 2147483648 := by omega
    have bf : f ≤ 3000 := by have := ht.1; omega
    simp [onn, o_ic, o_lc, o_null, o_il, o_ll, o_al, o_dup, o_pop, o_dup_x1, o_dup2, o_iadd, o_isub, o_imul, o_iand, o_ior, o_ixor, o_ishl, o_ishr, o_idiv, o_irem, o_ineg, o_ladd, o_lsub, o_lmul, o_land, o_lor, o_lxor, o_ldiv, o_lrem, o_lneg, o_lcmp, o_i2l, o_l2i, o_i2b, o_i2c, o_iushr, o_lshl, o_lshr, o_if_eq, o_if_ne, o_if_lt, o_if_ge, o_if_gt, o_if_le, o_icmp_eq, o_icmp_ne, o_icmp_lt, o_icmp_ge, o_icmp_gt, o_icmp_le, o_ifnull, o_ifnonnull, o_acmp_eq, o_acmp_ne, o_is, o_ls, o_as, o_iinc, o_kill, o_sw, o_ireturn, o_zreturn, o_nreturn, o_lreturn, o_areturn, o_return, o_athrow, o_call, entP, lg_sl, Value.category, st1, st2, List.set, List.getElem?_cons_zero, List.getElem?_cons_succ, List.foldl, popN, aft, o_gI, o_gR, o_pI, o_pN, o_pR, o_aI, o_aG, o_aR, o_len, o_aR8, o_sI, o_sB, o_sZ, o_sG, o_new, o_newA, o_cast, o_inst, o_cst, o_oi, o_sR, o_gIc, o_gSv, o_gSc, o_getc, o_dead, o_acopy, o_castA, o_castI, o_sR7, o_mna, o_mmax, o_mmin, o_mabs, hT_sI, hT_sR, hT_sG, hL_sI, hL_sR, hL_sG, hI_sI, hI_sR, hI_sG, hG_sI, hG_sR, hG_sG, hR_sI, hR_sR, hR_sG, hN_sI, hN_sR, hN_sG, hC_sI, hC_sR, hC_sG, hS_sI, hS_sR, hS_sG, hT_nw, hL_nw, hI_nw, hG_nw, hR_nw, hN_nw, hC_nw, hS_nw, hvc, hvi, dspI, vref, va_rf, nn_eqL, nn_ltL, nn_leL, nn_Llt, nn_Lle, nn_lt, nn_le, nn_eq, nn_in, nn_clamp, nn_succ, nn_pos, nn_neg1, b1, bX3_target_20, h1', h4]
    refine cq_valueOf hk hK (by omega) (by omega) (by omega) (fun σ1 x k1 f1 i1 tg1 => ?_)
    have F1 : HL κ NoM NoM 1 1 σ σ1 := HL.ofNo f1 hk k1
    have t1 : hT σ1 nm = 19 := (F1.al g1 id).1
    have A1 := F1.al g1 id
    have A2 := F1.al g2 id
    have rn : 1 ≤ hC σ1 := by have := F1.C; omega
    have rs : 10 + 2 * xs.length ≤ hS σ1 := by have := F1.S; omega
    simp [o_ic, o_lc, o_null, o_il, o_ll, o_al, o_dup, o_pop, o_dup_x1, o_dup2, o_iadd, o_isub, o_imul, o_iand, o_ior, o_ixor, o_ishl, o_ishr, o_idiv, o_irem, o_ineg, o_ladd, o_lsub, o_lmul, o_land, o_lor, o_lxor, o_ldiv, o_lrem, o_lneg, o_lcmp, o_i2l, o_l2i, o_i2b, o_i2c, o_iushr, o_lshl, o_lshr, o_if_eq, o_if_ne, o_if_lt, o_if_ge, o_if_gt, o_if_le, o_icmp_eq, o_icmp_ne, o_icmp_lt, o_icmp_ge, o_icmp_gt, o_icmp_le, o_ifnull, o_ifnonnull, o_acmp_eq, o_acmp_ne, o_is, o_ls, o_as, o_iinc, o_kill, o_sw, o_ireturn, o_zreturn, o_nreturn, o_lreturn, o_areturn, o_return, o_athrow, o_call, entP, lg_sl, Value.category, st1, st2, List.set, List.getElem?_cons_zero, List.getElem?_cons_succ, List.foldl, popN, aft, o_gI, o_gR, o_pI, o_pN, o_pR, o_aI, o_aG, o_aR, o_len, o_aR8, o_sI, o_sB, o_sZ, o_sG, o_new, o_newA, o_cast, o_inst, o_cst, o_oi, o_sR, o_gIc, o_gSv, o_gSc, o_getc, o_dead, o_acopy, o_castA, o_castI, o_sR7, o_mna, o_mmax, o_mmin, o_mabs, hT_sI, hT_sR, hT_sG, hL_sI, hL_sR, hL_sG, hI_sI, hI_sR, hI_sG, hG_sI, hG_sR, hG_sG, hR_sI, hR_sR, hR_sG, hN_sI, hN_sR, hN_sG, hC_sI, hC_sR, hC_sG, hS_sI, hS_sR, hS_sG, hT_nw, hL_nw, hI_nw, hG_nw, hR_nw, hN_nw, hC_nw, hS_nw, hvc, hvi, dspI, vref, va_rf, t1]
    refine cq_add k1 A1 tg1 (by omega) rn rs (fun σ2 k2 f2 B1 => ?_)
    have F2 := HL.ofAdd f2 k1 k2 A1
    have B2 := F2.al A2 (fun q => h6 q.symm)
    have L2 : HL κ (ML rd nm na) NoM 2 (11 + 2 * xs.length) σ σ2 := by
      have := (F1.wk (M := ML rd nm na) (MR := NoM)).trans (F2.imp (M' := ML rd nm na) (fun _ z => Or.inr (Or.inl z)) (fun _ z => z))
      exact this.up (by omega) (by omega)
    have r12 : hT σ2 rd = 3 := L2.tg hk h1' (by decide)
    have e6 : hR σ2 rd 6 = some na := (L2.ref hk h1' (by decide) id 6).trans h5
    have e2 : hI σ2 rd 2 = nn f := by
      rw [F2.int k1 (t := 3) (F1.tg hk h1' (by decide)) (by decide) (fun q => by rw [q, g1.1] at h1'; cases h1') 2, F1.int hk h1' (by decide) id 2]; exact ht.2.1
    have hnmt : ∀ b, b = nm → hT σ1 b ≠ 20 ∧ hT σ1 b ≠ 60 ∧ hT σ1 b ≠ 1 ∧ hT σ1 b ≠ 102 := fun b q => by rw [q, t1]; decide
    have K2 : Kst κ σ2 := hK.hl hk L2
    have I2 : IntO σ2 x (nn b) := i1.hl k1 F2 (fun q => by have := hnmt x q; rcases i1.1 with z | z <;> omega)
    have g5' : ∀ (i : Nat) (q : Nat × Nat), nl[i]? = some q → ∃ x y, xs[i]? = some x ∧ IntO σ2 x (nn q.2) ∧ ys[i]? = some y ∧ IntO σ2 y (nn q.1) := fun i q hq => by
      obtain ⟨x', y', u1, u2, u3, u4⟩ := g5 i q hq
      have v2 := u2.hl hk F1 id
      have v4 := u4.hl hk F1 id
      exact ⟨x', y', u1, v2.hl k1 F2 (fun q => by have := hnmt x' q; rcases v2.1 with z | z <;> omega), u3, v4.hl k1 F2 (fun q => by have := hnmt y' q; rcases v4.1 with z | z <;> omega)⟩
    simp [o_ic, o_lc, o_null, o_il, o_ll, o_al, o_dup, o_pop, o_dup_x1, o_dup2, o_iadd, o_isub, o_imul, o_iand, o_ior, o_ixor, o_ishl, o_ishr, o_idiv, o_irem, o_ineg, o_ladd, o_lsub, o_lmul, o_land, o_lor, o_lxor, o_ldiv, o_lrem, o_lneg, o_lcmp, o_i2l, o_l2i, o_i2b, o_i2c, o_iushr, o_lshl, o_lshr, o_if_eq, o_if_ne, o_if_lt, o_if_ge, o_if_gt, o_if_le, o_icmp_eq, o_icmp_ne, o_icmp_lt, o_icmp_ge, o_icmp_gt, o_icmp_le, o_ifnull, o_ifnonnull, o_acmp_eq, o_acmp_ne, o_is, o_ls, o_as, o_iinc, o_kill, o_sw, o_ireturn, o_zreturn, o_nreturn, o_lreturn, o_areturn, o_return, o_athrow, o_call, entP, lg_sl, Value.category, st1, st2, List.set, List.getElem?_cons_zero, List.getElem?_cons_succ, List.foldl, popN, aft, o_gI, o_gR, o_pI, o_pN, o_pR, o_aI, o_aG, o_aR, o_len, o_aR8, o_sI, o_sB, o_sZ, o_sG, o_new, o_newA, o_cast, o_inst, o_cst, o_oi, o_sR, o_gIc, o_gSv, o_gSc, o_getc, o_dead, o_acopy, o_castA, o_castI, o_sR7, o_mna, o_mmax, o_mmin, o_mabs, hT_sI, hT_sR, hT_sG, hL_sI, hL_sR, hL_sG, hI_sI, hI_sR, hI_sG, hG_sI, hG_sR, hG_sG, hR_sI, hR_sR, hR_sG, hN_sI, hN_sR, hN_sG, hC_sI, hC_sR, hC_sG, hS_sI, hS_sR, hS_sG, hT_nw, hL_nw, hI_nw, hG_nw, hR_nw, hN_nw, hC_nw, hS_nw, hvc, hvi, dspI, vref, va_rf, r12, e6, e2]
    have rn2 : 1 ≤ hC σ2 := by have := L2.C; omega
    have rs2 : 1 ≤ hS σ2 := by have := L2.S; omega
    refine cq_valueOf k2 K2 (by omega) rn2 rs2 (fun σ3 y k3 f3 i3 tg3 => ?_)
    have F3 : HL κ NoM NoM 1 1 σ2 σ3 := HL.ofNo f3 k2 k3
    have t3 : hT σ3 na = 19 := (F3.al B2 id).1
    have C1 := F3.al B1 id
    have C2 := F3.al B2 id
    have rn3 : 1 ≤ hC σ3 := by have := L2.C; have := F3.C; omega
    have rs3 : 10 + 2 * ys.length ≤ hS σ3 := by have := L2.S; have := F3.S; omega
    simp [o_ic, o_lc, o_null, o_il, o_ll, o_al, o_dup, o_pop, o_dup_x1, o_dup2, o_iadd, o_isub, o_imul, o_iand, o_ior, o_ixor, o_ishl, o_ishr, o_idiv, o_irem, o_ineg, o_ladd, o_lsub, o_lmul, o_land, o_lor, o_lxor, o_ldiv, o_lrem, o_lneg, o_lcmp, o_i2l, o_l2i, o_i2b, o_i2c, o_iushr, o_lshl, o_lshr, o_if_eq, o_if_ne, o_if_lt, o_if_ge, o_if_gt, o_if_le, o_icmp_eq, o_icmp_ne, o_icmp_lt, o_icmp_ge, o_icmp_gt, o_icmp_le, o_ifnull, o_ifnonnull, o_acmp_eq, o_acmp_ne, o_is, o_ls, o_as, o_iinc, o_kill, o_sw, o_ireturn, o_zreturn, o_nreturn, o_lreturn, o_areturn, o_return, o_athrow, o_call, entP, lg_sl, Value.category, st1, st2, List.set, List.getElem?_cons_zero, List.getElem?_cons_succ, List.foldl, popN, aft, o_gI, o_gR, o_pI, o_pN, o_pR, o_aI, o_aG, o_aR, o_len, o_aR8, o_sI, o_sB, o_sZ, o_sG, o_new, o_newA, o_cast, o_inst, o_cst, o_oi, o_sR, o_gIc, o_gSv, o_gSc, o_getc, o_dead, o_acopy, o_castA, o_castI, o_sR7, o_mna, o_mmax, o_mmin, o_mabs, hT_sI, hT_sR, hT_sG, hL_sI, hL_sR, hL_sG, hI_sI, hI_sR, hI_sG, hG_sI, hG_sR, hG_sG, hR_sI, hR_sR, hR_sG, hN_sI, hN_sR, hN_sG, hC_sI, hC_sR, hC_sG, hS_sI, hS_sR, hS_sG, hT_nw, hL_nw, hI_nw, hG_nw, hR_nw, hN_nw, hC_nw, hS_nw, hvc, hvi, dspI, vref, va_rf, t3]
    refine cq_add k3 C2 tg3 (by omega) rn3 rs3 (fun σ4 k4 f4 D2 => ?_)
    have F4 := HL.ofAdd f4 k3 k4 C2
    have D1 := F4.al C1 h6
    have L4 : HL κ (ML rd nm na) NoM 4 (22 + 2 * xs.length + 2 * ys.length) σ σ4 := by
      have := (L2.trans (F3.wk (M := ML rd nm na) (MR := NoM))).trans (F4.imp (M' := ML rd nm na) (fun _ z => Or.inr (Or.inr z)) (fun _ z => z))
      exact this.up (by omega) (by omega)
    have hnat : ∀ b, b = na → hT σ3 b ≠ 20 ∧ hT σ3 b ≠ 60 ∧ hT σ3 b ≠ 1 ∧ hT σ3 b ≠ 102 := fun b q => by rw [q, t3]; decide
    have I4 : IntO σ4 x (nn b) := (I2.hl k2 F3 id).hl k3 F4 (fun q => by have := hnat x q; rcases (I2.hl k2 F3 id).1 with z | z <;> omega)
    have J4 : IntO σ4 y (nn f) := i3.hl k3 F4 (fun q => by have := hnat y q; rcases i3.1 with z | z <;> omega)
    have g6' : ∀ (i : Nat) (q : Nat × Nat), nl[i]? = some q → ∃ x y, xs[i]? = some x ∧ IntO σ4 x (nn q.2) ∧ ys[i]? = some y ∧ IntO σ4 y (nn q.1) := fun i q hq => by
      obtain ⟨x', y', u1, u2, u3, u4⟩ := g5' i q hq
      have v2 := u2.hl k2 F3 id
      have v4 := u4.hl k2 F3 id
      exact ⟨x', y', u1, v2.hl k3 F4 (fun q => by have := hnat x' q; rcases v2.1 with z | z <;> omega), u3, v4.hl k3 F4 (fun q => by have := hnat y' q; rcases v4.1 with z | z <;> omega)⟩
    have mt : ∀ b, ML rd nm na b ∨ NoM b → hT σ b ≠ 1 ∧ hT σ b ≠ 102 := fun b q => by
      rcases q with (q | q | q) | q
      · rw [q, h1']; decide
      · rw [q, g1.1]; decide
      · rw [q, g2.1]; decide
      · exact q.elim
    have R4 : RdrC σ4 rd o l := h3.hl hk L4 mt id
    have N4 : LnC κ σ4 rd o l nm na (nl ++ [(f, b)]) := ⟨k4, hK.hl hk L4, R4, (L4.ref hk h1' (by decide) id 5).trans h4, (L4.ref hk h1' (by decide) id 6).trans h5, h6, NmC.snoc D1 D2 g3 g4 g6' I4 J4⟩
    have r14 := R4.1
    have e3 : hI σ4 rd 3 = nn (tEnd (tpF l) l.length f) := by
      have a1 := F1.int hk h1' (by decide) id 3
      have a2 := F2.int k1 (t := 3) (F1.tg hk h1' (by decide)) (by decide) (fun q => by rw [q, g1.1] at h1'; cases h1') 3
      have a3 := F3.int k2 r12 (by decide) id 3
      have a4 := F4.int k3 (t := 3) (F3.tg k2 r12 (by decide)) (by decide) (fun q => by rw [q, g2.1] at h1'; cases h1') 3
      rw [a4, a3, a2, a1]; exact ht.2.2.1
    simp [o_ic, o_lc, o_null, o_il, o_ll, o_al, o_dup, o_pop, o_dup_x1, o_dup2, o_iadd, o_isub, o_imul, o_iand, o_ior, o_ixor, o_ishl, o_ishr, o_idiv, o_irem, o_ineg, o_ladd, o_lsub, o_lmul, o_land, o_lor, o_lxor, o_ldiv, o_lrem, o_lneg, o_lcmp, o_i2l, o_l2i, o_i2b, o_i2c, o_iushr, o_lshl, o_lshr, o_if_eq, o_if_ne, o_if_lt, o_if_ge, o_if_gt, o_if_le, o_icmp_eq, o_icmp_ne, o_icmp_lt, o_icmp_ge, o_icmp_gt, o_icmp_le, o_ifnull, o_ifnonnull, o_acmp_eq, o_acmp_ne, o_is, o_ls, o_as, o_iinc, o_kill, o_sw, o_ireturn, o_zreturn, o_nreturn, o_lreturn, o_areturn, o_return, o_athrow, o_call, entP, lg_sl, Value.category, st1, st2, List.set, List.getElem?_cons_zero, List.getElem?_cons_succ, List.foldl, popN, aft, o_gI, o_gR, o_pI, o_pN, o_pR, o_aI, o_aG, o_aR, o_len, o_aR8, o_sI, o_sB, o_sZ, o_sG, o_new, o_newA, o_cast, o_inst, o_cst, o_oi, o_sR, o_gIc, o_gSv, o_gSc, o_getc, o_dead, o_acopy, o_castA, o_castI, o_sR7, o_mna, o_mmax, o_mmin, o_mabs, hT_sI, hT_sR, hT_sG, hL_sI, hL_sR, hL_sG, hI_sI, hI_sR, hI_sG, hG_sI, hG_sR, hG_sG, hR_sI, hR_sR, hR_sG, hN_sI, hN_sR, hN_sG, hC_sI, hC_sR, hC_sG, hS_sI, hS_sR, hS_sG, hT_nw, hL_nw, hI_nw, hG_nw, hR_nw, hN_nw, hC_nw, hS_nw, hvc, hvi, dspI, vref, va_rf, r14]
    refine ct_next R4 (hK.hl hk L4) (tEnd_le (tpF l) ht.1) e3 (fun σ5 n5 t5 => ?_)
    have F5 := HL.nx k4 r14 n5
    simp [o_ic, o_lc, o_null, o_il, o_ll, o_al, o_dup, o_pop, o_dup_x1, o_dup2, o_iadd, o_isub, o_imul, o_iand, o_ior, o_ixor, o_ishl, o_ishr, o_idiv, o_irem, o_ineg, o_ladd, o_lsub, o_lmul, o_land, o_lor, o_lxor, o_ldiv, o_lrem, o_lneg, o_lcmp, o_i2l, o_l2i, o_i2b, o_i2c, o_iushr, o_lshl, o_lshr, o_if_eq, o_if_ne, o_if_lt, o_if_ge, o_if_gt, o_if_le, o_icmp_eq, o_icmp_ne, o_icmp_lt, o_icmp_ge, o_icmp_gt, o_icmp_le, o_ifnull, o_ifnonnull, o_acmp_eq, o_acmp_ne, o_is, o_ls, o_as, o_iinc, o_kill, o_sw, o_ireturn, o_zreturn, o_nreturn, o_lreturn, o_areturn, o_return, o_athrow, o_call, entP, lg_sl, Value.category, st1, st2, List.set, List.getElem?_cons_zero, List.getElem?_cons_succ, List.foldl, popN, aft]
    refine ok σ5 b _ rfl ((L4.trans (F5.imp (M' := ML rd nm na) (fun _ z => Or.inl z) (fun _ z => z))).up (by omega) (by omega)) (N4.rdr F5) t5
