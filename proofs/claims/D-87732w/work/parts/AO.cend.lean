/-! THE COMPONENT: ends of blocks -/
set_option maxRecDepth 100000
section GT
variable {κ : Nat → Option Nat} {M MR : Nat → Prop} {c s : Nat} {σ σ' : AH} {Q : Ret AH}
theorem ItsC.get : ∀ {as : List Nat} {its : List Itm} {lo hi j a : Nat} {it : Itm}, ItsC κ σ as its lo hi → as[j]? = some a → its[j]? = some it → ∃ m m', lo ≤ m ∧ m' ≤ hi ∧ ItmC κ σ a it m m'
  | [], [], _, _, _, _, _, _, h1, _ => by simp at h1
  | a :: as, it :: its, lo, hi, 0, _, _, h, h1, h2 => by
    obtain ⟨mid, q1, q2⟩ := h
    simp at h1 h2
    subst h1; subst h2
    exact ⟨lo, mid, Nat.le_refl _, ItsC.le q2, q1⟩
  | a :: as, it :: its, lo, hi, j + 1, _, _, h, h1, h2 => by
    obtain ⟨mid, q1, q2⟩ := h
    simp at h1 h2
    obtain ⟨m, m', e1, e2, e3⟩ := ItsC.get q2 h1 h2
    have := q1.1
    have := q1.2.1
    exact ⟨m, m', by omega, e2, e3⟩
  | [], _ :: _, _, _, _, _, _, h, _, _ => h.elim
  | _ :: _, [], _, _, _, _, _, h, _, _ => h.elim
theorem BksC.get : ∀ {ws : List (Nat × List Nat)} {bs : List (List Itm)} {lo hi b : Nat} {w : Nat × List Nat} {its : List Itm}, BksC κ σ ws bs lo hi → ws[b]? = some w → bs[b]? = some its → lo ≤ w.1 ∧ AL κ σ w.1 w.2 ∧ ∃ m, m ≤ hi ∧ ItsC κ σ w.2 its (w.1 + 1) m
  | [], [], _, _, _, _, _, _, h1, _ => by simp at h1
  | w :: ws, b :: bs, lo, hi, 0, _, _, h, h1, h2 => by
    obtain ⟨mid, ⟨q1, q2, q3⟩, q4⟩ := h
    simp at h1 h2
    subst h1; subst h2
    exact ⟨q1, q2, mid, BksC.le q4, q3⟩
  | w :: ws, b :: bs, lo, hi, j + 1, _, _, h, h1, h2 => by
    obtain ⟨mid, ⟨q1, q2, q3⟩, q4⟩ := h
    simp at h1 h2
    obtain ⟨e1, e2⟩ := BksC.get q4 h1 h2
    have := ItsC.le q3
    exact ⟨by omega, e2⟩
  | [], _ :: _, _, _, _, _, _, h, _, _ => h.elim
  | _ :: _, [], _, _, _, _, _, h, _, _ => h.elim
/-- an end's object -/
def EndA (σ : AH) (R : Rt) (b a : Nat) : Prop := hT σ a = 7 + (endI R b).1 ∧ 4 ≤ (endI R b).1 ∧ (endI R b).1 ≤ 6 ∧ ((endI R b).1 = 4 → ∃ t, iT (endI R b) = [t] ∧ hI σ a 4 = nn t.2) ∧ ((endI R b).1 = 5 → ∃ t u, iT (endI R b) = [t, u] ∧ hI σ a 6 = nn t.2 ∧ hI σ a 7 = nn u.2) ∧ ((endI R b).1 = 6 → iT (endI R b) = [])
def eA (wss : List (Nat × List Nat)) (b : Nat) : Nat := (wss.getD b (0, [])).2.getLastD 0
/-- a routine's blocks and their ends -/
def EndV (κ : Nat → Option Nat) (σ : AH) (r : Nat) (R : Rt) (wss : List (Nat × List Nat)) : Prop := ∃ bl, hT σ r = 4 ∧ hR σ r 0 = some bl ∧ AL κ σ bl (wss.map (·.1)) ∧ wss.length = R.2.length ∧ R.2.length ≤ 40 ∧ ∀ b w, wss[b]? = some w → AL κ σ w.1 w.2 ∧ 0 < w.2.length ∧ EndA σ R b (eA wss b)
theorem EndA.hl {R : Rt} {b a : Nat} (h : EndA σ R b a) (hk : Hok κ σ) (hF : HL κ M MR c s σ σ') (hm : ¬ M a) : EndA σ' R b a := by
  obtain ⟨h1, h2, h3, h4, h5, h6⟩ := h
  have g := fun j => hF.int hk h1 (by omega) hm j
  refine ⟨hF.tg hk h1 (by omega), h2, h3, fun q => ?_, fun q => ?_, h6⟩
  · obtain ⟨t, e1, e2⟩ := h4 q
    exact ⟨t, e1, (g 4).trans e2⟩
  · obtain ⟨t, u, e1, e2, e3⟩ := h5 q
    exact ⟨t, u, e1, (g 6).trans e2, (g 7).trans e3⟩
theorem EndV.new {R : Rt} {r : Nat} {wss : List (Nat × List Nat)} (h : EndV κ σ r R wss) (hk : Hok κ σ) (hF : HL κ NoM NoM c s σ σ') : EndV κ σ' r R wss := by
  obtain ⟨bl, h1, h2, h3, h4, h5, h6⟩ := h
  refine ⟨bl, hF.tg hk h1 (by decide), (hF.ref hk h1 (by decide) id 0).trans h2, hF.al h3 id, h4, h5, fun b w hb => ?_⟩
  obtain ⟨e1, e2, e3⟩ := h6 b w hb
  exact ⟨hF.al e1 id, e2, e3.hl hk hF id⟩
theorem hv_size {a : Nat} {l : List Nat} (h : AL κ σ a l) (k : Q (.inl (some (.int (nn l.length)))) σ) : hvc [(19, pJ2_size κ)] [.ref a] σ Q := by
  simp [hvc, dspI, h.1]
  exact cq_size h k
theorem hv_get {a i x : Nat} {l : List Nat} (h : AL κ σ a l) (hx : l[i]? = some x) (k : Q (.inl (some (.ref x))) σ) : hvc [(19, pJ2_get κ)] [.ref a, .int (nn i)] σ Q := by
  simp [hvc, dspI, h.1]
  exact cq_get h hx k
theorem hv_int {x : Nat} {v : Int32} (h : IntO σ x v) (k : Q (.inl (some (.int v))) σ) : hvc [(20, pJ13_intValue κ), (60, pJ13_intValue κ)] [.ref x] σ Q := by
  rcases h.1 with t | t
  · simp [hvc, dspI, t]
    exact cq_intValue h k
  · simp [hvc, dspI, t]
    exact cq_intValue h k
theorem ct_end {R : Rt} {r b : Nat} {wss : List (Nat × List Nat)} (h : EndV κ σ r R wss) (hb : b < R.2.length) (k : Q (.inl (some (.ref (eA wss b)))) σ) : pX4_end κ [.ref r, .int (nn b)] σ Q := by
  obtain ⟨bl, h1, h2, h3, h4, h5, h6⟩ := h
  have hb' : b < wss.length := by omega
  have hg : wss[b]? = some wss[b] := List.getElem?_eq_getElem hb'
  obtain ⟨e1, e2, e3⟩ := h6 b _ hg
  have hm : (wss.map (·.1))[b]? = some wss[b].1 := by rw [List.getElem?_map, hg]; rfl
  have hea : wss[b].2[wss[b].2.length - 1]? = some (eA wss b) := by
    unfold eA
    rw [List.getD_eq_getElem?_getD, hg]
    simp only [Option.getD_some]
    rw [← List.getLast?_eq_getElem?, List.getLastD_eq_getLast?, List.getLast?_eq_some_getLast (by intro q; rw [q] at e2; simp at e2)]
    rfl
  have te : hT σ (eA wss b) = 11 ∨ hT σ (eA wss b) = 12 ∨ hT σ (eA wss b) = 13 := by obtain ⟨q1, q2, q3, -⟩ := e3; omega
  simp [pX4_end, bX4_end_0, o_ic, o_lc, o_null, o_il, o_ll, o_al, o_dup, o_pop, o_dup_x1, o_dup2, o_iadd, o_isub, o_imul, o_iand, o_ior, o_ixor, o_ishl, o_ishr, o_idiv, o_irem, o_ineg, o_ladd, o_lsub, o_lmul, o_land, o_lor, o_lxor, o_ldiv, o_lrem, o_lneg, o_lcmp, o_i2l, o_l2i, o_i2b, o_i2c, o_iushr, o_lshl, o_lshr, o_if_eq, o_if_ne, o_if_lt, o_if_ge, o_if_gt, o_if_le, o_icmp_eq, o_icmp_ne, o_icmp_lt, o_icmp_ge, o_icmp_gt, o_icmp_le, o_ifnull, o_ifnonnull, o_acmp_eq, o_acmp_ne, o_is, o_ls, o_as, o_iinc, o_kill, o_sw, o_ireturn, o_zreturn, o_nreturn, o_lreturn, o_areturn, o_return, o_athrow, o_call, entP, lg_sl, Value.category, st1, st2, List.set, List.getElem?_cons_zero, List.getElem?_cons_succ, List.foldl, popN, aft, o_gI, o_gR, o_pI, o_pN, o_pR, o_aI, o_aG, o_aR, o_len, o_aR8, o_sI, o_sB, o_sZ, o_sG, o_new, o_newA, o_cast, o_inst, o_cst, o_oi, o_sR, o_gIc, o_gSv, o_gSc, o_getc, o_dead, o_acopy, o_castA, o_castI, o_sR7, o_mna, o_mmax, o_mmin, o_mabs, h1, h2, va_rf]
  refine hv_get h3 hm ?_
  simp [o_ic, o_lc, o_null, o_il, o_ll, o_al, o_dup, o_pop, o_dup_x1, o_dup2, o_iadd, o_isub, o_imul, o_iand, o_ior, o_ixor, o_ishl, o_ishr, o_idiv, o_irem, o_ineg, o_ladd, o_lsub, o_lmul, o_land, o_lor, o_lxor, o_ldiv, o_lrem, o_lneg, o_lcmp, o_i2l, o_l2i, o_i2b, o_i2c, o_iushr, o_lshl, o_lshr, o_if_eq, o_if_ne, o_if_lt, o_if_ge, o_if_gt, o_if_le, o_icmp_eq, o_icmp_ne, o_icmp_lt, o_icmp_ge, o_icmp_gt, o_icmp_le, o_ifnull, o_ifnonnull, o_acmp_eq, o_acmp_ne, o_is, o_ls, o_as, o_iinc, o_kill, o_sw, o_ireturn, o_zreturn, o_nreturn, o_lreturn, o_areturn, o_return, o_athrow, o_call, entP, lg_sl, Value.category, st1, st2, List.set, List.getElem?_cons_zero, List.getElem?_cons_succ, List.foldl, popN, aft, o_gI, o_gR, o_pI, o_pN, o_pR, o_aI, o_aG, o_aR, o_len, o_aR8, o_sI, o_sB, o_sZ, o_sG, o_new, o_newA, o_cast, o_inst, o_cst, o_oi, o_sR, o_gIc, o_gSv, o_gSc, o_getc, o_dead, o_acopy, o_castA, o_castI, o_sR7, o_mna, o_mmax, o_mmin, o_mabs, e1.1, h1, h2, va_rf]
  refine hv_get h3 hm ?_
  simp [o_ic, o_lc, o_null, o_il, o_ll, o_al, o_dup, o_pop, o_dup_x1, o_dup2, o_iadd, o_isub, o_imul, o_iand, o_ior, o_ixor, o_ishl, o_ishr, o_idiv, o_irem, o_ineg, o_ladd, o_lsub, o_lmul, o_land, o_lor, o_lxor, o_ldiv, o_lrem, o_lneg, o_lcmp, o_i2l, o_l2i, o_i2b, o_i2c, o_iushr, o_lshl, o_lshr, o_if_eq, o_if_ne, o_if_lt, o_if_ge, o_if_gt, o_if_le, o_icmp_eq, o_icmp_ne, o_icmp_lt, o_icmp_ge, o_icmp_gt, o_icmp_le, o_ifnull, o_ifnonnull, o_acmp_eq, o_acmp_ne, o_is, o_ls, o_as, o_iinc, o_kill, o_sw, o_ireturn, o_zreturn, o_nreturn, o_lreturn, o_areturn, o_return, o_athrow, o_call, entP, lg_sl, Value.category, st1, st2, List.set, List.getElem?_cons_zero, List.getElem?_cons_succ, List.foldl, popN, aft, o_gI, o_gR, o_pI, o_pN, o_pR, o_aI, o_aG, o_aR, o_len, o_aR8, o_sI, o_sB, o_sZ, o_sG, o_new, o_newA, o_cast, o_inst, o_cst, o_oi, o_sR, o_gIc, o_gSv, o_gSc, o_getc, o_dead, o_acopy, o_castA, o_castI, o_sR7, o_mna, o_mmax, o_mmin, o_mabs, e1.1]
  refine hv_size e1 ?_
  have n1 : nn wss[b].2.length - 1 = nn (wss[b].2.length - 1) := nn_pred e2
  simp [o_ic, o_lc, o_null, o_il, o_ll, o_al, o_dup, o_pop, o_dup_x1, o_dup2, o_iadd, o_isub, o_imul, o_iand, o_ior, o_ixor, o_ishl, o_ishr, o_idiv, o_irem, o_ineg, o_ladd, o_lsub, o_lmul, o_land, o_lor, o_lxor, o_ldiv, o_lrem, o_lneg, o_lcmp, o_i2l, o_l2i, o_i2b, o_i2c, o_iushr, o_lshl, o_lshr, o_if_eq, o_if_ne, o_if_lt, o_if_ge, o_if_gt, o_if_le, o_icmp_eq, o_icmp_ne, o_icmp_lt, o_icmp_ge, o_icmp_gt, o_icmp_le, o_ifnull, o_ifnonnull, o_acmp_eq, o_acmp_ne, o_is, o_ls, o_as, o_iinc, o_kill, o_sw, o_ireturn, o_zreturn, o_nreturn, o_lreturn, o_areturn, o_return, o_athrow, o_call, entP, lg_sl, Value.category, st1, st2, List.set, List.getElem?_cons_zero, List.getElem?_cons_succ, List.foldl, popN, aft, o_gI, o_gR, o_pI, o_pN, o_pR, o_aI, o_aG, o_aR, o_len, o_aR8, o_sI, o_sB, o_sZ, o_sG, o_new, o_newA, o_cast, o_inst, o_cst, o_oi, o_sR, o_gIc, o_gSv, o_gSc, o_getc, o_dead, o_acopy, o_castA, o_castI, o_sR7, o_mna, o_mmax, o_mmin, o_mabs, n1]
  refine hv_get e1 hea ?_
  simp [o_ic, o_lc, o_null, o_il, o_ll, o_al, o_dup, o_pop, o_dup_x1, o_dup2, o_iadd, o_isub, o_imul, o_iand, o_ior, o_ixor, o_ishl, o_ishr, o_idiv, o_irem, o_ineg, o_ladd, o_lsub, o_lmul, o_land, o_lor, o_lxor, o_ldiv, o_lrem, o_lneg, o_lcmp, o_i2l, o_l2i, o_i2b, o_i2c, o_iushr, o_lshl, o_lshr, o_if_eq, o_if_ne, o_if_lt, o_if_ge, o_if_gt, o_if_le, o_icmp_eq, o_icmp_ne, o_icmp_lt, o_icmp_ge, o_icmp_gt, o_icmp_le, o_ifnull, o_ifnonnull, o_acmp_eq, o_acmp_ne, o_is, o_ls, o_as, o_iinc, o_kill, o_sw, o_ireturn, o_zreturn, o_nreturn, o_lreturn, o_areturn, o_return, o_athrow, o_call, entP, lg_sl, Value.category, st1, st2, List.set, List.getElem?_cons_zero, List.getElem?_cons_succ, List.foldl, popN, aft, o_gI, o_gR, o_pI, o_pN, o_pR, o_aI, o_aG, o_aR, o_len, o_aR8, o_sI, o_sB, o_sZ, o_sG, o_new, o_newA, o_cast, o_inst, o_cst, o_oi, o_sR, o_gIc, o_gSv, o_gSc, o_getc, o_dead, o_acopy, o_castA, o_castI, o_sR7, o_mna, o_mmax, o_mmin, o_mabs, te]
  exact k
theorem ct_ways {R : Rt} {b a : Nat} (h : EndA σ R b a) (k : Q (.inl (some (.int (nn (iT (endI R b)).length)))) σ) : hvc [(11, pX11_ways κ), (12, pX12_ways κ), (13, pX10_ways κ)] [.ref a] σ Q := by
  obtain ⟨h1, h2, h3, h4, h5, h6⟩ := h
  have hc : (endI R b).1 = 4 ∨ (endI R b).1 = 5 ∨ (endI R b).1 = 6 := by omega
  rcases hc with c | c | c
  · obtain ⟨t, e1, e2⟩ := h4 c
    rw [c] at h1; rw [e1] at k
    simp [hvc, dspI, h1, pX11_ways, bX11_ways_0, o_ic, o_lc, o_null, o_il, o_ll, o_al, o_dup, o_pop, o_dup_x1, o_dup2, o_iadd, o_isub, o_imul, o_iand, o_ior, o_ixor, o_ishl, o_ishr, o_idiv, o_irem, o_ineg, o_ladd, o_lsub, o_lmul, o_land, o_lor, o_lxor, o_ldiv, o_lrem, o_lneg, o_lcmp, o_i2l, o_l2i, o_i2b, o_i2c, o_iushr, o_lshl, o_lshr, o_if_eq, o_if_ne, o_if_lt, o_if_ge, o_if_gt, o_if_le, o_icmp_eq, o_icmp_ne, o_icmp_lt, o_icmp_ge, o_icmp_gt, o_icmp_le, o_ifnull, o_ifnonnull, o_acmp_eq, o_acmp_ne, o_is, o_ls, o_as, o_iinc, o_kill, o_sw, o_ireturn, o_zreturn, o_nreturn, o_lreturn, o_areturn, o_return, o_athrow, o_call, entP, lg_sl, Value.category, st1, st2, List.set, List.getElem?_cons_zero, List.getElem?_cons_succ, List.foldl, popN, aft]
    exact k
  · obtain ⟨t, u, e1, e2, e3⟩ := h5 c
    rw [c] at h1; rw [e1] at k
    simp [hvc, dspI, h1, pX12_ways, bX12_ways_0, o_ic, o_lc, o_null, o_il, o_ll, o_al, o_dup, o_pop, o_dup_x1, o_dup2, o_iadd, o_isub, o_imul, o_iand, o_ior, o_ixor, o_ishl, o_ishr, o_idiv, o_irem, o_ineg, o_ladd, o_lsub, o_lmul, o_land, o_lor, o_lxor, o_ldiv, o_lrem, o_lneg, o_lcmp, o_i2l, o_l2i, o_i2b, o_i2c, o_iushr, o_lshl, o_lshr, o_if_eq, o_if_ne, o_if_lt, o_if_ge, o_if_gt, o_if_le, o_icmp_eq, o_icmp_ne, o_icmp_lt, o_icmp_ge, o_icmp_gt, o_icmp_le, o_ifnull, o_ifnonnull, o_acmp_eq, o_acmp_ne, o_is, o_ls, o_as, o_iinc, o_kill, o_sw, o_ireturn, o_zreturn, o_nreturn, o_lreturn, o_areturn, o_return, o_athrow, o_call, entP, lg_sl, Value.category, st1, st2, List.set, List.getElem?_cons_zero, List.getElem?_cons_succ, List.foldl, popN, aft]
    exact k
  · rw [c] at h1; rw [h6 c] at k
    simp [hvc, dspI, h1, pX10_ways, bX10_ways_0, o_ic, o_lc, o_null, o_il, o_ll, o_al, o_dup, o_pop, o_dup_x1, o_dup2, o_iadd, o_isub, o_imul, o_iand, o_ior, o_ixor, o_ishl, o_ishr, o_idiv, o_irem, o_ineg, o_ladd, o_lsub, o_lmul, o_land, o_lor, o_lxor, o_ldiv, o_lrem, o_lneg, o_lcmp, o_i2l, o_l2i, o_i2b, o_i2c, o_iushr, o_lshl, o_lshr, o_if_eq, o_if_ne, o_if_lt, o_if_ge, o_if_gt, o_if_le, o_icmp_eq, o_icmp_ne, o_icmp_lt, o_icmp_ge, o_icmp_gt, o_icmp_le, o_ifnull, o_ifnonnull, o_acmp_eq, o_acmp_ne, o_is, o_ls, o_as, o_iinc, o_kill, o_sw, o_ireturn, o_zreturn, o_nreturn, o_lreturn, o_areturn, o_return, o_athrow, o_call, entP, lg_sl, Value.category, st1, st2, List.set, List.getElem?_cons_zero, List.getElem?_cons_succ, List.foldl, popN, aft]
    exact k
theorem ct_way {R : Rt} {b a w : Nat} {t : Nat × Nat} (h : EndA σ R b a) (hw : (iT (endI R b))[w]? = some t) (k : Q (.inl (some (.int (nn t.2)))) σ) : hvc [(11, pX11_way κ), (12, pX12_way κ), (13, pX10_way κ)] [.ref a, .int (nn w)] σ Q := by
  obtain ⟨h1, h2, h3, h4, h5, h6⟩ := h
  have hc : (endI R b).1 = 4 ∨ (endI R b).1 = 5 ∨ (endI R b).1 = 6 := by omega
  rcases hc with c | c | c
  · obtain ⟨t', e1, e2⟩ := h4 c
    rw [c] at h1; rw [e1] at hw
    have hw0 : w = 0 := by have := (List.getElem?_eq_some_iff.1 hw).1; simpa using this
    subst hw0
    simp at hw
    subst hw
    simp [hvc, dspI, h1, pX11_way, bX11_way_0, o_ic, o_lc, o_null, o_il, o_ll, o_al, o_dup, o_pop, o_dup_x1, o_dup2, o_iadd, o_isub, o_imul, o_iand, o_ior, o_ixor, o_ishl, o_ishr, o_idiv, o_irem, o_ineg, o_ladd, o_lsub, o_lmul, o_land, o_lor, o_lxor, o_ldiv, o_lrem, o_lneg, o_lcmp, o_i2l, o_l2i, o_i2b, o_i2c, o_iushr, o_lshl, o_lshr, o_if_eq, o_if_ne, o_if_lt, o_if_ge, o_if_gt, o_if_le, o_icmp_eq, o_icmp_ne, o_icmp_lt, o_icmp_ge, o_icmp_gt, o_icmp_le, o_ifnull, o_ifnonnull, o_acmp_eq, o_acmp_ne, o_is, o_ls, o_as, o_iinc, o_kill, o_sw, o_ireturn, o_zreturn, o_nreturn, o_lreturn, o_areturn, o_return, o_athrow, o_call, entP, lg_sl, Value.category, st1, st2, List.set, List.getElem?_cons_zero, List.getElem?_cons_succ, List.foldl, popN, aft, o_gI, o_gR, o_pI, o_pN, o_pR, o_aI, o_aG, o_aR, o_len, o_aR8, o_sI, o_sB, o_sZ, o_sG, o_new, o_newA, o_cast, o_inst, o_cst, o_oi, o_sR, o_gIc, o_gSv, o_gSc, o_getc, o_dead, o_acopy, o_castA, o_castI, o_sR7, o_mna, o_mmax, o_mmin, o_mabs, e2]
    exact k
  · obtain ⟨t', u', e1, e2, e3⟩ := h5 c
    rw [c] at h1; rw [e1] at hw
    have hw0 : w = 0 ∨ w = 1 := by have := (List.getElem?_eq_some_iff.1 hw).1; simp at this; omega
    rcases hw0 with rfl | rfl
    · simp at hw
      subst hw
      simp [hvc, dspI, h1, pX12_way, bX12_way_15, bX12_way_11, bX12_way_0, o_ic, o_lc, o_null, o_il, o_ll, o_al, o_dup, o_pop, o_dup_x1, o_dup2, o_iadd, o_isub, o_imul, o_iand, o_ior, o_ixor, o_ishl, o_ishr, o_idiv, o_irem, o_ineg, o_ladd, o_lsub, o_lmul, o_land, o_lor, o_lxor, o_ldiv, o_lrem, o_lneg, o_lcmp, o_i2l, o_l2i, o_i2b, o_i2c, o_iushr, o_lshl, o_lshr, o_if_eq, o_if_ne, o_if_lt, o_if_ge, o_if_gt, o_if_le, o_icmp_eq, o_icmp_ne, o_icmp_lt, o_icmp_ge, o_icmp_gt, o_icmp_le, o_ifnull, o_ifnonnull, o_acmp_eq, o_acmp_ne, o_is, o_ls, o_as, o_iinc, o_kill, o_sw, o_ireturn, o_zreturn, o_nreturn, o_lreturn, o_areturn, o_return, o_athrow, o_call, entP, lg_sl, Value.category, st1, st2, List.set, List.getElem?_cons_zero, List.getElem?_cons_succ, List.foldl, popN, aft, o_gI, o_gR, o_pI, o_pN, o_pR, o_aI, o_aG, o_aR, o_len, o_aR8, o_sI, o_sB, o_sZ, o_sG, o_new, o_newA, o_cast, o_inst, o_cst, o_oi, o_sR, o_gIc, o_gSv, o_gSc, o_getc, o_dead, o_acopy, o_castA, o_castI, o_sR7, o_mna, o_mmax, o_mmin, o_mabs, e2]
      rw [show (nn 0) = 0 from rfl]
      simpa using k
    · simp at hw
      subst hw
      simp [hvc, dspI, h1, pX12_way, bX12_way_15, bX12_way_11, bX12_way_0, o_ic, o_lc, o_null, o_il, o_ll, o_al, o_dup, o_pop, o_dup_x1, o_dup2, o_iadd, o_isub, o_imul, o_iand, o_ior, o_ixor, o_ishl, o_ishr, o_idiv, o_irem, o_ineg, o_ladd, o_lsub, o_lmul, o_land, o_lor, o_lxor, o_ldiv, o_lrem, o_lneg, o_lcmp, o_i2l, o_l2i, o_i2b, o_i2c, o_iushr, o_lshl, o_lshr, o_if_eq, o_if_ne, o_if_lt, o_if_ge, o_if_gt, o_if_le, o_icmp_eq, o_icmp_ne, o_icmp_lt, o_icmp_ge, o_icmp_gt, o_icmp_le, o_ifnull, o_ifnonnull, o_acmp_eq, o_acmp_ne, o_is, o_ls, o_as, o_iinc, o_kill, o_sw, o_ireturn, o_zreturn, o_nreturn, o_lreturn, o_areturn, o_return, o_athrow, o_call, entP, lg_sl, Value.category, st1, st2, List.set, List.getElem?_cons_zero, List.getElem?_cons_succ, List.foldl, popN, aft, o_gI, o_gR, o_pI, o_pN, o_pR, o_aI, o_aG, o_aR, o_len, o_aR8, o_sI, o_sB, o_sZ, o_sG, o_new, o_newA, o_cast, o_inst, o_cst, o_oi, o_sR, o_gIc, o_gSv, o_gSc, o_getc, o_dead, o_acopy, o_castA, o_castI, o_sR7, o_mna, o_mmax, o_mmin, o_mabs, e3]
      rw [show (nn 1) = 1 from rfl]
      simpa using k
  · rw [h6 c] at hw
    simp at hw
end GT
