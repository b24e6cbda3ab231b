/-! THE COMPONENT: a block, all blocks -/
set_option maxRecDepth 100000
section BK
variable {κ : Nat → Option Nat} {Q : Ret AH} {σ σ' σ0 : AH} {rd o f c s ln : Nat} {l ws hds : List Nat} {nl : List (Nat × Nat)}
theorem CX.hd {x : Nat} {xs : List Nat} {p : Nat} (C : CX κ σ rd ln ws hds) (L : LRd κ σ rd o l nl f) (F : HL κ (EqM (rd + 8)) NoM c s σ σ') (A : AL κ σ' (rd + 8) (xs ++ [x])) (t8 : hT σ (rd + 8) = 19) (hl : xs.length = hds.length) (hx : ∀ (i h : Nat), hds[i]? = some h → ∃ y, xs[i]? = some y ∧ IntO σ y (nn h)) (hi : IntO σ x (nn p)) : LRd κ σ' rd o l nl f ∧ CX κ σ' rd ln ws (hds ++ [p]) := by
  have hm3 : ∀ b, EqM (rd + 8) b → hT σ b = 19 := fun b q => by rw [show b = rd + 8 from q]; exact t8
  refine ⟨L.hl F (by show ¬ rd = rd + 8; omega) (by show ¬ rd + 6 = rd + 8; omega) (by show ¬ rd + 7 = rd + 8; omega) (fun b q => by rw [hm3 b q]; decide), ?_⟩
  obtain ⟨a1, a2, a3, a4, a5, a6, a7, a8, a9, b1, b2, b3, b4, -⟩ := C
  have hk := L.ok
  have gi := fun j => F.int hk a3 (by decide) (M := EqM (rd + 8)) (by show ¬ rd + 1 = rd + 8; omega) j
  have gr := fun j => F.ref hk a3 (by decide) id j
  have gd := fun j => F.ref hk L.rd3 (by decide) id j
  have io : ∀ y v, IntO σ y v → IntO σ' y v := fun y v q => q.hl hk F (fun z => by have := hm3 y z; rcases q.1 with w | w <;> omega)
  refine ⟨(gd 0).trans a1, (gd 7).trans a2, F.tg hk a3 (by decide), (gr 0).trans a4, (gr 1).trans a5, (gr 2).trans a6, (gr 3).trans a7, (gi 4).trans a8, (gi 5).trans a9, F.al b1 (by show ¬ rd + 2 = rd + 8; omega), F.al b2 (by show ¬ rd + 3 = rd + 8; omega), F.al b3 (by show ¬ rd + 4 = rd + 8; omega), F.al b4 (by show ¬ rd + 5 = rd + 8; omega), _, A, by simp [hl], fun i h hh => ?_⟩
  by_cases z : i < hds.length
  · rw [List.getElem?_append_left z] at hh
    obtain ⟨y, e1, e2⟩ := hx i h hh
    exact ⟨y, by rw [List.getElem?_append_left (by omega)]; exact e1, io y _ e2⟩
  · have hi' := (List.getElem?_eq_some_iff.1 hh).1
    simp at hi'
    have e : i = hds.length := by omega
    subst e
    simp at hh
    subst hh
    refine ⟨x, ?_, io x _ hi⟩
    rw [← hl]; simp
theorem CX.bk {w : Nat} (C : CX κ σ rd ln ws hds) (L : LRd κ σ rd o l nl f) (F : HL κ (EqM (rd + 2)) NoM c s σ σ') (A : AL κ σ' (rd + 2) (ws ++ [w])) : LRd κ σ' rd o l nl f ∧ CX κ σ' rd ln (ws ++ [w]) hds := by
  obtain ⟨a1, a2, a3, a4, a5, a6, a7, a8, a9, b1, b2, b3, b4, xs, b5, b6, b7⟩ := C
  have hm3 : ∀ b, EqM (rd + 2) b → hT σ b = 19 := fun b q => by rw [show b = rd + 2 from q]; exact b1.1
  refine ⟨L.hl F (by show ¬ rd = rd + 2; omega) (by show ¬ rd + 6 = rd + 2; omega) (by show ¬ rd + 7 = rd + 2; omega) (fun b q => by rw [hm3 b q]; decide), ?_⟩
  have hk := L.ok
  have gi := fun j => F.int hk a3 (by decide) (M := EqM (rd + 2)) (by show ¬ rd + 1 = rd + 2; omega) j
  have gr := fun j => F.ref hk a3 (by decide) id j
  have gd := fun j => F.ref hk L.rd3 (by decide) id j
  have io : ∀ y v, IntO σ y v → IntO σ' y v := fun y v q => q.hl hk F (fun z => by have := hm3 y z; rcases q.1 with w | w <;> omega)
  refine ⟨(gd 0).trans a1, (gd 7).trans a2, F.tg hk a3 (by decide), (gr 0).trans a4, (gr 1).trans a5, (gr 2).trans a6, (gr 3).trans a7, (gi 4).trans a8, (gi 5).trans a9, A, F.al b2 (by show ¬ rd + 3 = rd + 2; omega), F.al b3 (by show ¬ rd + 4 = rd + 2; omega), F.al b4 (by show ¬ rd + 5 = rd + 2; omega), xs, F.al b5 (by show ¬ rd + 8 = rd + 2; omega), b6, fun i h hh => ?_⟩
  obtain ⟨y, e1, e2⟩ := b7 i h hh
  exact ⟨y, e1, io y _ e2⟩
theorem CX.new (C : CX κ σ rd ln ws hds) (L : LRd κ σ rd o l nl f) (F : HL κ NoM NoM c s σ σ') : LRd κ σ' rd o l nl f ∧ CX κ σ' rd ln ws hds := ⟨L.hl F id id id (fun _ q => q.elim), C.hl L.rd3 L.ok F (fun _ _ _ q => q) id (fun _ q => q.elim)⟩
theorem Off.M9 {rd lo hi : Nat} {M : Nat → Prop} (h : ∀ b, M b → rd ≤ b ∧ b < rd + 9) (hl : rd + 9 ≤ lo) : Off M NoM lo hi := fun a h1 _ => ⟨fun q => by have := h a q; omega, id⟩
theorem m3_9 {rd b : Nat} (q : M3 rd b) : rd ≤ b ∧ b < rd + 9 := by rcases q with q | q | q <;> omega
theorem ls_block {wss : List (Nat × List Nat)} {bs : List (List Itm)} (L : LRd κ σ rd o l nl f) (C : CX κ σ rd ln ws hds) (B : BksC κ σ wss bs (rd + 9) (hN σ)) (ews : wss.map (·.1) = ws) (hh : hds.length = ws.length) (H0 : HL κ (M9 rd) NoM (20 * ln + 10 * ws.length) (ln * ln + 60 * ln + 422 * nl.length + 300 * ws.length) σ0 σ) (hk0 : Hok κ σ0) (hln : ln ≤ 160) (hnl : nl.length ≤ 2 * ws.length) (hnb : ws.length ≤ 40) (r1 : 5000 ≤ hC σ0) (r2 : 100000 ≤ hS σ0) (hr0 : rd + 9 ≤ hN σ0)
    (ok : ∀ (σ' : AH) its g w as, blk (tpF l) l.length f ws.length ln = .ok ((f, its), g) → LRd κ σ' rd o l (nl ++ its.flatMap iT) g → CX κ σ' rd (ln + its.length) (ws ++ [w]) (hds ++ [f]) → BksC κ σ' (wss ++ [(w, as)]) (bs ++ [its]) (rd + 9) (hN σ') → HL κ (M9 rd) NoM (20 * (ln + its.length) + 10 * (ws.length + 1)) ((ln + its.length) * (ln + its.length) + 60 * (ln + its.length) + 422 * (nl ++ its.flatMap iT).length + 300 * (ws.length + 1)) σ0 σ' → Q (.inl none) σ')
    (er : ∀ (σ' : AH) a e, blk (tpF l) l.length f ws.length ln = .error e → HL κ (M9 rd) NoM 5000 100000 σ0 σ' → FltC σ' a e → Q (.inr a) σ') : pX3_block κ [.ref rd] σ Q := by
  have hsq := sq_le hln
  have rC := H0.C
  have rS := H0.S
  obtain ⟨a1, a2, a3, a4, -, -, -, a8, -, b1, -⟩ := id C
  have bl : ws.length < 2147483648 := by omega
  unfold blk at ok er
  simp [pX3_block, bX3_block_0, o_ic, o_lc, o_null, o_il, o_ll, o_al, o_dup, o_pop, o_dup_x1, o_dup2, o_iadd, o_isub, o_imul, o_iand, o_ior, o_ixor, o_ishl, o_ishr, o_idiv, o_irem, o_ineg, o_ladd, o_lsub, o_lmul, o_land, o_lor, o_lxor, o_ldiv, o_lrem, o_lneg, o_lcmp, o_i2l, o_l2i, o_i2b, o_i2c, o_iushr, o_lshl, o_lshr, o_if_eq, o_if_ne, o_if_lt, o_if_ge, o_if_gt, o_if_le, o_icmp_eq, o_icmp_ne, o_icmp_lt, o_icmp_ge, o_icmp_gt, o_icmp_le, o_ifnull, o_ifnonnull, o_acmp_eq, o_acmp_ne, o_is, o_ls, o_as, o_iinc, o_kill, o_sw, o_ireturn, o_zreturn, o_nreturn, o_lreturn, o_areturn, o_return, o_athrow, o_call, entP, lg_sl, Value.category, st1, st2, List.set, List.getElem?_cons_zero, List.getElem?_cons_succ, List.foldl, popN, aft, o_gI, o_gR, o_pI, o_pN, o_pR, o_aI, o_aG, o_aR, o_len, o_aR8, o_sI, o_sB, o_sZ, o_sG, o_new, o_newA, o_cast, o_inst, o_cst, o_oi, o_sR, o_gIc, o_gSv, o_gSc, o_getc, o_dead, o_acopy, o_castA, o_castI, o_sR7, o_mna, o_mmax, o_mmin, o_mabs, hT_sI, hT_sR, hT_sG, hL_sI, hL_sR, hL_sG, hI_sI, hI_sR, hI_sG, hG_sI, hG_sR, hG_sG, hR_sI, hR_sR, hR_sG, hN_sI, hN_sR, hN_sG, hC_sI, hC_sR, hC_sG, hS_sI, hS_sR, hS_sG, hT_nw, hL_nw, hI_nw, hG_nw, hR_nw, hN_nw, hC_nw, hS_nw, hvc, hvi, dspI, vref, va_rf, L.rd3, a1, a3, a4, b1.1]
  refine cq_size b1 ?_
  simp [o_ic, o_lc, o_null, o_il, o_ll, o_al, o_dup, o_pop, o_dup_x1, o_dup2, o_iadd, o_isub, o_imul, o_iand, o_ior, o_ixor, o_ishl, o_ishr, o_idiv, o_irem, o_ineg, o_ladd, o_lsub, o_lmul, o_land, o_lor, o_lxor, o_ldiv, o_lrem, o_lneg, o_lcmp, o_i2l, o_l2i, o_i2b, o_i2c, o_iushr, o_lshl, o_lshr, o_if_eq, o_if_ne, o_if_lt, o_if_ge, o_if_gt, o_if_le, o_icmp_eq, o_icmp_ne, o_icmp_lt, o_icmp_ge, o_icmp_gt, o_icmp_le, o_ifnull, o_ifnonnull, o_acmp_eq, o_acmp_ne, o_is, o_ls, o_as, o_iinc, o_kill, o_sw, o_ireturn, o_zreturn, o_nreturn, o_lreturn, o_areturn, o_return, o_athrow, o_call, entP, lg_sl, Value.category, st1, st2, List.set, List.getElem?_cons_zero, List.getElem?_cons_succ, List.foldl, popN, aft, o_gI, o_gR, o_pI, o_pN, o_pR, o_aI, o_aG, o_aR, o_len, o_aR8, o_sI, o_sB, o_sZ, o_sG, o_new, o_newA, o_cast, o_inst, o_cst, o_oi, o_sR, o_gIc, o_gSv, o_gSc, o_getc, o_dead, o_acopy, o_castA, o_castI, o_sR7, o_mna, o_mmax, o_mmin, o_mabs, hT_sI, hT_sR, hT_sG, hL_sI, hL_sR, hL_sG, hI_sI, hI_sR, hI_sG, hG_sI, hG_sR, hG_sG, hR_sI, hR_sR, hR_sG, hN_sI, hN_sR, hN_sG, hC_sI, hC_sR, hC_sG, hS_sI, hS_sR, hS_sG, hT_nw, hL_nw, hI_nw, hG_nw, hR_nw, hN_nw, hC_nw, hS_nw, hvc, hvi, dspI, vref, va_rf, nn_eqL, nn_ltL, nn_leL, nn_Llt, nn_Lle, nn_lt, nn_le, nn_eq, nn_in, nn_clamp, nn_succ, nn_pos, nn_neg1, bl, L.rd3]
  refine ⟨fun hne => ?_, fun heq => ?_⟩
  rotate_left
  · refine ct_fault (n := 3) L.ok L.1.2.2.1 L.2 (by omega) (by omega) (fun σ' a k' f' e' => ?_)
    simp [o_ic, o_lc, o_null, o_il, o_ll, o_al, o_dup, o_pop, o_dup_x1, o_dup2, o_iadd, o_isub, o_imul, o_iand, o_ior, o_ixor, o_ishl, o_ishr, o_idiv, o_irem, o_ineg, o_ladd, o_lsub, o_lmul, o_land, o_lor, o_lxor, o_ldiv, o_lrem, o_lneg, o_lcmp, o_i2l, o_l2i, o_i2b, o_i2c, o_iushr, o_lshl, o_lshr, o_if_eq, o_if_ne, o_if_lt, o_if_ge, o_if_gt, o_if_le, o_icmp_eq, o_icmp_ne, o_icmp_lt, o_icmp_ge, o_icmp_gt, o_icmp_le, o_ifnull, o_ifnonnull, o_acmp_eq, o_acmp_ne, o_is, o_ls, o_as, o_iinc, o_kill, o_sw, o_ireturn, o_zreturn, o_nreturn, o_lreturn, o_areturn, o_return, o_athrow, o_call, entP, lg_sl, Value.category, st1, st2, List.set, List.getElem?_cons_zero, List.getElem?_cons_succ, List.foldl, popN, aft]
    exact er σ' a _ (by rw [if_pos (by omega)]) ((H0.trans (HL.ofNo f' L.ok k')).up (by omega) (by omega)) e'
  have hlt : ws.length < 40 := by omega
  rw [if_neg (by omega)] at ok er
  simp [bX3_block_23, o_ic, o_lc, o_null, o_il, o_ll, o_al, o_dup, o_pop, o_dup_x1, o_dup2, o_iadd, o_isub, o_imul, o_iand, o_ior, o_ixor, o_ishl, o_ishr, o_idiv, o_irem, o_ineg, o_ladd, o_lsub, o_lmul, o_land, o_lor, o_lxor, o_ldiv, o_lrem, o_lneg, o_lcmp, o_i2l, o_l2i, o_i2b, o_i2c, o_iushr, o_lshl, o_lshr, o_if_eq, o_if_ne, o_if_lt, o_if_ge, o_if_gt, o_if_le, o_icmp_eq, o_icmp_ne, o_icmp_lt, o_icmp_ge, o_icmp_gt, o_icmp_le, o_ifnull, o_ifnonnull, o_acmp_eq, o_acmp_ne, o_is, o_ls, o_as, o_iinc, o_kill, o_sw, o_ireturn, o_zreturn, o_nreturn, o_lreturn, o_areturn, o_return, o_athrow, o_call, entP, lg_sl, Value.category, st1, st2, List.set, List.getElem?_cons_zero, List.getElem?_cons_succ, List.foldl, popN, aft, o_gI, o_gR, o_pI, o_pN, o_pR, o_aI, o_aG, o_aR, o_len, o_aR8, o_sI, o_sB, o_sZ, o_sG, o_new, o_newA, o_cast, o_inst, o_cst, o_oi, o_sR, o_gIc, o_gSv, o_gSc, o_getc, o_dead, o_acopy, o_castA, o_castI, o_sR7, o_mna, o_mmax, o_mmin, o_mabs, hT_sI, hT_sR, hT_sG, hL_sI, hL_sR, hL_sG, hI_sI, hI_sR, hI_sG, hG_sI, hG_sR, hG_sG, hR_sI, hR_sR, hR_sG, hN_sI, hN_sR, hN_sG, hC_sI, hC_sR, hC_sG, hS_sI, hS_sR, hS_sG, hT_nw, hL_nw, hI_nw, hG_nw, hR_nw, hN_nw, hC_nw, hS_nw, hvc, hvi, dspI, vref, va_rf, L.rd3]
  refine ct_numbered (c := 98) (most := 39) L.1.2.2.1 L.2 (by omega) (by omega) ?_
  by_cases hnu : numb (tpF l) l.length f 98 39 = some ws.length
  rotate_left
  · have hne2 : ¬ nn ws.length = onn (numb (tpF l) l.length f 98 39) := by
      cases q : numb (tpF l) l.length f 98 39 with
      | none => simp only [onn]; intro z; exact (nn_neg1 bl).1 z
      | some b =>
        have := numb_le q
        simp only [onn]
        intro z
        rw [nn_eq bl (by omega)] at z
        rw [q, z] at hnu
        exact hnu rfl
    simp [o_ic, o_lc, o_null, o_il, o_ll, o_al, o_dup, o_pop, o_dup_x1, o_dup2, o_iadd, o_isub, o_imul, o_iand, o_ior, o_ixor, o_ishl, o_ishr, o_idiv, o_irem, o_ineg, o_ladd, o_lsub, o_lmul, o_land, o_lor, o_lxor, o_ldiv, o_lrem, o_lneg, o_lcmp, o_i2l, o_l2i, o_i2b, o_i2c, o_iushr, o_lshl, o_lshr, o_if_eq, o_if_ne, o_if_lt, o_if_ge, o_if_gt, o_if_le, o_icmp_eq, o_icmp_ne, o_icmp_lt, o_icmp_ge, o_icmp_gt, o_icmp_le, o_ifnull, o_ifnonnull, o_acmp_eq, o_acmp_ne, o_is, o_ls, o_as, o_iinc, o_kill, o_sw, o_ireturn, o_zreturn, o_nreturn, o_lreturn, o_areturn, o_return, o_athrow, o_call, entP, lg_sl, Value.category, st1, st2, List.set, List.getElem?_cons_zero, List.getElem?_cons_succ, List.foldl, popN, aft, o_gI, o_gR, o_pI, o_pN, o_pR, o_aI, o_aG, o_aR, o_len, o_aR8, o_sI, o_sB, o_sZ, o_sG, o_new, o_newA, o_cast, o_inst, o_cst, o_oi, o_sR, o_gIc, o_gSv, o_gSc, o_getc, o_dead, o_acopy, o_castA, o_castI, o_sR7, o_mna, o_mmax, o_mmin, o_mabs, hT_sI, hT_sR, hT_sG, hL_sI, hL_sR, hL_sG, hI_sI, hI_sR, hI_sG, hG_sI, hG_sR, hG_sG, hR_sI, hR_sR, hR_sG, hN_sI, hN_sR, hN_sG, hC_sI, hC_sR, hC_sG, hS_sI, hS_sR, hS_sG, hT_nw, hL_nw, hI_nw, hG_nw, hR_nw, hN_nw, hC_nw, hS_nw, hvc, hvi, dspI, vref, va_rf, hne2, L.rd3]
    refine ct_fault (n := 2) L.ok L.1.2.2.1 L.2 (by omega) (by omega) (fun σ' a k' f' e' => ?_)
    simp [o_ic, o_lc, o_null, o_il, o_ll, o_al, o_dup, o_pop, o_dup_x1, o_dup2, o_iadd, o_isub, o_imul, o_iand, o_ior, o_ixor, o_ishl, o_ishr, o_idiv, o_irem, o_ineg, o_ladd, o_lsub, o_lmul, o_land, o_lor, o_lxor, o_ldiv, o_lrem, o_lneg, o_lcmp, o_i2l, o_l2i, o_i2b, o_i2c, o_iushr, o_lshl, o_lshr, o_if_eq, o_if_ne, o_if_lt, o_if_ge, o_if_gt, o_if_le, o_icmp_eq, o_icmp_ne, o_icmp_lt, o_icmp_ge, o_icmp_gt, o_icmp_le, o_ifnull, o_ifnonnull, o_acmp_eq, o_acmp_ne, o_is, o_ls, o_as, o_iinc, o_kill, o_sw, o_ireturn, o_zreturn, o_nreturn, o_lreturn, o_areturn, o_return, o_athrow, o_call, entP, lg_sl, Value.category, st1, st2, List.set, List.getElem?_cons_zero, List.getElem?_cons_succ, List.foldl, popN, aft]
    exact er σ' a _ (by rw [if_pos hnu]) ((H0.trans (HL.ofNo f' L.ok k')).up (by omega) (by omega)) e'
  rw [if_neg (fun q => q hnu)] at ok er
  have bf : f ≤ 3000 := by have := L.2.1; have := L.1.2.2.1.2.2.2.2.1; omega
  have k2 := L.2.2.1
  simp [o_ic, o_lc, o_null, o_il, o_ll, o_al, o_dup, o_pop, o_dup_x1, o_dup2, o_iadd, o_isub, o_imul, o_iand, o_ior, o_ixor, o_ishl, o_ishr, o_idiv, o_irem, o_ineg, o_ladd, o_lsub, o_lmul, o_land, o_lor, o_lxor, o_ldiv, o_lrem, o_lneg, o_lcmp, o_i2l, o_l2i, o_i2b, o_i2c, o_iushr, o_lshl, o_lshr, o_if_eq, o_if_ne, o_if_lt, o_if_ge, o_if_gt, o_if_le, o_icmp_eq, o_icmp_ne, o_icmp_lt, o_icmp_ge, o_icmp_gt, o_icmp_le, o_ifnull, o_ifnonnull, o_acmp_eq, o_acmp_ne, o_is, o_ls, o_as, o_iinc, o_kill, o_sw, o_ireturn, o_zreturn, o_nreturn, o_lreturn, o_areturn, o_return, o_athrow, o_call, entP, lg_sl, Value.category, st1, st2, List.set, List.getElem?_cons_zero, List.getElem?_cons_succ, List.foldl, popN, aft, o_gI, o_gR, o_pI, o_pN, o_pR, o_aI, o_aG, o_aR, o_len, o_aR8, o_sI, o_sB, o_sZ, o_sG, o_new, o_newA, o_cast, o_inst, o_cst, o_oi, o_sR, o_gIc, o_gSv, o_gSc, o_getc, o_dead, o_acopy, o_castA, o_castI, o_sR7, o_mna, o_mmax, o_mmin, o_mabs, hT_sI, hT_sR, hT_sG, hL_sI, hL_sR, hL_sG, hI_sI, hI_sR, hI_sG, hG_sI, hG_sR, hG_sG, hR_sI, hR_sR, hR_sG, hN_sI, hN_sR, hN_sG, hC_sI, hC_sR, hC_sG, hS_sI, hS_sR, hS_sG, hT_nw, hL_nw, hI_nw, hG_nw, hR_nw, hN_nw, hC_nw, hS_nw, hvc, hvi, dspI, vref, va_rf, hnu, onn, bX3_block_41, L.rd3, a2, k2]
  refine cq_valueOf L.ok L.1.2.1 (by omega) (by omega) (by omega) (fun σ1 x k1 f1 i1 tg1 => ?_)
  have F1 : HL κ NoM NoM 1 1 σ σ1 := HL.ofNo f1 L.ok k1
  obtain ⟨L1, C1⟩ := C.new L F1
  have H1 := H0.trans (F1.wk (M := M9 rd) (MR := NoM))
  obtain ⟨-, -, -, -, -, -, -, -, -, -, -, -, -, xs, g5, g6, g7⟩ := id C1
  simp [o_ic, o_lc, o_null, o_il, o_ll, o_al, o_dup, o_pop, o_dup_x1, o_dup2, o_iadd, o_isub, o_imul, o_iand, o_ior, o_ixor, o_ishl, o_ishr, o_idiv, o_irem, o_ineg, o_ladd, o_lsub, o_lmul, o_land, o_lor, o_lxor, o_ldiv, o_lrem, o_lneg, o_lcmp, o_i2l, o_l2i, o_i2b, o_i2c, o_iushr, o_lshl, o_lshr, o_if_eq, o_if_ne, o_if_lt, o_if_ge, o_if_gt, o_if_le, o_icmp_eq, o_icmp_ne, o_icmp_lt, o_icmp_ge, o_icmp_gt, o_icmp_le, o_ifnull, o_ifnonnull, o_acmp_eq, o_acmp_ne, o_is, o_ls, o_as, o_iinc, o_kill, o_sw, o_ireturn, o_zreturn, o_nreturn, o_lreturn, o_areturn, o_return, o_athrow, o_call, entP, lg_sl, Value.category, st1, st2, List.set, List.getElem?_cons_zero, List.getElem?_cons_succ, List.foldl, popN, aft, o_gI, o_gR, o_pI, o_pN, o_pR, o_aI, o_aG, o_aR, o_len, o_aR8, o_sI, o_sB, o_sZ, o_sG, o_new, o_newA, o_cast, o_inst, o_cst, o_oi, o_sR, o_gIc, o_gSv, o_gSc, o_getc, o_dead, o_acopy, o_castA, o_castI, o_sR7, o_mna, o_mmax, o_mmin, o_mabs, hT_sI, hT_sR, hT_sG, hL_sI, hL_sR, hL_sG, hI_sI, hI_sR, hI_sG, hG_sI, hG_sR, hG_sG, hR_sI, hR_sR, hR_sG, hN_sI, hN_sR, hN_sG, hC_sI, hC_sR, hC_sG, hS_sI, hS_sR, hS_sG, hT_nw, hL_nw, hI_nw, hG_nw, hR_nw, hN_nw, hC_nw, hS_nw, hvc, hvi, dspI, vref, va_rf, g5.1]
  refine cq_add k1 g5 tg1 (by omega) (by have := H1.C; omega) (by have := H1.S; omega) (fun σ2 kk2 f2 A2 => ?_)
  have F2 := HL.ofAdd f2 k1 kk2 g5
  obtain ⟨L2, C2⟩ := C1.hd L1 F2 A2 g5.1 g6 g7 i1
  have F2m : HL κ (M9 rd) NoM 1 (10 + 2 * xs.length) σ1 σ2 := F2.imp (fun b q => by have : b = rd + 8 := q; show rd ≤ b ∧ b < rd + 9; omega) (fun _ q => q)
  have H2 := H1.trans F2m
  simp [o_ic, o_lc, o_null, o_il, o_ll, o_al, o_dup, o_pop, o_dup_x1, o_dup2, o_iadd, o_isub, o_imul, o_iand, o_ior, o_ixor, o_ishl, o_ishr, o_idiv, o_irem, o_ineg, o_ladd, o_lsub, o_lmul, o_land, o_lor, o_lxor, o_ldiv, o_lrem, o_lneg, o_lcmp, o_i2l, o_l2i, o_i2b, o_i2c, o_iushr, o_lshl, o_lshr, o_if_eq, o_if_ne, o_if_lt, o_if_ge, o_if_gt, o_if_le, o_icmp_eq, o_icmp_ne, o_icmp_lt, o_icmp_ge, o_icmp_gt, o_icmp_le, o_ifnull, o_ifnonnull, o_acmp_eq, o_acmp_ne, o_is, o_ls, o_as, o_iinc, o_kill, o_sw, o_ireturn, o_zreturn, o_nreturn, o_lreturn, o_areturn, o_return, o_athrow, o_call, entP, lg_sl, Value.category, st1, st2, List.set, List.getElem?_cons_zero, List.getElem?_cons_succ, List.foldl, popN, aft, o_gI, o_gR, o_pI, o_pN, o_pR, o_aI, o_aG, o_aR, o_len, o_aR8, o_sI, o_sB, o_sZ, o_sG, o_new, o_newA, o_cast, o_inst, o_cst, o_oi, o_sR, o_gIc, o_gSv, o_gSc, o_getc, o_dead, o_acopy, o_castA, o_castI, o_sR7, o_mna, o_mmax, o_mmin, o_mabs, hT_sI, hT_sR, hT_sG, hL_sI, hL_sR, hL_sG, hI_sI, hI_sR, hI_sG, hG_sI, hG_sR, hG_sG, hR_sI, hR_sR, hR_sG, hN_sI, hN_sR, hN_sG, hC_sI, hC_sR, hC_sG, hS_sI, hS_sR, hS_sG, hT_nw, hL_nw, hI_nw, hG_nw, hR_nw, hN_nw, hC_nw, hS_nw, hvc, hvi, dspI, vref, va_rf, L2.rd3]
  refine ls_next L2 (fun σ3 F3 L3 => ?_)
  have C3 := C2.ls L2 F3
  have F3m : HL κ (M9 rd) NoM 0 0 σ2 σ3 := F3.imp (fun b q => m3_9 q) (fun _ q => q)
  have H3 := H2.trans F3m
  simp [o_ic, o_lc, o_null, o_il, o_ll, o_al, o_dup, o_pop, o_dup_x1, o_dup2, o_iadd, o_isub, o_imul, o_iand, o_ior, o_ixor, o_ishl, o_ishr, o_idiv, o_irem, o_ineg, o_ladd, o_lsub, o_lmul, o_land, o_lor, o_lxor, o_ldiv, o_lrem, o_lneg, o_lcmp, o_i2l, o_l2i, o_i2b, o_i2c, o_iushr, o_lshl, o_lshr, o_if_eq, o_if_ne, o_if_lt, o_if_ge, o_if_gt, o_if_le, o_icmp_eq, o_icmp_ne, o_icmp_lt, o_icmp_ge, o_icmp_gt, o_icmp_le, o_ifnull, o_ifnonnull, o_acmp_eq, o_acmp_ne, o_is, o_ls, o_as, o_iinc, o_kill, o_sw, o_ireturn, o_zreturn, o_nreturn, o_lreturn, o_areturn, o_return, o_athrow, o_call, entP, lg_sl, Value.category, st1, st2, List.set, List.getElem?_cons_zero, List.getElem?_cons_succ, List.foldl, popN, aft, o_gI, o_gR, o_pI, o_pN, o_pR, o_aI, o_aG, o_aR, o_len, o_aR8, o_sI, o_sB, o_sZ, o_sG, o_new, o_newA, o_cast, o_inst, o_cst, o_oi, o_sR, o_gIc, o_gSv, o_gSc, o_getc, o_dead, o_acopy, o_castA, o_castI, o_sR7, o_mna, o_mmax, o_mmin, o_mabs, hT_sI, hT_sR, hT_sG, hL_sI, hL_sR, hL_sG, hI_sI, hI_sR, hI_sG, hG_sI, hG_sR, hG_sG, hR_sI, hR_sR, hR_sG, hN_sI, hN_sR, hN_sG, hC_sI, hC_sR, hC_sG, hS_sI, hS_sR, hS_sG, hT_nw, hL_nw, hI_nw, hG_nw, hR_nw, hN_nw, hC_nw, hS_nw, hvc, hvi, dspI, vref, va_rf, L3.rd3]
  refine ls_sign (ch := 58) L3 (by omega) (by have := H3.C; omega) (by have := H3.S; omega) (fun σ4 g4 e4 F4 L4 => ?_) (fun σ4 a e he F4 E4 => ?_)
  rotate_left
  · simp [o_ic, o_lc, o_null, o_il, o_ll, o_al, o_dup, o_pop, o_dup_x1, o_dup2, o_iadd, o_isub, o_imul, o_iand, o_ior, o_ixor, o_ishl, o_ishr, o_idiv, o_irem, o_ineg, o_ladd, o_lsub, o_lmul, o_land, o_lor, o_lxor, o_ldiv, o_lrem, o_lneg, o_lcmp, o_i2l, o_l2i, o_i2b, o_i2c, o_iushr, o_lshl, o_lshr, o_if_eq, o_if_ne, o_if_lt, o_if_ge, o_if_gt, o_if_le, o_icmp_eq, o_icmp_ne, o_icmp_lt, o_icmp_ge, o_icmp_gt, o_icmp_le, o_ifnull, o_ifnonnull, o_acmp_eq, o_acmp_ne, o_is, o_ls, o_as, o_iinc, o_kill, o_sw, o_ireturn, o_zreturn, o_nreturn, o_lreturn, o_areturn, o_return, o_athrow, o_call, entP, lg_sl, Value.category, st1, st2, List.set, List.getElem?_cons_zero, List.getElem?_cons_succ, List.foldl, popN, aft]
    exact er σ4 a e (by simp only [bind, Except.bind]; rw [he]) ((H3.trans (F4.imp (M' := M9 rd) (fun b q => m3_9 q) (fun _ q => q))).up (by omega) (by omega)) E4
  have C4 := C3.ls L3 F4
  have F4m : HL κ (M9 rd) NoM 0 0 σ3 σ4 := F4.imp (fun b q => m3_9 q) (fun _ q => q)
  have H4 := H3.trans F4m
  have c4 : 1 ≤ hC σ4 := by have := H4.C; omega
  have s4 : 3 ≤ hS σ4 := by have := H4.S; omega
  simp [o_ic, o_lc, o_null, o_il, o_ll, o_al, o_dup, o_pop, o_dup_x1, o_dup2, o_iadd, o_isub, o_imul, o_iand, o_ior, o_ixor, o_ishl, o_ishr, o_idiv, o_irem, o_ineg, o_ladd, o_lsub, o_lmul, o_land, o_lor, o_lxor, o_ldiv, o_lrem, o_lneg, o_lcmp, o_i2l, o_l2i, o_i2b, o_i2c, o_iushr, o_lshl, o_lshr, o_if_eq, o_if_ne, o_if_lt, o_if_ge, o_if_gt, o_if_le, o_icmp_eq, o_icmp_ne, o_icmp_lt, o_icmp_ge, o_icmp_gt, o_icmp_le, o_ifnull, o_ifnonnull, o_acmp_eq, o_acmp_ne, o_is, o_ls, o_as, o_iinc, o_kill, o_sw, o_ireturn, o_zreturn, o_nreturn, o_lreturn, o_areturn, o_return, o_athrow, o_call, entP, lg_sl, Value.category, st1, st2, List.set, List.getElem?_cons_zero, List.getElem?_cons_succ, List.foldl, popN, aft, o_gI, o_gR, o_pI, o_pN, o_pR, o_aI, o_aG, o_aR, o_len, o_aR8, o_sI, o_sB, o_sZ, o_sG, o_new, o_newA, o_cast, o_inst, o_cst, o_oi, o_sR, o_gIc, o_gSv, o_gSc, o_getc, o_dead, o_acopy, o_castA, o_castI, o_sR7, o_mna, o_mmax, o_mmin, o_mabs, hvi, c4, s4]
  refine cq_newL L4.ok (fun σ5 F5 A5 => ?_)
  obtain ⟨L5, C5⟩ := C4.new L4 F5
  have F5m : HL κ (M9 rd) NoM 1 3 σ4 σ5 := F5.wk
  have H5 := H4.trans F5m
  obtain ⟨d1, -, d3, d4, -, -, -, -, -, d10, -⟩ := id C5
  have hrw : hN σ ≤ hN σ4 := by
    have := F1.lt; have := F2.lt; have := F3.lt; have := F4.lt; omega
  have h09 : hN σ0 ≤ hN σ := H0.lt
  simp [o_ic, o_lc, o_null, o_il, o_ll, o_al, o_dup, o_pop, o_dup_x1, o_dup2, o_iadd, o_isub, o_imul, o_iand, o_ior, o_ixor, o_ishl, o_ishr, o_idiv, o_irem, o_ineg, o_ladd, o_lsub, o_lmul, o_land, o_lor, o_lxor, o_ldiv, o_lrem, o_lneg, o_lcmp, o_i2l, o_l2i, o_i2b, o_i2c, o_iushr, o_lshl, o_lshr, o_if_eq, o_if_ne, o_if_lt, o_if_ge, o_if_gt, o_if_le, o_icmp_eq, o_icmp_ne, o_icmp_lt, o_icmp_ge, o_icmp_gt, o_icmp_le, o_ifnull, o_ifnonnull, o_acmp_eq, o_acmp_ne, o_is, o_ls, o_as, o_iinc, o_kill, o_sw, o_ireturn, o_zreturn, o_nreturn, o_lreturn, o_areturn, o_return, o_athrow, o_call, entP, lg_sl, Value.category, st1, st2, List.set, List.getElem?_cons_zero, List.getElem?_cons_succ, List.foldl, popN, aft, o_gI, o_gR, o_pI, o_pN, o_pR, o_aI, o_aG, o_aR, o_len, o_aR8, o_sI, o_sB, o_sZ, o_sG, o_new, o_newA, o_cast, o_inst, o_cst, o_oi, o_sR, o_gIc, o_gSv, o_gSc, o_getc, o_dead, o_acopy, o_castA, o_castI, o_sR7, o_mna, o_mmax, o_mmin, o_mabs, hT_sI, hT_sR, hT_sG, hL_sI, hL_sR, hL_sG, hI_sI, hI_sR, hI_sG, hG_sI, hG_sR, hG_sG, hR_sI, hR_sR, hR_sG, hN_sI, hN_sR, hN_sG, hC_sI, hC_sR, hC_sG, hS_sI, hS_sR, hS_sG, hT_nw, hL_nw, hI_nw, hG_nw, hR_nw, hN_nw, hC_nw, hS_nw, hvc, hvi, dspI, vref, va_rf, L5.rd3, d1, d3, d4, d10.1]
  refine cq_add L5.ok d10 (by rw [A5.1]; simp [objTs]) (by omega) (by have := H5.C; omega) (by have := H5.S; omega) (fun σ6 k6 f6 A6 => ?_)
  have F6 := HL.ofAdd f6 L5.ok k6 d10
  obtain ⟨L6, C6⟩ := C5.bk L5 F6 A6
  have F6m : HL κ (M9 rd) NoM 1 (10 + 2 * ws.length) σ5 σ6 := F6.imp (fun b q => by have : b = rd + 2 := q; show rd ≤ b ∧ b < rd + 9; omega) (fun _ q => q)
  have H6 : HL κ (M9 rd) NoM (20 * ln + 10 * (ws.length + 1)) (ln * ln + 60 * ln + 422 * nl.length + 300 * (ws.length + 1)) σ0 σ6 := (H5.trans F6m).up (by omega) (by omega)
  have Aw6 : AL κ σ6 (hN σ4) [] := F6.al A5 (by show ¬ hN σ4 = rd + 2; omega)
  have hw6 : hN σ4 < hN σ6 := k6.1.lt (by rw [Aw6.1]; decide)
  -- the blocks so far
  have G16 : HL κ (M9 rd) NoM (1 + 1 + 0 + 0 + 1 + 1) (1 + (10 + 2 * xs.length) + 0 + 0 + 3 + (10 + 2 * ws.length)) σ σ6 := (((((F1.wk (M := M9 rd) (MR := NoM)).trans F2m).trans F3m).trans F4m).trans F5m).trans F6m
  have B6 : BksC κ σ6 wss bs (rd + 9) (hN σ) := B.hl L.ok G16 (fun a h1 h2 => ⟨fun q => by have := q.1; have := q.2; omega, id⟩)
  simp [o_ic, o_lc, o_null, o_il, o_ll, o_al, o_dup, o_pop, o_dup_x1, o_dup2, o_iadd, o_isub, o_imul, o_iand, o_ior, o_ixor, o_ishl, o_ishr, o_idiv, o_irem, o_ineg, o_ladd, o_lsub, o_lmul, o_land, o_lor, o_lxor, o_ldiv, o_lrem, o_lneg, o_lcmp, o_i2l, o_l2i, o_i2b, o_i2c, o_iushr, o_lshl, o_lshr, o_if_eq, o_if_ne, o_if_lt, o_if_ge, o_if_gt, o_if_le, o_icmp_eq, o_icmp_ne, o_icmp_lt, o_icmp_ge, o_icmp_gt, o_icmp_le, o_ifnull, o_ifnonnull, o_acmp_eq, o_acmp_ne, o_is, o_ls, o_as, o_iinc, o_kill, o_sw, o_ireturn, o_zreturn, o_nreturn, o_lreturn, o_areturn, o_return, o_athrow, o_call, entP, lg_sl, Value.category, st1, st2, List.set, List.getElem?_cons_zero, List.getElem?_cons_succ, List.foldl, popN, aft]
  unfold bX3_block_88
  intro X hX
  refine ls_body (w := hN σ4) (σb := σ6) (nb := ws.length + 1) (by omega) (by omega) hk0 (by omega) r1 r2 hr0 hX (161 - ln) σ6 g4 ln nl [] [] L6 C6 Aw6 (by show hN σ4 + 1 ≤ hN σ6; omega) H6 ⟨0, 0, HL.rfl9 k6⟩ (by simp) hln (by omega) (by omega) (fun σ' its' g as' eb L' C' A' I' H' Hb' => ?_) (fun σ' a e eb H' E' => ?_)
  · simp only [List.nil_append] at A' I'
    obtain ⟨cc, ss, Hb'⟩ := Hb'
    have B' : BksC κ σ' wss bs (rd + 9) (hN σ) := B6.hl k6 Hb' (fun a h1 h2 => ⟨fun q => by rcases q with q | q <;> omega, id⟩)
    exact ok σ' its' g (hN σ4) as' (by simp only [bind, Except.bind]; rw [e4]; simp only; rw [eb]) L' C' (B'.snoc hrw A' I') H'
  · exact er σ' a e (by simp only [bind, Except.bind]; rw [e4]; simp only; rw [eb]) H' E'
end BK
