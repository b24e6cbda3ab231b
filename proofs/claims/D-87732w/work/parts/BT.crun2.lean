/-! THE COMPONENT: run -/
set_option maxRecDepth 100000
section R2
variable {κ : Nat → Option Nat} {Q : Ret AH} {σ σ' : AH} {o c s : Nat} {l : List Nat} {P : Nat → PlA} {wr : Int32} {bg : Nat → Int32} {rn : RnA} {RA : Nat → Option Nat} {H : Nat → Nat}
/-- another run -/
theorem CC.run (h : CC κ σ o l P wr bg rn RA H) (F : HL κ NoM (EqM o) c s σ σ') (e : ∀ j, j ≠ 5 → hR σ' o j = hR σ o j) {a : Nat} {rn' : RnA} (e5 : hR σ' o 5 = some a) (ha : o + 7 ≤ a) (hr : RunC σ' a rn') : CC κ σ' o l P wr bg rn' RA H := by
  have hk := h.ok
  have t := h.t0
  obtain ⟨a1, a2, a3, a4⟩ := h.f2
  obtain ⟨b1, b2, b3, b4⟩ := h.f3
  obtain ⟨c1, c2, c3, c4, c5, c6, c7, c8, c9⟩ := h.f6
  have n4 : ¬ EqM o (o + 4) := by show ¬ o + 4 = o; omega
  refine ⟨F.ok, h.ks.hl hk F, ?_, (e 0 (by omega)).trans h.f0, ⟨(e 2 (by omega)).trans a1, F.tg hk a2 (by decide), (F.len hk (by rw [a2]; decide)).trans a3, fun i hi' => (F.int hk a2 (by decide) id i).trans (a4 i hi')⟩, ⟨(e 3 (by omega)).trans b1, F.tg hk b2 (by decide), (F.len hk (by rw [b2]; decide)).trans b3, fun p hp => (F.ref hk b2 (by decide) (by show ¬ o + 3 = o; omega) p).trans (b4 p hp)⟩, (F.int hk t (by decide) id 4).trans h.f4, ⟨(e 6 (by omega)).trans c1, F.tg hk c2 (by decide), (F.ref hk c2 (by decide) n4 0).trans c3, (F.ref hk c2 (by decide) n4 1).trans c4, (F.ref hk c2 (by decide) n4 3).trans c5, F.tg hk c6 (by decide), (F.len hk (by rw [c6]; decide)).trans c7, F.tg hk c8 (by decide), (F.len hk (by rw [c8]; decide)).trans c9⟩, fun p hp => (h.pl p hp).hl hk F (fun a h1 _ => ⟨id, by show ¬ a = o; omega⟩), h.dj, Or.inr ⟨a, e5, ha, hr⟩⟩
  obtain ⟨h1, h2, h3, b, h4, h5, h6, h7⟩ := h.tp
  exact ⟨F.tg hk h1 (by decide), (F.int hk h1 (by decide) id 1).trans h2, h3, b, (e 0 (by omega)).trans h4, F.tg hk h5 (by decide), (F.len hk (by rw [h5]; decide)).trans h6, fun i c hc => ⟨(F.int hk h5 (by decide) id i).trans (h7 i c hc).1, (h7 i c hc).2⟩⟩
theorem cc_run {p pl : Int32} (h : CC κ σ o l P wr bg rn RA H) (r1 : 10 ≤ hC σ) (r2 : 260 ≤ hS σ)
    (k0 : runP P p pl = none → Q (.inl (some (.int (-1)))) σ)
    (k1 : ∀ x σ', runP P p pl = some x → CC κ σ' o l P wr bg (runA x.1 x.2 bg (fun _ => 0)) RA H → hC σ ≤ hC σ' + 10 → hS σ ≤ hS σ' + 260 → Q (.inl (some (.int (runA x.1 x.2 bg (fun _ => 0)).1.1))) σ') : pX0_run κ [.ref o, .int p, .int pl] σ Q := by
  have hk := h.ok
  have t := h.t0
  unfold runP at k0 k1
  simp [pX0_run, bX0_run_0, o_ic, o_lc, o_null, o_il, o_ll, o_al, o_dup, o_pop, o_dup_x1, o_dup2, o_iadd, o_isub, o_imul, o_iand, o_ior, o_ixor, o_ishl, o_ishr, o_idiv, o_irem, o_ineg, o_ladd, o_lsub, o_lmul, o_land, o_lor, o_lxor, o_ldiv, o_lrem, o_lneg, o_lcmp, o_i2l, o_l2i, o_i2b, o_i2c, o_iushr, o_lshl, o_lshr, o_if_eq, o_if_ne, o_if_lt, o_if_ge, o_if_gt, o_if_le, o_icmp_eq, o_icmp_ne, o_icmp_lt, o_icmp_ge, o_icmp_gt, o_icmp_le, o_ifnull, o_ifnonnull, o_acmp_eq, o_acmp_ne, o_is, o_ls, o_as, o_iinc, o_kill, o_sw, o_ireturn, o_zreturn, o_nreturn, o_lreturn, o_areturn, o_return, o_athrow, o_call, entP, lg_sl, Value.category, st1, st2, List.set, List.getElem?_cons_zero, List.getElem?_cons_succ, List.foldl, popN, aft]
  refine ct_of h (fun q r x hq q4 hp ra px p9 pok lo rt wy => ?_) (fun p9 => ?_)
  rotate_left
  · rw [p9] at k0
    simp [o_ic, o_lc, o_null, o_il, o_ll, o_al, o_dup, o_pop, o_dup_x1, o_dup2, o_iadd, o_isub, o_imul, o_iand, o_ior, o_ixor, o_ishl, o_ishr, o_idiv, o_irem, o_ineg, o_ladd, o_lsub, o_lmul, o_land, o_lor, o_lxor, o_ldiv, o_lrem, o_lneg, o_lcmp, o_i2l, o_l2i, o_i2b, o_i2c, o_iushr, o_lshl, o_lshr, o_if_eq, o_if_ne, o_if_lt, o_if_ge, o_if_gt, o_if_le, o_icmp_eq, o_icmp_ne, o_icmp_lt, o_icmp_ge, o_icmp_gt, o_icmp_le, o_ifnull, o_ifnonnull, o_acmp_eq, o_acmp_ne, o_is, o_ls, o_as, o_iinc, o_kill, o_sw, o_ireturn, o_zreturn, o_nreturn, o_lreturn, o_areturn, o_return, o_athrow, o_call, entP, lg_sl, Value.category, st1, st2, List.set, List.getElem?_cons_zero, List.getElem?_cons_succ, List.foldl, popN, aft, bX0_run_17]
    exact k0 rfl
  rw [p9] at k0 k1
  simp [o_ic, o_lc, o_null, o_il, o_ll, o_al, o_dup, o_pop, o_dup_x1, o_dup2, o_iadd, o_isub, o_imul, o_iand, o_ior, o_ixor, o_ishl, o_ishr, o_idiv, o_irem, o_ineg, o_ladd, o_lsub, o_lmul, o_land, o_lor, o_lxor, o_ldiv, o_lrem, o_lneg, o_lcmp, o_i2l, o_l2i, o_i2b, o_i2c, o_iushr, o_lshl, o_lshr, o_if_eq, o_if_ne, o_if_lt, o_if_ge, o_if_gt, o_if_le, o_icmp_eq, o_icmp_ne, o_icmp_lt, o_icmp_ge, o_icmp_gt, o_icmp_le, o_ifnull, o_ifnonnull, o_acmp_eq, o_acmp_ne, o_is, o_ls, o_as, o_iinc, o_kill, o_sw, o_ireturn, o_zreturn, o_nreturn, o_lreturn, o_areturn, o_return, o_athrow, o_call, entP, lg_sl, Value.category, st1, st2, List.set, List.getElem?_cons_zero, List.getElem?_cons_succ, List.foldl, popN, aft]
  refine ct_in0 (n := 3) (by omega) (by decide) (fun pq hpq => ?_) (fun hpq => ?_)
  rotate_left
  · rw [hpq] at k0
    simp [o_ic, o_lc, o_null, o_il, o_ll, o_al, o_dup, o_pop, o_dup_x1, o_dup2, o_iadd, o_isub, o_imul, o_iand, o_ior, o_ixor, o_ishl, o_ishr, o_idiv, o_irem, o_ineg, o_ladd, o_lsub, o_lmul, o_land, o_lor, o_lxor, o_ldiv, o_lrem, o_lneg, o_lcmp, o_i2l, o_l2i, o_i2b, o_i2c, o_iushr, o_lshl, o_lshr, o_if_eq, o_if_ne, o_if_lt, o_if_ge, o_if_gt, o_if_le, o_icmp_eq, o_icmp_ne, o_icmp_lt, o_icmp_ge, o_icmp_gt, o_icmp_le, o_ifnull, o_ifnonnull, o_acmp_eq, o_acmp_ne, o_is, o_ls, o_as, o_iinc, o_kill, o_sw, o_ireturn, o_zreturn, o_nreturn, o_lreturn, o_areturn, o_return, o_athrow, o_call, entP, lg_sl, Value.category, st1, st2, List.set, List.getElem?_cons_zero, List.getElem?_cons_succ, List.foldl, popN, aft, bX0_run_17]
    exact k0 rfl
  rw [hpq] at k1
  obtain ⟨rfl, pq3, bpq⟩ := ix_some hpq
  obtain ⟨wss, A, NX, BF, B, ss, h8, VA, RT, VV, VL, l8, l9, s32⟩ := rt
  have oN : o + 7 ≤ hN σ := by
    have := hk.1.lt (a := o + 6) (by rw [h.f6.2.2.2.2.2.2.2.1]; decide)
    omega
  have F1 : HL κ NoM NoM 1 12 σ (hnw σ 18 0 12) := ((HL.rfl9 hk).nw (hk.nw (by decide))).up (by omega) (by omega)
  have C1 := h.new F1
  simp [bX0_run_19, o_ic, o_lc, o_null, o_il, o_ll, o_al, o_dup, o_pop, o_dup_x1, o_dup2, o_iadd, o_isub, o_imul, o_iand, o_ior, o_ixor, o_ishl, o_ishr, o_idiv, o_irem, o_ineg, o_ladd, o_lsub, o_lmul, o_land, o_lor, o_lxor, o_ldiv, o_lrem, o_lneg, o_lcmp, o_i2l, o_l2i, o_i2b, o_i2c, o_iushr, o_lshl, o_lshr, o_if_eq, o_if_ne, o_if_lt, o_if_ge, o_if_gt, o_if_le, o_icmp_eq, o_icmp_ne, o_icmp_lt, o_icmp_ge, o_icmp_gt, o_icmp_le, o_ifnull, o_ifnonnull, o_acmp_eq, o_acmp_ne, o_is, o_ls, o_as, o_iinc, o_kill, o_sw, o_ireturn, o_zreturn, o_nreturn, o_lreturn, o_areturn, o_return, o_athrow, o_call, entP, lg_sl, Value.category, st1, st2, List.set, List.getElem?_cons_zero, List.getElem?_cons_succ, List.foldl, popN, aft, o_gI, o_gR, o_pI, o_pN, o_pR, o_aI, o_aG, o_aR, o_len, o_aR8, o_sI, o_sB, o_sZ, o_sG, o_new, o_newA, o_cast, o_inst, o_cst, o_oi, o_sR, o_gIc, o_gSv, o_gSc, o_getc, o_dead, o_acopy, o_castA, o_castI, o_sR7, o_mna, o_mmax, o_mmin, o_mabs, show 1 ≤ hC σ by omega, show 12 ≤ hS σ by omega]
  refine ct_of C1 (fun q' r' x' hq' _ _ ra' _ _ _ _ _ _ => ?_) (fun p9' => by rw [p9] at p9'; cases p9')
  rw [hq] at hq'
  cases hq'
  rw [ra] at ra'
  cases ra'
  simp [o_ic, o_lc, o_null, o_il, o_ll, o_al, o_dup, o_pop, o_dup_x1, o_dup2, o_iadd, o_isub, o_imul, o_iand, o_ior, o_ixor, o_ishl, o_ishr, o_idiv, o_irem, o_ineg, o_ladd, o_lsub, o_lmul, o_land, o_lor, o_lxor, o_ldiv, o_lrem, o_lneg, o_lcmp, o_i2l, o_l2i, o_i2b, o_i2c, o_iushr, o_lshl, o_lshr, o_if_eq, o_if_ne, o_if_lt, o_if_ge, o_if_gt, o_if_le, o_icmp_eq, o_icmp_ne, o_icmp_lt, o_icmp_ge, o_icmp_gt, o_icmp_le, o_ifnull, o_ifnonnull, o_acmp_eq, o_acmp_ne, o_is, o_ls, o_as, o_iinc, o_kill, o_sw, o_ireturn, o_zreturn, o_nreturn, o_lreturn, o_areturn, o_return, o_athrow, o_call, entP, lg_sl, Value.category, st1, st2, List.set, List.getElem?_cons_zero, List.getElem?_cons_succ, List.foldl, popN, aft, o_gI, o_gR, o_pI, o_pN, o_pR, o_aI, o_aG, o_aR, o_len, o_aR8, o_sI, o_sB, o_sZ, o_sG, o_new, o_newA, o_cast, o_inst, o_cst, o_oi, o_sR, o_gIc, o_gSv, o_gSc, o_getc, o_dead, o_acopy, o_castA, o_castI, o_sR7, o_mna, o_mmax, o_mmin, o_mabs, hvi]
  refine ct_rInit hk t h.f2 (by omega) (by omega) (fun σ2 F2 G2 => ?_)
  have t2 : hT σ2 o = 1 := F2.tg hk t (by decide)
  have F23 : HL κ NoM (EqM o) 0 0 σ2 (hsR σ2 o 5 (some (hN σ))) := (HL.rfl9 F2.ok).sR (Or.inl rfl) t2 (by decide)
  have F3 : HL κ NoM (EqM o) 8 242 σ (hsR σ2 o 5 (some (hN σ))) := (F2.wk.trans F23)
  have G3 : RG (hsR σ2 o 5 (some (hN σ))) (hN σ) r pq (rs0 bg (fun _ => 0)) := G2.hl F2.ok F23 (fun b q1 _ => ⟨id, by show ¬ b = o; omega⟩)
  have RT3 : RtB κ (hsR σ2 o 5 (some (hN σ))) r x.1 wss A NX BF B ss h8 := RT.hl hk F3 (fun b q1 _ _ => ⟨id, by show ¬ b = o; omega⟩)
  have VV3 : VS (hsR σ2 o 5 (some (hN σ))) r (nds x.1).length h8 VA 8 (fun i => fb x.1 i) := by
    have V2 := VV.new hk RT.tr F2
    intro i hi'
    obtain ⟨y1, y2⟩ := V2 i hi'
    exact ⟨by rw [hR_sR, if_neg (by omega)]; exact y1, y2⟩
  simp [o_ic, o_lc, o_null, o_il, o_ll, o_al, o_dup, o_pop, o_dup_x1, o_dup2, o_iadd, o_isub, o_imul, o_iand, o_ior, o_ixor, o_ishl, o_ishr, o_idiv, o_irem, o_ineg, o_ladd, o_lsub, o_lmul, o_land, o_lor, o_lxor, o_ldiv, o_lrem, o_lneg, o_lcmp, o_i2l, o_l2i, o_i2b, o_i2c, o_iushr, o_lshl, o_lshr, o_if_eq, o_if_ne, o_if_lt, o_if_ge, o_if_gt, o_if_le, o_icmp_eq, o_icmp_ne, o_icmp_lt, o_icmp_ge, o_icmp_gt, o_icmp_le, o_ifnull, o_ifnonnull, o_acmp_eq, o_acmp_ne, o_is, o_ls, o_as, o_iinc, o_kill, o_sw, o_ireturn, o_zreturn, o_nreturn, o_lreturn, o_areturn, o_return, o_athrow, o_call, entP, lg_sl, Value.category, st1, st2, List.set, List.getElem?_cons_zero, List.getElem?_cons_succ, List.foldl, popN, aft, o_gI, o_gR, o_pI, o_pN, o_pR, o_aI, o_aG, o_aR, o_len, o_aR8, o_sI, o_sB, o_sZ, o_sG, o_new, o_newA, o_cast, o_inst, o_cst, o_oi, o_sR, o_gIc, o_gSv, o_gSc, o_getc, o_dead, o_acopy, o_castA, o_castI, o_sR7, o_mna, o_mmax, o_mmin, o_mabs, t2, hR_sR, hT_sR, va_rf]
  refine ct_go F3.ok RT3 VV3 (fun i hi' => by have := VL i hi'; omega) s32 pq3 (by omega) (by have := F3.C; omega) (by have := F3.S; omega) G3 (by show sumN (fun _ => 0) 32 = 0; exact sumN_zero 32) rfl rfl (fun σ4 F4 rc => ?_)
  have F5 : HL κ NoM (EqM o) (8 + 1) (242 + 6) σ σ4 := F3.after F4 hk (fun b z => Or.inr z.1) (fun b z => z.elim)
  have t3 : hT (hsR σ2 o 5 (some (hN σ))) o = 1 := t2
  have e4 : ∀ j, hR σ4 o j = hR (hsR σ2 o 5 (some (hN σ))) o j := fun j => F4.ref F3.ok t3 (by decide) id j
  have e5 : hR σ4 o 5 = some (hN σ) := (e4 5).trans (by rw [hR_sR, if_pos ⟨rfl, rfl⟩])
  have C5 := h.run F5 (fun j hj => (e4 j).trans (by rw [hR_sR, if_neg (fun z => hj z.2)]; exact F2.ref hk t (by decide) id j)) e5 oN rc
  have t4 : hT σ4 o = 1 := C5.t0
  have i7 := rc.2.2.2.2.2.2.1
  simp [o_ic, o_lc, o_null, o_il, o_ll, o_al, o_dup, o_pop, o_dup_x1, o_dup2, o_iadd, o_isub, o_imul, o_iand, o_ior, o_ixor, o_ishl, o_ishr, o_idiv, o_irem, o_ineg, o_ladd, o_lsub, o_lmul, o_land, o_lor, o_lxor, o_ldiv, o_lrem, o_lneg, o_lcmp, o_i2l, o_l2i, o_i2b, o_i2c, o_iushr, o_lshl, o_lshr, o_if_eq, o_if_ne, o_if_lt, o_if_ge, o_if_gt, o_if_le, o_icmp_eq, o_icmp_ne, o_icmp_lt, o_icmp_ge, o_icmp_gt, o_icmp_le, o_ifnull, o_ifnonnull, o_acmp_eq, o_acmp_ne, o_is, o_ls, o_as, o_iinc, o_kill, o_sw, o_ireturn, o_zreturn, o_nreturn, o_lreturn, o_areturn, o_return, o_athrow, o_call, entP, lg_sl, Value.category, st1, st2, List.set, List.getElem?_cons_zero, List.getElem?_cons_succ, List.foldl, popN, aft, o_gI, o_gR, o_pI, o_pN, o_pR, o_aI, o_aG, o_aR, o_len, o_aR8, o_sI, o_sB, o_sZ, o_sG, o_new, o_newA, o_cast, o_inst, o_cst, o_oi, o_sR, o_gIc, o_gSv, o_gSc, o_getc, o_dead, o_acopy, o_castA, o_castI, o_sR7, o_mna, o_mmax, o_mmin, o_mabs, t4, e5, va_rf, rc.1, i7]
  exact k1 (x.1, pq) σ4 rfl C5 (by have := F5.C; omega) (by have := F5.S; omega)
end R2
