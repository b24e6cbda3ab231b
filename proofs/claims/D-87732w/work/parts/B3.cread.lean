/-! THE COMPONENT: read -/
set_option maxRecDepth 100000
section RE
variable {κ : Nat → Option Nat} {Q : Ret AH} {σ σ' : AH} {r rd o : Nat} {l : List Nat}
theorem ct_close {R : Rt} {wss : List (Nat × List Nat)} {A lo hi NX BF : Nat → Nat} (w : WfR R) (hT9 : TgOk R) (h0 : 0 < R.2.length) (r1 : 5000 ≤ hC σ) (r2 : 130000 ≤ hS σ) (hP : P1 κ σ σ r R wss A lo hi NX BF 0)
    (kk : ∀ (σ' : AH) A NX BF B ss, RtB κ σ' r R wss A NX BF B ss (hN σ') → AL κ σ' (r + 4) [] → HL κ (GeM r) (GeM r) 1300 126940 σ σ' → Q (.inl none) σ') : pX4_close κ [.ref r] σ Q := by
  have hk0 := hP.cs.ok
  have how := ledR_ow w
  refine cl_nums w hk0 h0 r1 (by omega) hP (fun σ4 P4 => ?_)
  refine cl_rows w h0 r1 (by omega) P4 (fun σ5 P5' => ?_)
  refine cl_joins w hT9 h0 r1 (by omega) P5' (fun σ6 E hJ P6 => ?_)
  obtain ⟨A', lo', hi', NX', BF', P6⟩ := P6
  refine cl_sums w how r1 r2 (P5.start P6) (fun σ7 ss P7 => ?_)
  have hsl : ss.length ≤ 160 := by
    have h1 := P7.sn
    rw [List.take_of_length_le (by omega)] at h1
    have : ∀ (l : List FIt) (a : List Sm), (l.foldl (fun l x => sAdd l (iS x.2)) a).length ≤ a.length + l.length := by
      intro l
      induction l with
      | nil => intro a; exact Nat.le_refl _
      | cons q l ih =>
        intro a
        have h1 := ih (sAdd a (iS q.2))
        have h2 : (sAdd a (iS q.2)).length ≤ a.length + 1 := by
          unfold sAdd; split
          · split <;> simp
          · simp
        simp only [List.foldl_cons, List.length_cons]
        omega
    have h2 := this R.1 []
    have h3 := w.1
    unfold sms at h1
    simp only [List.length_nil] at h2
    omega
  have sq := sq_le hsl
  exact kk σ7 A' NX' BF' (inE E) ss (P7.rt hJ w hT9 h0) P7.wy (P7.fr.up (by omega) (by omega))
theorem rdR_nil {R : Rt} (h : rdR (tpF []) ([] : List Nat).length = .ok R) : False := by
  have hn : numb (tpF []) 0 (skp (tpF []) 0 0) 98 39 = none := by
    unfold numb
    rw [if_neg]
    rintro ⟨q, -⟩
    unfold srt at q
    rw [if_pos (by omega)] at q
    cases q
  have hb : blks (tpF []) 0 41 (skp (tpF []) 0 0) 0 0 = .error (flt (tpF []) 0 (skp (tpF []) 0 0) 2) := by
    unfold blks blk
    rw [if_neg (by omega), if_pos (by rw [hn]; intro q; cases q)]
    rfl
  unfold rdR at h
  simp only [List.length_nil] at h
  rw [hb] at h
  cases h
theorem ct_read (L : LnC κ σ rd o l (rd + 6) (rd + 7) []) (C : CX κ σ rd 0 [] []) (h3 : hI σ rd 3 = 0) (hN9 : hN σ = rd + 9) (r5 : 5000 ≤ hC σ) (r6 : 100000 ≤ hS σ) (r0 : l ≠ [] → 10000 ≤ hC σ ∧ 215000 ≤ hS σ)
    (ok : ∀ (σ' : AH) R wss A NX BF B ss, prs (tpF l) l.length = .ok R → RtB κ σ' (rd + 1) R wss A NX BF B ss (hN σ') → AL κ σ' (rd + 5) [] → HL κ (GeM rd) (GeM rd) 10000 215000 σ σ' → Q (.inl (some (.ref (rd + 1)))) σ')
    (er : ∀ (σ' : AH) a e, prs (tpF l) l.length = .error e → HL κ (GeM rd) (GeM rd) 5100 100200 σ σ' → FltC σ' a e → Q (.inr a) σ') : pX3_read κ [.ref rd] σ Q := by
  have hk0 := L.1
  have hrd := L.2.2.1.1
  unfold prs rdR at ok er
  simp [pX3_read, bX3_read_0, o_ic, o_lc, o_null, o_il, o_ll, o_al, o_dup, o_pop, o_dup_x1, o_dup2, o_iadd, o_isub, o_imul, o_iand, o_ior, o_ixor, o_ishl, o_ishr, o_idiv, o_irem, o_ineg, o_ladd, o_lsub, o_lmul, o_land, o_lor, o_lxor, o_ldiv, o_lrem, o_lneg, o_lcmp, o_i2l, o_l2i, o_i2b, o_i2c, o_iushr, o_lshl, o_lshr, o_if_eq, o_if_ne, o_if_lt, o_if_ge, o_if_gt, o_if_le, o_icmp_eq, o_icmp_ne, o_icmp_lt, o_icmp_ge, o_icmp_gt, o_icmp_le, o_ifnull, o_ifnonnull, o_acmp_eq, o_acmp_ne, o_is, o_ls, o_as, o_iinc, o_kill, o_sw, o_ireturn, o_zreturn, o_nreturn, o_lreturn, o_areturn, o_return, o_athrow, o_call, entP, lg_sl, Value.category, st1, st2, List.set, List.getElem?_cons_zero, List.getElem?_cons_succ, List.foldl, popN, aft, o_gI, o_gR, o_pI, o_pN, o_pR, o_aI, o_aG, o_aR, o_len, o_aR8, o_sI, o_sB, o_sZ, o_sG, o_new, o_newA, o_cast, o_inst, o_cst, o_oi, o_sR, o_gIc, o_gSv, o_gSc, o_getc, o_dead, o_acopy, o_castA, o_castI, o_sR7, o_mna, o_mmax, o_mmin, o_mabs, hT_sI, hT_sR, hT_sG, hL_sI, hL_sR, hL_sG, hI_sI, hI_sR, hI_sG, hG_sI, hG_sR, hG_sG, hR_sI, hR_sR, hR_sG, hN_sI, hN_sR, hN_sG, hC_sI, hC_sR, hC_sG, hS_sI, hS_sR, hS_sG, hT_nw, hL_nw, hI_nw, hG_nw, hR_nw, hN_nw, hC_nw, hS_nw, hvc, hvi, dspI, vref, va_rf, hrd]
  refine ct_next L.2.2.1 L.2.1 (Nat.zero_le _) h3 (fun σ1 n1 t1 => ?_)
  have f1 := HL.nx hk0 hrd n1
  have L1 : LRd κ σ1 rd o l [] (skp (tpF l) l.length 0) := ⟨L.rdr f1, t1⟩
  have f1m : HL κ (M3 rd) NoM 0 0 σ σ1 := f1.imp (fun _ z => Or.inl z) (fun _ z => z)
  have C1 : CX κ σ1 rd 0 [] [] := by
    refine C.hl hrd hk0 f1 (fun j h1 h2 => by show ¬ rd + j = rd; omega) (by show ¬ rd + 8 = rd; omega) (fun b q => ?_)
    rw [show b = rd from q, hrd]; decide
  have f19 : HL κ (M9 rd) NoM 0 0 σ σ1 := f1m.imp (fun b q => m3_9 q) (fun _ q => q)
  have N1 : hN σ1 = rd + 9 := by
    have : hN σ1 = hN σ := by unfold hN; rw [n1.1]
    omega
  have S1 : RdS κ σ σ1 rd o l [] [] (skp (tpF l) l.length 0) := by
    refine ⟨L1, C1, by show rd + 9 ≤ hN σ1; omega, f19, by simp [foldB], by simp [foldB, nmz]⟩
  simp [o_ic, o_lc, o_null, o_il, o_ll, o_al, o_dup, o_pop, o_dup_x1, o_dup2, o_iadd, o_isub, o_imul, o_iand, o_ior, o_ixor, o_ishl, o_ishr, o_idiv, o_irem, o_ineg, o_ladd, o_lsub, o_lmul, o_land, o_lor, o_lxor, o_ldiv, o_lrem, o_lneg, o_lcmp, o_i2l, o_l2i, o_i2b, o_i2c, o_iushr, o_lshl, o_lshr, o_if_eq, o_if_ne, o_if_lt, o_if_ge, o_if_gt, o_if_le, o_icmp_eq, o_icmp_ne, o_icmp_lt, o_icmp_ge, o_icmp_gt, o_icmp_le, o_ifnull, o_ifnonnull, o_acmp_eq, o_acmp_ne, o_is, o_ls, o_as, o_iinc, o_kill, o_sw, o_ireturn, o_zreturn, o_nreturn, o_lreturn, o_areturn, o_return, o_athrow, o_call, entP, lg_sl, Value.category, st1, st2, List.set, List.getElem?_cons_zero, List.getElem?_cons_succ, List.foldl, popN, aft]
  unfold bX3_read_4
  intro X hX
  refine ls_blks (κ := κ) (Q := Q) (rd := rd) (o := o) (l := l) (σ0 := σ) (K := o_al 0 <| o_call 1 (hvc [(3, pX3_check κ)]) (fun _ a σ => Q (.inr a) σ) <| o_al 0 <| o_gR 0 [3] <| o_call 1 (hvc [(4, pX4_close κ)]) (fun _ a σ => Q (.inr a) σ) <| o_al 0 <| o_gR 0 [3] <| o_areturn Q) hk0 (by omega) (by omega) (by omega) hX 41 σ1 _ [] [] rfl (by simp) S1 (fun σ2 bks wss g e2 S2 => ?_) (fun σ2 a e e2 H2 E2 => ?_)
  rotate_left
  · have e2' : blks (tpF l) l.length 41 (skp (tpF l) l.length 0) 0 0 = .error e := e2
    rw [e2'] at er
    exact er σ2 a e rfl ((H2.imp (M' := GeM rd) (MR' := GeM rd) (fun b q => q.1) (fun _ q => q.elim)).up (by omega) (by omega)) E2
  have e2' : blks (tpF l) l.length 41 (skp (tpF l) l.length 0) 0 0 = .ok bks := e2
  rw [e2'] at ok er
  simp only [List.nil_append] at S2
  have hrR : rdR (tpF l) l.length = .ok (foldB bks) := by unfold rdR; rw [e2']; rfl
  obtain ⟨r1, r2⟩ := r0 (fun z => by rw [z] at hrR; exact rdR_nil hrR)
  obtain ⟨w, h0⟩ := rdR_wf hrR
  have eR : (Except.ok bks : Except Flt (List Blk)).map (fun bs => bs.foldl addB ([], [])) = .ok (foldB bks) := rfl
  rw [eR] at ok er
  simp only at ok er
  obtain ⟨L2, C2, B2, H2, hln, hnm⟩ := S2
  have hk2 := L2.ok
  have b40 : bks.length ≤ 40 := by have := w.2.1; rw [foldB_len2] at this; exact this
  have sq := sq_le hln
  obtain ⟨A, lo, hi, NX, BF, CS2, it2⟩ := CS.start (ws := []) hk2 C2 B2 (Nat.le_refl _)
  have V2 := CS2.endV w it2
  have K2 : CkV κ σ2 rd (foldB bks) wss := by
    obtain ⟨a1, a2, a3, a4, a5, a6, a7, a8, a9, b1, b2, b3, b4, xs, b5, b6, b7⟩ := id C2
    refine ⟨hk2, L2.rd3, a1, V2, L2.1.2.2.2.1, L2.1.2.2.2.2.1, L2.1.2.2.2.2.2.2, a2, xs, b5, by rw [b6, foldB_len2]; simp, fun b hb => ?_⟩
    rw [foldB_len2] at hb
    have hg : bks[b]? = some ((bks[b]).1, (bks[b]).2) := List.getElem?_eq_getElem hb
    obtain ⟨x, e1, e2⟩ := b7 b (bks[b]).1 (by rw [List.getElem?_map, hg]; rfl)
    exact ⟨x, e1, by rw [(foldB_fst hg).2.1]; exact e2⟩
  have hn40 : ∀ x ∈ nmz (foldB bks).1, x.2 < 40 := fun x hx => by
    unfold nmz at hx
    rw [List.mem_flatMap] at hx
    obtain ⟨y, hy1, hy2⟩ := hx
    obtain ⟨k, hk⟩ := List.getElem?_of_mem hy1
    exact (w.2.2.2.2.1 k y hk).2.2.2.2.2.2.2.2.2.2.2.2.2.2.2 x hy2
  have G2 : HL κ (GeM rd) (GeM rd) 3600 80960 σ σ2 := (H2.imp (M' := GeM rd) (MR' := GeM rd) (fun b q => q.1) (fun _ q => q.elim)).up (by omega) (by omega)
  simp [o_ic, o_lc, o_null, o_il, o_ll, o_al, o_dup, o_pop, o_dup_x1, o_dup2, o_iadd, o_isub, o_imul, o_iand, o_ior, o_ixor, o_ishl, o_ishr, o_idiv, o_irem, o_ineg, o_ladd, o_lsub, o_lmul, o_land, o_lor, o_lxor, o_ldiv, o_lrem, o_lneg, o_lcmp, o_i2l, o_l2i, o_i2b, o_i2c, o_iushr, o_lshl, o_lshr, o_if_eq, o_if_ne, o_if_lt, o_if_ge, o_if_gt, o_if_le, o_icmp_eq, o_icmp_ne, o_icmp_lt, o_icmp_ge, o_icmp_gt, o_icmp_le, o_ifnull, o_ifnonnull, o_acmp_eq, o_acmp_ne, o_is, o_ls, o_as, o_iinc, o_kill, o_sw, o_ireturn, o_zreturn, o_nreturn, o_lreturn, o_areturn, o_return, o_athrow, o_call, entP, lg_sl, Value.category, st1, st2, List.set, List.getElem?_cons_zero, List.getElem?_cons_succ, List.foldl, popN, aft, o_gI, o_gR, o_pI, o_pN, o_pR, o_aI, o_aG, o_aR, o_len, o_aR8, o_sI, o_sB, o_sZ, o_sG, o_new, o_newA, o_cast, o_inst, o_cst, o_oi, o_sR, o_gIc, o_gSv, o_gSc, o_getc, o_dead, o_acopy, o_castA, o_castI, o_sR7, o_mna, o_mmax, o_mmin, o_mabs, hT_sI, hT_sR, hT_sG, hL_sI, hL_sR, hL_sG, hI_sI, hI_sR, hI_sG, hG_sI, hG_sR, hG_sG, hR_sI, hR_sR, hR_sG, hN_sI, hN_sR, hN_sG, hC_sI, hC_sR, hC_sG, hS_sI, hS_sR, hS_sG, hT_nw, hL_nw, hI_nw, hG_nw, hR_nw, hN_nw, hC_nw, hS_nw, hvc, hvi, dspI, vref, va_rf, L2.rd3]
  refine ct_check K2 w h0 hn40 (by omega) (by have := G2.C; omega) (by have := G2.S; omega) (fun σ3 hc F3 => ?_) (fun σ3 a e hc F3 E3 => ?_)
  rotate_left
  · rw [hc] at er
    simp [o_ic, o_lc, o_null, o_il, o_ll, o_al, o_dup, o_pop, o_dup_x1, o_dup2, o_iadd, o_isub, o_imul, o_iand, o_ior, o_ixor, o_ishl, o_ishr, o_idiv, o_irem, o_ineg, o_ladd, o_lsub, o_lmul, o_land, o_lor, o_lxor, o_ldiv, o_lrem, o_lneg, o_lcmp, o_i2l, o_l2i, o_i2b, o_i2c, o_iushr, o_lshl, o_lshr, o_if_eq, o_if_ne, o_if_lt, o_if_ge, o_if_gt, o_if_le, o_icmp_eq, o_icmp_ne, o_icmp_lt, o_icmp_ge, o_icmp_gt, o_icmp_le, o_ifnull, o_ifnonnull, o_acmp_eq, o_acmp_ne, o_is, o_ls, o_as, o_iinc, o_kill, o_sw, o_ireturn, o_zreturn, o_nreturn, o_lreturn, o_areturn, o_return, o_athrow, o_call, entP, lg_sl, Value.category, st1, st2, List.set, List.getElem?_cons_zero, List.getElem?_cons_succ, List.foldl, popN, aft]
    exact er σ3 a e rfl ((G2.trans (F3.wk)).up (by omega) (by omega)) E3
  rw [hc] at ok
  have hT9 := chk_tg hc
  obtain ⟨L3, C3⟩ := C2.new L2 F3
  have B3 := B2.hl hk2 F3 (fun _ _ _ => ⟨id, id⟩)
  have hk3 := L3.ok
  have G3 := G2.trans (F3.wk (M := GeM rd) (MR := GeM rd))
  obtain ⟨A, lo, hi, NX, BF, CS3, it3⟩ := CS.start (ws := []) hk3 C3 B3 F3.lt
  obtain ⟨a1, a2, a3, a4, a5, a6, a7, a8, a9, b1, b2, b3, b4, -⟩ := id C3
  have P0 : P1 κ σ3 σ3 (rd + 1) (foldB bks) wss A lo hi NX BF 0 := ⟨CS3, it3, b2, fun i hi' => by omega, b3, b4, a9, (HL.rfl9 hk3).up (by omega) (by omega)⟩
  simp [o_ic, o_lc, o_null, o_il, o_ll, o_al, o_dup, o_pop, o_dup_x1, o_dup2, o_iadd, o_isub, o_imul, o_iand, o_ior, o_ixor, o_ishl, o_ishr, o_idiv, o_irem, o_ineg, o_ladd, o_lsub, o_lmul, o_land, o_lor, o_lxor, o_ldiv, o_lrem, o_lneg, o_lcmp, o_i2l, o_l2i, o_i2b, o_i2c, o_iushr, o_lshl, o_lshr, o_if_eq, o_if_ne, o_if_lt, o_if_ge, o_if_gt, o_if_le, o_icmp_eq, o_icmp_ne, o_icmp_lt, o_icmp_ge, o_icmp_gt, o_icmp_le, o_ifnull, o_ifnonnull, o_acmp_eq, o_acmp_ne, o_is, o_ls, o_as, o_iinc, o_kill, o_sw, o_ireturn, o_zreturn, o_nreturn, o_lreturn, o_areturn, o_return, o_athrow, o_call, entP, lg_sl, Value.category, st1, st2, List.set, List.getElem?_cons_zero, List.getElem?_cons_succ, List.foldl, popN, aft, o_gI, o_gR, o_pI, o_pN, o_pR, o_aI, o_aG, o_aR, o_len, o_aR8, o_sI, o_sB, o_sZ, o_sG, o_new, o_newA, o_cast, o_inst, o_cst, o_oi, o_sR, o_gIc, o_gSv, o_gSc, o_getc, o_dead, o_acopy, o_castA, o_castI, o_sR7, o_mna, o_mmax, o_mmin, o_mabs, hT_sI, hT_sR, hT_sG, hL_sI, hL_sR, hL_sG, hI_sI, hI_sR, hI_sG, hG_sI, hG_sR, hG_sG, hR_sI, hR_sR, hR_sG, hN_sI, hN_sR, hN_sG, hC_sI, hC_sR, hC_sG, hS_sI, hS_sR, hS_sG, hT_nw, hL_nw, hI_nw, hG_nw, hR_nw, hN_nw, hC_nw, hS_nw, hvc, hvi, dspI, vref, va_rf, L3.rd3, a1, a3]
  refine ct_close w hT9 h0 (by have := G3.C; omega) (by have := G3.S; omega) P0 (fun σ4 A' NX' BF' B' ss RT WY F4 => ?_)
  have hr4 : hT σ4 rd = 3 := F4.tg hk3 L3.rd3 (by decide)
  have e04 : hR σ4 rd 0 = some (rd + 1) := (F4.ref hk3 L3.rd3 (by decide) (by show ¬ rd + 1 ≤ rd; omega) 0).trans a1
  have F4' : HL κ (GeM rd) (GeM rd) 1300 126940 σ3 σ4 := F4.imp (fun b q => by have q : rd + 1 ≤ b := q; show rd ≤ b; omega) (fun b q => by have q : rd + 1 ≤ b := q; show rd ≤ b; omega)
  simp [o_ic, o_lc, o_null, o_il, o_ll, o_al, o_dup, o_pop, o_dup_x1, o_dup2, o_iadd, o_isub, o_imul, o_iand, o_ior, o_ixor, o_ishl, o_ishr, o_idiv, o_irem, o_ineg, o_ladd, o_lsub, o_lmul, o_land, o_lor, o_lxor, o_ldiv, o_lrem, o_lneg, o_lcmp, o_i2l, o_l2i, o_i2b, o_i2c, o_iushr, o_lshl, o_lshr, o_if_eq, o_if_ne, o_if_lt, o_if_ge, o_if_gt, o_if_le, o_icmp_eq, o_icmp_ne, o_icmp_lt, o_icmp_ge, o_icmp_gt, o_icmp_le, o_ifnull, o_ifnonnull, o_acmp_eq, o_acmp_ne, o_is, o_ls, o_as, o_iinc, o_kill, o_sw, o_ireturn, o_zreturn, o_nreturn, o_lreturn, o_areturn, o_return, o_athrow, o_call, entP, lg_sl, Value.category, st1, st2, List.set, List.getElem?_cons_zero, List.getElem?_cons_succ, List.foldl, popN, aft, o_gI, o_gR, o_pI, o_pN, o_pR, o_aI, o_aG, o_aR, o_len, o_aR8, o_sI, o_sB, o_sZ, o_sG, o_new, o_newA, o_cast, o_inst, o_cst, o_oi, o_sR, o_gIc, o_gSv, o_gSc, o_getc, o_dead, o_acopy, o_castA, o_castI, o_sR7, o_mna, o_mmax, o_mmin, o_mabs, hT_sI, hT_sR, hT_sG, hL_sI, hL_sR, hL_sG, hI_sI, hI_sR, hI_sG, hG_sI, hG_sR, hG_sG, hR_sI, hR_sR, hR_sG, hN_sI, hN_sR, hN_sG, hC_sI, hC_sR, hC_sG, hS_sI, hS_sR, hS_sG, hT_nw, hL_nw, hI_nw, hG_nw, hR_nw, hN_nw, hC_nw, hS_nw, hvc, hvi, dspI, vref, va_rf, hr4, e04]
  exact ok σ4 (foldB bks) wss A' NX' BF' B' ss rfl RT WY ((G3.trans F4').up (by omega) (by omega))
end RE
