/-! THE COMPONENT: steps of a line -/
set_option maxRecDepth 100000
abbrev M3 (rd : Nat) : Nat → Prop := ML rd (rd + 6) (rd + 7)
def LRd (κ : Nat → Option Nat) (σ : AH) (rd o : Nat) (l : List Nat) (nl : List (Nat × Nat)) (f : Nat) : Prop := LnC κ σ rd o l (rd + 6) (rd + 7) nl ∧ TokC σ rd (tpF l) l.length f
section LSs
variable {κ : Nat → Option Nat} {Q : Ret AH} {σ σ' : AH} {rd o f c s : Nat} {l : List Nat} {nl : List (Nat × Nat)}
theorem LRd.ok (h : LRd κ σ rd o l nl f) : Hok κ σ := h.1.1
theorem LRd.rd3 (h : LRd κ σ rd o l nl f) : hT σ rd = 3 := h.1.2.2.1.1
theorem LRd.ne (h : LRd κ σ rd o l nl f) : ¬ rd = hN σ := by have := h.ok.1.lt (a := rd) (by rw [h.rd3]; decide); omega
theorem LRd.nw (h : LRd κ σ rd o l nl f) {t n m : Nat} (ht : t ≠ 19) : LRd κ (hnw σ t n m) rd o l nl f ∧ HL κ (M3 rd) NoM 1 m σ (hnw σ t n m) ∧ hT (hnw σ t n m) (hN σ) = t ∧ hN (hnw σ t n m) = hN σ + 1 := by
  have hk := h.ok
  have f1 : HL κ NoM NoM 1 m σ (hnw σ t n m) := ((HL.rfl9 (M := NoM) (MR := NoM) hk).nw (hk.nw ht)).up (by omega) (by omega)
  exact ⟨⟨h.1.new f1, h.2.hl h.rd3 hk f1 id⟩, f1.wk, by rw [hT_nw, if_pos rfl], rfl⟩
/-- by what is written to one object that is none of the reader's -/
theorem LRd.ow {a t : Nat} (h : LRd κ σ rd o l nl f) (hF : HL κ (EqM a) (EqM a) c s σ σ') (ha : hT σ a = t) (ht : t ≠ 3 ∧ t ≠ 19 ∧ t ≠ 20 ∧ t ≠ 60 ∧ t ≠ 1 ∧ t ≠ 102) : LRd κ σ' rd o l nl f := by
  obtain ⟨⟨h1, h2, h3, h4, h5, h6, h7⟩, h8⟩ := h
  obtain ⟨xs, ys, g1, g2, -⟩ := id h7
  have n1 : ¬ rd = a := fun q => by rw [← q, h3.1] at ha; exact ht.1 ha.symm
  have n2 : ¬ rd + 6 = a := fun q => by rw [← q, g1.1] at ha; exact ht.2.1 ha.symm
  have n3 : ¬ rd + 7 = a := fun q => by rw [← q, g2.1] at ha; exact ht.2.1 ha.symm
  refine ⟨⟨hF.ok, h2.hl h1 hF, h3.hl h1 hF (fun b hb => ?_) n1, (hF.ref h1 h3.1 (by decide) n1 5).trans h4, (hF.ref h1 h3.1 (by decide) n1 6).trans h5, h6, h7.hl h1 hF n2 n3 (fun b hb => ?_)⟩, h8.hl h3.1 h1 hF n1⟩
  · have e : b = a := hb.elim id id
    rw [e, ha]; omega
  · have e : b = a := hb
    rw [e, ha]; omega
theorem ls_next (h : LRd κ σ rd o l nl f) (k : ∀ σ', HL κ (M3 rd) NoM 0 0 σ σ' → LRd κ σ' rd o l nl (nx (tpF l) l.length f) → Q (.inl none) σ') : pX3_next κ [.ref rd] σ Q := by
  obtain ⟨h1, h2⟩ := id h
  refine ct_next h1.2.2.1 h1.2.1 (tEnd_le (tpF l) h2.1) h2.2.2.1 (fun σ1 n1 t1 => ?_)
  have f1 := HL.nx h.ok h.rd3 n1
  exact k σ1 (f1.imp (fun _ z => Or.inl z) (fun _ z => z)) ⟨h1.rdr f1, t1⟩
theorem ls_sign {ch : Nat} (h : LRd κ σ rd o l nl f) (hc : ch < 2147483648) (r1 : 1 ≤ hC σ) (r2 : 8 ≤ hS σ)
    (ok : ∀ σ' g, sgx (tpF l) l.length f ch = .ok g → HL κ (M3 rd) NoM 0 0 σ σ' → LRd κ σ' rd o l nl g → Q (.inl none) σ')
    (er : ∀ σ' a e, sgx (tpF l) l.length f ch = .error e → HL κ (M3 rd) NoM 1 8 σ σ' → FltC σ' a e → Q (.inr a) σ') : pX3_sign κ [.ref rd, .int (nn ch)] σ Q := by
  obtain ⟨h1, h2⟩ := id h
  refine ct_sign h.ok h1.2.1 h1.2.2.1 h2 hc r1 r2 (fun σ1 g e f1 t1 => ok σ1 g e (f1.imp (fun _ z => Or.inl z) (fun _ z => z)) ⟨h1.rdr f1, t1⟩) (fun σ1 a e he f1 q => er σ1 a e he (f1.imp (fun _ z => Or.inl z) (fun _ z => z)) q)
theorem ls_operand (h : LRd κ σ rd o l nl f) (r1 : 1 ≤ hC σ) (r2 : 8 ≤ hS σ)
    (ok : ∀ σ' a x g, opnd (tpF l) l.length f = .ok (x, g) → HL κ (M3 rd) NoM 1 2 σ σ' → LRd κ σ' rd o l nl g → OpdC σ' a x → hN σ ≤ a → Q (.inl (some (.ref a))) σ')
    (er : ∀ σ' a e, opnd (tpF l) l.length f = .error e → HL κ (M3 rd) NoM 1 8 σ σ' → FltC σ' a e → Q (.inr a) σ') : pX3_operand κ [.ref rd] σ Q := by
  obtain ⟨h1, h2⟩ := id h
  refine ct_operand h.ok h1.2.1 h1.2.2.1 h2 r1 r2 (fun σ1 a x g e f1 t1 o1 n1 => ok σ1 a x g e (f1.imp (fun _ z => Or.inl z) (fun _ z => z)) ⟨h1.rdr f1, t1⟩ o1 n1) (fun σ1 a e he f1 q => er σ1 a e he (f1.imp (fun _ z => Or.inl z) (fun _ z => z)) q)
theorem ls_target (h : LRd κ σ rd o l nl f) (hn : nl.length < 100) (r1 : 4 ≤ hC σ) (r2 : 422 ≤ hS σ)
    (ok : ∀ σ' b g, tgt (tpF l) l.length f = .ok (b, g) → HL κ (M3 rd) NoM 4 422 σ σ' → LRd κ σ' rd o l (nl ++ [(f, b)]) g → Q (.inl (some (.int (nn b)))) σ')
    (er : ∀ σ' a e, tgt (tpF l) l.length f = .error e → HL κ (M3 rd) NoM 4 422 σ σ' → FltC σ' a e → Q (.inr a) σ') : pX3_target κ [.ref rd] σ Q := by
  obtain ⟨h1, h2⟩ := id h
  exact ct_target h1 h2 hn r1 r2 (fun σ1 b g e f1 n1 t1 => ok σ1 b g e f1 ⟨n1, t1⟩) er
/-- tags of what the reader's steps may write -/
theorem LRd.tg (h : LRd κ σ rd o l nl f) {b : Nat} (hb : M3 rd b) : hT σ b = 3 ∨ hT σ b = 19 := by
  obtain ⟨xs, ys, g1, g2, -⟩ := h.1.2.2.2.2.2.2
  rcases hb with q | q | q
  · rw [q]; exact Or.inl h.rd3
  · rw [q]; exact Or.inr g1.1
  · rw [q]; exact Or.inr g2.1
theorem LRd.opd {a : Nat} {x : Opd} (h : LRd κ σ rd o l nl f) (q : OpdC σ a x) (hF : HL κ (M3 rd) NoM c s σ σ') : OpdC σ' a x := q.hl h.ok hF (fun z => by have := h.tg z; have := q.1; omega)
theorem LRd.wd {w : List Nat} (h : LRd κ σ rd o l nl f) {i : Nat} {a : Nat} (hi : i < kStr.length) (hw : kTx i = w) (ha : κ i = some a) (hl : w.length < 600) (k : Q (.inl (some (.int (if isW (tpF l) l.length f w then 1 else 0)))) σ) : pX3_isWord κ [.ref rd, .ref a] σ Q := by
  obtain ⟨b, e1, e2⟩ := h.1.2.1.2 i hi
  rw [ha] at e1
  cases e1
  rw [hw] at e2
  exact ct_isWord h.1.2.2.1 h.2 e2 hl k
end LSs
/-- a node that is done -/
theorem ItmC.mk {κ : Nat → Option Nat} {σ : AH} {a : Nat} {it : Itm} {lo n0 : Nat} (hk : Hok κ σ) (h1 : lo ≤ a) (h2 : ItmF σ a it lo (hN σ)) (h3 : NdN κ σ a n0) (h4 : lo ≤ n0) (h5 : it.1 = 0 → ∃ x, hR σ a 5 = some x ∧ hI σ x 0 = -1) : ItmC κ σ a it lo (hN σ) := by
  obtain ⟨x, y, e1, e2, e3, e4, e5, e6, e7⟩ := h3
  exact ⟨h1, hk.1.lt (by rw [h2.2.1]; omega), h2, ⟨x, y, e1, e2, e3, e4, e5, by omega, hk.1.lt (by rw [e3.1]; decide), by omega, hk.1.lt (by rw [e4.1]; decide)⟩, h5⟩
theorem OpdI.mk {κ : Nat → Option Nat} {σ : AH} {a lo : Nat} {x : Opd} (hk : Hok κ σ) (h : OpdC σ a x) (h1 : lo ≤ a) : OpdI σ a x lo (hN σ) := ⟨h1, hk.1.lt (by rw [h.1]; decide), h⟩
/-- a line's end: what it leaves -/
abbrev LnOk (κ : Nat → Option Nat) (σ : AH) (rd o : Nat) (l : List Nat) (nl : List (Nat × Nat)) (sp : Except Flt (Itm × Nat)) (Q : Ret AH) : Prop :=
  (∀ σ' a it g, sp = .ok (it, g) → HL κ (M3 rd) NoM 16 (40 + 422 * (iT it).length) σ σ' → LRd κ σ' rd o l (nl ++ iT it) g → ItmC κ σ' a it (hN σ) (hN σ') → Q (.inl (some (.ref a))) σ')
abbrev LnEr (κ : Nat → Option Nat) (σ : AH) (rd : Nat) (sp : Except Flt (Itm × Nat)) (Q : Ret AH) : Prop :=
  (∀ σ' a e, sp = .error e → HL κ (M3 rd) NoM 16 900 σ σ' → FltC σ' a e → Q (.inr a) σ')
theorem ls_test {κ : Nat → Option Nat} {Q : Ret AH} {σ : AH} {rd o f : Nat} {l : List Nat} {nl : List (Nat × Nat)} (h : LRd κ σ rd o l nl f) (hn : nl.length < 98) (r1 : 16 ≤ hC σ) (r2 : 900 ≤ hS σ)
    (ok : LnOk κ σ rd o l nl (do
        let (a, g) ← opnd (tpF l) l.length (nx (tpF l) l.length f)
        let g ← sgx (tpF l) l.length g 60
        let (b, g) ← opnd (tpF l) l.length g
        let (t1, g1) ← tgt (tpF l) l.length g
        let (t2, g2) ← tgt (tpF l) l.length g1
        .ok ((5, -1, 0, a, b, none, [(g, t1), (g1, t2)]), g2)) Q)
    (er : LnEr κ σ rd (do
        let (a, g) ← opnd (tpF l) l.length (nx (tpF l) l.length f)
        let g ← sgx (tpF l) l.length g 60
        let (b, g) ← opnd (tpF l) l.length g
        let (t1, g1) ← tgt (tpF l) l.length g
        let (t2, g2) ← tgt (tpF l) l.length g1
        .ok ((5, -1, 0, a, b, none, [(g, t1), (g1, t2)]), g2)) Q) : pX3_test κ [.ref rd] σ Q := by
  have t0 := h.rd3
  simp [pX3_test, bX3_test_0, o_ic, o_lc, o_null, o_il, o_ll, o_al, o_dup, o_pop, o_dup_x1, o_dup2, o_iadd, o_isub, o_imul, o_iand, o_ior, o_ixor, o_ishl, o_ishr, o_idiv, o_irem, o_ineg, o_ladd, o_lsub, o_lmul, o_land, o_lor, o_lxor, o_ldiv, o_lrem, o_lneg, o_lcmp, o_i2l, o_l2i, o_i2b, o_i2c, o_iushr, o_lshl, o_lshr, o_if_eq, o_if_ne, o_if_lt, o_if_ge, o_if_gt, o_if_le, o_icmp_eq, o_icmp_ne, o_icmp_lt, o_icmp_ge, o_icmp_gt, o_icmp_le, o_ifnull, o_ifnonnull, o_acmp_eq, o_acmp_ne, o_is, o_ls, o_as, o_iinc, o_kill, o_sw, o_ireturn, o_zreturn, o_nreturn, o_lreturn, o_areturn, o_return, o_athrow, o_call, entP, lg_sl, Value.category, st1, st2, List.set, List.getElem?_cons_zero, List.getElem?_cons_succ, List.foldl, popN, aft, o_gI, o_gR, o_pI, o_pN, o_pR, o_aI, o_aG, o_aR, o_len, o_aR8, o_sI, o_sB, o_sZ, o_sG, o_new, o_newA, o_cast, o_inst, o_cst, o_oi, o_sR, o_gIc, o_gSv, o_gSc, o_getc, o_dead, o_acopy, o_castA, o_castI, o_sR7, o_mna, o_mmax, o_mmin, o_mabs, hT_sI, hT_sR, hT_sG, hL_sI, hL_sR, hL_sG, hI_sI, hI_sR, hI_sG, hG_sI, hG_sR, hG_sG, hR_sI, hR_sR, hR_sG, hN_sI, hN_sR, hN_sG, hC_sI, hC_sR, hC_sG, hS_sI, hS_sR, hS_sG, hT_nw, hL_nw, hI_nw, hG_nw, hR_nw, hN_nw, hC_nw, hS_nw, hvc, hvi, dspI, vref, va_rf, t0]
  refine ls_next h (fun σ1 F1 L1 => ?_)
  simp [o_ic, o_lc, o_null, o_il, o_ll, o_al, o_dup, o_pop, o_dup_x1, o_dup2, o_iadd, o_isub, o_imul, o_iand, o_ior, o_ixor, o_ishl, o_ishr, o_idiv, o_irem, o_ineg, o_ladd, o_lsub, o_lmul, o_land, o_lor, o_lxor, o_ldiv, o_lrem, o_lneg, o_lcmp, o_i2l, o_l2i, o_i2b, o_i2c, o_iushr, o_lshl, o_lshr, o_if_eq, o_if_ne, o_if_lt, o_if_ge, o_if_gt, o_if_le, o_icmp_eq, o_icmp_ne, o_icmp_lt, o_icmp_ge, o_icmp_gt, o_icmp_le, o_ifnull, o_ifnonnull, o_acmp_eq, o_acmp_ne, o_is, o_ls, o_as, o_iinc, o_kill, o_sw, o_ireturn, o_zreturn, o_nreturn, o_lreturn, o_areturn, o_return, o_athrow, o_call, entP, lg_sl, Value.category, st1, st2, List.set, List.getElem?_cons_zero, List.getElem?_cons_succ, List.foldl, popN, aft, o_gI, o_gR, o_pI, o_pN, o_pR, o_aI, o_aG, o_aR, o_len, o_aR8, o_sI, o_sB, o_sZ, o_sG, o_new, o_newA, o_cast, o_inst, o_cst, o_oi, o_sR, o_gIc, o_gSv, o_gSc, o_getc, o_dead, o_acopy, o_castA, o_castI, o_sR7, o_mna, o_mmax, o_mmin, o_mabs, hT_sI, hT_sR, hT_sG, hL_sI, hL_sR, hL_sG, hI_sI, hI_sR, hI_sG, hG_sI, hG_sR, hG_sG, hR_sI, hR_sR, hR_sG, hN_sI, hN_sR, hN_sG, hC_sI, hC_sR, hC_sG, hS_sI, hS_sR, hS_sG, hT_nw, hL_nw, hI_nw, hG_nw, hR_nw, hN_nw, hC_nw, hS_nw, hvc, hvi, dspI, vref, va_rf, L1.rd3]
  refine ls_operand L1 (by have := F1.C; omega) (by have := F1.S; omega) (fun σ2 a x g ea F2 L2 O2 N2 => ?_) (fun σ2 a e ea F2 E2 => ?_)
  rotate_left
  · exact er σ2 a e (by rw [ea]; rfl) ((F1.trans F2).up (by omega) (by omega)) E2
  have G2 := F1.trans F2
  simp [o_ic, o_lc, o_null, o_il, o_ll, o_al, o_dup, o_pop, o_dup_x1, o_dup2, o_iadd, o_isub, o_imul, o_iand, o_ior, o_ixor, o_ishl, o_ishr, o_idiv, o_irem, o_ineg, o_ladd, o_lsub, o_lmul, o_land, o_lor, o_lxor, o_ldiv, o_lrem, o_lneg, o_lcmp, o_i2l, o_l2i, o_i2b, o_i2c, o_iushr, o_lshl, o_lshr, o_if_eq, o_if_ne, o_if_lt, o_if_ge, o_if_gt, o_if_le, o_icmp_eq, o_icmp_ne, o_icmp_lt, o_icmp_ge, o_icmp_gt, o_icmp_le, o_ifnull, o_ifnonnull, o_acmp_eq, o_acmp_ne, o_is, o_ls, o_as, o_iinc, o_kill, o_sw, o_ireturn, o_zreturn, o_nreturn, o_lreturn, o_areturn, o_return, o_athrow, o_call, entP, lg_sl, Value.category, st1, st2, List.set, List.getElem?_cons_zero, List.getElem?_cons_succ, List.foldl, popN, aft, o_gI, o_gR, o_pI, o_pN, o_pR, o_aI, o_aG, o_aR, o_len, o_aR8, o_sI, o_sB, o_sZ, o_sG, o_new, o_newA, o_cast, o_inst, o_cst, o_oi, o_sR, o_gIc, o_gSv, o_gSc, o_getc, o_dead, o_acopy, o_castA, o_castI, o_sR7, o_mna, o_mmax, o_mmin, o_mabs, hT_sI, hT_sR, hT_sG, hL_sI, hL_sR, hL_sG, hI_sI, hI_sR, hI_sG, hG_sI, hG_sR, hG_sG, hR_sI, hR_sR, hR_sG, hN_sI, hN_sR, hN_sG, hC_sI, hC_sR, hC_sG, hS_sI, hS_sR, hS_sG, hT_nw, hL_nw, hI_nw, hG_nw, hR_nw, hN_nw, hC_nw, hS_nw, hvc, hvi, dspI, vref, va_rf, L2.rd3]
  refine ls_sign (ch := 60) L2 (by omega) (by have := G2.C; omega) (by have := G2.S; omega) (fun σ3 g3 e3 F3 L3 => ?_) (fun σ3 a3 e he F3 E3 => ?_)
  rotate_left
  · exact er σ3 a3 e (by rw [ea]; simp only [bind, Except.bind]; rw [he]) ((G2.trans F3).up (by omega) (by omega)) E3
  have G3 := G2.trans F3
  simp [o_ic, o_lc, o_null, o_il, o_ll, o_al, o_dup, o_pop, o_dup_x1, o_dup2, o_iadd, o_isub, o_imul, o_iand, o_ior, o_ixor, o_ishl, o_ishr, o_idiv, o_irem, o_ineg, o_ladd, o_lsub, o_lmul, o_land, o_lor, o_lxor, o_ldiv, o_lrem, o_lneg, o_lcmp, o_i2l, o_l2i, o_i2b, o_i2c, o_iushr, o_lshl, o_lshr, o_if_eq, o_if_ne, o_if_lt, o_if_ge, o_if_gt, o_if_le, o_icmp_eq, o_icmp_ne, o_icmp_lt, o_icmp_ge, o_icmp_gt, o_icmp_le, o_ifnull, o_ifnonnull, o_acmp_eq, o_acmp_ne, o_is, o_ls, o_as, o_iinc, o_kill, o_sw, o_ireturn, o_zreturn, o_nreturn, o_lreturn, o_areturn, o_return, o_athrow, o_call, entP, lg_sl, Value.category, st1, st2, List.set, List.getElem?_cons_zero, List.getElem?_cons_succ, List.foldl, popN, aft, o_gI, o_gR, o_pI, o_pN, o_pR, o_aI, o_aG, o_aR, o_len, o_aR8, o_sI, o_sB, o_sZ, o_sG, o_new, o_newA, o_cast, o_inst, o_cst, o_oi, o_sR, o_gIc, o_gSv, o_gSc, o_getc, o_dead, o_acopy, o_castA, o_castI, o_sR7, o_mna, o_mmax, o_mmin, o_mabs, hT_sI, hT_sR, hT_sG, hL_sI, hL_sR, hL_sG, hI_sI, hI_sR, hI_sG, hG_sI, hG_sR, hG_sG, hR_sI, hR_sR, hR_sG, hN_sI, hN_sR, hN_sG, hC_sI, hC_sR, hC_sG, hS_sI, hS_sR, hS_sG, hT_nw, hL_nw, hI_nw, hG_nw, hR_nw, hN_nw, hC_nw, hS_nw, hvc, hvi, dspI, vref, va_rf, L3.rd3]
  refine ls_operand L3 (by have := G3.C; omega) (by have := G3.S; omega) (fun σ4 b y g4 eb F4 L4 O4 N4 => ?_) (fun σ4 b e eb F4 E4 => ?_)
  rotate_left
  · exact er σ4 b e (by rw [ea]; simp only [bind, Except.bind]; rw [e3]; simp only; rw [eb]) ((G3.trans F4).up (by omega) (by omega)) E4
  have G4 := G3.trans F4
  simp [o_ic, o_lc, o_null, o_il, o_ll, o_al, o_dup, o_pop, o_dup_x1, o_dup2, o_iadd, o_isub, o_imul, o_iand, o_ior, o_ixor, o_ishl, o_ishr, o_idiv, o_irem, o_ineg, o_ladd, o_lsub, o_lmul, o_land, o_lor, o_lxor, o_ldiv, o_lrem, o_lneg, o_lcmp, o_i2l, o_l2i, o_i2b, o_i2c, o_iushr, o_lshl, o_lshr, o_if_eq, o_if_ne, o_if_lt, o_if_ge, o_if_gt, o_if_le, o_icmp_eq, o_icmp_ne, o_icmp_lt, o_icmp_ge, o_icmp_gt, o_icmp_le, o_ifnull, o_ifnonnull, o_acmp_eq, o_acmp_ne, o_is, o_ls, o_as, o_iinc, o_kill, o_sw, o_ireturn, o_zreturn, o_nreturn, o_lreturn, o_areturn, o_return, o_athrow, o_call, entP, lg_sl, Value.category, st1, st2, List.set, List.getElem?_cons_zero, List.getElem?_cons_succ, List.foldl, popN, aft, o_gI, o_gR, o_pI, o_pN, o_pR, o_aI, o_aG, o_aR, o_len, o_aR8, o_sI, o_sB, o_sZ, o_sG, o_new, o_newA, o_cast, o_inst, o_cst, o_oi, o_sR, o_gIc, o_gSv, o_gSc, o_getc, o_dead, o_acopy, o_castA, o_castI, o_sR7, o_mna, o_mmax, o_mmin, o_mabs, hT_sI, hT_sR, hT_sG, hL_sI, hL_sR, hL_sG, hI_sI, hI_sR, hI_sG, hG_sI, hG_sR, hG_sG, hR_sI, hR_sR, hR_sG, hN_sI, hN_sR, hN_sG, hC_sI, hC_sR, hC_sG, hS_sI, hS_sR, hS_sG, hT_nw, hL_nw, hI_nw, hG_nw, hR_nw, hN_nw, hC_nw, hS_nw, hvc, hvi, dspI, vref, va_rf, L4.rd3]
  refine ls_target L4 (by omega) (by have := G4.C; omega) (by have := G4.S; omega) (fun σ5 t1 g5 et F5 L5 => ?_) (fun σ5 b5 e et F5 E5 => ?_)
  rotate_left
  · exact er σ5 b5 e (by rw [ea]; simp only [bind, Except.bind]; rw [e3]; simp only; rw [eb]; simp only; rw [et]) ((G4.trans F5).up (by omega) (by omega)) E5
  have G5 := G4.trans F5
  obtain ⟨L6, F6, T6, N6⟩ := L5.nw (t := 12) (n := 0) (m := 8) (by decide)
  have G6 := G5.trans F6
  have c5 : 1 ≤ hC σ5 := by have := G5.C; omega
  have s5 : 8 ≤ hS σ5 := by have := G5.S; omega
  simp [o_ic, o_lc, o_null, o_il, o_ll, o_al, o_dup, o_pop, o_dup_x1, o_dup2, o_iadd, o_isub, o_imul, o_iand, o_ior, o_ixor, o_ishl, o_ishr, o_idiv, o_irem, o_ineg, o_ladd, o_lsub, o_lmul, o_land, o_lor, o_lxor, o_ldiv, o_lrem, o_lneg, o_lcmp, o_i2l, o_l2i, o_i2b, o_i2c, o_iushr, o_lshl, o_lshr, o_if_eq, o_if_ne, o_if_lt, o_if_ge, o_if_gt, o_if_le, o_icmp_eq, o_icmp_ne, o_icmp_lt, o_icmp_ge, o_icmp_gt, o_icmp_le, o_ifnull, o_ifnonnull, o_acmp_eq, o_acmp_ne, o_is, o_ls, o_as, o_iinc, o_kill, o_sw, o_ireturn, o_zreturn, o_nreturn, o_lreturn, o_areturn, o_return, o_athrow, o_call, entP, lg_sl, Value.category, st1, st2, List.set, List.getElem?_cons_zero, List.getElem?_cons_succ, List.foldl, popN, aft, o_gI, o_gR, o_pI, o_pN, o_pR, o_aI, o_aG, o_aR, o_len, o_aR8, o_sI, o_sB, o_sZ, o_sG, o_new, o_newA, o_cast, o_inst, o_cst, o_oi, o_sR, o_gIc, o_gSv, o_gSc, o_getc, o_dead, o_acopy, o_castA, o_castI, o_sR7, o_mna, o_mmax, o_mmin, o_mabs, hT_sI, hT_sR, hT_sG, hL_sI, hL_sR, hL_sG, hI_sI, hI_sR, hI_sG, hG_sI, hG_sR, hG_sG, hR_sI, hR_sR, hR_sG, hN_sI, hN_sR, hN_sG, hC_sI, hC_sR, hC_sG, hS_sI, hS_sR, hS_sG, hT_nw, hL_nw, hI_nw, hG_nw, hR_nw, hN_nw, hC_nw, hS_nw, hvc, hvi, dspI, vref, va_rf, c5, s5, L5.ne, L5.rd3]
  refine ls_target (σ := hnw σ5 12 0 8) L6 (by simp; omega) (by have := G6.C; omega) (by have := G6.S; omega) (fun σ7 t2 g7 eu F7 L7 => ?_) (fun σ7 b7 e eu F7 E7 => ?_)
  rotate_left
  · exact er σ7 b7 e (by rw [ea]; simp only [bind, Except.bind]; rw [e3]; simp only; rw [eb]; simp only; rw [et]; simp only; rw [eu]) ((G6.trans F7).up (by omega) (by omega)) E7
  have G7 := G6.trans F7
  have T7 : hT σ7 (hN σ5) = 12 := F7.tg L6.ok T6 (by decide)
  simp [o_ic, o_lc, o_null, o_il, o_ll, o_al, o_dup, o_pop, o_dup_x1, o_dup2, o_iadd, o_isub, o_imul, o_iand, o_ior, o_ixor, o_ishl, o_ishr, o_idiv, o_irem, o_ineg, o_ladd, o_lsub, o_lmul, o_land, o_lor, o_lxor, o_ldiv, o_lrem, o_lneg, o_lcmp, o_i2l, o_l2i, o_i2b, o_i2c, o_iushr, o_lshl, o_lshr, o_if_eq, o_if_ne, o_if_lt, o_if_ge, o_if_gt, o_if_le, o_icmp_eq, o_icmp_ne, o_icmp_lt, o_icmp_ge, o_icmp_gt, o_icmp_le, o_ifnull, o_ifnonnull, o_acmp_eq, o_acmp_ne, o_is, o_ls, o_as, o_iinc, o_kill, o_sw, o_ireturn, o_zreturn, o_nreturn, o_lreturn, o_areturn, o_return, o_athrow, o_call, entP, lg_sl, Value.category, st1, st2, List.set, List.getElem?_cons_zero, List.getElem?_cons_succ, List.foldl, popN, aft, o_gI, o_gR, o_pI, o_pN, o_pR, o_aI, o_aG, o_aR, o_len, o_aR8, o_sI, o_sB, o_sZ, o_sG, o_new, o_newA, o_cast, o_inst, o_cst, o_oi, o_sR, o_gIc, o_gSv, o_gSc, o_getc, o_dead, o_acopy, o_castA, o_castI, o_sR7, o_mna, o_mmax, o_mmin, o_mabs, hT_sI, hT_sR, hT_sG, hL_sI, hL_sR, hL_sG, hI_sI, hI_sR, hI_sG, hG_sI, hG_sR, hG_sG, hR_sI, hR_sR, hR_sG, hN_sI, hN_sR, hN_sG, hC_sI, hC_sR, hC_sG, hS_sI, hS_sR, hS_sG, hT_nw, hL_nw, hI_nw, hG_nw, hR_nw, hN_nw, hC_nw, hS_nw, hvc, hvi, dspI, vref, va_rf]
  refine ct_newIf L7.ok T7 (by have := G7.C; omega) (by have := G7.S; omega) (fun σ8 F8 N8 w4 w5 w6 w7 => ?_)
  have hN5 : hN σ ≤ hN σ5 := G5.lt
  have G8 : HL κ (M3 rd) NoM 16 884 σ σ8 := (G7.after F8 h.ok (fun b q => Or.inr (by rw [show b = hN σ5 from q]; exact hN5)) (fun b q => Or.inr (by rw [show b = hN σ5 from q]; exact hN5))).up (by omega) (by omega)
  simp [o_ic, o_lc, o_null, o_il, o_ll, o_al, o_dup, o_pop, o_dup_x1, o_dup2, o_iadd, o_isub, o_imul, o_iand, o_ior, o_ixor, o_ishl, o_ishr, o_idiv, o_irem, o_ineg, o_ladd, o_lsub, o_lmul, o_land, o_lor, o_lxor, o_ldiv, o_lrem, o_lneg, o_lcmp, o_i2l, o_l2i, o_i2b, o_i2c, o_iushr, o_lshl, o_lshr, o_if_eq, o_if_ne, o_if_lt, o_if_ge, o_if_gt, o_if_le, o_icmp_eq, o_icmp_ne, o_icmp_lt, o_icmp_ge, o_icmp_gt, o_icmp_le, o_ifnull, o_ifnonnull, o_acmp_eq, o_acmp_ne, o_is, o_ls, o_as, o_iinc, o_kill, o_sw, o_ireturn, o_zreturn, o_nreturn, o_lreturn, o_areturn, o_return, o_athrow, o_call, entP, lg_sl, Value.category, st1, st2, List.set, List.getElem?_cons_zero, List.getElem?_cons_succ, List.foldl, popN, aft]
  have L8 := L7.ow F8 T7 (by decide)
  have O2' : OpdC σ7 a x := by
    have q3 := L2.opd O2 F3
    have q4 := L3.opd q3 F4
    have q5 := L4.opd q4 F5
    have q6 := L5.opd q5 F6
    exact L6.opd q6 F7
  have O4' : OpdC σ7 b y := by
    have q5 := L4.opd O4 F5
    have q6 := L5.opd q5 F6
    exact L6.opd q6 F7
  have O2'' : OpdC σ8 a x := O2'.hl L7.ok F8 (fun q => by have := O2'.1; rw [show a = hN σ5 from q, T7] at this; cases this)
  have O4'' : OpdC σ8 b y := O4'.hl L7.ok F8 (fun q => by have := O4'.1; rw [show b = hN σ5 from q, T7] at this; cases this)
  refine ok σ8 (hN σ5) (5, -1, 0, x, y, none, [(g4, t1), (g5, t2)]) g7 ?_ (G8.up (by omega) (by simp [iT])) ?_ ?_
  · rw [ea]; simp only [bind, Except.bind]; rw [e3]; simp only; rw [eb]; simp only; rw [et]; simp only; rw [eu]
  · simp only [List.append_assoc, List.cons_append, List.nil_append] at L8
    exact L8
  · have hk8 := L8.ok
    have TT8 := F8.tg L7.ok T7 (by decide)
    refine ItmC.mk hk8 hN5 ⟨by simp, TT8, by simp, by simp, by simp, by simp, by simp, by simp, fun _ => ⟨⟨a, b, w4, w5, OpdI.mk hk8 O2'' ?_, OpdI.mk hk8 O4'' ?_⟩, (g4, t1), (g5, t2), rfl, w6, w7⟩⟩ N8 G7.lt (by simp)
    · have := F1.lt; omega
    · have := G3.lt; omega
