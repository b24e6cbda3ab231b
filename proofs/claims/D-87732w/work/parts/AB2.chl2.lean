/-! THE COMPONENT: frames step by step -/
set_option maxRecDepth 100000
section HLs
variable {κ : Nat → Option Nat} {M MR M' MR' : Nat → Prop} {c s c' s' : Nat} {σ σ' σ1 σ2 : AH}
/-- a later frame may touch what is new -/
theorem HL.after (h : HL κ M MR c s σ σ1) (h' : HL κ M' MR' c' s' σ1 σ2) (hk : Hok κ σ) (hM : ∀ a, M' a → M a ∨ hN σ ≤ a) (hMR : ∀ a, MR' a → MR a ∨ hN σ ≤ a) : HL κ M MR (c + c') (s + s') σ σ2 := by
  obtain ⟨a0, a1, a2, a3, a4, a5, a6⟩ := h
  obtain ⟨b0, b1, b2, b3, b4, b5, b6⟩ := h'
  refine ⟨b0, by omega, fun a ha => ?_, fun a ha t1 t2 => ⟨fun hm k => ?_, fun hm k => ?_⟩, fun a l hm q => b4 a l (fun z => (hM a z).elim hm (fun y => ?_)) (a4 a l hm q), by omega, by omega⟩
  · have := a2 a ha
    have := b2 a (by omega)
    omega
  · have ht := (a2 a ha).1
    obtain ⟨x1, x2⟩ := (a3 a ha t1 t2).1 hm k
    obtain ⟨y1, y2⟩ := (b3 a (by omega) (by rw [ht]; exact t1) (by rw [ht]; exact t2)).1 (by rw [ht]; exact hm.imp (fun q z => (hM a z).elim q (fun y => by omega)) id) k
    exact ⟨y1.trans x1, y2.trans x2⟩
  · have ht := (a2 a ha).1
    exact ((b3 a (by omega) (by rw [ht]; exact t1) (by rw [ht]; exact t2)).2 (by rw [ht]; exact hm.imp (fun q z => (hMR a z).elim q (fun y => by omega)) id) k).trans ((a3 a ha t1 t2).2 hm k)
  · have := hk.1.lt (a := a) (by rw [q.1]; decide)
    omega
theorem HL.nw {t n m : Nat} (h : HL κ M MR c s σ σ') (hk' : Hok κ (hnw σ' t n m)) : HL κ M MR (c + 1) (s + m) σ (hnw σ' t n m) := by
  have hf : HF (fun _ => False) 1 m σ' (hnw σ' t n m) := (HF.rfl9.nw (t := t) (n := n) (m := m)).mono (fun _ _ q => q) (by omega) (by omega)
  exact h.trans (HL.ofNo hf h.ok hk')
theorem HL.sI {a k t : Nat} {v : Int32} (h : HL κ M MR c s σ σ') (hm : M a ∨ hN σ ≤ a) (ht : hT σ' a = t) (h0 : t ≠ 0 ∧ t ≠ 19 ∧ t ≠ 104 ∧ t < 150 ∧ t ≠ 60 ∧ t ≠ 61) : HL κ M MR c s σ (hsI σ' a k v) := by
  obtain ⟨a0, a1, a2, a3, a4, a5, a6⟩ := h
  refine ⟨a0.sI (by rw [ht]; exact h0.1), a1, a2, fun b hb t1 t2 => ⟨fun hm' j => ?_, (a3 b hb t1 t2).2⟩, fun b l hm' q => ?_, a5, a6⟩
  · obtain ⟨x1, x2⟩ := (a3 b hb t1 t2).1 hm' j
    refine ⟨?_, x2⟩
    rw [hI_sI, if_neg ?_]
    · exact x1
    · rintro ⟨rfl, -⟩
      rcases hm with hm | hm
      · rcases hm' with q | q
        · exact q hm
        · rw [(a2 b hb).1] at ht; unfold KTg at q; omega
      · omega
  · obtain ⟨g1, g2, g3, d, g4, g5⟩ := a4 b l hm' q
    refine ⟨g1, ?_, g3, d, g4, g5⟩
    rw [hI_sI, if_neg ?_]
    · exact g2
    · rintro ⟨rfl, -⟩; rw [ht] at g1; omega
theorem HL.sG {a k t : Nat} {v : Int64} (h : HL κ M MR c s σ σ') (hm : M a ∨ hN σ ≤ a) (ht : hT σ' a = t) (h0 : t ≠ 0 ∧ t ≠ 19 ∧ t ≠ 104 ∧ t < 150 ∧ t ≠ 60 ∧ t ≠ 61) : HL κ M MR c s σ (hsG σ' a k v) := by
  obtain ⟨a0, a1, a2, a3, a4, a5, a6⟩ := h
  refine ⟨⟨a0.1.sG (by rw [ht]; exact h0.1), a0.2⟩, a1, a2, fun b hb t1 t2 => ⟨fun hm' j => ?_, (a3 b hb t1 t2).2⟩, fun b l hm' q => a4 b l hm' q, a5, a6⟩
  obtain ⟨x1, x2⟩ := (a3 b hb t1 t2).1 hm' j
  refine ⟨x1, ?_⟩
  rw [hG_sG, if_neg ?_]
  · exact x2
  · rintro ⟨rfl, -⟩
    rcases hm with hm | hm
    · rcases hm' with q | q
      · exact q hm
      · rw [(a2 b hb).1] at ht; unfold KTg at q; omega
    · omega
theorem HL.sR {a k t : Nat} {v : Option Nat} (h : HL κ M MR c s σ σ') (hm : MR a ∨ hN σ ≤ a) (ht : hT σ' a = t) (h0 : t ≠ 0 ∧ t ≠ 19 ∧ t ≠ 104 ∧ t < 150 ∧ t ≠ 60 ∧ t ≠ 61) : HL κ M MR c s σ (hsR σ' a k v) := by
  obtain ⟨a0, a1, a2, a3, a4, a5, a6⟩ := h
  refine ⟨a0.sR (by rw [ht]; exact h0.1) (by rw [ht]; exact h0.2.1), a1, a2, fun b hb t1 t2 => ⟨(a3 b hb t1 t2).1, fun hm' j => ?_⟩, fun b l hm' q => ?_, a5, a6⟩
  · rw [hR_sR, if_neg ?_]
    · exact (a3 b hb t1 t2).2 hm' j
    · rintro ⟨rfl, -⟩
      rcases hm with hm | hm
      · rcases hm' with q | q
        · exact q hm
        · rw [(a2 b hb).1] at ht; unfold KTg at q; omega
      · omega
  · obtain ⟨g1, g2, g3, d, g4, g5⟩ := a4 b l hm' q
    refine ⟨g1, g2, g3, d, ?_, ?_⟩
    · rw [hR_sR, if_neg (by rintro ⟨rfl, -⟩; rw [ht] at g1; omega)]; exact g4
    · rcases g5 with g5 | ⟨q1, q2, q3, q4, q5⟩
      · exact Or.inl g5
      · refine Or.inr ⟨q1, q2, q3, q4, fun i => ?_⟩
        rw [hR_sR, if_neg (by rintro ⟨rfl, -⟩; rw [ht] at q1; omega)]; exact q5 i
/-- a new list -/
theorem HL.nl {n m : Nat} (hk : Hok κ σ) (hf : HF (fun b => b = hN σ) 0 0 (hnw σ 19 n m) σ') (hk' : Hok κ σ') : HL κ NoM NoM 1 m σ σ' := by
  obtain ⟨a1, a2, a3, a4, a5⟩ := hf
  rw [hN_nw] at a1 a2 a3
  rw [hC_nw] at a4
  rw [hS_nw] at a5
  refine HL.ofNo ⟨by omega, fun b hb => ?_, fun b hb _ j => ?_, by omega, by omega⟩ hk hk'
  · have := a2 b (by omega)
    rw [hT_nw, hL_nw, if_neg (by omega), if_neg (by omega)] at this; exact this
  · exact a3 b (by omega) (Or.inl (by omega)) j
end HLs
theorem HL.lt {κ : Nat → Option Nat} {M MR : Nat → Prop} {c s : Nat} {σ σ' : AH} (h : HL κ M MR c s σ σ') : hN σ ≤ hN σ' := h.2.1
/-- an ArrayList's constructor -/
theorem cq_newL {κ : Nat → Option Nat} {Q : Ret AH} {σ : AH} (hk : Hok κ σ) (k : ∀ σ', HL κ NoM NoM 1 3 σ σ' → AL κ σ' (hN σ) [] → Q (.inl none) σ') : pJ2_init κ [.ref (hN σ)] (hnw σ 19 0 3) Q := by
  have h1 : hT (hnw σ 19 0 3) (hN σ) = 19 := by rw [hT_nw, if_pos rfl]
  have h2 : hI (hnw σ 19 0 3) (hN σ) 2 = 0 := by rw [hI_nw]; exact ((hk.1 _ (Nat.le_refl _)).2 2).1
  exact cq_init hk.nw19 h1 h2 (fun σ' a b c => k σ' (HL.nl hk b a) c)
/-- a node's constructor: its two lists -/
theorem ct_nodeInit {κ : Nat → Option Nat} {Q : Ret AH} {σ : AH} {a t : Nat} (hk : Hok κ σ) (ha : hT σ a = t) (ht : t ∈ [7, 8, 9, 10, 11, 12, 13, 14]) (r1 : 2 ≤ hC σ) (r2 : 6 ≤ hS σ)
    (k : ∀ σ' x y, HL κ NoM (fun b => b = a) 2 6 σ σ' → hR σ' a 2 = some x → hR σ' a 3 = some y → AL κ σ' x [] → AL κ σ' y [] → hN σ ≤ x → hN σ ≤ y → x ≠ y → (∀ j, j ≠ 2 → j ≠ 3 → hR σ' a j = hR σ a j) → Q (.inl none) σ') : pX6_init κ [.ref a] σ Q := by
  have q1 : 1 ≤ hC σ := by omega
  have q2 : 3 ≤ hS σ := by omega
  have t0 : t ≠ 0 ∧ t ≠ 19 ∧ t ≠ 104 ∧ t < 150 ∧ t ≠ 60 ∧ t ≠ 61 := by simp at ht; omega
  simp [pX6_init, bX6_init_0, o_ic, o_lc, o_null, o_il, o_ll, o_al, o_dup, o_pop, o_dup_x1, o_dup2, o_iadd, o_isub, o_imul, o_iand, o_ior, o_ixor, o_ishl, o_ishr, o_idiv, o_irem, o_ineg, o_ladd, o_lsub, o_lmul, o_land, o_lor, o_lxor, o_ldiv, o_lrem, o_lneg, o_lcmp, o_i2l, o_l2i, o_i2b, o_i2c, o_iushr, o_lshl, o_lshr, o_if_eq, o_if_ne, o_if_lt, o_if_ge, o_if_gt, o_if_le, o_icmp_eq, o_icmp_ne, o_icmp_lt, o_icmp_ge, o_icmp_gt, o_icmp_le, o_ifnull, o_ifnonnull, o_acmp_eq, o_acmp_ne, o_is, o_ls, o_as, o_iinc, o_kill, o_sw, o_ireturn, o_zreturn, o_nreturn, o_lreturn, o_areturn, o_return, o_athrow, o_call, entP, lg_sl, Value.category, st1, st2, List.set, List.getElem?_cons_zero, List.getElem?_cons_succ, List.foldl, popN, aft, o_gI, o_gR, o_pI, o_pN, o_pR, o_aI, o_aG, o_aR, o_len, o_aR8, o_sI, o_sB, o_sZ, o_sG, o_new, o_newA, o_cast, o_inst, o_cst, o_oi, o_sR, o_gIc, o_gSv, o_gSc, o_getc, o_dead, o_acopy, o_castA, o_castI, o_sR7, o_mna, o_mmax, o_mmin, o_mabs, hT_sI, hT_sR, hT_sG, hL_sI, hL_sR, hL_sG, hI_sI, hI_sR, hI_sG, hG_sI, hG_sR, hG_sG, hR_sI, hR_sR, hR_sG, hN_sI, hN_sR, hN_sG, hC_sI, hC_sR, hC_sG, hS_sI, hS_sR, hS_sG, hT_nw, hL_nw, hI_nw, hG_nw, hR_nw, hN_nw, hC_nw, hS_nw, hvc, hvi, dspI, vref, va_rf, q1, q2]
  refine cq_newL hk (fun σ1 f1 l1 => ?_)
  have ta1 : hT σ1 a = t := f1.tg hk ha t0.1
  have ht' := ht
  simp at ht'
  simp [o_ic, o_lc, o_null, o_il, o_ll, o_al, o_dup, o_pop, o_dup_x1, o_dup2, o_iadd, o_isub, o_imul, o_iand, o_ior, o_ixor, o_ishl, o_ishr, o_idiv, o_irem, o_ineg, o_ladd, o_lsub, o_lmul, o_land, o_lor, o_lxor, o_ldiv, o_lrem, o_lneg, o_lcmp, o_i2l, o_l2i, o_i2b, o_i2c, o_iushr, o_lshl, o_lshr, o_if_eq, o_if_ne, o_if_lt, o_if_ge, o_if_gt, o_if_le, o_icmp_eq, o_icmp_ne, o_icmp_lt, o_icmp_ge, o_icmp_gt, o_icmp_le, o_ifnull, o_ifnonnull, o_acmp_eq, o_acmp_ne, o_is, o_ls, o_as, o_iinc, o_kill, o_sw, o_ireturn, o_zreturn, o_nreturn, o_lreturn, o_areturn, o_return, o_athrow, o_call, entP, lg_sl, Value.category, st1, st2, List.set, List.getElem?_cons_zero, List.getElem?_cons_succ, List.foldl, popN, aft, o_gI, o_gR, o_pI, o_pN, o_pR, o_aI, o_aG, o_aR, o_len, o_aR8, o_sI, o_sB, o_sZ, o_sG, o_new, o_newA, o_cast, o_inst, o_cst, o_oi, o_sR, o_gIc, o_gSv, o_gSc, o_getc, o_dead, o_acopy, o_castA, o_castI, o_sR7, o_mna, o_mmax, o_mmin, o_mabs, hT_sI, hT_sR, hT_sG, hL_sI, hL_sR, hL_sG, hI_sI, hI_sR, hI_sG, hG_sI, hG_sR, hG_sG, hR_sI, hR_sR, hR_sG, hN_sI, hN_sR, hN_sG, hC_sI, hC_sR, hC_sG, hS_sI, hS_sR, hS_sG, hT_nw, hL_nw, hI_nw, hG_nw, hR_nw, hN_nw, hC_nw, hS_nw, hvc, hvi, dspI, vref, va_rf, ta1, ht']
  have k1 := f1.ok
  have e1 : HL κ NoM (fun b => b = a) 1 3 σ (hsR σ1 a 2 (some (hN σ))) := (f1.wk).sR (Or.inl rfl) ta1 t0
  have k2 := e1.ok
  have q3 : 1 ≤ hC σ1 := by have := f1.C; omega
  have q4 : 3 ≤ hS σ1 := by have := f1.S; omega
  have l2 : AL κ (hsR σ1 a 2 (some (hN σ))) (hN σ) [] := by
    have e9 : HL κ NoM (fun b => b = a) 0 0 σ1 (hsR σ1 a 2 (some (hN σ))) := (HL.rfl9 k1).sR (Or.inl rfl) ta1 t0
    exact e9.al l1 id
  simp [q3, q4]
  refine cq_newL (σ := hsR σ1 a 2 (some (hN σ))) k2 (fun σ2 f2 l3 => ?_)
  have ta2 : hT σ2 a = t := f2.tg k2 (t := t) ta1 t0.1
  simp [o_ic, o_lc, o_null, o_il, o_ll, o_al, o_dup, o_pop, o_dup_x1, o_dup2, o_iadd, o_isub, o_imul, o_iand, o_ior, o_ixor, o_ishl, o_ishr, o_idiv, o_irem, o_ineg, o_ladd, o_lsub, o_lmul, o_land, o_lor, o_lxor, o_ldiv, o_lrem, o_lneg, o_lcmp, o_i2l, o_l2i, o_i2b, o_i2c, o_iushr, o_lshl, o_lshr, o_if_eq, o_if_ne, o_if_lt, o_if_ge, o_if_gt, o_if_le, o_icmp_eq, o_icmp_ne, o_icmp_lt, o_icmp_ge, o_icmp_gt, o_icmp_le, o_ifnull, o_ifnonnull, o_acmp_eq, o_acmp_ne, o_is, o_ls, o_as, o_iinc, o_kill, o_sw, o_ireturn, o_zreturn, o_nreturn, o_lreturn, o_areturn, o_return, o_athrow, o_call, entP, lg_sl, Value.category, st1, st2, List.set, List.getElem?_cons_zero, List.getElem?_cons_succ, List.foldl, popN, aft, o_gI, o_gR, o_pI, o_pN, o_pR, o_aI, o_aG, o_aR, o_len, o_aR8, o_sI, o_sB, o_sZ, o_sG, o_new, o_newA, o_cast, o_inst, o_cst, o_oi, o_sR, o_gIc, o_gSv, o_gSc, o_getc, o_dead, o_acopy, o_castA, o_castI, o_sR7, o_mna, o_mmax, o_mmin, o_mabs, hT_sI, hT_sR, hT_sG, hL_sI, hL_sR, hL_sG, hI_sI, hI_sR, hI_sG, hG_sI, hG_sR, hG_sG, hR_sI, hR_sR, hR_sG, hN_sI, hN_sR, hN_sG, hC_sI, hC_sR, hC_sG, hS_sI, hS_sR, hS_sG, hT_nw, hL_nw, hI_nw, hG_nw, hR_nw, hN_nw, hC_nw, hS_nw, hvc, hvi, dspI, vref, va_rf, ta2, ht']
  have g2 := f2.ref k2 (a := a) (t := t) ta1 ⟨t0.1, t0.2.1, t0.2.2.1⟩ id
  have g1 := f1.ref hk (a := a) (t := t) ha ⟨t0.1, t0.2.1, t0.2.2.1⟩ id
  have hN1 : hN σ < hN σ1 := k1.1.lt (a := hN σ) (by rw [l1.1]; decide)
  refine k _ (hN σ) (hN σ1) ((e1.trans f2.wk).sR (Or.inl rfl) ta2 t0) ?_ ?_ ?_ ?_ (Nat.le_refl _) (by omega) (by omega) (fun j j2 j3 => ?_)
  · rw [hR_sR, if_neg (by omega), g2, hR_sR, if_pos ⟨rfl, rfl⟩]
  · rw [hR_sR, if_pos ⟨rfl, rfl⟩]
  · have e9 : HL κ NoM (fun b => b = a) 0 0 σ2 (hsR σ2 a 3 (some (hN σ1))) := (HL.rfl9 f2.ok).sR (Or.inl rfl) ta2 t0
    exact e9.al (f2.al l2 id) id
  · have e9 : HL κ NoM (fun b => b = a) 0 0 σ2 (hsR σ2 a 3 (some (hN σ1))) := (HL.rfl9 f2.ok).sR (Or.inl rfl) ta2 t0
    exact e9.al l3 id
  · rw [hR_sR, if_neg (by omega), g2, hR_sR, if_neg (by omega), g1]
