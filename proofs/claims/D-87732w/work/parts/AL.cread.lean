/-! THE COMPONENT: all blocks are read -/
set_option maxRecDepth 100000
def foldB (bks : List Blk) : Rt := bks.foldl addB ([], [])
theorem foldB_snoc (bks : List Blk) (b : Blk) : foldB (bks ++ [b]) = addB (foldB bks) b := by unfold foldB; rw [List.foldl_append]; rfl
theorem foldB_len2 (bks : List Blk) : (foldB bks).2.length = bks.length := by
  have : ∀ (bks : List Blk) (R : Rt), (bks.foldl addB R).2.length = R.2.length + bks.length := by
    intro bks
    induction bks with
    | nil => intro R; rfl
    | cons b bks ih => intro R; rw [List.foldl_cons, ih]; simp [addB]; omega
  unfold foldB
  rw [this]
  simp
theorem addB_len1 (R : Rt) (b : Blk) : (addB R b).1.length = R.1.length + b.2.length := by simp [addB]
theorem addB_nmz (R : Rt) (b : Blk) : nmz (addB R b).1 = nmz R.1 ++ b.2.flatMap iT := by
  simp [addB, nmz, List.flatMap_append, List.flatMap_map]
/-- what has been read: the reader, its routine, the blocks' rows -/
def RdS (κ : Nat → Option Nat) (σ0 σ : AH) (rd o : Nat) (l : List Nat) (bks : List Blk) (wss : List (Nat × List Nat)) (f : Nat) : Prop := LRd κ σ rd o l (nmz (foldB bks).1) f ∧ CX κ σ rd (foldB bks).1.length (wss.map (·.1)) (bks.map (·.1)) ∧ BksC κ σ wss (bks.map (·.2)) (rd + 9) (hN σ) ∧ HL κ (M9 rd) NoM (20 * (foldB bks).1.length + 10 * bks.length) ((foldB bks).1.length * (foldB bks).1.length + 60 * (foldB bks).1.length + 422 * (nmz (foldB bks).1).length + 300 * bks.length) σ0 σ ∧ (foldB bks).1.length ≤ 160 ∧ (nmz (foldB bks).1).length ≤ 2 * bks.length
theorem body_nm {tp : Nat → Nat} {td : Nat} {n g l : Nat} {its : List Itm} {g' : Nat} (h : body tp td n g l = .ok (its, g')) : (its.flatMap iT).length ≤ 2 := by
  obtain ⟨pre, e, rfl, h1, h2, h3, h4⟩ := body_ok n g l its g' h
  have h0 : pre.flatMap iT = [] := by
    rw [List.flatMap_eq_nil_iff]
    intro x hx
    have q := h3 x (by simp [hx])
    have := h1 x hx
    exact q.2.2.2.2.2.2.2.2.2.2.1 (by omega) (by omega)
  rw [List.flatMap_append, h0]
  simp
  have hok := h3 e (by simp)
  obtain ⟨-, -, -, -, -, -, -, -, q4, q5, q6, -⟩ := hok
  by_cases z4 : e.1 = 4
  · obtain ⟨t, e⟩ := q4 z4; rw [e]; simp
  · by_cases z5 : e.1 = 5
    · obtain ⟨t, u, e⟩ := q5 z5; rw [e]; simp
    · rw [q6 z4 z5]; simp
theorem blk_ok9 {tp : Nat → Nat} {td f nb l : Nat} {hd : Nat} {its : List Itm} {g : Nat} (h : blk tp td f nb l = .ok ((hd, its), g)) : (its.flatMap iT).length ≤ 2 ∧ l + its.length ≤ 160 ∧ nb < 40 := by
  unfold blk at h
  split at h
  · cases h
  · next q1 =>
    split at h
    · cases h
    · simp only [bind, Except.bind] at h
      split at h
      · cases h
      · split at h
        · cases h
        · next q0 q2 v hb =>
          obtain ⟨pre, e, he, h1, h2, h3, h4⟩ := body_ok _ _ _ v.1 v.2 hb
          have hn := body_nm (its := v.1) (g' := v.2) hb
          cases h
          exact ⟨hn, h4, by omega⟩
theorem ls_blks {κ : Nat → Option Nat} {Q : Ret AH} {rd o : Nat} {l : List Nat} {σ0 : AH} {X : Cont AH} {K : Cont AH} (hk0 : Hok κ σ0) (r1 : 5000 ≤ hC σ0) (r2 : 100000 ≤ hS σ0) (hr0 : rd + 9 ≤ hN σ0)
    (hX : ∀ L st σ, (o_al 0 <|
    o_call 1 (hvc [(3, pX3_block κ)]) (fun _ a σ => Q (.inr a) σ) <|
    o_al 0 <|
    o_gI 1 [3] <|
    o_if_ne X K) L st σ → X L st σ) :
    ∀ n (σ : AH) f bks wss, n + bks.length = 41 → bks.length ≤ 40 → RdS κ σ0 σ rd o l bks wss f →
    (∀ (σ' : AH) bks' wss' g, blks (tpF l) l.length n f bks.length (foldB bks).1.length = .ok bks' → RdS κ σ0 σ' rd o l (bks ++ bks') wss' g → K [some (.ref rd)] [] σ') →
    (∀ (σ' : AH) a e, blks (tpF l) l.length n f bks.length (foldB bks).1.length = .error e → HL κ (M9 rd) NoM 5000 100000 σ0 σ' → FltC σ' a e → Q (.inr a) σ') →
    X [some (.ref rd)] [] σ := by
  intro n
  induction n with
  | zero => intro σ f bks wss hn h40; omega
  | succ n ih =>
    intro σ f bks wss hn h40 hS ok er
    obtain ⟨L, C, B, H, hln, hnm⟩ := hS
    have eb := B.len
    simp at eb
    have eb' : (wss.map (·.1)).length = bks.length := by simp [eb]
    have hsq := sq_le hln
    apply hX
    simp [o_ic, o_lc, o_null, o_il, o_ll, o_al, o_dup, o_pop, o_dup_x1, o_dup2, o_iadd, o_isub, o_imul, o_iand, o_ior, o_ixor, o_ishl, o_ishr, o_idiv, o_irem, o_ineg, o_ladd, o_lsub, o_lmul, o_land, o_lor, o_lxor, o_ldiv, o_lrem, o_lneg, o_lcmp, o_i2l, o_l2i, o_i2b, o_i2c, o_iushr, o_lshl, o_lshr, o_if_eq, o_if_ne, o_if_lt, o_if_ge, o_if_gt, o_if_le, o_icmp_eq, o_icmp_ne, o_icmp_lt, o_icmp_ge, o_icmp_gt, o_icmp_le, o_ifnull, o_ifnonnull, o_acmp_eq, o_acmp_ne, o_is, o_ls, o_as, o_iinc, o_kill, o_sw, o_ireturn, o_zreturn, o_nreturn, o_lreturn, o_areturn, o_return, o_athrow, o_call, entP, lg_sl, Value.category, st1, st2, List.set, List.getElem?_cons_zero, List.getElem?_cons_succ, List.foldl, popN, aft, o_gI, o_gR, o_pI, o_pN, o_pR, o_aI, o_aG, o_aR, o_len, o_aR8, o_sI, o_sB, o_sZ, o_sG, o_new, o_newA, o_cast, o_inst, o_cst, o_oi, o_sR, o_gIc, o_gSv, o_gSc, o_getc, o_dead, o_acopy, o_castA, o_castI, o_sR7, o_mna, o_mmax, o_mmin, o_mabs, hT_sI, hT_sR, hT_sG, hL_sI, hL_sR, hL_sG, hI_sI, hI_sR, hI_sG, hG_sI, hG_sR, hG_sG, hR_sI, hR_sR, hR_sG, hN_sI, hN_sR, hN_sG, hC_sI, hC_sR, hC_sG, hS_sI, hS_sR, hS_sG, hT_nw, hL_nw, hI_nw, hG_nw, hR_nw, hN_nw, hC_nw, hS_nw, hvc, hvi, dspI, vref, va_rf, L.rd3]
    refine ls_block (ws := wss.map (·.1)) L C B rfl (by simp; omega) (by rw [eb']; exact H) hk0 hln (by rw [eb']; exact hnm) (by rw [eb']; exact h40) r1 r2 hr0 (fun σ' its g w as e L' C' B' H' => ?_) (fun σ' a e he H' E' => ?_)
    · rw [eb'] at e H'
      obtain ⟨q1, q2, q3⟩ := blk_ok9 e
      have R' : RdS κ σ0 σ' rd o l (bks ++ [(f, its)]) (wss ++ [(w, as)]) g := by
        unfold RdS
        rw [foldB_snoc, addB_nmz, addB_len1]
        refine ⟨L', by simpa using C', by simpa using B', ?_, q2, by simp only [List.length_append, List.length_cons, List.length_nil]; omega⟩
        simpa using H'
      have hs5 := srt_lt (tpF l) l.length g
      obtain ⟨d1, -, -, -, -, d0⟩ := kdC_lt hs5
      have b1 : kdC (srt (tpF l) l.length g) < 2147483648 := by omega
      have k4 := L'.2.2.2.2.1
      simp [o_ic, o_lc, o_null, o_il, o_ll, o_al, o_dup, o_pop, o_dup_x1, o_dup2, o_iadd, o_isub, o_imul, o_iand, o_ior, o_ixor, o_ishl, o_ishr, o_idiv, o_irem, o_ineg, o_ladd, o_lsub, o_lmul, o_land, o_lor, o_lxor, o_ldiv, o_lrem, o_lneg, o_lcmp, o_i2l, o_l2i, o_i2b, o_i2c, o_iushr, o_lshl, o_lshr, o_if_eq, o_if_ne, o_if_lt, o_if_ge, o_if_gt, o_if_le, o_icmp_eq, o_icmp_ne, o_icmp_lt, o_icmp_ge, o_icmp_gt, o_icmp_le, o_ifnull, o_ifnonnull, o_acmp_eq, o_acmp_ne, o_is, o_ls, o_as, o_iinc, o_kill, o_sw, o_ireturn, o_zreturn, o_nreturn, o_lreturn, o_areturn, o_return, o_athrow, o_call, entP, lg_sl, Value.category, st1, st2, List.set, List.getElem?_cons_zero, List.getElem?_cons_succ, List.foldl, popN, aft, o_gI, o_gR, o_pI, o_pN, o_pR, o_aI, o_aG, o_aR, o_len, o_aR8, o_sI, o_sB, o_sZ, o_sG, o_new, o_newA, o_cast, o_inst, o_cst, o_oi, o_sR, o_gIc, o_gSv, o_gSc, o_getc, o_dead, o_acopy, o_castA, o_castI, o_sR7, o_mna, o_mmax, o_mmin, o_mabs, hT_sI, hT_sR, hT_sG, hL_sI, hL_sR, hL_sG, hI_sI, hI_sR, hI_sG, hG_sI, hG_sR, hG_sG, hR_sI, hR_sR, hR_sG, hN_sI, hN_sR, hN_sG, hC_sI, hC_sR, hC_sG, hS_sI, hS_sR, hS_sG, hT_nw, hL_nw, hI_nw, hG_nw, hR_nw, hN_nw, hC_nw, hS_nw, hvc, hvi, dspI, vref, va_rf, nn_eqL, nn_ltL, nn_leL, nn_Llt, nn_Lle, nn_lt, nn_le, nn_eq, nn_in, nn_clamp, nn_succ, nn_pos, nn_neg1, L'.rd3, k4, b1, d0]
      refine ⟨fun hz => ?_, fun hz => ?_⟩
      · refine ih σ' g (bks ++ [(f, its)]) (wss ++ [(w, as)]) (by simp; omega) (by simp; omega) R' (fun σ2 bks' wss' g2 e2 R2 => ?_) (fun σ2 a e2 he2 H2 E2 => ?_)
        · refine ok σ2 ((f, its) :: bks') wss' g2 ?_ (by simpa using R2)
          unfold blks
          simp only [bind, Except.bind]
          rw [e]
          simp only
          rw [if_neg hz]
          rw [foldB_snoc, addB_len1] at e2
          simp only [List.length_append, List.length_cons, List.length_nil] at e2
          rw [e2]
        · refine er σ2 a e2 ?_ H2 E2
          unfold blks
          simp only [bind, Except.bind]
          rw [e]
          simp only
          rw [if_neg hz]
          rw [foldB_snoc, addB_len1] at he2
          simp only [List.length_append, List.length_cons, List.length_nil] at he2
          rw [he2]
      · refine ok σ' [(f, its)] _ g ?_ R'
        unfold blks
        simp only [bind, Except.bind]
        rw [e]
        simp only
        rw [if_pos hz]
    · rw [eb'] at he
      simp [o_ic, o_lc, o_null, o_il, o_ll, o_al, o_dup, o_pop, o_dup_x1, o_dup2, o_iadd, o_isub, o_imul, o_iand, o_ior, o_ixor, o_ishl, o_ishr, o_idiv, o_irem, o_ineg, o_ladd, o_lsub, o_lmul, o_land, o_lor, o_lxor, o_ldiv, o_lrem, o_lneg, o_lcmp, o_i2l, o_l2i, o_i2b, o_i2c, o_iushr, o_lshl, o_lshr, o_if_eq, o_if_ne, o_if_lt, o_if_ge, o_if_gt, o_if_le, o_icmp_eq, o_icmp_ne, o_icmp_lt, o_icmp_ge, o_icmp_gt, o_icmp_le, o_ifnull, o_ifnonnull, o_acmp_eq, o_acmp_ne, o_is, o_ls, o_as, o_iinc, o_kill, o_sw, o_ireturn, o_zreturn, o_nreturn, o_lreturn, o_areturn, o_return, o_athrow, o_call, entP, lg_sl, Value.category, st1, st2, List.set, List.getElem?_cons_zero, List.getElem?_cons_succ, List.foldl, popN, aft]
      refine er σ' a e ?_ H' E'
      unfold blks
      simp only [bind, Except.bind]
      rw [he]
