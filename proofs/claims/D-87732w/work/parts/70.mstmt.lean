/-! THE MODEL reads a statement -/
set_option maxRecDepth 100000
/-- a line, as it stands in the Model's rows -/
def ItM (ms : MS) (n : Nat) (sm : List Sm) (x : FIt) : Prop := ms.2.2 15 n = nn x.2.1 ∧ ms.2.2 16 n = nn x.1 ∧ ms.2.2 17 n = x.2.2.1 ∧ (ms.2.2 18 n = match iS x.2 with
  | some s => nn (smI sm s)
  | none => -1) ∧ (ms.2.2 19 n = match iT x.2 with
  | t :: _ => nn t.2
  | [] => -1) ∧ (ms.2.2 20 n = match iT x.2 with
  | _ :: u :: _ => nn u.2
  | _ => -1) ∧ (x.2.1 ∈ [1, 2, 3, 5] → ms.2.2 21 n = x.2.2.2.2.1.1 ∧ ms.2.2 22 n = x.2.2.2.2.1.2) ∧ (x.2.1 ∈ [2, 5] → ms.2.2 23 n = x.2.2.2.2.2.1.1 ∧ ms.2.2 24 n = x.2.2.2.2.2.1.2) ∧ (x.2.1 = 2 → ms.2.2 25 n = x.2.2.2.1)
def ItMs (ms : MS) (fs : List FIt) : Prop := ∀ k x, fs[k]? = some x → ItM ms (960 + k) (sms fs) x
/-- what is read so far: lines, heads -/
def RdM (ms : MS) (fs : List FIt) (hs : List (Nat × Nat)) : Prop := ms.2.2 10 4 = nn fs.length ∧ ms.2.2 9 4 = nn hs.length ∧ ItMs ms fs ∧ (∀ b h, hs[b]? = some h → ms.2.2 14 (164 + b) = nn h.1 ∧ ms.2.2 13 (164 + b) = nn h.2) ∧ SumM ms (sms fs) ∧ NmM ms (nmz fs) ∧ fs.length ≤ 160 ∧ hs.length ≤ 40
/-- what parse may write ahead of its copy -/
def PB : Nat → Nat → Prop := fun k i => ((9 ≤ k ∧ k ≤ 12) ∧ i = 4) ∨ ((k = 13 ∨ k = 14) ∧ 164 ≤ i) ∨ ((15 ≤ k ∧ k ≤ 25) ∧ 960 ≤ i) ∨ ((26 ≤ k ∧ k ≤ 30) ∧ 128 ≤ i) ∨ (k = 31 ∧ 30720 ≤ i) ∨ k = 39 ∨ k = 40 ∨ k = 42 ∨ k = 43
theorem PL_B {n : Nat} (hn : 960 ≤ n) : ∀ k i, PL n k i → PB k i := by
  intro k i h
  unfold PL at h; unfold PB; omega
theorem ItM.fr {ms ms' : MS} {n : Nat} {sm : List Sm} {x : FIt} (h : ItM ms n sm x) (e : ∀ k, 15 ≤ k → k ≤ 25 → ms'.2.2 k n = ms.2.2 k n) : ItM ms' n sm x := by
  obtain ⟨a1, a2, a3, a4, a5, a6, a7, a8, a9⟩ := h
  refine ⟨?_, ?_, ?_, ?_, ?_, ?_, ?_, ?_, ?_⟩
  · rw [e 15 (by omega) (by omega)]; exact a1
  · rw [e 16 (by omega) (by omega)]; exact a2
  · rw [e 17 (by omega) (by omega)]; exact a3
  · rw [e 18 (by omega) (by omega)]; exact a4
  · rw [e 19 (by omega) (by omega)]; exact a5
  · rw [e 20 (by omega) (by omega)]; exact a6
  · rw [e 21 (by omega) (by omega), e 22 (by omega) (by omega)]; exact a7
  · rw [e 23 (by omega) (by omega), e 24 (by omega) (by omega)]; exact a8
  · rw [e 25 (by omega) (by omega)]; exact a9
theorem ItM.sm {ms : MS} {n : Nat} {sm sm' : List Sm} {x : FIt} (h : ItM ms n sm x) (e : ∀ s, iS x.2 = some s → smI sm' s = smI sm s) : ItM ms n sm' x := by
  obtain ⟨a1, a2, a3, a4, a5, a6, a7, a8, a9⟩ := h
  refine ⟨a1, a2, a3, ?_, a5, a6, a7, a8, a9⟩
  rw [a4]
  cases h : iS x.2 with
  | none => rfl
  | some s => simp only; rw [e s h]
theorem smI_add {sm : List Sm} {o : Option Sm} {s : Sm} (h : s ∈ sm) : smI (sAdd sm o) s = smI sm s := by
  obtain ⟨r, hr⟩ := sAdd_pre sm o
  unfold smI; rw [hr, idx_pre h]
theorem RdM.add {ms ms' : MS} {fs : List FIt} {hs : List (Nat × Nat)} {b : Nat} {it : Itm} {P : Nat → Nat → Prop} {ks : List Nat} (h : RdM ms fs hs) (hl : fs.length < 160) (hf : FrG P ks ms ms') (hP : ∀ k i, P k i → PL (960 + fs.length) k i ∨ k = 10)
    (h10 : ms'.2.2 10 4 = nn (fs.length + 1)) (hI : ItM ms' (960 + fs.length) (sms (fs ++ [(b, it)])) (b, it)) (hS : SumM ms' (sms (fs ++ [(b, it)]))) (hN : NmM ms' (nmz (fs ++ [(b, it)]))) : RdM ms' (fs ++ [(b, it)]) hs := by
  obtain ⟨a1, a2, a3, a4, a5, a6, a7, a8⟩ := h
  have keep : ∀ k i, ¬ (PL (960 + fs.length) k i ∨ k = 10) → ms'.2.2 k i = ms.2.2 k i := fun k i q => hf.2 k i (fun q' => q (hP k i q'))
  refine ⟨by simp [h10], ?_, ?_, ?_, hS, hN, by simp; omega, a8⟩
  · rw [keep 9 4 (by simp [PL])]; exact a2
  · intro k x hx
    by_cases e : k < fs.length
    · rw [List.getElem?_append_left e] at hx
      refine ((a3 k x hx).fr (fun j j1 j2 => keep j _ ?_)).sm (fun s hs' => ?_)
      · unfold PL; omega
      · rw [sms_snoc]; exact smI_add (sms_mem (List.mem_of_getElem? hx) hs')
    · have e1 : k = fs.length := by
        have := (List.getElem?_eq_some_iff.1 hx).1
        simp at this; omega
      subst e1
      simp at hx
      subst hx
      exact hI
  · intro b' h' hb'
    rw [keep 14 _ (by unfold PL; omega), keep 13 _ (by unfold PL; omega)]; exact a4 b' h' hb'
theorem m_mayBegin {mo : Nat} {Q : Ret MS} {tp : Nat → Nat} {td : Nat} {ms : MS} {f : Nat} (hT : TapeM ms tp td) (hk : TokM ms tp td f) (k : Q (.inl (some (.int (if begs tp td f then 1 else 0)))) ms) : pX2_mayBegin mo [.ref mo] ms Q := by
  unfold begs at k
  simp [pX2_mayBegin, bX2_mayBegin_62, bX2_mayBegin_57, bX2_mayBegin_61, bX2_mayBegin_0, o_ic, o_lc, o_null, o_il, o_ll, o_al, o_dup, o_pop, o_dup_x1, o_dup2, o_iadd, o_isub, o_imul, o_iand, o_ior, o_ixor, o_ishl, o_ishr, o_idiv, o_irem, o_ineg, o_ladd, o_lsub, o_lmul, o_land, o_lor, o_lxor, o_ldiv, o_lrem, o_lneg, o_lcmp, o_i2l, o_l2i, o_i2b, o_i2c, o_iushr, o_lshl, o_lshr, o_if_eq, o_if_ne, o_if_lt, o_if_ge, o_if_gt, o_if_le, o_icmp_eq, o_icmp_ne, o_icmp_lt, o_icmp_ge, o_icmp_gt, o_icmp_le, o_ifnull, o_ifnonnull, o_acmp_eq, o_acmp_ne, o_is, o_ls, o_as, o_iinc, o_kill, o_sw, o_ireturn, o_zreturn, o_nreturn, o_lreturn, o_areturn, o_return, o_athrow, o_call, entP, lg_sl, Value.category, st1, st2, List.set, List.getElem?_cons_zero, List.getElem?_cons_succ, List.foldl, popN, aft, o_mg, o_mgl, o_mga, o_mp, o_mpz, o_mpl, o_mia, o_mis, o_mbs, o_mc, mput_get, mput_arr, mput_let, mput_put, mset_get, mset_int, mset_let, mputL_get, mputL_arr, mputL_let, mputL_put, i64_8, mLen]
  refine m_named hT hk ?_
  cases h1 : nmA tp td f with
  | some n =>
    have b1 := (nmA_srt h1).2
    have b2 : n < 2147483648 := by omega
    simp [h1] at k
    simp [o_ic, o_lc, o_null, o_il, o_ll, o_al, o_dup, o_pop, o_dup_x1, o_dup2, o_iadd, o_isub, o_imul, o_iand, o_ior, o_ixor, o_ishl, o_ishr, o_idiv, o_irem, o_ineg, o_ladd, o_lsub, o_lmul, o_land, o_lor, o_lxor, o_ldiv, o_lrem, o_lneg, o_lcmp, o_i2l, o_l2i, o_i2b, o_i2c, o_iushr, o_lshl, o_lshr, o_if_eq, o_if_ne, o_if_lt, o_if_ge, o_if_gt, o_if_le, o_icmp_eq, o_icmp_ne, o_icmp_lt, o_icmp_ge, o_icmp_gt, o_icmp_le, o_ifnull, o_ifnonnull, o_acmp_eq, o_acmp_ne, o_is, o_ls, o_as, o_iinc, o_kill, o_sw, o_ireturn, o_zreturn, o_nreturn, o_lreturn, o_areturn, o_return, o_athrow, o_call, entP, lg_sl, Value.category, st1, st2, List.set, List.getElem?_cons_zero, List.getElem?_cons_succ, List.foldl, popN, aft, o_mg, o_mgl, o_mga, o_mp, o_mpz, o_mpl, o_mia, o_mis, o_mbs, o_mc, onn, vpL, nn_addL, nn_addR, nn_mulL, nn_add, nn_mul, nn_eqL, nn_ltL, nn_leL, nn_Llt, nn_Lle, nn_lt, nn_le, nn_eq, nn_in, nn_clamp, nn_succ, nn_pos, nn_neg1, b2]; exact k
  | none =>
    simp [o_ic, o_lc, o_null, o_il, o_ll, o_al, o_dup, o_pop, o_dup_x1, o_dup2, o_iadd, o_isub, o_imul, o_iand, o_ior, o_ixor, o_ishl, o_ishr, o_idiv, o_irem, o_ineg, o_ladd, o_lsub, o_lmul, o_land, o_lor, o_lxor, o_ldiv, o_lrem, o_lneg, o_lcmp, o_i2l, o_l2i, o_i2b, o_i2c, o_iushr, o_lshl, o_lshr, o_if_eq, o_if_ne, o_if_lt, o_if_ge, o_if_gt, o_if_le, o_icmp_eq, o_icmp_ne, o_icmp_lt, o_icmp_ge, o_icmp_gt, o_icmp_le, o_ifnull, o_ifnonnull, o_acmp_eq, o_acmp_ne, o_is, o_ls, o_as, o_iinc, o_kill, o_sw, o_ireturn, o_zreturn, o_nreturn, o_lreturn, o_areturn, o_return, o_athrow, o_call, entP, lg_sl, Value.category, st1, st2, List.set, List.getElem?_cons_zero, List.getElem?_cons_succ, List.foldl, popN, aft, o_mg, o_mgl, o_mga, o_mp, o_mpz, o_mpl, o_mia, o_mis, o_mbs, o_mc, onn]
    refine m_numbered (c := 114) (most := 1) hT hk (by omega) (by omega) ?_
    cases h2 : numb tp td f 114 1 with
    | some n =>
      have b1 := numb_le h2
      have b2 : n < 2147483648 := by omega
      simp [h1, h2] at k
      simp [o_ic, o_lc, o_null, o_il, o_ll, o_al, o_dup, o_pop, o_dup_x1, o_dup2, o_iadd, o_isub, o_imul, o_iand, o_ior, o_ixor, o_ishl, o_ishr, o_idiv, o_irem, o_ineg, o_ladd, o_lsub, o_lmul, o_land, o_lor, o_lxor, o_ldiv, o_lrem, o_lneg, o_lcmp, o_i2l, o_l2i, o_i2b, o_i2c, o_iushr, o_lshl, o_lshr, o_if_eq, o_if_ne, o_if_lt, o_if_ge, o_if_gt, o_if_le, o_icmp_eq, o_icmp_ne, o_icmp_lt, o_icmp_ge, o_icmp_gt, o_icmp_le, o_ifnull, o_ifnonnull, o_acmp_eq, o_acmp_ne, o_is, o_ls, o_as, o_iinc, o_kill, o_sw, o_ireturn, o_zreturn, o_nreturn, o_lreturn, o_areturn, o_return, o_athrow, o_call, entP, lg_sl, Value.category, st1, st2, List.set, List.getElem?_cons_zero, List.getElem?_cons_succ, List.foldl, popN, aft, o_mg, o_mgl, o_mga, o_mp, o_mpz, o_mpl, o_mia, o_mis, o_mbs, o_mc, onn, vpL, nn_addL, nn_addR, nn_mulL, nn_add, nn_mul, nn_eqL, nn_ltL, nn_leL, nn_Llt, nn_Lle, nn_lt, nn_le, nn_eq, nn_in, nn_clamp, nn_succ, nn_pos, nn_neg1, b2]; exact k
    | none =>
      simp [h1, h2] at k
      simp [o_ic, o_lc, o_null, o_il, o_ll, o_al, o_dup, o_pop, o_dup_x1, o_dup2, o_iadd, o_isub, o_imul, o_iand, o_ior, o_ixor, o_ishl, o_ishr, o_idiv, o_irem, o_ineg, o_ladd, o_lsub, o_lmul, o_land, o_lor, o_lxor, o_ldiv, o_lrem, o_lneg, o_lcmp, o_i2l, o_l2i, o_i2b, o_i2c, o_iushr, o_lshl, o_lshr, o_if_eq, o_if_ne, o_if_lt, o_if_ge, o_if_gt, o_if_le, o_icmp_eq, o_icmp_ne, o_icmp_lt, o_icmp_ge, o_icmp_gt, o_icmp_le, o_ifnull, o_ifnonnull, o_acmp_eq, o_acmp_ne, o_is, o_ls, o_as, o_iinc, o_kill, o_sw, o_ireturn, o_zreturn, o_nreturn, o_lreturn, o_areturn, o_return, o_athrow, o_call, entP, lg_sl, Value.category, st1, st2, List.set, List.getElem?_cons_zero, List.getElem?_cons_succ, List.foldl, popN, aft, o_mg, o_mgl, o_mga, o_mp, o_mpz, o_mpl, o_mia, o_mis, o_mbs, o_mc, onn]
      refine m_isWord 116 [101, 108, 108] _ (by decide) (by decide) rfl hT hk ?_
      by_cases h3 : isW tp td f [116, 101, 108, 108] = true
      · simp [h3] at k; simp [o_ic, o_lc, o_null, o_il, o_ll, o_al, o_dup, o_pop, o_dup_x1, o_dup2, o_iadd, o_isub, o_imul, o_iand, o_ior, o_ixor, o_ishl, o_ishr, o_idiv, o_irem, o_ineg, o_ladd, o_lsub, o_lmul, o_land, o_lor, o_lxor, o_ldiv, o_lrem, o_lneg, o_lcmp, o_i2l, o_l2i, o_i2b, o_i2c, o_iushr, o_lshl, o_lshr, o_if_eq, o_if_ne, o_if_lt, o_if_ge, o_if_gt, o_if_le, o_icmp_eq, o_icmp_ne, o_icmp_lt, o_icmp_ge, o_icmp_gt, o_icmp_le, o_ifnull, o_ifnonnull, o_acmp_eq, o_acmp_ne, o_is, o_ls, o_as, o_iinc, o_kill, o_sw, o_ireturn, o_zreturn, o_nreturn, o_lreturn, o_areturn, o_return, o_athrow, o_call, entP, lg_sl, Value.category, st1, st2, List.set, List.getElem?_cons_zero, List.getElem?_cons_succ, List.foldl, popN, aft, h3]; exact k
      simp [o_ic, o_lc, o_null, o_il, o_ll, o_al, o_dup, o_pop, o_dup_x1, o_dup2, o_iadd, o_isub, o_imul, o_iand, o_ior, o_ixor, o_ishl, o_ishr, o_idiv, o_irem, o_ineg, o_ladd, o_lsub, o_lmul, o_land, o_lor, o_lxor, o_ldiv, o_lrem, o_lneg, o_lcmp, o_i2l, o_l2i, o_i2b, o_i2c, o_iushr, o_lshl, o_lshr, o_if_eq, o_if_ne, o_if_lt, o_if_ge, o_if_gt, o_if_le, o_icmp_eq, o_icmp_ne, o_icmp_lt, o_icmp_ge, o_icmp_gt, o_icmp_le, o_ifnull, o_ifnonnull, o_acmp_eq, o_acmp_ne, o_is, o_ls, o_as, o_iinc, o_kill, o_sw, o_ireturn, o_zreturn, o_nreturn, o_lreturn, o_areturn, o_return, o_athrow, o_call, entP, lg_sl, Value.category, st1, st2, List.set, List.getElem?_cons_zero, List.getElem?_cons_succ, List.foldl, popN, aft, o_mg, o_mgl, o_mga, o_mp, o_mpz, o_mpl, o_mia, o_mis, o_mbs, o_mc, h3]
      refine m_isWord 103 [111] _ (by decide) (by decide) rfl hT hk ?_
      by_cases h4 : isW tp td f [103, 111] = true
      · simp [h4] at k; simp [o_ic, o_lc, o_null, o_il, o_ll, o_al, o_dup, o_pop, o_dup_x1, o_dup2, o_iadd, o_isub, o_imul, o_iand, o_ior, o_ixor, o_ishl, o_ishr, o_idiv, o_irem, o_ineg, o_ladd, o_lsub, o_lmul, o_land, o_lor, o_lxor, o_ldiv, o_lrem, o_lneg, o_lcmp, o_i2l, o_l2i, o_i2b, o_i2c, o_iushr, o_lshl, o_lshr, o_if_eq, o_if_ne, o_if_lt, o_if_ge, o_if_gt, o_if_le, o_icmp_eq, o_icmp_ne, o_icmp_lt, o_icmp_ge, o_icmp_gt, o_icmp_le, o_ifnull, o_ifnonnull, o_acmp_eq, o_acmp_ne, o_is, o_ls, o_as, o_iinc, o_kill, o_sw, o_ireturn, o_zreturn, o_nreturn, o_lreturn, o_areturn, o_return, o_athrow, o_call, entP, lg_sl, Value.category, st1, st2, List.set, List.getElem?_cons_zero, List.getElem?_cons_succ, List.foldl, popN, aft, h4]; exact k
      simp [o_ic, o_lc, o_null, o_il, o_ll, o_al, o_dup, o_pop, o_dup_x1, o_dup2, o_iadd, o_isub, o_imul, o_iand, o_ior, o_ixor, o_ishl, o_ishr, o_idiv, o_irem, o_ineg, o_ladd, o_lsub, o_lmul, o_land, o_lor, o_lxor, o_ldiv, o_lrem, o_lneg, o_lcmp, o_i2l, o_l2i, o_i2b, o_i2c, o_iushr, o_lshl, o_lshr, o_if_eq, o_if_ne, o_if_lt, o_if_ge, o_if_gt, o_if_le, o_icmp_eq, o_icmp_ne, o_icmp_lt, o_icmp_ge, o_icmp_gt, o_icmp_le, o_ifnull, o_ifnonnull, o_acmp_eq, o_acmp_ne, o_is, o_ls, o_as, o_iinc, o_kill, o_sw, o_ireturn, o_zreturn, o_nreturn, o_lreturn, o_areturn, o_return, o_athrow, o_call, entP, lg_sl, Value.category, st1, st2, List.set, List.getElem?_cons_zero, List.getElem?_cons_succ, List.foldl, popN, aft, o_mg, o_mgl, o_mga, o_mp, o_mpz, o_mpl, o_mia, o_mis, o_mbs, o_mc, h4]
      refine m_isWord 105 [102] _ (by decide) (by decide) rfl hT hk ?_
      by_cases h5 : isW tp td f [105, 102] = true
      · simp [h5] at k; simp [o_ic, o_lc, o_null, o_il, o_ll, o_al, o_dup, o_pop, o_dup_x1, o_dup2, o_iadd, o_isub, o_imul, o_iand, o_ior, o_ixor, o_ishl, o_ishr, o_idiv, o_irem, o_ineg, o_ladd, o_lsub, o_lmul, o_land, o_lor, o_lxor, o_ldiv, o_lrem, o_lneg, o_lcmp, o_i2l, o_l2i, o_i2b, o_i2c, o_iushr, o_lshl, o_lshr, o_if_eq, o_if_ne, o_if_lt, o_if_ge, o_if_gt, o_if_le, o_icmp_eq, o_icmp_ne, o_icmp_lt, o_icmp_ge, o_icmp_gt, o_icmp_le, o_ifnull, o_ifnonnull, o_acmp_eq, o_acmp_ne, o_is, o_ls, o_as, o_iinc, o_kill, o_sw, o_ireturn, o_zreturn, o_nreturn, o_lreturn, o_areturn, o_return, o_athrow, o_call, entP, lg_sl, Value.category, st1, st2, List.set, List.getElem?_cons_zero, List.getElem?_cons_succ, List.foldl, popN, aft, h5]; exact k
      simp [o_ic, o_lc, o_null, o_il, o_ll, o_al, o_dup, o_pop, o_dup_x1, o_dup2, o_iadd, o_isub, o_imul, o_iand, o_ior, o_ixor, o_ishl, o_ishr, o_idiv, o_irem, o_ineg, o_ladd, o_lsub, o_lmul, o_land, o_lor, o_lxor, o_ldiv, o_lrem, o_lneg, o_lcmp, o_i2l, o_l2i, o_i2b, o_i2c, o_iushr, o_lshl, o_lshr, o_if_eq, o_if_ne, o_if_lt, o_if_ge, o_if_gt, o_if_le, o_icmp_eq, o_icmp_ne, o_icmp_lt, o_icmp_ge, o_icmp_gt, o_icmp_le, o_ifnull, o_ifnonnull, o_acmp_eq, o_acmp_ne, o_is, o_ls, o_as, o_iinc, o_kill, o_sw, o_ireturn, o_zreturn, o_nreturn, o_lreturn, o_areturn, o_return, o_athrow, o_call, entP, lg_sl, Value.category, st1, st2, List.set, List.getElem?_cons_zero, List.getElem?_cons_succ, List.foldl, popN, aft, o_mg, o_mgl, o_mga, o_mp, o_mpz, o_mpl, o_mia, o_mis, o_mbs, o_mc, h5]
      refine m_isWord 108 [101, 97, 118, 101] _ (by decide) (by decide) rfl hT hk ?_
      by_cases h6 : isW tp td f [108, 101, 97, 118, 101] = true
      · simp [h6] at k; simp [o_ic, o_lc, o_null, o_il, o_ll, o_al, o_dup, o_pop, o_dup_x1, o_dup2, o_iadd, o_isub, o_imul, o_iand, o_ior, o_ixor, o_ishl, o_ishr, o_idiv, o_irem, o_ineg, o_ladd, o_lsub, o_lmul, o_land, o_lor, o_lxor, o_ldiv, o_lrem, o_lneg, o_lcmp, o_i2l, o_l2i, o_i2b, o_i2c, o_iushr, o_lshl, o_lshr, o_if_eq, o_if_ne, o_if_lt, o_if_ge, o_if_gt, o_if_le, o_icmp_eq, o_icmp_ne, o_icmp_lt, o_icmp_ge, o_icmp_gt, o_icmp_le, o_ifnull, o_ifnonnull, o_acmp_eq, o_acmp_ne, o_is, o_ls, o_as, o_iinc, o_kill, o_sw, o_ireturn, o_zreturn, o_nreturn, o_lreturn, o_areturn, o_return, o_athrow, o_call, entP, lg_sl, Value.category, st1, st2, List.set, List.getElem?_cons_zero, List.getElem?_cons_succ, List.foldl, popN, aft, h6]; exact k
      simp [h3, h4, h5, h6] at k
      simp [o_ic, o_lc, o_null, o_il, o_ll, o_al, o_dup, o_pop, o_dup_x1, o_dup2, o_iadd, o_isub, o_imul, o_iand, o_ior, o_ixor, o_ishl, o_ishr, o_idiv, o_irem, o_ineg, o_ladd, o_lsub, o_lmul, o_land, o_lor, o_lxor, o_ldiv, o_lrem, o_lneg, o_lcmp, o_i2l, o_l2i, o_i2b, o_i2c, o_iushr, o_lshl, o_lshr, o_if_eq, o_if_ne, o_if_lt, o_if_ge, o_if_gt, o_if_le, o_icmp_eq, o_icmp_ne, o_icmp_lt, o_icmp_ge, o_icmp_gt, o_icmp_le, o_ifnull, o_ifnonnull, o_acmp_eq, o_acmp_ne, o_is, o_ls, o_as, o_iinc, o_kill, o_sw, o_ireturn, o_zreturn, o_nreturn, o_lreturn, o_areturn, o_return, o_athrow, o_call, entP, lg_sl, Value.category, st1, st2, List.set, List.getElem?_cons_zero, List.getElem?_cons_succ, List.foldl, popN, aft, o_mg, o_mgl, o_mga, o_mp, o_mpz, o_mpl, o_mia, o_mis, o_mbs, o_mc, h6]; exact k
