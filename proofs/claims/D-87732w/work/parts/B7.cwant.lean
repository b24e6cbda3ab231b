/-! THE COMPONENT: what is wanted -/
set_option maxRecDepth 100000
theorem tl9_mem {o : Option Nat × Option Nat} {x : Nat} : x ∈ tl9 o ↔ o.1 = some x ∨ o.2 = some x := by
  unfold tl9
  simp [Option.mem_toList]
theorem tl9_len (o : Option Nat × Option Nat) : (tl9 o).length ≤ 2 := by
  unfold tl9
  cases o.1 <;> cases o.2 <;> simp
section WA
variable {κ : Nat → Option Nat} {Q : Ret AH} {σ σ0 : AH} {r q c s h9 : Nat} {R : Rt} {wss : List (Nat × List Nat)} {A NX BF : Nat → Nat} {B : Nat → List Nat} {ss : List Nat} {VA : Nat → Nat} {f : Nat → Nat → Nat → Bool}
theorem RtB.nx_lt (h : RtB κ σ r R wss A NX BF B ss h9) {k y : Nat} (hk : k < (nds R).length) (hy : y ∈ tl9 (t1R R k, t2R R k)) : y < (nds R).length := by
  have ok := h.ndk hk
  rcases tl9_mem.1 hy with q | q
  · exact ok.2.1 y q
  · exact ok.2.2.1 y q
/-- the facts of one kind, as bits -/
noncomputable def fb (R : Rt) (i : Nat) : Nat → Nat → Bool := fun k e => decide (e < (sms R.1).length) && b9 (fct R e i k)
noncomputable def rWan (R : Rt) (X : Nat → Nat → Bool) (k e : Nat) : Bool := ((((if (tl9 (t1R R k, t2R R k)).length = 0 then false else decide (e < (sms R.1).length) && !fb R 1 k e) && (tl9 (t1R R k, t2R R k)).all (fun y => X y e)) && !(b9 (seenN R (ndA (nds R) k)) && (decide (e < (sms R.1).length) && b9 (boldS (smA R e))))) || fb R 0 k e)
theorem rul_want (w : WfR R) (hT9 : TgOk R) : Rul (nds R).length (sms R.1).length (rWan R) (fun e => fWan (nds R).length (t1R R) (t2R R) (wkP R e) (klP R e) (bsP R e)) := by
  refine ⟨fun X k e hk he => ?_, fun X k e hk he he2 => ?_, fun e X Y hXY k hk => fWan_mono X Y hXY k hk, fun e X k hk => hk.1⟩
  · have hg : (nds R)[k]? = some (ndA (nds R) k) := by unfold ndA; rw [List.getD_eq_getElem?_getD, List.getElem?_eq_getElem hk]; rfl
    have ok := nds_ok w hT9 hg
    unfold rWan fWan fb
    simp only [he, decide_true, Bool.true_and, Bool.or_eq_true, b9_iff, Bool.and_eq_true, Bool.not_eq_true', List.all_eq_true]
    have e0 : (b9 (fct R e 1 k) = false) ↔ ¬ klP R e k := b9_not
    have e2 : ((b9 (seenN R (ndA (nds R) k)) && b9 (boldS (smA R e))) = false) ↔ ¬ bsP R e k := by
      unfold bsP
      cases h1 : b9 (seenN R (ndA (nds R) k)) with
      | false => simp [b9_not.1 h1]
      | true =>
        cases h2 : b9 (boldS (smA R e)) with
        | false => simp [b9_not.1 h2]
        | true => simp [b9_iff.1 h1, b9_iff.1 h2]
    rw [e2]
    constructor
    · rintro (⟨⟨h1, h2⟩, h3⟩ | h1)
      · refine ⟨hk, Or.inr ⟨?_, ⟨?_, ?_⟩, h3⟩⟩
        · split at h1
          · cases h1
          · simp at h1; exact b9_not.1 h1
        · split at h1
          · cases h1
          · next hl =>
            cases ht : t1R R k with
            | none =>
              exfalso
              have h6 : nK (ndA (nds R) k) = 6 := Classical.byContradiction fun q => by
                obtain ⟨j, hj⟩ := ok.2.2.2.2.2.2.2.2.2.1 q
                unfold t1R at ht
                rw [hj] at ht; cases ht
              have := (ok.2.2.2.2.2.2.2.2.1 h6).2
              apply hl
              unfold tl9 t2R
              rw [ht, this]; rfl
            | some j =>
              have hj := h2 j (tl9_mem.2 (Or.inl ht))
              exact ⟨j, rfl, ok.2.1 j ht, hj⟩
        · intro j hj
          exact ⟨ok.2.2.1 j hj, h2 j (tl9_mem.2 (Or.inr hj))⟩
      · exact ⟨hk, Or.inl h1⟩
    · rintro ⟨-, h | ⟨h1, ⟨⟨j, hj1, hj2⟩, h3⟩, h4⟩⟩
      · exact Or.inr h
      · refine Or.inl ⟨⟨?_, fun y hy => ?_⟩, h4⟩
        · rw [if_neg]
          · simp; exact b9_not.2 h1
          · unfold tl9; rw [hj1]; simp
        · rcases tl9_mem.1 hy with z | z
          · have z : t1R R k = some y := z
            rw [hj1] at z; cases z; exact hj2.2
          · exact (h3 y z).2
  · have : ¬ e < (sms R.1).length := by omega
    unfold rWan fb
    simp [this]
/-- the walk over where a node leads -/
theorem wa_next {J26 J42 : Cont AH} {k : Nat} {mo : Int32} {X : Nat → Nat → Bool} {g0 : Nat → Bool} {v : Int64} (hR : RtB κ σ r R wss A NX BF B ss h9) (hS : SV κ σ0 σ r (nds R).length VA 3 (upd3 f 2 X) c s) (hk : k < (nds R).length) (hv : LB v g0)
    (kk : ∀ v', LB v' (fun e => g0 e && (tl9 (t1R R k, t2R R k)).all (fun y => X y e)) → bX4_want_139 κ Q J26 J42 [some (.ref r), some (.int mo), some (.int (nn k)), some (.ref (A k)), some (.long v'), none, some (.int (nn (tl9 (t1R R k, t2R R k)).length)), none] [] σ) :
    bX4_want_92 κ Q J26 J42 [some (.ref r), some (.int mo), some (.int (nn k)), some (.ref (A k)), some (.long v), none, some (.int 0), none] [] σ := by
  unfold bX4_want_92
  intro Y hY
  have t := hR.tgA hk
  obtain ⟨-, -, -, e2, e3, a1, a2⟩ := hR.nd k hk
  have h240 := nds_240 hR.wf.1
  obtain ⟨b1, b2, b3, b4, b5, b6, b7⟩ := hS.2.2 2 (by omega)
  rw [upd3_eq] at b7
  have hl2 := tl9_len (t1R R k, t2R R k)
  have main : ∀ m i v, i + m = (tl9 (t1R R k, t2R R k)).length → LB v (fun e => g0 e && ((tl9 (t1R R k, t2R R k)).take i).all (fun y => X y e)) → Y [some (.ref r), some (.int mo), some (.int (nn k)), some (.ref (A k)), some (.long v), none, some (.int (nn i)), none] [] σ := by
    intro m
    induction m with
    | zero =>
      intro i v hi' hv
      apply hY
      have bi : i < 2147483648 := by omega
      have bl : (tl9 (t1R R k, t2R R k)).length < 2147483648 := by omega
      have le : (tl9 (t1R R k, t2R R k)).length ≤ i := by omega
      simp [o_ic, o_lc, o_null, o_il, o_ll, o_al, o_dup, o_pop, o_dup_x1, o_dup2, o_iadd, o_isub, o_imul, o_iand, o_ior, o_ixor, o_ishl, o_ishr, o_idiv, o_irem, o_ineg, o_ladd, o_lsub, o_lmul, o_land, o_lor, o_lxor, o_ldiv, o_lrem, o_lneg, o_lcmp, o_i2l, o_l2i, o_i2b, o_i2c, o_iushr, o_lshl, o_lshr, o_if_eq, o_if_ne, o_if_lt, o_if_ge, o_if_gt, o_if_le, o_icmp_eq, o_icmp_ne, o_icmp_lt, o_icmp_ge, o_icmp_gt, o_icmp_le, o_ifnull, o_ifnonnull, o_acmp_eq, o_acmp_ne, o_is, o_ls, o_as, o_iinc, o_kill, o_sw, o_ireturn, o_zreturn, o_nreturn, o_lreturn, o_areturn, o_return, o_athrow, o_call, entP, lg_sl, Value.category, st1, st2, List.set, List.getElem?_cons_zero, List.getElem?_cons_succ, List.foldl, popN, aft, o_gI, o_gR, o_pI, o_pN, o_pR, o_aI, o_aG, o_aR, o_len, o_aR8, o_sI, o_sB, o_sZ, o_sG, o_new, o_newA, o_cast, o_inst, o_cst, o_oi, o_sR, o_gIc, o_gSv, o_gSc, o_getc, o_dead, o_acopy, o_castA, o_castI, o_sR7, o_mna, o_mmax, o_mmin, o_mabs, t, e2, va_rf]
      refine hv_size a1 ?_
      simp [o_ic, o_lc, o_null, o_il, o_ll, o_al, o_dup, o_pop, o_dup_x1, o_dup2, o_iadd, o_isub, o_imul, o_iand, o_ior, o_ixor, o_ishl, o_ishr, o_idiv, o_irem, o_ineg, o_ladd, o_lsub, o_lmul, o_land, o_lor, o_lxor, o_ldiv, o_lrem, o_lneg, o_lcmp, o_i2l, o_l2i, o_i2b, o_i2c, o_iushr, o_lshl, o_lshr, o_if_eq, o_if_ne, o_if_lt, o_if_ge, o_if_gt, o_if_le, o_icmp_eq, o_icmp_ne, o_icmp_lt, o_icmp_ge, o_icmp_gt, o_icmp_le, o_ifnull, o_ifnonnull, o_acmp_eq, o_acmp_ne, o_is, o_ls, o_as, o_iinc, o_kill, o_sw, o_ireturn, o_zreturn, o_nreturn, o_lreturn, o_areturn, o_return, o_athrow, o_call, entP, lg_sl, Value.category, st1, st2, List.set, List.getElem?_cons_zero, List.getElem?_cons_succ, List.foldl, popN, aft, o_gI, o_gR, o_pI, o_pN, o_pR, o_aI, o_aG, o_aR, o_len, o_aR8, o_sI, o_sB, o_sZ, o_sG, o_new, o_newA, o_cast, o_inst, o_cst, o_oi, o_sR, o_gIc, o_gSv, o_gSc, o_getc, o_dead, o_acopy, o_castA, o_castI, o_sR7, o_mna, o_mmax, o_mmin, o_mabs, nn_eqL, nn_ltL, nn_leL, nn_Llt, nn_Lle, nn_lt, nn_le, nn_eq, nn_in, nn_clamp, nn_succ, nn_pos, nn_neg1, bi, bl, le]
      rw [List.take_of_length_le le] at hv
      have := kk v hv
      rw [show (tl9 (t1R R k, t2R R k)).length = i by omega] at this
      exact this
    | succ m ih =>
      intro i v hi' hv
      apply hY
      have hil : i < (tl9 (t1R R k, t2R R k)).length := by omega
      have bi : i < 2147483648 := by omega
      have bl : (tl9 (t1R R k, t2R R k)).length < 2147483648 := by omega
      have nle : ¬ (tl9 (t1R R k, t2R R k)).length ≤ i := by omega
      have hg : (tl9 (t1R R k, t2R R k))[i]? = some (tl9 (t1R R k, t2R R k))[i] := List.getElem?_eq_getElem hil
      have hyl := hR.nx_lt hk (List.getElem_mem hil)
      have hih := fun v' => ih (i + 1) v' (by omega)
      rw [List.take_succ, hg] at hih
      generalize (tl9 (t1R R k, t2R R k))[i] = y at hg hyl hih
      have hgm : ((tl9 (t1R R k, t2R R k)).map A)[i]? = some (A y) := by rw [List.getElem?_map, hg]; rfl
      have ty := hR.tgA hyl
      have n0 := (hR.nd y hyl).2.1
      have by' : y < 2147483648 := by omega
      simp [o_ic, o_lc, o_null, o_il, o_ll, o_al, o_dup, o_pop, o_dup_x1, o_dup2, o_iadd, o_isub, o_imul, o_iand, o_ior, o_ixor, o_ishl, o_ishr, o_idiv, o_irem, o_ineg, o_ladd, o_lsub, o_lmul, o_land, o_lor, o_lxor, o_ldiv, o_lrem, o_lneg, o_lcmp, o_i2l, o_l2i, o_i2b, o_i2c, o_iushr, o_lshl, o_lshr, o_if_eq, o_if_ne, o_if_lt, o_if_ge, o_if_gt, o_if_le, o_icmp_eq, o_icmp_ne, o_icmp_lt, o_icmp_ge, o_icmp_gt, o_icmp_le, o_ifnull, o_ifnonnull, o_acmp_eq, o_acmp_ne, o_is, o_ls, o_as, o_iinc, o_kill, o_sw, o_ireturn, o_zreturn, o_nreturn, o_lreturn, o_areturn, o_return, o_athrow, o_call, entP, lg_sl, Value.category, st1, st2, List.set, List.getElem?_cons_zero, List.getElem?_cons_succ, List.foldl, popN, aft, o_gI, o_gR, o_pI, o_pN, o_pR, o_aI, o_aG, o_aR, o_len, o_aR8, o_sI, o_sB, o_sZ, o_sG, o_new, o_newA, o_cast, o_inst, o_cst, o_oi, o_sR, o_gIc, o_gSv, o_gSc, o_getc, o_dead, o_acopy, o_castA, o_castI, o_sR7, o_mna, o_mmax, o_mmin, o_mabs, t, e2, va_rf]
      refine hv_size a1 ?_
      simp [o_ic, o_lc, o_null, o_il, o_ll, o_al, o_dup, o_pop, o_dup_x1, o_dup2, o_iadd, o_isub, o_imul, o_iand, o_ior, o_ixor, o_ishl, o_ishr, o_idiv, o_irem, o_ineg, o_ladd, o_lsub, o_lmul, o_land, o_lor, o_lxor, o_ldiv, o_lrem, o_lneg, o_lcmp, o_i2l, o_l2i, o_i2b, o_i2c, o_iushr, o_lshl, o_lshr, o_if_eq, o_if_ne, o_if_lt, o_if_ge, o_if_gt, o_if_le, o_icmp_eq, o_icmp_ne, o_icmp_lt, o_icmp_ge, o_icmp_gt, o_icmp_le, o_ifnull, o_ifnonnull, o_acmp_eq, o_acmp_ne, o_is, o_ls, o_as, o_iinc, o_kill, o_sw, o_ireturn, o_zreturn, o_nreturn, o_lreturn, o_areturn, o_return, o_athrow, o_call, entP, lg_sl, Value.category, st1, st2, List.set, List.getElem?_cons_zero, List.getElem?_cons_succ, List.foldl, popN, aft, o_gI, o_gR, o_pI, o_pN, o_pR, o_aI, o_aG, o_aR, o_len, o_aR8, o_sI, o_sB, o_sZ, o_sG, o_new, o_newA, o_cast, o_inst, o_cst, o_oi, o_sR, o_gIc, o_gSv, o_gSc, o_getc, o_dead, o_acopy, o_castA, o_castI, o_sR7, o_mna, o_mmax, o_mmin, o_mabs, nn_eqL, nn_ltL, nn_leL, nn_Llt, nn_Lle, nn_lt, nn_le, nn_eq, nn_in, nn_clamp, nn_succ, nn_pos, nn_neg1, bi, bl, nle, t, e2, va_rf]
      refine hv_get a1 hgm ?_
      simp [o_ic, o_lc, o_null, o_il, o_ll, o_al, o_dup, o_pop, o_dup_x1, o_dup2, o_iadd, o_isub, o_imul, o_iand, o_ior, o_ixor, o_ishl, o_ishr, o_idiv, o_irem, o_ineg, o_ladd, o_lsub, o_lmul, o_land, o_lor, o_lxor, o_ldiv, o_lrem, o_lneg, o_lcmp, o_i2l, o_l2i, o_i2b, o_i2c, o_iushr, o_lshl, o_lshr, o_if_eq, o_if_ne, o_if_lt, o_if_ge, o_if_gt, o_if_le, o_icmp_eq, o_icmp_ne, o_icmp_lt, o_icmp_ge, o_icmp_gt, o_icmp_le, o_ifnull, o_ifnonnull, o_acmp_eq, o_acmp_ne, o_is, o_ls, o_as, o_iinc, o_kill, o_sw, o_ireturn, o_zreturn, o_nreturn, o_lreturn, o_areturn, o_return, o_athrow, o_call, entP, lg_sl, Value.category, st1, st2, List.set, List.getElem?_cons_zero, List.getElem?_cons_succ, List.foldl, popN, aft, o_gI, o_gR, o_pI, o_pN, o_pR, o_aI, o_aG, o_aR, o_len, o_aR8, o_sI, o_sB, o_sZ, o_sG, o_new, o_newA, o_cast, o_inst, o_cst, o_oi, o_sR, o_gIc, o_gSv, o_gSc, o_getc, o_dead, o_acopy, o_castA, o_castI, o_sR7, o_mna, o_mmax, o_mmin, o_mabs, ty, hR.tr, b1, va_rf, n0, b2, b3, nn_eqL, nn_ltL, nn_leL, nn_Llt, nn_Lle, nn_lt, nn_le, nn_eq, nn_in, nn_clamp, nn_succ, nn_pos, nn_neg1, by', hyl, nn_succ]
      refine hih _ ((hv.and (b7 y hyl)).congr (fun e he => ?_))
      simp [Bool.and_assoc]
  exact main (tl9 (t1R R k, t2R R k)).length 0 v (by omega) (hv.congr (fun e he => by simp))
end WA
