/-! THE COMPONENT: study, early and latest -/
set_option maxRecDepth 100000
section S2
variable {κ : Nat → Option Nat} {Q : Ret AH} {σ σ0 : AH} {r c s h9 : Nat} {R : Rt} {wss : List (Nat × List Nat)} {A NX BF : Nat → Nat} {B : Nat → List Nat} {ss : List Nat} {VA : Nat → Nat} {f : Nat → Nat → Nat → Bool}
theorem fb_early (hB : ∀ k, k < (nds R).length → ∀ p, p ∈ B k ↔ ld (nds R).length (t1R R) (t2R R) p k) {k e : Nat} (hk : k < (nds R).length) : (fb R 2 k e && ((if k = 0 then decide (e < (sms R.1).length) else false) || (B k).any (fun p => fb R 1 p e || !(fb R 3 p e || fb R 2 p e)))) = fb R 4 k e := by
  unfold fb
  by_cases he : e < (sms R.1).length
  · simp only [he, decide_true, Bool.true_and]
    cases h4 : b9 (fct R e 4 k) with
    | true =>
      have g := b9_iff.1 h4
      obtain ⟨g1, g2⟩ := (show gEar _ _ _ _ _ _ k from g)
      rw [Bool.and_eq_true, b9_iff]
      refine ⟨g1, ?_⟩
      rcases g2 with g2 | ⟨a, ha, g2⟩
      · rw [if_pos g2]; rfl
      · rw [Bool.or_eq_true, List.any_eq_true]
        refine Or.inr ⟨a, (hB k hk a).2 ha, ?_⟩
        rcases g2 with g2 | ⟨g2, g3⟩
        · rw [b9_iff.2 (show fct R e 1 a from g2)]; rfl
        · rw [b9_not.2 (show ¬ fct R e 3 a from g2), b9_not.2 (show ¬ fct R e 2 a from g3)]; simp
    | false =>
      have g := b9_not.1 h4
      refine Classical.byContradiction fun hn => ?_
      simp only [Bool.not_eq_false] at hn
      rw [Bool.and_eq_true, b9_iff, Bool.or_eq_true, List.any_eq_true] at hn
      refine g (show gEar _ _ _ _ _ _ k from ⟨hn.1, ?_⟩)
      rcases hn.2 with q | ⟨a, ha, q⟩
      · by_cases z : k = 0
        · exact Or.inl z
        · rw [if_neg z] at q; cases q
      · refine Or.inr ⟨a, (hB k hk a).1 ha, ?_⟩
        rw [Bool.or_eq_true, b9_iff] at q
        rcases q with q | q
        · exact Or.inl q
        · rw [Bool.not_eq_true', Bool.or_eq_false_iff, b9_not, b9_not] at q
          exact Or.inr q
  · simp [he]
theorem fb_late (w : WfR R) (hT9 : TgOk R) {k e : Nat} (hk : k < (nds R).length) : (fb R 5 k e && (fb R 0 k e || !((if (tl9 (t1R R k, t2R R k)).length = 0 then false else decide (e < (sms R.1).length)) && (tl9 (t1R R k, t2R R k)).all (fun y => fb R 5 y e)))) = fb R 6 k e := by
  have hg : (nds R)[k]? = some (ndA (nds R) k) := by unfold ndA; rw [List.getD_eq_getElem?_getD, List.getElem?_eq_getElem hk]; rfl
  have ok := nds_ok w hT9 hg
  unfold fb
  by_cases he : e < (sms R.1).length
  · simp only [he, decide_true, Bool.true_and]
    have key : ((if (tl9 (t1R R k, t2R R k)).length = 0 then false else true) && (tl9 (t1R R k, t2R R k)).all (fun y => b9 (fct R e 5 y))) = b9 (nxA (t1R R) (t2R R) (fct R e 5) k) := by
      cases hx : b9 (nxA (t1R R) (t2R R) (fct R e 5) k) with
      | true =>
        obtain ⟨⟨j, hj1, hj2⟩, h2⟩ := b9_iff.1 hx
        rw [Bool.and_eq_true, List.all_eq_true]
        refine ⟨by rw [if_neg]; unfold tl9; rw [hj1]; simp, fun y hy => ?_⟩
        rw [b9_iff]
        rcases tl9_mem.1 hy with z | z
        · have z : t1R R k = some y := z
          rw [hj1] at z; cases z; exact hj2
        · exact h2 y z
      | false =>
        refine Classical.byContradiction fun hn => b9_not.1 hx ?_
        simp only [Bool.not_eq_false] at hn
        rw [Bool.and_eq_true, List.all_eq_true] at hn
        obtain ⟨n1, n2⟩ := hn
        have hne : ¬ (tl9 (t1R R k, t2R R k)).length = 0 := fun z => by rw [if_pos z] at n1; cases n1
        refine ⟨?_, fun j hj => b9_iff.1 (n2 j (tl9_mem.2 (Or.inr hj)))⟩
        cases ht : t1R R k with
        | none =>
          exfalso
          have h6 : nK (ndA (nds R) k) = 6 := Classical.byContradiction fun q => by
            obtain ⟨j, hj⟩ := ok.2.2.2.2.2.2.2.2.2.1 q
            unfold t1R at ht
            rw [hj] at ht; cases ht
          have := (ok.2.2.2.2.2.2.2.2.1 h6).2
          apply hne
          unfold tl9 t2R
          rw [ht, this]; rfl
        | some j => exact ⟨j, rfl, b9_iff.1 (n2 j (tl9_mem.2 (Or.inl ht)))⟩
    rw [key]
    have h6 : fct R e 6 k ↔ (fct R e 5 k ∧ (fct R e 0 k ∨ ¬ nxA (t1R R) (t2R R) (fct R e 5) k)) := Iff.rfl
    rw [b9_eq h6]
    cases h5 : b9 (fct R e 5 k) with
    | false => rw [b9_not.2 (show ¬ (fct R e 5 k ∧ (fct R e 0 k ∨ ¬ nxA (t1R R) (t2R R) (fct R e 5) k)) from fun q => b9_not.1 h5 q.1)]; rfl
    | true =>
      cases h0 : b9 (fct R e 0 k) with
      | true => rw [b9_iff.2 (show fct R e 5 k ∧ (fct R e 0 k ∨ ¬ nxA (t1R R) (t2R R) (fct R e 5) k) from ⟨b9_iff.1 h5, Or.inl (b9_iff.1 h0)⟩)]; rfl
      | false =>
        cases hx : b9 (nxA (t1R R) (t2R R) (fct R e 5) k) with
        | true => rw [b9_not.2 (show ¬ (fct R e 5 k ∧ (fct R e 0 k ∨ ¬ nxA (t1R R) (t2R R) (fct R e 5) k)) from fun q => q.2.elim (b9_not.1 h0) (fun z => z (b9_iff.1 hx)))]; rfl
        | false => rw [b9_iff.2 (show fct R e 5 k ∧ (fct R e 0 k ∨ ¬ nxA (t1R R) (t2R R) (fct R e 5) k) from ⟨b9_iff.1 h5, Or.inr (b9_not.1 hx)⟩)]; rfl
  · simp [he]
/-- the early ones of node k -/
theorem st_bef {J158 : Cont AH} {k : Nat} {X : Nat → Nat → Bool} {g0 : Nat → Bool} {v : Int64} {nv : Int32} (hR : RtB κ σ r R wss A NX BF B ss h9) (hV9 : SV κ σ0 σ r (nds R).length VA 5 (upd3 f 4 X) c s) (hf1 : f 1 = fb R 1) (hf2 : f 2 = fb R 2) (hf3 : f 3 = fb R 3) (hk : k < (nds R).length) (hv : LB v g0)
    (kk : ∀ v', LB v' (fun e => g0 e || (B k).any (fun p => fb R 1 p e || !(fb R 3 p e || fb R 2 p e))) → bX4_study_274 κ Q J158 [some (.ref r), some (.int nv), some (.int (nn k)), some (.ref (A k)), some (.long v'), none, some (.int (nn (B k).length)), none] [] σ) :
    bX4_study_201 κ Q J158 [some (.ref r), some (.int nv), some (.int (nn k)), some (.ref (A k)), some (.long v), none, some (.int 0), none] [] σ := by
  unfold bX4_study_201
  intro Y hY
  have t := hR.tgA hk
  obtain ⟨-, -, -, e2, e3, a1, a2⟩ := hR.nd k hk
  have h240 := nds_240 hR.wf.1
  obtain ⟨b1, b2, b3, b4, b5, b6, b7⟩ := hV9.2.2 1 (by omega)
  obtain ⟨c1, c2, c3, c4, c5, c6, c7⟩ := hV9.2.2 2 (by omega)
  obtain ⟨d1, d2, d3, d4, d5, d6, d7⟩ := hV9.2.2 3 (by omega)
  rw [upd3_ne _ _ (by omega), hf1] at b7
  rw [upd3_ne _ _ (by omega), hf2] at c7
  rw [upd3_ne _ _ (by omega), hf3] at d7
  have hl2 := hR.bf_len hk
  have main : ∀ m i v, i + m = (B k).length → LB v (fun e => g0 e || ((B k).take i).any (fun p => fb R 1 p e || !(fb R 3 p e || fb R 2 p e))) → Y [some (.ref r), some (.int nv), some (.int (nn k)), some (.ref (A k)), some (.long v), none, some (.int (nn i)), none] [] σ := by
    intro m
    induction m with
    | zero =>
      intro i v hi' hv
      apply hY
      have bi : i < 2147483648 := by omega
      have bl : (B k).length < 2147483648 := by omega
      have le : (B k).length ≤ i := by omega
      simp [o_ic, o_lc, o_null, o_il, o_ll, o_al, o_dup, o_pop, o_dup_x1, o_dup2, o_iadd, o_isub, o_imul, o_iand, o_ior, o_ixor, o_ishl, o_ishr, o_idiv, o_irem, o_ineg, o_ladd, o_lsub, o_lmul, o_land, o_lor, o_lxor, o_ldiv, o_lrem, o_lneg, o_lcmp, o_i2l, o_l2i, o_i2b, o_i2c, o_iushr, o_lshl, o_lshr, o_if_eq, o_if_ne, o_if_lt, o_if_ge, o_if_gt, o_if_le, o_icmp_eq, o_icmp_ne, o_icmp_lt, o_icmp_ge, o_icmp_gt, o_icmp_le, o_ifnull, o_ifnonnull, o_acmp_eq, o_acmp_ne, o_is, o_ls, o_as, o_iinc, o_kill, o_sw, o_ireturn, o_zreturn, o_nreturn, o_lreturn, o_areturn, o_return, o_athrow, o_call, entP, lg_sl, Value.category, st1, st2, List.set, List.getElem?_cons_zero, List.getElem?_cons_succ, List.foldl, popN, aft, o_gI, o_gR, o_pI, o_pN, o_pR, o_aI, o_aG, o_aR, o_len, o_aR8, o_sI, o_sB, o_sZ, o_sG, o_new, o_newA, o_cast, o_inst, o_cst, o_oi, o_sR, o_gIc, o_gSv, o_gSc, o_getc, o_dead, o_acopy, o_castA, o_castI, o_sR7, o_mna, o_mmax, o_mmin, o_mabs, t, e3, va_rf]
      refine hv_size a2 ?_
      simp [o_ic, o_lc, o_null, o_il, o_ll, o_al, o_dup, o_pop, o_dup_x1, o_dup2, o_iadd, o_isub, o_imul, o_iand, o_ior, o_ixor, o_ishl, o_ishr, o_idiv, o_irem, o_ineg, o_ladd, o_lsub, o_lmul, o_land, o_lor, o_lxor, o_ldiv, o_lrem, o_lneg, o_lcmp, o_i2l, o_l2i, o_i2b, o_i2c, o_iushr, o_lshl, o_lshr, o_if_eq, o_if_ne, o_if_lt, o_if_ge, o_if_gt, o_if_le, o_icmp_eq, o_icmp_ne, o_icmp_lt, o_icmp_ge, o_icmp_gt, o_icmp_le, o_ifnull, o_ifnonnull, o_acmp_eq, o_acmp_ne, o_is, o_ls, o_as, o_iinc, o_kill, o_sw, o_ireturn, o_zreturn, o_nreturn, o_lreturn, o_areturn, o_return, o_athrow, o_call, entP, lg_sl, Value.category, st1, st2, List.set, List.getElem?_cons_zero, List.getElem?_cons_succ, List.foldl, popN, aft, o_gI, o_gR, o_pI, o_pN, o_pR, o_aI, o_aG, o_aR, o_len, o_aR8, o_sI, o_sB, o_sZ, o_sG, o_new, o_newA, o_cast, o_inst, o_cst, o_oi, o_sR, o_gIc, o_gSv, o_gSc, o_getc, o_dead, o_acopy, o_castA, o_castI, o_sR7, o_mna, o_mmax, o_mmin, o_mabs, nn_eqL, nn_ltL, nn_leL, nn_Llt, nn_Lle, nn_lt, nn_le, nn_eq, nn_in, nn_clamp, nn_succ, nn_pos, nn_neg1, bi, bl, le]
      rw [List.take_of_length_le le] at hv
      have := kk v hv
      rw [show (B k).length = i by omega] at this
      exact this
    | succ m ih =>
      intro i v hi' hv
      apply hY
      have hil : i < (B k).length := by omega
      have bi : i < 2147483648 := by omega
      have bl : (B k).length < 2147483648 := by omega
      have nle : ¬ (B k).length ≤ i := by omega
      have hg : (B k)[i]? = some (B k)[i] := List.getElem?_eq_getElem hil
      have hyl := hR.bf_lt hk (List.getElem_mem hil)
      have hih := fun v' => ih (i + 1) v' (by omega)
      rw [List.take_succ, hg] at hih
      generalize (B k)[i] = y at hg hyl hih
      have hgm : ((B k).map A)[i]? = some (A y) := by rw [List.getElem?_map, hg]; rfl
      have ty := hR.tgA hyl
      have n0 := (hR.nd y hyl).2.1
      have by' : y < 2147483648 := by omega
      simp [o_ic, o_lc, o_null, o_il, o_ll, o_al, o_dup, o_pop, o_dup_x1, o_dup2, o_iadd, o_isub, o_imul, o_iand, o_ior, o_ixor, o_ishl, o_ishr, o_idiv, o_irem, o_ineg, o_ladd, o_lsub, o_lmul, o_land, o_lor, o_lxor, o_ldiv, o_lrem, o_lneg, o_lcmp, o_i2l, o_l2i, o_i2b, o_i2c, o_iushr, o_lshl, o_lshr, o_if_eq, o_if_ne, o_if_lt, o_if_ge, o_if_gt, o_if_le, o_icmp_eq, o_icmp_ne, o_icmp_lt, o_icmp_ge, o_icmp_gt, o_icmp_le, o_ifnull, o_ifnonnull, o_acmp_eq, o_acmp_ne, o_is, o_ls, o_as, o_iinc, o_kill, o_sw, o_ireturn, o_zreturn, o_nreturn, o_lreturn, o_areturn, o_return, o_athrow, o_call, entP, lg_sl, Value.category, st1, st2, List.set, List.getElem?_cons_zero, List.getElem?_cons_succ, List.foldl, popN, aft, o_gI, o_gR, o_pI, o_pN, o_pR, o_aI, o_aG, o_aR, o_len, o_aR8, o_sI, o_sB, o_sZ, o_sG, o_new, o_newA, o_cast, o_inst, o_cst, o_oi, o_sR, o_gIc, o_gSv, o_gSc, o_getc, o_dead, o_acopy, o_castA, o_castI, o_sR7, o_mna, o_mmax, o_mmin, o_mabs, t, e3, va_rf]
      refine hv_size a2 ?_
      simp [o_ic, o_lc, o_null, o_il, o_ll, o_al, o_dup, o_pop, o_dup_x1, o_dup2, o_iadd, o_isub, o_imul, o_iand, o_ior, o_ixor, o_ishl, o_ishr, o_idiv, o_irem, o_ineg, o_ladd, o_lsub, o_lmul, o_land, o_lor, o_lxor, o_ldiv, o_lrem, o_lneg, o_lcmp, o_i2l, o_l2i, o_i2b, o_i2c, o_iushr, o_lshl, o_lshr, o_if_eq, o_if_ne, o_if_lt, o_if_ge, o_if_gt, o_if_le, o_icmp_eq, o_icmp_ne, o_icmp_lt, o_icmp_ge, o_icmp_gt, o_icmp_le, o_ifnull, o_ifnonnull, o_acmp_eq, o_acmp_ne, o_is, o_ls, o_as, o_iinc, o_kill, o_sw, o_ireturn, o_zreturn, o_nreturn, o_lreturn, o_areturn, o_return, o_athrow, o_call, entP, lg_sl, Value.category, st1, st2, List.set, List.getElem?_cons_zero, List.getElem?_cons_succ, List.foldl, popN, aft, o_gI, o_gR, o_pI, o_pN, o_pR, o_aI, o_aG, o_aR, o_len, o_aR8, o_sI, o_sB, o_sZ, o_sG, o_new, o_newA, o_cast, o_inst, o_cst, o_oi, o_sR, o_gIc, o_gSv, o_gSc, o_getc, o_dead, o_acopy, o_castA, o_castI, o_sR7, o_mna, o_mmax, o_mmin, o_mabs, nn_eqL, nn_ltL, nn_leL, nn_Llt, nn_Lle, nn_lt, nn_le, nn_eq, nn_in, nn_clamp, nn_succ, nn_pos, nn_neg1, bi, bl, nle, t, e3, va_rf]
      refine hv_get a2 hgm ?_
      simp [o_ic, o_lc, o_null, o_il, o_ll, o_al, o_dup, o_pop, o_dup_x1, o_dup2, o_iadd, o_isub, o_imul, o_iand, o_ior, o_ixor, o_ishl, o_ishr, o_idiv, o_irem, o_ineg, o_ladd, o_lsub, o_lmul, o_land, o_lor, o_lxor, o_ldiv, o_lrem, o_lneg, o_lcmp, o_i2l, o_l2i, o_i2b, o_i2c, o_iushr, o_lshl, o_lshr, o_if_eq, o_if_ne, o_if_lt, o_if_ge, o_if_gt, o_if_le, o_icmp_eq, o_icmp_ne, o_icmp_lt, o_icmp_ge, o_icmp_gt, o_icmp_le, o_ifnull, o_ifnonnull, o_acmp_eq, o_acmp_ne, o_is, o_ls, o_as, o_iinc, o_kill, o_sw, o_ireturn, o_zreturn, o_nreturn, o_lreturn, o_areturn, o_return, o_athrow, o_call, entP, lg_sl, Value.category, st1, st2, List.set, List.getElem?_cons_zero, List.getElem?_cons_succ, List.foldl, popN, aft, o_gI, o_gR, o_pI, o_pN, o_pR, o_aI, o_aG, o_aR, o_len, o_aR8, o_sI, o_sB, o_sZ, o_sG, o_new, o_newA, o_cast, o_inst, o_cst, o_oi, o_sR, o_gIc, o_gSv, o_gSc, o_getc, o_dead, o_acopy, o_castA, o_castI, o_sR7, o_mna, o_mmax, o_mmin, o_mabs, ty, hR.tr, b1, c1, d1, va_rf, n0, b2, b3, c2, c3, d2, d3, nn_eqL, nn_ltL, nn_leL, nn_Llt, nn_Lle, nn_lt, nn_le, nn_eq, nn_in, nn_clamp, nn_succ, nn_pos, nn_neg1, by', hyl, nn_succ]
      have hnew := hv.or ((b7 y hyl).or ((d7 y hyl).or (c7 y hyl)).cpl)
      refine hih _ (hnew.congr (fun e he => ?_))
      simp [Bool.or_assoc]
  exact main (B k).length 0 v (by omega) (hv.congr (fun e he => by simp))
end S2
