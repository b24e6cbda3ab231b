/-! THE MODEL's names and words -/
set_option maxRecDepth 100000
theorem srt_lt (tp : Nat → Nat) (td f : Nat) : srt tp td f < 5 := by
  unfold srt; repeat' split
  all_goals omega
def onn (o : Option Nat) : Int32 := match o with
  | some n => nn n
  | none => -1
theorem one_letter {tp : Nat → Nat} {td f c : Nat} (ht : ∀ i, i < td → tp i < 256) (hs : srt tp td f = 1) (hc : c < 256) : (wl tp (wDg tp td f - f) f 0 = (nn c).toInt64) ↔ (wDg tp td f = f + 1 ∧ tp f = c) := by
  obtain ⟨w1, w2, w3, w4, w5, w6, w7, w8, w9, w10⟩ := word_of ht hs
  rw [w9, i64_nn (by omega), i64_inj w10 (by omega)]
  by_cases e1 : wDg tp td f = f + 1
  · have e2 : wDg tp td f - f = 1 := by omega
    rw [e2]; simp [ln, e1]
  · obtain ⟨n, hn⟩ : ∃ n, wDg tp td f - f = n + 2 := ⟨wDg tp td f - f - 2, by omega⟩
    rw [hn, ln, ln]
    have h1 := ln_ge tp n (f + 1 + 1) (256 * (256 * 0 + tp f) + tp (f + 1))
    have h2 : 97 ≤ tp f := by simp [lt9] at w6; omega
    constructor
    · intro h; omega
    · intro h; omega
theorem lg_cmp0 {a b : Int64} : lg_cmp a b = 0 ↔ a = b := by
  unfold lg_cmp
  by_cases h : a = b
  · subst h
    have h1 : ¬ a > a := by rw [gt_iff_lt, Int64.lt_iff_toInt_lt]; omega
    simp [h1]
  · simp only [h, if_false, iff_false]
    split <;> decide
theorem m_numbered {mo : Nat} {Q : Ret MS} {tp : Nat → Nat} {td : Nat} {ms : MS} {f c most : Nat} (hT : TapeM ms tp td) (hk : TokM ms tp td f) (hc : c < 256) (hm : most < 2147483648) (k : Q (.inl (some (.int (onn (numb tp td f c most))))) ms) : pX2_numbered mo [.ref mo, .int (nn c), .int (nn most)] ms Q := by
  obtain ⟨k1, k2, k3, k4, k5, k6, k7⟩ := hk
  have bs : srt tp td f < 2147483648 := by have := srt_lt tp td f; omega
  have ht : ∀ i, i < td → tp i < 256 := fun i hi => (hT.2.2 i hi).2
  simp [pX2_numbered, bX2_numbered_41, bX2_numbered_40, bX2_numbered_0, o_ic, o_lc, o_null, o_il, o_ll, o_al, o_dup, o_pop, o_dup_x1, o_dup2, o_iadd, o_isub, o_imul, o_iand, o_ior, o_ixor, o_ishl, o_ishr, o_idiv, o_irem, o_ineg, o_ladd, o_lsub, o_lmul, o_land, o_lor, o_lxor, o_ldiv, o_lrem, o_lneg, o_lcmp, o_i2l, o_l2i, o_i2b, o_i2c, o_iushr, o_lshl, o_lshr, o_if_eq, o_if_ne, o_if_lt, o_if_ge, o_if_gt, o_if_le, o_icmp_eq, o_icmp_ne, o_icmp_lt, o_icmp_ge, o_icmp_gt, o_icmp_le, o_ifnull, o_ifnonnull, o_acmp_eq, o_acmp_ne, o_is, o_ls, o_as, o_iinc, o_kill, o_sw, o_ireturn, o_zreturn, o_nreturn, o_lreturn, o_areturn, o_return, o_athrow, o_call, entP, lg_sl, Value.category, st1, st2, List.set, List.getElem?_cons_zero, List.getElem?_cons_succ, List.foldl, popN, aft, o_mg, o_mgl, o_mga, o_mp, o_mpz, o_mpl, o_mia, o_mis, o_mbs, o_mc, mput_get, mput_arr, mput_let, mput_put, mset_get, mset_int, mset_let, mputL_get, mputL_arr, mputL_let, mputL_put, i64_8, mLen, nn_eqL, nn_ltL, nn_leL, nn_Llt, nn_Lle, nn_lt, nn_le, nn_eq, nn_in, nn_clamp, nn_succ, nn_pos, nn_neg1, k4, bs]
  refine ⟨fun h => ?_, fun h => ?_⟩
  · have e : numb tp td f c most = none := by unfold numb; rw [if_neg (fun q => h q.1)]
    rw [e] at k; exact k
  · obtain ⟨h5, h6⟩ := k5 h
    rw [h5, h6]
    obtain ⟨w1, w2, w3, w4, w5, w6, w7, w8, w9, w10⟩ := word_of ht h
    simp only [lg_cmp0, one_letter ht h hc]
    refine ⟨fun hn => ?_, fun hy => ?_⟩
    · have e : numb tp td f c most = none := by unfold numb; rw [if_neg (fun q => hn ⟨q.2.2.1, q.2.1⟩)]
      rw [e] at k; exact k
    · rcases wdig_of h with ⟨d1, d2⟩ | ⟨d1, d2, d3, d4⟩ | ⟨d1, d2, d3, d4⟩
      · have e : numb tp td f c most = none := by unfold numb; rw [if_neg (fun q => by omega)]
        rw [e] at k
        rw [d2]
        exact ⟨fun _ => k, fun h9 => absurd h9 (by decide)⟩
      · have e : numb tp td f c most = none := by
          unfold numb; rw [if_neg (fun q => q.2.2.2.2.1 ⟨by omega, by rw [hy.1] at d3; exact d3⟩)]
        rw [e] at k
        rw [d4]
        exact ⟨fun _ => k, fun h9 => absurd h9 (by decide)⟩
      · rw [d3]
        rw [hy.1] at d1 d2 d4 ⊢
        have b9 : dec tp (rnE tp td f - (f + 1)) (f + 1) 0 < 2147483648 := by omega
        simp [nn_eqL, nn_ltL, nn_leL, nn_Llt, nn_Lle, nn_lt, nn_le, nn_eq, nn_in, nn_clamp, nn_succ, nn_pos, nn_neg1, b9, hm]
        refine ⟨fun h9 => ?_, fun h9 => ?_⟩
        · have e : numb tp td f c most = none := by unfold numb; rw [if_neg (fun q => by omega)]
          rw [e] at k; exact k
        · have e : numb tp td f c most = some (dec tp (rnE tp td f - (f + 1)) (f + 1) 0) := by
            unfold numb; rw [if_pos ⟨h, hy.2, hy.1, by omega, fun q => d2 ⟨by omega, q.2⟩, h9⟩]
          rw [e] at k; exact k
theorem numb_le {tp : Nat → Nat} {td f c most n : Nat} (h : numb tp td f c most = some n) : n ≤ most := by
  unfold numb at h
  split at h
  · next q => cases h; exact q.2.2.2.2.2
  · cases h
theorem m_named {mo : Nat} {Q : Ret MS} {tp : Nat → Nat} {td : Nat} {ms : MS} {f : Nat} (hT : TapeM ms tp td) (hk : TokM ms tp td f) (k : Q (.inl (some (.int (onn (nmA tp td f))))) ms) : pX2_named mo [.ref mo] ms Q := by
  simp [pX2_named, bX2_named_38, bX2_named_37, bX2_named_26, bX2_named_0, o_ic, o_lc, o_null, o_il, o_ll, o_al, o_dup, o_pop, o_dup_x1, o_dup2, o_iadd, o_isub, o_imul, o_iand, o_ior, o_ixor, o_ishl, o_ishr, o_idiv, o_irem, o_ineg, o_ladd, o_lsub, o_lmul, o_land, o_lor, o_lxor, o_ldiv, o_lrem, o_lneg, o_lcmp, o_i2l, o_l2i, o_i2b, o_i2c, o_iushr, o_lshl, o_lshr, o_if_eq, o_if_ne, o_if_lt, o_if_ge, o_if_gt, o_if_le, o_icmp_eq, o_icmp_ne, o_icmp_lt, o_icmp_ge, o_icmp_gt, o_icmp_le, o_ifnull, o_ifnonnull, o_acmp_eq, o_acmp_ne, o_is, o_ls, o_as, o_iinc, o_kill, o_sw, o_ireturn, o_zreturn, o_nreturn, o_lreturn, o_areturn, o_return, o_athrow, o_call, entP, lg_sl, Value.category, st1, st2, List.set, List.getElem?_cons_zero, List.getElem?_cons_succ, List.foldl, popN, aft, o_mg, o_mgl, o_mga, o_mp, o_mpz, o_mpl, o_mia, o_mis, o_mbs, o_mc]
  refine m_numbered (c := 118) (most := 15) hT hk (by omega) (by omega) ?_
  simp [o_ic, o_lc, o_null, o_il, o_ll, o_al, o_dup, o_pop, o_dup_x1, o_dup2, o_iadd, o_isub, o_imul, o_iand, o_ior, o_ixor, o_ishl, o_ishr, o_idiv, o_irem, o_ineg, o_ladd, o_lsub, o_lmul, o_land, o_lor, o_lxor, o_ldiv, o_lrem, o_lneg, o_lcmp, o_i2l, o_l2i, o_i2b, o_i2c, o_iushr, o_lshl, o_lshr, o_if_eq, o_if_ne, o_if_lt, o_if_ge, o_if_gt, o_if_le, o_icmp_eq, o_icmp_ne, o_icmp_lt, o_icmp_ge, o_icmp_gt, o_icmp_le, o_ifnull, o_ifnonnull, o_acmp_eq, o_acmp_ne, o_is, o_ls, o_as, o_iinc, o_kill, o_sw, o_ireturn, o_zreturn, o_nreturn, o_lreturn, o_areturn, o_return, o_athrow, o_call, entP, lg_sl, Value.category, st1, st2, List.set, List.getElem?_cons_zero, List.getElem?_cons_succ, List.foldl, popN, aft, o_mg, o_mgl, o_mga, o_mp, o_mpz, o_mpl, o_mia, o_mis, o_mbs, o_mc]
  refine m_numbered (c := 116) (most := 31) hT hk (by omega) (by omega) ?_
  unfold nmA at k
  cases h1 : numb tp td f 118 15 with
  | some v =>
    have b1 := numb_le h1
    have b2 : v < 2147483648 := by omega
    rw [h1] at k
    simp [o_ic, o_lc, o_null, o_il, o_ll, o_al, o_dup, o_pop, o_dup_x1, o_dup2, o_iadd, o_isub, o_imul, o_iand, o_ior, o_ixor, o_ishl, o_ishr, o_idiv, o_irem, o_ineg, o_ladd, o_lsub, o_lmul, o_land, o_lor, o_lxor, o_ldiv, o_lrem, o_lneg, o_lcmp, o_i2l, o_l2i, o_i2b, o_i2c, o_iushr, o_lshl, o_lshr, o_if_eq, o_if_ne, o_if_lt, o_if_ge, o_if_gt, o_if_le, o_icmp_eq, o_icmp_ne, o_icmp_lt, o_icmp_ge, o_icmp_gt, o_icmp_le, o_ifnull, o_ifnonnull, o_acmp_eq, o_acmp_ne, o_is, o_ls, o_as, o_iinc, o_kill, o_sw, o_ireturn, o_zreturn, o_nreturn, o_lreturn, o_areturn, o_return, o_athrow, o_call, entP, lg_sl, Value.category, st1, st2, List.set, List.getElem?_cons_zero, List.getElem?_cons_succ, List.foldl, popN, aft, onn, nn_eqL, nn_ltL, nn_leL, nn_Llt, nn_Lle, nn_lt, nn_le, nn_eq, nn_in, nn_clamp, nn_succ, nn_pos, nn_neg1, b2]
    exact k
  | none =>
    rw [h1] at k
    cases h2 : numb tp td f 116 31 with
    | some t =>
      have b1 := numb_le h2
      have b2 : t < 2147483648 := by omega
      rw [h2] at k
      simp [o_ic, o_lc, o_null, o_il, o_ll, o_al, o_dup, o_pop, o_dup_x1, o_dup2, o_iadd, o_isub, o_imul, o_iand, o_ior, o_ixor, o_ishl, o_ishr, o_idiv, o_irem, o_ineg, o_ladd, o_lsub, o_lmul, o_land, o_lor, o_lxor, o_ldiv, o_lrem, o_lneg, o_lcmp, o_i2l, o_l2i, o_i2b, o_i2c, o_iushr, o_lshl, o_lshr, o_if_eq, o_if_ne, o_if_lt, o_if_ge, o_if_gt, o_if_le, o_icmp_eq, o_icmp_ne, o_icmp_lt, o_icmp_ge, o_icmp_gt, o_icmp_le, o_ifnull, o_ifnonnull, o_acmp_eq, o_acmp_ne, o_is, o_ls, o_as, o_iinc, o_kill, o_sw, o_ireturn, o_zreturn, o_nreturn, o_lreturn, o_areturn, o_return, o_athrow, o_call, entP, lg_sl, Value.category, st1, st2, List.set, List.getElem?_cons_zero, List.getElem?_cons_succ, List.foldl, popN, aft, onn, nn_eqL, nn_ltL, nn_leL, nn_Llt, nn_Lle, nn_lt, nn_le, nn_eq, nn_in, nn_clamp, nn_succ, nn_pos, nn_neg1, b2]
      have e : (16 : Int32) + nn t = nn (16 + t) := nn_add 16 t
      rw [e]; exact k
    | none =>
      rw [h2] at k
      simp [o_ic, o_lc, o_null, o_il, o_ll, o_al, o_dup, o_pop, o_dup_x1, o_dup2, o_iadd, o_isub, o_imul, o_iand, o_ior, o_ixor, o_ishl, o_ishr, o_idiv, o_irem, o_ineg, o_ladd, o_lsub, o_lmul, o_land, o_lor, o_lxor, o_ldiv, o_lrem, o_lneg, o_lcmp, o_i2l, o_l2i, o_i2b, o_i2c, o_iushr, o_lshl, o_lshr, o_if_eq, o_if_ne, o_if_lt, o_if_ge, o_if_gt, o_if_le, o_icmp_eq, o_icmp_ne, o_icmp_lt, o_icmp_ge, o_icmp_gt, o_icmp_le, o_ifnull, o_ifnonnull, o_acmp_eq, o_acmp_ne, o_is, o_ls, o_as, o_iinc, o_kill, o_sw, o_ireturn, o_zreturn, o_nreturn, o_lreturn, o_areturn, o_return, o_athrow, o_call, entP, lg_sl, Value.category, st1, st2, List.set, List.getElem?_cons_zero, List.getElem?_cons_succ, List.foldl, popN, aft, onn]
      exact k
