/-! THE MODEL's tests of a token -/
set_option maxRecDepth 100000
theorem i64_inj {a b : Nat} (ha : a < 18446744073709551616) (hb : b < 18446744073709551616) : Int64.ofNat a = Int64.ofNat b ↔ a = b := by
  constructor
  · intro h
    have h2 : (Int64.ofNat a).toBitVec = (Int64.ofNat b).toBitVec := by rw [h]
    have h3 : BitVec.ofNat 64 a = BitVec.ofNat 64 b := h2
    have h4 := congrArg BitVec.toNat h3
    simp only [BitVec.toNat_ofNat] at h4
    omega
  · intro h; rw [h]
theorem ln_ge (tp : Nat → Nat) : ∀ n i v, v ≤ ln tp n i v
  | 0, _, _ => Nat.le_refl _
  | n + 1, i, v => by rw [ln]; have := ln_ge tp n (i + 1) (256 * v + tp i); omega
theorem ln_lt (tp : Nat → Nat) : ∀ n i v, (∀ j, i ≤ j → j < i + n → tp j < 256) → ln tp n i v < (v + 1) * 256 ^ n
  | 0, _, v, _ => by simp [ln]
  | n + 1, i, v, h => by
    have h0 := h i (Nat.le_refl _) (by omega)
    have h2 := ln_lt tp n (i + 1) (256 * v + tp i) (fun j a b => h j (by omega) (by omega))
    rw [ln]
    refine Nat.lt_of_lt_of_le h2 ?_
    rw [Nat.pow_succ, Nat.mul_comm (256 ^ n) 256, ← Nat.mul_assoc]
    exact Nat.mul_le_mul_right _ (by omega)
/-- what a word is -/
theorem word_of {tp : Nat → Nat} {td f : Nat} (ht : ∀ i, i < td → tp i < 256) (hs : srt tp td f = 1) : f < td ∧ f < wDg tp td f ∧ wDg tp td f ≤ rnE tp td f ∧ rnE tp td f ≤ td ∧ rnE tp td f - f ≤ 8 ∧ lt9 (tp f) = true ∧
    (∀ j, f ≤ j → j < wDg tp td f → lt9 (tp j) = true) ∧ (∀ j, wDg tp td f ≤ j → j < rnE tp td f → dg9 (tp j) = true) ∧ wl tp (wDg tp td f - f) f 0 = Int64.ofNat (ln tp (wDg tp td f - f) f 0) ∧ ln tp (wDg tp td f - f) f 0 < 18446744073709551616 := by
  have hle : wDg tp td f ≤ rnE tp td f := by
    have := adv_le (fun i => lt9 (tp i)) (rnE tp td f - f) f
    have h0 : f ≤ rnE tp td f := adv_ge _ _ _
    unfold wDg; omega
  have hge : f ≤ wDg tp td f := adv_ge _ _ _
  have hall : f < td ∧ lt9 (tp f) = true ∧ rnE tp td f - f ≤ 8 ∧ allF (fun i => dg9 (tp i)) (wDg tp td f) (rnE tp td f) = true := by
    unfold srt at hs
    split at hs
    · omega
    · split at hs
      · next h1 h2 => split at hs
                      · next h3 => exact ⟨by omega, h2, h3⟩
                      · omega
      · split at hs
        · split at hs <;> omega
        · split at hs <;> omega
  have hrt : rnE tp td f ≤ td := rnE_le tp (by omega)
  have hfr : f < rnE tp td f := by
    unfold rnE
    have e1 : td - f = (td - f - 1) + 1 := by omega
    rw [e1, adv, if_pos (by simp [ald, hall.2.1])]
    exact adv_ge _ _ (f + 1)
  have hfw : f < wDg tp td f := by
    unfold wDg
    have e1 : rnE tp td f - f = (rnE tp td f - f - 1) + 1 := by omega
    rw [e1, adv, if_pos (by simp [hall.2.1])]
    exact adv_ge _ _ (f + 1)
  have hb : ∀ j, f ≤ j → j < f + (wDg tp td f - f) → tp j < 256 := fun j a b => ht j (by omega)
  have hp : 256 ^ (wDg tp td f - f) ≤ 256 ^ 8 := Nat.pow_le_pow_right (by omega) (by omega)
  refine ⟨hall.1, hfw, hle, hrt, hall.2.2.1, hall.2.1, fun j a b => adv_all (fun i => lt9 (tp i)) _ f j a b, allF_all hall.2.2.2, ?_, ?_⟩
  · have := wl_ln tp (wDg tp td f - f) f 0 hb (by omega) (by omega)
    exact this
  · have := ln_lt tp (wDg tp td f - f) f 0 hb
    omega
theorem m_isSign {mo : Nat} {Q : Ret MS} {tp : Nat → Nat} {td : Nat} {ms : MS} {f c : Nat} (hT : TapeM ms tp td) (hk : TokM ms tp td f) (hc : c < 2147483648) (k : Q (.inl (some (.int (if isS tp td f c then 1 else 0)))) ms) : pX2_isSign mo [.ref mo, .int (nn c)] ms Q := by
  obtain ⟨k1, k2, k3, k4, k5, k6, k7⟩ := hk
  have bs : srt tp td f < 2147483648 := by
    unfold srt; repeat' split
    all_goals omega
  simp [pX2_isSign, bX2_isSign_21, bX2_isSign_20, bX2_isSign_0, o_ic, o_lc, o_null, o_il, o_ll, o_al, o_dup, o_pop, o_dup_x1, o_dup2, o_iadd, o_isub, o_imul, o_iand, o_ior, o_ixor, o_ishl, o_ishr, o_idiv, o_irem, o_ineg, o_ladd, o_lsub, o_lmul, o_land, o_lor, o_lxor, o_ldiv, o_lrem, o_lneg, o_lcmp, o_i2l, o_l2i, o_i2b, o_i2c, o_iushr, o_lshl, o_lshr, o_if_eq, o_if_ne, o_if_lt, o_if_ge, o_if_gt, o_if_le, o_icmp_eq, o_icmp_ne, o_icmp_lt, o_icmp_ge, o_icmp_gt, o_icmp_le, o_ifnull, o_ifnonnull, o_acmp_eq, o_acmp_ne, o_is, o_ls, o_as, o_iinc, o_kill, o_sw, o_ireturn, o_zreturn, o_nreturn, o_lreturn, o_areturn, o_return, o_athrow, o_call, entP, lg_sl, Value.category, st1, st2, List.set, List.getElem?_cons_zero, List.getElem?_cons_succ, List.foldl, popN, aft, o_mg, o_mgl, o_mga, o_mp, o_mpz, o_mpl, o_mia, o_mis, o_mbs, o_mc, mput_get, mput_arr, mput_let, mput_put, mset_get, mset_int, mset_let, mputL_get, mputL_arr, mputL_let, mputL_put, i64_8, mLen, nn_eqL, nn_ltL, nn_leL, nn_Llt, nn_Lle, nn_lt, nn_le, nn_eq, nn_in, nn_clamp, nn_succ, nn_pos, nn_neg1, k4, bs]
  refine ⟨fun h => ?_, fun h => ?_⟩
  · rw [if_neg (by simp [isS, h])] at k; exact k
  · have h7 := k7 h
    have hft : tp f < 256 := by
      refine (hT.2.2 f ?_).2
      unfold srt at h; split at h <;> omega
    have b1 : tp f < 2147483648 := by omega
    simp [h7, nn_eqL, nn_ltL, nn_leL, nn_Llt, nn_Lle, nn_lt, nn_le, nn_eq, nn_in, nn_clamp, nn_succ, nn_pos, nn_neg1, b1, hc]
    refine ⟨fun h2 => ?_, fun h2 => ?_⟩
    · rw [if_neg (by simp [isS, h2])] at k; exact k
    · rw [if_pos (by simp [isS, h, h2])] at k; exact k
