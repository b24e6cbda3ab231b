/-! THE MODEL's four words -/
set_option maxRecDepth 100000
def cd9 : List Nat → Nat → Nat
  | [], v => v
  | c :: w, v => cd9 w (256 * v + c)
theorem ln_cd (tp : Nat → Nat) : ∀ (w : List Nat) i v u, (∀ j, i ≤ j → j < i + w.length → tp j < 256) → (∀ c ∈ w, c < 256) → (ln tp w.length i v = cd9 w u ↔ v = u ∧ sameW tp w i = true)
  | [], i, v, u, _, _ => by simp [ln, cd9, sameW]
  | c :: w, i, v, u, h, hw => by
    have h0 := h i (Nat.le_refl _) (by simp)
    have hc := hw c (by simp)
    have ih := ln_cd tp w (i + 1) (256 * v + tp i) (256 * u + c) (fun j a b => h j (by omega) (by simp; omega)) (fun c' hc' => hw c' (by simp [hc']))
    simp only [List.length_cons, ln, cd9, sameW, Bool.and_eq_true, decide_eq_true_eq]
    rw [ih]
    constructor
    · rintro ⟨a, b⟩; exact ⟨by omega, by omega, b⟩
    · rintro ⟨a, b, c9⟩; exact ⟨by omega, c9⟩
theorem ln_low (tp : Nat → Nat) : ∀ n i v, v * 256 ^ n ≤ ln tp n i v
  | 0, _, v => by simp [ln]
  | n + 1, i, v => by
    rw [ln]
    refine Nat.le_trans ?_ (ln_low tp n (i + 1) (256 * v + tp i))
    rw [Nat.pow_succ, Nat.mul_comm (256 ^ n) 256, ← Nat.mul_assoc]
    exact Nat.mul_le_mul_right _ (by omega)
theorem cd_low : ∀ (w : List Nat) v, v * 256 ^ w.length ≤ cd9 w v
  | [], v => by simp [cd9]
  | c :: w, v => by
    rw [cd9, List.length_cons]
    refine Nat.le_trans ?_ (cd_low w (256 * v + c))
    rw [Nat.pow_succ, Nat.mul_comm (256 ^ w.length) 256, ← Nat.mul_assoc]
    exact Nat.mul_le_mul_right _ (by omega)
theorem cd_lt : ∀ (w : List Nat) v, (∀ c ∈ w, c < 256) → cd9 w v < (v + 1) * 256 ^ w.length
  | [], v, _ => by simp [cd9]
  | c :: w, v, h => by
    have hc := h c (by simp)
    rw [cd9, List.length_cons]
    refine Nat.lt_of_lt_of_le (cd_lt w (256 * v + c) (fun c' hc' => h c' (by simp [hc']))) ?_
    rw [Nat.pow_succ, Nat.mul_comm (256 ^ w.length) 256, ← Nat.mul_assoc]
    exact Nat.mul_le_mul_right _ (by omega)
theorem sameW_lt (tp : Nat → Nat) : ∀ (w : List Nat) i, (∀ c ∈ w, lt9 c = true) → sameW tp w i = true → ∀ j, i ≤ j → j < i + w.length → lt9 (tp j) = true
  | [], i, _, _, j, h1, h2 => by simp at h2; omega
  | c :: w, i, hw, h, j, h1, h2 => by
    simp only [sameW, Bool.and_eq_true, decide_eq_true_eq] at h
    by_cases e : j = i
    · subst e; rw [h.1]; exact hw c (by simp)
    · exact sameW_lt tp w (i + 1) (fun c' hc' => hw c' (by simp [hc'])) h.2 j (by omega) (by simp at h2; omega)
theorem m_isWord {mo : Nat} {Q : Ret MS} {tp : Nat → Nat} {td : Nat} {ms : MS} {f : Nat} (c0 : Nat) (w : List Nat) (wc : Int64) (hw : ∀ c ∈ c0 :: w, lt9 c = true) (hl : w.length < 8) (hwc : wc = Int64.ofNat (cd9 (c0 :: w) 0)) (hT : TapeM ms tp td) (hk : TokM ms tp td f) (k : Q (.inl (some (.int (if isW tp td f (c0 :: w) then 1 else 0)))) ms) : pX2_isWord mo [.ref mo, .long wc] ms Q := by
  obtain ⟨k1, k2, k3, k4, k5, k6, k7⟩ := hk
  have bs : srt tp td f < 2147483648 := by have := srt_lt tp td f; omega
  have ht : ∀ i, i < td → tp i < 256 := fun i hi => (hT.2.2 i hi).2
  have hw2 : ∀ c ∈ c0 :: w, c < 256 := fun c hc => by have := hw c hc; simp [lt9] at this; omega
  simp [pX2_isWord, bX2_isWord_30, bX2_isWord_29, bX2_isWord_0, o_ic, o_lc, o_null, o_il, o_ll, o_al, o_dup, o_pop, o_dup_x1, o_dup2, o_iadd, o_isub, o_imul, o_iand, o_ior, o_ixor, o_ishl, o_ishr, o_idiv, o_irem, o_ineg, o_ladd, o_lsub, o_lmul, o_land, o_lor, o_lxor, o_ldiv, o_lrem, o_lneg, o_lcmp, o_i2l, o_l2i, o_i2b, o_i2c, o_iushr, o_lshl, o_lshr, o_if_eq, o_if_ne, o_if_lt, o_if_ge, o_if_gt, o_if_le, o_icmp_eq, o_icmp_ne, o_icmp_lt, o_icmp_ge, o_icmp_gt, o_icmp_le, o_ifnull, o_ifnonnull, o_acmp_eq, o_acmp_ne, o_is, o_ls, o_as, o_iinc, o_kill, o_sw, o_ireturn, o_zreturn, o_nreturn, o_lreturn, o_areturn, o_return, o_athrow, o_call, entP, lg_sl, Value.category, st1, st2, List.set, List.getElem?_cons_zero, List.getElem?_cons_succ, List.foldl, popN, aft, o_mg, o_mgl, o_mga, o_mp, o_mpz, o_mpl, o_mia, o_mis, o_mbs, o_mc, mput_get, mput_arr, mput_let, mput_put, mset_get, mset_int, mset_let, mputL_get, mputL_arr, mputL_let, mputL_put, i64_8, mLen, nn_eqL, nn_ltL, nn_leL, nn_Llt, nn_Lle, nn_lt, nn_le, nn_eq, nn_in, nn_clamp, nn_succ, nn_pos, nn_neg1, k4, bs]
  refine ⟨fun h => ?_, fun h => ?_⟩
  · rw [if_neg (by simp [isW, h])] at k; exact k
  · obtain ⟨h5, h6⟩ := k5 h
    obtain ⟨w1, w2, w3, w4, w5, w6, w7, w8, w9, w10⟩ := word_of ht h
    rw [h5, h6]
    have hp : 256 ^ (c0 :: w).length ≤ 256 ^ 8 := Nat.pow_le_pow_right (by omega) (by simp; omega)
    have hcl := cd_lt (c0 :: w) 0 hw2
    have key : (wl tp (wDg tp td f - f) f 0 = wc) ↔ (wDg tp td f = f + (c0 :: w).length ∧ sameW tp (c0 :: w) f = true) := by
      rw [w9, hwc, i64_inj w10 (by omega)]
      have hlen : ln tp (wDg tp td f - f) f 0 = cd9 (c0 :: w) 0 → wDg tp td f - f = (c0 :: w).length := by
        intro he
        have u1 := ln_lt tp (wDg tp td f - f) f 0 (fun j a b => ht j (by omega))
        obtain ⟨n, hn⟩ : ∃ n, wDg tp td f - f = n + 1 := ⟨wDg tp td f - f - 1, by omega⟩
        have u2 : 1 * 256 ^ n ≤ ln tp (wDg tp td f - f) f 0 := by
          rw [hn, ln]
          refine Nat.le_trans (Nat.mul_le_mul_right _ ?_) (ln_low tp n (f + 1) _)
          simp [lt9] at w6; omega
        have u3 : 1 * 256 ^ w.length ≤ cd9 (c0 :: w) 0 := by
          rw [cd9]
          refine Nat.le_trans (Nat.mul_le_mul_right _ ?_) (cd_low w _)
          have := hw c0 (by simp); simp [lt9] at this; omega
        rw [hn] at u1 he ⊢
        rw [hn] at u2
        simp only [List.length_cons] at hcl ⊢
        have v1 : 256 ^ n < 256 ^ (w.length + 1) := by omega
        have v2 : 256 ^ w.length < 256 ^ (n + 1) := by omega
        have v3 := (Nat.pow_lt_pow_iff_right (by omega : 1 < 256)).mp v1
        have v4 := (Nat.pow_lt_pow_iff_right (by omega : 1 < 256)).mp v2
        omega
      constructor
      · intro he
        have hl2 := hlen he
        rw [hl2] at he
        exact ⟨by omega, ((ln_cd tp (c0 :: w) f 0 0 (fun j a b => ht j (by omega)) hw2).mp he).2⟩
      · rintro ⟨a, b⟩
        have e : wDg tp td f - f = (c0 :: w).length := by omega
        rw [e]
        exact (ln_cd tp (c0 :: w) f 0 0 (fun j a b => ht j (by omega)) hw2).mpr ⟨rfl, b⟩
    have hdig : wdig tp td f = -1 ↔ wDg tp td f = rnE tp td f := by
      rcases wdig_of h with ⟨d1, d2⟩ | ⟨d1, d2, d3, d4⟩ | ⟨d1, d2, d3, d4⟩
      · exact ⟨fun _ => d1, fun _ => d2⟩
      · rw [d4]; exact ⟨fun q => absurd q (by decide), fun q => by omega⟩
      · rw [d3]; exact ⟨fun q => ((nn_neg1 (by omega)).mp q).elim, fun q => by omega⟩
    simp only [lg_cmp0, key, hdig]
    refine ⟨fun hn => ?_, fun hy => ⟨fun hn => ?_, fun hy2 => ?_⟩⟩
    · have e : isW tp td f (c0 :: w) = false := by
        cases hc : isW tp td f (c0 :: w) with
        | false => rfl
        | true =>
          exfalso
          simp only [isW, Bool.and_eq_true, decide_eq_true_eq] at hc
          have hlt := sameW_lt tp (c0 :: w) f hw hc.2.2
          have hwd : wDg tp td f = rnE tp td f := by
            rcases adv_end (fun i => lt9 (tp i)) (rnE tp td f - f) f with q | q
            · show adv _ _ _ = _; omega
            · have q' : lt9 (tp (wDg tp td f)) = false := q
              by_cases c9 : wDg tp td f < rnE tp td f
              · rw [hlt (wDg tp td f) (by omega) (by omega)] at q'; cases q'
              · omega
          exact hn ⟨by omega, hc.2.2⟩
      rw [e] at k; exact k
    · have e : isW tp td f (c0 :: w) = false := by
        cases hc : isW tp td f (c0 :: w) with
        | false => rfl
        | true =>
          simp only [isW, Bool.and_eq_true, decide_eq_true_eq] at hc
          exact (hn (by omega)).elim
      rw [e] at k; exact k
    · have e : isW tp td f (c0 :: w) = true := by
        simp only [isW, Bool.and_eq_true, decide_eq_true_eq]
        exact ⟨h, by omega, hy.2⟩
      rw [e] at k; exact k
