/-! words and digits as numbers -/
set_option maxRecDepth 100000
theorem i64_nn {c : Nat} (h : c < 2147483648) : (nn c).toInt64 = Int64.ofNat c := by
  rw [← Int64.toInt_inj, Int32.toInt_toInt64, nn_toInt h, Int64.toInt_ofNat_of_lt (by omega)]
theorem i64_dec {v c : Nat} (hc : 48 ≤ c) (h : c < 2147483648) : 10 * Int64.ofNat v + (nn c).toInt64 - 48 = Int64.ofNat (10 * v + (c - 48)) := by
  rw [i64_nn h]
  show Int64.ofNat 10 * Int64.ofNat v + Int64.ofNat c - Int64.ofNat 48 = _
  rw [← Int64.ofNat_mul, ← Int64.ofNat_add, ← Int64.ofNat_sub _ _ (by omega)]
  congr 1; omega
theorem dg9_lt {c : Nat} (h : dg9 c = true) : c ≤ 57 := by simp [dg9] at h; omega
theorem allF_all {P : Nat → Bool} {i j : Nat} (h : allF P i j = true) : ∀ k, i ≤ k → k < j → P k = true := by
  intro k h1 h2
  refine adv_all P (j - i) i k h1 ?_
  simp [allF] at h; omega
theorem dl_dec (tp : Nat → Nat) : ∀ n i v, (∀ j, i ≤ j → j < i + n → dg9 (tp j) = true) → dl tp n i (Int64.ofNat v) = Int64.ofNat (dec tp n i v)
  | 0, _, _, _ => rfl
  | n + 1, i, v, h => by
    have h0 := h i (Nat.le_refl _) (by omega)
    have h1 := dg9_lt h0
    rw [dl, dec, i64_dec (dg9_ge h0) (by omega)]
    exact dl_dec tp n (i + 1) _ (fun j a b => h j (by omega) (by omega))
theorem dec_lt (tp : Nat → Nat) : ∀ n i v, (∀ j, i ≤ j → j < i + n → dg9 (tp j) = true) → dec tp n i v < 10 ^ n * (v + 1)
  | 0, _, v, _ => by simp [dec]
  | n + 1, i, v, h => by
    have h0 := h i (Nat.le_refl _) (by omega)
    have h1 := dg9_lt h0
    have h2 := dec_lt tp n (i + 1) (10 * v + (tp i - 48)) (fun j a b => h j (by omega) (by omega))
    rw [dec]
    refine Nat.lt_of_lt_of_le h2 ?_
    rw [Nat.pow_succ, Nat.mul_assoc]
    exact Nat.mul_le_mul_left _ (by omega)
theorem i64_i32 {v : Nat} : (Int64.ofNat v).toInt32 = nn v := by
  unfold nn; exact Int64.toInt32_ofNat'
def ln (tp : Nat → Nat) : Nat → Nat → Nat → Nat
  | 0, _, v => v
  | n + 1, i, v => ln tp n (i + 1) (256 * v + tp i)
theorem i64_or {v c : Nat} (hv : v < 72057594037927936) (hc : c < 256) : Int64.ofNat v <<< (8 : Int64) ||| (nn c).toInt64 = Int64.ofNat (256 * v + c) := by
  rw [i64_nn (by omega)]
  apply Int64.toBitVec_inj.mp
  rw [Int64.toBitVec_or, Int64.toBitVec_shiftLeft]
  have e8 : ((8 : Int64).toBitVec.smod 64) = 8#64 := by decide
  rw [e8]
  show BitVec.ofNat 64 v <<< 8#64 ||| BitVec.ofNat 64 c = BitVec.ofNat 64 (256 * v + c)
  apply BitVec.eq_of_toNat_eq
  rw [BitVec.toNat_or, BitVec.shiftLeft_eq', BitVec.toNat_shiftLeft]
  simp only [BitVec.toNat_ofNat]
  have e1 : v % 2 ^ 64 = v := Nat.mod_eq_of_lt (by omega)
  have e2 : c % 2 ^ 64 = c := Nat.mod_eq_of_lt (by omega)
  have e3 : (256 * v + c) % 2 ^ 64 = 256 * v + c := Nat.mod_eq_of_lt (by omega)
  have e4 : v <<< 8 = 256 * v := by rw [Nat.shiftLeft_eq]; omega
  have e5 : 8 % 2 ^ 64 = 8 := rfl
  rw [e1, e2, e3, e5, e4, Nat.mod_eq_of_lt (by omega), ← e4, Nat.shiftLeft_add_eq_or_of_lt (by omega)]
theorem wl_ln (tp : Nat → Nat) : ∀ n i v, (∀ j, i ≤ j → j < i + n → tp j < 256) → n ≤ 8 → v * 256 ^ n + 256 ^ n ≤ 18446744073709551616 → wl tp n i (Int64.ofNat v) = Int64.ofNat (ln tp n i v)
  | 0, _, _, _, _, _ => rfl
  | n + 1, i, v, h, hn, hv => by
    have h0 := h i (Nat.le_refl _) (by omega)
    have hp : 0 < 256 ^ n := Nat.pow_pos (by omega)
    have hv2 : v < 72057594037927936 := by
      have h9 : 256 ^ n * 256 * (v + 1) ≤ 18446744073709551616 := by
        rw [Nat.pow_succ] at hv
        have e : v * (256 ^ n * 256) + 256 ^ n * 256 = 256 ^ n * 256 * (v + 1) := by rw [Nat.mul_add, Nat.mul_one, Nat.mul_comm v]
        omega
      have h8 : 1 * 256 * (v + 1) ≤ 256 ^ n * 256 * (v + 1) := Nat.mul_le_mul_right _ (Nat.mul_le_mul_right _ hp)
      omega
    rw [wl, ln, i64_or hv2 h0]
    refine wl_ln tp n (i + 1) _ (fun j a b => h j (by omega) (by omega)) (by omega) ?_
    refine Nat.le_trans ?_ hv
    rw [Nat.pow_succ]
    have : (256 * v + tp i + 1) * 256 ^ n ≤ (v + 1) * 256 * 256 ^ n := Nat.mul_le_mul_right _ (by omega)
    have e : v * (256 ^ n * 256) + 256 ^ n * 256 = (v + 1) * 256 * 256 ^ n := by rw [Nat.add_mul, Nat.add_mul, Nat.one_mul, Nat.mul_assoc, Nat.mul_comm (256 ^ n) 256]
    rw [e]
    rw [Nat.add_mul, Nat.one_mul] at this
    exact this

/-- a word's digits, when it is one -/
theorem wdig_of {tp : Nat → Nat} {td f : Nat} (hs : srt tp td f = 1) : (wDg tp td f = rnE tp td f ∧ wdig tp td f = -1) ∨ (wDg tp td f < rnE tp td f ∧ 1 < rnE tp td f - wDg tp td f ∧ tp (wDg tp td f) = 48 ∧ wdig tp td f = -2) ∨
    (wDg tp td f < rnE tp td f ∧ ¬ (1 < rnE tp td f - wDg tp td f ∧ tp (wDg tp td f) = 48) ∧ wdig tp td f = nn (dec tp (rnE tp td f - wDg tp td f) (wDg tp td f) 0) ∧ dec tp (rnE tp td f - wDg tp td f) (wDg tp td f) 0 < 100000000) := by
  have hle : wDg tp td f ≤ rnE tp td f := by
    have := adv_le (fun i => lt9 (tp i)) (rnE tp td f - f) f
    have h0 : f ≤ rnE tp td f := adv_ge _ _ _
    unfold wDg; omega
  have hge : f ≤ wDg tp td f := adv_ge _ _ _
  have hall : rnE tp td f - f ≤ 8 ∧ allF (fun i => dg9 (tp i)) (wDg tp td f) (rnE tp td f) = true := by
    unfold srt at hs
    split at hs
    · omega
    · split at hs
      · split at hs
        · assumption
        · omega
      · split at hs
        · split at hs <;> omega
        · split at hs <;> omega
  unfold wdig
  by_cases c : wDg tp td f = rnE tp td f
  · left; rw [if_pos c]; exact ⟨c, rfl⟩
  · right
    rw [if_neg c]
    by_cases c2 : 1 < rnE tp td f - wDg tp td f ∧ tp (wDg tp td f) = 48
    · left; rw [if_pos c2]; exact ⟨by omega, c2.1, c2.2, rfl⟩
    · right; rw [if_neg c2]
      have hd := allF_all hall.2
      have hd' : ∀ j, wDg tp td f ≤ j → j < wDg tp td f + (rnE tp td f - wDg tp td f) → dg9 (tp j) = true := fun j a b => hd j a (by omega)
      refine ⟨by omega, c2, ?_, ?_⟩
      · have := dl_dec tp (rnE tp td f - wDg tp td f) (wDg tp td f) 0 hd'
        rw [show (0 : Int64) = Int64.ofNat 0 from rfl, this, i64_i32]
      · have h9 := dec_lt tp (rnE tp td f - wDg tp td f) (wDg tp td f) 0 hd'
        have h10 : 10 ^ (rnE tp td f - wDg tp td f) ≤ 10 ^ 8 := Nat.pow_le_pow_right (by omega) (by omega)
        omega
