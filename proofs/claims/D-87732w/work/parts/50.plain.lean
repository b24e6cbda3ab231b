/-! PLAIN: ints that are small naturals -/
set_option maxRecDepth 100000
def nn (k : Nat) : Int32 := Int32.ofNat k
theorem nn_toInt {k : Nat} (h : k < 2147483648) : (nn k).toInt = k := by
  unfold nn; exact Int32.toInt_ofNat_of_lt h
theorem nn_clamp {k : Nat} (h : k < 2147483648) : (nn k).toNatClampNeg = k := by
  rw [Int32.toNatClampNeg, nn_toInt h]; rfl
theorem nn_lit (n : Nat) : (OfNat.ofNat n : Int32) = nn (OfNat.ofNat n) := rfl
theorem nn_add (a b : Nat) : nn a + nn b = nn (a + b) := by unfold nn; rw [Int32.ofNat_add]
theorem nn_mul (a b : Nat) : nn a * nn b = nn (a * b) := by unfold nn; rw [Int32.ofNat_mul]
theorem nn_sub {a b : Nat} (h : b ≤ a) : nn a - nn b = nn (a - b) := by unfold nn; rw [Int32.ofNat_sub _ _ h]
theorem nn_lt {a b : Nat} (ha : a < 2147483648) (hb : b < 2147483648) : nn a < nn b ↔ a < b := by rw [Int32.lt_iff_toInt_lt, nn_toInt ha, nn_toInt hb]; omega
theorem nn_le {a b : Nat} (ha : a < 2147483648) (hb : b < 2147483648) : nn a ≤ nn b ↔ a ≤ b := by rw [Int32.le_iff_toInt_le, nn_toInt ha, nn_toInt hb]; omega
theorem nn_eq {a b : Nat} (ha : a < 2147483648) (hb : b < 2147483648) : nn a = nn b ↔ a = b := by rw [← Int32.toInt_inj, nn_toInt ha, nn_toInt hb]; omega
theorem nn_in {k n : Nat} (h : k < 2147483648) : vp_in (nn k) n ↔ k < n := by
  unfold vp_in
  rw [nn_clamp h, Int32.lt_iff_toInt_lt, nn_toInt h, Int32.toInt_zero]
  omega
/-- every int that is not below 0 is one -/
theorem nn_of {x : Int32} (h : ¬ x < 0) : x = nn x.toNatClampNeg ∧ x.toNatClampNeg < 2147483648 := by
  have h1 : 0 ≤ x.toInt := by rw [Int32.lt_iff_toInt_lt, Int32.toInt_zero] at h; omega
  have h2 := Int32.toInt_lt x
  have h3 : x.toNatClampNeg < 2147483648 := by rw [Int32.toNatClampNeg]; omega
  refine ⟨?_, h3⟩
  rw [← Int32.toInt_inj, nn_toInt h3, Int32.toNatClampNeg]; omega
theorem nn_neg1 {k : Nat} (h : k < 2147483648) : (nn k = -1) ↔ False := by
  rw [← Int32.toInt_inj, nn_toInt h]; constructor
  · intro q; have : (-1 : Int32).toInt = -1 := rfl; omega
  · exact False.elim
theorem nn_pos {k : Nat} (h : k < 2147483648) : (nn k < 0) ↔ False := by
  rw [Int32.lt_iff_toInt_lt, nn_toInt h, Int32.toInt_zero]; constructor
  · intro q; omega
  · exact False.elim
theorem nn_succ (q : Nat) : nn q + 1 = nn (q + 1) := nn_add q 1
theorem nn_pred {q : Nat} (h : 0 < q) : nn q - 1 = nn (q - 1) := nn_sub h
theorem nn_eqL {k n : Nat} (h : k < 2147483648) (hn : n < 2147483648) : nn k = (no_index (OfNat.ofNat n) : Int32) ↔ k = OfNat.ofNat n := nn_eq h hn
theorem nn_ltL {k n : Nat} (h : k < 2147483648) (hn : n < 2147483648) : nn k < (no_index (OfNat.ofNat n) : Int32) ↔ k < OfNat.ofNat n := nn_lt h hn
theorem nn_leL {k n : Nat} (h : k < 2147483648) (hn : n < 2147483648) : nn k ≤ (no_index (OfNat.ofNat n) : Int32) ↔ k ≤ OfNat.ofNat n := nn_le h hn
theorem nn_Llt {k n : Nat} (h : k < 2147483648) (hn : n < 2147483648) : (no_index (OfNat.ofNat n) : Int32) < nn k ↔ OfNat.ofNat n < k := nn_lt hn h
theorem nn_Lle {k n : Nat} (h : k < 2147483648) (hn : n < 2147483648) : (no_index (OfNat.ofNat n) : Int32) ≤ nn k ↔ OfNat.ofNat n ≤ k := nn_le hn h
