/-! THE SPEC of a text -/
set_option maxRecDepth 100000
/-- the digits of m from the k-th down -/
def dgP (m : Nat) : Nat → List Nat
  | 0 => [48 + m % 10]
  | k + 1 => (48 + m / 10 ^ (k + 1) % 10) :: dgP m k
/-- the place of the first digit -/
def dgK (m : Nat) : Nat → Nat → Nat
  | 0, k => k
  | f + 1, k => if m / 10 ^ k ≤ 9 then k else dgK m f (k + 1)
def dgs (m : Nat) : List Nat := dgP m (dgK m 10 0)
def numT (v : Int32) : List Nat := if v < 0 then 45 :: dgs (-v.toInt).toNat else dgs v.toInt.toNat
def opT (o : Opd) : List Nat := if o.1 < 0 then numT o.2 else if o.1 < 16 then 118 :: dgs o.1.toNatClampNeg else 116 :: dgs (o.1.toNatClampNeg - 16)
def rowT (r : Nat) (o : Opd) : List Nat := [114] ++ dgs r ++ [32, 91, 32] ++ opT o ++ [32, 93]
def sumT (s : Sm) : List Nat := if s.1 = 114 then rowT s.2.1.2.toNatClampNeg s.2.2 else opT s.2.1 ++ [32, s.1.toNatClampNeg, 32] ++ opT s.2.2
def setT (R : Rt) (e : Nat) : List Nat := [32, 32, 116] ++ dgs e ++ [32, 61, 32] ++ sumT (smA R e) ++ [59, 10]
/-- what is set ahead of a node, from sum e on -/
noncomputable def setsT (R : Rt) (pl k : Nat) : Nat → Nat → List Nat
  | 0, _ => []
  | m + 1, e => (if b9 (setP R pl e k) = true then setT R e else []) ++ setsT R pl k m (e + 1)
noncomputable def anyS (R : Rt) (pl k : Nat) : Bool := b9 (∃ e, e < (sms R.1).length ∧ setP R pl e k)
/-- nodes on the way that are written as blocks, of those ahead of k; the first block's number -/
noncomputable def asK (R : Rt) (pl : Nat) : Nat → Nat → Nat
  | 0, _ => R.2.length
  | m + 1, k => asK R pl m k + (if anyS R pl (k + m) = true then 1 else 0)
/-- the block that node k on the way is written as -/
noncomputable def asB (R : Rt) (pl k : Nat) : Nat := if nK (ndA (nds R) k) = 7 ∧ anyS R pl k = true then asK R pl (k - R.1.length) R.1.length else nB (ndA (nds R) k)
noncomputable def nodeT (R : Rt) (pl k : Nat) : List Nat :=
  let x := ndA (nds R) k
  [32, 32] ++ (if nK x = 0 then opT (nNm x, 0) ++ [32, 61, 32] ++ (match nSm x with
      | none => []
      | some e => if b9 (tknP R pl e k) = true then 116 :: dgs e else sumT (smA R e))
    else if nK x = 1 then opT (nNm x, 0) ++ [32, 61, 32] ++ opT (nOa x)
    else if nK x = 2 then rowT (nRw x).toNatClampNeg (nOa x) ++ [32, 61, 32] ++ opT (nOb x)
    else if nK x = 3 then [116, 101, 108, 108, 32] ++ opT (nOa x)
    else if nK x = 4 then [103, 111, 32, 98] ++ dgs (asB R pl ((nT1 x).getD 0))
    else if nK x = 5 then [105, 102, 32] ++ opT (nOa x) ++ [32, 60, 32] ++ opT (nOb x) ++ [32, 98] ++ dgs (asB R pl ((nT1 x).getD 0)) ++ [32, 98] ++ dgs (asB R pl ((nT2 x).getD 0))
    else [108, 101, 97, 118, 101]) ++ [59, 10]
def headT (b : Nat) : List Nat := [98] ++ dgs b ++ [58, 10]
/-- nodes from k on, m of them -/
noncomputable def nodesT (R : Rt) (pl : Nat) : Nat → Nat → List Nat
  | 0, _ => []
  | m + 1, k => setsT R pl k (sms R.1).length 0 ++ nodeT R pl k ++ nodesT R pl m (k + 1)
/-- blocks from b on, m of them -/
noncomputable def blksT (R : Rt) (pl : Nat) : Nat → Nat → List Nat
  | 0, _ => []
  | m + 1, b => headT b ++ nodesT R pl (nxtN R b - fstN R.2 b) (fstN R.2 b) ++ blksT R pl m (b + 1)
/-- nodes on the way from k on, m of them -/
noncomputable def onwT (R : Rt) (pl : Nat) : Nat → Nat → List Nat
  | 0, _ => []
  | m + 1, k => (if anyS R pl k = true then headT (asB R pl k) ++ setsT R pl k (sms R.1).length 0 ++ [32, 32, 103, 111, 32, 98] ++ dgs (nB (ndA (nds R) k)) ++ [59, 10] else []) ++ onwT R pl m (k + 1)
noncomputable def txtT (R : Rt) (pl : Nat) : List Nat := blksT R pl R.2.length 0 ++ onwT R pl ((nds R).length - R.1.length) R.1.length
/-- a t-name in a routine -/
def tO (o : Opd) : Prop := ¬ o.1 < 16
def hasTN (x : Nd) : Prop := ¬ nNm x < 16 ∨ (nK x = 1 ∨ nK x = 2 ∨ nK x = 3 ∨ nK x = 5) ∧ tO (nOa x) ∨ (nK x = 2 ∨ nK x = 5) ∧ tO (nOb x)
def hasTR (R : Rt) : Prop := (∃ k, k < R.1.length ∧ hasTN (ndA (nds R) k)) ∨ ∃ e, e < (sms R.1).length ∧ (tO (smA R e).2.1 ∨ tO (smA R e).2.2)
/-- the Model's text, as a row -/
def txS (ms : MS) (t : List Nat) : MS := (fun j => if j = 60 then nn t.length else ms.1 j, ms.2.1, fun k i => if k = 59 then (if i < t.length then nn (t.getD i 0) else ms.2.2 59 i) else ms.2.2 k i)
theorem txS_int (ms : MS) (t : List Nat) (j : Nat) : (txS ms t).1 j = if j = 60 then nn t.length else ms.1 j := rfl
theorem txS_arr (ms : MS) (t : List Nat) (k i : Nat) : (txS ms t).2.2 k i = if k = 59 then (if i < t.length then nn (t.getD i 0) else ms.2.2 59 i) else ms.2.2 k i := rfl
theorem txS_snoc (ms : MS) (t : List Nat) (c : Nat) : mput (mset (txS ms t) 59 t.length (nn c)) 60 (nn (t.length + 1)) = txS ms (t ++ [c]) := by
  unfold txS mput mset
  ext j i
  · simp only; split
    · simp
    · next h => simp [h]
  · rfl
  · simp only
    by_cases hj : j = 59
    · subst hj
      simp
      by_cases hi : i = t.length
      · subst hi; simp
      · simp only [hi, if_false]
        by_cases h2 : i < t.length
        · have h3 : i < t.length + 1 := by omega
          simp [h2, h3, List.getElem?_append_left h2]
        · have h3 : ¬ i < t.length + 1 := by omega
          simp [h2, h3]
    · simp [hj]
theorem s_say {mo : Nat} {Q : Ret MS} {ms : MS} {t : List Nat} {c : Nat} (hb : t.length < 60000) (k : Q (.inl none) (txS ms (t ++ [c]))) : pX2_say mo [.ref mo, .int (nn c)] (txS ms t) Q := by
  have b1 : t.length < 2147483648 := by omega
  simp [pX2_say, bX2_say_0, o_ic, o_lc, o_null, o_il, o_ll, o_al, o_dup, o_pop, o_dup_x1, o_dup2, o_iadd, o_isub, o_imul, o_iand, o_ior, o_ixor, o_ishl, o_ishr, o_idiv, o_irem, o_ineg, o_ladd, o_lsub, o_lmul, o_land, o_lor, o_lxor, o_ldiv, o_lrem, o_lneg, o_lcmp, o_i2l, o_l2i, o_i2b, o_i2c, o_iushr, o_lshl, o_lshr, o_if_eq, o_if_ne, o_if_lt, o_if_ge, o_if_gt, o_if_le, o_icmp_eq, o_icmp_ne, o_icmp_lt, o_icmp_ge, o_icmp_gt, o_icmp_le, o_ifnull, o_ifnonnull, o_acmp_eq, o_acmp_ne, o_is, o_ls, o_as, o_iinc, o_kill, o_sw, o_ireturn, o_zreturn, o_nreturn, o_lreturn, o_areturn, o_return, o_athrow, o_call, entP, lg_sl, Value.category, st1, st2, List.set, List.getElem?_cons_zero, List.getElem?_cons_succ, List.foldl, popN, aft, o_mg, o_mgl, o_mga, o_mp, o_mpz, o_mpl, o_mia, o_mis, o_mbs, o_mc, mput_get, mput_arr, mput_let, mput_put, mset_get, mset_int, mset_let, mputL_get, mputL_arr, mputL_let, mputL_put, i64_8, mLen, vpL, nn_addL, nn_addR, nn_mulL, nn_add, nn_mul, nn_eqL, nn_ltL, nn_leL, nn_Llt, nn_Lle, nn_lt, nn_le, nn_eq, nn_in, nn_clamp, nn_succ, nn_pos, nn_neg1, txS_int, b1, hb]
  rw [txS_snoc]
  exact k
theorem i64_div {a b : Nat} (ha : a < 2147483648 * 10) (hb : b < 2147483648 * 10) : Int64.ofNat a / Int64.ofNat b = Int64.ofNat (a / b) := by
  have h1 : a / b ≤ a := Nat.div_le_self a b
  rw [← Int64.toInt_inj, Int64.toInt_div, Int64.toInt_ofNat_of_lt (by omega), Int64.toInt_ofNat_of_lt (by omega), Int64.toInt_ofNat_of_lt (by omega)]
  rw [← Int.ofNat_tdiv]
  generalize a / b = qn at h1
  simp [Int.bmod]
  omega
theorem i64_mod {a b : Nat} (ha : a < 2147483648 * 10) (hb : b < 2147483648 * 10) : Int64.ofNat a % Int64.ofNat b = Int64.ofNat (a % b) := by
  have h1 : a % b ≤ a := Nat.mod_le a b
  rw [← Int64.toInt_inj, Int64.toInt_mod, Int64.toInt_ofNat_of_lt (by omega), Int64.toInt_ofNat_of_lt (by omega), Int64.toInt_ofNat_of_lt (by omega)]
  rw [← Int.ofNat_tmod]
theorem i64_gt9 {a : Nat} (ha : a < 2147483648 * 10) {b : Nat} (hb : b < 2147483648 * 10) : (lg_cmp (Int64.ofNat a) (Int64.ofNat b) ≤ 0 ↔ a ≤ b) := by
  unfold lg_cmp
  have h1 : (Int64.ofNat a > Int64.ofNat b) ↔ a > b := by
    rw [gt_iff_lt, Int64.lt_iff_toInt_lt, Int64.toInt_ofNat_of_lt (by omega), Int64.toInt_ofNat_of_lt (by omega)]; omega
  by_cases c : a > b
  · rw [if_pos (h1.2 c)]
    constructor
    · intro z; exact absurd z (by decide)
    · intro z; omega
  · rw [if_neg (fun z => c (h1.1 z))]
    constructor
    · intro _; omega
    · intro _; split <;> decide
theorem dgK_le (m : Nat) : ∀ f k, k ≤ dgK m f k ∧ dgK m f k ≤ k + f
  | 0, k => ⟨Nat.le_refl k, Nat.le_refl k⟩
  | f + 1, k => by
    unfold dgK; split
    · omega
    · have := dgK_le m f (k + 1); omega
theorem dgK_ok {m : Nat} : ∀ f k, m < 10 ^ (k + f + 1) → m / 10 ^ dgK m f k ≤ 9
  | 0, k, h => by
    unfold dgK
    have h1 : m / 10 ^ k < 10 := by rw [Nat.div_lt_iff_lt_mul (Nat.pow_pos (by omega))]; rw [Nat.pow_succ] at h; omega
    omega
  | f + 1, k, h => by
    unfold dgK; split
    · assumption
    · exact dgK_ok f (k + 1) (by rw [show k + 1 + f + 1 = k + (f + 1) + 1 by omega]; exact h)
theorem dgP_len (m : Nat) : ∀ k, (dgP m k).length = k + 1
  | 0 => rfl
  | k + 1 => by simp [dgP, dgP_len m k]
