/-! THE MODEL says -/
set_option maxRecDepth 100000
theorem ofNat_ne0 {B : Nat} (h : 0 < B) (h2 : B < 2147483648 * 10) : ¬ Int64.ofNat B = 0 := fun z => by
  have : (Int64.ofNat B).toInt = (0 : Int64).toInt := by rw [z]
  rw [Int64.toInt_ofNat_of_lt (by omega)] at this
  simp at this; omega
theorem dgK_pos {m f k : Nat} (h : m / 10 ^ k ≤ 9) : dgK m (f + 1) k = k := by unfold dgK; rw [if_pos h]
theorem dgK_neg {m f k : Nat} (h : ¬ m / 10 ^ k ≤ 9) : dgK m (f + 1) k = dgK m f (k + 1) := by
  show (if m / 10 ^ k ≤ 9 then k else dgK m f (k + 1)) = _
  rw [if_neg h]
theorem lit48 {d : Nat} (hlt : d < 10) : (48 + Int64.ofNat d).toInt32 = nn (48 + d) := by
  have : d = 0 ∨ d = 1 ∨ d = 2 ∨ d = 3 ∨ d = 4 ∨ d = 5 ∨ d = 6 ∨ d = 7 ∨ d = 8 ∨ d = 9 := by omega
  rcases this with rfl | rfl | rfl | rfl | rfl | rfl | rfl | rfl | rfl | rfl <;> decide
theorem i64_rem {x : Nat} (h : x < 2147483648 * 10) : Int64.ofNat x - Int64.ofNat x / 10 * 10 = Int64.ofNat (x % 10) := by
  have e1 : Int64.ofNat x / 10 = Int64.ofNat (x / 10) := i64_div (b := 10) h (by omega)
  have e2 : Int64.ofNat (x / 10) * 10 = Int64.ofNat (x / 10 * 10) := by rw [Int64.ofNat_mul]; rfl
  rw [e1, e2, ← Int64.ofNat_sub _ _ (by omega)]
  congr 1; omega
/-- one digit is said -/
theorem s_dig1 {mo : Nat} {Q : Ret MS} {ms : MS} {t : List Nat} {m j : Nat} {Z : Cont MS} (hm : m < 2147483648) (hj : j ≤ 9) (hb : t.length < 60000)
    (k : Z [some (.ref mo), none, some (.long (Int64.ofNat m)), none, some (.long (Int64.ofNat (10 ^ j / 10))), none] [] (txS ms (t ++ [48 + m / 10 ^ j % 10]))) :
    (o_ll 4 <| o_lc 0 <| o_lcmp <| o_if_le (bX2_sayNumber_83 mo Q) <| o_al 0 <| o_lc 48 <| o_ll 2 <| o_ll 4 <| o_ldiv <| o_lc 10 <| o_lrem <| o_ladd <| o_l2i <| o_mc mo 2 (pX2_say mo) Q <| o_ll 4 <| o_lc 10 <| o_ldiv <| o_ls 4 (o_kill [1, 3, 5] Z)) [some (.ref mo), none, some (.long (Int64.ofNat m)), none, some (.long (Int64.ofNat (10 ^ j))), none] [] (txS ms t) := by
  have hp : 10 ^ j ≤ 1000000000 ∧ 0 < 10 ^ j := ⟨by have := Nat.pow_le_pow_right (n := 10) (by omega) hj; omega, Nat.pow_pos (by omega)⟩
  generalize 10 ^ j = B at hp k
  have e1 : ¬ lg_cmp (Int64.ofNat B) 0 ≤ 0 := fun z => by
    have := (i64_gt9 (a := B) (b := 0) (by omega) (by omega)).1 z; omega
  have e2 : Int64.ofNat m / Int64.ofNat B = Int64.ofNat (m / B) := i64_div (by omega) (by omega)
  have hmb : m / B ≤ m := Nat.div_le_self m B
  have e3 : Int64.ofNat (m / B) - Int64.ofNat (m / B) / 10 * 10 = Int64.ofNat (m / B % 10) := i64_rem (by omega)
  have e4 := lit48 (d := m / B % 10) (Nat.mod_lt _ (by omega))
  have e5 : Int64.ofNat B / 10 = Int64.ofNat (B / 10) := i64_div (b := 10) (by omega) (by omega)
  have n0 : ¬ Int64.ofNat B = 0 := ofNat_ne0 hp.2 (by omega)
  generalize hV : Int64.ofNat B = V at e1 e2 e5 n0
  generalize hM : Int64.ofNat m = M at e2
  generalize hD : Int64.ofNat (m / B % 10) = D at e3 e4
  generalize hW : Int64.ofNat (m / B) = W at e2 e3
  generalize hU : Int64.ofNat (B / 10) = U at e5 k
  have n10 : ¬ ((10 : Int64) = 0) := by decide
  simp only [o_ic, o_lc, o_null, o_il, o_ll, o_al, o_dup, o_pop, o_dup_x1, o_dup2, o_iadd, o_isub, o_imul, o_iand, o_ior, o_ixor, o_ishl, o_ishr, o_idiv, o_irem, o_ineg, o_ladd, o_lsub, o_lmul, o_land, o_lor, o_lxor, o_ldiv, o_lrem, o_lneg, o_lcmp, o_i2l, o_l2i, o_i2b, o_i2c, o_iushr, o_lshl, o_lshr, o_if_eq, o_if_ne, o_if_lt, o_if_ge, o_if_gt, o_if_le, o_icmp_eq, o_icmp_ne, o_icmp_lt, o_icmp_ge, o_icmp_gt, o_icmp_le, o_ifnull, o_ifnonnull, o_acmp_eq, o_acmp_ne, o_is, o_ls, o_as, o_iinc, o_kill, o_sw, o_ireturn, o_zreturn, o_nreturn, o_lreturn, o_areturn, o_return, o_athrow, o_call, entP, lg_sl, Value.category, st1, st2, List.set, List.getElem?_cons_zero, List.getElem?_cons_succ, List.foldl, popN, aft, o_mg, o_mgl, o_mga, o_mp, o_mpz, o_mpl, o_mia, o_mis, o_mbs, o_mc, e1, if_false, if_true, e2, e3, e4, n0, not_false_eq_true, n10, true_and, and_true, false_imp_iff, true_imp_iff, forall_const]
  refine ⟨by simp, by simp, s_say hb ?_⟩
  simp only [o_ic, o_lc, o_null, o_il, o_ll, o_al, o_dup, o_pop, o_dup_x1, o_dup2, o_iadd, o_isub, o_imul, o_iand, o_ior, o_ixor, o_ishl, o_ishr, o_idiv, o_irem, o_ineg, o_ladd, o_lsub, o_lmul, o_land, o_lor, o_lxor, o_ldiv, o_lrem, o_lneg, o_lcmp, o_i2l, o_l2i, o_i2b, o_i2c, o_iushr, o_lshl, o_lshr, o_if_eq, o_if_ne, o_if_lt, o_if_ge, o_if_gt, o_if_le, o_icmp_eq, o_icmp_ne, o_icmp_lt, o_icmp_ge, o_icmp_gt, o_icmp_le, o_ifnull, o_ifnonnull, o_acmp_eq, o_acmp_ne, o_is, o_ls, o_as, o_iinc, o_kill, o_sw, o_ireturn, o_zreturn, o_nreturn, o_lreturn, o_areturn, o_return, o_athrow, o_call, entP, lg_sl, Value.category, st1, st2, List.set, List.getElem?_cons_zero, List.getElem?_cons_succ, List.foldl, popN, aft, o_mg, o_mgl, o_mga, o_mp, o_mpz, o_mpl, o_mia, o_mis, o_mbs, o_mc, e5, not_false_eq_true, n10, true_and]
  rw [hM] at k
  exact k
/-- the digits are said -/
theorem s_dig {mo : Nat} {Q : Ret MS} {ms : MS} {t : List Nat} {m : Nat} (hm : m < 2147483648) (hb : t.length + (dgs m).length ≤ 60000) (k : Q (.inl none) (txS ms (t ++ dgs m))) :
    bX2_sayNumber_26 mo Q [some (.ref mo), none, some (.long (Int64.ofNat m)), none, some (.long 1), none] [] (txS ms t) := by
  -- down
  have down : ∀ j t', j ≤ 9 → t'.length + (j + 1) ≤ 60000 → Q (.inl none) (txS ms (t' ++ dgP m j)) → bX2_sayNumber_48 mo Q [some (.ref mo), none, some (.long (Int64.ofNat m)), none, some (.long (Int64.ofNat (10 ^ j))), none] [] (txS ms t') := by
    intro j t' hj hb' kq
    unfold bX2_sayNumber_48
    intro Z hZ
    have fin : ∀ t'', Q (.inl none) (txS ms t'') → Z [some (.ref mo), none, some (.long (Int64.ofNat m)), none, some (.long 0), none] [] (txS ms t'') := by
      intro t'' kq
      apply hZ
      have e0 : lg_cmp 0 0 ≤ 0 := by decide
      simp [bX2_sayNumber_83, o_ic, o_lc, o_null, o_il, o_ll, o_al, o_dup, o_pop, o_dup_x1, o_dup2, o_iadd, o_isub, o_imul, o_iand, o_ior, o_ixor, o_ishl, o_ishr, o_idiv, o_irem, o_ineg, o_ladd, o_lsub, o_lmul, o_land, o_lor, o_lxor, o_ldiv, o_lrem, o_lneg, o_lcmp, o_i2l, o_l2i, o_i2b, o_i2c, o_iushr, o_lshl, o_lshr, o_if_eq, o_if_ne, o_if_lt, o_if_ge, o_if_gt, o_if_le, o_icmp_eq, o_icmp_ne, o_icmp_lt, o_icmp_ge, o_icmp_gt, o_icmp_le, o_ifnull, o_ifnonnull, o_acmp_eq, o_acmp_ne, o_is, o_ls, o_as, o_iinc, o_kill, o_sw, o_ireturn, o_zreturn, o_nreturn, o_lreturn, o_areturn, o_return, o_athrow, o_call, entP, lg_sl, Value.category, st1, st2, List.set, List.getElem?_cons_zero, List.getElem?_cons_succ, List.foldl, popN, aft, o_mg, o_mgl, o_mga, o_mp, o_mpz, o_mpl, o_mia, o_mis, o_mbs, o_mc, mput_get, mput_arr, mput_let, mput_put, mset_get, mset_int, mset_let, mputL_get, mputL_arr, mputL_let, mputL_put, i64_8, mLen, e0]
      exact kq
    revert j t'
    intro j
    induction j with
    | zero =>
      intro t' hj hb' kq
      apply hZ
      refine s_dig1 (j := 0) hm (by omega) (by omega) ?_
      have e : m / 10 ^ 0 % 10 = m % 10 := by simp
      rw [e]
      exact fin _ kq
    | succ j ih =>
      intro t' hj hb' kq
      apply hZ
      refine s_dig1 (j := j + 1) hm hj (by omega) ?_
      have e : 10 ^ (j + 1) / 10 = 10 ^ j := by rw [Nat.pow_succ]; omega
      rw [e]
      refine ih _ (by omega) (by simp; omega) ?_
      rw [List.append_assoc]
      exact kq
  have hK := dgK_le m 10 0
  have hok := dgK_ok (m := m) 10 0 (by omega)
  have hlen : (dgs m).length = dgK m 10 0 + 1 := dgP_len m _
  -- up
  unfold bX2_sayNumber_26
  intro Z hZ
  have up : ∀ f j, j + f = 10 → 10 ^ j ≤ 1000000000 → dgK m f j = dgK m 10 0 → Z [some (.ref mo), none, some (.long (Int64.ofNat m)), none, some (.long (Int64.ofNat (10 ^ j))), none] [] (txS ms t) := by
    intro f
    induction f with
    | zero =>
      intro j e1 e2 e3
      have : j = 10 := by omega
      subst this
      exact absurd e2 (by decide)
    | succ f ih =>
      intro j e1 e2 e3
      apply hZ
      have hpos : 0 < 10 ^ j := Nat.pow_pos (by omega)
      have hmb : m / 10 ^ j ≤ m := Nat.div_le_self _ _
      have d1 : Int64.ofNat m / Int64.ofNat (10 ^ j) = Int64.ofNat (m / 10 ^ j) := i64_div (by omega) (by omega)
      have n0 : ¬ Int64.ofNat (10 ^ j) = 0 := ofNat_ne0 hpos (by omega)
      have d2 : lg_cmp (Int64.ofNat (m / 10 ^ j)) 9 ≤ 0 ↔ m / 10 ^ j ≤ 9 := i64_gt9 (b := 9) (by omega) (by omega)
      have d3 : Int64.ofNat (10 ^ j) * 10 = Int64.ofNat (10 ^ (j + 1)) := by rw [Nat.pow_succ, Int64.ofNat_mul]; rfl
      by_cases c : m / 10 ^ j ≤ 9
      · have hj : j = dgK m 10 0 := by rw [← e3, dgK_pos c]
        have hj9 : j ≤ 9 := by omega
        have dd := down j t hj9 (by rw [hlen, ← hj] at hb; omega) (by rw [hj]; exact k)
        have d2' := d2.2 c
        simp only [o_ic, o_lc, o_null, o_il, o_ll, o_al, o_dup, o_pop, o_dup_x1, o_dup2, o_iadd, o_isub, o_imul, o_iand, o_ior, o_ixor, o_ishl, o_ishr, o_idiv, o_irem, o_ineg, o_ladd, o_lsub, o_lmul, o_land, o_lor, o_lxor, o_ldiv, o_lrem, o_lneg, o_lcmp, o_i2l, o_l2i, o_i2b, o_i2c, o_iushr, o_lshl, o_lshr, o_if_eq, o_if_ne, o_if_lt, o_if_ge, o_if_gt, o_if_le, o_icmp_eq, o_icmp_ne, o_icmp_lt, o_icmp_ge, o_icmp_gt, o_icmp_le, o_ifnull, o_ifnonnull, o_acmp_eq, o_acmp_ne, o_is, o_ls, o_as, o_iinc, o_kill, o_sw, o_ireturn, o_zreturn, o_nreturn, o_lreturn, o_areturn, o_return, o_athrow, o_call, entP, lg_sl, Value.category, st1, st2, List.set, List.getElem?_cons_zero, List.getElem?_cons_succ, List.foldl, popN, aft, o_mg, o_mgl, o_mga, o_mp, o_mpz, o_mpl, o_mia, o_mis, o_mbs, o_mc, d1, n0, d2', not_false_eq_true, true_and, true_imp_iff, not_true_eq_false, false_imp_iff, and_true]
        exact dd
      · have d2' : ¬ lg_cmp (Int64.ofNat (m / 10 ^ j)) 9 ≤ 0 := fun z => c (d2.1 z)
        have hnx : 10 ^ (j + 1) ≤ 1000000000 := by
          have h1 : j < 9 := by
            refine Classical.byContradiction fun z => c ?_
            have : j = 9 := by omega
            subst this
            have : m / 10 ^ 9 < 10 := by rw [Nat.div_lt_iff_lt_mul (by decide)]; omega
            omega
          have := Nat.pow_le_pow_right (n := 10) (by omega) (show j + 1 ≤ 9 by omega)
          omega
        have := ih (j + 1) (by omega) hnx (by rw [← e3, dgK_neg c])
        simp only [o_ic, o_lc, o_null, o_il, o_ll, o_al, o_dup, o_pop, o_dup_x1, o_dup2, o_iadd, o_isub, o_imul, o_iand, o_ior, o_ixor, o_ishl, o_ishr, o_idiv, o_irem, o_ineg, o_ladd, o_lsub, o_lmul, o_land, o_lor, o_lxor, o_ldiv, o_lrem, o_lneg, o_lcmp, o_i2l, o_l2i, o_i2b, o_i2c, o_iushr, o_lshl, o_lshr, o_if_eq, o_if_ne, o_if_lt, o_if_ge, o_if_gt, o_if_le, o_icmp_eq, o_icmp_ne, o_icmp_lt, o_icmp_ge, o_icmp_gt, o_icmp_le, o_ifnull, o_ifnonnull, o_acmp_eq, o_acmp_ne, o_is, o_ls, o_as, o_iinc, o_kill, o_sw, o_ireturn, o_zreturn, o_nreturn, o_lreturn, o_areturn, o_return, o_athrow, o_call, entP, lg_sl, Value.category, st1, st2, List.set, List.getElem?_cons_zero, List.getElem?_cons_succ, List.foldl, popN, aft, o_mg, o_mgl, o_mga, o_mp, o_mpz, o_mpl, o_mia, o_mis, o_mbs, o_mc, d1, n0, d2', d3, not_false_eq_true, true_and, true_imp_iff, not_true_eq_false, false_imp_iff, and_true]
        exact this
  exact up 10 0 rfl (by decide) rfl
theorem numV (v : Int32) : v.toInt64 = Int64.ofInt v.toInt := by rw [← Int64.toInt_inj, Int32.toInt_toInt64, Int64.toInt_ofInt]; simp [Int.bmod]; have := Int32.toInt_lt v; have := Int32.le_toInt v; omega
theorem s_num {mo : Nat} {Q : Ret MS} {ms : MS} {t : List Nat} {v : Int32} (hv : -2147483648 < v.toInt) (hb : t.length + (numT v).length ≤ 60000) (k : Q (.inl none) (txS ms (t ++ numT v))) : pX2_sayNumber mo [.ref mo, .int v] (txS ms t) Q := by
  have h1 := Int32.toInt_lt v
  by_cases c : v < 0
  · have c' : v.toInt < 0 := by rw [Int32.lt_iff_toInt_lt, Int32.toInt_zero] at c; exact c
    have e0 : numT v = 45 :: dgs (-v.toInt).toNat := by unfold numT; rw [if_pos c]
    rw [e0] at hb k
    have e1 : - v.toInt64 = Int64.ofNat (-v.toInt).toNat := by
      rw [← Int64.toInt_inj, Int64.toInt_neg, Int32.toInt_toInt64, Int64.toInt_ofNat_of_lt (by omega)]
      simp [Int.bmod]; omega
    have c2 : ¬ 0 ≤ v := fun z => ab1 c z
    simp [pX2_sayNumber, bX2_sayNumber_0, bX2_sayNumber_12, o_ic, o_lc, o_null, o_il, o_ll, o_al, o_dup, o_pop, o_dup_x1, o_dup2, o_iadd, o_isub, o_imul, o_iand, o_ior, o_ixor, o_ishl, o_ishr, o_idiv, o_irem, o_ineg, o_ladd, o_lsub, o_lmul, o_land, o_lor, o_lxor, o_ldiv, o_lrem, o_lneg, o_lcmp, o_i2l, o_l2i, o_i2b, o_i2c, o_iushr, o_lshl, o_lshr, o_if_eq, o_if_ne, o_if_lt, o_if_ge, o_if_gt, o_if_le, o_icmp_eq, o_icmp_ne, o_icmp_lt, o_icmp_ge, o_icmp_gt, o_icmp_le, o_ifnull, o_ifnonnull, o_acmp_eq, o_acmp_ne, o_is, o_ls, o_as, o_iinc, o_kill, o_sw, o_ireturn, o_zreturn, o_nreturn, o_lreturn, o_areturn, o_return, o_athrow, o_call, entP, lg_sl, Value.category, st1, st2, List.set, List.getElem?_cons_zero, List.getElem?_cons_succ, List.foldl, popN, aft, o_mg, o_mgl, o_mga, o_mp, o_mpz, o_mpl, o_mia, o_mis, o_mbs, o_mc, mput_get, mput_arr, mput_let, mput_put, mset_get, mset_int, mset_let, mputL_get, mputL_arr, mputL_let, mputL_put, i64_8, mLen, c, c2, e1]
    refine s_say (c := 45) (by simp at hb; omega) ?_
    simp [o_ic, o_lc, o_null, o_il, o_ll, o_al, o_dup, o_pop, o_dup_x1, o_dup2, o_iadd, o_isub, o_imul, o_iand, o_ior, o_ixor, o_ishl, o_ishr, o_idiv, o_irem, o_ineg, o_ladd, o_lsub, o_lmul, o_land, o_lor, o_lxor, o_ldiv, o_lrem, o_lneg, o_lcmp, o_i2l, o_l2i, o_i2b, o_i2c, o_iushr, o_lshl, o_lshr, o_if_eq, o_if_ne, o_if_lt, o_if_ge, o_if_gt, o_if_le, o_icmp_eq, o_icmp_ne, o_icmp_lt, o_icmp_ge, o_icmp_gt, o_icmp_le, o_ifnull, o_ifnonnull, o_acmp_eq, o_acmp_ne, o_is, o_ls, o_as, o_iinc, o_kill, o_sw, o_ireturn, o_zreturn, o_nreturn, o_lreturn, o_areturn, o_return, o_athrow, o_call, entP, lg_sl, Value.category, st1, st2, List.set, List.getElem?_cons_zero, List.getElem?_cons_succ, List.foldl, popN, aft, o_mg, o_mgl, o_mga, o_mp, o_mpz, o_mpl, o_mia, o_mis, o_mbs, o_mc, mput_get, mput_arr, mput_let, mput_put, mset_get, mset_int, mset_let, mputL_get, mputL_arr, mputL_let, mputL_put, i64_8, mLen]
    refine s_dig (by omega) (by simp at hb ⊢; omega) ?_
    simpa using k
  · have c' : 0 ≤ v.toInt := by rw [Int32.lt_iff_toInt_lt, Int32.toInt_zero] at c; omega
    have e0 : numT v = dgs v.toInt.toNat := by unfold numT; rw [if_neg c]
    rw [e0] at hb k
    have e1 : v.toInt64 = Int64.ofNat v.toInt.toNat := by
      rw [← Int64.toInt_inj, Int32.toInt_toInt64, Int64.toInt_ofNat_of_lt (by omega)]; omega
    have c2 : 0 ≤ v := by rw [Int32.le_iff_toInt_le, Int32.toInt_zero]; exact c'
    simp [pX2_sayNumber, bX2_sayNumber_0, bX2_sayNumber_10, bX2_sayNumber_12, o_ic, o_lc, o_null, o_il, o_ll, o_al, o_dup, o_pop, o_dup_x1, o_dup2, o_iadd, o_isub, o_imul, o_iand, o_ior, o_ixor, o_ishl, o_ishr, o_idiv, o_irem, o_ineg, o_ladd, o_lsub, o_lmul, o_land, o_lor, o_lxor, o_ldiv, o_lrem, o_lneg, o_lcmp, o_i2l, o_l2i, o_i2b, o_i2c, o_iushr, o_lshl, o_lshr, o_if_eq, o_if_ne, o_if_lt, o_if_ge, o_if_gt, o_if_le, o_icmp_eq, o_icmp_ne, o_icmp_lt, o_icmp_ge, o_icmp_gt, o_icmp_le, o_ifnull, o_ifnonnull, o_acmp_eq, o_acmp_ne, o_is, o_ls, o_as, o_iinc, o_kill, o_sw, o_ireturn, o_zreturn, o_nreturn, o_lreturn, o_areturn, o_return, o_athrow, o_call, entP, lg_sl, Value.category, st1, st2, List.set, List.getElem?_cons_zero, List.getElem?_cons_succ, List.foldl, popN, aft, o_mg, o_mgl, o_mga, o_mp, o_mpz, o_mpl, o_mia, o_mis, o_mbs, o_mc, mput_get, mput_arr, mput_let, mput_put, mset_get, mset_int, mset_let, mputL_get, mputL_arr, mputL_let, mputL_put, i64_8, mLen, c, c2, e1]
    exact s_dig (m := v.toInt.toNat) (by omega) hb k
theorem s_nn {mo : Nat} {Q : Ret MS} {ms : MS} {t : List Nat} {m : Nat} (hm : m < 2147483648) (hb : t.length + (dgs m).length ≤ 60000) (k : Q (.inl none) (txS ms (t ++ dgs m))) : pX2_sayNumber mo [.ref mo, .int (nn m)] (txS ms t) Q := by
  have e : numT (nn m) = dgs m := by unfold numT; rw [if_neg (by rw [nn_pos hm]; exact id), nn_toInt hm]; simp
  exact s_num (by rw [nn_toInt hm]; omega) (by rw [e]; exact hb) (by rw [e]; exact k)
