/-! THE MODEL reads the name of a block -/
set_option maxRecDepth 100000
/-- ints of ks, the token and array places of P may be others -/
def FrG (P : Nat → Nat → Prop) (ks : List Nat) (ms ms' : MS) : Prop := (∀ k, (k < 2 ∨ 7 < k) → k ∉ ks → ms'.1 k = ms.1 k) ∧ ∀ k i, ¬ P k i → ms'.2.2 k i = ms.2.2 k i
theorem FrG.rfl9 {P : Nat → Nat → Prop} {ks : List Nat} {a : MS} : FrG P ks a a := ⟨fun _ _ _ => rfl, fun _ _ _ => rfl⟩
theorem FrG.trans {P : Nat → Nat → Prop} {ks : List Nat} {a b c : MS} (h : FrG P ks a b) (h' : FrG P ks b c) : FrG P ks a c := ⟨fun k hk hn => (h'.1 k hk hn).trans (h.1 k hk hn), fun k i hn => (h'.2 k i hn).trans (h.2 k i hn)⟩
theorem FrG.mono {P P' : Nat → Nat → Prop} {ks ks' : List Nat} {a b : MS} (h : FrG P ks a b) (hk : ∀ k ∈ ks, k ∈ ks') (hP : ∀ k i, P k i → P' k i) : FrG P' ks' a b := ⟨fun k h1 h2 => h.1 k h1 (fun q => h2 (hk k q)), fun k i hn => h.2 k i (fun q => hn (hP k i q))⟩
theorem FrK.G {P : Nat → Nat → Prop} {ks : List Nat} {a b : MS} (h : FrK ks a b) : FrG P ks a b := ⟨h.1, fun k i _ => by rw [h.2]⟩
theorem FrT.G {P : Nat → Nat → Prop} {ks : List Nat} {a b : MS} (h : FrT a b) : FrG P ks a b := (h.K (ks := ks)).G
theorem FrG.put {P : Nat → Nat → Prop} {ks : List Nat} {a b : MS} {k : Nat} {x : Int32} (h : FrG P ks a b) (hk : k ∈ ks) : FrG P ks a (mput b k x) :=
  ⟨fun j hj hn => by rw [mput_get, if_neg (by rintro rfl; exact hn hk)]; exact h.1 j hj hn, h.2⟩
theorem FrG.set {P : Nat → Nat → Prop} {ks : List Nat} {a b : MS} {k i : Nat} {x : Int32} (h : FrG P ks a b) (hk : P k i) : FrG P ks a (mset b k i x) :=
  ⟨h.1, fun j n hn => by rw [mset_get, if_neg (by rintro ⟨rfl, rfl⟩; exact hn hk)]; exact h.2 j n hn⟩
theorem FrG.tape {P : Nat → Nat → Prop} {ks : List Nat} {ms ms' : MS} {tp : Nat → Nat} {td : Nat} (h : FrG P ks ms ms') (hn : 1 ∉ ks) (hP : ∀ i, ¬ P 0 i) (hT : TapeM ms tp td) : TapeM ms' tp td := by
  obtain ⟨h1, h2, h3⟩ := hT
  exact ⟨h1, (h.1 1 (by omega) hn).trans h2, fun i hi => by rw [h.2 0 i (hP i)]; exact h3 i hi⟩
/-- the names of blocks that were read -/
def NmM (ms : MS) (l : List (Nat × Nat)) : Prop := ms.1 41 = nn l.length ∧ ∀ i x, l[i]? = some x → ms.2.2 39 i = nn x.1 ∧ ms.2.2 40 i = nn x.2
def BlM (tp : Nat → Nat) (td : Nat) (ms : MS) (l : List (Nat × Nat)) (f : Nat) (r : Except Flt (Nat × Nat)) (v : Int32) (ms' : MS) : Prop := FrG (fun k _ => k = 39 ∨ k = 40) [32, 33, 41] ms ms' ∧ match r with
  | .ok (b, g) => v = nn b ∧ TokM ms' tp td g ∧ ms'.1 32 = 0 ∧ NmM ms' (l ++ [(f, b)])
  | .error e => BadM ms' e
theorem m_block {mo : Nat} {Q : Ret MS} {tp : Nat → Nat} {td : Nat} {ms : MS} {f : Nat} {l : List (Nat × Nat)} (hT : TapeM ms tp td) (hk : TokM ms tp td f) (hb : ms.1 32 = 0) (hl : l.length < 200) (hn : NmM ms l)
    (k : ∀ v ms', BlM tp td ms l f (tgt tp td f) v ms' → Q (.inl (some (.int v))) ms') : pX2_block mo [.ref mo] ms Q := by
  simp [pX2_block, bX2_block_0, bX2_block_9, o_ic, o_lc, o_null, o_il, o_ll, o_al, o_dup, o_pop, o_dup_x1, o_dup2, o_iadd, o_isub, o_imul, o_iand, o_ior, o_ixor, o_ishl, o_ishr, o_idiv, o_irem, o_ineg, o_ladd, o_lsub, o_lmul, o_land, o_lor, o_lxor, o_ldiv, o_lrem, o_lneg, o_lcmp, o_i2l, o_l2i, o_i2b, o_i2c, o_iushr, o_lshl, o_lshr, o_if_eq, o_if_ne, o_if_lt, o_if_ge, o_if_gt, o_if_le, o_icmp_eq, o_icmp_ne, o_icmp_lt, o_icmp_ge, o_icmp_gt, o_icmp_le, o_ifnull, o_ifnonnull, o_acmp_eq, o_acmp_ne, o_is, o_ls, o_as, o_iinc, o_kill, o_sw, o_ireturn, o_zreturn, o_nreturn, o_lreturn, o_areturn, o_return, o_athrow, o_call, entP, lg_sl, Value.category, st1, st2, List.set, List.getElem?_cons_zero, List.getElem?_cons_succ, List.foldl, popN, aft, o_mg, o_mgl, o_mga, o_mp, o_mpz, o_mpl, o_mia, o_mis, o_mbs, o_mc, mput_get, mput_arr, mput_let, mput_put, mset_get, mset_int, mset_let, mputL_get, mputL_arr, mputL_let, mputL_put, i64_8, mLen, hb]
  refine m_numbered (c := 98) (most := 39) hT hk (by omega) (by omega) ?_
  unfold tgt at k
  cases h : numb tp td f 98 39 with
  | none =>
    rw [h] at k
    simp [bX2_block_27, bX2_block_28, o_ic, o_lc, o_null, o_il, o_ll, o_al, o_dup, o_pop, o_dup_x1, o_dup2, o_iadd, o_isub, o_imul, o_iand, o_ior, o_ixor, o_ishl, o_ishr, o_idiv, o_irem, o_ineg, o_ladd, o_lsub, o_lmul, o_land, o_lor, o_lxor, o_ldiv, o_lrem, o_lneg, o_lcmp, o_i2l, o_l2i, o_i2b, o_i2c, o_iushr, o_lshl, o_lshr, o_if_eq, o_if_ne, o_if_lt, o_if_ge, o_if_gt, o_if_le, o_icmp_eq, o_icmp_ne, o_icmp_lt, o_icmp_ge, o_icmp_gt, o_icmp_le, o_ifnull, o_ifnonnull, o_acmp_eq, o_acmp_ne, o_is, o_ls, o_as, o_iinc, o_kill, o_sw, o_ireturn, o_zreturn, o_nreturn, o_lreturn, o_areturn, o_return, o_athrow, o_call, entP, lg_sl, Value.category, st1, st2, List.set, List.getElem?_cons_zero, List.getElem?_cons_succ, List.foldl, popN, aft, o_mg, o_mgl, o_mga, o_mp, o_mpz, o_mpl, o_mia, o_mis, o_mbs, o_mc, onn]
    refine m_must0 (n := 2) hk hb (by omega) (by omega) ?_
    simp [o_ic, o_lc, o_null, o_il, o_ll, o_al, o_dup, o_pop, o_dup_x1, o_dup2, o_iadd, o_isub, o_imul, o_iand, o_ior, o_ixor, o_ishl, o_ishr, o_idiv, o_irem, o_ineg, o_ladd, o_lsub, o_lmul, o_land, o_lor, o_lxor, o_ldiv, o_lrem, o_lneg, o_lcmp, o_i2l, o_l2i, o_i2b, o_i2c, o_iushr, o_lshl, o_lshr, o_if_eq, o_if_ne, o_if_lt, o_if_ge, o_if_gt, o_if_le, o_icmp_eq, o_icmp_ne, o_icmp_lt, o_icmp_ge, o_icmp_gt, o_icmp_le, o_ifnull, o_ifnonnull, o_acmp_eq, o_acmp_ne, o_is, o_ls, o_as, o_iinc, o_kill, o_sw, o_ireturn, o_zreturn, o_nreturn, o_lreturn, o_areturn, o_return, o_athrow, o_call, entP, lg_sl, Value.category, st1, st2, List.set, List.getElem?_cons_zero, List.getElem?_cons_succ, List.foldl, popN, aft]
    exact k _ _ ⟨(FrG.rfl9.put (by simp)).put (by simp), rfl, rfl, flt_r (by omega) (by omega)⟩
  | some b =>
    rw [h] at k
    have bb := numb_le h
    have b1 : b < 2147483648 := by omega
    have b2 : l.length < 2147483648 := by omega
    simp [bX2_block_27, bX2_block_28, o_ic, o_lc, o_null, o_il, o_ll, o_al, o_dup, o_pop, o_dup_x1, o_dup2, o_iadd, o_isub, o_imul, o_iand, o_ior, o_ixor, o_ishl, o_ishr, o_idiv, o_irem, o_ineg, o_ladd, o_lsub, o_lmul, o_land, o_lor, o_lxor, o_ldiv, o_lrem, o_lneg, o_lcmp, o_i2l, o_l2i, o_i2b, o_i2c, o_iushr, o_lshl, o_lshr, o_if_eq, o_if_ne, o_if_lt, o_if_ge, o_if_gt, o_if_le, o_icmp_eq, o_icmp_ne, o_icmp_lt, o_icmp_ge, o_icmp_gt, o_icmp_le, o_ifnull, o_ifnonnull, o_acmp_eq, o_acmp_ne, o_is, o_ls, o_as, o_iinc, o_kill, o_sw, o_ireturn, o_zreturn, o_nreturn, o_lreturn, o_areturn, o_return, o_athrow, o_call, entP, lg_sl, Value.category, st1, st2, List.set, List.getElem?_cons_zero, List.getElem?_cons_succ, List.foldl, popN, aft, o_mg, o_mgl, o_mga, o_mp, o_mpz, o_mpl, o_mia, o_mis, o_mbs, o_mc, onn, nn_eqL, nn_ltL, nn_leL, nn_Llt, nn_Lle, nn_lt, nn_le, nn_eq, nn_in, nn_clamp, nn_succ, nn_pos, nn_neg1, b1]
    refine m_must1 hb ?_
    simp [bX2_block_37, o_ic, o_lc, o_null, o_il, o_ll, o_al, o_dup, o_pop, o_dup_x1, o_dup2, o_iadd, o_isub, o_imul, o_iand, o_ior, o_ixor, o_ishl, o_ishr, o_idiv, o_irem, o_ineg, o_ladd, o_lsub, o_lmul, o_land, o_lor, o_lxor, o_ldiv, o_lrem, o_lneg, o_lcmp, o_i2l, o_l2i, o_i2b, o_i2c, o_iushr, o_lshl, o_lshr, o_if_eq, o_if_ne, o_if_lt, o_if_ge, o_if_gt, o_if_le, o_icmp_eq, o_icmp_ne, o_icmp_lt, o_icmp_ge, o_icmp_gt, o_icmp_le, o_ifnull, o_ifnonnull, o_acmp_eq, o_acmp_ne, o_is, o_ls, o_as, o_iinc, o_kill, o_sw, o_ireturn, o_zreturn, o_nreturn, o_lreturn, o_areturn, o_return, o_athrow, o_call, entP, lg_sl, Value.category, st1, st2, List.set, List.getElem?_cons_zero, List.getElem?_cons_succ, List.foldl, popN, aft, o_mg, o_mgl, o_mga, o_mp, o_mpz, o_mpl, o_mia, o_mis, o_mbs, o_mc, mput_get, mput_arr, mput_let, mput_put, mset_get, mset_int, mset_let, mputL_get, mputL_arr, mputL_let, mputL_put, i64_8, mLen, nn_eqL, nn_ltL, nn_leL, nn_Llt, nn_Lle, nn_lt, nn_le, nn_eq, nn_in, nn_clamp, nn_succ, nn_pos, nn_neg1, hn.1, b2, hl]
    refine m_next (ms := mput (mset (mset ms 39 l.length (ms.1 3)) 40 l.length (nn b)) 41 (nn (l.length + 1))) (tp := tp) (td := td) ?_ (tEnd_le tp hk.1) ?_ (fun ms' hf ht => ?_)
    · exact ⟨hT.1, hT.2.1, fun i hi => by simp [mput_get, mput_arr, mput_let, mput_put, mset_get, mset_int, mset_let, mputL_get, mputL_arr, mputL_let, mputL_put, i64_8, mLen]; exact hT.2.2 i hi⟩
    · exact hk.2.2.1
    · simp [o_ic, o_lc, o_null, o_il, o_ll, o_al, o_dup, o_pop, o_dup_x1, o_dup2, o_iadd, o_isub, o_imul, o_iand, o_ior, o_ixor, o_ishl, o_ishr, o_idiv, o_irem, o_ineg, o_ladd, o_lsub, o_lmul, o_land, o_lor, o_lxor, o_ldiv, o_lrem, o_lneg, o_lcmp, o_i2l, o_l2i, o_i2b, o_i2c, o_iushr, o_lshl, o_lshr, o_if_eq, o_if_ne, o_if_lt, o_if_ge, o_if_gt, o_if_le, o_icmp_eq, o_icmp_ne, o_icmp_lt, o_icmp_ge, o_icmp_gt, o_icmp_le, o_ifnull, o_ifnonnull, o_acmp_eq, o_acmp_ne, o_is, o_ls, o_as, o_iinc, o_kill, o_sw, o_ireturn, o_zreturn, o_nreturn, o_lreturn, o_areturn, o_return, o_athrow, o_call, entP, lg_sl, Value.category, st1, st2, List.set, List.getElem?_cons_zero, List.getElem?_cons_succ, List.foldl, popN, aft]
      refine k _ ms' ⟨((((FrG.rfl9.set (Or.inl rfl)).set (Or.inr rfl)).put (by simp)).trans hf.G), rfl, ht, (hf.tok 32 (by omega)).trans hb, ?_, fun i x hx => ?_⟩
      · rw [hf.tok 41 (by omega)]; simp [mput_get, mput_arr, mput_let, mput_put, mset_get, mset_int, mset_let, mputL_get, mputL_arr, mputL_let, mputL_put, i64_8, mLen]
      · rw [hf.2]
        rw [List.getElem?_append] at hx
        by_cases c : i < l.length
        · rw [if_pos c] at hx
          have := hn.2 i x hx
          have n1 : i ≠ l.length := by omega
          simp [mput_get, mput_arr, mput_let, mput_put, mset_get, mset_int, mset_let, mputL_get, mputL_arr, mputL_let, mputL_put, i64_8, mLen, n1]; exact this
        · rw [if_neg c] at hx
          have e : i = l.length := by
            by_cases c2 : i - l.length = 0
            · omega
            · obtain ⟨j, hj⟩ : ∃ j, i - l.length = j + 1 := ⟨i - l.length - 1, by omega⟩
              rw [hj] at hx; simp at hx
          subst e
          simp at hx
          subst hx
          simp [mput_get, mput_arr, mput_let, mput_put, mset_get, mset_int, mset_let, mputL_get, mputL_arr, mputL_let, mputL_put, i64_8, mLen]; exact hk.2.1
