/-! THE MODEL's lead: all nodes -/
set_option maxRecDepth 100000
/-- the routine that is read, with its nodes -/
def NwM (ms : MS) (R : Rt) : Prop := ms.2.2 9 4 = nn R.2.length ∧ ms.2.2 10 4 = nn (nds R).length ∧ ms.2.2 11 4 = nn R.1.length ∧ (∀ b, b < R.2.length → ms.2.2 13 (164 + b) = nn (fstN R.2 b)) ∧ (∀ k x, (nds R)[k]? = some x → NdM ms (960 + k) x) ∧ SumM ms (sms R.1)
/-- in the midst of lead: k lines are done -/
def LdI (m0 ms : MS) (R : Rt) (k : Nat) (acc : List (Option Nat × Option Nat)) (ow : List Nat) : Prop := FrG (fun j i => (j = 10 ∧ i = 4) ∨ ((j = 19 ∨ j = 20) ∧ 960 ≤ i ∧ i < 960 + k) ∨ ((15 ≤ j ∧ j ≤ 20) ∧ 960 + R.1.length ≤ i)) [] m0 ms ∧ acc.length = k ∧ (∀ j t, acc[j]? = some t → ms.2.2 19 (960 + j) = onn t.1 ∧ ms.2.2 20 (960 + j) = onn t.2) ∧ OwMs ms R ow
theorem LdI.set2 {m0 ms ms' : MS} {R : Rt} {k : Nat} {acc : List (Option Nat × Option Nat)} {ow ow' : List Nat} {t : Option Nat × Option Nat} (h : LdI m0 ms R k acc ow) (hk : k < R.1.length)
    (hf : FrG (fun j i => (j = 10 ∧ i = 4) ∨ ((j = 19 ∨ j = 20) ∧ i = 960 + k) ∨ ((15 ≤ j ∧ j ≤ 20) ∧ 960 + R.1.length ≤ i)) [] ms ms') (h1 : ms'.2.2 19 (960 + k) = onn t.1) (h2 : ms'.2.2 20 (960 + k) = onn t.2) (hO : OwMs ms' R ow') : LdI m0 ms' R (k + 1) (acc ++ [t]) ow' := by
  obtain ⟨a1, a2, a3, a4⟩ := h
  refine ⟨(a1.mono (fun _ q => q) (fun j i q => by omega)).trans (hf.mono (fun _ q => q) (fun j i q => by omega)), by simp [a2], fun j u hj => ?_, hO⟩
  by_cases c : j < acc.length
  · rw [List.getElem?_append_left c] at hj
    rw [hf.2 19 _ (by omega), hf.2 20 _ (by omega)]; exact a3 j u hj
  · have e : j = acc.length := by
      have := (List.getElem?_eq_some_iff.1 hj).1
      simp at this; omega
    subst e
    simp at hj
    subst hj
    rw [a2]; exact ⟨h1, h2⟩
theorem x_leadloop {mo : Nat} {Q : Ret MS} {m0 : MS} {R : Rt} (w : WfR R) (hR : ∀ k x, R.1[k]? = some x → ItM m0 (960 + k) (sms R.1) x) (h13 : ∀ b, b < R.2.length → m0.2.2 13 (164 + b) = nn (fstN R.2 b)) (h43 : ∀ b, b < R.2.length → m0.2.2 43 b = nn (wyE R b)) (hT : ∀ x ∈ R.1, ∀ t ∈ iT x.2, t.2 < R.2.length)
    (k : ∀ ms, LdI m0 ms R R.1.length (ledR R).1 (ledR R).2 → ms.1 = m0.1 → ms.2.1 = m0.2.1 → Q (.inl none) ms) :
    ∀ suf i ms acc ow, i + suf.length = R.1.length → (∀ j, suf[j]? = R.1[i + j]?) → LdI m0 ms R i acc ow → (∀ x, suf[0]? = some x → ow.length ≤ 2 * x.1) → ms.1 = m0.1 → ms.2.1 = m0.2.1 → ((ledR R).1 = acc ++ (led R.1.length (fstN R.2) (wyE R) i suf ow).1 ∧ (ledR R).2 = (led R.1.length (fstN R.2) (wyE R) i suf ow).2) →
    bX2_lead_50 mo Q [some (.ref mo), some (.int (nn R.1.length)), some (.int (nn i)), none] [] ms := by
  intro suf i ms acc ow h1 h2 h3 h4 h5 h6 h7
  unfold bX2_lead_50
  intro X hX
  have l1 := w.1
  have l2 := w.2.1
  have b0 : R.1.length < 2147483648 := by omega
  revert suf i ms acc ow
  intro suf
  induction suf with
  | nil =>
    intro i ms acc ow h1 h2 h3 h4 h5 h6 h7
    apply hX
    simp at h1
    have b1 : i < 2147483648 := by omega
    have b2 : R.1.length ≤ i := by omega
    have b3 : ¬ i < R.1.length := by omega
    simp [bX2_lead_165, o_ic, o_lc, o_null, o_il, o_ll, o_al, o_dup, o_pop, o_dup_x1, o_dup2, o_iadd, o_isub, o_imul, o_iand, o_ior, o_ixor, o_ishl, o_ishr, o_idiv, o_irem, o_ineg, o_ladd, o_lsub, o_lmul, o_land, o_lor, o_lxor, o_ldiv, o_lrem, o_lneg, o_lcmp, o_i2l, o_l2i, o_i2b, o_i2c, o_iushr, o_lshl, o_lshr, o_if_eq, o_if_ne, o_if_lt, o_if_ge, o_if_gt, o_if_le, o_icmp_eq, o_icmp_ne, o_icmp_lt, o_icmp_ge, o_icmp_gt, o_icmp_le, o_ifnull, o_ifnonnull, o_acmp_eq, o_acmp_ne, o_is, o_ls, o_as, o_iinc, o_kill, o_sw, o_ireturn, o_zreturn, o_nreturn, o_lreturn, o_areturn, o_return, o_athrow, o_call, entP, lg_sl, Value.category, st1, st2, List.set, List.getElem?_cons_zero, List.getElem?_cons_succ, List.foldl, popN, aft, o_mg, o_mgl, o_mga, o_mp, o_mpz, o_mpl, o_mia, o_mis, o_mbs, o_mc, mput_get, mput_arr, mput_let, mput_put, mset_get, mset_int, mset_let, mputL_get, mputL_arr, mputL_let, mputL_put, i64_8, mLen, vpL, nn_addL, nn_addR, nn_mulL, nn_add, nn_mul, nn_eqL, nn_ltL, nn_leL, nn_Llt, nn_Lle, nn_lt, nn_le, nn_eq, nn_in, nn_clamp, nn_succ, nn_pos, nn_neg1, b0, b1, b2, b3]
    simp [led] at h7
    refine k ms ?_ h5 h6
    rw [h7.1, h7.2, ← h1]; exact h3
  | cons x suf ih =>
    intro i ms acc ow h1 h2 h3 h4 h5 h6 h7
    apply hX
    have hi : i < R.1.length := by simp at h1; omega
    have b1 : i < 2147483648 := by omega
    have b2 : ¬ R.1.length ≤ i := by omega
    have b3 : 960 + i < 2147483648 := by omega
    have b4 : 960 + i < 1200 := by omega
    have hx : R.1[i]? = some x := (h2 0).symm
    have hmem := List.mem_of_getElem? hx
    have hok := (w.2.2.2.2.1 i x hx).2.2.2.2
    obtain ⟨f1, f2, f3, f4⟩ := h3
    have e : ∀ j, 15 ≤ j → j ≤ 25 → ms.2.2 j (960 + i) = m0.2.2 j (960 + i) := fun j j1 j2 => f1.2 j _ (by omega)
    obtain ⟨c1, c2, c3, c4, c5, c6, c7, c8, c9⟩ := (hR i x hx).fr e
    have bk : x.2.1 < 2147483648 := by have := hok.1; omega
    have how := ow_step w (n0 := R.1.length) (fst := fstN R.2) (wy := wyE R) hx (h4 x rfl)
    have x1 := (w.2.2.2.2.1 i x hx).1
    have how1 := h4 x rfl
    rw [led_cons] at h7
    -- on to the next line
    have on : ∀ ms', LdI m0 ms' R (i + 1) (acc ++ [(ldx R.1.length (fstN R.2) (wyE R) i x.2 ow).1]) (ldx R.1.length (fstN R.2) (wyE R) i x.2 ow).2 → ms'.1 = ms.1 → ms'.2.1 = ms.2.1 → X [some (.ref mo), some (.int (nn R.1.length)), some (.int (nn (i + 1))), none] [] ms' := fun ms' q q1 q2 => ih (i + 1) ms' _ _ (by simp at h1; omega) (fun j => by have := h2 (j + 1); rw [show i + (j + 1) = i + 1 + j by omega] at this; exact this) q (fun y hy => how.2 y (by rw [← hy]; exact (h2 1).symm)) (q1.trans h5) (q2.trans h6) (by rw [List.append_assoc]; exact h7)
    simp [bX2_lead_83, o_ic, o_lc, o_null, o_il, o_ll, o_al, o_dup, o_pop, o_dup_x1, o_dup2, o_iadd, o_isub, o_imul, o_iand, o_ior, o_ixor, o_ishl, o_ishr, o_idiv, o_irem, o_ineg, o_ladd, o_lsub, o_lmul, o_land, o_lor, o_lxor, o_ldiv, o_lrem, o_lneg, o_lcmp, o_i2l, o_l2i, o_i2b, o_i2c, o_iushr, o_lshl, o_lshr, o_if_eq, o_if_ne, o_if_lt, o_if_ge, o_if_gt, o_if_le, o_icmp_eq, o_icmp_ne, o_icmp_lt, o_icmp_ge, o_icmp_gt, o_icmp_le, o_ifnull, o_ifnonnull, o_acmp_eq, o_acmp_ne, o_is, o_ls, o_as, o_iinc, o_kill, o_sw, o_ireturn, o_zreturn, o_nreturn, o_lreturn, o_areturn, o_return, o_athrow, o_call, entP, lg_sl, Value.category, st1, st2, List.set, List.getElem?_cons_zero, List.getElem?_cons_succ, List.foldl, popN, aft, o_mg, o_mgl, o_mga, o_mp, o_mpz, o_mpl, o_mia, o_mis, o_mbs, o_mc, mput_get, mput_arr, mput_let, mput_put, mset_get, mset_int, mset_let, mputL_get, mputL_arr, mputL_let, mputL_put, i64_8, mLen, vpL, nn_addL, nn_addR, nn_mulL, nn_add, nn_mul, nn_eqL, nn_ltL, nn_leL, nn_Llt, nn_Lle, nn_lt, nn_le, nn_eq, nn_in, nn_clamp, nn_succ, nn_pos, nn_neg1, b0, b1, b2, b3, b4, hi, c1, bk]
    have hcase : x.2.1 < 4 ∨ x.2.1 = 4 ∨ x.2.1 = 5 ∨ x.2.1 = 6 := by have := hok.1; omega
    rcases hcase with hk | hk | hk | hk
    · refine ⟨fun h => by omega, fun _ => ?_⟩
      have hT0 : iT x.2 = [] := hok.2.2.2.2.2.2.2.2.2.2.1 (by omega) (by omega)
      simp [bX2_lead_159, o_ic, o_lc, o_null, o_il, o_ll, o_al, o_dup, o_pop, o_dup_x1, o_dup2, o_iadd, o_isub, o_imul, o_iand, o_ior, o_ixor, o_ishl, o_ishr, o_idiv, o_irem, o_ineg, o_ladd, o_lsub, o_lmul, o_land, o_lor, o_lxor, o_ldiv, o_lrem, o_lneg, o_lcmp, o_i2l, o_l2i, o_i2b, o_i2c, o_iushr, o_lshl, o_lshr, o_if_eq, o_if_ne, o_if_lt, o_if_ge, o_if_gt, o_if_le, o_icmp_eq, o_icmp_ne, o_icmp_lt, o_icmp_ge, o_icmp_gt, o_icmp_le, o_ifnull, o_ifnonnull, o_acmp_eq, o_acmp_ne, o_is, o_ls, o_as, o_iinc, o_kill, o_sw, o_ireturn, o_zreturn, o_nreturn, o_lreturn, o_areturn, o_return, o_athrow, o_call, entP, lg_sl, Value.category, st1, st2, List.set, List.getElem?_cons_zero, List.getElem?_cons_succ, List.foldl, popN, aft, o_mg, o_mgl, o_mga, o_mp, o_mpz, o_mpl, o_mia, o_mis, o_mbs, o_mc, mput_get, mput_arr, mput_let, mput_put, mset_get, mset_int, mset_let, mputL_get, mputL_arr, mputL_let, mputL_put, i64_8, mLen, vpL, nn_addL, nn_addR, nn_mulL, nn_add, nn_mul, nn_eqL, nn_ltL, nn_leL, nn_Llt, nn_Lle, nn_lt, nn_le, nn_eq, nn_in, nn_clamp, nn_succ, nn_pos, nn_neg1, b3, b4]
      refine on _ ?_ rfl rfl
      have hl : ldx R.1.length (fstN R.2) (wyE R) i x.2 ow = ((some (i + 1), none), ow) := by unfold ldx; rw [if_pos hk]
      rw [hl]
      refine LdI.set2 ⟨f1, f2, f3, f4⟩ hi (FrG.rfl9.set (Or.inr (Or.inl ⟨Or.inl rfl, rfl⟩))) ?_ ?_ ?_
      · simp [mput_get, mput_arr, mput_let, mput_put, mset_get, mset_int, mset_let, mputL_get, mputL_arr, mputL_let, mputL_put, i64_8, mLen, onn]
      · rw [hT0] at c6; simp [mput_get, mput_arr, mput_let, mput_put, mset_get, mset_int, mset_let, mputL_get, mputL_arr, mputL_let, mputL_put, i64_8, mLen, onn]; exact c6
      · refine ⟨by simp [mput_get, mput_arr, mput_let, mput_put, mset_get, mset_int, mset_let, mputL_get, mputL_arr, mputL_let, mputL_put, i64_8, mLen]; exact f4.1, fun j b hj => ?_⟩
        have := f4.2 j b hj
        have hjl := (List.getElem?_eq_some_iff.1 hj).1
        unfold OwM at this ⊢
        have n1 : ¬ (960 + R.1.length + j = 960 + i) := by omega
        simp [mput_get, mput_arr, mput_let, mput_put, mset_get, mset_int, mset_let, mputL_get, mputL_arr, mputL_let, mputL_put, i64_8, mLen, n1]; exact this
    · obtain ⟨t, ht⟩ := hok.2.2.2.2.2.2.2.2.1 hk
      have htl := hT x hmem t (by rw [ht]; simp)
      rw [ht] at c5 c6
      simp only at c5 c6
      have b5 : t.2 < 2147483648 := by omega
      have b6 : 164 + t.2 < 2147483648 := by omega
      have b7 : 164 + t.2 < 205 := by omega
      have h13' : ms.2.2 13 (164 + t.2) = nn (fstN R.2 t.2) := by rw [f1.2 13 _ (by omega)]; exact h13 t.2 htl
      refine ⟨fun _ => ⟨fun h => absurd hk h, fun _ => ?_⟩, fun h => by omega⟩
      simp [bX2_lead_159, o_ic, o_lc, o_null, o_il, o_ll, o_al, o_dup, o_pop, o_dup_x1, o_dup2, o_iadd, o_isub, o_imul, o_iand, o_ior, o_ixor, o_ishl, o_ishr, o_idiv, o_irem, o_ineg, o_ladd, o_lsub, o_lmul, o_land, o_lor, o_lxor, o_ldiv, o_lrem, o_lneg, o_lcmp, o_i2l, o_l2i, o_i2b, o_i2c, o_iushr, o_lshl, o_lshr, o_if_eq, o_if_ne, o_if_lt, o_if_ge, o_if_gt, o_if_le, o_icmp_eq, o_icmp_ne, o_icmp_lt, o_icmp_ge, o_icmp_gt, o_icmp_le, o_ifnull, o_ifnonnull, o_acmp_eq, o_acmp_ne, o_is, o_ls, o_as, o_iinc, o_kill, o_sw, o_ireturn, o_zreturn, o_nreturn, o_lreturn, o_areturn, o_return, o_athrow, o_call, entP, lg_sl, Value.category, st1, st2, List.set, List.getElem?_cons_zero, List.getElem?_cons_succ, List.foldl, popN, aft, o_mg, o_mgl, o_mga, o_mp, o_mpz, o_mpl, o_mia, o_mis, o_mbs, o_mc, mput_get, mput_arr, mput_let, mput_put, mset_get, mset_int, mset_let, mputL_get, mputL_arr, mputL_let, mputL_put, i64_8, mLen, vpL, nn_addL, nn_addR, nn_mulL, nn_add, nn_mul, nn_eqL, nn_ltL, nn_leL, nn_Llt, nn_Lle, nn_lt, nn_le, nn_eq, nn_in, nn_clamp, nn_succ, nn_pos, nn_neg1, b3, b4, c5, b5, b6, b7, h13']
      refine on _ ?_ rfl rfl
      have hl : ldx R.1.length (fstN R.2) (wyE R) i x.2 ow = ((some (fstN R.2 t.2), none), ow) := by unfold ldx; rw [if_neg (by omega), ht]
      rw [hl]
      refine LdI.set2 ⟨f1, f2, f3, f4⟩ hi (FrG.rfl9.set (Or.inr (Or.inl ⟨Or.inl rfl, rfl⟩))) ?_ ?_ ?_
      · simp [mput_get, mput_arr, mput_let, mput_put, mset_get, mset_int, mset_let, mputL_get, mputL_arr, mputL_let, mputL_put, i64_8, mLen, onn]
      · simp [mput_get, mput_arr, mput_let, mput_put, mset_get, mset_int, mset_let, mputL_get, mputL_arr, mputL_let, mputL_put, i64_8, mLen, onn]; exact c6
      · refine ⟨by simp [mput_get, mput_arr, mput_let, mput_put, mset_get, mset_int, mset_let, mputL_get, mputL_arr, mputL_let, mputL_put, i64_8, mLen]; exact f4.1, fun j b hj => ?_⟩
        have := f4.2 j b hj
        unfold OwM at this ⊢
        have n1 : ¬ (960 + R.1.length + j = 960 + i) := by omega
        simp [mput_get, mput_arr, mput_let, mput_put, mset_get, mset_int, mset_let, mputL_get, mputL_arr, mputL_let, mputL_put, i64_8, mLen, n1]; exact this
    · obtain ⟨t, u, ht⟩ := hok.2.2.2.2.2.2.2.2.2.1 hk
      have htl := hT x hmem t (by rw [ht]; simp)
      have hul := hT x hmem u (by rw [ht]; simp)
      rw [ht] at c5 c6
      simp only at c5 c6
      have n4 : ¬ x.2.1 = 4 := by omega
      refine ⟨fun _ => ⟨fun h => ?_, fun h => by omega⟩, fun h => by omega⟩
      simp [bX2_lead_117, bX2_lead_159, o_ic, o_lc, o_null, o_il, o_ll, o_al, o_dup, o_pop, o_dup_x1, o_dup2, o_iadd, o_isub, o_imul, o_iand, o_ior, o_ixor, o_ishl, o_ishr, o_idiv, o_irem, o_ineg, o_ladd, o_lsub, o_lmul, o_land, o_lor, o_lxor, o_ldiv, o_lrem, o_lneg, o_lcmp, o_i2l, o_l2i, o_i2b, o_i2c, o_iushr, o_lshl, o_lshr, o_if_eq, o_if_ne, o_if_lt, o_if_ge, o_if_gt, o_if_le, o_icmp_eq, o_icmp_ne, o_icmp_lt, o_icmp_ge, o_icmp_gt, o_icmp_le, o_ifnull, o_ifnonnull, o_acmp_eq, o_acmp_ne, o_is, o_ls, o_as, o_iinc, o_kill, o_sw, o_ireturn, o_zreturn, o_nreturn, o_lreturn, o_areturn, o_return, o_athrow, o_call, entP, lg_sl, Value.category, st1, st2, List.set, List.getElem?_cons_zero, List.getElem?_cons_succ, List.foldl, popN, aft, o_mg, o_mgl, o_mga, o_mp, o_mpz, o_mpl, o_mia, o_mis, o_mbs, o_mc, mput_get, mput_arr, mput_let, mput_put, mset_get, mset_int, mset_let, mputL_get, mputL_arr, mputL_let, mputL_put, i64_8, mLen, vpL, nn_addL, nn_addR, nn_mulL, nn_add, nn_mul, nn_eqL, nn_ltL, nn_leL, nn_Llt, nn_Lle, nn_lt, nn_le, nn_eq, nn_in, nn_clamp, nn_succ, nn_pos, nn_neg1, b3, b4, c1, bk, c5, hk]
      have h13' : ∀ b, b < R.2.length → ms.2.2 13 (164 + b) = nn (fstN R.2 b) := fun b hb => by rw [f1.2 13 _ (by omega)]; exact h13 b hb
      have h43' : ∀ b, b < R.2.length → ms.2.2 43 b = nn (wyE R b) := fun b hb => by rw [f1.2 43 _ (by omega)]; exact h43 b hb
      refine m_through (ow := ow) w htl (h13' _ htl) (h43' _ htl) f4 (by omega) (fun ms1 g1 g2 g3 g4 => ?_)
      have e20 : ms1.2.2 20 (960 + i) = nn u.2 := by rw [g1.2 20 _ (by omega)]; exact c6
      simp [bX2_lead_159, o_ic, o_lc, o_null, o_il, o_ll, o_al, o_dup, o_pop, o_dup_x1, o_dup2, o_iadd, o_isub, o_imul, o_iand, o_ior, o_ixor, o_ishl, o_ishr, o_idiv, o_irem, o_ineg, o_ladd, o_lsub, o_lmul, o_land, o_lor, o_lxor, o_ldiv, o_lrem, o_lneg, o_lcmp, o_i2l, o_l2i, o_i2b, o_i2c, o_iushr, o_lshl, o_lshr, o_if_eq, o_if_ne, o_if_lt, o_if_ge, o_if_gt, o_if_le, o_icmp_eq, o_icmp_ne, o_icmp_lt, o_icmp_ge, o_icmp_gt, o_icmp_le, o_ifnull, o_ifnonnull, o_acmp_eq, o_acmp_ne, o_is, o_ls, o_as, o_iinc, o_kill, o_sw, o_ireturn, o_zreturn, o_nreturn, o_lreturn, o_areturn, o_return, o_athrow, o_call, entP, lg_sl, Value.category, st1, st2, List.set, List.getElem?_cons_zero, List.getElem?_cons_succ, List.foldl, popN, aft, o_mg, o_mgl, o_mga, o_mp, o_mpz, o_mpl, o_mia, o_mis, o_mbs, o_mc, mput_get, mput_arr, mput_let, mput_put, mset_get, mset_int, mset_let, mputL_get, mputL_arr, mputL_let, mputL_put, i64_8, mLen, vpL, nn_addL, nn_addR, nn_mulL, nn_add, nn_mul, nn_eqL, nn_ltL, nn_leL, nn_Llt, nn_Lle, nn_lt, nn_le, nn_eq, nn_in, nn_clamp, nn_succ, nn_pos, nn_neg1, b3, b4, e20]
      have hol := thr_len (n0 := R.1.length) (fst := fstN R.2) (wy := wyE R) (t := t.2) (ow := ow)
      generalize hv1 : (thr R.1.length (fstN R.2) (wyE R) t.2 ow).1 = v1
      generalize how2 : (thr R.1.length (fstN R.2) (wyE R) t.2 ow).2 = ow2 at g4 hol
      have g5 : OwMs (mset ms1 19 (960 + i) (nn v1)) R ow2 := by
        refine ⟨by simp [mput_get, mput_arr, mput_let, mput_put, mset_get, mset_int, mset_let, mputL_get, mputL_arr, mputL_let, mputL_put, i64_8, mLen]; exact g4.1, fun j b hj => ?_⟩
        have := g4.2 j b hj
        unfold OwM at this ⊢
        have n1 : ¬ (960 + R.1.length + j = 960 + i) := by omega
        simp [mput_get, mput_arr, mput_let, mput_put, mset_get, mset_int, mset_let, mputL_get, mputL_arr, mputL_let, mputL_put, i64_8, mLen, n1]; exact this
      refine m_through (ow := ow2) (ms := mset ms1 19 (960 + i) (nn v1)) w hul ?_ ?_ g5 (by omega) (fun ms2 k1 k2 k3 k4 => ?_)
      · rw [mset_get, if_neg (by omega), g1.2 13 _ (by omega)]; exact h13' _ hul
      · rw [mset_get, if_neg (by omega), g1.2 43 _ (by omega)]; exact h43' _ hul
      generalize hv2 : (thr R.1.length (fstN R.2) (wyE R) u.2 ow2).1 = v2
      generalize how3 : (thr R.1.length (fstN R.2) (wyE R) u.2 ow2).2 = ow3 at k4
      simp [bX2_lead_159, o_ic, o_lc, o_null, o_il, o_ll, o_al, o_dup, o_pop, o_dup_x1, o_dup2, o_iadd, o_isub, o_imul, o_iand, o_ior, o_ixor, o_ishl, o_ishr, o_idiv, o_irem, o_ineg, o_ladd, o_lsub, o_lmul, o_land, o_lor, o_lxor, o_ldiv, o_lrem, o_lneg, o_lcmp, o_i2l, o_l2i, o_i2b, o_i2c, o_iushr, o_lshl, o_lshr, o_if_eq, o_if_ne, o_if_lt, o_if_ge, o_if_gt, o_if_le, o_icmp_eq, o_icmp_ne, o_icmp_lt, o_icmp_ge, o_icmp_gt, o_icmp_le, o_ifnull, o_ifnonnull, o_acmp_eq, o_acmp_ne, o_is, o_ls, o_as, o_iinc, o_kill, o_sw, o_ireturn, o_zreturn, o_nreturn, o_lreturn, o_areturn, o_return, o_athrow, o_call, entP, lg_sl, Value.category, st1, st2, List.set, List.getElem?_cons_zero, List.getElem?_cons_succ, List.foldl, popN, aft, o_mg, o_mgl, o_mga, o_mp, o_mpz, o_mpl, o_mia, o_mis, o_mbs, o_mc, mput_get, mput_arr, mput_let, mput_put, mset_get, mset_int, mset_let, mputL_get, mputL_arr, mputL_let, mputL_put, i64_8, mLen, vpL, nn_addL, nn_addR, nn_mulL, nn_add, nn_mul, nn_eqL, nn_ltL, nn_leL, nn_Llt, nn_Lle, nn_lt, nn_le, nn_eq, nn_in, nn_clamp, nn_succ, nn_pos, nn_neg1, b3, b4]
      refine on _ ?_ ?_ ?_
      · have hl : ldx R.1.length (fstN R.2) (wyE R) i x.2 ow = ((some v1, some v2), ow3) := by
          unfold ldx; rw [if_neg (by omega), ht]; simp only; rw [hv1, how2, hv2, how3]
        rw [hl]
        refine LdI.set2 ⟨f1, f2, f3, f4⟩ hi ?_ ?_ ?_ ?_
        · refine FrG.set (FrG.trans (FrG.set (g1.mono (fun _ q => q) (fun j i q => by omega)) ?_) (k1.mono (fun _ q => q) (fun j i q => by omega))) ?_
          · exact Or.inr (Or.inl ⟨Or.inl rfl, rfl⟩)
          · exact Or.inr (Or.inl ⟨Or.inr rfl, rfl⟩)
        · rw [mset_get, if_neg (by omega), k1.2 19 _ (by omega)]; simp [mput_get, mput_arr, mput_let, mput_put, mset_get, mset_int, mset_let, mputL_get, mputL_arr, mputL_let, mputL_put, i64_8, mLen, onn]
        · simp [mput_get, mput_arr, mput_let, mput_put, mset_get, mset_int, mset_let, mputL_get, mputL_arr, mputL_let, mputL_put, i64_8, mLen, onn]
        · refine ⟨by simp [mput_get, mput_arr, mput_let, mput_put, mset_get, mset_int, mset_let, mputL_get, mputL_arr, mputL_let, mputL_put, i64_8, mLen]; exact k4.1, fun j b hj => ?_⟩
          have := k4.2 j b hj
          unfold OwM at this ⊢
          have n1 : ¬ (960 + R.1.length + j = 960 + i) := by omega
          simp [mput_get, mput_arr, mput_let, mput_put, mset_get, mset_int, mset_let, mputL_get, mputL_arr, mputL_let, mputL_put, i64_8, mLen, n1]; exact this
      · show ms2.1 = ms.1
        rw [k2]; exact g2
      · show ms2.2.1 = ms.2.1
        rw [k3]; exact g3
    · have hT0 : iT x.2 = [] := hok.2.2.2.2.2.2.2.2.2.2.1 (by omega) (by omega)
      rw [hT0] at c5 c6
      simp only at c5 c6
      refine ⟨fun _ => ⟨fun h => ?_, fun h => by omega⟩, fun h => by omega⟩
      simp [bX2_lead_117, bX2_lead_159, o_ic, o_lc, o_null, o_il, o_ll, o_al, o_dup, o_pop, o_dup_x1, o_dup2, o_iadd, o_isub, o_imul, o_iand, o_ior, o_ixor, o_ishl, o_ishr, o_idiv, o_irem, o_ineg, o_ladd, o_lsub, o_lmul, o_land, o_lor, o_lxor, o_ldiv, o_lrem, o_lneg, o_lcmp, o_i2l, o_l2i, o_i2b, o_i2c, o_iushr, o_lshl, o_lshr, o_if_eq, o_if_ne, o_if_lt, o_if_ge, o_if_gt, o_if_le, o_icmp_eq, o_icmp_ne, o_icmp_lt, o_icmp_ge, o_icmp_gt, o_icmp_le, o_ifnull, o_ifnonnull, o_acmp_eq, o_acmp_ne, o_is, o_ls, o_as, o_iinc, o_kill, o_sw, o_ireturn, o_zreturn, o_nreturn, o_lreturn, o_areturn, o_return, o_athrow, o_call, entP, lg_sl, Value.category, st1, st2, List.set, List.getElem?_cons_zero, List.getElem?_cons_succ, List.foldl, popN, aft, o_mg, o_mgl, o_mga, o_mp, o_mpz, o_mpl, o_mia, o_mis, o_mbs, o_mc, mput_get, mput_arr, mput_let, mput_put, mset_get, mset_int, mset_let, mputL_get, mputL_arr, mputL_let, mputL_put, i64_8, mLen, vpL, nn_addL, nn_addR, nn_mulL, nn_add, nn_mul, nn_eqL, nn_ltL, nn_leL, nn_Llt, nn_Lle, nn_lt, nn_le, nn_eq, nn_in, nn_clamp, nn_succ, nn_pos, nn_neg1, b3, b4, c1, bk, hk]
      refine on _ ?_ rfl rfl
      have hl : ldx R.1.length (fstN R.2) (wyE R) i x.2 ow = ((none, none), ow) := by unfold ldx; rw [if_neg (by omega), hT0]
      rw [hl]
      exact LdI.set2 ⟨f1, f2, f3, f4⟩ hi FrG.rfl9 c5 c6 f4
theorem x_lead {mo : Nat} {Q : Ret MS} {ms : MS} {R : Rt} (w : WfR R) (hR : RdM ms R.1 R.2) (hs : (sms R.1).length ≤ 32) (hT : ∀ x ∈ R.1, ∀ t ∈ iT x.2, t.2 < R.2.length)
    (k : ∀ ms', FrG PB [] ms ms' → ms'.1 = ms.1 → ms'.2.1 = ms.2.1 → NwM ms' R → Q (.inl none) ms') : pX2_lead mo [.ref mo] ms Q := by
  have l1 := w.1
  have l2 := w.2.1
  have b0 : R.1.length < 2147483648 := by omega
  have b00 : R.2.length < 2147483648 := by omega
  have hE := RdM.EM hR w
  have hTe : ∀ a t, a < R.2.length → egT R a t → t < 40 := by
    intro a t ha hat
    obtain ⟨g1, g2, g3, g4⟩ := end_get w ha
    have hm := List.mem_of_getElem? g1
    rcases hat with q | q
    · unfold et1 at q
      rw [Option.map_eq_some_iff] at q
      obtain ⟨x, hx1, hx2⟩ := q
      have := hT _ hm x (List.mem_of_getElem? hx1); omega
    · unfold et2 at q
      rw [Option.map_eq_some_iff] at q
      obtain ⟨x, hx1, hx2⟩ := q
      have := hT _ hm x (List.mem_of_getElem? hx1); omega
  simp [pX2_lead, bX2_lead_0, o_ic, o_lc, o_null, o_il, o_ll, o_al, o_dup, o_pop, o_dup_x1, o_dup2, o_iadd, o_isub, o_imul, o_iand, o_ior, o_ixor, o_ishl, o_ishr, o_idiv, o_irem, o_ineg, o_ladd, o_lsub, o_lmul, o_land, o_lor, o_lxor, o_ldiv, o_lrem, o_lneg, o_lcmp, o_i2l, o_l2i, o_i2b, o_i2c, o_iushr, o_lshl, o_lshr, o_if_eq, o_if_ne, o_if_lt, o_if_ge, o_if_gt, o_if_le, o_icmp_eq, o_icmp_ne, o_icmp_lt, o_icmp_ge, o_icmp_gt, o_icmp_le, o_ifnull, o_ifnonnull, o_acmp_eq, o_acmp_ne, o_is, o_ls, o_as, o_iinc, o_kill, o_sw, o_ireturn, o_zreturn, o_nreturn, o_lreturn, o_areturn, o_return, o_athrow, o_call, entP, lg_sl, Value.category, st1, st2, List.set, List.getElem?_cons_zero, List.getElem?_cons_succ, List.foldl, popN, aft, o_mg, o_mgl, o_mga, o_mp, o_mpz, o_mpl, o_mia, o_mis, o_mbs, o_mc, mput_get, mput_arr, mput_let, mput_put, mset_get, mset_int, mset_let, mputL_get, mputL_arr, mputL_let, mputL_put, i64_8, mLen, vpL, nn_addL, nn_addR, nn_mulL, nn_add, nn_mul, nn_eqL, nn_ltL, nn_leL, nn_Llt, nn_Lle, nn_lt, nn_le, nn_eq, nn_in, nn_clamp, nn_succ, nn_pos, nn_neg1, hR.1]
  generalize hm1 : mset ms 11 4 (nn R.1.length) = ms1
  have fr1 : FrG (fun j i => j = 11 ∧ i = 4) [] ms ms1 := by rw [← hm1]; exact FrG.rfl9.set ⟨rfl, rfl⟩
  have e11 : ms1.2.2 11 4 = nn R.1.length := by rw [← hm1]; simp [mput_get, mput_arr, mput_let, mput_put, mset_get, mset_int, mset_let, mputL_get, mputL_arr, mputL_let, mputL_put, i64_8, mLen]
  have hE1 : EM ms1 R := by
    obtain ⟨a1, a2, a3⟩ := hE
    refine ⟨by rw [fr1.2 9 _ (by omega)]; exact a1, by rw [fr1.2 10 _ (by omega)]; exact a2, fun b hb => ?_⟩
    rw [fr1.2 13 _ (by omega), fr1.2 14 _ (by omega), fr1.2 15 _ (by omega), fr1.2 19 _ (by omega), fr1.2 20 _ (by omega)]; exact a3 b hb
  unfold bX2_lead_14
  intro X hX
  have hind : ∀ r b ρ, b + r = R.2.length → (∀ j, j < b → ρ j = nn (wyE R j)) → X [some (.ref mo), some (.int (nn b)), none, none] [] (msA ms1 43 ρ) := by
    intro r
    induction r with
    | zero =>
      intro b ρ e hρ
      apply hX
      have b1 : b < 2147483648 := by omega
      have b3 : R.2.length ≤ b := by omega
      have b4 : ¬ b < R.2.length := by omega
      simp [bX2_lead_41, o_ic, o_lc, o_null, o_il, o_ll, o_al, o_dup, o_pop, o_dup_x1, o_dup2, o_iadd, o_isub, o_imul, o_iand, o_ior, o_ixor, o_ishl, o_ishr, o_idiv, o_irem, o_ineg, o_ladd, o_lsub, o_lmul, o_land, o_lor, o_lxor, o_ldiv, o_lrem, o_lneg, o_lcmp, o_i2l, o_l2i, o_i2b, o_i2c, o_iushr, o_lshl, o_lshr, o_if_eq, o_if_ne, o_if_lt, o_if_ge, o_if_gt, o_if_le, o_icmp_eq, o_icmp_ne, o_icmp_lt, o_icmp_ge, o_icmp_gt, o_icmp_le, o_ifnull, o_ifnonnull, o_acmp_eq, o_acmp_ne, o_is, o_ls, o_as, o_iinc, o_kill, o_sw, o_ireturn, o_zreturn, o_nreturn, o_lreturn, o_areturn, o_return, o_athrow, o_call, entP, lg_sl, Value.category, st1, st2, List.set, List.getElem?_cons_zero, List.getElem?_cons_succ, List.foldl, popN, aft, o_mg, o_mgl, o_mga, o_mp, o_mpz, o_mpl, o_mia, o_mis, o_mbs, o_mc, mput_get, mput_arr, mput_let, mput_put, mset_get, mset_int, mset_let, mputL_get, mputL_arr, mputL_let, mputL_put, i64_8, mLen, vpL, nn_addL, nn_addR, nn_mulL, nn_add, nn_mul, nn_eqL, nn_ltL, nn_leL, nn_Llt, nn_Lle, nn_lt, nn_le, nn_eq, nn_in, nn_clamp, nn_succ, nn_pos, nn_neg1, msA_get, msA_int, msA_let, mset_msA, upd9_get, hE1.1, hE1.2.1, b1, b00, b3, b4]
      refine x_leadloop (m0 := msA ms1 43 ρ) w (fun j x hx => ?_) (fun b hb => ?_) (fun b hb => ?_) hT (fun ms2 h2 h3 h4 => ?_) R.1 0 (msA ms1 43 ρ) [] [] (by simp) (fun j => by simp) ⟨FrG.rfl9, rfl, fun j t h => by simp at h, by simp [msA_get, msA_int, msA_let, mset_msA, upd9_get]; exact hE1.2.1, fun j b h => by simp at h⟩ (fun _ _ => by simp) rfl rfl ⟨rfl, rfl⟩
      · exact (hR.2.2.1 j x hx).fr (fun i i1 i2 => by rw [msA_get, if_neg (by omega), fr1.2 i _ (by omega)])
      · rw [msA_get, if_neg (by omega)]; exact (hE1.2.2 b hb).1
      · rw [msA_get, if_pos rfl]; exact hρ b (by omega)
      · obtain ⟨a1, a2, a3, a4⟩ := h2
        have fr2 : FrG PB [] ms ms2 := by
          refine FrG.trans (fr1.mono (fun _ q => q) (fun j i q => by unfold PB; omega)) (FrG.trans ?_ (a1.mono (fun _ q => q) (fun j i q => by unfold PB; omega)))
          exact ⟨fun _ _ _ => rfl, fun j i hn => by rw [msA_get, if_neg (by unfold PB at hn; omega)]⟩
        have up : ∀ j i, j ≠ 43 → ¬ ((j = 10 ∧ i = 4) ∨ ((j = 19 ∨ j = 20) ∧ 960 ≤ i ∧ i < 960 + R.1.length) ∨ ((15 ≤ j ∧ j ≤ 20) ∧ 960 + R.1.length ≤ i)) → ms2.2.2 j i = ms1.2.2 j i := fun j i q1 q2 => by rw [a1.2 j i q2, msA_get, if_neg q1]
        refine k ms2 fr2 (h3.trans (by rw [← hm1]; rfl)) (h4.trans (by rw [← hm1]; rfl)) ⟨?_, ?_, ?_, ?_, ?_, ?_⟩
        · rw [up 9 4 (by omega) (by omega)]; exact hE1.1
        · rw [a4.1, nds_len]
        · rw [up 11 4 (by omega) (by omega)]; exact e11
        · intro b hb; rw [up 13 _ (by omega) (by omega)]; exact (hE1.2.2 b hb).1
        · intro j x hx
          by_cases cj : j < R.1.length
          · rw [nds_lt cj] at hx
            have hx' := Option.some.inj hx
            have hg : R.1[j]? = some (R.1.getD j fit0) := by rw [List.getD_eq_getElem?_getD, List.getElem?_eq_getElem cj]; rfl
            have hg2 : (ledR R).1[j]? = some ((ledR R).1.getD j (none, none)) := by rw [List.getD_eq_getElem?_getD, List.getElem?_eq_getElem (by rw [ledR_len]; exact cj)]; rfl
            obtain ⟨c1, c2, c3, c4, c5, c6, c7, c8, c9⟩ := hR.2.2.1 j _ hg
            obtain ⟨d1, d2⟩ := a3 j _ hg2
            have e : ∀ i, 15 ≤ i → i ≤ 25 → i ≠ 19 → i ≠ 20 → ms2.2.2 i (960 + j) = ms.2.2 i (960 + j) := fun i i1 i2 i3 i4 => by rw [up i _ (by omega) (by omega), fr1.2 i _ (by omega)]
            subst hx'
            unfold NdM nd1 nK nB nNm nSm nT1 nT2 nOa nOb nRw
            simp only
            rw [e 15 (by omega) (by omega) (by omega) (by omega), e 16 (by omega) (by omega) (by omega) (by omega), e 17 (by omega) (by omega) (by omega) (by omega), e 18 (by omega) (by omega) (by omega) (by omega), e 21 (by omega) (by omega) (by omega) (by omega), e 22 (by omega) (by omega) (by omega) (by omega), e 23 (by omega) (by omega) (by omega) (by omega), e 24 (by omega) (by omega) (by omega) (by omega), e 25 (by omega) (by omega) (by omega) (by omega)]
            refine ⟨c1, c2, c3, ?_, d1, d2, c7, c8, c9⟩
            rw [c4]
            cases hs2 : iS (R.1.getD j fit0).2 with
            | none => rfl
            | some s =>
              have hms := sms_mem (List.mem_of_getElem? hg) hs2
              have := List.idxOf_lt_length_of_mem hms
              simp only [Option.map, onn, smI]
              rw [Nat.min_eq_left (by omega)]
          · rw [nds_ge (by omega)] at hx
            rw [Option.map_eq_some_iff] at hx
            obtain ⟨b', hb1, hb2⟩ := hx
            have := a4.2 _ _ hb1
            rw [show 960 + R.1.length + (j - R.1.length) = 960 + j by omega] at this
            obtain ⟨o1, o2, o3, o4, o5, o6⟩ := this
            subst hb2
            unfold NdM nd7 nK nB nNm nSm nT1 nT2 nOa nOb nRw
            simp only
            refine ⟨o1, o2, o3, o4, o5, o6, fun q => by simp at q, fun q => by simp at q, fun q => by simp at q⟩
        · obtain ⟨s1, s2, s3⟩ := hR.2.2.2.2.1
          refine ⟨?_, ?_, fun e s he hs' => ?_⟩
          · rw [up 12 4 (by omega) (by omega), fr1.2 12 _ (by omega)]; exact s1
          · rw [h3]; show ms1.1 38 = _; rw [← hm1]; exact s2
          · have e' : ∀ j, 26 ≤ j → j ≤ 30 → ms2.2.2 j (128 + e) = ms.2.2 j (128 + e) := fun j j1 j2 => by rw [up j _ (by omega) (by omega), fr1.2 j _ (by omega)]
            rw [e' 26 (by omega) (by omega), e' 27 (by omega) (by omega), e' 28 (by omega) (by omega), e' 29 (by omega) (by omega), e' 30 (by omega) (by omega)]; exact s3 e s he hs'
    | succ r ih =>
      intro b ρ e hρ
      apply hX
      have hb : b < R.2.length := by omega
      have b1 : b < 2147483648 := by omega
      have b4 : ¬ R.2.length ≤ b := by omega
      have b5 : b < 40 := by omega
      simp [o_ic, o_lc, o_null, o_il, o_ll, o_al, o_dup, o_pop, o_dup_x1, o_dup2, o_iadd, o_isub, o_imul, o_iand, o_ior, o_ixor, o_ishl, o_ishr, o_idiv, o_irem, o_ineg, o_ladd, o_lsub, o_lmul, o_land, o_lor, o_lxor, o_ldiv, o_lrem, o_lneg, o_lcmp, o_i2l, o_l2i, o_i2b, o_i2c, o_iushr, o_lshl, o_lshr, o_if_eq, o_if_ne, o_if_lt, o_if_ge, o_if_gt, o_if_le, o_icmp_eq, o_icmp_ne, o_icmp_lt, o_icmp_ge, o_icmp_gt, o_icmp_le, o_ifnull, o_ifnonnull, o_acmp_eq, o_acmp_ne, o_is, o_ls, o_as, o_iinc, o_kill, o_sw, o_ireturn, o_zreturn, o_nreturn, o_lreturn, o_areturn, o_return, o_athrow, o_call, entP, lg_sl, Value.category, st1, st2, List.set, List.getElem?_cons_zero, List.getElem?_cons_succ, List.foldl, popN, aft, o_mg, o_mgl, o_mga, o_mp, o_mpz, o_mpl, o_mia, o_mis, o_mbs, o_mc, mput_get, mput_arr, mput_let, mput_put, mset_get, mset_int, mset_let, mputL_get, mputL_arr, mputL_let, mputL_put, i64_8, mLen, vpL, nn_addL, nn_addR, nn_mulL, nn_add, nn_mul, nn_eqL, nn_ltL, nn_leL, nn_Llt, nn_Lle, nn_lt, nn_le, nn_eq, nn_in, nn_clamp, nn_succ, nn_pos, nn_neg1, msA_get, msA_int, msA_let, mset_msA, upd9_get, hE1.1, b1, b00, hb, b4]
      refine m_waysTo w (hE1.fr (fun j hj => by funext i; rw [msA_get, if_neg (by omega)])) b1 hTe ?_
      simp [o_ic, o_lc, o_null, o_il, o_ll, o_al, o_dup, o_pop, o_dup_x1, o_dup2, o_iadd, o_isub, o_imul, o_iand, o_ior, o_ixor, o_ishl, o_ishr, o_idiv, o_irem, o_ineg, o_ladd, o_lsub, o_lmul, o_land, o_lor, o_lxor, o_ldiv, o_lrem, o_lneg, o_lcmp, o_i2l, o_l2i, o_i2b, o_i2c, o_iushr, o_lshl, o_lshr, o_if_eq, o_if_ne, o_if_lt, o_if_ge, o_if_gt, o_if_le, o_icmp_eq, o_icmp_ne, o_icmp_lt, o_icmp_ge, o_icmp_gt, o_icmp_le, o_ifnull, o_ifnonnull, o_acmp_eq, o_acmp_ne, o_is, o_ls, o_as, o_iinc, o_kill, o_sw, o_ireturn, o_zreturn, o_nreturn, o_lreturn, o_areturn, o_return, o_athrow, o_call, entP, lg_sl, Value.category, st1, st2, List.set, List.getElem?_cons_zero, List.getElem?_cons_succ, List.foldl, popN, aft, o_mg, o_mgl, o_mga, o_mp, o_mpz, o_mpl, o_mia, o_mis, o_mbs, o_mc, mput_get, mput_arr, mput_let, mput_put, mset_get, mset_int, mset_let, mputL_get, mputL_arr, mputL_let, mputL_put, i64_8, mLen, vpL, nn_addL, nn_addR, nn_mulL, nn_add, nn_mul, nn_eqL, nn_ltL, nn_leL, nn_Llt, nn_Lle, nn_lt, nn_le, nn_eq, nn_in, nn_clamp, nn_succ, nn_pos, nn_neg1, msA_get, msA_int, msA_let, mset_msA, upd9_get, b1, b5]
      refine ih (b + 1) _ (by omega) (fun j hj => ?_)
      rw [upd9_get]
      by_cases ej : j = b
      · rw [if_pos ej, ej]
      · rw [if_neg ej]; exact hρ j (by omega)
  have := hind R.2.length 0 (ms1.2.2 43) (by omega) (fun j hj => by omega)
  rw [msA_self] at this
  exact this
