/-! THE SPEC of what is checked behind all else; the Model's ends -/
set_option maxRecDepth 100000
def upd9 (ρ : Nat → Int32) (i : Nat) (x : Int32) : Nat → Int32 := fun j => if j = i then x else ρ j
theorem upd9_get (ρ : Nat → Int32) (i j : Nat) (x : Int32) : upd9 ρ i x j = if j = i then x else ρ j := rfl
/-- an array of the Model as a whole -/
def msA (ms : MS) (k : Nat) (ρ : Nat → Int32) : MS := (ms.1, ms.2.1, fun j n => if j = k then ρ n else ms.2.2 j n)
theorem msA_get (ms : MS) (k j n : Nat) (ρ : Nat → Int32) : (msA ms k ρ).2.2 j n = if j = k then ρ n else ms.2.2 j n := rfl
theorem msA_int (ms : MS) (k : Nat) (ρ : Nat → Int32) : (msA ms k ρ).1 = ms.1 := rfl
theorem msA_let (ms : MS) (k : Nat) (ρ : Nat → Int32) : (msA ms k ρ).2.1 = ms.2.1 := rfl
theorem mset_msA (ms : MS) (k i : Nat) (ρ : Nat → Int32) (x : Int32) : mset (msA ms k ρ) k i x = msA ms k (upd9 ρ i x) := by
  unfold mset msA upd9
  ext j n
  · rfl
  · rfl
  · simp only
    by_cases h : j = k
    · by_cases h2 : n = i
      · simp [h, h2]
      · simp [h, h2]
    · simp [h]
theorem msA_self (ms : MS) (k : Nat) : msA ms k (ms.2.2 k) = ms := by
  unfold msA
  ext j n
  · rfl
  · rfl
  · simp only
    split
    · next h => rw [h]
    · rfl
theorem msA_msA (ms : MS) (k : Nat) (ρ ρ' : Nat → Int32) : msA (msA ms k ρ) k ρ' = msA ms k ρ' := by
  unfold msA
  ext j n
  · rfl
  · rfl
  · simp only
    split <;> rfl
noncomputable def b9 (p : Prop) : Bool := @decide p (Classical.propDecidable p)
theorem b9_iff {p : Prop} : b9 p = true ↔ p := @decide_eq_true_iff p (Classical.propDecidable p)
theorem b9_not {p : Prop} : b9 p = false ↔ ¬ p := by
  constructor
  · intro h q; rw [b9_iff.2 q] at h; cases h
  · intro h
    cases hb : b9 p with
    | false => rfl
    | true => exact absurd (b9_iff.1 hb) h
def fit0 : FIt := (0, (6, -1, 0, (0, 0), (0, 0), none, []))
def lastN (R : Rt) (b : Nat) : Nat := nxtN R b - 1
def endI (R : Rt) (b : Nat) : Itm := (R.1.getD (lastN R b) fit0).2
def et1 (R : Rt) (b : Nat) : Option Nat := (iT (endI R b))[0]?.map (·.2)
def et2 (R : Rt) (b : Nat) : Option Nat := (iT (endI R b))[1]?.map (·.2)
def egT (R : Rt) (b t : Nat) : Prop := et1 R b = some t ∨ et2 R b = some t
def Rch (R : Rt) (b : Nat) : Prop := ∀ S : Nat → Prop, S 0 → (∀ a t, a < R.2.length → S a → egT R a t → S t) → S b
def Lvs (R : Rt) (b : Nat) : Prop := ∀ S : Nat → Prop, (∀ a, a < R.2.length → (endI R a).1 = 6 → S a) → (∀ a t, a < R.2.length → egT R a t → S t → S a) → S b
def hdN (R : Rt) (b : Nat) : Nat := (R.2.getD b (0, 0)).1
noncomputable def chk (R : Rt) : Option Flt := match (nmz R.1).find? (fun x => x.2 == 0 || decide (R.2.length ≤ x.2)) with
  | some x => some (4, x.1)
  | none => match (List.range R.2.length).find? (fun b => b9 (¬ Rch R b)) with
    | some b => some (5, hdN R b)
    | none => match (List.range R.2.length).find? (fun b => b9 (¬ Lvs R b)) with
      | some b => some (6, hdN R b)
      | none => none
theorem end_get {R : Rt} (h : WfR R) {b : Nat} (hb : b < R.2.length) : R.1[lastN R b]? = some (b, endI R b) ∧ lastN R b < R.1.length ∧ 4 ≤ (endI R b).1 ∧ IOk (endI R b) := by
  obtain ⟨a1, a2, a3, a4, a5, a6⟩ := h
  have h3 := a3 b hb
  obtain ⟨it, hit⟩ := a6 b hb (lastN R b) (by unfold lastN; omega) (by unfold lastN; omega)
  have he : endI R b = it := by unfold endI; rw [List.getD_eq_getElem?_getD, hit]; rfl
  obtain ⟨u1, u2, u3, u4, u5⟩ := a5 _ _ hit
  rw [he]
  exact ⟨hit, by unfold lastN; omega, u4.2 (by simp only; unfold lastN; omega), u5⟩
/-- what ends sees of the routine -/
def EM (ms : MS) (R : Rt) : Prop := ms.2.2 9 4 = nn R.2.length ∧ ms.2.2 10 4 = nn R.1.length ∧ ∀ b, b < R.2.length → ms.2.2 13 (164 + b) = nn (fstN R.2 b) ∧ ms.2.2 14 (164 + b) = nn (hdN R b) ∧ ms.2.2 15 (960 + lastN R b) = nn (endI R b).1 ∧ ms.2.2 19 (960 + lastN R b) = onn (et1 R b) ∧ ms.2.2 20 (960 + lastN R b) = onn (et2 R b)
theorem RdM.EM {ms : MS} {R : Rt} (h : RdM ms R.1 R.2) (w : WfR R) : EM ms R := by
  obtain ⟨a1, a2, a3, a4, a5, a6, a7, a8⟩ := h
  refine ⟨a2, a1, fun b hb => ?_⟩
  obtain ⟨e1, e2, e3, e4⟩ := end_get w hb
  have hb' : R.2[b]? = some (R.2.getD b (0, 0)) := by rw [List.getD_eq_getElem?_getD, List.getElem?_eq_getElem hb]; rfl
  obtain ⟨q1, q2⟩ := a4 b _ hb'
  obtain ⟨c1, c2, c3, c4, c5, c6, -⟩ := a3 _ _ e1
  refine ⟨q2, q1, c1, ?_, ?_⟩
  · rw [c5]; unfold et1
    simp only
    cases iT (endI R b) with
    | nil => rfl
    | cons t r => rfl
  · rw [c6]; unfold et2
    simp only
    cases iT (endI R b) with
    | nil => rfl
    | cons t r => cases r <;> rfl
theorem EM.fr {ms ms' : MS} {R : Rt} (h : EM ms R) (e : ∀ k, k < 42 → ms'.2.2 k = ms.2.2 k) : EM ms' R := by
  obtain ⟨a1, a2, a3⟩ := h
  refine ⟨by rw [e 9 (by omega)]; exact a1, by rw [e 10 (by omega)]; exact a2, fun b hb => ?_⟩
  rw [e 13 (by omega), e 14 (by omega), e 15 (by omega), e 19 (by omega), e 20 (by omega)]; exact a3 b hb
theorem m_lastNode {mo : Nat} {Q : Ret MS} {ms : MS} {R : Rt} {b : Nat} (w : WfR R) (h : EM ms R) (hb : b < R.2.length) (k : Q (.inl (some (.int (nn (960 + lastN R b))))) ms) : pX2_lastNode mo [.ref mo, .int (nn b)] ms Q := by
  obtain ⟨a1, a2, a3⟩ := h
  have l1 := w.1
  have l2 := w.2.1
  have b1 : b + 1 < 2147483648 := by omega
  have b2 : R.2.length < 2147483648 := by omega
  have h3 := w.2.2.1 b hb
  simp [pX2_lastNode, bX2_lastNode_36, bX2_lastNode_30, bX2_lastNode_0, o_ic, o_lc, o_null, o_il, o_ll, o_al, o_dup, o_pop, o_dup_x1, o_dup2, o_iadd, o_isub, o_imul, o_iand, o_ior, o_ixor, o_ishl, o_ishr, o_idiv, o_irem, o_ineg, o_ladd, o_lsub, o_lmul, o_land, o_lor, o_lxor, o_ldiv, o_lrem, o_lneg, o_lcmp, o_i2l, o_l2i, o_i2b, o_i2c, o_iushr, o_lshl, o_lshr, o_if_eq, o_if_ne, o_if_lt, o_if_ge, o_if_gt, o_if_le, o_icmp_eq, o_icmp_ne, o_icmp_lt, o_icmp_ge, o_icmp_gt, o_icmp_le, o_ifnull, o_ifnonnull, o_acmp_eq, o_acmp_ne, o_is, o_ls, o_as, o_iinc, o_kill, o_sw, o_ireturn, o_zreturn, o_nreturn, o_lreturn, o_areturn, o_return, o_athrow, o_call, entP, lg_sl, Value.category, st1, st2, List.set, List.getElem?_cons_zero, List.getElem?_cons_succ, List.foldl, popN, aft, o_mg, o_mgl, o_mga, o_mp, o_mpz, o_mpl, o_mia, o_mis, o_mbs, o_mc, mput_get, mput_arr, mput_let, mput_put, mset_get, mset_int, mset_let, mputL_get, mputL_arr, mputL_let, mputL_put, i64_8, mLen, vpL, nn_addL, nn_addR, nn_mulL, nn_add, nn_mul, nn_eqL, nn_ltL, nn_leL, nn_Llt, nn_Lle, nn_lt, nn_le, nn_eq, nn_in, nn_clamp, nn_succ, nn_pos, nn_neg1, a1, b1, b2]
  unfold lastN nxtN at k
  unfold nxtN at h3
  by_cases c : b + 1 < R.2.length
  · rw [if_pos c] at k h3
    refine ⟨fun q => by omega, fun _ => ?_⟩
    have b3 : 164 + b + 1 < 2147483648 := by omega
    have b4 : 164 + b + 1 < 205 := by omega
    have e := (a3 (b + 1) c).1
    rw [← Nat.add_assoc] at e
    simp [vpL, nn_addL, nn_addR, nn_mulL, nn_add, nn_mul, nn_eqL, nn_ltL, nn_leL, nn_Llt, nn_Lle, nn_lt, nn_le, nn_eq, nn_in, nn_clamp, nn_succ, nn_pos, nn_neg1, b3, b4, e]
    rw [nn_pred (by omega), show 960 + fstN R.2 (b + 1) - 1 = 960 + (fstN R.2 (b + 1) - 1) by omega]
    exact k
  · rw [if_neg c] at k h3
    refine ⟨fun _ => ?_, fun q => by omega⟩
    simp [a2, vpL, nn_addL, nn_addR, nn_mulL, nn_add, nn_mul]
    rw [nn_pred (by omega), show 960 + R.1.length - 1 = 960 + (R.1.length - 1) by omega]
    exact k
theorem m_mark {mo : Nat} {Q : Ret MS} {ms : MS} {ρ : Nat → Int32} {o : Option Nat} (hρ : ∀ t, o = some t → ρ t = 0 ∨ ρ t = 1) (ho : ∀ t, o = some t → t < 40)
    (k1 : (∀ t, o = some t → ρ t = 1) → Q (.inl (some (.int 0))) (msA ms 42 ρ)) (k2 : ∀ t, o = some t → ρ t = 0 → Q (.inl (some (.int 1))) (msA ms 42 (upd9 ρ t 1))) : pX2_mark mo [.ref mo, .int (onn o)] (msA ms 42 ρ) Q := by
  cases o with
  | none =>
    simp [pX2_mark, bX2_mark_13, bX2_mark_15, bX2_mark_0, o_ic, o_lc, o_null, o_il, o_ll, o_al, o_dup, o_pop, o_dup_x1, o_dup2, o_iadd, o_isub, o_imul, o_iand, o_ior, o_ixor, o_ishl, o_ishr, o_idiv, o_irem, o_ineg, o_ladd, o_lsub, o_lmul, o_land, o_lor, o_lxor, o_ldiv, o_lrem, o_lneg, o_lcmp, o_i2l, o_l2i, o_i2b, o_i2c, o_iushr, o_lshl, o_lshr, o_if_eq, o_if_ne, o_if_lt, o_if_ge, o_if_gt, o_if_le, o_icmp_eq, o_icmp_ne, o_icmp_lt, o_icmp_ge, o_icmp_gt, o_icmp_le, o_ifnull, o_ifnonnull, o_acmp_eq, o_acmp_ne, o_is, o_ls, o_as, o_iinc, o_kill, o_sw, o_ireturn, o_zreturn, o_nreturn, o_lreturn, o_areturn, o_return, o_athrow, o_call, entP, lg_sl, Value.category, st1, st2, List.set, List.getElem?_cons_zero, List.getElem?_cons_succ, List.foldl, popN, aft, o_mg, o_mgl, o_mga, o_mp, o_mpz, o_mpl, o_mia, o_mis, o_mbs, o_mc, mput_get, mput_arr, mput_let, mput_put, mset_get, mset_int, mset_let, mputL_get, mputL_arr, mputL_let, mputL_put, i64_8, mLen, onn]
    exact k1 (fun t h => by cases h)
  | some t =>
    have ht := ho t rfl
    have b1 : t < 2147483648 := by omega
    simp [pX2_mark, bX2_mark_13, bX2_mark_15, bX2_mark_0, o_ic, o_lc, o_null, o_il, o_ll, o_al, o_dup, o_pop, o_dup_x1, o_dup2, o_iadd, o_isub, o_imul, o_iand, o_ior, o_ixor, o_ishl, o_ishr, o_idiv, o_irem, o_ineg, o_ladd, o_lsub, o_lmul, o_land, o_lor, o_lxor, o_ldiv, o_lrem, o_lneg, o_lcmp, o_i2l, o_l2i, o_i2b, o_i2c, o_iushr, o_lshl, o_lshr, o_if_eq, o_if_ne, o_if_lt, o_if_ge, o_if_gt, o_if_le, o_icmp_eq, o_icmp_ne, o_icmp_lt, o_icmp_ge, o_icmp_gt, o_icmp_le, o_ifnull, o_ifnonnull, o_acmp_eq, o_acmp_ne, o_is, o_ls, o_as, o_iinc, o_kill, o_sw, o_ireturn, o_zreturn, o_nreturn, o_lreturn, o_areturn, o_return, o_athrow, o_call, entP, lg_sl, Value.category, st1, st2, List.set, List.getElem?_cons_zero, List.getElem?_cons_succ, List.foldl, popN, aft, o_mg, o_mgl, o_mga, o_mp, o_mpz, o_mpl, o_mia, o_mis, o_mbs, o_mc, mput_get, mput_arr, mput_let, mput_put, mset_get, mset_int, mset_let, mputL_get, mputL_arr, mputL_let, mputL_put, i64_8, mLen, onn, vpL, nn_addL, nn_addR, nn_mulL, nn_add, nn_mul, nn_eqL, nn_ltL, nn_leL, nn_Llt, nn_Lle, nn_lt, nn_le, nn_eq, nn_in, nn_clamp, nn_succ, nn_pos, nn_neg1, msA_get, msA_int, msA_let, mset_msA, upd9_get, b1, ht]
    refine ⟨fun h => k2 t rfl h, fun h => k1 (fun t' h' => by cases h'; exact (hρ t rfl).resolve_left h)⟩
