/-! THE COMPONENT: what is checked behind all else -/
set_option maxRecDepth 100000
theorem b2i_01 (x : Bool) : b2i x 1 = 0 ∨ b2i x 1 = 1 := by cases x <;> decide
def BA (σ : AH) (A : Nat) (c : Nat → Bool) : Prop := hT σ A = 103 ∧ hL σ A = 40 ∧ ∀ i, i < 40 → hI σ A i = b2i (c i) 1
def CkS (κ : Nat → Option Nat) (σ σ' : AH) (A V : Nat) (c v : Nat → Bool) : Prop := HL κ NoM NoM 2 80 σ σ' ∧ BA σ' A c ∧ BA σ' V v ∧ hN σ ≤ A ∧ hN σ ≤ V ∧ A ≠ V
section CK
variable {κ : Nat → Option Nat} {Q : Ret AH} {σ σ' : AH} {A V : Nat} {c v : Nat → Bool}
theorem CkS.setA (h : CkS κ σ σ' A V c v) {i : Nat} (hi : i < 40) (x : Bool) : CkS κ σ (hsI σ' A i (b2i x 1)) A V (updB c i x) v := by
  obtain ⟨h1, h2, h3, h4, h5, h6⟩ := h
  refine ⟨h1.sI (Or.inr h4) h2.1 (by decide), ⟨h2.1, h2.2.1, fun j hj => ?_⟩, ⟨h3.1, h3.2.1, fun j hj => ?_⟩, h4, h5, h6⟩
  · rw [hI_sI]; unfold updB
    by_cases e : j = i
    · rw [if_pos ⟨rfl, e⟩, if_pos e]
    · rw [if_neg (fun q => e q.2), if_neg e]; exact h2.2.2 j hj
  · rw [hI_sI, if_neg (fun q => h6 q.1.symm)]; exact h3.2.2 j hj
theorem CkS.setV (h : CkS κ σ σ' A V c v) {i : Nat} (hi : i < 40) (x : Bool) : CkS κ σ (hsI σ' V i (b2i x 1)) A V c (updB v i x) := by
  obtain ⟨h1, h2, h3, h4, h5, h6⟩ := h
  refine ⟨h1.sI (Or.inr h5) h3.1 (by decide), ⟨h2.1, h2.2.1, fun j hj => ?_⟩, ⟨h3.1, h3.2.1, fun j hj => ?_⟩, h4, h5, h6⟩
  · rw [hI_sI, if_neg (fun q => h6 q.1)]; exact h2.2.2 j hj
  · rw [hI_sI]; unfold updB
    by_cases e : j = i
    · rw [if_pos ⟨rfl, e⟩, if_pos e]
    · rw [if_neg (fun q => e q.2), if_neg e]; exact h3.2.2 j hj
/-- the ways of an end, one after the other -/
def fwC (b : Nat) : List (Nat × Nat) → (Nat → Bool) → Nat → Bool
  | [], c => c
  | t :: ts, c => fwC b ts (updB c t.2 (c t.2 || c b))
def fwV (b : Nat) : List (Nat × Nat) → (Nat → Bool) → Nat → Bool
  | [], v => v
  | t :: ts, v => fwV b ts (updB v b (v b || v t.2))
theorem ck_ways {R : Rt} {rd b k : Nat} {wss : List (Nat × List Nat)} {J102 J111 : Cont AH} (hk : Hok κ σ) (hE : EndA σ R b (eA wss b)) (hb : b < 40) (ht : ∀ t ∈ iT (endI R b), t.2 < 40) (hS : CkS κ σ σ' A V c v)
    (kk : ∀ σ2, CkS κ σ σ2 A V (fwC b (iT (endI R b)) c) (fwV b (iT (endI R b)) v) → J111 [some (.ref rd), some (.ref A), some (.ref V), some (.int (nn k)), some (.int (nn (b + 1))), none, none] [] σ2) :
    bX3_check_160 κ Q J102 J111 [some (.ref rd), some (.ref A), some (.ref V), some (.int (nn k)), some (.int (nn b)), some (.ref (eA wss b)), some (.int 0)] [] σ' := by
  unfold bX3_check_160
  intro X hX
  have hlen : (iT (endI R b)).length ≤ 2 := by
    obtain ⟨-, h2, h3, h4, h5, h6⟩ := hE
    have hc : (endI R b).1 = 4 ∨ (endI R b).1 = 5 ∨ (endI R b).1 = 6 := by omega
    rcases hc with z | z | z
    · obtain ⟨t, e, _⟩ := h4 z; rw [e]; simp
    · obtain ⟨t, u, e, _⟩ := h5 z; rw [e]; simp
    · rw [h6 z]; simp
  have main : ∀ m w (σ' : AH) c v, w + m = (iT (endI R b)).length → CkS κ σ σ' A V c v → (∀ σ2, CkS κ σ σ2 A V (fwC b ((iT (endI R b)).drop w) c) (fwV b ((iT (endI R b)).drop w) v) → J111 [some (.ref rd), some (.ref A), some (.ref V), some (.int (nn k)), some (.int (nn (b + 1))), none, none] [] σ2) → X [some (.ref rd), some (.ref A), some (.ref V), some (.int (nn k)), some (.int (nn b)), some (.ref (eA wss b)), some (.int (nn w))] [] σ' := by
    intro m
    induction m with
    | zero =>
      intro w σ' c v hw hS kk
      apply hX
      have b1 : w < 2147483648 := by omega
      have b2 : (iT (endI R b)).length < 2147483648 := by omega
      have le : (iT (endI R b)).length ≤ w := by omega
      simp [o_ic, o_lc, o_null, o_il, o_ll, o_al, o_dup, o_pop, o_dup_x1, o_dup2, o_iadd, o_isub, o_imul, o_iand, o_ior, o_ixor, o_ishl, o_ishr, o_idiv, o_irem, o_ineg, o_ladd, o_lsub, o_lmul, o_land, o_lor, o_lxor, o_ldiv, o_lrem, o_lneg, o_lcmp, o_i2l, o_l2i, o_i2b, o_i2c, o_iushr, o_lshl, o_lshr, o_if_eq, o_if_ne, o_if_lt, o_if_ge, o_if_gt, o_if_le, o_icmp_eq, o_icmp_ne, o_icmp_lt, o_icmp_ge, o_icmp_gt, o_icmp_le, o_ifnull, o_ifnonnull, o_acmp_eq, o_acmp_ne, o_is, o_ls, o_as, o_iinc, o_kill, o_sw, o_ireturn, o_zreturn, o_nreturn, o_lreturn, o_areturn, o_return, o_athrow, o_call, entP, lg_sl, Value.category, st1, st2, List.set, List.getElem?_cons_zero, List.getElem?_cons_succ, List.foldl, popN, aft, o_gI, o_gR, o_pI, o_pN, o_pR, o_aI, o_aG, o_aR, o_len, o_aR8, o_sI, o_sB, o_sZ, o_sG, o_new, o_newA, o_cast, o_inst, o_cst, o_oi, o_sR, o_gIc, o_gSv, o_gSc, o_getc, o_dead, o_acopy, o_castA, o_castI, o_sR7, o_mna, o_mmax, o_mmin, o_mabs]
      refine ct_ways (hE.hl hk hS.1 id) ?_
      simp [o_ic, o_lc, o_null, o_il, o_ll, o_al, o_dup, o_pop, o_dup_x1, o_dup2, o_iadd, o_isub, o_imul, o_iand, o_ior, o_ixor, o_ishl, o_ishr, o_idiv, o_irem, o_ineg, o_ladd, o_lsub, o_lmul, o_land, o_lor, o_lxor, o_ldiv, o_lrem, o_lneg, o_lcmp, o_i2l, o_l2i, o_i2b, o_i2c, o_iushr, o_lshl, o_lshr, o_if_eq, o_if_ne, o_if_lt, o_if_ge, o_if_gt, o_if_le, o_icmp_eq, o_icmp_ne, o_icmp_lt, o_icmp_ge, o_icmp_gt, o_icmp_le, o_ifnull, o_ifnonnull, o_acmp_eq, o_acmp_ne, o_is, o_ls, o_as, o_iinc, o_kill, o_sw, o_ireturn, o_zreturn, o_nreturn, o_lreturn, o_areturn, o_return, o_athrow, o_call, entP, lg_sl, Value.category, st1, st2, List.set, List.getElem?_cons_zero, List.getElem?_cons_succ, List.foldl, popN, aft, o_gI, o_gR, o_pI, o_pN, o_pR, o_aI, o_aG, o_aR, o_len, o_aR8, o_sI, o_sB, o_sZ, o_sG, o_new, o_newA, o_cast, o_inst, o_cst, o_oi, o_sR, o_gIc, o_gSv, o_gSc, o_getc, o_dead, o_acopy, o_castA, o_castI, o_sR7, o_mna, o_mmax, o_mmin, o_mabs, nn_eqL, nn_ltL, nn_leL, nn_Llt, nn_Lle, nn_lt, nn_le, nn_eq, nn_in, nn_clamp, nn_succ, nn_pos, nn_neg1, b1, b2, le, bX3_check_208, nn_succ]
      rw [List.drop_of_length_le le] at kk
      exact kk σ' hS
    | succ m ih =>
      intro w σ' c v hw hS kk
      apply hX
      have b1 : w < 2147483648 := by omega
      have b2 : (iT (endI R b)).length < 2147483648 := by omega
      have hwl : w < (iT (endI R b)).length := by omega
      have nle : ¬ (iT (endI R b)).length ≤ w := by omega
      have hg : (iT (endI R b))[w]? = some (iT (endI R b))[w] := List.getElem?_eq_getElem hwl
      have hd : (iT (endI R b)).drop w = (iT (endI R b))[w] :: (iT (endI R b)).drop (w + 1) := List.drop_eq_getElem_cons hwl
      rw [hd] at kk
      have htm := ht _ (List.getElem_mem hwl)
      generalize (iT (endI R b))[w] = t at hg kk htm
      have bt : t.2 < 2147483648 := by omega
      have bb : b < 2147483648 := by omega
      obtain ⟨G1, G2, G3, G4, G5, G6⟩ := id hS
      have hE' := hE.hl hk G1 id
      simp [o_ic, o_lc, o_null, o_il, o_ll, o_al, o_dup, o_pop, o_dup_x1, o_dup2, o_iadd, o_isub, o_imul, o_iand, o_ior, o_ixor, o_ishl, o_ishr, o_idiv, o_irem, o_ineg, o_ladd, o_lsub, o_lmul, o_land, o_lor, o_lxor, o_ldiv, o_lrem, o_lneg, o_lcmp, o_i2l, o_l2i, o_i2b, o_i2c, o_iushr, o_lshl, o_lshr, o_if_eq, o_if_ne, o_if_lt, o_if_ge, o_if_gt, o_if_le, o_icmp_eq, o_icmp_ne, o_icmp_lt, o_icmp_ge, o_icmp_gt, o_icmp_le, o_ifnull, o_ifnonnull, o_acmp_eq, o_acmp_ne, o_is, o_ls, o_as, o_iinc, o_kill, o_sw, o_ireturn, o_zreturn, o_nreturn, o_lreturn, o_areturn, o_return, o_athrow, o_call, entP, lg_sl, Value.category, st1, st2, List.set, List.getElem?_cons_zero, List.getElem?_cons_succ, List.foldl, popN, aft, o_gI, o_gR, o_pI, o_pN, o_pR, o_aI, o_aG, o_aR, o_len, o_aR8, o_sI, o_sB, o_sZ, o_sG, o_new, o_newA, o_cast, o_inst, o_cst, o_oi, o_sR, o_gIc, o_gSv, o_gSc, o_getc, o_dead, o_acopy, o_castA, o_castI, o_sR7, o_mna, o_mmax, o_mmin, o_mabs]
      refine ct_ways hE' ?_
      simp [o_ic, o_lc, o_null, o_il, o_ll, o_al, o_dup, o_pop, o_dup_x1, o_dup2, o_iadd, o_isub, o_imul, o_iand, o_ior, o_ixor, o_ishl, o_ishr, o_idiv, o_irem, o_ineg, o_ladd, o_lsub, o_lmul, o_land, o_lor, o_lxor, o_ldiv, o_lrem, o_lneg, o_lcmp, o_i2l, o_l2i, o_i2b, o_i2c, o_iushr, o_lshl, o_lshr, o_if_eq, o_if_ne, o_if_lt, o_if_ge, o_if_gt, o_if_le, o_icmp_eq, o_icmp_ne, o_icmp_lt, o_icmp_ge, o_icmp_gt, o_icmp_le, o_ifnull, o_ifnonnull, o_acmp_eq, o_acmp_ne, o_is, o_ls, o_as, o_iinc, o_kill, o_sw, o_ireturn, o_zreturn, o_nreturn, o_lreturn, o_areturn, o_return, o_athrow, o_call, entP, lg_sl, Value.category, st1, st2, List.set, List.getElem?_cons_zero, List.getElem?_cons_succ, List.foldl, popN, aft, o_gI, o_gR, o_pI, o_pN, o_pR, o_aI, o_aG, o_aR, o_len, o_aR8, o_sI, o_sB, o_sZ, o_sG, o_new, o_newA, o_cast, o_inst, o_cst, o_oi, o_sR, o_gIc, o_gSv, o_gSc, o_getc, o_dead, o_acopy, o_castA, o_castI, o_sR7, o_mna, o_mmax, o_mmin, o_mabs, nn_eqL, nn_ltL, nn_leL, nn_Llt, nn_Lle, nn_lt, nn_le, nn_eq, nn_in, nn_clamp, nn_succ, nn_pos, nn_neg1, b1, b2, nle]
      refine ct_way hE' hg ?_
      have S1 := hS.setA (i := t.2) htm (c t.2 || c b)
      have S2 := S1.setV (i := b) hb (v b || v t.2)
      have GV : hT σ' V = 103 := G3.1
      obtain ⟨K1, K2, K3, -⟩ := id S1
      have hE2 := hE.hl hk K1 id
      simp [o_ic, o_lc, o_null, o_il, o_ll, o_al, o_dup, o_pop, o_dup_x1, o_dup2, o_iadd, o_isub, o_imul, o_iand, o_ior, o_ixor, o_ishl, o_ishr, o_idiv, o_irem, o_ineg, o_ladd, o_lsub, o_lmul, o_land, o_lor, o_lxor, o_ldiv, o_lrem, o_lneg, o_lcmp, o_i2l, o_l2i, o_i2b, o_i2c, o_iushr, o_lshl, o_lshr, o_if_eq, o_if_ne, o_if_lt, o_if_ge, o_if_gt, o_if_le, o_icmp_eq, o_icmp_ne, o_icmp_lt, o_icmp_ge, o_icmp_gt, o_icmp_le, o_ifnull, o_ifnonnull, o_acmp_eq, o_acmp_ne, o_is, o_ls, o_as, o_iinc, o_kill, o_sw, o_ireturn, o_zreturn, o_nreturn, o_lreturn, o_areturn, o_return, o_athrow, o_call, entP, lg_sl, Value.category, st1, st2, List.set, List.getElem?_cons_zero, List.getElem?_cons_succ, List.foldl, popN, aft, o_gI, o_gR, o_pI, o_pN, o_pR, o_aI, o_aG, o_aR, o_len, o_aR8, o_sI, o_sB, o_sZ, o_sG, o_new, o_newA, o_cast, o_inst, o_cst, o_oi, o_sR, o_gIc, o_gSv, o_gSc, o_getc, o_dead, o_acopy, o_castA, o_castI, o_sR7, o_mna, o_mmax, o_mmin, o_mabs, nn_eqL, nn_ltL, nn_leL, nn_Llt, nn_Lle, nn_lt, nn_le, nn_eq, nn_in, nn_clamp, nn_succ, nn_pos, nn_neg1, bt, bb, G2.1, G2.2.1, htm, hb, G2.2.2 _ htm, G2.2.2 _ hb, b2i_or, b2i_01, hT_sI, hL_sI, G3.1, G3.2.1]
      refine ct_way hE2 hg ?_
      have e3 : hI (hsI σ' A t.2 (b2i (c t.2 || c b) 1)) V b = b2i (v b) 1 := K3.2.2 b hb
      have e4 : hI (hsI σ' A t.2 (b2i (c t.2 || c b) 1)) V t.2 = b2i (v t.2) 1 := K3.2.2 t.2 htm
      simp [o_ic, o_lc, o_null, o_il, o_ll, o_al, o_dup, o_pop, o_dup_x1, o_dup2, o_iadd, o_isub, o_imul, o_iand, o_ior, o_ixor, o_ishl, o_ishr, o_idiv, o_irem, o_ineg, o_ladd, o_lsub, o_lmul, o_land, o_lor, o_lxor, o_ldiv, o_lrem, o_lneg, o_lcmp, o_i2l, o_l2i, o_i2b, o_i2c, o_iushr, o_lshl, o_lshr, o_if_eq, o_if_ne, o_if_lt, o_if_ge, o_if_gt, o_if_le, o_icmp_eq, o_icmp_ne, o_icmp_lt, o_icmp_ge, o_icmp_gt, o_icmp_le, o_ifnull, o_ifnonnull, o_acmp_eq, o_acmp_ne, o_is, o_ls, o_as, o_iinc, o_kill, o_sw, o_ireturn, o_zreturn, o_nreturn, o_lreturn, o_areturn, o_return, o_athrow, o_call, entP, lg_sl, Value.category, st1, st2, List.set, List.getElem?_cons_zero, List.getElem?_cons_succ, List.foldl, popN, aft, o_gI, o_gR, o_pI, o_pN, o_pR, o_aI, o_aG, o_aR, o_len, o_aR8, o_sI, o_sB, o_sZ, o_sG, o_new, o_newA, o_cast, o_inst, o_cst, o_oi, o_sR, o_gIc, o_gSv, o_gSc, o_getc, o_dead, o_acopy, o_castA, o_castI, o_sR7, o_mna, o_mmax, o_mmin, o_mabs, nn_eqL, nn_ltL, nn_leL, nn_Llt, nn_Lle, nn_lt, nn_le, nn_eq, nn_in, nn_clamp, nn_succ, nn_pos, nn_neg1, bt, bb, hT_sI, hL_sI, G3.1, G3.2.1, htm, hb, e3, e4, b2i_or, b2i_01, nn_succ]
      exact ih (w + 1) _ _ _ (by omega) S2 (fun σ2 h2 => kk σ2 h2)
  exact main (iT (endI R b)).length 0 σ' c v (by omega) hS (by simpa using kk)
theorem egT_1 {R : Rt} {b x : Nat} {t : Nat × Nat} (h : iT (endI R b) = [t]) : egT R b x ↔ x = t.2 := by
  unfold egT et1 et2
  rw [h]
  simp
  exact eq_comm
theorem egT_2 {R : Rt} {b x : Nat} {t u : Nat × Nat} (h : iT (endI R b) = [t, u]) : egT R b x ↔ x = t.2 ∨ x = u.2 := by
  unfold egT et1 et2
  rw [h]
  simp
  rw [eq_comm, @eq_comm _ u.2]
theorem egT_0 {R : Rt} {b x : Nat} (h : iT (endI R b) = []) : ¬ egT R b x := by
  unfold egT et1 et2
  rw [h]
  simp
theorem b9_eq {p q : Prop} (h : p ↔ q) : b9 p = b9 q := by rw [propext h]
theorem b9_dec {a b : Nat} : b9 (a = b) = decide (a = b) := by
  by_cases h : a = b
  · rw [b9_iff.2 h]; simp [h]
  · rw [b9_not.2 h]; simp [h]
theorem fw_eq {R : Rt} {b a : Nat} (hE : EndA σ R b a) (c v : Nat → Bool) : fwC b (iT (endI R b)) c = pcC R b c ∧ fwV b (iT (endI R b)) (updB v b (v b || decide ((iT (endI R b)).length = 0))) = pcV R b v := by
  obtain ⟨-, h2, h3, h4, h5, h6⟩ := hE
  have hc : (endI R b).1 = 4 ∨ (endI R b).1 = 5 ∨ (endI R b).1 = 6 := by omega
  rcases hc with z | z | z
  · obtain ⟨t, e, _⟩ := h4 z
    have n6 : b9 ((endI R b).1 = 6) = false := by rw [b9_not]; omega
    refine ⟨?_, ?_⟩
    · rw [e]; funext x
      unfold pcC fwC fwC updB
      rw [b9_eq (egT_1 e), b9_dec]
      by_cases q : x = t.2
      · subst q; simp
      · simp [q]
    · have q9 : b9 (∃ t, egT R b t ∧ v t = true) = v t.2 := by
        cases hv : v t.2 with
        | true => rw [b9_iff]; exact ⟨t.2, (egT_1 e).2 rfl, hv⟩
        | false => rw [b9_not]; rintro ⟨x, hx, hx2⟩; rw [(egT_1 e).1 hx, hv] at hx2; cases hx2
      rw [e]; funext x
      unfold pcV fwV fwV
      rw [n6, q9]
      by_cases q : x = b
      · subst q
        by_cases q2 : t.2 = x
        · simp [updB, q2]
        · simp [updB, q2]
      · simp [updB, q]
  · obtain ⟨t, u, e, _⟩ := h5 z
    have n6 : b9 ((endI R b).1 = 6) = false := by rw [b9_not]; omega
    refine ⟨?_, ?_⟩
    · rw [e]; funext x
      unfold pcC fwC fwC fwC updB
      rw [b9_eq (egT_2 e)]
      by_cases q : x = u.2
      · rw [b9_iff.2 (Or.inr q)]
        subst q
        by_cases q2 : u.2 = t.2
        · by_cases q3 : b = t.2
          · simp [q2, q3]
          · simp [q2, q3]
        · by_cases q3 : b = t.2
          · simp [q2, q3]
          · simp [q2, q3]
      · by_cases q2 : x = t.2
        · rw [b9_iff.2 (Or.inl q2)]
          subst q2
          simp [q]
        · rw [b9_not.2 (fun z => z.elim q2 q)]
          simp [q, q2]
    · have q9 : b9 (∃ t, egT R b t ∧ v t = true) = (v t.2 || v u.2) := by
        cases hv : v t.2 with
        | true => rw [b9_iff.2 ⟨t.2, (egT_2 e).2 (Or.inl rfl), hv⟩]; rfl
        | false =>
          cases hu : v u.2 with
          | true => rw [b9_iff.2 ⟨u.2, (egT_2 e).2 (Or.inr rfl), hu⟩]; rfl
          | false =>
            rw [b9_not.2]
            · rfl
            · rintro ⟨x, hx, hx2⟩
              rcases (egT_2 e).1 hx with q | q
              · rw [q, hv] at hx2; cases hx2
              · rw [q, hu] at hx2; cases hx2
      rw [e]; funext x
      unfold pcV fwV fwV fwV
      rw [n6, q9]
      by_cases q : x = b
      · subst q
        by_cases q2 : t.2 = x
        · by_cases q3 : u.2 = x
          · simp [updB, q2, q3]
          · simp [updB, q2, q3]
        · by_cases q3 : u.2 = x
          · simp [updB, q2, q3]
            cases v x <;> cases v t.2 <;> rfl
          · simp [updB, q2, q3, Bool.or_assoc]
      · simp [updB, q]
  · refine ⟨?_, ?_⟩
    · rw [h6 z]; funext x
      unfold pcC fwC
      rw [b9_not.2 (egT_0 (h6 z))]
      simp
    · rw [h6 z]; funext x
      unfold pcV fwV updB
      rw [b9_iff.2 z]
      by_cases q : x = b
      · subst q; simp
      · simp [q]
/-- one pass over the blocks -/
theorem ck_pass {R : Rt} {rd k : Nat} {wss : List (Nat × List Nat)} {J102 : Cont AH} (hk : Hok κ σ) (hr : hT σ rd = 3) (hr0 : hR σ rd 0 = some (rd + 1)) (hV : EndV κ σ (rd + 1) R wss) (w : WfR R) (hT9 : TgOk R) :
    ∀ m b (σ' : AH) c v, b + m = R.2.length → CkS κ σ σ' A V c v → (∀ σ2, CkS κ σ σ2 A V (pas9 (pcC R) m b c) (pas9 (pcV R) m b v) → J102 [some (.ref rd), some (.ref A), some (.ref V), some (.int (nn (k + 1))), none, none, none] [] σ2) →
    bX3_check_111 κ Q J102 [some (.ref rd), some (.ref A), some (.ref V), some (.int (nn k)), some (.int (nn b)), none, none] [] σ' := by
  intro m b σ' c v hb hS kk
  unfold bX3_check_111
  intro X hX
  revert b σ' c v
  have hnb : R.2.length ≤ 40 := w.2.1
  induction m with
  | zero =>
    intro b σ' c v hb hS kk
    apply hX
    have F := hS.1
    have hV' := hV.new hk F
    have t0 : hT σ' rd = 3 := F.tg hk hr (by decide)
    have r0 : hR σ' rd 0 = some (rd + 1) := (F.ref hk hr (by decide) id 0).trans hr0
    obtain ⟨bl, g1, g2, g3, g4, g5, -⟩ := id hV'
    have b1 : b < 2147483648 := by omega
    have b2 : wss.length < 2147483648 := by omega
    have le : wss.length ≤ b := by omega
    simp [o_ic, o_lc, o_null, o_il, o_ll, o_al, o_dup, o_pop, o_dup_x1, o_dup2, o_iadd, o_isub, o_imul, o_iand, o_ior, o_ixor, o_ishl, o_ishr, o_idiv, o_irem, o_ineg, o_ladd, o_lsub, o_lmul, o_land, o_lor, o_lxor, o_ldiv, o_lrem, o_lneg, o_lcmp, o_i2l, o_l2i, o_i2b, o_i2c, o_iushr, o_lshl, o_lshr, o_if_eq, o_if_ne, o_if_lt, o_if_ge, o_if_gt, o_if_le, o_icmp_eq, o_icmp_ne, o_icmp_lt, o_icmp_ge, o_icmp_gt, o_icmp_le, o_ifnull, o_ifnonnull, o_acmp_eq, o_acmp_ne, o_is, o_ls, o_as, o_iinc, o_kill, o_sw, o_ireturn, o_zreturn, o_nreturn, o_lreturn, o_areturn, o_return, o_athrow, o_call, entP, lg_sl, Value.category, st1, st2, List.set, List.getElem?_cons_zero, List.getElem?_cons_succ, List.foldl, popN, aft, o_gI, o_gR, o_pI, o_pN, o_pR, o_aI, o_aG, o_aR, o_len, o_aR8, o_sI, o_sB, o_sZ, o_sG, o_new, o_newA, o_cast, o_inst, o_cst, o_oi, o_sR, o_gIc, o_gSv, o_gSc, o_getc, o_dead, o_acopy, o_castA, o_castI, o_sR7, o_mna, o_mmax, o_mmin, o_mabs, t0, r0, g1, g2, va_rf]
    refine hv_size g3 ?_
    simp [o_ic, o_lc, o_null, o_il, o_ll, o_al, o_dup, o_pop, o_dup_x1, o_dup2, o_iadd, o_isub, o_imul, o_iand, o_ior, o_ixor, o_ishl, o_ishr, o_idiv, o_irem, o_ineg, o_ladd, o_lsub, o_lmul, o_land, o_lor, o_lxor, o_ldiv, o_lrem, o_lneg, o_lcmp, o_i2l, o_l2i, o_i2b, o_i2c, o_iushr, o_lshl, o_lshr, o_if_eq, o_if_ne, o_if_lt, o_if_ge, o_if_gt, o_if_le, o_icmp_eq, o_icmp_ne, o_icmp_lt, o_icmp_ge, o_icmp_gt, o_icmp_le, o_ifnull, o_ifnonnull, o_acmp_eq, o_acmp_ne, o_is, o_ls, o_as, o_iinc, o_kill, o_sw, o_ireturn, o_zreturn, o_nreturn, o_lreturn, o_areturn, o_return, o_athrow, o_call, entP, lg_sl, Value.category, st1, st2, List.set, List.getElem?_cons_zero, List.getElem?_cons_succ, List.foldl, popN, aft, o_gI, o_gR, o_pI, o_pN, o_pR, o_aI, o_aG, o_aR, o_len, o_aR8, o_sI, o_sB, o_sZ, o_sG, o_new, o_newA, o_cast, o_inst, o_cst, o_oi, o_sR, o_gIc, o_gSv, o_gSc, o_getc, o_dead, o_acopy, o_castA, o_castI, o_sR7, o_mna, o_mmax, o_mmin, o_mabs, nn_eqL, nn_ltL, nn_leL, nn_Llt, nn_Lle, nn_lt, nn_le, nn_eq, nn_in, nn_clamp, nn_succ, nn_pos, nn_neg1, b1, b2, le, bX3_check_214, nn_succ]
    exact kk σ' hS
  | succ m ih =>
    intro b σ' c v hb hS kk
    apply hX
    have F := hS.1
    have hV' := hV.new hk F
    have t0 : hT σ' rd = 3 := F.tg hk hr (by decide)
    have r0 : hR σ' rd 0 = some (rd + 1) := (F.ref hk hr (by decide) id 0).trans hr0
    obtain ⟨bl, g1, g2, g3, g4, g5, g6⟩ := id hV'
    have b1 : b < 2147483648 := by omega
    have b2 : wss.length < 2147483648 := by omega
    have nle : ¬ wss.length ≤ b := by omega
    have hbl : b < R.2.length := by omega
    have hb40 : b < 40 := by omega
    have hE' : EndA σ' R b (eA wss b) := (g6 b _ (List.getElem?_eq_getElem (by omega))).2.2
    obtain ⟨bl0, -, -, -, g40, -, g60⟩ := id hV
    have hE : EndA σ R b (eA wss b) := (g60 b _ (List.getElem?_eq_getElem (by omega))).2.2
    have ht : ∀ t ∈ iT (endI R b), t.2 < 40 := fun t ht => by
      obtain ⟨e1, -⟩ := end_get w hbl
      have := hT9 (b, endI R b) (List.mem_of_getElem? e1) t ht
      omega
    simp [o_ic, o_lc, o_null, o_il, o_ll, o_al, o_dup, o_pop, o_dup_x1, o_dup2, o_iadd, o_isub, o_imul, o_iand, o_ior, o_ixor, o_ishl, o_ishr, o_idiv, o_irem, o_ineg, o_ladd, o_lsub, o_lmul, o_land, o_lor, o_lxor, o_ldiv, o_lrem, o_lneg, o_lcmp, o_i2l, o_l2i, o_i2b, o_i2c, o_iushr, o_lshl, o_lshr, o_if_eq, o_if_ne, o_if_lt, o_if_ge, o_if_gt, o_if_le, o_icmp_eq, o_icmp_ne, o_icmp_lt, o_icmp_ge, o_icmp_gt, o_icmp_le, o_ifnull, o_ifnonnull, o_acmp_eq, o_acmp_ne, o_is, o_ls, o_as, o_iinc, o_kill, o_sw, o_ireturn, o_zreturn, o_nreturn, o_lreturn, o_areturn, o_return, o_athrow, o_call, entP, lg_sl, Value.category, st1, st2, List.set, List.getElem?_cons_zero, List.getElem?_cons_succ, List.foldl, popN, aft, o_gI, o_gR, o_pI, o_pN, o_pR, o_aI, o_aG, o_aR, o_len, o_aR8, o_sI, o_sB, o_sZ, o_sG, o_new, o_newA, o_cast, o_inst, o_cst, o_oi, o_sR, o_gIc, o_gSv, o_gSc, o_getc, o_dead, o_acopy, o_castA, o_castI, o_sR7, o_mna, o_mmax, o_mmin, o_mabs, t0, r0, g1, g2, va_rf]
    refine hv_size g3 ?_
    simp [o_ic, o_lc, o_null, o_il, o_ll, o_al, o_dup, o_pop, o_dup_x1, o_dup2, o_iadd, o_isub, o_imul, o_iand, o_ior, o_ixor, o_ishl, o_ishr, o_idiv, o_irem, o_ineg, o_ladd, o_lsub, o_lmul, o_land, o_lor, o_lxor, o_ldiv, o_lrem, o_lneg, o_lcmp, o_i2l, o_l2i, o_i2b, o_i2c, o_iushr, o_lshl, o_lshr, o_if_eq, o_if_ne, o_if_lt, o_if_ge, o_if_gt, o_if_le, o_icmp_eq, o_icmp_ne, o_icmp_lt, o_icmp_ge, o_icmp_gt, o_icmp_le, o_ifnull, o_ifnonnull, o_acmp_eq, o_acmp_ne, o_is, o_ls, o_as, o_iinc, o_kill, o_sw, o_ireturn, o_zreturn, o_nreturn, o_lreturn, o_areturn, o_return, o_athrow, o_call, entP, lg_sl, Value.category, st1, st2, List.set, List.getElem?_cons_zero, List.getElem?_cons_succ, List.foldl, popN, aft, o_gI, o_gR, o_pI, o_pN, o_pR, o_aI, o_aG, o_aR, o_len, o_aR8, o_sI, o_sB, o_sZ, o_sG, o_new, o_newA, o_cast, o_inst, o_cst, o_oi, o_sR, o_gIc, o_gSv, o_gSc, o_getc, o_dead, o_acopy, o_castA, o_castI, o_sR7, o_mna, o_mmax, o_mmin, o_mabs, nn_eqL, nn_ltL, nn_leL, nn_Llt, nn_Lle, nn_lt, nn_le, nn_eq, nn_in, nn_clamp, nn_succ, nn_pos, nn_neg1, b1, b2, nle, t0, r0, g1, va_rf, hvc, dspI]
    refine ct_end hV' hbl ?_
    obtain ⟨G1, G2, G3, G4, G5, G6⟩ := id hS
    simp [o_ic, o_lc, o_null, o_il, o_ll, o_al, o_dup, o_pop, o_dup_x1, o_dup2, o_iadd, o_isub, o_imul, o_iand, o_ior, o_ixor, o_ishl, o_ishr, o_idiv, o_irem, o_ineg, o_ladd, o_lsub, o_lmul, o_land, o_lor, o_lxor, o_ldiv, o_lrem, o_lneg, o_lcmp, o_i2l, o_l2i, o_i2b, o_i2c, o_iushr, o_lshl, o_lshr, o_if_eq, o_if_ne, o_if_lt, o_if_ge, o_if_gt, o_if_le, o_icmp_eq, o_icmp_ne, o_icmp_lt, o_icmp_ge, o_icmp_gt, o_icmp_le, o_ifnull, o_ifnonnull, o_acmp_eq, o_acmp_ne, o_is, o_ls, o_as, o_iinc, o_kill, o_sw, o_ireturn, o_zreturn, o_nreturn, o_lreturn, o_areturn, o_return, o_athrow, o_call, entP, lg_sl, Value.category, st1, st2, List.set, List.getElem?_cons_zero, List.getElem?_cons_succ, List.foldl, popN, aft, o_gI, o_gR, o_pI, o_pN, o_pR, o_aI, o_aG, o_aR, o_len, o_aR8, o_sI, o_sB, o_sZ, o_sG, o_new, o_newA, o_cast, o_inst, o_cst, o_oi, o_sR, o_gIc, o_gSv, o_gSc, o_getc, o_dead, o_acopy, o_castA, o_castI, o_sR7, o_mna, o_mmax, o_mmin, o_mabs, nn_eqL, nn_ltL, nn_leL, nn_Llt, nn_Lle, nn_lt, nn_le, nn_eq, nn_in, nn_clamp, nn_succ, nn_pos, nn_neg1, b1, G3.1, G3.2.1, hb40, G3.2.2 b hb40]
    refine ct_ways hE' ?_
    have hlen : (iT (endI R b)).length < 2147483648 := by
      have := end_get w hbl
      obtain ⟨-, -, q4, q5⟩ := this
      obtain ⟨q0, -, -, -, -, -, -, -, r4, r5, r6, -⟩ := q5
      by_cases z4 : (endI R b).1 = 4
      · obtain ⟨t, e⟩ := r4 z4; rw [e]; simp
      · by_cases z5 : (endI R b).1 = 5
        · obtain ⟨t, u, e⟩ := r5 z5; rw [e]; simp
        · rw [r6 z4 z5]; simp
    have go : ∀ x : Bool, x = decide ((iT (endI R b)).length = 0) → bX3_check_155 κ Q J102 X [some (.ref rd), some (.ref A), some (.ref V), some (.int (nn k)), some (.int (nn b)), some (.ref (eA wss b)), none] [.int (b2i x 1), .int (b2i (v b) 1), .int (nn b), .ref V] σ' := by
      intro x hx
      have S1 := hS.setV (i := b) hb40 (v b || x)
      simp [bX3_check_155, o_ic, o_lc, o_null, o_il, o_ll, o_al, o_dup, o_pop, o_dup_x1, o_dup2, o_iadd, o_isub, o_imul, o_iand, o_ior, o_ixor, o_ishl, o_ishr, o_idiv, o_irem, o_ineg, o_ladd, o_lsub, o_lmul, o_land, o_lor, o_lxor, o_ldiv, o_lrem, o_lneg, o_lcmp, o_i2l, o_l2i, o_i2b, o_i2c, o_iushr, o_lshl, o_lshr, o_if_eq, o_if_ne, o_if_lt, o_if_ge, o_if_gt, o_if_le, o_icmp_eq, o_icmp_ne, o_icmp_lt, o_icmp_ge, o_icmp_gt, o_icmp_le, o_ifnull, o_ifnonnull, o_acmp_eq, o_acmp_ne, o_is, o_ls, o_as, o_iinc, o_kill, o_sw, o_ireturn, o_zreturn, o_nreturn, o_lreturn, o_areturn, o_return, o_athrow, o_call, entP, lg_sl, Value.category, st1, st2, List.set, List.getElem?_cons_zero, List.getElem?_cons_succ, List.foldl, popN, aft, o_gI, o_gR, o_pI, o_pN, o_pR, o_aI, o_aG, o_aR, o_len, o_aR8, o_sI, o_sB, o_sZ, o_sG, o_new, o_newA, o_cast, o_inst, o_cst, o_oi, o_sR, o_gIc, o_gSv, o_gSc, o_getc, o_dead, o_acopy, o_castA, o_castI, o_sR7, o_mna, o_mmax, o_mmin, o_mabs, nn_eqL, nn_ltL, nn_leL, nn_Llt, nn_Lle, nn_lt, nn_le, nn_eq, nn_in, nn_clamp, nn_succ, nn_pos, nn_neg1, b1, G3.1, G3.2.1, hb40, b2i_or, b2i_01]
      refine ck_ways hk hE hb40 ht S1 (fun σ2 h2 => ?_)
      obtain ⟨q1, q2⟩ := fw_eq hE c v
      rw [q1, hx, q2] at h2
      exact ih (b + 1) σ2 _ _ (by omega) h2 (fun σ3 h3 => kk σ3 h3)
    simp [o_ic, o_lc, o_null, o_il, o_ll, o_al, o_dup, o_pop, o_dup_x1, o_dup2, o_iadd, o_isub, o_imul, o_iand, o_ior, o_ixor, o_ishl, o_ishr, o_idiv, o_irem, o_ineg, o_ladd, o_lsub, o_lmul, o_land, o_lor, o_lxor, o_ldiv, o_lrem, o_lneg, o_lcmp, o_i2l, o_l2i, o_i2b, o_i2c, o_iushr, o_lshl, o_lshr, o_if_eq, o_if_ne, o_if_lt, o_if_ge, o_if_gt, o_if_le, o_icmp_eq, o_icmp_ne, o_icmp_lt, o_icmp_ge, o_icmp_gt, o_icmp_le, o_ifnull, o_ifnonnull, o_acmp_eq, o_acmp_ne, o_is, o_ls, o_as, o_iinc, o_kill, o_sw, o_ireturn, o_zreturn, o_nreturn, o_lreturn, o_areturn, o_return, o_athrow, o_call, entP, lg_sl, Value.category, st1, st2, List.set, List.getElem?_cons_zero, List.getElem?_cons_succ, List.foldl, popN, aft, o_gI, o_gR, o_pI, o_pN, o_pR, o_aI, o_aG, o_aR, o_len, o_aR8, o_sI, o_sB, o_sZ, o_sG, o_new, o_newA, o_cast, o_inst, o_cst, o_oi, o_sR, o_gIc, o_gSv, o_gSc, o_getc, o_dead, o_acopy, o_castA, o_castI, o_sR7, o_mna, o_mmax, o_mmin, o_mabs, nn_eqL, nn_ltL, nn_leL, nn_Llt, nn_Lle, nn_lt, nn_le, nn_eq, nn_in, nn_clamp, nn_succ, nn_pos, nn_neg1, hlen, bX3_check_154]
    refine ⟨fun z => ?_, fun z => ?_⟩
    · have := go false (by simp [z])
      exact this
    · have := go true (by simp [z])
      exact this
end CK
