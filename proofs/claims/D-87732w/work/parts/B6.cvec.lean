/-! THE COMPONENT: rows of bits -/
set_option maxRecDepth 100000
/-- the first q rows of bits of a routine -/
def VS (σ : AH) (r n h9 : Nat) (VA : Nat → Nat) (q : Nat) (f : Nat → Nat → Nat → Bool) : Prop := ∀ i, i < q → hR σ r (6 + i) = some (VA i) ∧ hT σ (VA i) = 101 ∧ hL σ (VA i) = n ∧ h9 ≤ VA i ∧ VA i < hN σ ∧ (∀ j, j < i → VA j < VA i) ∧ ∀ k, k < n → LB (hG σ (VA i) k) (f i k)
def SV (κ : Nat → Option Nat) (σ0 σ : AH) (r n : Nat) (VA : Nat → Nat) (q : Nat) (f : Nat → Nat → Nat → Bool) (c s : Nat) : Prop := HL κ NoM (EqM r) c s σ0 σ ∧ (∀ i, i < 6 → hR σ r i = hR σ0 r i) ∧ VS σ r n (hN σ0) VA q f
def upd3 (f : Nat → Nat → Nat → Bool) (i : Nat) (X : Nat → Nat → Bool) : Nat → Nat → Nat → Bool := fun j => if j = i then X else f j
theorem upd3_eq (f : Nat → Nat → Nat → Bool) (i : Nat) (X : Nat → Nat → Bool) : upd3 f i X i = X := by unfold upd3; rw [if_pos rfl]
theorem upd3_ne (f : Nat → Nat → Nat → Bool) {i j : Nat} (X : Nat → Nat → Bool) (h : j ≠ i) : upd3 f i X j = f j := by unfold upd3; rw [if_neg h]
section SVs
variable {κ : Nat → Option Nat} {Q : Ret AH} {σ σ0 : AH} {r n q c s : Nat} {R : Rt} {wss : List (Nat × List Nat)} {A NX BF : Nat → Nat} {B : Nat → List Nat} {ss : List Nat} {VA : Nat → Nat} {f : Nat → Nat → Nat → Bool}
/-- the routine is as it was -/
theorem RtB.hl2 {h9 : Nat} {M MR : Nat → Prop} {σ' : AH} (h : RtB κ σ r R wss A NX BF B ss h9) (hk : Hok κ σ) (F : HL κ M MR c s σ σ') (hr : ∀ i, i < 4 → hR σ' r i = hR σ r i) (hm : ∀ a, r ≤ a → a < h9 → a ≠ r + 4 → ¬ M a ∧ (a ≠ r → ¬ MR a)) : RtB κ σ' r R wss A NX BF B ss h9 := by
  have r9 := h.r9
  have ho : Off M MR (r + 8) h9 := fun a h1 h2 => ⟨(hm a (by omega) h2 (by omega)).1, (hm a (by omega) h2 (by omega)).2 (by omega)⟩
  have mr1 := (hm r (Nat.le_refl _) (by omega) (by omega)).1
  refine ⟨h.wf, F.tg hk h.tr (by decide), fun i hi' => (hr i hi').trans (h.rr i hi'), ⟨r9.1, by have := F.lt; omega⟩, F.al h.al (hm _ (by omega) (by omega) (by omega)).1, h.wl, fun b w hb => ?_, F.al h.ns (hm _ (by omega) (by omega) (by omega)).1, F.al h.sl (hm _ (by omega) (by omega) (by omega)).1, h.sn, (F.int hk h.tr (by decide) mr1 4).trans h.i4, (F.int hk h.tr (by decide) mr1 5).trans h.i5, h.iv, fun k hk' => ?_, h.bf, fun k hk' => ?_, fun b hb => ?_, fun e he => ?_⟩
  · obtain ⟨q1, q2, q3, q4⟩ := h.rows b w hb
    exact ⟨F.al q1 (ho _ q2 q3).1, q2, q3, q4⟩
  · obtain ⟨t, i0, i1, r2, r3, a1, a2⟩ := h.nd k hk'
    obtain ⟨v1, v2, v3, v4, v5, v6⟩ := h.iv k hk'
    obtain ⟨n1, n2⟩ := ho _ v1 v2
    have h7 := (h.ndk hk').1
    have t0 : 7 + nK (ndA (nds R) k) ≠ 0 ∧ 7 + nK (ndA (nds R) k) ≠ 19 ∧ 7 + nK (ndA (nds R) k) ≠ 104 := by omega
    exact ⟨F.tg hk t t0.1, (F.int hk t t0 n1 0).trans i0, (F.int hk t t0 n1 1).trans i1, (F.ref hk t t0 n2 2).trans r2, (F.ref hk t t0 n2 3).trans r3, F.al a1 (ho _ v3 v4).1, F.al a2 (ho _ v5 v6).1⟩
  · obtain ⟨v1, v2, -⟩ := h.iv k hk'
    obtain ⟨n1, n2⟩ := ho _ v1 v2
    exact (h.dt k hk').hl (h.nd k hk').1 (h.ndk hk').1 hk F n1 n2 ho
  · have hl := (end_get h.wf.1 hb).2.1
    have hn : lastN R b < (nds R).length := by rw [nds_len]; omega
    obtain ⟨v1, v2, -⟩ := h.iv _ hn
    exact (h.en b hb).hl hk F (ho _ v1 v2).1
  · obtain ⟨y, e1, e2, e3⟩ := h.sm e he
    refine ⟨y, e1, e2.hl hk F ho, ?_⟩
    have n1 := (ho y e2.1 e2.2.1).1
    rcases e2.tg with t | t
    · exact (F.int hk t (by decide) n1 0).trans e3
    · exact (F.int hk t (by decide) n1 0).trans e3
theorem SV.rt (h : SV κ σ0 σ r n VA q f c s) (hk : Hok κ σ0) {h9 : Nat} (hR : RtB κ σ0 r R wss A NX BF B ss h9) : RtB κ σ r R wss A NX BF B ss h9 :=
  hR.hl2 hk h.1 (fun i hi' => h.2.1 i (by omega)) (fun a h1 h2 h3 => ⟨id, fun h4 => h4⟩)
theorem SV.set (h : SV κ σ0 σ r n VA q f c s) {i k : Nat} {v : Int64} {g : Nat → Bool} (hi' : i < q) (hk : k < n) (hv : LB v g) : SV κ σ0 (hsG σ (VA i) k v) r n VA q (upd3 f i (updM (f i) k g)) c s := by
  obtain ⟨h1, h2, h3⟩ := h
  obtain ⟨a1, a2, a3, a4, a5, a6, a7⟩ := h3 i hi'
  refine ⟨h1.sG (Or.inr a4) a2 (by decide), h2, fun j hj => ?_⟩
  obtain ⟨b1, b2, b3, b4, b5, b6, b7⟩ := h3 j hj
  refine ⟨b1, b2, b3, b4, b5, b6, fun k' hk' => ?_⟩
  rw [hG_sG]
  by_cases e : j = i
  · subst e
    rw [upd3_eq]
    by_cases e2 : k' = k
    · subst e2
      rw [if_pos ⟨rfl, rfl⟩, updM_eq]; exact hv
    · rw [if_neg (fun z => e2 z.2), updM_ne _ _ e2]; exact b7 k' hk'
  · have ne : VA j ≠ VA i := by
      by_cases z : j < i
      · have := a6 j z; omega
      · have := b6 i (by omega); omega
    rw [if_neg (fun z => ne z.1), upd3_ne _ _ e]; exact b7 k' hk'
/-- a new row, all 0 -/
theorem SV.new (h : SV κ σ0 σ r n VA q f c s) (hk0 : Hok κ σ0) (tr : hT σ0 r = 4) : SV κ σ0 (hsR (hnw σ 101 n n) r (6 + q) (some (hN σ))) r n (updA VA q (hN σ)) (q + 1) (upd3 f q (fun _ _ => false)) (c + 1) (s + n) := by
  obtain ⟨h1, h2, h3⟩ := h
  have hk := h1.ok
  have hlt := h1.lt
  have tr' : hT σ r = 4 := h1.tg hk0 tr (by decide)
  have hr := hk.1.lt (a := r) (by rw [tr']; decide)
  have k1 : Hok κ (hnw σ 101 n n) := hk.nw (by decide)
  have tr2 : hT (hnw σ 101 n n) r = 4 := by rw [hT_nw, if_neg (by omega)]; exact tr'
  refine ⟨(h1.nw k1).sR (Or.inl rfl) tr2 (by decide), fun i hi' => ?_, fun i hi' => ?_⟩
  · rw [hR_sR, if_neg (by omega), hR_nw]; exact h2 i hi'
  · by_cases e : i = q
    · subst e
      rw [updA_eq, upd3_eq]
      refine ⟨by rw [hR_sR, if_pos ⟨rfl, rfl⟩], ?_, ?_, hlt, ?_, fun j hj => ?_, fun k hk' => ?_⟩
      · rw [hT_sR, hT_nw, if_pos rfl]
      · rw [hL_sR, hL_nw, if_pos rfl]
      · rw [hN_sR, hN_nw]; omega
      · rw [updA_ne _ (by omega)]; exact (h3 j hj).2.2.2.2.1
      · rw [hG_sR, hG_nw, ((hk.1 (hN σ) (Nat.le_refl _)).2 k).2.1]
        exact LB.zero
    · have hi2 : i < q := by omega
      obtain ⟨b1, b2, b3, b4, b5, b6, b7⟩ := h3 i hi2
      rw [updA_ne _ e, upd3_ne _ _ e]
      refine ⟨by rw [hR_sR, if_neg (by omega), hR_nw]; exact b1, ?_, ?_, b4, ?_, fun j hj => ?_, fun k hk' => ?_⟩
      · rw [hT_sR, hT_nw, if_neg (by omega)]; exact b2
      · rw [hL_sR, hL_nw, if_neg (by omega)]; exact b3
      · rw [hN_sR, hN_nw]; omega
      · rw [updA_ne _ (by omega)]; exact b6 j hj
      · rw [hG_sR, hG_nw]; exact b7 k hk'
theorem SV.congr (h : SV κ σ0 σ r n VA q f c s) {g : Nat → Nat → Nat → Bool} (e : ∀ i k x, i < q → k < n → x < 64 → f i k x = g i k x) : SV κ σ0 σ r n VA q g c s :=
  ⟨h.1, h.2.1, fun i hi' => by
    obtain ⟨b1, b2, b3, b4, b5, b6, b7⟩ := h.2.2 i hi'
    exact ⟨b1, b2, b3, b4, b5, b6, fun k hk => (b7 k hk).congr (fun x hx => e i k x hi' hk hx)⟩⟩
theorem ct_all {h9 : Nat} (h : RtB κ σ r R wss A NX BF B ss h9) (h32 : (sms R.1).length ≤ 32) (k : ∀ v, LB v (fun e => decide (e < (sms R.1).length)) → Q (.inl (some (.long v))) σ) : hvc [(4, pX4_all κ)] [.ref r] σ Q := by
  have r2 := h.rr 2 (by omega)
  simp [hvc, dspI, h.tr, pX4_all, bX4_all_0, o_ic, o_lc, o_null, o_il, o_ll, o_al, o_dup, o_pop, o_dup_x1, o_dup2, o_iadd, o_isub, o_imul, o_iand, o_ior, o_ixor, o_ishl, o_ishr, o_idiv, o_irem, o_ineg, o_ladd, o_lsub, o_lmul, o_land, o_lor, o_lxor, o_ldiv, o_lrem, o_lneg, o_lcmp, o_i2l, o_l2i, o_i2b, o_i2c, o_iushr, o_lshl, o_lshr, o_if_eq, o_if_ne, o_if_lt, o_if_ge, o_if_gt, o_if_le, o_icmp_eq, o_icmp_ne, o_icmp_lt, o_icmp_ge, o_icmp_gt, o_icmp_le, o_ifnull, o_ifnonnull, o_acmp_eq, o_acmp_ne, o_is, o_ls, o_as, o_iinc, o_kill, o_sw, o_ireturn, o_zreturn, o_nreturn, o_lreturn, o_areturn, o_return, o_athrow, o_call, entP, lg_sl, Value.category, st1, st2, List.set, List.getElem?_cons_zero, List.getElem?_cons_succ, List.foldl, popN, aft, o_gI, o_gR, o_pI, o_pN, o_pR, o_aI, o_aG, o_aR, o_len, o_aR8, o_sI, o_sB, o_sZ, o_sG, o_new, o_newA, o_cast, o_inst, o_cst, o_oi, o_sR, o_gIc, o_gSv, o_gSc, o_getc, o_dead, o_acopy, o_castA, o_castI, o_sR7, o_mna, o_mmax, o_mmin, o_mabs, r2, va_rf]
  refine ⟨h.sl.1, cq_size h.sl ?_⟩
  rw [h.sn]
  simp [o_ic, o_lc, o_null, o_il, o_ll, o_al, o_dup, o_pop, o_dup_x1, o_dup2, o_iadd, o_isub, o_imul, o_iand, o_ior, o_ixor, o_ishl, o_ishr, o_idiv, o_irem, o_ineg, o_ladd, o_lsub, o_lmul, o_land, o_lor, o_lxor, o_ldiv, o_lrem, o_lneg, o_lcmp, o_i2l, o_l2i, o_i2b, o_i2c, o_iushr, o_lshl, o_lshr, o_if_eq, o_if_ne, o_if_lt, o_if_ge, o_if_gt, o_if_le, o_icmp_eq, o_icmp_ne, o_icmp_lt, o_icmp_ge, o_icmp_gt, o_icmp_le, o_ifnull, o_ifnonnull, o_acmp_eq, o_acmp_ne, o_is, o_ls, o_as, o_iinc, o_kill, o_sw, o_ireturn, o_zreturn, o_nreturn, o_lreturn, o_areturn, o_return, o_athrow, o_call, entP, lg_sl, Value.category, st1, st2, List.set, List.getElem?_cons_zero, List.getElem?_cons_succ, List.foldl, popN, aft]
  exact k _ (LB.all9 _ (by omega))
theorem ct_set {i : Nat} {v : Int64} {g : Nat → Bool} (h : SV κ σ0 σ r n VA q f c s) (hi' : i < q) (hn : n ≤ 240) (hv : LB v g) (k : ∀ σ', SV κ σ0 σ' r n VA q (upd3 f i (fun _ => g)) c s → Q (.inl none) σ') : pX4_set κ [.ref (VA i), .long v] σ Q := by
  simp [pX4_set, bX4_set_0, o_ic, o_lc, o_null, o_il, o_ll, o_al, o_dup, o_pop, o_dup_x1, o_dup2, o_iadd, o_isub, o_imul, o_iand, o_ior, o_ixor, o_ishl, o_ishr, o_idiv, o_irem, o_ineg, o_ladd, o_lsub, o_lmul, o_land, o_lor, o_lxor, o_ldiv, o_lrem, o_lneg, o_lcmp, o_i2l, o_l2i, o_i2b, o_i2c, o_iushr, o_lshl, o_lshr, o_if_eq, o_if_ne, o_if_lt, o_if_ge, o_if_gt, o_if_le, o_icmp_eq, o_icmp_ne, o_icmp_lt, o_icmp_ge, o_icmp_gt, o_icmp_le, o_ifnull, o_ifnonnull, o_acmp_eq, o_acmp_ne, o_is, o_ls, o_as, o_iinc, o_kill, o_sw, o_ireturn, o_zreturn, o_nreturn, o_lreturn, o_areturn, o_return, o_athrow, o_call, entP, lg_sl, Value.category, st1, st2, List.set, List.getElem?_cons_zero, List.getElem?_cons_succ, List.foldl, popN, aft]
  unfold bX4_set_2
  intro X hX
  have main : ∀ m j (σ : AH), j + m = n → SV κ σ0 σ r n VA q (upd3 f i (fun k => if k < j then g else f i k)) c s → X [some (.ref (VA i)), some (.long v), none, some (.int (nn j))] [] σ := by
    intro m
    induction m with
    | zero =>
      intro j σ hj h
      apply hX
      obtain ⟨b1, b2, b3, b4, b5, b6, b7⟩ := h.2.2 i hi'
      have bj : j < 2147483648 := by omega
      have eL : nI n = nn n := rfl
      have bn : n < 2147483648 := by omega
      have le : n ≤ j := by omega
      simp [o_ic, o_lc, o_null, o_il, o_ll, o_al, o_dup, o_pop, o_dup_x1, o_dup2, o_iadd, o_isub, o_imul, o_iand, o_ior, o_ixor, o_ishl, o_ishr, o_idiv, o_irem, o_ineg, o_ladd, o_lsub, o_lmul, o_land, o_lor, o_lxor, o_ldiv, o_lrem, o_lneg, o_lcmp, o_i2l, o_l2i, o_i2b, o_i2c, o_iushr, o_lshl, o_lshr, o_if_eq, o_if_ne, o_if_lt, o_if_ge, o_if_gt, o_if_le, o_icmp_eq, o_icmp_ne, o_icmp_lt, o_icmp_ge, o_icmp_gt, o_icmp_le, o_ifnull, o_ifnonnull, o_acmp_eq, o_acmp_ne, o_is, o_ls, o_as, o_iinc, o_kill, o_sw, o_ireturn, o_zreturn, o_nreturn, o_lreturn, o_areturn, o_return, o_athrow, o_call, entP, lg_sl, Value.category, st1, st2, List.set, List.getElem?_cons_zero, List.getElem?_cons_succ, List.foldl, popN, aft, o_gI, o_gR, o_pI, o_pN, o_pR, o_aI, o_aG, o_aR, o_len, o_aR8, o_sI, o_sB, o_sZ, o_sG, o_new, o_newA, o_cast, o_inst, o_cst, o_oi, o_sR, o_gIc, o_gSv, o_gSc, o_getc, o_dead, o_acopy, o_castA, o_castI, o_sR7, o_mna, o_mmax, o_mmin, o_mabs, b2, b3, eL, nn_eqL, nn_ltL, nn_leL, nn_Llt, nn_Lle, nn_lt, nn_le, nn_eq, nn_in, nn_clamp, nn_succ, nn_pos, nn_neg1, bj, bn, le, bX4_set_18]
      refine k σ (h.congr (fun i' k' x hi2 hk' hx => ?_))
      by_cases e : i' = i
      · subst e; rw [upd3_eq, upd3_eq, if_pos (by omega)]
      · rw [upd3_ne _ _ e, upd3_ne _ _ e]
    | succ m ih =>
      intro j σ hj h
      apply hX
      obtain ⟨b1, b2, b3, b4, b5, b6, b7⟩ := h.2.2 i hi'
      have bj : j < 2147483648 := by omega
      have eL : nI n = nn n := rfl
      have bn : n < 2147483648 := by omega
      have nle : ¬ n ≤ j := by omega
      have jn : j < n := by omega
      simp [o_ic, o_lc, o_null, o_il, o_ll, o_al, o_dup, o_pop, o_dup_x1, o_dup2, o_iadd, o_isub, o_imul, o_iand, o_ior, o_ixor, o_ishl, o_ishr, o_idiv, o_irem, o_ineg, o_ladd, o_lsub, o_lmul, o_land, o_lor, o_lxor, o_ldiv, o_lrem, o_lneg, o_lcmp, o_i2l, o_l2i, o_i2b, o_i2c, o_iushr, o_lshl, o_lshr, o_if_eq, o_if_ne, o_if_lt, o_if_ge, o_if_gt, o_if_le, o_icmp_eq, o_icmp_ne, o_icmp_lt, o_icmp_ge, o_icmp_gt, o_icmp_le, o_ifnull, o_ifnonnull, o_acmp_eq, o_acmp_ne, o_is, o_ls, o_as, o_iinc, o_kill, o_sw, o_ireturn, o_zreturn, o_nreturn, o_lreturn, o_areturn, o_return, o_athrow, o_call, entP, lg_sl, Value.category, st1, st2, List.set, List.getElem?_cons_zero, List.getElem?_cons_succ, List.foldl, popN, aft, o_gI, o_gR, o_pI, o_pN, o_pR, o_aI, o_aG, o_aR, o_len, o_aR8, o_sI, o_sB, o_sZ, o_sG, o_new, o_newA, o_cast, o_inst, o_cst, o_oi, o_sR, o_gIc, o_gSv, o_gSc, o_getc, o_dead, o_acopy, o_castA, o_castI, o_sR7, o_mna, o_mmax, o_mmin, o_mabs, b2, b3, eL, nn_eqL, nn_ltL, nn_leL, nn_Llt, nn_Lle, nn_lt, nn_le, nn_eq, nn_in, nn_clamp, nn_succ, nn_pos, nn_neg1, bj, bn, nle, jn, nn_succ]
      refine ih (j + 1) _ (by omega) ((h.set hi' jn hv).congr (fun i' k' x hi2 hk' hx => ?_))
      by_cases e : i' = i
      · subst e
        rw [upd3_eq, upd3_eq, upd3_eq]
        by_cases e2 : k' = j
        · subst e2; rw [updM_eq, if_pos (by omega)]
        · rw [updM_ne _ _ e2]
          by_cases z : k' < j
          · rw [if_pos z, if_pos (by omega)]
          · rw [if_neg z, if_neg (by omega)]
      · rw [upd3_ne _ _ e, upd3_ne _ _ e, upd3_ne _ _ e]
  refine main n 0 σ (by omega) (h.congr (fun i' k' x hi2 hk' hx => ?_))
  by_cases e : i' = i
  · subst e; rw [upd3_eq, if_neg (by omega)]
  · rw [upd3_ne _ _ e]
theorem ct_bold {h9 : Nat} (h : RtB κ σ r R wss A NX BF B ss h9) (h32 : (sms R.1).length ≤ 32) (k : ∀ v, LB v (fun e => decide (e < (sms R.1).length) && b9 (boldS (smA R e))) → Q (.inl (some (.long v))) σ) : hvc [(4, pX4_bold κ)] [.ref r] σ Q := by
  have r2 := h.rr 2 (by omega)
  simp [hvc, dspI, h.tr, pX4_bold, bX4_bold_0, o_ic, o_lc, o_null, o_il, o_ll, o_al, o_dup, o_pop, o_dup_x1, o_dup2, o_iadd, o_isub, o_imul, o_iand, o_ior, o_ixor, o_ishl, o_ishr, o_idiv, o_irem, o_ineg, o_ladd, o_lsub, o_lmul, o_land, o_lor, o_lxor, o_ldiv, o_lrem, o_lneg, o_lcmp, o_i2l, o_l2i, o_i2b, o_i2c, o_iushr, o_lshl, o_lshr, o_if_eq, o_if_ne, o_if_lt, o_if_ge, o_if_gt, o_if_le, o_icmp_eq, o_icmp_ne, o_icmp_lt, o_icmp_ge, o_icmp_gt, o_icmp_le, o_ifnull, o_ifnonnull, o_acmp_eq, o_acmp_ne, o_is, o_ls, o_as, o_iinc, o_kill, o_sw, o_ireturn, o_zreturn, o_nreturn, o_lreturn, o_areturn, o_return, o_athrow, o_call, entP, lg_sl, Value.category, st1, st2, List.set, List.getElem?_cons_zero, List.getElem?_cons_succ, List.foldl, popN, aft]
  unfold bX4_bold_4
  intro X hX
  have main : ∀ m e v, e + m = (sms R.1).length → LB v (fun x => decide (x < e) && b9 (boldS (smA R x))) → X [some (.ref r), some (.long v), none, some (.int (nn e)), none] [] σ := by
    intro m
    induction m with
    | zero =>
      intro e v he hv
      apply hX
      have b1 : e < 2147483648 := by omega
      have b2 : ss.length < 2147483648 := by rw [h.sn]; omega
      have le : ss.length ≤ e := by rw [h.sn]; omega
      simp [o_ic, o_lc, o_null, o_il, o_ll, o_al, o_dup, o_pop, o_dup_x1, o_dup2, o_iadd, o_isub, o_imul, o_iand, o_ior, o_ixor, o_ishl, o_ishr, o_idiv, o_irem, o_ineg, o_ladd, o_lsub, o_lmul, o_land, o_lor, o_lxor, o_ldiv, o_lrem, o_lneg, o_lcmp, o_i2l, o_l2i, o_i2b, o_i2c, o_iushr, o_lshl, o_lshr, o_if_eq, o_if_ne, o_if_lt, o_if_ge, o_if_gt, o_if_le, o_icmp_eq, o_icmp_ne, o_icmp_lt, o_icmp_ge, o_icmp_gt, o_icmp_le, o_ifnull, o_ifnonnull, o_acmp_eq, o_acmp_ne, o_is, o_ls, o_as, o_iinc, o_kill, o_sw, o_ireturn, o_zreturn, o_nreturn, o_lreturn, o_areturn, o_return, o_athrow, o_call, entP, lg_sl, Value.category, st1, st2, List.set, List.getElem?_cons_zero, List.getElem?_cons_succ, List.foldl, popN, aft, o_gI, o_gR, o_pI, o_pN, o_pR, o_aI, o_aG, o_aR, o_len, o_aR8, o_sI, o_sB, o_sZ, o_sG, o_new, o_newA, o_cast, o_inst, o_cst, o_oi, o_sR, o_gIc, o_gSv, o_gSc, o_getc, o_dead, o_acopy, o_castA, o_castI, o_sR7, o_mna, o_mmax, o_mmin, o_mabs, h.tr, r2, va_rf]
      refine hv_size h.sl ?_
      simp [o_ic, o_lc, o_null, o_il, o_ll, o_al, o_dup, o_pop, o_dup_x1, o_dup2, o_iadd, o_isub, o_imul, o_iand, o_ior, o_ixor, o_ishl, o_ishr, o_idiv, o_irem, o_ineg, o_ladd, o_lsub, o_lmul, o_land, o_lor, o_lxor, o_ldiv, o_lrem, o_lneg, o_lcmp, o_i2l, o_l2i, o_i2b, o_i2c, o_iushr, o_lshl, o_lshr, o_if_eq, o_if_ne, o_if_lt, o_if_ge, o_if_gt, o_if_le, o_icmp_eq, o_icmp_ne, o_icmp_lt, o_icmp_ge, o_icmp_gt, o_icmp_le, o_ifnull, o_ifnonnull, o_acmp_eq, o_acmp_ne, o_is, o_ls, o_as, o_iinc, o_kill, o_sw, o_ireturn, o_zreturn, o_nreturn, o_lreturn, o_areturn, o_return, o_athrow, o_call, entP, lg_sl, Value.category, st1, st2, List.set, List.getElem?_cons_zero, List.getElem?_cons_succ, List.foldl, popN, aft, o_gI, o_gR, o_pI, o_pN, o_pR, o_aI, o_aG, o_aR, o_len, o_aR8, o_sI, o_sB, o_sZ, o_sG, o_new, o_newA, o_cast, o_inst, o_cst, o_oi, o_sR, o_gIc, o_gSv, o_gSc, o_getc, o_dead, o_acopy, o_castA, o_castI, o_sR7, o_mna, o_mmax, o_mmin, o_mabs, nn_eqL, nn_ltL, nn_leL, nn_Llt, nn_Lle, nn_lt, nn_le, nn_eq, nn_in, nn_clamp, nn_succ, nn_pos, nn_neg1, b1, b2, le, bX4_bold_52]
      rw [show e = (sms R.1).length by omega] at hv
      exact k v hv
    | succ m ih =>
      intro e v he hv
      apply hX
      have b1 : e < 2147483648 := by omega
      have b2 : ss.length < 2147483648 := by rw [h.sn]; omega
      have nle : ¬ ss.length ≤ e := by rw [h.sn]; omega
      obtain ⟨y, e1, e2, e3⟩ := h.sm e (by omega)
      have ty := e2.tg
      simp [o_ic, o_lc, o_null, o_il, o_ll, o_al, o_dup, o_pop, o_dup_x1, o_dup2, o_iadd, o_isub, o_imul, o_iand, o_ior, o_ixor, o_ishl, o_ishr, o_idiv, o_irem, o_ineg, o_ladd, o_lsub, o_lmul, o_land, o_lor, o_lxor, o_ldiv, o_lrem, o_lneg, o_lcmp, o_i2l, o_l2i, o_i2b, o_i2c, o_iushr, o_lshl, o_lshr, o_if_eq, o_if_ne, o_if_lt, o_if_ge, o_if_gt, o_if_le, o_icmp_eq, o_icmp_ne, o_icmp_lt, o_icmp_ge, o_icmp_gt, o_icmp_le, o_ifnull, o_ifnonnull, o_acmp_eq, o_acmp_ne, o_is, o_ls, o_as, o_iinc, o_kill, o_sw, o_ireturn, o_zreturn, o_nreturn, o_lreturn, o_areturn, o_return, o_athrow, o_call, entP, lg_sl, Value.category, st1, st2, List.set, List.getElem?_cons_zero, List.getElem?_cons_succ, List.foldl, popN, aft, o_gI, o_gR, o_pI, o_pN, o_pR, o_aI, o_aG, o_aR, o_len, o_aR8, o_sI, o_sB, o_sZ, o_sG, o_new, o_newA, o_cast, o_inst, o_cst, o_oi, o_sR, o_gIc, o_gSv, o_gSc, o_getc, o_dead, o_acopy, o_castA, o_castI, o_sR7, o_mna, o_mmax, o_mmin, o_mabs, h.tr, r2, va_rf]
      refine hv_size h.sl ?_
      simp [o_ic, o_lc, o_null, o_il, o_ll, o_al, o_dup, o_pop, o_dup_x1, o_dup2, o_iadd, o_isub, o_imul, o_iand, o_ior, o_ixor, o_ishl, o_ishr, o_idiv, o_irem, o_ineg, o_ladd, o_lsub, o_lmul, o_land, o_lor, o_lxor, o_ldiv, o_lrem, o_lneg, o_lcmp, o_i2l, o_l2i, o_i2b, o_i2c, o_iushr, o_lshl, o_lshr, o_if_eq, o_if_ne, o_if_lt, o_if_ge, o_if_gt, o_if_le, o_icmp_eq, o_icmp_ne, o_icmp_lt, o_icmp_ge, o_icmp_gt, o_icmp_le, o_ifnull, o_ifnonnull, o_acmp_eq, o_acmp_ne, o_is, o_ls, o_as, o_iinc, o_kill, o_sw, o_ireturn, o_zreturn, o_nreturn, o_lreturn, o_areturn, o_return, o_athrow, o_call, entP, lg_sl, Value.category, st1, st2, List.set, List.getElem?_cons_zero, List.getElem?_cons_succ, List.foldl, popN, aft, o_gI, o_gR, o_pI, o_pN, o_pR, o_aI, o_aG, o_aR, o_len, o_aR8, o_sI, o_sB, o_sZ, o_sG, o_new, o_newA, o_cast, o_inst, o_cst, o_oi, o_sR, o_gIc, o_gSv, o_gSc, o_getc, o_dead, o_acopy, o_castA, o_castI, o_sR7, o_mna, o_mmax, o_mmin, o_mabs, nn_eqL, nn_ltL, nn_leL, nn_Llt, nn_Lle, nn_lt, nn_le, nn_eq, nn_in, nn_clamp, nn_succ, nn_pos, nn_neg1, b1, b2, nle, h.tr, r2, va_rf]
      refine hv_get h.sl e1 ?_
      simp [o_ic, o_lc, o_null, o_il, o_ll, o_al, o_dup, o_pop, o_dup_x1, o_dup2, o_iadd, o_isub, o_imul, o_iand, o_ior, o_ixor, o_ishl, o_ishr, o_idiv, o_irem, o_ineg, o_ladd, o_lsub, o_lmul, o_land, o_lor, o_lxor, o_ldiv, o_lrem, o_lneg, o_lcmp, o_i2l, o_l2i, o_i2b, o_i2c, o_iushr, o_lshl, o_lshr, o_if_eq, o_if_ne, o_if_lt, o_if_ge, o_if_gt, o_if_le, o_icmp_eq, o_icmp_ne, o_icmp_lt, o_icmp_ge, o_icmp_gt, o_icmp_le, o_ifnull, o_ifnonnull, o_acmp_eq, o_acmp_ne, o_is, o_ls, o_as, o_iinc, o_kill, o_sw, o_ireturn, o_zreturn, o_nreturn, o_lreturn, o_areturn, o_return, o_athrow, o_call, entP, lg_sl, Value.category, st1, st2, List.set, List.getElem?_cons_zero, List.getElem?_cons_succ, List.foldl, popN, aft, o_gI, o_gR, o_pI, o_pN, o_pR, o_aI, o_aG, o_aR, o_len, o_aR8, o_sI, o_sB, o_sZ, o_sG, o_new, o_newA, o_cast, o_inst, o_cst, o_oi, o_sR, o_gIc, o_gSv, o_gSc, o_getc, o_dead, o_acopy, o_castA, o_castI, o_sR7, o_mna, o_mmax, o_mmin, o_mabs, ty]
      refine hv_bold e2 ?_
      simp [o_ic, o_lc, o_null, o_il, o_ll, o_al, o_dup, o_pop, o_dup_x1, o_dup2, o_iadd, o_isub, o_imul, o_iand, o_ior, o_ixor, o_ishl, o_ishr, o_idiv, o_irem, o_ineg, o_ladd, o_lsub, o_lmul, o_land, o_lor, o_lxor, o_ldiv, o_lrem, o_lneg, o_lcmp, o_i2l, o_l2i, o_i2b, o_i2c, o_iushr, o_lshl, o_lshr, o_if_eq, o_if_ne, o_if_lt, o_if_ge, o_if_gt, o_if_le, o_icmp_eq, o_icmp_ne, o_icmp_lt, o_icmp_ge, o_icmp_gt, o_icmp_le, o_ifnull, o_ifnonnull, o_acmp_eq, o_acmp_ne, o_is, o_ls, o_as, o_iinc, o_kill, o_sw, o_ireturn, o_zreturn, o_nreturn, o_lreturn, o_areturn, o_return, o_athrow, o_call, entP, lg_sl, Value.category, st1, st2, List.set, List.getElem?_cons_zero, List.getElem?_cons_succ, List.foldl, popN, aft, b2i_0]
      refine ⟨fun c => ?_, fun c => ?_⟩
      · simp [bX4_bold_46, o_ic, o_lc, o_null, o_il, o_ll, o_al, o_dup, o_pop, o_dup_x1, o_dup2, o_iadd, o_isub, o_imul, o_iand, o_ior, o_ixor, o_ishl, o_ishr, o_idiv, o_irem, o_ineg, o_ladd, o_lsub, o_lmul, o_land, o_lor, o_lxor, o_ldiv, o_lrem, o_lneg, o_lcmp, o_i2l, o_l2i, o_i2b, o_i2c, o_iushr, o_lshl, o_lshr, o_if_eq, o_if_ne, o_if_lt, o_if_ge, o_if_gt, o_if_le, o_icmp_eq, o_icmp_ne, o_icmp_lt, o_icmp_ge, o_icmp_gt, o_icmp_le, o_ifnull, o_ifnonnull, o_acmp_eq, o_acmp_ne, o_is, o_ls, o_as, o_iinc, o_kill, o_sw, o_ireturn, o_zreturn, o_nreturn, o_lreturn, o_areturn, o_return, o_athrow, o_call, entP, lg_sl, Value.category, st1, st2, List.set, List.getElem?_cons_zero, List.getElem?_cons_succ, List.foldl, popN, aft, nn_succ]
        refine ih (e + 1) v (by omega) (hv.congr (fun x hx => ?_))
        by_cases z : x = e
        · subst z; simp [c]
        · have : (x < e) = (x < e + 1) := by simp; omega
          simp only [this]
      · simp [bX4_bold_46, o_ic, o_lc, o_null, o_il, o_ll, o_al, o_dup, o_pop, o_dup_x1, o_dup2, o_iadd, o_isub, o_imul, o_iand, o_ior, o_ixor, o_ishl, o_ishr, o_idiv, o_irem, o_ineg, o_ladd, o_lsub, o_lmul, o_land, o_lor, o_lxor, o_ldiv, o_lrem, o_lneg, o_lcmp, o_i2l, o_l2i, o_i2b, o_i2c, o_iushr, o_lshl, o_lshr, o_if_eq, o_if_ne, o_if_lt, o_if_ge, o_if_gt, o_if_le, o_icmp_eq, o_icmp_ne, o_icmp_lt, o_icmp_ge, o_icmp_gt, o_icmp_le, o_ifnull, o_ifnonnull, o_acmp_eq, o_acmp_ne, o_is, o_ls, o_as, o_iinc, o_kill, o_sw, o_ireturn, o_zreturn, o_nreturn, o_lreturn, o_areturn, o_return, o_athrow, o_call, entP, lg_sl, Value.category, st1, st2, List.set, List.getElem?_cons_zero, List.getElem?_cons_succ, List.foldl, popN, aft, o_gI, o_gR, o_pI, o_pN, o_pR, o_aI, o_aG, o_aR, o_len, o_aR8, o_sI, o_sB, o_sZ, o_sG, o_new, o_newA, o_cast, o_inst, o_cst, o_oi, o_sR, o_gIc, o_gSv, o_gSc, o_getc, o_dead, o_acopy, o_castA, o_castI, o_sR7, o_mna, o_mmax, o_mmin, o_mabs, ty, e3, nn_succ]
        refine ih (e + 1) _ (by omega) ((hv.or (LB.bit e (by omega))).congr (fun x hx => ?_))
        by_cases z : x = e
        · subst z; simp [c]
        · have : (x < e) = (x < e + 1) := by simp; omega
          simp only [this]
          simp [z]
  exact main (sms R.1).length 0 0 (by omega) (LB.zero.congr (fun x hx => by simp))
end SVs
