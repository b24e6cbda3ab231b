/-! THE COMPONENT runs: a run begins -/
set_option maxRecDepth 100000
/-- a new run's object, ahead of the copy of what the names begin with -/
def nwR1 (σ : AH) (o : Nat) : AH := hsR (hnw σ 18 0 12) (hN σ) 11 (some o)
def nwR2 (σ : AH) (o : Nat) : AH := hsR (hnw (nwR1 σ o) 100 48 48) (hN σ) 2 (some (hN σ + 1))
def nwR3 (σ : AH) (o : Nat) : AH := hsR (hnw (nwR2 σ o) 100 32 32) (hN σ) 3 (some (hN σ + 2))
def nwR4 (σ : AH) (o : Nat) : AH := hsR (hnw (nwR3 σ o) 100 32 32) (hN σ) 4 (some (hN σ + 3))
def nwR5 (σ : AH) (o : Nat) : AH := hsR (hnw (nwR4 σ o) 100 100 100) (hN σ) 5 (some (hN σ + 4))
def nwR6 (σ : AH) (o : Nat) : AH := hsR (hsR (hnw (hnw (hnw (nwR5 σ o) 106 2 2) 100 8 8) 100 8 8) (hN σ + 5) 0 (some (hN σ + 6))) (hN σ + 5) 1 (some (hN σ + 7))
def nwR7 (σ : AH) (o r pl : Nat) : AH := hsI (hsR (hsI (hsR (nwR6 σ o) (hN σ) 6 (some (hN σ + 5))) (hN σ) 10 (-1)) (hN σ) 0 (some r)) (hN σ) 1 (nn pl)
section RI
variable {κ : Nat → Option Nat} {Q : Ret AH} {σ σ' : AH} {a o r pl c s h9 : Nat} {st : RS}
theorem nwR_hl (hk : Hok κ σ) : HL κ NoM NoM 8 242 σ (nwR7 σ o r pl) := by
  have F0 : HL κ NoM NoM (0 + 1) (0 + 12) σ (hnw σ 18 0 12) := (HL.rfl9 hk).nw (hk.nw (by decide))
  have ge : ∀ (M : Nat → Prop) j, M (hN σ + j) ∨ hN σ ≤ hN σ + j := fun M j => Or.inr (by omega)
  have t0 : hT (hnw σ 18 0 12) (hN σ) = 18 := by rw [hT_nw, if_pos rfl]
  have F1 := F0.sR (k := 11) (v := some o) (Or.inr (Nat.le_refl _)) t0 (by decide)
  have t1 : hT (nwR1 σ o) (hN σ) = 18 := t0
  have F2a := F1.nw (t := 100) (n := 48) (m := 48) (F1.ok.nw (by decide))
  have t2 : hT (hnw (nwR1 σ o) 100 48 48) (hN σ) = 18 := by rw [hT_nw, if_neg (by show ¬ hN σ = hN σ + 1; omega)]; exact t1
  have F2 := F2a.sR (k := 2) (v := some (hN σ + 1)) (Or.inr (Nat.le_refl _)) t2 (by decide)
  have F3a := F2.nw (t := 100) (n := 32) (m := 32) (F2.ok.nw (by decide))
  have t3 : hT (hnw (nwR2 σ o) 100 32 32) (hN σ) = 18 := by rw [hT_nw, if_neg (by show ¬ hN σ = hN σ + 1 + 1; omega)]; exact t2
  have F3 := F3a.sR (k := 3) (v := some (hN σ + 2)) (Or.inr (Nat.le_refl _)) t3 (by decide)
  have F4a := F3.nw (t := 100) (n := 32) (m := 32) (F3.ok.nw (by decide))
  have t4 : hT (hnw (nwR3 σ o) 100 32 32) (hN σ) = 18 := by rw [hT_nw, if_neg (by show ¬ hN σ = hN σ + 1 + 1 + 1; omega)]; exact t3
  have F4 := F4a.sR (k := 4) (v := some (hN σ + 3)) (Or.inr (Nat.le_refl _)) t4 (by decide)
  have F5a := F4.nw (t := 100) (n := 100) (m := 100) (F4.ok.nw (by decide))
  have t5 : hT (hnw (nwR4 σ o) 100 100 100) (hN σ) = 18 := by rw [hT_nw, if_neg (by show ¬ hN σ = hN σ + 1 + 1 + 1 + 1; omega)]; exact t4
  have F5 := F5a.sR (k := 5) (v := some (hN σ + 4)) (Or.inr (Nat.le_refl _)) t5 (by decide)
  have F6a := F5.nw (t := 106) (n := 2) (m := 2) (F5.ok.nw (by decide))
  have F6b := F6a.nw (t := 100) (n := 8) (m := 8) (F6a.ok.nw (by decide))
  have F6c := F6b.nw (t := 100) (n := 8) (m := 8) (F6b.ok.nw (by decide))
  have t6 : hT (hnw (hnw (hnw (nwR5 σ o) 106 2 2) 100 8 8) 100 8 8) (hN σ) = 18 := by
    rw [hT_nw, if_neg (by show ¬ hN σ = hN σ + 1 + 1 + 1 + 1 + 1 + 1 + 1; omega), hT_nw, if_neg (by show ¬ hN σ = hN σ + 1 + 1 + 1 + 1 + 1 + 1; omega), hT_nw, if_neg (by show ¬ hN σ = hN σ + 1 + 1 + 1 + 1 + 1; omega)]; exact t5
  have t65 : hT (hnw (hnw (hnw (nwR5 σ o) 106 2 2) 100 8 8) 100 8 8) (hN σ + 5) = 106 := by
    rw [hT_nw, if_neg (by show ¬ hN σ + 5 = hN σ + 1 + 1 + 1 + 1 + 1 + 1 + 1; omega), hT_nw, if_neg (by show ¬ hN σ + 5 = hN σ + 1 + 1 + 1 + 1 + 1 + 1; omega), hT_nw, if_pos (by show hN σ + 5 = hN σ + 1 + 1 + 1 + 1 + 1; omega)]
  have F6 := (F6c.sR (k := 0) (v := some (hN σ + 6)) (ge _ 5) t65 (by decide)).sR (k := 1) (v := some (hN σ + 7)) (ge _ 5) t65 (by decide)
  have F7 := (((F6.sR (k := 6) (v := some (hN σ + 5)) (ge _ 0) t6 (by decide)).sI (k := 10) (v := -1) (ge _ 0) t6 (by decide)).sR (k := 0) (v := some r) (ge _ 0) t6 (by decide)).sI (k := 1) (v := nn pl) (ge _ 0) t6 (by decide)
  exact F7.up (by omega) (by omega)
theorem nwR_rg (hk : Hok κ σ) : RG (nwR7 σ o r pl) (hN σ) r pl (fun _ => 0, fun _ => 0, fun _ => 0, fun _ => 0, 0, [], 0) := by
  have z : ∀ b j, hN σ ≤ b → hI σ b j = 0 := fun b j hb => ((hk.1 b hb).2 j).1
  have eI : ∀ b j, hN σ ≤ b → (b ≠ hN σ ∨ (j ≠ 1 ∧ j ≠ 10)) → hI (nwR7 σ o r pl) b j = 0 := fun b j hb hj => by
    show hI (hsI (hsR (hsI (hsR (nwR6 σ o) (hN σ) 6 (some (hN σ + 5))) (hN σ) 10 (-1)) (hN σ) 0 (some r)) (hN σ) 1 (nn pl)) b j = 0
    rw [hI_sI, if_neg (by omega)]
    show hI (hsI (hsR (nwR6 σ o) (hN σ) 6 (some (hN σ + 5))) (hN σ) 10 (-1)) b j = 0
    rw [hI_sI, if_neg (by omega)]
    exact z b j hb
  refine ⟨?_, ?_, ?_⟩
  · unfold RSh nwR7 nwR6 nwR5 nwR4 nwR3 nwR2 nwR1
    have b2 : ∀ b, b < 2 → b = 0 ∨ b = 1 := fun b hb => by omega
    refine ⟨?_, ⟨?_, ?_, ?_, ?_, ?_, ?_⟩, ⟨?_, ?_⟩, ⟨?_, ?_⟩, ⟨?_, ?_⟩, ⟨?_, ?_⟩, ⟨?_, ?_⟩, fun b hb => ?_⟩
    rotate_right
    · rcases b2 b hb with rfl | rfl
      · simp [hT_sI, hT_sR, hT_sG, hL_sI, hL_sR, hL_sG, hI_sI, hI_sR, hI_sG, hG_sI, hG_sR, hG_sG, hR_sI, hR_sR, hR_sG, hN_sI, hN_sR, hN_sG, hC_sI, hC_sR, hC_sG, hS_sI, hS_sR, hS_sG, hT_nw, hL_nw, hI_nw, hG_nw, hR_nw, hN_nw, hC_nw, hS_nw, hvc, hvi, dspI, vref, va_rf, hT_nw, hL_nw, hR_nw, hN_nw]
      · simp [hT_sI, hT_sR, hT_sG, hL_sI, hL_sR, hL_sG, hI_sI, hI_sR, hI_sG, hG_sI, hG_sR, hG_sG, hR_sI, hR_sR, hR_sG, hN_sI, hN_sR, hN_sG, hC_sI, hC_sR, hC_sG, hS_sI, hS_sR, hS_sG, hT_nw, hL_nw, hI_nw, hG_nw, hR_nw, hN_nw, hC_nw, hS_nw, hvc, hvi, dspI, vref, va_rf, hT_nw, hL_nw, hR_nw, hN_nw]
    all_goals simp [hT_sI, hT_sR, hT_sG, hL_sI, hL_sR, hL_sG, hI_sI, hI_sR, hI_sG, hG_sI, hG_sR, hG_sG, hR_sI, hR_sR, hR_sG, hN_sI, hN_sR, hN_sG, hC_sI, hC_sR, hC_sG, hS_sI, hS_sR, hS_sG, hT_nw, hL_nw, hI_nw, hG_nw, hR_nw, hN_nw, hC_nw, hS_nw, hvc, hvi, dspI, vref, va_rf, hT_nw, hL_nw, hR_nw, hN_nw]
    rw [if_neg (by omega), if_neg (by omega), if_neg (by omega), if_neg (by omega), if_neg (by omega), if_neg (by omega)]
  · show hI (hsI _ (hN σ) 1 (nn pl)) (hN σ) 1 = nn pl
    rw [hI_sI, if_pos ⟨rfl, rfl⟩]
  · refine ⟨fun j hj => eI _ _ (by omega) (by omega), fun j hj => eI _ _ (by omega) (by omega), fun j hj => eI _ _ (by omega) (by omega), fun j x _ hx => by simp at hx, fun b j hb hj => eI _ _ (by omega) (by omega), eI _ _ (by omega) (by omega), eI _ _ (by omega) (by omega), ?_⟩
    show hI (hsI (hsR (hsI (hsR (nwR6 σ o) (hN σ) 6 (some (hN σ + 5))) (hN σ) 10 (-1)) (hN σ) 0 (some r)) (hN σ) 1 (nn pl)) (hN σ) 10 = -1
    rw [hI_sI, if_neg (by omega)]
    show hI (hsI (hsR (nwR6 σ o) (hN σ) 6 (some (hN σ + 5))) (hN σ) 10 (-1)) (hN σ) 10 = -1
    rw [hI_sI, if_pos ⟨rfl, rfl⟩]
theorem RG.cg (h : RG σ a r pl st) {now : Nat → Int32} (e : ∀ j, j < 48 → st.1 j = now j) : RG σ a r pl (now, st.2) := by
  obtain ⟨h0, i1, i2, i3⟩ := h
  exact ⟨h0, i1, fun j hj => (i2 j hj).trans (e j hj), i3⟩
theorem ct_rInit {bg : Nat → Int32} (hk : Hok κ σ) (to : hT σ o = 1) (f2 : hR σ o 2 = some (o + 2) ∧ hT σ (o + 2) = 100 ∧ hL σ (o + 2) = 48 ∧ ∀ i, i < 48 → hI σ (o + 2) i = bg i) (r1 : 8 ≤ hC σ) (r2 : 242 ≤ hS σ)
    (kk : ∀ σ', HL κ NoM NoM 8 242 σ σ' → RG σ' (hN σ) r pl (rs0 bg (fun _ => 0)) → Q (.inl none) σ') : pX21_init κ [.ref (hN σ), .ref o, .ref r, .int (nn pl)] (hnw σ 18 0 12) Q := by
  have t0 : hT (hnw σ 18 0 12) (hN σ) = 18 := by rw [hT_nw, if_pos rfl]
  have F7 := nwR_hl (o := o) (r := r) (pl := pl) hk
  have G7 := nwR_rg (o := o) (r := r) (pl := pl) hk
  have ho : o + 2 < hN σ := hk.1.lt (by rw [f2.2.1]; decide)
  have q1 : hN σ ≠ hN σ + 1 := by omega
  simp [pX21_init, bX21_init_0, o_ic, o_lc, o_null, o_il, o_ll, o_al, o_dup, o_pop, o_dup_x1, o_dup2, o_iadd, o_isub, o_imul, o_iand, o_ior, o_ixor, o_ishl, o_ishr, o_idiv, o_irem, o_ineg, o_ladd, o_lsub, o_lmul, o_land, o_lor, o_lxor, o_ldiv, o_lrem, o_lneg, o_lcmp, o_i2l, o_l2i, o_i2b, o_i2c, o_iushr, o_lshl, o_lshr, o_if_eq, o_if_ne, o_if_lt, o_if_ge, o_if_gt, o_if_le, o_icmp_eq, o_icmp_ne, o_icmp_lt, o_icmp_ge, o_icmp_gt, o_icmp_le, o_ifnull, o_ifnonnull, o_acmp_eq, o_acmp_ne, o_is, o_ls, o_as, o_iinc, o_kill, o_sw, o_ireturn, o_zreturn, o_nreturn, o_lreturn, o_areturn, o_return, o_athrow, o_call, entP, lg_sl, Value.category, st1, st2, List.set, List.getElem?_cons_zero, List.getElem?_cons_succ, List.foldl, popN, aft, o_gI, o_gR, o_pI, o_pN, o_pR, o_aI, o_aG, o_aR, o_len, o_aR8, o_sI, o_sB, o_sZ, o_sG, o_new, o_newA, o_cast, o_inst, o_cst, o_oi, o_sR, o_gIc, o_gSv, o_gSc, o_getc, o_dead, o_acopy, o_castA, o_castI, o_sR7, o_mna, o_mmax, o_mmin, o_mabs, hT_sI, hT_sR, hT_sG, hL_sI, hL_sR, hL_sG, hI_sI, hI_sR, hI_sG, hG_sI, hG_sR, hG_sG, hR_sI, hR_sR, hR_sG, hN_sI, hN_sR, hN_sG, hC_sI, hC_sR, hC_sG, hS_sI, hS_sR, hS_sG, hT_nw, hL_nw, hI_nw, hG_nw, hR_nw, hN_nw, hC_nw, hS_nw, hvc, hvi, dspI, vref, va_rf, hT_nw, hL_nw, hN_nw, hC_nw, hS_nw]
  have key : bX21_init_70 κ Q [some (.ref (hN σ)), some (.ref o), none, none, some (.int 0)] [] (nwR7 σ o r pl) := by
    unfold bX21_init_70
    intro X hX
    have hind : ∀ m i st σ1, i + m = 48 → HL κ NoM NoM 8 242 σ σ1 → RG σ1 (hN σ) r pl st → (∀ j, j < i → st.1 j = bg j) → st.2 = (rs0 bg (fun _ => 0)).2 → X [some (.ref (hN σ)), some (.ref o), none, none, some (.int (nn i))] [] σ1 := by
      intro m
      induction m with
      | zero =>
        intro i st σ1 hi' F G h1 h2
        have : i = 48 := by omega
        subst this
        apply hX
        simp [o_ic, o_lc, o_null, o_il, o_ll, o_al, o_dup, o_pop, o_dup_x1, o_dup2, o_iadd, o_isub, o_imul, o_iand, o_ior, o_ixor, o_ishl, o_ishr, o_idiv, o_irem, o_ineg, o_ladd, o_lsub, o_lmul, o_land, o_lor, o_lxor, o_ldiv, o_lrem, o_lneg, o_lcmp, o_i2l, o_l2i, o_i2b, o_i2c, o_iushr, o_lshl, o_lshr, o_if_eq, o_if_ne, o_if_lt, o_if_ge, o_if_gt, o_if_le, o_icmp_eq, o_icmp_ne, o_icmp_lt, o_icmp_ge, o_icmp_gt, o_icmp_le, o_ifnull, o_ifnonnull, o_acmp_eq, o_acmp_ne, o_is, o_ls, o_as, o_iinc, o_kill, o_sw, o_ireturn, o_zreturn, o_nreturn, o_lreturn, o_areturn, o_return, o_athrow, o_call, entP, lg_sl, Value.category, st1, st2, List.set, List.getElem?_cons_zero, List.getElem?_cons_succ, List.foldl, popN, aft, bX21_init_97]
        refine ⟨fun _ => kk σ1 F ?_, fun z => absurd z (by decide)⟩
        have := G.cg h1
        rw [h2] at this
        exact this
      | succ m ih =>
        intro i st σ1 hi' F G h1 h2
        have bi : i < 2147483648 := by omega
        have i48 : i < 48 := by omega
        obtain ⟨n1, n2⟩ := G.1.2.2.1
        have to1 : hT σ1 o = 1 := F.tg hk to (by decide)
        have o2 : hR σ1 o 2 = some (o + 2) := (F.ref hk to (by decide) id 2).trans f2.1
        have p1 : hT σ1 (o + 2) = 100 := F.tg hk f2.2.1 (by decide)
        have p2 : hL σ1 (o + 2) = 48 := (F.len hk (by rw [f2.2.1]; decide)).trans f2.2.2.1
        have p3 : hI σ1 (o + 2) i = bg i := (F.int hk f2.2.1 (by decide) id i).trans (f2.2.2.2 i i48)
        apply hX
        have n48 : ¬ (48 : Int32) ≤ nn i := by
          rw [Int32.le_iff_toInt_le, nn_toInt bi]
          have e3 : (48 : Int32).toInt = 48 := rfl
          omega
        simp [o_ic, o_lc, o_null, o_il, o_ll, o_al, o_dup, o_pop, o_dup_x1, o_dup2, o_iadd, o_isub, o_imul, o_iand, o_ior, o_ixor, o_ishl, o_ishr, o_idiv, o_irem, o_ineg, o_ladd, o_lsub, o_lmul, o_land, o_lor, o_lxor, o_ldiv, o_lrem, o_lneg, o_lcmp, o_i2l, o_l2i, o_i2b, o_i2c, o_iushr, o_lshl, o_lshr, o_if_eq, o_if_ne, o_if_lt, o_if_ge, o_if_gt, o_if_le, o_icmp_eq, o_icmp_ne, o_icmp_lt, o_icmp_ge, o_icmp_gt, o_icmp_le, o_ifnull, o_ifnonnull, o_acmp_eq, o_acmp_ne, o_is, o_ls, o_as, o_iinc, o_kill, o_sw, o_ireturn, o_zreturn, o_nreturn, o_lreturn, o_areturn, o_return, o_athrow, o_call, entP, lg_sl, Value.category, st1, st2, List.set, List.getElem?_cons_zero, List.getElem?_cons_succ, List.foldl, popN, aft, o_gI, o_gR, o_pI, o_pN, o_pR, o_aI, o_aG, o_aR, o_len, o_aR8, o_sI, o_sB, o_sZ, o_sG, o_new, o_newA, o_cast, o_inst, o_cst, o_oi, o_sR, o_gIc, o_gSv, o_gSc, o_getc, o_dead, o_acopy, o_castA, o_castI, o_sR7, o_mna, o_mmax, o_mmin, o_mabs, hT_sI, hT_sR, hT_sG, hL_sI, hL_sR, hL_sG, hI_sI, hI_sR, hI_sG, hG_sI, hG_sR, hG_sG, hR_sI, hR_sR, hR_sG, hN_sI, hN_sR, hN_sG, hC_sI, hC_sR, hC_sG, hS_sI, hS_sR, hS_sG, hT_nw, hL_nw, hI_nw, hG_nw, hR_nw, hN_nw, hC_nw, hS_nw, hvc, hvi, dspI, vref, va_rf, n48, G.1.1, G.1.2.1.2.1, va_rf, to1, o2, p1, p2, nn_in bi, nn_clamp bi, i48, p3, n1, n2]
        rw [nn_addR]
        refine ih (i + 1) (rNow st (nn i) (bg i)) _ (by omega) (F.sI (Or.inr (by omega)) n1 (by decide)) (G.now i48) (fun j hj => ?_) h2
        show upd9 st.1 (nn i).toNatClampNeg (bg i) j = bg j
        rw [nn_clamp bi]
        unfold upd9
        by_cases c : j = i
        · rw [if_pos c, c]
        · rw [if_neg c]; exact h1 j (by omega)
    exact hind 48 0 _ _ rfl F7 G7 (fun j hj => by omega) rfl
  have w : ∀ (n : Nat), 0 < n → ¬ hN σ = hN σ + n := fun n hn => by omega
  refine ⟨⟨by omega, by omega⟩, ⟨by omega, by omega⟩, by omega, ⟨by omega, by omega⟩, ?_, ⟨by omega, by omega⟩, ?_, ⟨by omega, by omega⟩, ?_, key⟩
  · rw [if_neg (by omega), if_neg (by omega)]
  · rw [if_neg (by omega), if_neg (by omega), if_neg (by omega)]
  · rw [if_neg (by omega), if_neg (by omega), if_neg (by omega), if_neg (by omega), if_neg (by omega), if_neg (by omega)]
end RI
