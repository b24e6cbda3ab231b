/-! THE COMPONENT: a reader is made -/
set_option maxRecDepth 100000
theorem cq_init9 {κ : Nat → Option Nat} {Q : Ret AH} {σ : AH} {a : Nat} (hk : Hok κ σ) (h1 : hT σ a = 19) (h2 : hI σ a 2 = 0)
    (k : ∀ σ', Hok κ σ' → HF (fun b => b = a) 0 0 σ σ' → AL κ σ' a [] → hN σ' = hN σ → Q (.inl none) σ') : pJ2_init κ [.ref a] σ Q := by
  obtain ⟨f1, f2, d, f3, f4, f5⟩ := hk
  have nk : ¬ KTg (hT σ a) := by rw [h1]; unfold KTg; omega
  have ha : hT σ a ≠ 0 := by rw [h1]; decide
  simp [pJ2_init, bJ2_init_0, pJ1_init, bJ1_init_0, pJ0_init, bJ0_init_0, o_ic, o_lc, o_null, o_il, o_ll, o_al, o_dup, o_pop, o_dup_x1, o_dup2, o_iadd, o_isub, o_imul, o_iand, o_ior, o_ixor, o_ishl, o_ishr, o_idiv, o_irem, o_ineg, o_ladd, o_lsub, o_lmul, o_land, o_lor, o_lxor, o_ldiv, o_lrem, o_lneg, o_lcmp, o_i2l, o_l2i, o_i2b, o_i2c, o_iushr, o_lshl, o_lshr, o_if_eq, o_if_ne, o_if_lt, o_if_ge, o_if_gt, o_if_le, o_icmp_eq, o_icmp_ne, o_icmp_lt, o_icmp_ge, o_icmp_gt, o_icmp_le, o_ifnull, o_ifnonnull, o_acmp_eq, o_acmp_ne, o_is, o_ls, o_as, o_iinc, o_kill, o_sw, o_ireturn, o_zreturn, o_nreturn, o_lreturn, o_areturn, o_return, o_athrow, o_call, entP, lg_sl, Value.category, st1, st2, List.set, List.getElem?_cons_zero, List.getElem?_cons_succ, List.foldl, popN, aft, o_gI, o_gR, o_pI, o_pN, o_pR, o_aI, o_aG, o_aR, o_len, o_aR8, o_sI, o_sB, o_sZ, o_sG, o_new, o_newA, o_cast, o_inst, o_cst, o_oi, o_sR, o_gIc, o_gSv, o_gSc, o_getc, o_dead, o_acopy, o_castA, o_castI, o_sR7, o_mna, o_mmax, o_mmin, o_mabs, hT_sI, hT_sR, hT_sG, hL_sI, hL_sR, hL_sG, hI_sI, hI_sR, hI_sG, hG_sI, hG_sR, hG_sG, hR_sI, hR_sR, hR_sG, hN_sI, hN_sR, hN_sG, hC_sI, hC_sR, hC_sG, hS_sI, hS_sR, hS_sG, hT_nw, hL_nw, hI_nw, hG_nw, hR_nw, hN_nw, hC_nw, hS_nw, hvc, hvi, dspI, vref, va_rf, h1, f3]
  have hdl := f1.lt (a := d) (by rw [f4]; decide)
  refine k _ ⟨(f1.sI ha).sR (by rw [hT_sI]; exact ha), ⟨?_, ?_⟩, d, f3, f4, f5⟩ (((HF.rfl9 (M := fun b => b = a)).sI f1 (Or.inl rfl) nk).sR f1 (Or.inl rfl) (by rw [hT_sI]; exact nk)) ⟨h1, ?_, fun x hx => by simp at hx, d, ?_, Or.inl ⟨rfl, f3⟩⟩ rfl
  · intro b e hb hb1
    rw [hR_sR, hR_sI] at hb1
    rw [hT_sR, hT_sI] at hb
    rw [hN_sR, hN_sI]
    split at hb1
    · cases hb1; exact hdl
    · exact f2.1 b e hb hb1
  · intro b c e hb hc hb1 hc1 he
    rw [hR_sR, hR_sI] at hb1 hc1
    rw [hT_sR, hT_sI] at hb hc he
    by_cases cb : b = a
    · subst cb
      simp at hb1
      subst hb1
      rw [f4] at he
      omega
    · by_cases cc : c = a
      · subst cc
        simp at hc1
        subst hc1
        rw [f4] at he
        omega
      · rw [if_neg (fun q => cb q.1)] at hb1
        rw [if_neg (fun q => cc q.1)] at hc1
        exact f2.2 b c e hb hc hb1 hc1 he
  · rw [hI_sR, hI_sI, if_neg (by omega)]; rw [h2]; rfl
  · rw [hR_sR, if_pos ⟨rfl, rfl⟩]
/-- a list, with its address known -/
theorem cq_newLN {κ : Nat → Option Nat} {Q : Ret AH} {σ : AH} (hk : Hok κ σ) (k : ∀ σ', HL κ NoM NoM 1 3 σ σ' → AL κ σ' (hN σ) [] → hN σ' = hN σ + 1 → Q (.inl none) σ') : pJ2_init κ [.ref (hN σ)] (hnw σ 19 0 3) Q := by
  have h1 : hT (hnw σ 19 0 3) (hN σ) = 19 := by rw [hT_nw, if_pos rfl]
  have h2 : hI (hnw σ 19 0 3) (hN σ) 2 = 0 := by rw [hI_nw]; exact ((hk.1 _ (Nat.le_refl _)).2 2).1
  exact cq_init9 hk.nw19 h1 h2 (fun σ' a b c d => k σ' (HL.nl hk b a) c d)
/-- one list of a routine: made, and set -/
theorem ct_rtList {κ : Nat → Option Nat} {Q : Cont AH} {R : Ret AH} {σ : AH} {r j t : Nat} {L : Lc} (hk : Hok κ σ) (hr : hT σ r = t) (t0 : t ≠ 0 ∧ t ≠ 19 ∧ t ≠ 104 ∧ t < 150 ∧ t ≠ 60 ∧ t ≠ 61) (r1 : 1 ≤ hC σ) (r2 : 3 ≤ hS σ)
    (k : ∀ σ', HL κ NoM (EqM r) 1 3 σ σ' → AL κ σ' (hN σ) [] → hN σ' = hN σ + 1 → hR σ' r j = some (hN σ) → (∀ i, i ≠ j → hR σ' r i = hR σ r i) → Q L [] σ') :
    (o_new 18 3 <| o_dup <| o_call 1 (hvi (pJ2_init κ)) (fun _ a σ => R (.inr a) σ) <| o_pR j [t] <| Q) L [.ref r] σ := by
  simp [o_ic, o_lc, o_null, o_il, o_ll, o_al, o_dup, o_pop, o_dup_x1, o_dup2, o_iadd, o_isub, o_imul, o_iand, o_ior, o_ixor, o_ishl, o_ishr, o_idiv, o_irem, o_ineg, o_ladd, o_lsub, o_lmul, o_land, o_lor, o_lxor, o_ldiv, o_lrem, o_lneg, o_lcmp, o_i2l, o_l2i, o_i2b, o_i2c, o_iushr, o_lshl, o_lshr, o_if_eq, o_if_ne, o_if_lt, o_if_ge, o_if_gt, o_if_le, o_icmp_eq, o_icmp_ne, o_icmp_lt, o_icmp_ge, o_icmp_gt, o_icmp_le, o_ifnull, o_ifnonnull, o_acmp_eq, o_acmp_ne, o_is, o_ls, o_as, o_iinc, o_kill, o_sw, o_ireturn, o_zreturn, o_nreturn, o_lreturn, o_areturn, o_return, o_athrow, o_call, entP, lg_sl, Value.category, st1, st2, List.set, List.getElem?_cons_zero, List.getElem?_cons_succ, List.foldl, popN, aft, o_gI, o_gR, o_pI, o_pN, o_pR, o_aI, o_aG, o_aR, o_len, o_aR8, o_sI, o_sB, o_sZ, o_sG, o_new, o_newA, o_cast, o_inst, o_cst, o_oi, o_sR, o_gIc, o_gSv, o_gSc, o_getc, o_dead, o_acopy, o_castA, o_castI, o_sR7, o_mna, o_mmax, o_mmin, o_mabs, hvi, r1, r2]
  refine cq_newLN hk (fun σ1 F1 A1 N1 => ?_)
  have t1 : hT σ1 r = t := F1.tg hk hr t0.1
  simp [o_ic, o_lc, o_null, o_il, o_ll, o_al, o_dup, o_pop, o_dup_x1, o_dup2, o_iadd, o_isub, o_imul, o_iand, o_ior, o_ixor, o_ishl, o_ishr, o_idiv, o_irem, o_ineg, o_ladd, o_lsub, o_lmul, o_land, o_lor, o_lxor, o_ldiv, o_lrem, o_lneg, o_lcmp, o_i2l, o_l2i, o_i2b, o_i2c, o_iushr, o_lshl, o_lshr, o_if_eq, o_if_ne, o_if_lt, o_if_ge, o_if_gt, o_if_le, o_icmp_eq, o_icmp_ne, o_icmp_lt, o_icmp_ge, o_icmp_gt, o_icmp_le, o_ifnull, o_ifnonnull, o_acmp_eq, o_acmp_ne, o_is, o_ls, o_as, o_iinc, o_kill, o_sw, o_ireturn, o_zreturn, o_nreturn, o_lreturn, o_areturn, o_return, o_athrow, o_call, entP, lg_sl, Value.category, st1, st2, List.set, List.getElem?_cons_zero, List.getElem?_cons_succ, List.foldl, popN, aft, o_gI, o_gR, o_pI, o_pN, o_pR, o_aI, o_aG, o_aR, o_len, o_aR8, o_sI, o_sB, o_sZ, o_sG, o_new, o_newA, o_cast, o_inst, o_cst, o_oi, o_sR, o_gIc, o_gSv, o_gSc, o_getc, o_dead, o_acopy, o_castA, o_castI, o_sR7, o_mna, o_mmax, o_mmin, o_mabs, hT_sI, hT_sR, hT_sG, hL_sI, hL_sR, hL_sG, hI_sI, hI_sR, hI_sG, hG_sI, hG_sR, hG_sG, hR_sI, hR_sR, hR_sG, hN_sI, hN_sR, hN_sG, hC_sI, hC_sR, hC_sG, hS_sI, hS_sR, hS_sG, hT_nw, hL_nw, hI_nw, hG_nw, hR_nw, hN_nw, hC_nw, hS_nw, hvc, hvi, dspI, vref, va_rf, t1]
  have F2 : HL κ NoM (EqM r) 0 0 σ1 (hsR σ1 r j (some (hN σ))) := (HL.rfl9 F1.ok).sR (Or.inl rfl) t1 t0
  refine k _ ((F1.wk.trans F2).up (by omega) (by omega)) (F2.al A1 id) N1 (by simp [hT_sI, hT_sR, hT_sG, hL_sI, hL_sR, hL_sG, hI_sI, hI_sR, hI_sG, hG_sI, hG_sR, hG_sG, hR_sI, hR_sR, hR_sG, hN_sI, hN_sR, hN_sG, hC_sI, hC_sR, hC_sG, hS_sI, hS_sR, hS_sG, hT_nw, hL_nw, hI_nw, hG_nw, hR_nw, hN_nw, hC_nw, hS_nw, hvc, hvi, dspI, vref, va_rf]) (fun i hi => ?_)
  rw [hR_sR, if_neg (fun q => hi q.2)]
  exact F1.ref hk hr ⟨t0.1, t0.2.1, t0.2.2.1⟩ id i
theorem ct_rtInit {κ : Nat → Option Nat} {Q : Ret AH} {σ : AH} {r : Nat} (hk : Hok κ σ) (hr : hT σ r = 4) (r1 : 4 ≤ hC σ) (r2 : 12 ≤ hS σ)
    (k : ∀ σ', HL κ NoM (EqM r) 4 12 σ σ' → hN σ' = hN σ + 4 → (∀ i, i < 4 → hR σ' r i = some (hN σ + i) ∧ AL κ σ' (hN σ + i) []) → Q (.inl none) σ') : pX4_init κ [.ref r] σ Q := by
  have eq0 : pX4_init κ [.ref r] σ Q = (o_new 18 3 <| o_dup <| o_call 1 (hvi (pJ2_init κ)) (fun _ a σ => Q (.inr a) σ) <| o_pR 0 [4] <| (o_al 0 <| o_new 18 3 <| o_dup <| o_call 1 (hvi (pJ2_init κ)) (fun _ a σ => Q (.inr a) σ) <| o_pR 1 [4] <| o_al 0 <| o_new 18 3 <| o_dup <| o_call 1 (hvi (pJ2_init κ)) (fun _ a σ => Q (.inr a) σ) <| o_pR 2 [4] <| o_al 0 <| o_new 18 3 <| o_dup <| o_call 1 (hvi (pJ2_init κ)) (fun _ a σ => Q (.inr a) σ) <| o_pR 3 [4] <| o_return Q)) [some (.ref r)] [.ref r] σ := by
    simp [pX4_init, bX4_init_0, o_ic, o_lc, o_null, o_il, o_ll, o_al, o_dup, o_pop, o_dup_x1, o_dup2, o_iadd, o_isub, o_imul, o_iand, o_ior, o_ixor, o_ishl, o_ishr, o_idiv, o_irem, o_ineg, o_ladd, o_lsub, o_lmul, o_land, o_lor, o_lxor, o_ldiv, o_lrem, o_lneg, o_lcmp, o_i2l, o_l2i, o_i2b, o_i2c, o_iushr, o_lshl, o_lshr, o_if_eq, o_if_ne, o_if_lt, o_if_ge, o_if_gt, o_if_le, o_icmp_eq, o_icmp_ne, o_icmp_lt, o_icmp_ge, o_icmp_gt, o_icmp_le, o_ifnull, o_ifnonnull, o_acmp_eq, o_acmp_ne, o_is, o_ls, o_as, o_iinc, o_kill, o_sw, o_ireturn, o_zreturn, o_nreturn, o_lreturn, o_areturn, o_return, o_athrow, o_call, entP, lg_sl, Value.category, st1, st2, List.set, List.getElem?_cons_zero, List.getElem?_cons_succ, List.foldl, popN, aft, o_gI, o_gR, o_pI, o_pN, o_pR, o_aI, o_aG, o_aR, o_len, o_aR8, o_sI, o_sB, o_sZ, o_sG, o_new, o_newA, o_cast, o_inst, o_cst, o_oi, o_sR, o_gIc, o_gSv, o_gSc, o_getc, o_dead, o_acopy, o_castA, o_castI, o_sR7, o_mna, o_mmax, o_mmin, o_mabs]
  rw [eq0]
  refine ct_rtList hk hr (by decide) (by omega) (by omega) (fun σ1 F1 A1 N1 e1 _ => ?_)
  have t1 : hT σ1 r = 4 := F1.tg hk hr (by decide)
  show (o_new 18 3 <| o_dup <| o_call 1 (hvi (pJ2_init κ)) (fun _ a σ => Q (.inr a) σ) <| o_pR 1 [4] <| (o_al 0 <| o_new 18 3 <| o_dup <| o_call 1 (hvi (pJ2_init κ)) (fun _ a σ => Q (.inr a) σ) <| o_pR 2 [4] <| o_al 0 <| o_new 18 3 <| o_dup <| o_call 1 (hvi (pJ2_init κ)) (fun _ a σ => Q (.inr a) σ) <| o_pR 3 [4] <| o_return Q)) [some (.ref r)] [.ref r] σ1
  refine ct_rtList F1.ok t1 (by decide) (by have := F1.C; omega) (by have := F1.S; omega) (fun σ2 F2 A2 N2 e2 g2 => ?_)
  have t2 : hT σ2 r = 4 := F2.tg F1.ok t1 (by decide)
  have G2 := F1.trans F2
  show (o_new 18 3 <| o_dup <| o_call 1 (hvi (pJ2_init κ)) (fun _ a σ => Q (.inr a) σ) <| o_pR 2 [4] <| (o_al 0 <| o_new 18 3 <| o_dup <| o_call 1 (hvi (pJ2_init κ)) (fun _ a σ => Q (.inr a) σ) <| o_pR 3 [4] <| o_return Q)) [some (.ref r)] [.ref r] σ2
  refine ct_rtList F2.ok t2 (by decide) (by have := G2.C; omega) (by have := G2.S; omega) (fun σ3 F3 A3 N3 e3 g3 => ?_)
  have t3 : hT σ3 r = 4 := F3.tg F2.ok t2 (by decide)
  have G3 := G2.trans F3
  show (o_new 18 3 <| o_dup <| o_call 1 (hvi (pJ2_init κ)) (fun _ a σ => Q (.inr a) σ) <| o_pR 3 [4] <| o_return Q) [some (.ref r)] [.ref r] σ3
  refine ct_rtList F3.ok t3 (by decide) (by have := G3.C; omega) (by have := G3.S; omega) (fun σ4 F4 A4 N4 e4 g4 => ?_)
  have G4 := G3.trans F4
  show Q (.inl none) σ4
  refine k σ4 (G4.up (by omega) (by omega)) (by omega) (fun i hi => ?_)
  have hi' : i = 0 ∨ i = 1 ∨ i = 2 ∨ i = 3 := by omega
  rcases hi' with rfl | rfl | rfl | rfl
  · exact ⟨by rw [g4 0 (by decide), g3 0 (by decide), g2 0 (by decide)]; exact e1, F4.al (F3.al (F2.al A1 id) id) id⟩
  · rw [← N1]; exact ⟨by rw [g4 1 (by decide), g3 1 (by decide)]; exact e2, F4.al (F3.al A2 id) id⟩
  · rw [show hN σ + 2 = hN σ2 by omega]; exact ⟨by rw [g4 2 (by decide)]; exact e3, F4.al A3 id⟩
  · rw [show hN σ + 3 = hN σ3 by omega]; exact ⟨e4, A4⟩
theorem ct_rdInit {κ : Nat → Option Nat} {Q : Ret AH} {σ : AH} {o : Nat} {l : List Nat} (hk : Hok κ σ) (hK : Kst κ σ) (hT9 : TapeC σ o l) (r1 : 9 ≤ hC σ) (r2 : 44 ≤ hS σ)
    (k : ∀ σ', HL κ NoM NoM 9 44 σ σ' → hN σ' = hN σ + 9 → LnC κ σ' (hN σ) o l (hN σ + 6) (hN σ + 7) [] → CX κ σ' (hN σ) 0 [] [] → hI σ' (hN σ) 3 = 0 → Q (.inl none) σ') : pX3_init κ [.ref (hN σ), .ref o] (hnw σ 3 0 9) Q := by
  have hz := (hk.1 (hN σ) (Nat.le_refl _)).2
  have hz1 := (hk.1 (hN σ + 1) (by omega)).2
  have k0 : Hok κ (hnw σ 3 0 9) := hk.nw (by decide)
  have F0 : HL κ NoM NoM 1 9 σ (hnw σ 3 0 9) := ((HL.rfl9 (M := NoM) (MR := NoM) hk).nw k0).up (by omega) (by omega)
  have t0 : hT (hnw σ 3 0 9) (hN σ) = 3 := by rw [hT_nw, if_pos rfl]
  have F1 : HL κ NoM (EqM (hN σ)) 0 0 (hnw σ 3 0 9) (hsR (hnw σ 3 0 9) (hN σ) 8 (some o)) := (HL.rfl9 k0).sR (Or.inl rfl) t0 (by decide)
  have k1 := F1.ok
  generalize hs1 : hsR (hnw σ 3 0 9) (hN σ) 8 (some o) = σ1 at F1 k1
  have t1 : hT σ1 (hN σ) = 3 := F1.tg k0 t0 (by decide)
  have e18 : hR σ1 (hN σ) 8 = some o := by rw [← hs1]; simp [hT_sI, hT_sR, hT_sG, hL_sI, hL_sR, hL_sG, hI_sI, hI_sR, hI_sG, hG_sI, hG_sR, hG_sG, hR_sI, hR_sR, hR_sG, hN_sI, hN_sR, hN_sG, hC_sI, hC_sR, hC_sG, hS_sI, hS_sR, hS_sG, hT_nw, hL_nw, hI_nw, hG_nw, hR_nw, hN_nw, hC_nw, hS_nw, hvc, hvi, dspI, vref, va_rf]
  have i13 : hI σ1 (hN σ) 3 = 0 := by rw [← hs1]; simp [hT_sI, hT_sR, hT_sG, hL_sI, hL_sR, hL_sG, hI_sI, hI_sR, hI_sG, hG_sI, hG_sR, hG_sG, hR_sI, hR_sR, hR_sG, hN_sI, hN_sR, hN_sG, hC_sI, hC_sR, hC_sG, hS_sI, hS_sR, hS_sG, hT_nw, hL_nw, hI_nw, hG_nw, hR_nw, hN_nw, hC_nw, hS_nw, hvc, hvi, dspI, vref, va_rf]; exact (hz 3).1
  have N1 : hN σ1 = hN σ + 1 := by rw [← hs1]; rfl
  have z1 : ∀ j, hI σ1 (hN σ + 1) j = 0 := fun j => by rw [← hs1]; simp [hT_sI, hT_sR, hT_sG, hL_sI, hL_sR, hL_sG, hI_sI, hI_sR, hI_sG, hG_sI, hG_sR, hG_sG, hR_sI, hR_sR, hR_sG, hN_sI, hN_sR, hN_sG, hC_sI, hC_sR, hC_sG, hS_sI, hS_sR, hS_sG, hT_nw, hL_nw, hI_nw, hG_nw, hR_nw, hN_nw, hC_nw, hS_nw, hvc, hvi, dspI, vref, va_rf]; exact (hz1 j).1
  have k2 : Hok κ (hnw σ1 4 0 14) := k1.nw (by decide)
  have F2 : HL κ NoM NoM 1 14 σ1 (hnw σ1 4 0 14) := ((HL.rfl9 (M := NoM) (MR := NoM) k1).nw k2).up (by omega) (by omega)
  have t2 : hT (hnw σ1 4 0 14) (hN σ + 1) = 4 := by rw [hT_nw, N1, if_pos rfl]
  have t2r : hT (hnw σ1 4 0 14) (hN σ) = 3 := F2.tg k1 t1 (by decide)
  have N2 : hN (hnw σ1 4 0 14) = hN σ + 2 := by rw [hN_nw, N1]
  have c1 : 1 ≤ hC σ1 := by have := F1.C; have := F0.C; omega
  have s1 : 14 ≤ hS σ1 := by have := F1.S; have := F0.S; omega
  simp [pX3_init, bX3_init_0, o_ic, o_lc, o_null, o_il, o_ll, o_al, o_dup, o_pop, o_dup_x1, o_dup2, o_iadd, o_isub, o_imul, o_iand, o_ior, o_ixor, o_ishl, o_ishr, o_idiv, o_irem, o_ineg, o_ladd, o_lsub, o_lmul, o_land, o_lor, o_lxor, o_ldiv, o_lrem, o_lneg, o_lcmp, o_i2l, o_l2i, o_i2b, o_i2c, o_iushr, o_lshl, o_lshr, o_if_eq, o_if_ne, o_if_lt, o_if_ge, o_if_gt, o_if_le, o_icmp_eq, o_icmp_ne, o_icmp_lt, o_icmp_ge, o_icmp_gt, o_icmp_le, o_ifnull, o_ifnonnull, o_acmp_eq, o_acmp_ne, o_is, o_ls, o_as, o_iinc, o_kill, o_sw, o_ireturn, o_zreturn, o_nreturn, o_lreturn, o_areturn, o_return, o_athrow, o_call, entP, lg_sl, Value.category, st1, st2, List.set, List.getElem?_cons_zero, List.getElem?_cons_succ, List.foldl, popN, aft, o_gI, o_gR, o_pI, o_pN, o_pR, o_aI, o_aG, o_aR, o_len, o_aR8, o_sI, o_sB, o_sZ, o_sG, o_new, o_newA, o_cast, o_inst, o_cst, o_oi, o_sR, o_gIc, o_gSv, o_gSc, o_getc, o_dead, o_acopy, o_castA, o_castI, o_sR7, o_mna, o_mmax, o_mmin, o_mabs, t0, vref, hvi]
  simp [hs1, c1, s1, N1]
  have G2 : HL κ NoM (EqM (hN σ)) 1 14 (hnw σ 3 0 9) (hnw σ1 4 0 14) := (F1.trans F2.wk).up (by omega) (by omega)
  refine ct_rtInit k2 t2 (by have := G2.C; have := F0.C; omega) (by have := G2.S; have := F0.S; omega) (fun σ3 F3 N3 e3 => ?_)
  have t3 : hT σ3 (hN σ) = 3 := F3.tg k2 t2r (by decide)
  refine ⟨by rw [t3]; decide, ?_⟩
  show (o_new 18 3 <| o_dup <| o_call 1 (hvi (pJ2_init κ)) (fun _ a σ => Q (.inr a) σ) <| o_pR 5 [3] <| (o_al 0 <| o_new 18 3 <| o_dup <| o_call 1 (hvi (pJ2_init κ)) (fun _ a σ => Q (.inr a) σ) <| o_pR 6 [3] <| o_al 0 <| o_new 18 3 <| o_dup <| o_call 1 (hvi (pJ2_init κ)) (fun _ a σ => Q (.inr a) σ) <| o_pR 7 [3] <| o_return Q)) [some (.ref (hN σ)), some (.ref o)] [.ref (hN σ)] (hsR σ3 (hN σ) 0 (some (hN σ + 1)))
  have F4 : HL κ NoM (EqM (hN σ)) 0 0 σ3 (hsR σ3 (hN σ) 0 (some (hN σ + 1))) := (HL.rfl9 F3.ok).sR (Or.inl rfl) t3 (by decide)
  have k4 := F4.ok
  have e40 : hR (hsR σ3 (hN σ) 0 (some (hN σ + 1))) (hN σ) 0 = some (hN σ + 1) := by simp [hT_sI, hT_sR, hT_sG, hL_sI, hL_sR, hL_sG, hI_sI, hI_sR, hI_sG, hG_sI, hG_sR, hG_sG, hR_sI, hR_sR, hR_sG, hN_sI, hN_sR, hN_sG, hC_sI, hC_sR, hC_sG, hS_sI, hS_sR, hS_sG, hT_nw, hL_nw, hI_nw, hG_nw, hR_nw, hN_nw, hC_nw, hS_nw, hvc, hvi, dspI, vref, va_rf]
  have e4o : ∀ j, j ≠ 0 → hR (hsR σ3 (hN σ) 0 (some (hN σ + 1))) (hN σ) j = hR σ3 (hN σ) j := fun j hj => by rw [hR_sR, if_neg (fun q => hj q.2)]
  have N4 : hN (hsR σ3 (hN σ) 0 (some (hN σ + 1))) = hN σ3 := rfl
  have t4 : hT (hsR σ3 (hN σ) 0 (some (hN σ + 1))) (hN σ) = 3 := t3
  generalize hsR σ3 (hN σ) 0 (some (hN σ + 1)) = σ4 at F4 k4 e40 e4o N4 t4
  -- all so far, from σ
  have fr : ∀ b, EqM (hN σ + 1) b → NoM b ∨ hN σ ≤ b := fun b q => Or.inr (by have : b = hN σ + 1 := q; omega)
  have fr0 : ∀ b, EqM (hN σ) b → NoM b ∨ hN σ ≤ b := fun b q => Or.inr (by have : b = hN σ := q; omega)
  have H2 : HL κ NoM NoM 2 23 σ (hnw σ1 4 0 14) := (F0.after G2 hk (fun b q => q.elim) fr0).up (by omega) (by omega)
  have H3 : HL κ NoM NoM 6 35 σ σ3 := (H2.after F3 hk (fun b q => q.elim) fr).up (by omega) (by omega)
  have H4 : HL κ NoM NoM 6 35 σ σ4 := (H3.after F4 hk (fun b q => q.elim) fr0).up (by omega) (by omega)
  have c4 : 3 ≤ hC σ4 := by have := H4.C; omega
  have s4 : 9 ≤ hS σ4 := by have := H4.S; omega
  refine ct_rtList k4 t4 (by decide) (by omega) (by omega) (fun σ5 F5 A5 N5 e5 g5 => ?_)
  have t5 : hT σ5 (hN σ) = 3 := F5.tg k4 t4 (by decide)
  show (o_new 18 3 <| o_dup <| o_call 1 (hvi (pJ2_init κ)) (fun _ a σ => Q (.inr a) σ) <| o_pR 6 [3] <| (o_al 0 <| o_new 18 3 <| o_dup <| o_call 1 (hvi (pJ2_init κ)) (fun _ a σ => Q (.inr a) σ) <| o_pR 7 [3] <| o_return Q)) [some (.ref (hN σ)), some (.ref o)] [.ref (hN σ)] σ5
  refine ct_rtList F5.ok t5 (by decide) (by have := F5.C; omega) (by have := F5.S; omega) (fun σ6 F6 A6 N6 e6 g6 => ?_)
  have t6 : hT σ6 (hN σ) = 3 := F6.tg F5.ok t5 (by decide)
  show (o_new 18 3 <| o_dup <| o_call 1 (hvi (pJ2_init κ)) (fun _ a σ => Q (.inr a) σ) <| o_pR 7 [3] <| o_return Q) [some (.ref (hN σ)), some (.ref o)] [.ref (hN σ)] σ6
  refine ct_rtList F6.ok t6 (by decide) (by have := F5.C; have := F6.C; omega) (by have := F5.S; have := F6.S; omega) (fun σ7 F7 A7 N7 e7 g7 => ?_)
  show Q (.inl none) σ7
  have H5 := H4.after F5 hk (fun b q => q.elim) fr0
  have H6 := H5.after F6 hk (fun b q => q.elim) fr0
  have H7 := H6.after F7 hk (fun b q => q.elim) fr0
  have G7 : HL κ NoM (EqM (hN σ)) (0 + 1 + 1 + 1) (0 + 3 + 3 + 3) σ3 σ7 := ((F4.trans F5).trans F6).trans F7
  have t7 : hT σ7 (hN σ) = 3 := F7.tg F6.ok t6 (by decide)
  have t3r : hT σ3 (hN σ + 1) = 4 := F3.tg k2 t2 (by decide)
  have n10 : ¬ EqM (hN σ) (hN σ + 1) := by show ¬ hN σ + 1 = hN σ; omega
  have r7 : ∀ j, hR σ7 (hN σ + 1) j = hR σ3 (hN σ + 1) j := fun j => G7.ref F3.ok t3r (by decide) n10 j
  have l7 : ∀ i, i < 4 → AL κ σ7 (hN σ + 2 + i) [] := fun i hi => by have := (e3 i hi).2; rw [N2] at this; exact G7.al this id
  have re7 : ∀ i, i < 4 → hR σ7 (hN σ + 1) i = some (hN σ + 2 + i) := fun i hi => by have := (e3 i hi).1; rw [N2] at this; rw [r7 i]; exact this
  have hI7 : ∀ j, hI σ7 (hN σ + 1) j = 0 := fun j => by
    have q2 : hI (hnw σ1 4 0 14) (hN σ + 1) j = 0 := z1 j
    rw [G7.int F3.ok t3r (by decide) id j, F3.int k2 t2 (by decide) id j]; exact q2
  have hI73 : hI σ7 (hN σ) 3 = 0 := by
    rw [G7.int F3.ok t3 (by decide) id 3, F3.int k2 t2r (by decide) id 3]; exact i13
  have hR73 : hR σ3 (hN σ) 8 = some o := by
    rw [F3.ref k2 t2r (by decide) (by show ¬ hN σ = hN σ + 1; omega) 8]; exact e18
  have A5' : AL κ σ7 (hN σ + 6) [] := by rw [show hN σ + 6 = hN σ4 by omega]; exact F7.al (F6.al A5 id) id
  have A6' : AL κ σ7 (hN σ + 7) [] := by rw [show hN σ + 7 = hN σ5 by omega]; exact F7.al A6 id
  have A7' : AL κ σ7 (hN σ + 8) [] := by rw [show hN σ + 8 = hN σ6 by omega]; exact A7
  have kk7 := F7.ok
  have T7 : TapeC σ7 o l := hT9.hl hk H7 (fun b q => q.elim (fun z => z.elim) (fun z => z.elim))
  refine k σ7 (H7.up (by omega) (by omega)) (by omega) ⟨kk7, hK.hl hk H7, ⟨t7, ?_, T7⟩, ?_, ?_, by omega, [], [], A5', A6', rfl, rfl, fun i q h => by simp at h⟩ ⟨?_, ?_, ?_, re7 0 (by omega), re7 1 (by omega), re7 2 (by omega), re7 3 (by omega), hI7 4, hI7 5, l7 0 (by omega), l7 1 (by omega), l7 2 (by omega), l7 3 (by omega), [], A7', rfl, fun i h q => by simp at q⟩ hI73
  · rw [g7 8 (by decide), g6 8 (by decide), g5 8 (by decide), e4o 8 (by decide)]; exact hR73
  · rw [g7 5 (by decide), g6 5 (by decide)]; rw [show hN σ + 6 = hN σ4 by omega]; exact e5
  · rw [g7 6 (by decide)]; rw [show hN σ + 7 = hN σ5 by omega]; exact e6
  · rw [g7 0 (by decide), g6 0 (by decide), g5 0 (by decide)]; exact e40
  · rw [show hN σ + 8 = hN σ6 by omega]; exact e7
  · exact G7.tg F3.ok t3r (by decide)
