/-! THE MODEL settles a sum: the facts -/
set_option maxRecDepth 100000
theorem x_settle {mo : Nat} {Q : Ret MS} {ms : MS} {R : Rt} {e : Nat} {φ0 : Nat → Int32} (h : TbM ms R) (he : e < (sms R.1).length)
    (k : ∀ φ, (∀ j, j < (nds R).length → φ (30720 + 240 * e + j) = fwd R e j) → (∀ x, ¬ (30720 + 240 * e ≤ x ∧ x < 30720 + 240 * e + (nds R).length) → φ x = φ0 x) → Q (.inl none) (msA ms 31 φ)) : pX2_settle mo [.ref mo, .int (nn e)] (msA ms 31 φ0) Q := by
  simp [pX2_settle, bX2_settle_0, o_ic, o_lc, o_null, o_il, o_ll, o_al, o_dup, o_pop, o_dup_x1, o_dup2, o_iadd, o_isub, o_imul, o_iand, o_ior, o_ixor, o_ishl, o_ishr, o_idiv, o_irem, o_ineg, o_ladd, o_lsub, o_lmul, o_land, o_lor, o_lxor, o_ldiv, o_lrem, o_lneg, o_lcmp, o_i2l, o_l2i, o_i2b, o_i2c, o_iushr, o_lshl, o_lshr, o_if_eq, o_if_ne, o_if_lt, o_if_ge, o_if_gt, o_if_le, o_icmp_eq, o_icmp_ne, o_icmp_lt, o_icmp_ge, o_icmp_gt, o_icmp_le, o_ifnull, o_ifnonnull, o_acmp_eq, o_acmp_ne, o_is, o_ls, o_as, o_iinc, o_kill, o_sw, o_ireturn, o_zreturn, o_nreturn, o_lreturn, o_areturn, o_return, o_athrow, o_call, entP, lg_sl, Value.category, st1, st2, List.set, List.getElem?_cons_zero, List.getElem?_cons_succ, List.foldl, popN, aft, o_mg, o_mgl, o_mga, o_mp, o_mpz, o_mpl, o_mia, o_mis, o_mbs, o_mc, mput_get, mput_arr, mput_let, mput_put, mset_get, mset_int, mset_let, mputL_get, mputL_arr, mputL_let, mputL_put, i64_8, mLen]
  refine m_base (p := 4) (e := e) ?_
  rw [show (32 * 4 + e) * 240 = 30720 + 240 * e by omega]
  simp [o_ic, o_lc, o_null, o_il, o_ll, o_al, o_dup, o_pop, o_dup_x1, o_dup2, o_iadd, o_isub, o_imul, o_iand, o_ior, o_ixor, o_ishl, o_ishr, o_idiv, o_irem, o_ineg, o_ladd, o_lsub, o_lmul, o_land, o_lor, o_lxor, o_ldiv, o_lrem, o_lneg, o_lcmp, o_i2l, o_l2i, o_i2b, o_i2c, o_iushr, o_lshl, o_lshr, o_if_eq, o_if_ne, o_if_lt, o_if_ge, o_if_gt, o_if_le, o_icmp_eq, o_icmp_ne, o_icmp_lt, o_icmp_ge, o_icmp_gt, o_icmp_le, o_ifnull, o_ifnonnull, o_acmp_eq, o_acmp_ne, o_is, o_ls, o_as, o_iinc, o_kill, o_sw, o_ireturn, o_zreturn, o_nreturn, o_lreturn, o_areturn, o_return, o_athrow, o_call, entP, lg_sl, Value.category, st1, st2, List.set, List.getElem?_cons_zero, List.getElem?_cons_succ, List.foldl, popN, aft, o_mg, o_mgl, o_mga, o_mp, o_mpz, o_mpl, o_mia, o_mis, o_mbs, o_mc, mput_get, mput_arr, mput_let, mput_put, mset_get, mset_int, mset_let, mputL_get, mputL_arr, mputL_let, mputL_put, i64_8, mLen]
  refine x_set1 h he (fun φ1 h1 o1 => ?_)
  simp [bX2_settle_84, o_ic, o_lc, o_null, o_il, o_ll, o_al, o_dup, o_pop, o_dup_x1, o_dup2, o_iadd, o_isub, o_imul, o_iand, o_ior, o_ixor, o_ishl, o_ishr, o_idiv, o_irem, o_ineg, o_ladd, o_lsub, o_lmul, o_land, o_lor, o_lxor, o_ldiv, o_lrem, o_lneg, o_lcmp, o_i2l, o_l2i, o_i2b, o_i2c, o_iushr, o_lshl, o_lshr, o_if_eq, o_if_ne, o_if_lt, o_if_ge, o_if_gt, o_if_le, o_icmp_eq, o_icmp_ne, o_icmp_lt, o_icmp_ge, o_icmp_gt, o_icmp_le, o_ifnull, o_ifnonnull, o_acmp_eq, o_acmp_ne, o_is, o_ls, o_as, o_iinc, o_kill, o_sw, o_ireturn, o_zreturn, o_nreturn, o_lreturn, o_areturn, o_return, o_athrow, o_call, entP, lg_sl, Value.category, st1, st2, List.set, List.getElem?_cons_zero, List.getElem?_cons_succ, List.foldl, popN, aft, o_mg, o_mgl, o_mga, o_mp, o_mpz, o_mpl, o_mia, o_mis, o_mbs, o_mc, mput_get, mput_arr, mput_let, mput_put, mset_get, mset_int, mset_let, mputL_get, mputL_arr, mputL_let, mputL_put, i64_8, mLen]
  -- wanted
  generalize hG1 : (fun j => g8 (b9 (wkP R e j)) (b9 (klP R e j)) true true false true false true) = G1
  have hG1' : ∀ j, G1 j = g8 (b9 (wkP R e j)) (b9 (klP R e j)) true true false true false true := fun j => by rw [← hG1]
  refine x_narrow (i := 2) (G := G1) h he (Or.inl rfl) ⟨fun j hj => ?_, fun _ _ => rfl, fun j hj => by simpa using hj⟩ (fun φ2 h2 => ?_)
  · rw [h1 j hj]
    refine wd8_congr (fun i hi => ?_)
    rw [hG1']
    rcases i8_cases hi with rfl | rfl | rfl | rfl | rfl | rfl | rfl | rfl <;> simp [updB, g8, hj]
  have eW : gfp9 (FN R e 2 G1) = gWan (nds R).length (t1R R) (t2R R) (wkP R e) (klP R e) (bsP R e) := by
    unfold gWan
    congr 1
    funext Y j
    have e3 : G1 j 0 = true ↔ wkP R e j := by rw [hG1']; simp only [g8, b9_iff]
    have e4 : G1 j 1 = true ↔ klP R e j := by rw [hG1']; simp only [g8, b9_iff]
    simp only [FN, fWan, hol, e3, e4]
    simp
  rw [eW] at h2
  simp [bX2_settle_84, o_ic, o_lc, o_null, o_il, o_ll, o_al, o_dup, o_pop, o_dup_x1, o_dup2, o_iadd, o_isub, o_imul, o_iand, o_ior, o_ixor, o_ishl, o_ishr, o_idiv, o_irem, o_ineg, o_ladd, o_lsub, o_lmul, o_land, o_lor, o_lxor, o_ldiv, o_lrem, o_lneg, o_lcmp, o_i2l, o_l2i, o_i2b, o_i2c, o_iushr, o_lshl, o_lshr, o_if_eq, o_if_ne, o_if_lt, o_if_ge, o_if_gt, o_if_le, o_icmp_eq, o_icmp_ne, o_icmp_lt, o_icmp_ge, o_icmp_gt, o_icmp_le, o_ifnull, o_ifnonnull, o_acmp_eq, o_acmp_ne, o_is, o_ls, o_as, o_iinc, o_kill, o_sw, o_ireturn, o_zreturn, o_nreturn, o_lreturn, o_areturn, o_return, o_athrow, o_call, entP, lg_sl, Value.category, st1, st2, List.set, List.getElem?_cons_zero, List.getElem?_cons_succ, List.foldl, popN, aft, o_mg, o_mgl, o_mga, o_mp, o_mpz, o_mpl, o_mia, o_mis, o_mbs, o_mc, mput_get, mput_arr, mput_let, mput_put, mset_get, mset_int, mset_let, mputL_get, mputL_arr, mputL_let, mputL_put, i64_8, mLen]
  -- there
  generalize hG2 : (fun j => updB (G1 j) 2 (b9 (gWan (nds R).length (t1R R) (t2R R) (wkP R e) (klP R e) (bsP R e) j))) = G2
  have hG2' : ∀ j, G2 j = g8 (b9 (wkP R e j)) (b9 (klP R e j)) (b9 (gWan (nds R).length (t1R R) (t2R R) (wkP R e) (klP R e) (bsP R e) j)) true false true false true := fun j => by
    rw [← hG2]; funext z; show updB (G1 j) 2 _ z = _; rw [hG1']
    unfold updB
    split
    · next c => subst c; rfl
    · next c => match z, c with
      | 0, _ => rfl
      | 1, _ => rfl
      | 2, c => exact absurd rfl c
      | 3, _ => rfl
      | 4, _ => rfl
      | 5, _ => rfl
      | 6, _ => rfl
      | z + 7, _ => rfl
  refine x_narrow (i := 3) (G := G2) h he (Or.inr (Or.inl rfl)) ⟨fun j hj => ?_, fun _ _ => rfl, fun j hj => by simpa using hj⟩ (fun φ3 h3 => ?_)
  · rw [h2.1 j hj]
    refine wd8_congr (fun i hi => ?_)
    rw [hG2', hG1']
    rcases i8_cases hi with rfl | rfl | rfl | rfl | rfl | rfl | rfl | rfl <;> simp [updB, g8, hj]
  have eT : gfp9 (FN R e 3 G2) = gThe (nds R).length (t1R R) (t2R R) (wkP R e) (klP R e) := by
    unfold gThe
    congr 1
    funext Y j
    have e3 : ∀ a, (¬ G2 a 1 = true ∧ (G2 a 0 = true ∨ Y a)) ↔ (¬ klP R e a ∧ (wkP R e a ∨ Y a)) := fun a => by
      rw [hG2']; simp only [g8, b9_iff]
    simp only [FN, fThe, hol, e3]
    simp
  rw [eT] at h3
  simp [o_ic, o_lc, o_null, o_il, o_ll, o_al, o_dup, o_pop, o_dup_x1, o_dup2, o_iadd, o_isub, o_imul, o_iand, o_ior, o_ixor, o_ishl, o_ishr, o_idiv, o_irem, o_ineg, o_ladd, o_lsub, o_lmul, o_land, o_lor, o_lxor, o_ldiv, o_lrem, o_lneg, o_lcmp, o_i2l, o_l2i, o_i2b, o_i2c, o_iushr, o_lshl, o_lshr, o_if_eq, o_if_ne, o_if_lt, o_if_ge, o_if_gt, o_if_le, o_icmp_eq, o_icmp_ne, o_icmp_lt, o_icmp_ge, o_icmp_gt, o_icmp_le, o_ifnull, o_ifnonnull, o_acmp_eq, o_acmp_ne, o_is, o_ls, o_as, o_iinc, o_kill, o_sw, o_ireturn, o_zreturn, o_nreturn, o_lreturn, o_areturn, o_return, o_athrow, o_call, entP, lg_sl, Value.category, st1, st2, List.set, List.getElem?_cons_zero, List.getElem?_cons_succ, List.foldl, popN, aft, o_mg, o_mgl, o_mga, o_mp, o_mpz, o_mpl, o_mia, o_mis, o_mbs, o_mc, mput_get, mput_arr, mput_let, mput_put, mset_get, mset_int, mset_let, mputL_get, mputL_arr, mputL_let, mputL_put, i64_8, mLen]
  -- early
  generalize hG3 : (fun j => updB (G2 j) 3 (b9 (gThe (nds R).length (t1R R) (t2R R) (wkP R e) (klP R e) j))) = G3
  have hG3' : ∀ j, G3 j = g8 (b9 (wkP R e j)) (b9 (klP R e j)) (b9 (gWan (nds R).length (t1R R) (t2R R) (wkP R e) (klP R e) (bsP R e) j)) (b9 (gThe (nds R).length (t1R R) (t2R R) (wkP R e) (klP R e) j)) false true false true := fun j => by
    rw [← hG3]; funext z; show updB (G2 j) 3 _ z = _; rw [hG2']
    unfold updB
    split
    · next c => subst c; rfl
    · next c => match z, c with
      | 0, _ => rfl
      | 1, _ => rfl
      | 2, _ => rfl
      | 3, c => exact absurd rfl c
      | 4, _ => rfl
      | 5, _ => rfl
      | 6, _ => rfl
      | z + 7, _ => rfl
  refine x_set2 (G := G3) h he ⟨fun j hj => ?_, fun _ _ => rfl, fun j hj => by cases hj⟩ (fun φ4 h4 => ?_)
  · rw [h3.1 j hj]
    refine wd8_congr (fun i hi => ?_)
    rw [hG3', hG2']
    rcases i8_cases hi with rfl | rfl | rfl | rfl | rfl | rfl | rfl | rfl <;> simp [updB, g8]
  have eE : (fun q => b9 (q < (nds R).length ∧ G3 q 2 = true ∧ (q = 0 ∨ ∃ a, ld (nds R).length (t1R R) (t2R R) a q ∧ (G3 a 1 || !G3 a 3 && !G3 a 2) = true))) = fun q => b9 (gEar (nds R).length (t1R R) (t2R R) (wkP R e) (klP R e) (bsP R e) q) := by
    funext q
    congr 1
    apply propext
    have e3 : ∀ a, ((G3 a 1 || !G3 a 3 && !G3 a 2) = true) ↔ (klP R e a ∨ ¬ gThe (nds R).length (t1R R) (t2R R) (wkP R e) (klP R e) a ∧ ¬ gWan (nds R).length (t1R R) (t2R R) (wkP R e) (klP R e) (bsP R e) a) := fun a => by
      rw [hG3']; simp [g8, b9_iff, b9_not]
    have e4 : G3 q 2 = true ↔ gWan (nds R).length (t1R R) (t2R R) (wkP R e) (klP R e) (bsP R e) q := by rw [hG3']; simp [g8, b9_iff]
    simp only [e3, e4]
    unfold gEar
    constructor
    · rintro ⟨-, z⟩; exact z
    · intro z; exact ⟨((gWan_iff q).1 z.1).1, z⟩
  rw [eE] at h4
  simp [bX2_settle_151, o_ic, o_lc, o_null, o_il, o_ll, o_al, o_dup, o_pop, o_dup_x1, o_dup2, o_iadd, o_isub, o_imul, o_iand, o_ior, o_ixor, o_ishl, o_ishr, o_idiv, o_irem, o_ineg, o_ladd, o_lsub, o_lmul, o_land, o_lor, o_lxor, o_ldiv, o_lrem, o_lneg, o_lcmp, o_i2l, o_l2i, o_i2b, o_i2c, o_iushr, o_lshl, o_lshr, o_if_eq, o_if_ne, o_if_lt, o_if_ge, o_if_gt, o_if_le, o_icmp_eq, o_icmp_ne, o_icmp_lt, o_icmp_ge, o_icmp_gt, o_icmp_le, o_ifnull, o_ifnonnull, o_acmp_eq, o_acmp_ne, o_is, o_ls, o_as, o_iinc, o_kill, o_sw, o_ireturn, o_zreturn, o_nreturn, o_lreturn, o_areturn, o_return, o_athrow, o_call, entP, lg_sl, Value.category, st1, st2, List.set, List.getElem?_cons_zero, List.getElem?_cons_succ, List.foldl, popN, aft, o_mg, o_mgl, o_mga, o_mp, o_mpz, o_mpl, o_mia, o_mis, o_mbs, o_mc, mput_get, mput_arr, mput_let, mput_put, mset_get, mset_int, mset_let, mputL_get, mputL_arr, mputL_let, mputL_put, i64_8, mLen]
  -- delayed
  generalize hG4 : (fun j => updB (G3 j) 4 (b9 (gEar (nds R).length (t1R R) (t2R R) (wkP R e) (klP R e) (bsP R e) j))) = G4
  have hG4' : ∀ j, G4 j = g8 (b9 (wkP R e j)) (b9 (klP R e j)) (b9 (gWan (nds R).length (t1R R) (t2R R) (wkP R e) (klP R e) (bsP R e) j)) (b9 (gThe (nds R).length (t1R R) (t2R R) (wkP R e) (klP R e) j)) (b9 (gEar (nds R).length (t1R R) (t2R R) (wkP R e) (klP R e) (bsP R e) j)) true false true := fun j => by
    rw [← hG4]; funext z; show updB (G3 j) 4 _ z = _; rw [hG3']
    unfold updB
    split
    · next c => subst c; rfl
    · next c => match z, c with
      | 0, _ => rfl
      | 1, _ => rfl
      | 2, _ => rfl
      | 3, _ => rfl
      | 4, c => exact absurd rfl c
      | 5, _ => rfl
      | 6, _ => rfl
      | z + 7, _ => rfl
  refine x_narrow (i := 5) (G := G4) h he (Or.inr (Or.inr (Or.inl rfl))) ⟨fun j hj => ?_, fun _ _ => rfl, fun j hj => by simpa using hj⟩ (fun φ5 h5 => ?_)
  · rw [h4.1 j hj]
    refine wd8_congr (fun i hi => ?_)
    rw [hG4', hG3']
    rcases i8_cases hi with rfl | rfl | rfl | rfl | rfl | rfl | rfl | rfl <;> simp [updB, g8, hj]
  have eD : gfp9 (FN R e 5 G4) = gDel (nds R).length (t1R R) (t2R R) (wkP R e) (klP R e) (bsP R e) := by
    unfold gDel
    congr 1
    funext Y j
    have e3 : ∀ a, (Y a ∧ ¬ G4 a 0 = true) ↔ (Y a ∧ ¬ wkP R e a) := fun a => by rw [hG4']; simp only [g8, b9_iff]
    have e4 : G4 j 4 = true ↔ gEar (nds R).length (t1R R) (t2R R) (wkP R e) (klP R e) (bsP R e) j := by rw [hG4']; simp [g8, b9_iff]
    simp only [FN, fDel, hol, e3, e4]
    simp
  rw [eD] at h5
  simp [o_ic, o_lc, o_null, o_il, o_ll, o_al, o_dup, o_pop, o_dup_x1, o_dup2, o_iadd, o_isub, o_imul, o_iand, o_ior, o_ixor, o_ishl, o_ishr, o_idiv, o_irem, o_ineg, o_ladd, o_lsub, o_lmul, o_land, o_lor, o_lxor, o_ldiv, o_lrem, o_lneg, o_lcmp, o_i2l, o_l2i, o_i2b, o_i2c, o_iushr, o_lshl, o_lshr, o_if_eq, o_if_ne, o_if_lt, o_if_ge, o_if_gt, o_if_le, o_icmp_eq, o_icmp_ne, o_icmp_lt, o_icmp_ge, o_icmp_gt, o_icmp_le, o_ifnull, o_ifnonnull, o_acmp_eq, o_acmp_ne, o_is, o_ls, o_as, o_iinc, o_kill, o_sw, o_ireturn, o_zreturn, o_nreturn, o_lreturn, o_areturn, o_return, o_athrow, o_call, entP, lg_sl, Value.category, st1, st2, List.set, List.getElem?_cons_zero, List.getElem?_cons_succ, List.foldl, popN, aft, o_mg, o_mgl, o_mga, o_mp, o_mpz, o_mpl, o_mia, o_mis, o_mbs, o_mc, mput_get, mput_arr, mput_let, mput_put, mset_get, mset_int, mset_let, mputL_get, mputL_arr, mputL_let, mputL_put, i64_8, mLen]
  -- latest
  generalize hG5 : (fun j => updB (G4 j) 5 (b9 (gDel (nds R).length (t1R R) (t2R R) (wkP R e) (klP R e) (bsP R e) j))) = G5
  have hG5' : ∀ j, G5 j = g8 (b9 (wkP R e j)) (b9 (klP R e j)) (b9 (gWan (nds R).length (t1R R) (t2R R) (wkP R e) (klP R e) (bsP R e) j)) (b9 (gThe (nds R).length (t1R R) (t2R R) (wkP R e) (klP R e) j)) (b9 (gEar (nds R).length (t1R R) (t2R R) (wkP R e) (klP R e) (bsP R e) j)) (b9 (gDel (nds R).length (t1R R) (t2R R) (wkP R e) (klP R e) (bsP R e) j)) false true := fun j => by
    rw [← hG5]; funext z; show updB (G4 j) 5 _ z = _; rw [hG4']
    unfold updB
    split
    · next c => subst c; rfl
    · next c => match z, c with
      | 0, _ => rfl
      | 1, _ => rfl
      | 2, _ => rfl
      | 3, _ => rfl
      | 4, _ => rfl
      | 5, c => exact absurd rfl c
      | 6, _ => rfl
      | z + 7, _ => rfl
  refine x_set3 (G := G5) h he ⟨fun j hj => ?_, fun _ _ => rfl, fun j hj => by cases hj⟩ (fun φ6 h6 => ?_)
  · rw [h5.1 j hj]
    refine wd8_congr (fun i hi => ?_)
    rw [hG5', hG4']
    rcases i8_cases hi with rfl | rfl | rfl | rfl | rfl | rfl | rfl | rfl <;> simp [updB, g8]
  have eL : (fun q => b9 (q < (nds R).length ∧ G5 q 5 = true ∧ (G5 q 0 = true ∨ ¬ nxA (t1R R) (t2R R) (fun j => G5 j 5 = true) q))) = fun q => b9 (gLat (nds R).length (t1R R) (t2R R) (wkP R e) (klP R e) (bsP R e) q) := by
    funext q
    congr 1
    apply propext
    have e3 : (fun j => G5 j 5 = true) = gDel (nds R).length (t1R R) (t2R R) (wkP R e) (klP R e) (bsP R e) := by
      funext j; rw [hG5']; simp only [g8, b9_iff]
    have e4 : G5 q 5 = true ↔ gDel (nds R).length (t1R R) (t2R R) (wkP R e) (klP R e) (bsP R e) q := by rw [hG5']; simp [g8, b9_iff]
    have e5 : G5 q 0 = true ↔ wkP R e q := by rw [hG5']; simp [g8, b9_iff]
    rw [e3, e4, e5]
    unfold gLat
    constructor
    · rintro ⟨-, z⟩; exact z
    · intro z; exact ⟨((gDel_iff q).1 z.1).1, z⟩
  rw [eL] at h6
  simp [bX2_settle_221, o_ic, o_lc, o_null, o_il, o_ll, o_al, o_dup, o_pop, o_dup_x1, o_dup2, o_iadd, o_isub, o_imul, o_iand, o_ior, o_ixor, o_ishl, o_ishr, o_idiv, o_irem, o_ineg, o_ladd, o_lsub, o_lmul, o_land, o_lor, o_lxor, o_ldiv, o_lrem, o_lneg, o_lcmp, o_i2l, o_l2i, o_i2b, o_i2c, o_iushr, o_lshl, o_lshr, o_if_eq, o_if_ne, o_if_lt, o_if_ge, o_if_gt, o_if_le, o_icmp_eq, o_icmp_ne, o_icmp_lt, o_icmp_ge, o_icmp_gt, o_icmp_le, o_ifnull, o_ifnonnull, o_acmp_eq, o_acmp_ne, o_is, o_ls, o_as, o_iinc, o_kill, o_sw, o_ireturn, o_zreturn, o_nreturn, o_lreturn, o_areturn, o_return, o_athrow, o_call, entP, lg_sl, Value.category, st1, st2, List.set, List.getElem?_cons_zero, List.getElem?_cons_succ, List.foldl, popN, aft, o_mg, o_mgl, o_mga, o_mp, o_mpz, o_mpl, o_mia, o_mis, o_mbs, o_mc, mput_get, mput_arr, mput_let, mput_put, mset_get, mset_int, mset_let, mputL_get, mputL_arr, mputL_let, mputL_put, i64_8, mLen]
  -- alone
  generalize hG6 : (fun j => updB (G5 j) 6 (b9 (gLat (nds R).length (t1R R) (t2R R) (wkP R e) (klP R e) (bsP R e) j))) = G6
  have hG6' : ∀ j, G6 j = g8 (b9 (wkP R e j)) (b9 (klP R e j)) (b9 (gWan (nds R).length (t1R R) (t2R R) (wkP R e) (klP R e) (bsP R e) j)) (b9 (gThe (nds R).length (t1R R) (t2R R) (wkP R e) (klP R e) j)) (b9 (gEar (nds R).length (t1R R) (t2R R) (wkP R e) (klP R e) (bsP R e) j)) (b9 (gDel (nds R).length (t1R R) (t2R R) (wkP R e) (klP R e) (bsP R e) j)) (b9 (gLat (nds R).length (t1R R) (t2R R) (wkP R e) (klP R e) (bsP R e) j)) true := fun j => by
    rw [← hG6]; funext z; show updB (G5 j) 6 _ z = _; rw [hG5']
    unfold updB
    split
    · next c => subst c; rfl
    · next c => match z, c with
      | 0, _ => rfl
      | 1, _ => rfl
      | 2, _ => rfl
      | 3, _ => rfl
      | 4, _ => rfl
      | 5, _ => rfl
      | 6, c => exact absurd rfl c
      | z + 7, _ => rfl
  refine x_narrow (i := 7) (G := G6) h he (Or.inr (Or.inr (Or.inr rfl))) ⟨fun j hj => ?_, fun _ _ => rfl, fun j hj => by simpa using hj⟩ (fun φ7 h7 => ?_)
  · rw [h6.1 j hj]
    refine wd8_congr (fun i hi => ?_)
    rw [hG6', hG5']
    rcases i8_cases hi with rfl | rfl | rfl | rfl | rfl | rfl | rfl | rfl <;> simp [updB, g8, hj]
  have eA : gfp9 (FN R e 7 G6) = gAlo (nds R).length (t1R R) (t2R R) (wkP R e) (klP R e) (bsP R e) := by
    unfold gAlo
    congr 1
    funext Y j
    have e3 : ∀ a, (G6 a 6 = true ∨ ¬ G6 a 0 = true ∧ Y a) ↔ (gLat (nds R).length (t1R R) (t2R R) (wkP R e) (klP R e) (bsP R e) a ∨ ¬ wkP R e a ∧ Y a) := fun a => by rw [hG6']; simp only [g8, b9_iff]
    simp only [FN, fAlo, hol, e3]
    simp
  rw [eA] at h7
  simp [o_ic, o_lc, o_null, o_il, o_ll, o_al, o_dup, o_pop, o_dup_x1, o_dup2, o_iadd, o_isub, o_imul, o_iand, o_ior, o_ixor, o_ishl, o_ishr, o_idiv, o_irem, o_ineg, o_ladd, o_lsub, o_lmul, o_land, o_lor, o_lxor, o_ldiv, o_lrem, o_lneg, o_lcmp, o_i2l, o_l2i, o_i2b, o_i2c, o_iushr, o_lshl, o_lshr, o_if_eq, o_if_ne, o_if_lt, o_if_ge, o_if_gt, o_if_le, o_icmp_eq, o_icmp_ne, o_icmp_lt, o_icmp_ge, o_icmp_gt, o_icmp_le, o_ifnull, o_ifnonnull, o_acmp_eq, o_acmp_ne, o_is, o_ls, o_as, o_iinc, o_kill, o_sw, o_ireturn, o_zreturn, o_nreturn, o_lreturn, o_areturn, o_return, o_athrow, o_call, entP, lg_sl, Value.category, st1, st2, List.set, List.getElem?_cons_zero, List.getElem?_cons_succ, List.foldl, popN, aft, o_mg, o_mgl, o_mga, o_mp, o_mpz, o_mpl, o_mia, o_mis, o_mbs, o_mc, mput_get, mput_arr, mput_let, mput_put, mset_get, mset_int, mset_let, mputL_get, mputL_arr, mputL_let, mputL_put, i64_8, mLen]
  refine k φ7 (fun j hj => ?_) (fun x hx => ?_)
  · rw [h7.1 j hj]
    unfold fwd
    refine wd8_congr (fun i hi => ?_)
    rw [hG6']
    rcases i8_cases hi with rfl | rfl | rfl | rfl | rfl | rfl | rfl | rfl <;> rfl
  · rw [h7.2.1 x hx, h6.2.1 x hx, h5.2.1 x hx, h4.2.1 x hx, h3.2.1 x hx, h2.2.1 x hx]
    exact o1 x hx
