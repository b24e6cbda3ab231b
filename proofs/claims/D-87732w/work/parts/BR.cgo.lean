/-! THE COMPONENT runs: it goes -/
set_option maxRecDepth 100000
/-- what was worked, in all -/
def WI (st : RS) : Prop := sumN st.2.2.2.1 32 = st.2.2.2.2.1
theorem WI.bmp {st : RS} {e : Nat} (h : WI st) (he : e < 32) : WI (bump st e) := by
  show sumN (updN st.2.2.2.1 e (st.2.2.2.1 e + 1)) 32 = st.2.2.2.2.1 + 1
  rw [← h, ← sumN_add1 32 he]
  refine sumN_congr 32 (fun p hp => ?_)
  unfold updN
  by_cases c : p = e
  · rw [if_pos c, if_pos c, c]
  · rw [if_neg c, if_neg c]; rfl
theorem WI.stF {R : Rt} {pl k : Nat} : ∀ m e (st : RS), e + m ≤ 32 → WI st → WI (setF R pl k m e st).1 := by
  intro m
  induction m with
  | zero => intro e st _ h; exact h
  | succ m ih =>
    intro e st he h
    unfold setF
    split
    · split
      · exact h.bmp (by omega)
      · exact ih _ _ (by omega) (h.bmp (e := e) (by omega))
    · exact ih _ _ (by omega) h
theorem WI.dsF {R : Rt} {pl k : Nat} {st : RS} (h : WI st) (he : ∀ e, nSm (ndA (nds R) k) = some e → e < 32) : WI (doesF R pl k st).1 := by
  unfold doesF
  simp only
  split
  · split
    · exact h
    · next e hs =>
      split
      · exact h
      · split
        · exact h.bmp (he e hs)
        · exact h.bmp (e := e) (he e hs)
  · split
    · exact h
    · split
      · split
        · exact h
        · exact h
      · split
        · exact h
        · split
          · exact h
          · split
            · exact h
            · exact h
theorem WI.spF {R : Rt} {pl k : Nat} {st : RS} (h : WI st) (h32 : (sms R.1).length ≤ 32) (he : ∀ e, nSm (ndA (nds R) k) = some e → e < 32) : WI (stepF R pl k st).1 := by
  have h1 : WI (st1F R k st) := by unfold st1F; split <;> exact h
  have h2 := WI.stF (R := R) (pl := pl) (k := k) (sms R.1).length 0 _ (by omega) h1
  unfold stepF
  split
  · exact h2
  · exact h2.dsF he
section GO
variable {κ : Nat → Option Nat} {Q : Ret AH} {σ σ' : AH} {a r pl c s h9 : Nat} {st : RS} {R : Rt} {wss : List (Nat × List Nat)} {A NX BF : Nat → Nat} {B : Nat → List Nat} {ss : List Nat} {VA : Nat → Nat}
theorem RG.fin (h : RG σ a r pl st) {x : Int32} (h1 : st.2.2.2.2.2.1.length ≤ 1000) (h2 : st.2.2.2.2.2.2 ≤ 1000) (h3 : WI st) : RunC (hsI σ a 7 x) a ((x, -1), st) := by
  obtain ⟨⟨t, ⟨r0, r2, r3, r4, r5, r6⟩, ⟨n1, n2⟩, ⟨k1, k2⟩, ⟨w1, w2⟩, ⟨d1, d2⟩, ⟨q1, q2⟩, q3⟩, i1, i2, i3, i4, i5, i6, i7, i8, i9⟩ := h
  unfold RunC
  simp only [hI_sI]
  refine ⟨t, ⟨r2, r3, r4, r5, r6⟩, ⟨n1, n2, fun j hj => by rw [if_neg (by omega)]; exact i2 j hj⟩, ⟨w1, w2, fun j hj => by rw [if_neg (by omega)]; exact i4 j hj⟩, ⟨d1, d2, fun j y hj hy => by rw [if_neg (by omega)]; exact i5 j y hj hy⟩, ⟨q1, q2, fun b hb => ⟨(q3 b hb).1, (q3 b hb).2.1, (q3 b hb).2.2, fun j hj => by rw [if_neg (by omega)]; exact i6 b j hb hj⟩⟩, by rw [if_pos ⟨trivial, trivial⟩], by rw [if_neg (by omega)]; exact i7, by rw [if_neg (by omega)]; exact i8, by rw [if_neg (by omega)]; exact i9, h1, h2, h3⟩
theorem RG.fin2 (h : RG σ a r pl st) {x y : Int32} (h1 : st.2.2.2.2.2.1.length ≤ 1000) (h2 : st.2.2.2.2.2.2 ≤ 1000) (h3 : WI st) : RunC (hsI (hsI σ a 7 x) a 10 y) a ((x, y), st) := by
  obtain ⟨t, r, n, w, d, q, i7, i8, i9, i10, e⟩ := h.fin (x := x) h1 h2 h3
  unfold RunC
  have e0 : ∀ b j, (b ≠ a ∨ j ≠ 10) → hI (hsI (hsI σ a 7 x) a 10 y) b j = hI (hsI σ a 7 x) b j := fun b j hb => by rw [hI_sI, if_neg (by omega)]
  refine ⟨t, r, ⟨n.1, n.2.1, fun j hj => by rw [e0 _ _ (by omega)]; exact n.2.2 j hj⟩, ⟨w.1, w.2.1, fun j hj => by rw [e0 _ _ (by omega)]; exact w.2.2 j hj⟩, ⟨d.1, d.2.1, fun j x hj hx => by rw [e0 _ _ (by omega)]; exact d.2.2 j x hj hx⟩, ⟨q.1, q.2.1, fun b hb => ⟨(q.2.2 b hb).1, (q.2.2 b hb).2.1, (q.2.2 b hb).2.2.1, fun j hj => by rw [e0 _ _ (by omega)]; exact (q.2.2 b hb).2.2.2 j hj⟩⟩, by rw [e0 _ _ (by omega)]; exact i7, by rw [e0 _ _ (by omega)]; exact i8, by rw [e0 _ _ (by omega)]; exact i9, by rw [hI_sI, if_pos ⟨rfl, rfl⟩], e⟩
theorem VS.hl9 {q n : Nat} {M : Nat → Prop} {f : Nat → Nat → Nat → Bool} (h : VS σ r n h9 VA q f) (hk : Hok κ σ) (tr : hT σ r = 4) (F : HL κ M NoM c s σ σ') (hm : ∀ i, i < q → ¬ M (VA i)) : VS σ' r n h9 VA q f := fun i hi' => by
  obtain ⟨b1, b2, b3, b4, b5, b6, b7⟩ := h i hi'
  refine ⟨(F.ref hk tr (by decide) id (6 + i)).trans b1, F.tg hk b2 (by decide), (F.len hk (by rw [b2]; decide)).trans b3, b4, by have := F.lt; omega, b6, fun k hk' => ?_⟩
  rw [F.lng hk b2 (by decide) (hm i hi') k]; exact b7 k hk'
/-- refused -/
theorem g_158 {k x : Nat} {l2 l3 l4 l5 : Option Value} (hR9 : RtB κ σ r R wss A NX BF B ss h9) (hk : k < (nds R).length) (t : hT σ a = 18) (ne : A k ≠ a) (kk : Q (.inl none) (hsI (hsI σ a 7 1) a 10 (nn (nB (ndA (nds R) k))))) : bX21_go_158 κ Q [some (.ref a), some (.ref (A k)), l2, l3, l4, l5] [.ref x] σ := by
  have tg := hR9.tgA hk
  obtain ⟨d1, d2, d3, -⟩ := hR9.nd k hk
  simp [bX21_go_158, bX21_go_172, o_ic, o_lc, o_null, o_il, o_ll, o_al, o_dup, o_pop, o_dup_x1, o_dup2, o_iadd, o_isub, o_imul, o_iand, o_ior, o_ixor, o_ishl, o_ishr, o_idiv, o_irem, o_ineg, o_ladd, o_lsub, o_lmul, o_land, o_lor, o_lxor, o_ldiv, o_lrem, o_lneg, o_lcmp, o_i2l, o_l2i, o_i2b, o_i2c, o_iushr, o_lshl, o_lshr, o_if_eq, o_if_ne, o_if_lt, o_if_ge, o_if_gt, o_if_le, o_icmp_eq, o_icmp_ne, o_icmp_lt, o_icmp_ge, o_icmp_gt, o_icmp_le, o_ifnull, o_ifnonnull, o_acmp_eq, o_acmp_ne, o_is, o_ls, o_as, o_iinc, o_kill, o_sw, o_ireturn, o_zreturn, o_nreturn, o_lreturn, o_areturn, o_return, o_athrow, o_call, entP, lg_sl, Value.category, st1, st2, List.set, List.getElem?_cons_zero, List.getElem?_cons_succ, List.foldl, popN, aft, o_gI, o_gR, o_pI, o_pN, o_pR, o_aI, o_aG, o_aR, o_len, o_aR8, o_sI, o_sB, o_sZ, o_sG, o_new, o_newA, o_cast, o_inst, o_cst, o_oi, o_sR, o_gIc, o_gSv, o_gSc, o_getc, o_dead, o_acopy, o_castA, o_castI, o_sR7, o_mna, o_mmax, o_mmin, o_mabs, hT_sI, hT_sR, hT_sG, hL_sI, hL_sR, hL_sG, hI_sI, hI_sR, hI_sG, hG_sI, hG_sR, hG_sG, hR_sI, hR_sR, hR_sG, hN_sI, hN_sR, hN_sG, hC_sI, hC_sR, hC_sG, hS_sI, hS_sR, hS_sG, hT_nw, hL_nw, hI_nw, hG_nw, hR_nw, hN_nw, hC_nw, hS_nw, hvc, hvi, dspI, vref, va_rf, t, tg, d3, ne]
  exact kk
/-- what is set ahead of a node -/
theorem g_73 {k : Nat} {σ0 : AH} {v : Int64} {X : Cont AH} (hk0 : Hok κ σ0) (hR0 : RtB κ σ0 r R wss A NX BF B ss h9) (h32 : (sms R.1).length ≤ 32) (hv : LB v (sb9 R pl k)) (ha : h9 ≤ a) (c1 : 1 ≤ hC σ0) (c2 : 6 ≤ hS σ0) (st0 : RS)
    (k1 : ∀ σ' st' l5, setF R pl k (sms R.1).length 0 st0 = (st', false) → HL κ (InM a) NoM 0 0 σ0 σ' → RG σ' a r pl st' → bX21_go_141 κ Q X [some (.ref a), some (.ref (A k)), some (.long v), none, some (.int (nn (sms R.1).length)), l5] [] σ')
    (k0 : ∀ σ' st' x l2 l3 l4 l5, setF R pl k (sms R.1).length 0 st0 = (st', true) → HL κ (InM a) NoM 1 6 σ0 σ' → RG σ' a r pl st' → hT σ' x = 6 → bX21_go_158 κ Q [some (.ref a), some (.ref (A k)), l2, l3, l4, l5] [.ref x] σ')
    (F0 : HL κ (InM a) NoM 0 0 σ0 σ) (G0 : RG σ a r pl st0) : bX21_go_73 κ Q X [some (.ref a), some (.ref (A k)), some (.long v), none, some (.int 0), none] [] σ := by
  unfold bX21_go_73
  intro Y hY
  have fr : ∀ σ', HL κ (InM a) NoM 0 0 σ0 σ' → RtB κ σ' r R wss A NX BF B ss h9 := fun σ' F => hR0.hl hk0 F (fun b _ q _ => ⟨fun z => by have := z.1; omega, id⟩)
  generalize hz : setF R pl k (sms R.1).length 0 st0 = Z at k1 k0
  have hind : ∀ m e st σ, e + m = (sms R.1).length → Z = setF R pl k m e st → HL κ (InM a) NoM 0 0 σ0 σ → RG σ a r pl st → Y [some (.ref a), some (.ref (A k)), some (.long v), none, some (.int (nn e)), none] [] σ := by
    intro m
    induction m with
    | zero =>
      intro e st σ he hs F G
      have hR9 := fr σ F
      have t := G.1.1
      have r0 := G.1.2.1.1
      have : e = (sms R.1).length := by omega
      subst this
      apply hY
      simp [o_ic, o_lc, o_null, o_il, o_ll, o_al, o_dup, o_pop, o_dup_x1, o_dup2, o_iadd, o_isub, o_imul, o_iand, o_ior, o_ixor, o_ishl, o_ishr, o_idiv, o_irem, o_ineg, o_ladd, o_lsub, o_lmul, o_land, o_lor, o_lxor, o_ldiv, o_lrem, o_lneg, o_lcmp, o_i2l, o_l2i, o_i2b, o_i2c, o_iushr, o_lshl, o_lshr, o_if_eq, o_if_ne, o_if_lt, o_if_ge, o_if_gt, o_if_le, o_icmp_eq, o_icmp_ne, o_icmp_lt, o_icmp_ge, o_icmp_gt, o_icmp_le, o_ifnull, o_ifnonnull, o_acmp_eq, o_acmp_ne, o_is, o_ls, o_as, o_iinc, o_kill, o_sw, o_ireturn, o_zreturn, o_nreturn, o_lreturn, o_areturn, o_return, o_athrow, o_call, entP, lg_sl, Value.category, st1, st2, List.set, List.getElem?_cons_zero, List.getElem?_cons_succ, List.foldl, popN, aft, o_gI, o_gR, o_pI, o_pN, o_pR, o_aI, o_aG, o_aR, o_len, o_aR8, o_sI, o_sB, o_sZ, o_sG, o_new, o_newA, o_cast, o_inst, o_cst, o_oi, o_sR, o_gIc, o_gSv, o_gSc, o_getc, o_dead, o_acopy, o_castA, o_castI, o_sR7, o_mna, o_mmax, o_mmin, o_mabs, t, r0, va_rf, hR9.tr, hR9.rr 2 (by omega)]
      refine hv_size hR9.sl ?_
      rw [hR9.sn]
      simp [o_ic, o_lc, o_null, o_il, o_ll, o_al, o_dup, o_pop, o_dup_x1, o_dup2, o_iadd, o_isub, o_imul, o_iand, o_ior, o_ixor, o_ishl, o_ishr, o_idiv, o_irem, o_ineg, o_ladd, o_lsub, o_lmul, o_land, o_lor, o_lxor, o_ldiv, o_lrem, o_lneg, o_lcmp, o_i2l, o_l2i, o_i2b, o_i2c, o_iushr, o_lshl, o_lshr, o_if_eq, o_if_ne, o_if_lt, o_if_ge, o_if_gt, o_if_le, o_icmp_eq, o_icmp_ne, o_icmp_lt, o_icmp_ge, o_icmp_gt, o_icmp_le, o_ifnull, o_ifnonnull, o_acmp_eq, o_acmp_ne, o_is, o_ls, o_as, o_iinc, o_kill, o_sw, o_ireturn, o_zreturn, o_nreturn, o_lreturn, o_areturn, o_return, o_athrow, o_call, entP, lg_sl, Value.category, st1, st2, List.set, List.getElem?_cons_zero, List.getElem?_cons_succ, List.foldl, popN, aft]
      exact k1 σ st none (by rw [hs]; rfl) F G
    | succ m ih =>
      intro e st σ he hs F G
      have hR9 := fr σ F
      have t := G.1.1
      have r0 := G.1.2.1.1
      have hes : e < (sms R.1).length := by omega
      have e32 : e < 32 := by omega
      have be : e < 2147483648 := by omega
      obtain ⟨y, hy, SY, e0⟩ := hR9.sm e hes
      have ty := SY.tg
      unfold setF at hs
      have g0 := hv.get0 (k := e) (by omega)
      have sbe : sb9 R pl k e = b9 (setP R pl e k) := by
        unfold sb9
        rw [show decide (e < (sms R.1).length) = true by simp [hes], Bool.true_and]
      have nle : ¬ nn (sms R.1).length ≤ nn e := by
        rw [Int32.le_iff_toInt_le, nn_toInt be, nn_toInt (by omega)]; omega
      apply hY
      simp [o_ic, o_lc, o_null, o_il, o_ll, o_al, o_dup, o_pop, o_dup_x1, o_dup2, o_iadd, o_isub, o_imul, o_iand, o_ior, o_ixor, o_ishl, o_ishr, o_idiv, o_irem, o_ineg, o_ladd, o_lsub, o_lmul, o_land, o_lor, o_lxor, o_ldiv, o_lrem, o_lneg, o_lcmp, o_i2l, o_l2i, o_i2b, o_i2c, o_iushr, o_lshl, o_lshr, o_if_eq, o_if_ne, o_if_lt, o_if_ge, o_if_gt, o_if_le, o_icmp_eq, o_icmp_ne, o_icmp_lt, o_icmp_ge, o_icmp_gt, o_icmp_le, o_ifnull, o_ifnonnull, o_acmp_eq, o_acmp_ne, o_is, o_ls, o_as, o_iinc, o_kill, o_sw, o_ireturn, o_zreturn, o_nreturn, o_lreturn, o_areturn, o_return, o_athrow, o_call, entP, lg_sl, Value.category, st1, st2, List.set, List.getElem?_cons_zero, List.getElem?_cons_succ, List.foldl, popN, aft, o_gI, o_gR, o_pI, o_pN, o_pR, o_aI, o_aG, o_aR, o_len, o_aR8, o_sI, o_sB, o_sZ, o_sG, o_new, o_newA, o_cast, o_inst, o_cst, o_oi, o_sR, o_gIc, o_gSv, o_gSc, o_getc, o_dead, o_acopy, o_castA, o_castI, o_sR7, o_mna, o_mmax, o_mmin, o_mabs, t, r0, va_rf, hR9.tr, hR9.rr 2 (by omega)]
      refine hv_size hR9.sl ?_
      rw [hR9.sn]
      simp [o_ic, o_lc, o_null, o_il, o_ll, o_al, o_dup, o_pop, o_dup_x1, o_dup2, o_iadd, o_isub, o_imul, o_iand, o_ior, o_ixor, o_ishl, o_ishr, o_idiv, o_irem, o_ineg, o_ladd, o_lsub, o_lmul, o_land, o_lor, o_lxor, o_ldiv, o_lrem, o_lneg, o_lcmp, o_i2l, o_l2i, o_i2b, o_i2c, o_iushr, o_lshl, o_lshr, o_if_eq, o_if_ne, o_if_lt, o_if_ge, o_if_gt, o_if_le, o_icmp_eq, o_icmp_ne, o_icmp_lt, o_icmp_ge, o_icmp_gt, o_icmp_le, o_ifnull, o_ifnonnull, o_acmp_eq, o_acmp_ne, o_is, o_ls, o_as, o_iinc, o_kill, o_sw, o_ireturn, o_zreturn, o_nreturn, o_lreturn, o_areturn, o_return, o_athrow, o_call, entP, lg_sl, Value.category, st1, st2, List.set, List.getElem?_cons_zero, List.getElem?_cons_succ, List.foldl, popN, aft, o_gI, o_gR, o_pI, o_pN, o_pR, o_aI, o_aG, o_aR, o_len, o_aR8, o_sI, o_sB, o_sZ, o_sG, o_new, o_newA, o_cast, o_inst, o_cst, o_oi, o_sR, o_gIc, o_gSv, o_gSc, o_getc, o_dead, o_acopy, o_castA, o_castI, o_sR7, o_mna, o_mmax, o_mmin, o_mabs, nle, t, r0, va_rf, hR9.tr, hR9.rr 2 (by omega)]
      refine hv_get (i := e) (x := y) hR9.sl hy ?_
      simp [o_ic, o_lc, o_null, o_il, o_ll, o_al, o_dup, o_pop, o_dup_x1, o_dup2, o_iadd, o_isub, o_imul, o_iand, o_ior, o_ixor, o_ishl, o_ishr, o_idiv, o_irem, o_ineg, o_ladd, o_lsub, o_lmul, o_land, o_lor, o_lxor, o_ldiv, o_lrem, o_lneg, o_lcmp, o_i2l, o_l2i, o_i2b, o_i2c, o_iushr, o_lshl, o_lshr, o_if_eq, o_if_ne, o_if_lt, o_if_ge, o_if_gt, o_if_le, o_icmp_eq, o_icmp_ne, o_icmp_lt, o_icmp_ge, o_icmp_gt, o_icmp_le, o_ifnull, o_ifnonnull, o_acmp_eq, o_acmp_ne, o_is, o_ls, o_as, o_iinc, o_kill, o_sw, o_ireturn, o_zreturn, o_nreturn, o_lreturn, o_areturn, o_return, o_athrow, o_call, entP, lg_sl, Value.category, st1, st2, List.set, List.getElem?_cons_zero, List.getElem?_cons_succ, List.foldl, popN, aft, o_gI, o_gR, o_pI, o_pN, o_pR, o_aI, o_aG, o_aR, o_len, o_aR8, o_sI, o_sB, o_sZ, o_sG, o_new, o_newA, o_cast, o_inst, o_cst, o_oi, o_sR, o_gIc, o_gSv, o_gSc, o_getc, o_dead, o_acopy, o_castA, o_castI, o_sR7, o_mna, o_mmax, o_mmin, o_mabs, ty, e0, g0, lcmp_0, sbe]
      refine ⟨fun z => ?_, fun z => ?_⟩
      · rw [if_neg (by rw [z]; decide)] at hs
        simp [bX21_go_135, o_ic, o_lc, o_null, o_il, o_ll, o_al, o_dup, o_pop, o_dup_x1, o_dup2, o_iadd, o_isub, o_imul, o_iand, o_ior, o_ixor, o_ishl, o_ishr, o_idiv, o_irem, o_ineg, o_ladd, o_lsub, o_lmul, o_land, o_lor, o_lxor, o_ldiv, o_lrem, o_lneg, o_lcmp, o_i2l, o_l2i, o_i2b, o_i2c, o_iushr, o_lshl, o_lshr, o_if_eq, o_if_ne, o_if_lt, o_if_ge, o_if_gt, o_if_le, o_icmp_eq, o_icmp_ne, o_icmp_lt, o_icmp_ge, o_icmp_gt, o_icmp_le, o_ifnull, o_ifnonnull, o_acmp_eq, o_acmp_ne, o_is, o_ls, o_as, o_iinc, o_kill, o_sw, o_ireturn, o_zreturn, o_nreturn, o_lreturn, o_areturn, o_return, o_athrow, o_call, entP, lg_sl, Value.category, st1, st2, List.set, List.getElem?_cons_zero, List.getElem?_cons_succ, List.foldl, popN, aft]
        rw [nn_addR]
        exact ih (e + 1) st σ (by omega) hs F G
      · rw [if_pos z] at hs
        obtain ⟨q1, q2⟩ := G.1.2.2.2.1
        have r3 := G.1.2.1.2.2.1
        simp [t, r3, va_rf, ty, e0, o_ic, o_lc, o_null, o_il, o_ll, o_al, o_dup, o_pop, o_dup_x1, o_dup2, o_iadd, o_isub, o_imul, o_iand, o_ior, o_ixor, o_ishl, o_ishr, o_idiv, o_irem, o_ineg, o_ladd, o_lsub, o_lmul, o_land, o_lor, o_lxor, o_ldiv, o_lrem, o_lneg, o_lcmp, o_i2l, o_l2i, o_i2b, o_i2c, o_iushr, o_lshl, o_lshr, o_if_eq, o_if_ne, o_if_lt, o_if_ge, o_if_gt, o_if_le, o_icmp_eq, o_icmp_ne, o_icmp_lt, o_icmp_ge, o_icmp_gt, o_icmp_le, o_ifnull, o_ifnonnull, o_acmp_eq, o_acmp_ne, o_is, o_ls, o_as, o_iinc, o_kill, o_sw, o_ireturn, o_zreturn, o_nreturn, o_lreturn, o_areturn, o_return, o_athrow, o_call, entP, lg_sl, Value.category, st1, st2, List.set, List.getElem?_cons_zero, List.getElem?_cons_succ, List.foldl, popN, aft, o_gI, o_gR, o_pI, o_pN, o_pR, o_aI, o_aG, o_aR, o_len, o_aR8, o_sI, o_sB, o_sZ, o_sG, o_new, o_newA, o_cast, o_inst, o_cst, o_oi, o_sR, o_gIc, o_gSv, o_gSc, o_getc, o_dead, o_acopy, o_castA, o_castI, o_sR7, o_mna, o_mmax, o_mmin, o_mabs]
        refine ct_work F.ok hR9 h32 hes hy G ha (by have := F.C; omega) (by have := F.S; omega) (fun v' σ1 ev F1 G1 => ?_) (fun ev σ1 x F1 G1 tx => ?_)
        · rw [ev] at hs
          obtain ⟨m1, m2⟩ := G1.1.2.2.2.1
          simp [o_ic, o_lc, o_null, o_il, o_ll, o_al, o_dup, o_pop, o_dup_x1, o_dup2, o_iadd, o_isub, o_imul, o_iand, o_ior, o_ixor, o_ishl, o_ishr, o_idiv, o_irem, o_ineg, o_ladd, o_lsub, o_lmul, o_land, o_lor, o_lxor, o_ldiv, o_lrem, o_lneg, o_lcmp, o_i2l, o_l2i, o_i2b, o_i2c, o_iushr, o_lshl, o_lshr, o_if_eq, o_if_ne, o_if_lt, o_if_ge, o_if_gt, o_if_le, o_icmp_eq, o_icmp_ne, o_icmp_lt, o_icmp_ge, o_icmp_gt, o_icmp_le, o_ifnull, o_ifnonnull, o_acmp_eq, o_acmp_ne, o_is, o_ls, o_as, o_iinc, o_kill, o_sw, o_ireturn, o_zreturn, o_nreturn, o_lreturn, o_areturn, o_return, o_athrow, o_call, entP, lg_sl, Value.category, st1, st2, List.set, List.getElem?_cons_zero, List.getElem?_cons_succ, List.foldl, popN, aft, o_gI, o_gR, o_pI, o_pN, o_pR, o_aI, o_aG, o_aR, o_len, o_aR8, o_sI, o_sB, o_sZ, o_sG, o_new, o_newA, o_cast, o_inst, o_cst, o_oi, o_sR, o_gIc, o_gSv, o_gSc, o_getc, o_dead, o_acopy, o_castA, o_castI, o_sR7, o_mna, o_mmax, o_mmin, o_mabs, m1, m2, nn_in be, nn_clamp be, e32, bX21_go_135]
          rw [nn_addR]
          have F2 : HL κ (InM a) NoM 0 0 σ0 (hsI σ1 (a + 2) e v') := (F.trans F1).sI (Or.inl ⟨by omega, by omega⟩) m1 (by decide)
          exact ih (e + 1) _ _ (by omega) hs F2 G1.keep
        · rw [ev] at hs
          simp [o_ic, o_lc, o_null, o_il, o_ll, o_al, o_dup, o_pop, o_dup_x1, o_dup2, o_iadd, o_isub, o_imul, o_iand, o_ior, o_ixor, o_ishl, o_ishr, o_idiv, o_irem, o_ineg, o_ladd, o_lsub, o_lmul, o_land, o_lor, o_lxor, o_ldiv, o_lrem, o_lneg, o_lcmp, o_i2l, o_l2i, o_i2b, o_i2c, o_iushr, o_lshl, o_lshr, o_if_eq, o_if_ne, o_if_lt, o_if_ge, o_if_gt, o_if_le, o_icmp_eq, o_icmp_ne, o_icmp_lt, o_icmp_ge, o_icmp_gt, o_icmp_le, o_ifnull, o_ifnonnull, o_acmp_eq, o_acmp_ne, o_is, o_ls, o_as, o_iinc, o_kill, o_sw, o_ireturn, o_zreturn, o_nreturn, o_lreturn, o_areturn, o_return, o_athrow, o_call, entP, lg_sl, Value.category, st1, st2, List.set, List.getElem?_cons_zero, List.getElem?_cons_succ, List.foldl, popN, aft]
          exact ⟨tx, k0 σ1 _ x _ _ _ _ hs ((F.trans F1).up (by omega) (by omega)) G1 tx⟩
  exact hind (sms R.1).length 0 st0 σ (by omega) hz.symm F0 G0
theorem ct_go {σ0 : AH} (hk0 : Hok κ σ0) (hR0 : RtB κ σ0 r R wss A NX BF B ss h9) (hV0 : VS σ0 r (nds R).length h9 VA 8 (fun i => fb R i)) (hVa : ∀ i, i < 8 → VA i < a) (h32 : (sms R.1).length ≤ 32) (hp : pl < 3) (ha : h9 ≤ a) (c1 : 1 ≤ hC σ0) (c2 : 6 ≤ hS σ0) {st0 : RS} (G0 : RG σ0 a r pl st0) (w0 : WI st0) (s1 : st0.2.2.2.2.2.1 = []) (s2 : st0.2.2.2.2.2.2 = 0)
    (kk : ∀ σ', HL κ (InM a) NoM 1 6 σ0 σ' → RunC σ' a (runF R pl 2100 0 st0) → Q (.inl none) σ') : hvc [(18, pX21_go κ)] [.ref a] σ0 Q := by
  have t0 := G0.1.1
  have w := hR0.wf.1
  have hT9 := hR0.wf.2.1
  have n0 : 0 < (nds R).length := by
    have h1 := nds_len R
    have h2 := w.2.2.1 0 hR0.wf.2.2
    omega
  have t0' := hR0.tgA n0
  have fr : ∀ σ', HL κ (InM a) NoM 0 0 σ0 σ' → RtB κ σ' r R wss A NX BF B ss h9 := fun σ' F => hR0.hl hk0 F (fun b _ q _ => ⟨fun z => by have := z.1; omega, id⟩)
  simp only [hvc, dspI, t0]
  simp [pX21_go, bX21_go_0, o_ic, o_lc, o_null, o_il, o_ll, o_al, o_dup, o_pop, o_dup_x1, o_dup2, o_iadd, o_isub, o_imul, o_iand, o_ior, o_ixor, o_ishl, o_ishr, o_idiv, o_irem, o_ineg, o_ladd, o_lsub, o_lmul, o_land, o_lor, o_lxor, o_ldiv, o_lrem, o_lneg, o_lcmp, o_i2l, o_l2i, o_i2b, o_i2c, o_iushr, o_lshl, o_lshr, o_if_eq, o_if_ne, o_if_lt, o_if_ge, o_if_gt, o_if_le, o_icmp_eq, o_icmp_ne, o_icmp_lt, o_icmp_ge, o_icmp_gt, o_icmp_le, o_ifnull, o_ifnonnull, o_acmp_eq, o_acmp_ne, o_is, o_ls, o_as, o_iinc, o_kill, o_sw, o_ireturn, o_zreturn, o_nreturn, o_lreturn, o_areturn, o_return, o_athrow, o_call, entP, lg_sl, Value.category, st1, st2, List.set, List.getElem?_cons_zero, List.getElem?_cons_succ, List.foldl, popN, aft, o_gI, o_gR, o_pI, o_pN, o_pR, o_aI, o_aG, o_aR, o_len, o_aR8, o_sI, o_sB, o_sZ, o_sG, o_new, o_newA, o_cast, o_inst, o_cst, o_oi, o_sR, o_gIc, o_gSv, o_gSc, o_getc, o_dead, o_acopy, o_castA, o_castI, o_sR7, o_mna, o_mmax, o_mmin, o_mabs, t0, G0.1.2.1.1, va_rf, hR0.tr, hR0.rr 1 (by omega)]
  refine hv_get (i := 0) (x := A 0) hR0.ns (by simp [n0]) ?_
  simp [o_ic, o_lc, o_null, o_il, o_ll, o_al, o_dup, o_pop, o_dup_x1, o_dup2, o_iadd, o_isub, o_imul, o_iand, o_ior, o_ixor, o_ishl, o_ishr, o_idiv, o_irem, o_ineg, o_ladd, o_lsub, o_lmul, o_land, o_lor, o_lxor, o_ldiv, o_lrem, o_lneg, o_lcmp, o_i2l, o_l2i, o_i2b, o_i2c, o_iushr, o_lshl, o_lshr, o_if_eq, o_if_ne, o_if_lt, o_if_ge, o_if_gt, o_if_le, o_icmp_eq, o_icmp_ne, o_icmp_lt, o_icmp_ge, o_icmp_gt, o_icmp_le, o_ifnull, o_ifnonnull, o_acmp_eq, o_acmp_ne, o_is, o_ls, o_as, o_iinc, o_kill, o_sw, o_ireturn, o_zreturn, o_nreturn, o_lreturn, o_areturn, o_return, o_athrow, o_call, entP, lg_sl, Value.category, st1, st2, List.set, List.getElem?_cons_zero, List.getElem?_cons_succ, List.foldl, popN, aft, o_gI, o_gR, o_pI, o_pN, o_pR, o_aI, o_aG, o_aR, o_len, o_aR8, o_sI, o_sB, o_sZ, o_sG, o_new, o_newA, o_cast, o_inst, o_cst, o_oi, o_sR, o_gIc, o_gSv, o_gSc, o_getc, o_dead, o_acopy, o_castA, o_castI, o_sR7, o_mna, o_mmax, o_mmin, o_mabs, t0']
  unfold bX21_go_15
  intro X hX
  generalize hz : runF R pl 2100 0 st0 = Z at kk
  have hind : ∀ m k st σ, mu R k st < m → k < (nds R).length → HL κ (InM a) NoM 0 0 σ0 σ → RG σ a r pl st → WI st → st.2.2.2.2.2.2 ≤ 1000 → st.2.2.2.2.2.1.length ≤ st.2.2.2.2.2.2 → Z = runF R pl m k st → X [some (.ref a), some (.ref (A k)), none, none, none, none] [] σ := by
    intro m
    induction m with
    | zero => intro k st σ h; omega
    | succ m ih =>
      intro k st σ hm hk F G wi hc ht hrun
      have hR9 := fr σ F
      have hk9 := F.ok
      have t := G.1.1
      have ok := hR9.ndk hk
      have iv := hR9.iv k hk
      have ne : A k ≠ a := by omega
      obtain ⟨d1, d2, d3, -⟩ := hR9.nd k hk
      have tg := hR9.tgA hk
      have bK : nK (ndA (nds R) k) < 2147483648 := by have := ok.1; omega
      have i8 := G.2.2.2.2.2.2.2.1
      unfold runF at hrun
      apply hX
      simp [o_ic, o_lc, o_null, o_il, o_ll, o_al, o_dup, o_pop, o_dup_x1, o_dup2, o_iadd, o_isub, o_imul, o_iand, o_ior, o_ixor, o_ishl, o_ishr, o_idiv, o_irem, o_ineg, o_ladd, o_lsub, o_lmul, o_land, o_lor, o_lxor, o_ldiv, o_lrem, o_lneg, o_lcmp, o_i2l, o_l2i, o_i2b, o_i2c, o_iushr, o_lshl, o_lshr, o_if_eq, o_if_ne, o_if_lt, o_if_ge, o_if_gt, o_if_le, o_icmp_eq, o_icmp_ne, o_icmp_lt, o_icmp_ge, o_icmp_gt, o_icmp_le, o_ifnull, o_ifnonnull, o_acmp_eq, o_acmp_ne, o_is, o_ls, o_as, o_iinc, o_kill, o_sw, o_ireturn, o_zreturn, o_nreturn, o_lreturn, o_areturn, o_return, o_athrow, o_call, entP, lg_sl, Value.category, st1, st2, List.set, List.getElem?_cons_zero, List.getElem?_cons_succ, List.foldl, popN, aft]
      refine hR9.kind hk ?_
      have he32 : ∀ e, nSm (ndA (nds R) k) = some e → e < 32 := fun e z => by have := ok.2.2.2.1 e z; omega
      have step : ∀ σ1, ¬ (nK (ndA (nds R) k) ≠ 7 ∧ st.2.2.2.2.2.2 = 1000) → HL κ (InM a) NoM 0 0 σ0 σ1 → RG σ1 a r pl (st1F R k st) → bX21_go_54 κ Q X [some (.ref a), some (.ref (A k)), none, none, none, none] [] σ1 := by
        intro σ1 hn F1 G1
        rw [if_neg hn] at hrun
        have hR1 := fr σ1 F1
        have hV1 : VS σ1 r (nds R).length h9 VA 8 (fun i => fb R i) := hV0.hl9 hk0 hR0.tr F1 (fun i hi' z => by have := hVa i hi'; have := z.1; omega)
        have t1 := G1.1.1
        obtain ⟨d1', d2', d3', -⟩ := hR1.nd k hk
        have hcm := stepF_came R pl k st
        have htl' := stepF_told R pl k st ht
        have wi' := wi.spF (pl := pl) h32 he32
        have hcm2 : (stepF R pl k st).1.2.2.2.2.2.2 ≤ 1000 := by
          rw [hcm]
          by_cases c7 : nK (ndA (nds R) k) = 7
          · rw [if_pos c7]; omega
          · rw [if_neg c7]
            have : ¬ st.2.2.2.2.2.2 = 1000 := fun z => hn ⟨c7, z⟩
            omega
        have htl2 : (stepF R pl k st).1.2.2.2.2.2.1.length ≤ 1000 := by omega
        have ref : ∀ σ' x l2 l3 l4 l5, (stepF R pl k st).2 = .error 1 → HL κ (InM a) NoM 1 6 σ0 σ' → RG σ' a r pl (stepF R pl k st).1 → bX21_go_158 κ Q [some (.ref a), some (.ref (A k)), l2, l3, l4, l5] [.ref x] σ' := by
          intro σ' x l2 l3 l4 l5 hr F' G'
          have R' : RtB κ σ' r R wss A NX BF B ss h9 := hR0.hl hk0 F' (fun b _ q _ => ⟨fun z => by have := z.1; omega, id⟩)
          refine g_158 R' hk G'.1.1 ne (kk _ ((F'.sI (Or.inl ⟨by omega, by omega⟩) G'.1.1 (by decide)).sI (Or.inl ⟨by omega, by omega⟩) G'.1.1 (by decide)) ?_)
          rw [hrun, hr]
          exact G'.fin2 htl2 hcm2 wi'
        simp [bX21_go_54, o_ic, o_lc, o_null, o_il, o_ll, o_al, o_dup, o_pop, o_dup_x1, o_dup2, o_iadd, o_isub, o_imul, o_iand, o_ior, o_ixor, o_ishl, o_ishr, o_idiv, o_irem, o_ineg, o_ladd, o_lsub, o_lmul, o_land, o_lor, o_lxor, o_ldiv, o_lrem, o_lneg, o_lcmp, o_i2l, o_l2i, o_i2b, o_i2c, o_iushr, o_lshl, o_lshr, o_if_eq, o_if_ne, o_if_lt, o_if_ge, o_if_gt, o_if_le, o_icmp_eq, o_icmp_ne, o_icmp_lt, o_icmp_ge, o_icmp_gt, o_icmp_le, o_ifnull, o_ifnonnull, o_acmp_eq, o_acmp_ne, o_is, o_ls, o_as, o_iinc, o_kill, o_sw, o_ireturn, o_zreturn, o_nreturn, o_lreturn, o_areturn, o_return, o_athrow, o_call, entP, lg_sl, Value.category, st1, st2, List.set, List.getElem?_cons_zero, List.getElem?_cons_succ, List.foldl, popN, aft, o_gI, o_gR, o_pI, o_pN, o_pR, o_aI, o_aG, o_aR, o_len, o_aR8, o_sI, o_sB, o_sZ, o_sG, o_new, o_newA, o_cast, o_inst, o_cst, o_oi, o_sR, o_gIc, o_gSv, o_gSc, o_getc, o_dead, o_acopy, o_castA, o_castI, o_sR7, o_mna, o_mmax, o_mmin, o_mabs, t1, G1.1.2.1.1, G1.2.1, va_rf, hR1.tgA hk, d2']
        refine ct_setAt hR1 hV1 hp hk (fun v hv => ?_)
        simp [o_ic, o_lc, o_null, o_il, o_ll, o_al, o_dup, o_pop, o_dup_x1, o_dup2, o_iadd, o_isub, o_imul, o_iand, o_ior, o_ixor, o_ishl, o_ishr, o_idiv, o_irem, o_ineg, o_ladd, o_lsub, o_lmul, o_land, o_lor, o_lxor, o_ldiv, o_lrem, o_lneg, o_lcmp, o_i2l, o_l2i, o_i2b, o_i2c, o_iushr, o_lshl, o_lshr, o_if_eq, o_if_ne, o_if_lt, o_if_ge, o_if_gt, o_if_le, o_icmp_eq, o_icmp_ne, o_icmp_lt, o_icmp_ge, o_icmp_gt, o_icmp_le, o_ifnull, o_ifnonnull, o_acmp_eq, o_acmp_ne, o_is, o_ls, o_as, o_iinc, o_kill, o_sw, o_ireturn, o_zreturn, o_nreturn, o_lreturn, o_areturn, o_return, o_athrow, o_call, entP, lg_sl, Value.category, st1, st2, List.set, List.getElem?_cons_zero, List.getElem?_cons_succ, List.foldl, popN, aft]
        refine g_73 F1.ok hR1 h32 hv ha (by have := F1.C; omega) (by have := F1.S; omega) (st1F R k st) (fun σ2 sq2 l5 hs F2 G2 => ?_) (fun σ2 sq2 x l2 l3 l4 l5 hs F2 G2 tx => ?_) (HL.rfl9 F1.ok) G1
        · have est : stepF R pl k st = doesF R pl k sq2 := by
            unfold stepF; rw [hs]; rfl
          have F02 := F1.trans F2
          have hR2 := fr σ2 F02
          have hV2 : VS σ2 r (nds R).length h9 VA 8 (fun i => fb R i) := hV0.hl9 hk0 hR0.tr F02 (fun i hi' z => by have := hVa i hi'; have := z.1; omega)
          have tl2 : sq2.2.2.2.2.2.1.length ≤ 1000 := by
            have e1 := (setF_same R pl k (sms R.1).length 0 (st1F R k st)).2.2
            rw [hs] at e1
            have e2 : (st1F R k st).2.2.2.2.2.1 = st.2.2.2.2.2.1 := by unfold st1F; split <;> rfl
            have e3 : sq2.2.2.2.2.2.1 = st.2.2.2.2.2.1 := by rw [← e2]; exact congrArg Prod.fst e1
            rw [e3]; omega
          rw [est] at hrun hcm2 htl2 wi' ref htl'
          simp [bX21_go_141, o_ic, o_lc, o_null, o_il, o_ll, o_al, o_dup, o_pop, o_dup_x1, o_dup2, o_iadd, o_isub, o_imul, o_iand, o_ior, o_ixor, o_ishl, o_ishr, o_idiv, o_irem, o_ineg, o_ladd, o_lsub, o_lmul, o_land, o_lor, o_lxor, o_ldiv, o_lrem, o_lneg, o_lcmp, o_i2l, o_l2i, o_i2b, o_i2c, o_iushr, o_lshl, o_lshr, o_if_eq, o_if_ne, o_if_lt, o_if_ge, o_if_gt, o_if_le, o_icmp_eq, o_icmp_ne, o_icmp_lt, o_icmp_ge, o_icmp_gt, o_icmp_le, o_ifnull, o_ifnonnull, o_acmp_eq, o_acmp_ne, o_is, o_ls, o_as, o_iinc, o_kill, o_sw, o_ireturn, o_zreturn, o_nreturn, o_lreturn, o_areturn, o_return, o_athrow, o_call, entP, lg_sl, Value.category, st1, st2, List.set, List.getElem?_cons_zero, List.getElem?_cons_succ, List.foldl, popN, aft]
          refine ct_does F02.ok hR2 hV2 h32 hp hk G2 ha tl2 (by have := F02.C; omega) (by have := F02.S; omega) (fun σ3 sq3 k' hd hk' F3 G3 => ?_) (fun hd => ?_) (fun σ3 x sq3 hd F3 G3 tx => ?_)
          · have hr : (stepF R pl k st).2 = .ok k' := by rw [est, hd]
            obtain ⟨m1, m2⟩ := mu_lt w hT9 hk hn hc hr
            rw [hd] at hrun wi' htl' hcm2
            simp [o_ic, o_lc, o_null, o_il, o_ll, o_al, o_dup, o_pop, o_dup_x1, o_dup2, o_iadd, o_isub, o_imul, o_iand, o_ior, o_ixor, o_ishl, o_ishr, o_idiv, o_irem, o_ineg, o_ladd, o_lsub, o_lmul, o_land, o_lor, o_lxor, o_ldiv, o_lrem, o_lneg, o_lcmp, o_i2l, o_l2i, o_i2b, o_i2c, o_iushr, o_lshl, o_lshr, o_if_eq, o_if_ne, o_if_lt, o_if_ge, o_if_gt, o_if_le, o_icmp_eq, o_icmp_ne, o_icmp_lt, o_icmp_ge, o_icmp_gt, o_icmp_le, o_ifnull, o_ifnonnull, o_acmp_eq, o_acmp_ne, o_is, o_ls, o_as, o_iinc, o_kill, o_sw, o_ireturn, o_zreturn, o_nreturn, o_lreturn, o_areturn, o_return, o_athrow, o_call, entP, lg_sl, Value.category, st1, st2, List.set, List.getElem?_cons_zero, List.getElem?_cons_succ, List.foldl, popN, aft]
            exact ih k' sq3 σ3 (by rw [est, hd] at m1; simp only at m1; omega) hk' (F02.trans F3) G3 wi' hcm2 htl' hrun
          · rw [hd] at hrun wi' htl2 hcm2
            simp [o_ic, o_lc, o_null, o_il, o_ll, o_al, o_dup, o_pop, o_dup_x1, o_dup2, o_iadd, o_isub, o_imul, o_iand, o_ior, o_ixor, o_ishl, o_ishr, o_idiv, o_irem, o_ineg, o_ladd, o_lsub, o_lmul, o_land, o_lor, o_lxor, o_ldiv, o_lrem, o_lneg, o_lcmp, o_i2l, o_l2i, o_i2b, o_i2c, o_iushr, o_lshl, o_lshr, o_if_eq, o_if_ne, o_if_lt, o_if_ge, o_if_gt, o_if_le, o_icmp_eq, o_icmp_ne, o_icmp_lt, o_icmp_ge, o_icmp_gt, o_icmp_le, o_ifnull, o_ifnonnull, o_acmp_eq, o_acmp_ne, o_is, o_ls, o_as, o_iinc, o_kill, o_sw, o_ireturn, o_zreturn, o_nreturn, o_lreturn, o_areturn, o_return, o_athrow, o_call, entP, lg_sl, Value.category, st1, st2, List.set, List.getElem?_cons_zero, List.getElem?_cons_succ, List.foldl, popN, aft]
            apply hX
            simp [o_ic, o_lc, o_null, o_il, o_ll, o_al, o_dup, o_pop, o_dup_x1, o_dup2, o_iadd, o_isub, o_imul, o_iand, o_ior, o_ixor, o_ishl, o_ishr, o_idiv, o_irem, o_ineg, o_ladd, o_lsub, o_lmul, o_land, o_lor, o_lxor, o_ldiv, o_lrem, o_lneg, o_lcmp, o_i2l, o_l2i, o_i2b, o_i2c, o_iushr, o_lshl, o_lshr, o_if_eq, o_if_ne, o_if_lt, o_if_ge, o_if_gt, o_if_le, o_icmp_eq, o_icmp_ne, o_icmp_lt, o_icmp_ge, o_icmp_gt, o_icmp_le, o_ifnull, o_ifnonnull, o_acmp_eq, o_acmp_ne, o_is, o_ls, o_as, o_iinc, o_kill, o_sw, o_ireturn, o_zreturn, o_nreturn, o_lreturn, o_areturn, o_return, o_athrow, o_call, entP, lg_sl, Value.category, st1, st2, List.set, List.getElem?_cons_zero, List.getElem?_cons_succ, List.foldl, popN, aft, o_gI, o_gR, o_pI, o_pN, o_pR, o_aI, o_aG, o_aR, o_len, o_aR8, o_sI, o_sB, o_sZ, o_sG, o_new, o_newA, o_cast, o_inst, o_cst, o_oi, o_sR, o_gIc, o_gSv, o_gSc, o_getc, o_dead, o_acopy, o_castA, o_castI, o_sR7, o_mna, o_mmax, o_mmin, o_mabs, bX21_go_150, bX21_go_172, G2.1.1]
            refine kk _ ((F02.up (by omega) (by omega)).sI (Or.inl ⟨by omega, by omega⟩) G2.1.1 (by decide)) ?_
            rw [hrun]
            exact G2.fin htl2 hcm2 wi'
          · rw [hd] at ref
            simp [o_ic, o_lc, o_null, o_il, o_ll, o_al, o_dup, o_pop, o_dup_x1, o_dup2, o_iadd, o_isub, o_imul, o_iand, o_ior, o_ixor, o_ishl, o_ishr, o_idiv, o_irem, o_ineg, o_ladd, o_lsub, o_lmul, o_land, o_lor, o_lxor, o_ldiv, o_lrem, o_lneg, o_lcmp, o_i2l, o_l2i, o_i2b, o_i2c, o_iushr, o_lshl, o_lshr, o_if_eq, o_if_ne, o_if_lt, o_if_ge, o_if_gt, o_if_le, o_icmp_eq, o_icmp_ne, o_icmp_lt, o_icmp_ge, o_icmp_gt, o_icmp_le, o_ifnull, o_ifnonnull, o_acmp_eq, o_acmp_ne, o_is, o_ls, o_as, o_iinc, o_kill, o_sw, o_ireturn, o_zreturn, o_nreturn, o_lreturn, o_areturn, o_return, o_athrow, o_call, entP, lg_sl, Value.category, st1, st2, List.set, List.getElem?_cons_zero, List.getElem?_cons_succ, List.foldl, popN, aft]
            exact ⟨tx, ref σ3 x _ _ _ _ rfl (F02.trans F3) G3⟩
        · have est : stepF R pl k st = (sq2, .error 1) := by
            unfold stepF; rw [hs]; rfl
          refine ref σ2 x l2 l3 l4 l5 (by rw [est]) (F1.trans F2) (by rw [est]; exact G2)
      simp [o_ic, o_lc, o_null, o_il, o_ll, o_al, o_dup, o_pop, o_dup_x1, o_dup2, o_iadd, o_isub, o_imul, o_iand, o_ior, o_ixor, o_ishl, o_ishr, o_idiv, o_irem, o_ineg, o_ladd, o_lsub, o_lmul, o_land, o_lor, o_lxor, o_ldiv, o_lrem, o_lneg, o_lcmp, o_i2l, o_l2i, o_i2b, o_i2c, o_iushr, o_lshl, o_lshr, o_if_eq, o_if_ne, o_if_lt, o_if_ge, o_if_gt, o_if_le, o_icmp_eq, o_icmp_ne, o_icmp_lt, o_icmp_ge, o_icmp_gt, o_icmp_le, o_ifnull, o_ifnonnull, o_acmp_eq, o_acmp_ne, o_is, o_ls, o_as, o_iinc, o_kill, o_sw, o_ireturn, o_zreturn, o_nreturn, o_lreturn, o_areturn, o_return, o_athrow, o_call, entP, lg_sl, Value.category, st1, st2, List.set, List.getElem?_cons_zero, List.getElem?_cons_succ, List.foldl, popN, aft]
      by_cases c7 : nK (ndA (nds R) k) = 7
      · have e7 : nn (nK (ndA (nds R) k)) = 7 := by rw [c7]; rfl
        refine ⟨fun _ => step σ (fun z => z.1 c7) F ?_, fun z => absurd e7 z⟩
        unfold st1F; rw [if_pos c7]; exact G
      · have e7 : ¬ nn (nK (ndA (nds R) k)) = 7 := fun z => c7 (by
          have := congrArg Int32.toInt z
          rw [nn_toInt bK] at this
          have e3 : (7 : Int32).toInt = 7 := rfl
          omega)
        refine ⟨fun z => absurd z e7, fun _ => ?_⟩
        have bc : st.2.2.2.2.2.2 < 2147483648 := by omega
        simp [o_ic, o_lc, o_null, o_il, o_ll, o_al, o_dup, o_pop, o_dup_x1, o_dup2, o_iadd, o_isub, o_imul, o_iand, o_ior, o_ixor, o_ishl, o_ishr, o_idiv, o_irem, o_ineg, o_ladd, o_lsub, o_lmul, o_land, o_lor, o_lxor, o_ldiv, o_lrem, o_lneg, o_lcmp, o_i2l, o_l2i, o_i2b, o_i2c, o_iushr, o_lshl, o_lshr, o_if_eq, o_if_ne, o_if_lt, o_if_ge, o_if_gt, o_if_le, o_icmp_eq, o_icmp_ne, o_icmp_lt, o_icmp_ge, o_icmp_gt, o_icmp_le, o_ifnull, o_ifnonnull, o_acmp_eq, o_acmp_ne, o_is, o_ls, o_as, o_iinc, o_kill, o_sw, o_ireturn, o_zreturn, o_nreturn, o_lreturn, o_areturn, o_return, o_athrow, o_call, entP, lg_sl, Value.category, st1, st2, List.set, List.getElem?_cons_zero, List.getElem?_cons_succ, List.foldl, popN, aft, o_gI, o_gR, o_pI, o_pN, o_pR, o_aI, o_aG, o_aR, o_len, o_aR8, o_sI, o_sB, o_sZ, o_sG, o_new, o_newA, o_cast, o_inst, o_cst, o_oi, o_sR, o_gIc, o_gSv, o_gSc, o_getc, o_dead, o_acopy, o_castA, o_castI, o_sR7, o_mna, o_mmax, o_mmin, o_mabs, t, i8]
        refine ⟨fun z => ?_, fun z => ?_⟩
        · have z' : st.2.2.2.2.2.2 ≠ 1000 := fun q => z (by rw [q]; rfl)
          simp [bX21_go_44, o_ic, o_lc, o_null, o_il, o_ll, o_al, o_dup, o_pop, o_dup_x1, o_dup2, o_iadd, o_isub, o_imul, o_iand, o_ior, o_ixor, o_ishl, o_ishr, o_idiv, o_irem, o_ineg, o_ladd, o_lsub, o_lmul, o_land, o_lor, o_lxor, o_ldiv, o_lrem, o_lneg, o_lcmp, o_i2l, o_l2i, o_i2b, o_i2c, o_iushr, o_lshl, o_lshr, o_if_eq, o_if_ne, o_if_lt, o_if_ge, o_if_gt, o_if_le, o_icmp_eq, o_icmp_ne, o_icmp_lt, o_icmp_ge, o_icmp_gt, o_icmp_le, o_ifnull, o_ifnonnull, o_acmp_eq, o_acmp_ne, o_is, o_ls, o_as, o_iinc, o_kill, o_sw, o_ireturn, o_zreturn, o_nreturn, o_lreturn, o_areturn, o_return, o_athrow, o_call, entP, lg_sl, Value.category, st1, st2, List.set, List.getElem?_cons_zero, List.getElem?_cons_succ, List.foldl, popN, aft, o_gI, o_gR, o_pI, o_pN, o_pR, o_aI, o_aG, o_aR, o_len, o_aR8, o_sI, o_sB, o_sZ, o_sG, o_new, o_newA, o_cast, o_inst, o_cst, o_oi, o_sR, o_gIc, o_gSv, o_gSc, o_getc, o_dead, o_acopy, o_castA, o_castI, o_sR7, o_mna, o_mmax, o_mmin, o_mabs, t, i8]
          rw [nn_addR]
          refine step _ (fun q => z' q.2) (F.sI (Or.inl ⟨by omega, by omega⟩) t (by decide)) ?_
          unfold st1F; rw [if_neg c7]; exact G.came
        · have z' : st.2.2.2.2.2.2 = 1000 := by
            have := congrArg Int32.toInt z
            rw [nn_toInt bc] at this
            have e3 : (1000 : Int32).toInt = 1000 := rfl
            omega
          rw [if_pos ⟨c7, z'⟩] at hrun
          refine kk _ ((F.up (by omega) (by omega)).sI (Or.inl ⟨by omega, by omega⟩) t (by decide)) ?_
          rw [hrun]
          exact G.fin (by omega) (by omega) wi
  refine hind 2100 0 st0 σ0 ?_ n0 (HL.rfl9 hk0) G0 w0 (by omega) (by rw [s1]; simp) hz.symm
  unfold mu; rw [s2]; split <;> omega
end GO
