/-! THE COMPONENT's constants: small Integers, texts -/
set_option maxRecDepth 100000
/-- a text constant -/
def StrK (σ : AH) (a : Nat) (cs : List Nat) : Prop := hT σ a = 61 ∧ hI σ a 1 = 0 ∧ ∃ b, hR σ a 0 = some b ∧ hT σ b = 152 ∧ hL σ b = cs.length ∧ ∀ i c, cs[i]? = some c → hI σ b i = nn c ∧ c < 128
def kTx (i : Nat) : List Nat := ((kStr[i]?.map (fun q => q.2.2)).getD "").toList.map (fun c => c.toNat)
/-- an Integer -/
def IntO (σ : AH) (x : Nat) (v : Int32) : Prop := (hT σ x = 20 ∨ hT σ x = 60) ∧ hI σ x 0 = v
def Kst (κ : Nat → Option Nat) (σ : AH) : Prop := (∃ c, κ 31 = some c ∧ hT σ c = 158 ∧ hL σ c = 256 ∧ ∀ i, i < 256 → ∃ y, hR σ c i = some y ∧ hT σ y = 60 ∧ hI σ y 0 = nn i - 128) ∧ ∀ i, i < kStr.length → ∃ a, κ i = some a ∧ StrK σ a (kTx i)
theorem StrK.fr {M : Nat → Prop} {c s : Nat} {σ σ' : AH} {a : Nat} {cs : List Nat} (hf : Fsh σ) (h : StrK σ a cs) (hF : HF M c s σ σ') : StrK σ' a cs := by
  obtain ⟨h1, h2, b, h3, h4, h5, h6⟩ := h
  have ha : hT σ a ≠ 0 := by rw [h1]; decide
  have hb : hT σ b ≠ 0 := by rw [h4]; decide
  have ka : KTg (hT σ a) := by rw [h1]; exact Or.inr (Or.inl rfl)
  have kb : KTg (hT σ b) := by rw [h4]; exact Or.inr (Or.inr (by omega))
  refine ⟨(hF.tag hf ha).1.trans h1, (hF.get hf ha (Or.inr ka) 1).1.trans h2, b, (hF.get hf ha (Or.inr ka) 0).2.2.trans h3, (hF.tag hf hb).1.trans h4, (hF.tag hf hb).2.trans h5, fun i c hc => ?_⟩
  rw [(hF.get hf hb (Or.inr kb) i).1]; exact h6 i c hc
theorem Kst.fr {κ : Nat → Option Nat} {M : Nat → Prop} {c s : Nat} {σ σ' : AH} (hf : Fsh σ) (h : Kst κ σ) (hF : HF M c s σ σ') : Kst κ σ' := by
  obtain ⟨⟨c0, g1, g2, g3, g4⟩, h2⟩ := h
  have hc : hT σ c0 ≠ 0 := by rw [g2]; decide
  have kc : KTg (hT σ c0) := by rw [g2]; exact Or.inr (Or.inr (by omega))
  refine ⟨⟨c0, g1, (hF.tag hf hc).1.trans g2, (hF.tag hf hc).2.trans g3, fun i hi => ?_⟩, fun i hi => ?_⟩
  · obtain ⟨y, y1, y2, y3⟩ := g4 i hi
    have hy : hT σ y ≠ 0 := by rw [y2]; decide
    have ky : KTg (hT σ y) := by rw [y2]; exact Or.inl rfl
    exact ⟨y, (hF.get hf hc (Or.inr kc) i).2.2.trans y1, (hF.tag hf hy).1.trans y2, (hF.get hf hy (Or.inr ky) 0).1.trans y3⟩
  · obtain ⟨a, a1, a2⟩ := h2 i hi
    exact ⟨a, a1, a2.fr hf hF⟩
theorem cq_valueOf {κ : Nat → Option Nat} {Q : Ret AH} {σ : AH} {m : Nat} (hk : Hok κ σ) (hK : Kst κ σ) (hm : m < 100000) (hc : 1 ≤ hC σ) (hs : 1 ≤ hS σ)
    (k : ∀ σ' x, Hok κ σ' → HF (fun _ => False) 1 1 σ σ' → IntO σ' x (nn m) → hT σ' x ∈ objTs ++ [60] → Q (.inl (some (.ref x))) σ') : pJ13_valueOf κ [.int (nn m)] σ Q := by
  obtain ⟨⟨c0, g1, g2, g3, g4⟩, -⟩ := hK
  obtain ⟨f1, f2, dk, f3, f4, f5⟩ := id hk
  have bm : m < 2147483648 := by omega
  have n1 : ¬ nn m < -128 := fun z => by
    rw [Int32.lt_iff_toInt_lt, nn_toInt bm] at z
    have : (-128 : Int32).toInt = -128 := rfl
    omega
  have n1' : (-128 : Int32) ≤ nn m := Int32.not_lt.1 n1
  by_cases c : m < 128
  · have n2 : ¬ 127 < nn m := fun z => by have := (nn_lt (a := 127) (by omega) bm).1 z; omega
    have n2' : nn m ≤ 127 := Int32.not_lt.1 n2
    obtain ⟨y, y1, y2, y3⟩ := g4 (m + 128) (by omega)
    have b2 : m + 128 < 2147483648 := by omega
    have b3 : m + 128 < 256 := by omega
    simp [pJ13_valueOf, bJ13_valueOf_23, bJ13_valueOf_0, o_ic, o_lc, o_null, o_il, o_ll, o_al, o_dup, o_pop, o_dup_x1, o_dup2, o_iadd, o_isub, o_imul, o_iand, o_ior, o_ixor, o_ishl, o_ishr, o_idiv, o_irem, o_ineg, o_ladd, o_lsub, o_lmul, o_land, o_lor, o_lxor, o_ldiv, o_lrem, o_lneg, o_lcmp, o_i2l, o_l2i, o_i2b, o_i2c, o_iushr, o_lshl, o_lshr, o_if_eq, o_if_ne, o_if_lt, o_if_ge, o_if_gt, o_if_le, o_icmp_eq, o_icmp_ne, o_icmp_lt, o_icmp_ge, o_icmp_gt, o_icmp_le, o_ifnull, o_ifnonnull, o_acmp_eq, o_acmp_ne, o_is, o_ls, o_as, o_iinc, o_kill, o_sw, o_ireturn, o_zreturn, o_nreturn, o_lreturn, o_areturn, o_return, o_athrow, o_call, entP, lg_sl, Value.category, st1, st2, List.set, List.getElem?_cons_zero, List.getElem?_cons_succ, List.foldl, popN, aft, o_gI, o_gR, o_pI, o_pN, o_pR, o_aI, o_aG, o_aR, o_len, o_aR8, o_sI, o_sB, o_sZ, o_sG, o_new, o_newA, o_cast, o_inst, o_cst, o_oi, o_sR, o_gIc, o_gSv, o_gSc, o_getc, o_dead, o_acopy, o_castA, o_castI, o_sR7, o_mna, o_mmax, o_mmin, o_mabs, hT_sI, hT_sR, hT_sG, hL_sI, hL_sR, hL_sG, hI_sI, hI_sR, hI_sG, hG_sI, hG_sR, hG_sG, hR_sI, hR_sR, hR_sG, hN_sI, hN_sR, hN_sG, hC_sI, hC_sR, hC_sG, hS_sI, hS_sR, hS_sG, hT_nw, hL_nw, hI_nw, hG_nw, hR_nw, hN_nw, hC_nw, hS_nw, hvc, hvi, dspI, vref, va_rf, n1, n1', n2, n2', g1, g2, g3, nn_addR, nn_eqL, nn_ltL, nn_leL, nn_Llt, nn_Lle, nn_lt, nn_le, nn_eq, nn_in, nn_clamp, nn_succ, nn_pos, nn_neg1, b2, b3, y1]
    refine k σ y hk (HF.rfl9.mono (fun _ _ z => z) (by omega) (by omega)) ⟨Or.inr y2, ?_⟩ (by rw [y2]; simp)
    rw [y3, show (128 : Int32) = nn 128 from rfl, nn_sub (by omega)]; congr 1
  · have n2 : 127 < nn m := (nn_lt (a := 127) (by omega) bm).2 (by omega)
    have n2' : ¬ nn m ≤ 127 := fun z => ab2 n2 z
    have hdk := f1.lt (a := dk) (by rw [f4]; decide)
    have fin : Q (.inl (some (.ref (hN σ)))) (hsI (hnw σ 20 0 1) (hN σ) 0 (nn m)) := by
      have t1 : hT (hnw σ 20 0 1) (hN σ) = 20 := by rw [hT_nw, if_pos rfl]
      refine k _ (hN σ) ⟨f1.nw.sI (by rw [t1]; decide), ⟨fun b e hb hb1 => ?_, fun b c e hb hc hb1 hc1 he => ?_⟩, dk, f3, ?_, ?_⟩ (((HF.rfl9.nw (t := 20) (n := 0) (m := 1)).sI f1 (Or.inr (Nat.le_refl _)) (by rw [t1]; unfold KTg; omega)).mono (fun _ _ z => z) (by omega) (by omega)) ⟨Or.inl t1, by rw [hI_sI, if_pos ⟨rfl, rfl⟩]⟩ (by rw [hT_sI, t1]; simp [objTs])
      · rw [hT_sI, hT_nw] at hb
        rw [hR_sI, hR_nw] at hb1
        rw [hN_sI, hN_nw]
        split at hb
        · cases hb
        · have := f2.1 b e hb hb1; omega
      · rw [hT_sI, hT_nw] at hb hc he
        rw [hR_sI, hR_nw] at hb1 hc1
        split at hb
        · cases hb
        · split at hc
          · cases hc
          · have := f2.1 b e hb hb1
            rw [if_neg (by omega)] at he
            exact f2.2 b c e hb hc hb1 hc1 he
      · rw [hT_sI, hT_nw, if_neg (by omega)]; exact f4
      · rw [hL_sI, hL_nw, if_neg (by omega)]; exact f5
    simp [pJ13_valueOf, bJ13_valueOf_23, bJ13_valueOf_0, pJ13_init, bJ13_init_0, pJ12_init, bJ12_init_0, o_ic, o_lc, o_null, o_il, o_ll, o_al, o_dup, o_pop, o_dup_x1, o_dup2, o_iadd, o_isub, o_imul, o_iand, o_ior, o_ixor, o_ishl, o_ishr, o_idiv, o_irem, o_ineg, o_ladd, o_lsub, o_lmul, o_land, o_lor, o_lxor, o_ldiv, o_lrem, o_lneg, o_lcmp, o_i2l, o_l2i, o_i2b, o_i2c, o_iushr, o_lshl, o_lshr, o_if_eq, o_if_ne, o_if_lt, o_if_ge, o_if_gt, o_if_le, o_icmp_eq, o_icmp_ne, o_icmp_lt, o_icmp_ge, o_icmp_gt, o_icmp_le, o_ifnull, o_ifnonnull, o_acmp_eq, o_acmp_ne, o_is, o_ls, o_as, o_iinc, o_kill, o_sw, o_ireturn, o_zreturn, o_nreturn, o_lreturn, o_areturn, o_return, o_athrow, o_call, entP, lg_sl, Value.category, st1, st2, List.set, List.getElem?_cons_zero, List.getElem?_cons_succ, List.foldl, popN, aft, o_gI, o_gR, o_pI, o_pN, o_pR, o_aI, o_aG, o_aR, o_len, o_aR8, o_sI, o_sB, o_sZ, o_sG, o_new, o_newA, o_cast, o_inst, o_cst, o_oi, o_sR, o_gIc, o_gSv, o_gSc, o_getc, o_dead, o_acopy, o_castA, o_castI, o_sR7, o_mna, o_mmax, o_mmin, o_mabs, hT_sI, hT_sR, hT_sG, hL_sI, hL_sR, hL_sG, hI_sI, hI_sR, hI_sG, hG_sI, hG_sR, hG_sG, hR_sI, hR_sR, hR_sG, hN_sI, hN_sR, hN_sG, hC_sI, hC_sR, hC_sG, hS_sI, hS_sR, hS_sG, hT_nw, hL_nw, hI_nw, hG_nw, hR_nw, hN_nw, hC_nw, hS_nw, hvc, hvi, dspI, vref, va_rf, n1, n1', n2, n2', hc, hs]
    exact fin
theorem cq_intValue {κ : Nat → Option Nat} {Q : Ret AH} {σ : AH} {x : Nat} {v : Int32} (h : IntO σ x v) (k : Q (.inl (some (.int v))) σ) : pJ13_intValue κ [.ref x] σ Q := by
  obtain ⟨h1, h2⟩ := h
  simp [pJ13_intValue, bJ13_intValue_0, o_ic, o_lc, o_null, o_il, o_ll, o_al, o_dup, o_pop, o_dup_x1, o_dup2, o_iadd, o_isub, o_imul, o_iand, o_ior, o_ixor, o_ishl, o_ishr, o_idiv, o_irem, o_ineg, o_ladd, o_lsub, o_lmul, o_land, o_lor, o_lxor, o_ldiv, o_lrem, o_lneg, o_lcmp, o_i2l, o_l2i, o_i2b, o_i2c, o_iushr, o_lshl, o_lshr, o_if_eq, o_if_ne, o_if_lt, o_if_ge, o_if_gt, o_if_le, o_icmp_eq, o_icmp_ne, o_icmp_lt, o_icmp_ge, o_icmp_gt, o_icmp_le, o_ifnull, o_ifnonnull, o_acmp_eq, o_acmp_ne, o_is, o_ls, o_as, o_iinc, o_kill, o_sw, o_ireturn, o_zreturn, o_nreturn, o_lreturn, o_areturn, o_return, o_athrow, o_call, entP, lg_sl, Value.category, st1, st2, List.set, List.getElem?_cons_zero, List.getElem?_cons_succ, List.foldl, popN, aft, o_gI, o_gR, o_pI, o_pN, o_pR, o_aI, o_aG, o_aR, o_len, o_aR8, o_sI, o_sB, o_sZ, o_sG, o_new, o_newA, o_cast, o_inst, o_cst, o_oi, o_sR, o_gIc, o_gSv, o_gSc, o_getc, o_dead, o_acopy, o_castA, o_castI, o_sR7, o_mna, o_mmax, o_mmin, o_mabs, hT_sI, hT_sR, hT_sG, hL_sI, hL_sR, hL_sG, hI_sI, hI_sR, hI_sG, hG_sI, hG_sR, hG_sG, hR_sI, hR_sR, hR_sG, hN_sI, hN_sR, hN_sG, hC_sI, hC_sR, hC_sG, hS_sI, hS_sR, hS_sG, hT_nw, hL_nw, hI_nw, hG_nw, hR_nw, hN_nw, hC_nw, hS_nw, hvc, hvi, dspI, vref, va_rf, h1, h2]
  exact k
