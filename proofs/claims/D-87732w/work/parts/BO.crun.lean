/-! THE COMPONENT runs: its state, worth, place, work -/
set_option maxRecDepth 100000
def InM (a : Nat) : Nat → Prop := fun b => a ≤ b ∧ b < a + 8
/-- a run's object, its rows and lists -/
def RSh (σ : AH) (a r : Nat) : Prop := hT σ a = 18 ∧ (hR σ a 0 = some r ∧ hR σ a 2 = some (a + 1) ∧ hR σ a 3 = some (a + 2) ∧ hR σ a 4 = some (a + 3) ∧ hR σ a 5 = some (a + 4) ∧ hR σ a 6 = some (a + 5)) ∧ (hT σ (a + 1) = 100 ∧ hL σ (a + 1) = 48) ∧ (hT σ (a + 2) = 100 ∧ hL σ (a + 2) = 32) ∧ (hT σ (a + 3) = 100 ∧ hL σ (a + 3) = 32) ∧ (hT σ (a + 4) = 100 ∧ hL σ (a + 4) = 100) ∧ (hT σ (a + 5) = 106 ∧ hL σ (a + 5) = 2) ∧ ∀ b, b < 2 → hR σ (a + 5) b = some (a + 6 + b) ∧ hT σ (a + 6 + b) = 100 ∧ hL σ (a + 6 + b) = 8
/-- what they hold -/
def RIn (f : Nat → Nat → Int32) (a pl : Nat) (st : RS) : Prop := f a 1 = nn pl ∧ (∀ j, j < 48 → f (a + 1) j = st.1 j) ∧ (∀ j, j < 32 → f (a + 2) j = st.2.2.1 j) ∧ (∀ j, j < 32 → f (a + 3) j = nn (st.2.2.2.1 j)) ∧ (∀ j x, j < 100 → st.2.2.2.2.2.1[j]? = some x → f (a + 4) j = x) ∧ (∀ b j, b < 2 → j < 8 → f (a + 6 + b) j = st.2.1 (8 * b + j)) ∧ f a 8 = nn st.2.2.2.2.2.2 ∧ f a 9 = nn st.2.2.2.2.2.1.length ∧ f a 10 = -1
def RG (σ : AH) (a r pl : Nat) (st : RS) : Prop := RSh σ a r ∧ RIn (hI σ) a pl st
section RU
variable {κ : Nat → Option Nat} {Q : Ret AH} {σ σ' : AH} {a r pl c s h9 : Nat} {st : RS} {R : Rt} {wss : List (Nat × List Nat)} {A NX BF : Nat → Nat} {B : Nat → List Nat} {ss : List Nat}
theorem RG.now (h : RG σ a r pl st) {q : Nat} {v : Int32} (hq : q < 48) : RG (hsI σ (a + 1) q v) a r pl (rNow st (nn q) v) := by
  refine ⟨h.1, ?_⟩
  obtain ⟨-, h1, h2, h3, h4, h5, h6, h7, h8, h9⟩ := h
  unfold RIn rNow upd9
  simp only [hI_sI]
  rw [nn_clamp (by omega)]
  refine ⟨by rw [if_neg (by omega)]; exact h1, fun j hj => ?_, fun j hj => by rw [if_neg (by omega)]; exact h3 j hj, fun j hj => by rw [if_neg (by omega)]; exact h4 j hj, fun j x hj hx => by rw [if_neg (by omega)]; exact h5 j x hj hx, fun b j hb hj => by rw [if_neg (by omega)]; exact h6 b j hb hj, by rw [if_neg (by omega)]; exact h7, by rw [if_neg (by omega)]; exact h8, by rw [if_neg (by omega)]; exact h9⟩
  by_cases e : j = q
  · rw [if_pos ⟨trivial, e⟩, if_pos e]
  · rw [if_neg (fun z => e z.2), if_neg e]; exact h2 j hj
theorem RG.keep (h : RG σ a r pl st) {q : Nat} {v : Int32} : RG (hsI σ (a + 2) q v) a r pl (rKeep st q v) := by
  refine ⟨h.1, ?_⟩
  obtain ⟨-, h1, h2, h3, h4, h5, h6, h7, h8, h9⟩ := h
  unfold RIn rKeep upd9
  simp only [hI_sI]
  refine ⟨by rw [if_neg (by omega)]; exact h1, fun j hj => by rw [if_neg (by omega)]; exact h2 j hj, fun j hj => ?_, fun j hj => by rw [if_neg (by omega)]; exact h4 j hj, fun j x hj hx => by rw [if_neg (by omega)]; exact h5 j x hj hx, fun b j hb hj => by rw [if_neg (by omega)]; exact h6 b j hb hj, by rw [if_neg (by omega)]; exact h7, by rw [if_neg (by omega)]; exact h8, by rw [if_neg (by omega)]; exact h9⟩
  by_cases e : j = q
  · rw [if_pos ⟨trivial, e⟩, if_pos e]
  · rw [if_neg (fun z => e z.2), if_neg e]; exact h3 j hj
theorem RG.bmp (h : RG σ a r pl st) {q : Nat} : RG (hsI σ (a + 3) q (nn (st.2.2.2.1 q + 1))) a r pl (bump st q) := by
  refine ⟨h.1, ?_⟩
  obtain ⟨-, h1, h2, h3, h4, h5, h6, h7, h8, h9⟩ := h
  unfold RIn bump updN
  simp only [hI_sI]
  refine ⟨by rw [if_neg (by omega)]; exact h1, fun j hj => by rw [if_neg (by omega)]; exact h2 j hj, fun j hj => by rw [if_neg (by omega)]; exact h3 j hj, fun j hj => ?_, fun j x hj hx => by rw [if_neg (by omega)]; exact h5 j x hj hx, fun b j hb hj => by rw [if_neg (by omega)]; exact h6 b j hb hj, by rw [if_neg (by omega)]; exact h7, by rw [if_neg (by omega)]; exact h8, by rw [if_neg (by omega)]; exact h9⟩
  by_cases e : j = q
  · rw [if_pos ⟨trivial, e⟩, if_pos e]
  · rw [if_neg (fun z => e z.2), if_neg e]; exact h4 j hj
theorem RG.row (h : RG σ a r pl st) {b i : Nat} {v : Int32} (hb : b < 2) (hi' : i < 8) : RG (hsI σ (a + 6 + b) i v) a r pl (rRow st (nn (8 * b + i)) v) := by
  refine ⟨h.1, ?_⟩
  obtain ⟨-, h1, h2, h3, h4, h5, h6, h7, h8, h9⟩ := h
  unfold RIn rRow upd9
  simp only [hI_sI]
  rw [nn_clamp (by omega)]
  refine ⟨by rw [if_neg (by omega)]; exact h1, fun j hj => by rw [if_neg (by omega)]; exact h2 j hj, fun j hj => by rw [if_neg (by omega)]; exact h3 j hj, fun j hj => by rw [if_neg (by omega)]; exact h4 j hj, fun j x hj hx => by rw [if_neg (by omega)]; exact h5 j x hj hx, fun b' j hb' hj => ?_, by rw [if_neg (by omega)]; exact h7, by rw [if_neg (by omega)]; exact h8, by rw [if_neg (by omega)]; exact h9⟩
  by_cases e : b' = b ∧ j = i
  · rw [if_pos (by omega), if_pos (by omega)]
  · rw [if_neg (by omega), if_neg (by omega)]; exact h6 b' j hb' hj
theorem RG.came (h : RG σ a r pl st) : RG (hsI σ a 8 (nn (st.2.2.2.2.2.2 + 1))) a r pl (rCame st) := by
  refine ⟨h.1, ?_⟩
  obtain ⟨-, h1, h2, h3, h4, h5, h6, h7, h8, h9⟩ := h
  unfold RIn rCame
  simp only [hI_sI]
  exact ⟨by rw [if_neg (by omega)]; exact h1, fun j hj => by rw [if_neg (by omega)]; exact h2 j hj, fun j hj => by rw [if_neg (by omega)]; exact h3 j hj, fun j hj => by rw [if_neg (by omega)]; exact h4 j hj, fun j x hj hx => by rw [if_neg (by omega)]; exact h5 j x hj hx, fun b j hb hj => by rw [if_neg (by omega)]; exact h6 b j hb hj, by rw [if_pos ⟨trivial, trivial⟩], by rw [if_neg (by omega)]; exact h8, by rw [if_neg (by omega)]; exact h9⟩
theorem RG.tell1 (h : RG σ a r pl st) {v : Int32} : RG (hsI (hsI σ (a + 4) st.2.2.2.2.2.1.length v) a 9 (nn (st.2.2.2.2.2.1.length + 1))) a r pl (rTell st v) := by
  refine ⟨h.1, ?_⟩
  obtain ⟨-, h1, h2, h3, h4, h5, h6, h7, h8, h9⟩ := h
  unfold RIn rTell
  simp only [hI_sI]
  refine ⟨by rw [if_neg (by omega), if_neg (by omega)]; exact h1, fun j hj => by rw [if_neg (by omega), if_neg (by omega)]; exact h2 j hj, fun j hj => by rw [if_neg (by omega), if_neg (by omega)]; exact h3 j hj, fun j hj => by rw [if_neg (by omega), if_neg (by omega)]; exact h4 j hj, fun j x hj hx => ?_, fun b j hb hj => by rw [if_neg (by omega), if_neg (by omega)]; exact h6 b j hb hj, by rw [if_neg (by omega), if_neg (by omega)]; exact h7, by rw [if_pos ⟨trivial, trivial⟩]; simp, by rw [if_neg (by omega), if_neg (by omega)]; exact h9⟩
  rw [if_neg (by omega)]
  by_cases e : j = st.2.2.2.2.2.1.length
  · subst e; rw [if_pos ⟨trivial, rfl⟩]; simp at hx; exact hx
  · rw [if_neg (fun z => e z.2)]
    have := (List.getElem?_eq_some_iff.1 hx).1
    simp at this
    rw [List.getElem?_append_left (by omega)] at hx
    exact h5 j x hj hx
theorem RG.tell2 (h : RG σ a r pl st) {v : Int32} (h100 : 100 ≤ st.2.2.2.2.2.1.length) : RG (hsI σ a 9 (nn (st.2.2.2.2.2.1.length + 1))) a r pl (rTell st v) := by
  refine ⟨h.1, ?_⟩
  obtain ⟨-, h1, h2, h3, h4, h5, h6, h7, h8, h9⟩ := h
  unfold RIn rTell
  simp only [hI_sI]
  refine ⟨by rw [if_neg (by omega)]; exact h1, fun j hj => by rw [if_neg (by omega)]; exact h2 j hj, fun j hj => by rw [if_neg (by omega)]; exact h3 j hj, fun j hj => by rw [if_neg (by omega)]; exact h4 j hj, fun j x hj hx => ?_, fun b j hb hj => by rw [if_neg (by omega)]; exact h6 b j hb hj, by rw [if_neg (by omega)]; exact h7, by rw [if_pos ⟨trivial, trivial⟩]; simp, by rw [if_neg (by omega)]; exact h9⟩
  rw [if_neg (by omega)]
  rw [List.getElem?_append_left (by omega)] at hx
  exact h5 j x hj hx
theorem RG.hl {M MR : Nat → Prop} (h : RG σ a r pl st) (hk : Hok κ σ) (F : HL κ M MR c s σ σ') (hm : ∀ b, a ≤ b → b < hN σ → ¬ M b ∧ ¬ MR b) : RG σ' a r pl st := by
  obtain ⟨⟨t, ⟨r0, r2, r3, r4, r5, r6⟩, ⟨n1, n2⟩, ⟨k1, k2⟩, ⟨w1, w2⟩, ⟨d1, d2⟩, ⟨q1, q2⟩, q3⟩, i1, i2, i3, i4, i5, i6, i7, i8, i9⟩ := h
  have lt : ∀ b t, hT σ b = t → t ≠ 0 → b < hN σ := fun b t hb ht => hk.1.lt (by rw [hb]; exact ht)
  obtain ⟨m1, m2⟩ := hm a (Nat.le_refl _) (lt a 18 t (by decide))
  have gr := fun j => F.ref hk t (by decide) m2 j
  have gi := fun j => F.int hk t (by decide) m1 j
  have fi : ∀ b, a ≤ b → hT σ b = 100 → ∀ j, hI σ' b j = hI σ b j := fun b hb ht j => F.int hk ht (by decide) (hm b hb (lt b 100 ht (by decide))).1 j
  have f5r := fun j => F.ref hk q1 (by decide) (hm (a + 5) (by omega) (lt _ 106 q1 (by decide))).2 j
  have tg : ∀ b, hT σ b = 100 → hT σ' b = 100 := fun b hb => F.tg hk hb (by decide)
  have ln : ∀ b, hT σ b = 100 → hL σ' b = hL σ b := fun b hb => F.len hk (by rw [hb]; decide)
  refine ⟨⟨F.tg hk t (by decide), ⟨(gr 0).trans r0, (gr 2).trans r2, (gr 3).trans r3, (gr 4).trans r4, (gr 5).trans r5, (gr 6).trans r6⟩, ⟨tg _ n1, (ln _ n1).trans n2⟩, ⟨tg _ k1, (ln _ k1).trans k2⟩, ⟨tg _ w1, (ln _ w1).trans w2⟩, ⟨tg _ d1, (ln _ d1).trans d2⟩, ⟨F.tg hk q1 (by decide), (F.len hk (by rw [q1]; decide)).trans q2⟩, fun b hb => ?_⟩, (gi 1).trans i1, fun j hj => (fi _ (by omega) n1 j).trans (i2 j hj), fun j hj => (fi _ (by omega) k1 j).trans (i3 j hj), fun j hj => (fi _ (by omega) w1 j).trans (i4 j hj), fun j x hj hx => (fi _ (by omega) d1 j).trans (i5 j x hj hx), fun b j hb hj => (fi _ (by omega) (q3 b hb).2.1 j).trans (i6 b j hb hj), (gi 8).trans i7, (gi 9).trans i8, (gi 10).trans i9⟩
  obtain ⟨x1, x2, x3⟩ := q3 b hb
  exact ⟨(f5r b).trans x1, tg _ x2, (ln _ x2).trans x3⟩
theorem hv_worth {v lo hi : Nat} {o : Opd} (h : RG σ a r pl st) (ho : OpdI σ v o lo hi) (k : Q (.inl (some (.int (wth st.1 o)))) σ) : hvc [(18, pX21_worth κ)] [.ref a, .ref v] σ Q := by
  obtain ⟨⟨t, ⟨r0, r2, r3, r4, r5, r6⟩, ⟨n1, n2⟩, -⟩, i1, i2, -⟩ := h
  obtain ⟨-, -, g1, g2⟩ := ho
  unfold wth at k
  simp [hvc, dspI, t]
  rcases g2 with ⟨n, hn, rfl, e0, e1⟩ | ⟨e, e0, e1⟩
  · have b : n < 2147483648 := by omega
    have : ¬ nn n < 0 := by rw [Int32.lt_iff_toInt_lt, nn_toInt b]; simp
    rw [if_neg this, nn_clamp b] at k
    simp [pX21_worth, bX21_worth_23, bX21_worth_19, bX21_worth_0, o_ic, o_lc, o_null, o_il, o_ll, o_al, o_dup, o_pop, o_dup_x1, o_dup2, o_iadd, o_isub, o_imul, o_iand, o_ior, o_ixor, o_ishl, o_ishr, o_idiv, o_irem, o_ineg, o_ladd, o_lsub, o_lmul, o_land, o_lor, o_lxor, o_ldiv, o_lrem, o_lneg, o_lcmp, o_i2l, o_l2i, o_i2b, o_i2c, o_iushr, o_lshl, o_lshr, o_if_eq, o_if_ne, o_if_lt, o_if_ge, o_if_gt, o_if_le, o_icmp_eq, o_icmp_ne, o_icmp_lt, o_icmp_ge, o_icmp_gt, o_icmp_le, o_ifnull, o_ifnonnull, o_acmp_eq, o_acmp_ne, o_is, o_ls, o_as, o_iinc, o_kill, o_sw, o_ireturn, o_zreturn, o_nreturn, o_lreturn, o_areturn, o_return, o_athrow, o_call, entP, lg_sl, Value.category, st1, st2, List.set, List.getElem?_cons_zero, List.getElem?_cons_succ, List.foldl, popN, aft, o_gI, o_gR, o_pI, o_pN, o_pR, o_aI, o_aG, o_aR, o_len, o_aR8, o_sI, o_sB, o_sZ, o_sG, o_new, o_newA, o_cast, o_inst, o_cst, o_oi, o_sR, o_gIc, o_gSv, o_gSc, o_getc, o_dead, o_acopy, o_castA, o_castI, o_sR7, o_mna, o_mmax, o_mmin, o_mabs, hT_sI, hT_sR, hT_sG, hL_sI, hL_sR, hL_sG, hI_sI, hI_sR, hI_sG, hG_sI, hG_sR, hG_sG, hR_sI, hR_sR, hR_sG, hN_sI, hN_sR, hN_sG, hC_sI, hC_sR, hC_sG, hS_sI, hS_sR, hS_sG, hT_nw, hL_nw, hI_nw, hG_nw, hR_nw, hN_nw, hC_nw, hS_nw, hvc, hvi, dspI, vref, va_rf, g1, e0, e1, t, r2, va_rf, n1, n2, nn_in b, nn_clamp b, hn, i2 n hn]
    exact k
  · rw [if_pos (by rw [e]; decide)] at k
    simp [pX21_worth, bX21_worth_23, bX21_worth_19, bX21_worth_0, o_ic, o_lc, o_null, o_il, o_ll, o_al, o_dup, o_pop, o_dup_x1, o_dup2, o_iadd, o_isub, o_imul, o_iand, o_ior, o_ixor, o_ishl, o_ishr, o_idiv, o_irem, o_ineg, o_ladd, o_lsub, o_lmul, o_land, o_lor, o_lxor, o_ldiv, o_lrem, o_lneg, o_lcmp, o_i2l, o_l2i, o_i2b, o_i2c, o_iushr, o_lshl, o_lshr, o_if_eq, o_if_ne, o_if_lt, o_if_ge, o_if_gt, o_if_le, o_icmp_eq, o_icmp_ne, o_icmp_lt, o_icmp_ge, o_icmp_gt, o_icmp_le, o_ifnull, o_ifnonnull, o_acmp_eq, o_acmp_ne, o_is, o_ls, o_as, o_iinc, o_kill, o_sw, o_ireturn, o_zreturn, o_nreturn, o_lreturn, o_areturn, o_return, o_athrow, o_call, entP, lg_sl, Value.category, st1, st2, List.set, List.getElem?_cons_zero, List.getElem?_cons_succ, List.foldl, popN, aft, o_gI, o_gR, o_pI, o_pN, o_pR, o_aI, o_aG, o_aR, o_len, o_aR8, o_sI, o_sB, o_sZ, o_sG, o_new, o_newA, o_cast, o_inst, o_cst, o_oi, o_sR, o_gIc, o_gSv, o_gSc, o_getc, o_dead, o_acopy, o_castA, o_castI, o_sR7, o_mna, o_mmax, o_mmin, o_mabs, hT_sI, hT_sR, hT_sG, hL_sI, hL_sR, hL_sG, hI_sI, hI_sR, hI_sG, hG_sI, hG_sR, hG_sG, hR_sI, hR_sR, hR_sG, hN_sI, hN_sR, hN_sG, hC_sI, hC_sR, hC_sG, hS_sI, hS_sR, hS_sG, hT_nw, hL_nw, hI_nw, hG_nw, hR_nw, hN_nw, hC_nw, hS_nw, hvc, hvi, dspI, vref, va_rf, g1, e0, e1]
    exact k
theorem ct_refuse (hk : Hok κ σ) (ha : hT σ a = 6) (k : ∀ σ', OwC κ a σ σ' → Q (.inl none) σ') : pX22_init κ [.ref a] σ Q := by
  simp [pX22_init, bX22_init_0, pJ11_init, bJ11_init_0, pJ10_init, bJ10_init_0, o_ic, o_lc, o_null, o_il, o_ll, o_al, o_dup, o_pop, o_dup_x1, o_dup2, o_iadd, o_isub, o_imul, o_iand, o_ior, o_ixor, o_ishl, o_ishr, o_idiv, o_irem, o_ineg, o_ladd, o_lsub, o_lmul, o_land, o_lor, o_lxor, o_ldiv, o_lrem, o_lneg, o_lcmp, o_i2l, o_l2i, o_i2b, o_i2c, o_iushr, o_lshl, o_lshr, o_if_eq, o_if_ne, o_if_lt, o_if_ge, o_if_gt, o_if_le, o_icmp_eq, o_icmp_ne, o_icmp_lt, o_icmp_ge, o_icmp_gt, o_icmp_le, o_ifnull, o_ifnonnull, o_acmp_eq, o_acmp_ne, o_is, o_ls, o_as, o_iinc, o_kill, o_sw, o_ireturn, o_zreturn, o_nreturn, o_lreturn, o_areturn, o_return, o_athrow, o_call, entP, lg_sl, Value.category, st1, st2, List.set, List.getElem?_cons_zero, List.getElem?_cons_succ, List.foldl, popN, aft, o_gI, o_gR, o_pI, o_pN, o_pR, o_aI, o_aG, o_aR, o_len, o_aR8, o_sI, o_sB, o_sZ, o_sG, o_new, o_newA, o_cast, o_inst, o_cst, o_oi, o_sR, o_gIc, o_gSv, o_gSc, o_getc, o_dead, o_acopy, o_castA, o_castI, o_sR7, o_mna, o_mmax, o_mmin, o_mabs, hT_sI, hT_sR, hT_sG, hL_sI, hL_sR, hL_sG, hI_sI, hI_sR, hI_sG, hG_sI, hG_sR, hG_sG, hR_sI, hR_sR, hR_sG, hN_sI, hN_sR, hN_sG, hC_sI, hC_sR, hC_sG, hS_sI, hS_sR, hS_sG, hT_nw, hL_nw, hI_nw, hG_nw, hR_nw, hN_nw, hC_nw, hS_nw, hvc, hvi, dspI, vref, va_rf, hvi]
  refine cq_excInit hk (Or.inr ha) (fun σ1 o1 => ?_)
  simp [o_ic, o_lc, o_null, o_il, o_ll, o_al, o_dup, o_pop, o_dup_x1, o_dup2, o_iadd, o_isub, o_imul, o_iand, o_ior, o_ixor, o_ishl, o_ishr, o_idiv, o_irem, o_ineg, o_ladd, o_lsub, o_lmul, o_land, o_lor, o_lxor, o_ldiv, o_lrem, o_lneg, o_lcmp, o_i2l, o_l2i, o_i2b, o_i2c, o_iushr, o_lshl, o_lshr, o_if_eq, o_if_ne, o_if_lt, o_if_ge, o_if_gt, o_if_le, o_icmp_eq, o_icmp_ne, o_icmp_lt, o_icmp_ge, o_icmp_gt, o_icmp_le, o_ifnull, o_ifnonnull, o_acmp_eq, o_acmp_ne, o_is, o_ls, o_as, o_iinc, o_kill, o_sw, o_ireturn, o_zreturn, o_nreturn, o_lreturn, o_areturn, o_return, o_athrow, o_call, entP, lg_sl, Value.category, st1, st2, List.set, List.getElem?_cons_zero, List.getElem?_cons_succ, List.foldl, popN, aft, o_gI, o_gR, o_pI, o_pN, o_pR, o_aI, o_aG, o_aR, o_len, o_aR8, o_sI, o_sB, o_sZ, o_sG, o_new, o_newA, o_cast, o_inst, o_cst, o_oi, o_sR, o_gIc, o_gSv, o_gSc, o_getc, o_dead, o_acopy, o_castA, o_castI, o_sR7, o_mna, o_mmax, o_mmin, o_mabs, hT_sI, hT_sR, hT_sG, hL_sI, hL_sR, hL_sG, hI_sI, hI_sR, hI_sG, hG_sI, hG_sR, hG_sG, hR_sI, hR_sR, hR_sG, hN_sI, hN_sR, hN_sG, hC_sI, hC_sR, hC_sG, hS_sI, hS_sR, hS_sG, hT_nw, hL_nw, hI_nw, hG_nw, hR_nw, hN_nw, hC_nw, hS_nw, hvc, hvi, dspI, vref, va_rf]
  exact k σ1 o1
theorem ct_place {v : Int32} (hk : Hok κ σ) (c1 : 1 ≤ hC σ) (c2 : 6 ≤ hS σ) (k1 : ∀ i, i < 8 → v = nn i → Q (.inl (some (.int v))) σ) (k0 : (v < 0 ∨ 7 < v) → ∀ σ' x, HL κ NoM NoM 1 6 σ σ' → hT σ' x = 6 → Q (.inr x) σ') : pX21_place κ [.ref a, .int v] σ Q := by
  simp [pX21_place, bX21_place_0, o_ic, o_lc, o_null, o_il, o_ll, o_al, o_dup, o_pop, o_dup_x1, o_dup2, o_iadd, o_isub, o_imul, o_iand, o_ior, o_ixor, o_ishl, o_ishr, o_idiv, o_irem, o_ineg, o_ladd, o_lsub, o_lmul, o_land, o_lor, o_lxor, o_ldiv, o_lrem, o_lneg, o_lcmp, o_i2l, o_l2i, o_i2b, o_i2c, o_iushr, o_lshl, o_lshr, o_if_eq, o_if_ne, o_if_lt, o_if_ge, o_if_gt, o_if_le, o_icmp_eq, o_icmp_ne, o_icmp_lt, o_icmp_ge, o_icmp_gt, o_icmp_le, o_ifnull, o_ifnonnull, o_acmp_eq, o_acmp_ne, o_is, o_ls, o_as, o_iinc, o_kill, o_sw, o_ireturn, o_zreturn, o_nreturn, o_lreturn, o_areturn, o_return, o_athrow, o_call, entP, lg_sl, Value.category, st1, st2, List.set, List.getElem?_cons_zero, List.getElem?_cons_succ, List.foldl, popN, aft]
  refine ct_in0 (n := 8) (by omega) (by decide) (fun q hq => ?_) (fun hq => ?_)
  · obtain ⟨e1, e2, e3⟩ := ix_some hq
    simp [o_ic, o_lc, o_null, o_il, o_ll, o_al, o_dup, o_pop, o_dup_x1, o_dup2, o_iadd, o_isub, o_imul, o_iand, o_ior, o_ixor, o_ishl, o_ishr, o_idiv, o_irem, o_ineg, o_ladd, o_lsub, o_lmul, o_land, o_lor, o_lxor, o_ldiv, o_lrem, o_lneg, o_lcmp, o_i2l, o_l2i, o_i2b, o_i2c, o_iushr, o_lshl, o_lshr, o_if_eq, o_if_ne, o_if_lt, o_if_ge, o_if_gt, o_if_le, o_icmp_eq, o_icmp_ne, o_icmp_lt, o_icmp_ge, o_icmp_gt, o_icmp_le, o_ifnull, o_ifnonnull, o_acmp_eq, o_acmp_ne, o_is, o_ls, o_as, o_iinc, o_kill, o_sw, o_ireturn, o_zreturn, o_nreturn, o_lreturn, o_areturn, o_return, o_athrow, o_call, entP, lg_sl, Value.category, st1, st2, List.set, List.getElem?_cons_zero, List.getElem?_cons_succ, List.foldl, popN, aft, bX21_place_18]
    exact k1 q e2 e1
  · simp [o_ic, o_lc, o_null, o_il, o_ll, o_al, o_dup, o_pop, o_dup_x1, o_dup2, o_iadd, o_isub, o_imul, o_iand, o_ior, o_ixor, o_ishl, o_ishr, o_idiv, o_irem, o_ineg, o_ladd, o_lsub, o_lmul, o_land, o_lor, o_lxor, o_ldiv, o_lrem, o_lneg, o_lcmp, o_i2l, o_l2i, o_i2b, o_i2c, o_iushr, o_lshl, o_lshr, o_if_eq, o_if_ne, o_if_lt, o_if_ge, o_if_gt, o_if_le, o_icmp_eq, o_icmp_ne, o_icmp_lt, o_icmp_ge, o_icmp_gt, o_icmp_le, o_ifnull, o_ifnonnull, o_acmp_eq, o_acmp_ne, o_is, o_ls, o_as, o_iinc, o_kill, o_sw, o_ireturn, o_zreturn, o_nreturn, o_lreturn, o_areturn, o_return, o_athrow, o_call, entP, lg_sl, Value.category, st1, st2, List.set, List.getElem?_cons_zero, List.getElem?_cons_succ, List.foldl, popN, aft, o_gI, o_gR, o_pI, o_pN, o_pR, o_aI, o_aG, o_aR, o_len, o_aR8, o_sI, o_sB, o_sZ, o_sG, o_new, o_newA, o_cast, o_inst, o_cst, o_oi, o_sR, o_gIc, o_gSv, o_gSc, o_getc, o_dead, o_acopy, o_castA, o_castI, o_sR7, o_mna, o_mmax, o_mmin, o_mabs, c1, c2, hvi]
    refine ct_refuse (hk.nw (by omega)) (by rw [hT_nw, if_pos rfl]) (fun σ' o1 => ?_)
    simp [o_ic, o_lc, o_null, o_il, o_ll, o_al, o_dup, o_pop, o_dup_x1, o_dup2, o_iadd, o_isub, o_imul, o_iand, o_ior, o_ixor, o_ishl, o_ishr, o_idiv, o_irem, o_ineg, o_ladd, o_lsub, o_lmul, o_land, o_lor, o_lxor, o_ldiv, o_lrem, o_lneg, o_lcmp, o_i2l, o_l2i, o_i2b, o_i2c, o_iushr, o_lshl, o_lshr, o_if_eq, o_if_ne, o_if_lt, o_if_ge, o_if_gt, o_if_le, o_icmp_eq, o_icmp_ne, o_icmp_lt, o_icmp_ge, o_icmp_gt, o_icmp_le, o_ifnull, o_ifnonnull, o_acmp_eq, o_acmp_ne, o_is, o_ls, o_as, o_iinc, o_kill, o_sw, o_ireturn, o_zreturn, o_nreturn, o_lreturn, o_areturn, o_return, o_athrow, o_call, entP, lg_sl, Value.category, st1, st2, List.set, List.getElem?_cons_zero, List.getElem?_cons_succ, List.foldl, popN, aft, o_gI, o_gR, o_pI, o_pN, o_pR, o_aI, o_aG, o_aR, o_len, o_aR8, o_sI, o_sB, o_sZ, o_sG, o_new, o_newA, o_cast, o_inst, o_cst, o_oi, o_sR, o_gIc, o_gSv, o_gSc, o_getc, o_dead, o_acopy, o_castA, o_castI, o_sR7, o_mna, o_mmax, o_mmin, o_mabs]
    refine k0 ?_ σ' (hN σ) (HL.ofNo (OwC.new hk.1 o1) hk o1.1) (by rw [o1.2.2.1, hT_nw, if_pos rfl])
    rcases ix_none hq (by omega) with z | z
    · exact Or.inl z
    · refine Or.inr ?_
      rw [Int32.le_iff_toInt_le, nn_toInt (by omega)] at z
      rw [Int32.lt_iff_toInt_lt]
      have e3 : (7 : Int32).toInt = 7 := rfl
      omega
end RU
