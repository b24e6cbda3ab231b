/-! THE COMPONENT: parse -/
set_option maxRecDepth 100000
theorem prs_nil {R : Rt} (h : prs (tpF []) ([] : List Nat).length = .ok R) : False := by
  unfold prs at h
  cases e : rdR (tpF []) ([] : List Nat).length with
  | ok R => exact rdR_nil e
  | error e' => rw [e] at h; cases h
def upP (P : Nat → PlA) (q : Nat) (x : PlA) : Nat → PlA := fun p => if p = q then x else P p
def updO (f : Nat → Option Nat) (q : Nat) (x : Option Nat) : Nat → Option Nat := fun p => if p = q then x else f p
section PC
variable {κ : Nat → Option Nat} {Q : Ret AH} {σ σ' : AH} {o c s : Nat} {l : List Nat} {P : Nat → PlA} {wr : Int32} {bg : Nat → Int32} {rn : RnA} {RA : Nat → Option Nat} {H : Nat → Nat} {M MR : Nat → Prop}
theorem TapeC.nil {b : Nat} (h : TapeC σ o l) (ho : hR σ o 0 = some b) : TapeC (hsI σ o 1 0) o [] := by
  obtain ⟨h1, h2, h3, b', h4, h5, h6, h7⟩ := h
  exact ⟨h1, by rw [hI_sI, if_pos ⟨rfl, rfl⟩]; rfl, by simp, b', h4, h5, h6, fun i c hc => by simp at hc⟩
def Two9 (o : Nat) : Nat → Prop := fun b => b = o ∨ b = o + 1
/-- ints of the object itself and of its tape, and what is new -/
theorem CC.own2 (h : CC κ σ o l P wr bg rn RA H) (F : HL κ (Two9 o) NoM c s σ σ') {l' : List Nat} {wr' : Int32} (ht : TapeC σ' o l') (hw : hI σ' o 4 = wr') : CC κ σ' o l' P wr' bg rn RA H := by
  have hk := h.ok
  have t := h.t0
  have gr := fun j => F.ref hk t (by decide) id j
  obtain ⟨a1, a2, a3, a4⟩ := h.f2
  obtain ⟨b1, b2, b3, b4⟩ := h.f3
  obtain ⟨c1, c2, c3, c4, c5, c6, c7, c8, c9⟩ := h.f6
  refine ⟨F.ok, h.ks.hl hk F, ht, (gr 0).trans h.f0, ⟨(gr 2).trans a1, F.tg hk a2 (by decide), (F.len hk (by rw [a2]; decide)).trans a3, fun i hi' => (F.int hk a2 (by decide) (M := Two9 o) (by show ¬ (o + 2 = o ∨ o + 2 = o + 1); omega) i).trans (a4 i hi')⟩, ⟨(gr 3).trans b1, F.tg hk b2 (by decide), (F.len hk (by rw [b2]; decide)).trans b3, fun p hp => (F.ref hk b2 (by decide) id p).trans (b4 p hp)⟩, hw, ⟨(gr 6).trans c1, F.tg hk c2 (by decide), (F.ref hk c2 (by decide) id 0).trans c3, (F.ref hk c2 (by decide) id 1).trans c4, (F.ref hk c2 (by decide) id 3).trans c5, F.tg hk c6 (by decide), (F.len hk (by rw [c6]; decide)).trans c7, F.tg hk c8 (by decide), (F.len hk (by rw [c8]; decide)).trans c9⟩, fun p hp => (h.pl p hp).hl hk F (fun a h1 _ => ⟨by show ¬ (a = o ∨ a = o + 1); omega, id⟩), h.dj, h.rn.hl hk t F (gr 5) (fun a h1 _ => ⟨by show ¬ (a = o ∨ a = o + 1); omega, id⟩)⟩
theorem CC.own (h : CC κ σ o l P wr bg rn RA H) (F : HL κ (EqM o) NoM c s σ σ') {l' : List Nat} {wr' : Int32} (ht : TapeC σ' o l') (hw : hI σ' o 4 = wr') : CC κ σ' o l' P wr' bg rn RA H := h.own2 (F.imp (fun _ z => Or.inl z) (fun _ z => z)) ht hw
/-- a routine is put at its place -/
theorem CC.put {q r : Nat} {R : Rt} (h : CC κ σ o l P wr bg rn RA H) (hq : q < 4) (hr : o + 7 ≤ r) (hR9 : RtC κ σ r R (hN σ)) (hw : WayC κ σ r []) (hpk : PlOk (R, [])) (hH : ∀ p r', p < 4 → RA p = some r' → H p ≤ r) : CC κ (hsR σ (o + 3) q (some r)) o l (upP P q (some (R, []))) wr bg rn (updO RA q (some r)) (fun p => if p = q then hN σ else H p) := by
  have hk := h.ok
  have t := h.t0
  obtain ⟨b1, b2, b3, b4⟩ := h.f3
  have F : HL κ NoM (EqM (o + 3)) 0 0 σ (hsR σ (o + 3) q (some r)) := (HL.rfl9 hk).sR (Or.inl rfl) b2 (by decide)
  have ne : ∀ a j, a ≠ o + 3 → hR (hsR σ (o + 3) q (some r)) a j = hR σ a j := fun a j ha => by simp [hT_sI, hT_sR, hT_sG, hL_sI, hL_sR, hL_sG, hI_sI, hI_sR, hI_sG, hG_sI, hG_sR, hG_sG, hR_sI, hR_sR, hR_sG, hN_sI, hN_sR, hN_sG, hC_sI, hC_sR, hC_sG, hS_sI, hS_sR, hS_sG, hT_nw, hL_nw, hI_nw, hG_nw, hR_nw, hN_nw, hC_nw, hS_nw, hvc, hvi, dspI, vref, va_rf, ha]
  obtain ⟨a1, a2, a3, a4⟩ := h.f2
  obtain ⟨c1, c2, c3, c4, c5, c6, c7, c8, c9⟩ := h.f6
  have off : ∀ a, o + 7 ≤ a → a < hN σ → ¬ NoM a ∧ ¬ EqM (o + 3) a := fun a h1 _ => ⟨id, by show ¬ a = o + 3; omega⟩
  refine ⟨F.ok, h.ks.hl hk F, ?_, (ne o 0 (by omega)).trans h.f0, ⟨(ne o 2 (by omega)).trans a1, a2, a3, a4⟩, ⟨(ne o 3 (by omega)).trans b1, b2, b3, fun p hp => ?_⟩, h.f4, ⟨(ne o 6 (by omega)).trans c1, c2, (ne _ 0 (by omega)).trans c3, (ne _ 1 (by omega)).trans c4, (ne _ 3 (by omega)).trans c5, c6, c7, c8, c9⟩, fun p hp => ?_, fun p p' hp hp' hne r1 r2 e1 e2 => ?_, h.rn.hl hk t F (ne o 5 (by omega)) off⟩
  · obtain ⟨h1, h2, h3, b, h4, h5, h6, h7⟩ := h.tp
    exact ⟨h1, h2, h3, b, (ne o 0 (by omega)).trans h4, h5, h6, h7⟩
  · unfold updO
    by_cases e : p = q
    · rw [if_pos e, e]; simp [hT_sI, hT_sR, hT_sG, hL_sI, hL_sR, hL_sG, hI_sI, hI_sR, hI_sG, hG_sI, hG_sR, hG_sG, hR_sI, hR_sR, hR_sG, hN_sI, hN_sR, hN_sG, hC_sI, hC_sR, hC_sG, hS_sI, hS_sR, hS_sG, hT_nw, hL_nw, hI_nw, hG_nw, hR_nw, hN_nw, hC_nw, hS_nw, hvc, hvi, dspI, vref, va_rf]
    · rw [if_neg e, ← b4 p hp]; simp [hT_sI, hT_sR, hT_sG, hL_sI, hL_sR, hL_sG, hI_sI, hI_sR, hI_sG, hG_sI, hG_sR, hG_sG, hR_sI, hR_sR, hR_sG, hN_sI, hN_sR, hN_sG, hC_sI, hC_sR, hC_sG, hS_sI, hS_sR, hS_sG, hT_nw, hL_nw, hI_nw, hG_nw, hR_nw, hN_nw, hC_nw, hS_nw, hvc, hvi, dspI, vref, va_rf, e]
  · unfold updO upP
    by_cases e : p = q
    · simp only [if_pos e]
      exact ⟨hpk, hr, hR9.hl hk F (fun a h1 _ _ => ⟨id, by show ¬ a = o + 3; omega⟩), hw.hl hk F id⟩
    · simp only [if_neg e]
      exact (h.pl p hp).hl hk F off
  · unfold updO at e1 e2
    have hHp : ∀ p r', p < 4 → RA p = some r' → H p ≤ hN σ := fun p r' hp e => by
      have := h.pl p hp
      rw [e] at this
      cases hx : P p with
      | none => rw [hx] at this; exact this.elim
      | some x => rw [hx] at this; obtain ⟨_, _, _, _, _, _, _, _, _, _, _, _, q, _⟩ := this.2.2.1; exact q
    by_cases e : p = q
    · rw [if_pos e] at e1
      have e' : p' ≠ q := fun z => hne (e.trans z.symm)
      rw [if_neg e'] at e2
      simp only [if_pos e, if_neg e']
      cases e1
      exact Or.inr (hH p' r2 hp' e2)
    · rw [if_neg e] at e1
      by_cases e' : p' = q
      · rw [if_pos e'] at e2
        simp only [if_neg e, if_pos e']
        cases e2
        exact Or.inl (hH p r1 hp e1)
      · rw [if_neg e'] at e2
        simp only [if_neg e, if_neg e']
        exact h.dj p p' hp hp' hne r1 r2 e1 e2
theorem CC.top (h : CC κ σ o l P wr bg rn RA H) {p r' : Nat} (hp : p < 4) (e : RA p = some r') : H p ≤ hN σ := by
  have := h.pl p hp
  rw [e] at this
  cases hx : P p with
  | none => rw [hx] at this; exact this.elim
  | some x => rw [hx] at this; obtain ⟨_, _, _, _, _, _, _, _, _, _, _, _, q, _⟩ := this.2.2.1; exact q
/-- what parse answers -/
def PrC (P : Nat → PlA) (q : Nat) (r : Except Flt Rt) (v : Int32) (P' : Nat → PlA) (wr' : Int32) : Prop := match r with
  | .error e => v = -10 - nn e.2 ∧ wr' = nn e.1 ∧ P' = P
  | .ok R => wr' = 0 ∧ ((32 < (sms R.1).length ∧ v = -3 ∧ P' = P) ∨ ((sms R.1).length ≤ 32 ∧ v = nn (nds R).length ∧ P' = upP P q (some (R, []))))
theorem ct_parse {p : Int32} (h : CC κ σ o l P wr bg rn RA H) (r1 : 5200 ≤ hC σ) (r2 : 100300 ≤ hS σ) (r3 : l ≠ [] → 10100 ≤ hC σ ∧ 218000 ≤ hS σ)
    (k0 : ix p 4 = none → Q (.inl (some (.int (-1)))) σ)
    (k1 : ∀ q, ix p 4 = some q → ∀ σ' v P' wr' RA' H', PrC P q (prs (tpF l) l.length) v P' wr' → CC κ σ' o [] P' wr' bg rn RA' H' → hC σ ≤ hC σ' + (if l = [] then 5200 else 10100) → hS σ ≤ hS σ' + (if l = [] then 100300 else 218000) → Q (.inl (some (.int v))) σ') : pX0_parse κ [.ref o, .int p] σ Q := by
  have hk := h.ok
  have t := h.t0
  simp [pX0_parse, bX0_parse_0, o_ic, o_lc, o_null, o_il, o_ll, o_al, o_dup, o_pop, o_dup_x1, o_dup2, o_iadd, o_isub, o_imul, o_iand, o_ior, o_ixor, o_ishl, o_ishr, o_idiv, o_irem, o_ineg, o_ladd, o_lsub, o_lmul, o_land, o_lor, o_lxor, o_ldiv, o_lrem, o_lneg, o_lcmp, o_i2l, o_l2i, o_i2b, o_i2c, o_iushr, o_lshl, o_lshr, o_if_eq, o_if_ne, o_if_lt, o_if_ge, o_if_gt, o_if_le, o_icmp_eq, o_icmp_ne, o_icmp_lt, o_icmp_ge, o_icmp_gt, o_icmp_le, o_ifnull, o_ifnonnull, o_acmp_eq, o_acmp_ne, o_is, o_ls, o_as, o_iinc, o_kill, o_sw, o_ireturn, o_zreturn, o_nreturn, o_lreturn, o_areturn, o_return, o_athrow, o_call, entP, lg_sl, Value.category, st1, st2, List.set, List.getElem?_cons_zero, List.getElem?_cons_succ, List.foldl, popN, aft]
  refine ct_in0 (n := 4) (by omega) (by decide) (fun q hq => ?_) (fun hq => ?_)
  rotate_left
  · simp [o_ic, o_lc, o_null, o_il, o_ll, o_al, o_dup, o_pop, o_dup_x1, o_dup2, o_iadd, o_isub, o_imul, o_iand, o_ior, o_ixor, o_ishl, o_ishr, o_idiv, o_irem, o_ineg, o_ladd, o_lsub, o_lmul, o_land, o_lor, o_lxor, o_ldiv, o_lrem, o_lneg, o_lcmp, o_i2l, o_l2i, o_i2b, o_i2c, o_iushr, o_lshl, o_lshr, o_if_eq, o_if_ne, o_if_lt, o_if_ge, o_if_gt, o_if_le, o_icmp_eq, o_icmp_ne, o_icmp_lt, o_icmp_ge, o_icmp_gt, o_icmp_le, o_ifnull, o_ifnonnull, o_acmp_eq, o_acmp_ne, o_is, o_ls, o_as, o_iinc, o_kill, o_sw, o_ireturn, o_zreturn, o_nreturn, o_lreturn, o_areturn, o_return, o_athrow, o_call, entP, lg_sl, Value.category, st1, st2, List.set, List.getElem?_cons_zero, List.getElem?_cons_succ, List.foldl, popN, aft]
    exact k0 hq
  obtain ⟨e1, e2, e3⟩ := ix_some hq
  -- wrong = 0
  have F1 : HL κ (EqM o) NoM 0 0 σ (hsI σ o 4 0) := (HL.rfl9 hk).sI (Or.inl rfl) t (by decide)
  have T1 : TapeC (hsI σ o 4 0) o l := by
    obtain ⟨h1, h2, h3, b, h4, h5, h6, h7⟩ := h.tp
    refine ⟨h1, by rw [hI_sI, if_neg (by omega)]; exact h2, h3, b, h4, h5, h6, fun i c hc => ?_⟩
    rw [hI_sI, if_neg (fun z => by rw [z.1, t] at h5; cases h5)]; exact h7 i c hc
  have C1 := h.own F1 T1 (wr' := 0) (by rw [hI_sI, if_pos ⟨rfl, rfl⟩])
  have hk1 := C1.ok
  have hoN : o + 7 ≤ hN σ := by
    have := hk.1.lt (a := o + 6) (by rw [h.f6.2.2.2.2.2.2.2.1]; decide)
    omega
  have q1 : 1 ≤ hC σ := by omega
  have q2 : 9 ≤ hS σ := by omega
  simp [o_ic, o_lc, o_null, o_il, o_ll, o_al, o_dup, o_pop, o_dup_x1, o_dup2, o_iadd, o_isub, o_imul, o_iand, o_ior, o_ixor, o_ishl, o_ishr, o_idiv, o_irem, o_ineg, o_ladd, o_lsub, o_lmul, o_land, o_lor, o_lxor, o_ldiv, o_lrem, o_lneg, o_lcmp, o_i2l, o_l2i, o_i2b, o_i2c, o_iushr, o_lshl, o_lshr, o_if_eq, o_if_ne, o_if_lt, o_if_ge, o_if_gt, o_if_le, o_icmp_eq, o_icmp_ne, o_icmp_lt, o_icmp_ge, o_icmp_gt, o_icmp_le, o_ifnull, o_ifnonnull, o_acmp_eq, o_acmp_ne, o_is, o_ls, o_as, o_iinc, o_kill, o_sw, o_ireturn, o_zreturn, o_nreturn, o_lreturn, o_areturn, o_return, o_athrow, o_call, entP, lg_sl, Value.category, st1, st2, List.set, List.getElem?_cons_zero, List.getElem?_cons_succ, List.foldl, popN, aft, o_gI, o_gR, o_pI, o_pN, o_pR, o_aI, o_aG, o_aR, o_len, o_aR8, o_sI, o_sB, o_sZ, o_sG, o_new, o_newA, o_cast, o_inst, o_cst, o_oi, o_sR, o_gIc, o_gSv, o_gSc, o_getc, o_dead, o_acopy, o_castA, o_castI, o_sR7, o_mna, o_mmax, o_mmin, o_mabs, bX0_parse_11, t, hC_sI, hS_sI, q1, q2, hN_sI, hvi]
  -- the reader
  have rd0 : hN (hsI σ o 4 0) = hN σ := rfl
  refine ct_rdInit (σ := hsI σ o 4 0) hk1 C1.ks T1 (by show 9 ≤ hC σ; omega) (by show 44 ≤ hS σ; omega) (fun σ2 F2 N2 L2 X2 i2 => ?_)
  have C2 := C1.new F2
  have G2 : HL κ (EqM o) NoM 9 44 σ σ2 := (F1.trans F2.wk).up (by omega) (by omega)
  have hc2 : hC σ ≤ hC σ2 + 9 := G2.C
  have hs2 : hS σ ≤ hS σ2 + 44 := G2.S
  rw [rd0] at L2 X2 i2 N2
  have hk2 := C2.ok
  have trd : hT σ2 (hN σ) = 3 := L2.2.2.1.1
  simp [o_ic, o_lc, o_null, o_il, o_ll, o_al, o_dup, o_pop, o_dup_x1, o_dup2, o_iadd, o_isub, o_imul, o_iand, o_ior, o_ixor, o_ishl, o_ishr, o_idiv, o_irem, o_ineg, o_ladd, o_lsub, o_lmul, o_land, o_lor, o_lxor, o_ldiv, o_lrem, o_lneg, o_lcmp, o_i2l, o_l2i, o_i2b, o_i2c, o_iushr, o_lshl, o_lshr, o_if_eq, o_if_ne, o_if_lt, o_if_ge, o_if_gt, o_if_le, o_icmp_eq, o_icmp_ne, o_icmp_lt, o_icmp_ge, o_icmp_gt, o_icmp_le, o_ifnull, o_ifnonnull, o_acmp_eq, o_acmp_ne, o_is, o_ls, o_as, o_iinc, o_kill, o_sw, o_ireturn, o_zreturn, o_nreturn, o_lreturn, o_areturn, o_return, o_athrow, o_call, entP, lg_sl, Value.category, st1, st2, List.set, List.getElem?_cons_zero, List.getElem?_cons_succ, List.foldl, popN, aft, hvc, dspI, trd]
  -- an error, thrown
  have err : ∀ (σ3 : AH) a e, prs (tpF l) l.length = .error e → HL κ (GeM (hN σ)) (GeM (hN σ)) 5100 100200 σ2 σ3 → FltC σ3 a e → ∀ x2, hT σ3 a = 5 ∧ bX0_parse_67 κ Q [some (.ref o), some (.int p), x2] [.ref a] σ3 := by
    intro σ3 a e he F3 E3 x2
    have F3' : HL κ (EqM o) NoM (9 + 5100) (44 + 100200) σ σ3 := G2.after F3 hk (fun b q => Or.inr q) (fun b q => Or.inr q)
    have hko : hT σ3 o = 1 := F3'.tg hk t (by decide)
    have F4 : HL κ (EqM o) NoM (9 + 5100) (44 + 100200) σ (hsI (hsI σ3 o 1 0) o 4 (nn e.1)) := (F3'.sI (Or.inl rfl) hko (by decide)).sI (Or.inl rfl) hko (by decide)
    have hb3 : hR σ3 o 0 = some (o + 1) := (F3'.ref hk t (by decide) id 0).trans h.f0
    have T4 : TapeC (hsI (hsI σ3 o 1 0) o 4 (nn e.1)) o [] := by
      obtain ⟨h1, h2, h3, b, h4, h5, h6, h7⟩ := h.tp
      refine ⟨hko, by simp [hT_sI, hT_sR, hT_sG, hL_sI, hL_sR, hL_sG, hI_sI, hI_sR, hI_sG, hG_sI, hG_sR, hG_sG, hR_sI, hR_sR, hR_sG, hN_sI, hN_sR, hN_sG, hC_sI, hC_sR, hC_sG, hS_sI, hS_sR, hS_sG, hT_nw, hL_nw, hI_nw, hG_nw, hR_nw, hN_nw, hC_nw, hS_nw, hvc, hvi, dspI, vref, va_rf]; rfl, by simp, b, (F3'.ref hk t (by decide) id 0).trans h4, F3'.tg hk h5 (by decide), (F3'.len hk (by rw [h5]; decide)).trans h6, fun i c hc => by simp at hc⟩
    have C4 := h.own F4 T4 (wr' := nn e.1) (by simp [hT_sI, hT_sR, hT_sG, hL_sI, hL_sR, hL_sG, hI_sI, hI_sR, hI_sG, hG_sI, hG_sR, hG_sG, hR_sI, hR_sR, hR_sG, hN_sI, hN_sR, hN_sG, hC_sI, hC_sR, hC_sG, hS_sI, hS_sR, hS_sG, hT_nw, hL_nw, hI_nw, hG_nw, hR_nw, hN_nw, hC_nw, hS_nw, hvc, hvi, dspI, vref, va_rf])
    refine ⟨E3.1, ?_⟩
    have E6 := E3.2.1
    have E7 := E3.2.2
    have ne : ¬ a = o := fun z => by have q := E3.1; rw [z, hko] at q; cases q
    have hx : bX0_parse_67 κ Q [some (.ref o), some (.int p), x2] [.ref a] σ3 ↔ Q (.inl (some (.int (-10 - nn e.2)))) (hsI (hsI σ3 o 1 0) o 4 (nn e.1)) := by
      simp [bX0_parse_67, o_ic, o_lc, o_null, o_il, o_ll, o_al, o_dup, o_pop, o_dup_x1, o_dup2, o_iadd, o_isub, o_imul, o_iand, o_ior, o_ixor, o_ishl, o_ishr, o_idiv, o_irem, o_ineg, o_ladd, o_lsub, o_lmul, o_land, o_lor, o_lxor, o_ldiv, o_lrem, o_lneg, o_lcmp, o_i2l, o_l2i, o_i2b, o_i2c, o_iushr, o_lshl, o_lshr, o_if_eq, o_if_ne, o_if_lt, o_if_ge, o_if_gt, o_if_le, o_icmp_eq, o_icmp_ne, o_icmp_lt, o_icmp_ge, o_icmp_gt, o_icmp_le, o_ifnull, o_ifnonnull, o_acmp_eq, o_acmp_ne, o_is, o_ls, o_as, o_iinc, o_kill, o_sw, o_ireturn, o_zreturn, o_nreturn, o_lreturn, o_areturn, o_return, o_athrow, o_call, entP, lg_sl, Value.category, st1, st2, List.set, List.getElem?_cons_zero, List.getElem?_cons_succ, List.foldl, popN, aft, o_gI, o_gR, o_pI, o_pN, o_pR, o_aI, o_aG, o_aR, o_len, o_aR8, o_sI, o_sB, o_sZ, o_sG, o_new, o_newA, o_cast, o_inst, o_cst, o_oi, o_sR, o_gIc, o_gSv, o_gSc, o_getc, o_dead, o_acopy, o_castA, o_castI, o_sR7, o_mna, o_mmax, o_mmin, o_mabs, hT_sI, hT_sR, hT_sG, hL_sI, hL_sR, hL_sG, hI_sI, hI_sR, hI_sG, hG_sI, hG_sR, hG_sG, hR_sI, hR_sR, hR_sG, hN_sI, hN_sR, hN_sG, hC_sI, hC_sR, hC_sG, hS_sI, hS_sR, hS_sG, hT_nw, hL_nw, hI_nw, hG_nw, hR_nw, hN_nw, hC_nw, hS_nw, hvc, hvi, dspI, vref, va_rf, hko, E3.1, E6, E7, ne]
    rw [hx]
    refine k1 q hq _ _ P (nn e.1) RA H (by rw [he]; exact ⟨rfl, rfl, rfl⟩) C4 ?_ ?_
    · have := F4.C; split <;> omega
    · have := F4.S; split <;> omega
  refine ct_read (σ := σ2) L2 X2 i2 N2 (by omega) (by omega) (fun hl => ⟨by have := (r3 hl).1; omega, by have := (r3 hl).2; omega⟩) (fun σ3 R wss A NX BF B ss he RT WY F3 => ?_) (fun σ3 a e he F3 E3 => ?_)
  rotate_left
  · simp only [aft]
    exact err σ3 a e he F3 E3 none
  have hl : l ≠ [] := fun z => prs_nil (z ▸ he)
  obtain ⟨r3c, r3s⟩ := r3 hl
  simp only [aft]
  have F3' : HL κ (EqM o) NoM (9 + 10000) (44 + 215000) σ σ3 := G2.after F3 hk (fun b q => Or.inr q) (fun b q => Or.inr q)
  have hko : hT σ3 o = 1 := F3'.tg hk t (by decide)
  have F4 : HL κ (EqM o) NoM (9 + 10000) (44 + 215000) σ (hsI σ3 o 1 0) := F3'.sI (Or.inl rfl) hko (by decide)
  have F34 : HL κ (EqM o) NoM 0 0 σ3 (hsI σ3 o 1 0) := (HL.rfl9 F3.ok).sI (Or.inl rfl) hko (by decide)
  have w4 : hI (hsI σ3 o 1 0) o 4 = 0 := by
    rw [hI_sI, if_neg (by omega)]
    have e : hI σ3 o 4 = hI σ2 o 4 := F3.int hk2 C2.t0 (by decide) (M := GeM (hN σ)) (by show ¬ hN σ ≤ o; omega) 4
    exact e.trans C2.f4
  have T4 : TapeC (hsI σ3 o 1 0) o [] := by
    obtain ⟨h1, h2, h3, b, h4, h5, h6, h7⟩ := h.tp
    refine ⟨hko, by simp [hT_sI, hT_sR, hT_sG, hL_sI, hL_sR, hL_sG, hI_sI, hI_sR, hI_sG, hG_sI, hG_sR, hG_sG, hR_sI, hR_sR, hR_sG, hN_sI, hN_sR, hN_sG, hC_sI, hC_sR, hC_sG, hS_sI, hS_sR, hS_sG, hT_nw, hL_nw, hI_nw, hG_nw, hR_nw, hN_nw, hC_nw, hS_nw, hvc, hvi, dspI, vref, va_rf]; rfl, by simp, b, (F3'.ref hk t (by decide) id 0).trans h4, F3'.tg hk h5 (by decide), (F3'.len hk (by rw [h5]; decide)).trans h6, fun i c hc => by simp at hc⟩
  have hc4 := F4.C
  have hs4 := F4.S
  have RT4 : RtB κ (hsI σ3 o 1 0) (hN σ + 1) R wss A NX BF B ss (hN σ3) := RT.hl F3.ok F34 (fun a h1 _ _ => ⟨by show ¬ a = o; omega, id⟩)
  have WY4 : AL κ (hsI σ3 o 1 0) (hN σ + 5) [] := F34.al WY (by show ¬ hN σ + 5 = o; omega)
  have C4 := h.own F4 T4 (wr' := 0) w4
  have r2' := RT.rr 2 (by omega)
  simp [o_ic, o_lc, o_null, o_il, o_ll, o_al, o_dup, o_pop, o_dup_x1, o_dup2, o_iadd, o_isub, o_imul, o_iand, o_ior, o_ixor, o_ishl, o_ishr, o_idiv, o_irem, o_ineg, o_ladd, o_lsub, o_lmul, o_land, o_lor, o_lxor, o_ldiv, o_lrem, o_lneg, o_lcmp, o_i2l, o_l2i, o_i2b, o_i2c, o_iushr, o_lshl, o_lshr, o_if_eq, o_if_ne, o_if_lt, o_if_ge, o_if_gt, o_if_le, o_icmp_eq, o_icmp_ne, o_icmp_lt, o_icmp_ge, o_icmp_gt, o_icmp_le, o_ifnull, o_ifnonnull, o_acmp_eq, o_acmp_ne, o_is, o_ls, o_as, o_iinc, o_kill, o_sw, o_ireturn, o_zreturn, o_nreturn, o_lreturn, o_areturn, o_return, o_athrow, o_call, entP, lg_sl, Value.category, st1, st2, List.set, List.getElem?_cons_zero, List.getElem?_cons_succ, List.foldl, popN, aft, o_gI, o_gR, o_pI, o_pN, o_pR, o_aI, o_aG, o_aR, o_len, o_aR8, o_sI, o_sB, o_sZ, o_sG, o_new, o_newA, o_cast, o_inst, o_cst, o_oi, o_sR, o_gIc, o_gSv, o_gSc, o_getc, o_dead, o_acopy, o_castA, o_castI, o_sR7, o_mna, o_mmax, o_mmin, o_mabs, hko, RT.tr, r2', hR_sI, hT_sI]
  refine hv_size RT4.sl ?_
  rw [RT.sn]
  have w := RT.wf.1
  have h240 := nds_240 w
  have hsm : (sms R.1).length < 2147483648 := by have := RT.sl.len; have := RT.sn; omega
  by_cases h32 : (sms R.1).length ≤ 32
  · have h33 : nn (sms R.1).length ≤ 32 := by
      rw [Int32.le_iff_toInt_le, nn_toInt hsm]; show _ ≤ (32 : Int); omega
    simp [o_ic, o_lc, o_null, o_il, o_ll, o_al, o_dup, o_pop, o_dup_x1, o_dup2, o_iadd, o_isub, o_imul, o_iand, o_ior, o_ixor, o_ishl, o_ishr, o_idiv, o_irem, o_ineg, o_ladd, o_lsub, o_lmul, o_land, o_lor, o_lxor, o_ldiv, o_lrem, o_lneg, o_lcmp, o_i2l, o_l2i, o_i2b, o_i2c, o_iushr, o_lshl, o_lshr, o_if_eq, o_if_ne, o_if_lt, o_if_ge, o_if_gt, o_if_le, o_icmp_eq, o_icmp_ne, o_icmp_lt, o_icmp_ge, o_icmp_gt, o_icmp_le, o_ifnull, o_ifnonnull, o_acmp_eq, o_acmp_ne, o_is, o_ls, o_as, o_iinc, o_kill, o_sw, o_ireturn, o_zreturn, o_nreturn, o_lreturn, o_areturn, o_return, o_athrow, o_call, entP, lg_sl, Value.category, st1, st2, List.set, List.getElem?_cons_zero, List.getElem?_cons_succ, List.foldl, popN, aft, aft, h33, bX0_parse_48, hvc, dspI, RT4.tr]
    refine ct_study C4.ok RT4 h32 (by omega) (by omega) (fun σ5 VA S5 => ?_)
    have F5 : HL κ (EqM o) NoM (9 + 10000 + 8) (44 + 215000 + 1920) σ σ5 := F4.after S5.1 hk (fun _ z => z.elim) (fun a z => Or.inr (by have z' : a = hN σ + 1 := z; omega))
    have hc5 := F5.C
    have hs5 := F5.S
    have T5 : TapeC σ5 o [] := by
      obtain ⟨h1, h2, h3, b, h4, h5, h6, h7⟩ := T4
      exact ⟨S5.1.tg C4.ok h1 (by decide), (S5.1.int C4.ok h1 (by decide) id 1).trans h2, h3, b, (S5.1.ref C4.ok h1 (by decide) (by show ¬ o = hN σ + 1; omega) 0).trans h4, S5.1.tg C4.ok h5 (by decide), (S5.1.len C4.ok (by rw [h5]; decide)).trans h6, fun i c hc => by simp at hc⟩
    have C5 := h.own F5 T5 (wr' := 0) ((S5.1.int C4.ok hko (by decide) id 4).trans w4)
    have RT5 := S5.rt C4.ok RT4
    have N35 : hN σ3 ≤ hN σ5 := S5.1.2.1
    have N3 : hN σ ≤ hN σ3 := by have := RT.r9; omega
    have RC5 : RtC κ σ5 (hN σ + 1) R (hN σ5) := ⟨wss, A, NX, BF, B, ss, hN σ3, VA, RT5, S5.2.2, fun i hi' => (S5.2.2 i hi').2.2.2.2.1, N35, Nat.le_refl _, h32⟩
    have WY5 : WayC κ σ5 (hN σ + 1) [] := ⟨[], S5.1.al WY4 id, rfl, fun i b hb => by simp at hb⟩
    have pk : PlOk (R, []) := ⟨RT.wf.1, RT.wf.2.1, h32, RT.wf.2.2, by simp, fun b hb => by simp at hb, fun i a b h1 => by simp at h1⟩
    have C6 := C5.put e2 (by omega) RC5 WY5 pk (fun p r' hp e => by have := h.top hp e; omega)
    have f3 := C5.f3
    have r1' := RT5.rr 1 (by omega)
    have n3 : ¬ hN σ + 1 = o + 3 := by omega
    rw [e1]
    simp [o_ic, o_lc, o_null, o_il, o_ll, o_al, o_dup, o_pop, o_dup_x1, o_dup2, o_iadd, o_isub, o_imul, o_iand, o_ior, o_ixor, o_ishl, o_ishr, o_idiv, o_irem, o_ineg, o_ladd, o_lsub, o_lmul, o_land, o_lor, o_lxor, o_ldiv, o_lrem, o_lneg, o_lcmp, o_i2l, o_l2i, o_i2b, o_i2c, o_iushr, o_lshl, o_lshr, o_if_eq, o_if_ne, o_if_lt, o_if_ge, o_if_gt, o_if_le, o_icmp_eq, o_icmp_ne, o_icmp_lt, o_icmp_ge, o_icmp_gt, o_icmp_le, o_ifnull, o_ifnonnull, o_acmp_eq, o_acmp_ne, o_is, o_ls, o_as, o_iinc, o_kill, o_sw, o_ireturn, o_zreturn, o_nreturn, o_lreturn, o_areturn, o_return, o_athrow, o_call, entP, lg_sl, Value.category, st1, st2, List.set, List.getElem?_cons_zero, List.getElem?_cons_succ, List.foldl, popN, aft, o_gI, o_gR, o_pI, o_pN, o_pR, o_aI, o_aG, o_aR, o_len, o_aR8, o_sI, o_sB, o_sZ, o_sG, o_new, o_newA, o_cast, o_inst, o_cst, o_oi, o_sR, o_gIc, o_gSv, o_gSc, o_getc, o_dead, o_acopy, o_castA, o_castI, o_sR7, o_mna, o_mmax, o_mmin, o_mabs, aft, C5.t0, f3.1, f3.2.1, f3.2.2.1, e2, e3, r1', RT5.tr, n3, hR_sR, hT_sR, hL_sR, va_rf]
    have n2 : ¬ hN σ = o + 2 := by omega
    rw [nn_in e3, nn_clamp e3]
    simp only [n2, false_and, if_false]
    refine ⟨e2, ?_⟩
    have AL6 : AL κ (hsR σ5 (o + 3) q (some (hN σ + 1))) (hN σ + 1 + 1 + 1) ((List.range (nds R).length).map A) := by
      have F6 : HL κ NoM (EqM (o + 3)) 0 0 σ5 (hsR σ5 (o + 3) q (some (hN σ + 1))) := (HL.rfl9 C5.ok).sR (Or.inl rfl) f3.2.1 (by decide)
      exact F6.al RT5.ns id
    refine hv_size AL6 ?_
    simp [o_ic, o_lc, o_null, o_il, o_ll, o_al, o_dup, o_pop, o_dup_x1, o_dup2, o_iadd, o_isub, o_imul, o_iand, o_ior, o_ixor, o_ishl, o_ishr, o_idiv, o_irem, o_ineg, o_ladd, o_lsub, o_lmul, o_land, o_lor, o_lxor, o_ldiv, o_lrem, o_lneg, o_lcmp, o_i2l, o_l2i, o_i2b, o_i2c, o_iushr, o_lshl, o_lshr, o_if_eq, o_if_ne, o_if_lt, o_if_ge, o_if_gt, o_if_le, o_icmp_eq, o_icmp_ne, o_icmp_lt, o_icmp_ge, o_icmp_gt, o_icmp_le, o_ifnull, o_ifnonnull, o_acmp_eq, o_acmp_ne, o_is, o_ls, o_as, o_iinc, o_kill, o_sw, o_ireturn, o_zreturn, o_nreturn, o_lreturn, o_areturn, o_return, o_athrow, o_call, entP, lg_sl, Value.category, st1, st2, List.set, List.getElem?_cons_zero, List.getElem?_cons_succ, List.foldl, popN, aft, aft]
    refine k1 q hq _ _ _ 0 _ _ ?_ C6 ?_ ?_
    · rw [he]; exact ⟨rfl, Or.inr ⟨h32, rfl, rfl⟩⟩
    · rw [if_neg hl]; show hC σ ≤ hC σ5 + _; omega
    · rw [if_neg hl]; show hS σ ≤ hS σ5 + _; omega
  · have h33 : ¬ nn (sms R.1).length ≤ 32 := by
      rw [Int32.le_iff_toInt_le, nn_toInt hsm]; show ¬ _ ≤ (32 : Int); omega
    simp [o_ic, o_lc, o_null, o_il, o_ll, o_al, o_dup, o_pop, o_dup_x1, o_dup2, o_iadd, o_isub, o_imul, o_iand, o_ior, o_ixor, o_ishl, o_ishr, o_idiv, o_irem, o_ineg, o_ladd, o_lsub, o_lmul, o_land, o_lor, o_lxor, o_ldiv, o_lrem, o_lneg, o_lcmp, o_i2l, o_l2i, o_i2b, o_i2c, o_iushr, o_lshl, o_lshr, o_if_eq, o_if_ne, o_if_lt, o_if_ge, o_if_gt, o_if_le, o_icmp_eq, o_icmp_ne, o_icmp_lt, o_icmp_ge, o_icmp_gt, o_icmp_le, o_ifnull, o_ifnonnull, o_acmp_eq, o_acmp_ne, o_is, o_ls, o_as, o_iinc, o_kill, o_sw, o_ireturn, o_zreturn, o_nreturn, o_lreturn, o_areturn, o_return, o_athrow, o_call, entP, lg_sl, Value.category, st1, st2, List.set, List.getElem?_cons_zero, List.getElem?_cons_succ, List.foldl, popN, aft, aft, h33]
    refine k1 q hq _ _ P 0 RA H ?_ C4 ?_ ?_
    · rw [he]; exact ⟨rfl, Or.inl ⟨by omega, rfl, rfl⟩⟩
    · rw [if_neg hl]; omega
    · rw [if_neg hl]; omega
end PC
