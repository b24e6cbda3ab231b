/-! THE COMPONENT: what lives -/
set_option maxRecDepth 100000
def fAlv (R : Rt) (pl e : Nat) (X : Nat → Prop) (k : Nat) : Prop := k < (nds R).length ∧ (setP R pl e k ∨ (¬ tknP R pl e k ∧ ∀ y, (t1R R k = some y ∨ t2R R k = some y) → X y))
theorem gfp_alv {R : Rt} (w : WfR R) (hT9 : TgOk R) {pl e k : Nat} (hk : k < (nds R).length) : gfp9 (fAlv R pl e) k ↔ ¬ alvP R pl e k := by
  have lt : ∀ j y, j < (nds R).length → (t1R R j = some y ∨ t2R R j = some y) → y < (nds R).length := fun j y hj h => by
    have hg : (nds R)[j]? = some (ndA (nds R) j) := by unfold ndA; rw [List.getD_eq_getElem?_getD, List.getElem?_eq_getElem hj]; rfl
    have ok := nds_ok w hT9 hg
    exact h.elim (fun q => ok.2.1 y q) (fun q => ok.2.2.1 y q)
  constructor
  · rintro ⟨X, h1, h2⟩ ha
    refine ha (fun j => ¬ X j) (fun j hj hs ht hX => ?_) h1
    rcases (h2 j hX).2 with q | ⟨q1, q2⟩
    · exact hs q
    · rcases ht with t | ⟨i, t1, t2⟩
      · exact q1 t
      · exact t2 (q2 i t1)
  · intro hn
    refine ⟨fun j => j < (nds R).length ∧ ¬ alvP R pl e j, ⟨hk, hn⟩, fun j hj => ⟨hj.1, ?_⟩⟩
    by_cases hs : setP R pl e j
    · exact Or.inl hs
    · refine Or.inr ⟨fun ht => hj.2 (fun S hS => hS j hj.1 hs (Or.inl ht)), fun y hy => ⟨lt j y hj.1 hy, fun ha => hj.2 (fun S hS => hS j hj.1 hs (Or.inr ⟨y, hy, ha S hS⟩))⟩⟩
/-- the bits of what lives, from those of what does not -/
def zb (R : Rt) (Y : Nat → Nat → Bool) : Nat → Nat → Bool := fun k e => decide (e < (sms R.1).length) && !Y k e
noncomputable def zF (R : Rt) (pl : Nat) (Z : Nat → Nat → Bool) (k e : Nat) : Bool := (tb9 R pl k e || (tl9 (t1R R k, t2R R k)).any (fun y => Z y e)) && !sb9 R pl k e
noncomputable def rAlv (R : Rt) (pl : Nat) (Y : Nat → Nat → Bool) (k e : Nat) : Bool := decide (e < (sms R.1).length) && !zF R pl (zb R Y) k e
theorem tkn0 {R : Rt} {pl e k : Nat} (h : pl < 3) : (decide (0 < pl) && b9 (tknP R pl e k)) = b9 (tknP R pl e k) := by
  by_cases c : pl = 0
  · subst c
    rw [b9_not.2 (by unfold tknP; rintro ⟨-, q | q⟩; cases q; cases q.1)]; rfl
  · have : 0 < pl := by omega
    simp [this]
theorem rul_alv {R : Rt} (w : WfR R) (hT9 : TgOk R) {pl : Nat} (hp : pl < 3) : Rul (nds R).length (sms R.1).length (rAlv R pl) (fun e => fAlv R pl e) := by
  refine ⟨fun X k e hk he => ?_, fun X k e hk he he2 => ?_, fun e X Y hXY k hk => ⟨hk.1, hk.2.imp id (fun q => ⟨q.1, fun y hy => hXY y (q.2 y hy)⟩)⟩, fun e X k hk => hk.1⟩
  · have hg : (nds R)[k]? = some (ndA (nds R) k) := by unfold ndA; rw [List.getD_eq_getElem?_getD, List.getElem?_eq_getElem hk]; rfl
    have ok := nds_ok w hT9 hg
    unfold rAlv zF zb tb9 sb9 fAlv
    simp only [he, decide_true, Bool.true_and, tkn0 hp]
    constructor
    · intro h1
      refine ⟨hk, ?_⟩
      by_cases hs : setP R pl e k
      · exact Or.inl hs
      · rw [b9_not.2 hs] at h1
        simp only [Bool.not_false, Bool.and_true, Bool.not_eq_true', Bool.or_eq_false_iff, b9_not, List.any_eq_false, Bool.not_eq_true, Bool.not_eq_false'] at h1
        refine Or.inr ⟨h1.1, fun y hy => ⟨hy.elim (fun q => ok.2.1 y q) (fun q => ok.2.2.1 y q), ?_⟩⟩
        have hx9 := h1.2 y (tl9_mem.2 hy)
        cases hxx : X y e with
        | true => rfl
        | false => exact absurd hxx hx9
    · rintro ⟨-, h1 | ⟨h1, h2⟩⟩
      · rw [b9_iff.2 h1]; simp
      · rw [b9_not.2 h1]
        have : (tl9 (t1R R k, t2R R k)).any (fun y => !X y e) = false := by
          rw [List.any_eq_false]
          intro y hy
          have := (h2 y (tl9_mem.1 hy)).2
          rw [this]; simp
        rw [this]; simp
  · have : ¬ e < (sms R.1).length := by omega
    unfold rAlv
    simp [this]
section AV
variable {κ : Nat → Option Nat} {Q : Ret AH} {σ σ0 σ' : AH} {r h9 c s a n : Nat} {R : Rt} {wss : List (Nat × List Nat)} {A NX BF : Nat → Nat} {B : Nat → List Nat} {ss : List Nat} {VA : Nat → Nat} {Z : Nat → Nat → Bool}
theorem VS.new {q : Nat} {f : Nat → Nat → Nat → Bool} (h : VS σ r n h9 VA q f) (hk : Hok κ σ) (tr : hT σ r = 4) (F : HL κ NoM NoM c s σ σ') : VS σ' r n h9 VA q f := fun i hi' => by
  obtain ⟨b1, b2, b3, b4, b5, b6, b7⟩ := h i hi'
  refine ⟨(F.ref hk tr (by decide) id (6 + i)).trans b1, F.tg hk b2 (by decide), (F.len hk (by rw [b2]; decide)).trans b3, b4, by have := F.lt; omega, b6, fun k hk' => ?_⟩
  rw [F.lng hk b2 (by decide) id k]; exact b7 k hk'
theorem RtB.new (h : RtB κ σ r R wss A NX BF B ss h9) (hk : Hok κ σ) (F : HL κ NoM NoM c s σ σ') : RtB κ σ' r R wss A NX BF B ss h9 := h.hl hk F (fun _ _ _ _ => ⟨id, id⟩)
def AV9 (κ : Nat → Option Nat) (σ0 σ : AH) (a n : Nat) (Z : Nat → Nat → Bool) : Prop := HL κ NoM NoM 1 n σ0 σ ∧ hT σ a = 101 ∧ hL σ a = n ∧ hN σ0 ≤ a ∧ ∀ k, k < n → LB (hG σ a k) (Z k)
theorem AV9.set {k : Nat} {v : Int64} {g : Nat → Bool} (h : AV9 κ σ0 σ a n Z) (hk : k < n) (hv : LB v g) : AV9 κ σ0 (hsG σ a k v) a n (updM Z k g) := by
  obtain ⟨h1, h2, h3, h4, h5⟩ := h
  refine ⟨h1.sG (Or.inr h4) h2 (by decide), h2, h3, h4, fun k' hk' => ?_⟩
  rw [hG_sG]
  by_cases e : k' = k
  · subst e; rw [if_pos ⟨rfl, rfl⟩, updM_eq]; exact hv
  · rw [if_neg (fun z => e z.2), updM_ne _ _ e]; exact h5 k' hk'
theorem AV9.congr {Z' : Nat → Nat → Bool} (h : AV9 κ σ0 σ a n Z) (e : ∀ k x, k < n → x < 64 → Z k x = Z' k x) : AV9 κ σ0 σ a n Z' := ⟨h.1, h.2.1, h.2.2.1, h.2.2.2.1, fun k hk => (h.2.2.2.2 k hk).congr (fun x hx => e k x hk hx)⟩
/-- one node -/
theorem al_row {J12 Y : Cont AH} {k pl : Nat} {mo : Bool} {X : Nat → Nat → Bool} (hR : RtB κ σ r R wss A NX BF B ss h9) (hV : VS σ r (nds R).length h9 VA 8 (fun i => fb R i)) (hp : pl < 3) (hA : AV9 κ σ0 σ a (nds R).length (zb R X)) (hm : ∀ k e, k < (nds R).length → (sms R.1).length ≤ e → e < 64 → X k e = false) (hk : k < (nds R).length)
    (kk : ∀ σ', AV9 κ σ0 σ' a (nds R).length (zb R (updM X k (rAlv R pl X k))) → Y [some (.ref r), some (.int (nn pl)), some (.ref a), some (.int (b2i (mo || chg (rAlv R pl) X k) 1)), some (.int (nn k - 1)), none, none, none, none] [] σ') :
    (o_il 4 <|
    o_if_lt (bX4_alive_158 κ Q J12) <|
    o_al 0 <|
    o_il 1 <|
    o_il 4 <|
    o_call 3 (hvc [(4, pX4_takenAt κ)]) (fun _ a σ => Q (.inr a) σ) <|
    o_ls 5 <|
    o_ic 0 <|
    o_is 7 <|
    (o_kill [6, 8] (bX4_alive_46 κ Q J12 Y))) [some (.ref r), some (.int (nn pl)), some (.ref a), some (.int (b2i mo 1)), some (.int (nn k)), none, none, none, none] [] σ := by
  have h240 := nds_240 hR.wf.1
  have t := hR.tgA hk
  obtain ⟨-, -, -, e2, e3, a1, a2⟩ := hR.nd k hk
  obtain ⟨hA1, b2, b3, hA4, b7⟩ := hA
  have bk : k < 2147483648 := by omega
  have rr1 := hR.rr 1 (by omega)
  have hgk : ((List.range (nds R).length).map A)[k]? = some (A k) := by rw [List.getElem?_map, List.getElem?_range hk]; rfl
  have hl2 := tl9_len (t1R R k, t2R R k)
  have npos : ¬ nn k < 0 := fun q => (nn_pos bk).1 q
  simp [o_ic, o_lc, o_null, o_il, o_ll, o_al, o_dup, o_pop, o_dup_x1, o_dup2, o_iadd, o_isub, o_imul, o_iand, o_ior, o_ixor, o_ishl, o_ishr, o_idiv, o_irem, o_ineg, o_ladd, o_lsub, o_lmul, o_land, o_lor, o_lxor, o_ldiv, o_lrem, o_lneg, o_lcmp, o_i2l, o_l2i, o_i2b, o_i2c, o_iushr, o_lshl, o_lshr, o_if_eq, o_if_ne, o_if_lt, o_if_ge, o_if_gt, o_if_le, o_icmp_eq, o_icmp_ne, o_icmp_lt, o_icmp_ge, o_icmp_gt, o_icmp_le, o_ifnull, o_ifnonnull, o_acmp_eq, o_acmp_ne, o_is, o_ls, o_as, o_iinc, o_kill, o_sw, o_ireturn, o_zreturn, o_nreturn, o_lreturn, o_areturn, o_return, o_athrow, o_call, entP, lg_sl, Value.category, st1, st2, List.set, List.getElem?_cons_zero, List.getElem?_cons_succ, List.foldl, popN, aft, npos]
  refine ct_takenAt hR hV hp hk (fun v hv => ?_)
  simp [o_ic, o_lc, o_null, o_il, o_ll, o_al, o_dup, o_pop, o_dup_x1, o_dup2, o_iadd, o_isub, o_imul, o_iand, o_ior, o_ixor, o_ishl, o_ishr, o_idiv, o_irem, o_ineg, o_ladd, o_lsub, o_lmul, o_land, o_lor, o_lxor, o_ldiv, o_lrem, o_lneg, o_lcmp, o_i2l, o_l2i, o_i2b, o_i2c, o_iushr, o_lshl, o_lshr, o_if_eq, o_if_ne, o_if_lt, o_if_ge, o_if_gt, o_if_le, o_icmp_eq, o_icmp_ne, o_icmp_lt, o_icmp_ge, o_icmp_gt, o_icmp_le, o_ifnull, o_ifnonnull, o_acmp_eq, o_acmp_ne, o_is, o_ls, o_as, o_iinc, o_kill, o_sw, o_ireturn, o_zreturn, o_nreturn, o_lreturn, o_areturn, o_return, o_athrow, o_call, entP, lg_sl, Value.category, st1, st2, List.set, List.getElem?_cons_zero, List.getElem?_cons_succ, List.foldl, popN, aft]
  unfold bX4_alive_46
  intro W hW
  have last : ∀ v x7, LB v (fun e => tb9 R pl k e || (tl9 (t1R R k, t2R R k)).any (fun y => zb R X y e)) → bX4_alive_112 κ Q J12 Y [some (.ref r), some (.int (nn pl)), some (.ref a), some (.int (b2i mo 1)), some (.int (nn k)), some (.long v), none, x7, none] [] σ := by
    intro v x7 hv
    simp [bX4_alive_112, o_ic, o_lc, o_null, o_il, o_ll, o_al, o_dup, o_pop, o_dup_x1, o_dup2, o_iadd, o_isub, o_imul, o_iand, o_ior, o_ixor, o_ishl, o_ishr, o_idiv, o_irem, o_ineg, o_ladd, o_lsub, o_lmul, o_land, o_lor, o_lxor, o_ldiv, o_lrem, o_lneg, o_lcmp, o_i2l, o_l2i, o_i2b, o_i2c, o_iushr, o_lshl, o_lshr, o_if_eq, o_if_ne, o_if_lt, o_if_ge, o_if_gt, o_if_le, o_icmp_eq, o_icmp_ne, o_icmp_lt, o_icmp_ge, o_icmp_gt, o_icmp_le, o_ifnull, o_ifnonnull, o_acmp_eq, o_acmp_ne, o_is, o_ls, o_as, o_iinc, o_kill, o_sw, o_ireturn, o_zreturn, o_nreturn, o_lreturn, o_areturn, o_return, o_athrow, o_call, entP, lg_sl, Value.category, st1, st2, List.set, List.getElem?_cons_zero, List.getElem?_cons_succ, List.foldl, popN, aft]
    refine ct_setAt hR hV hp hk (fun u hu => ?_)
    have hnew : LB (v &&& ~~~ u) (zF R pl (zb R X) k) := hv.and hu.cpl
    have heq := hnew.eq_iff (b7 k hk)
    have hz : ∀ e, e < 64 → zF R pl (zb R X) k e = zb R (updM X k (rAlv R pl X k)) k e := fun e he => by
      have e1 : zb R (updM X k (rAlv R pl X k)) k e = (decide (e < (sms R.1).length) && !rAlv R pl X k e) := by unfold zb; rw [updM_eq]
      rw [e1]
      unfold rAlv
      by_cases c : e < (sms R.1).length
      · simp [c]
      · have h1 : tb9 R pl k e = false := by unfold tb9; simp [c]
        have h2 : (tl9 (t1R R k, t2R R k)).any (fun y => zb R X y e) = false := by
          rw [List.any_eq_false]; intro y _; unfold zb; simp [c]
        simp [c]
        unfold zF
        rw [h1, h2]; rfl
    have S3 : AV9 κ σ0 (hsG σ a k (v &&& ~~~ u)) a (nds R).length (zb R (updM X k (rAlv R pl X k))) := (AV9.set ⟨hA1, b2, b3, hA4, b7⟩ hk hnew).congr (fun k' x hk' hx => by
      by_cases e : k' = k
      · subst e; rw [updM_eq]; exact hz x hx
      · rw [updM_ne _ _ e]; unfold zb; rw [updM_ne _ _ e])
    have hchg : chg (rAlv R pl) X k = b9 (¬ v &&& ~~~ u = hG σ a k) := by
      unfold chg
      refine b9_eq ?_
      rw [heq]
      constructor
      · rintro ⟨e, he, hne⟩ hall
        have h1 := hall e he
        apply hne
        by_cases c : e < (sms R.1).length
        · unfold rAlv zb at *
          simp [c] at h1 ⊢
          rw [h1]
        · rw [hm k e hk (by omega) he]; unfold rAlv; simp [c]
      · intro hall
        refine Classical.byContradiction fun q => hall (fun e he => ?_)
        have h1 : rAlv R pl X k e = X k e := Classical.byContradiction fun z => q ⟨e, he, z⟩
        rw [hz e he]
        unfold zb
        rw [updM_eq, h1]
    have st : ∀ x : Bool, x = chg (rAlv R pl) X k → bX4_alive_144 κ Q J12 Y [some (.ref r), some (.int (nn pl)), some (.ref a), some (.int (b2i mo 1)), some (.int (nn k)), some (.long (v &&& ~~~ u)), none, x7, none] [.int (b2i x 1), .int (b2i mo 1)] σ := by
      intro x hx
      have := kk _ S3
      rw [← hx] at this
      simp [bX4_alive_144, o_ic, o_lc, o_null, o_il, o_ll, o_al, o_dup, o_pop, o_dup_x1, o_dup2, o_iadd, o_isub, o_imul, o_iand, o_ior, o_ixor, o_ishl, o_ishr, o_idiv, o_irem, o_ineg, o_ladd, o_lsub, o_lmul, o_land, o_lor, o_lxor, o_ldiv, o_lrem, o_lneg, o_lcmp, o_i2l, o_l2i, o_i2b, o_i2c, o_iushr, o_lshl, o_lshr, o_if_eq, o_if_ne, o_if_lt, o_if_ge, o_if_gt, o_if_le, o_icmp_eq, o_icmp_ne, o_icmp_lt, o_icmp_ge, o_icmp_gt, o_icmp_le, o_ifnull, o_ifnonnull, o_acmp_eq, o_acmp_ne, o_is, o_ls, o_as, o_iinc, o_kill, o_sw, o_ireturn, o_zreturn, o_nreturn, o_lreturn, o_areturn, o_return, o_athrow, o_call, entP, lg_sl, Value.category, st1, st2, List.set, List.getElem?_cons_zero, List.getElem?_cons_succ, List.foldl, popN, aft, o_gI, o_gR, o_pI, o_pN, o_pR, o_aI, o_aG, o_aR, o_len, o_aR8, o_sI, o_sB, o_sZ, o_sG, o_new, o_newA, o_cast, o_inst, o_cst, o_oi, o_sR, o_gIc, o_gSv, o_gSc, o_getc, o_dead, o_acopy, o_castA, o_castI, o_sR7, o_mna, o_mmax, o_mmin, o_mabs, b2i_or, b2, b3, nn_eqL, nn_ltL, nn_leL, nn_Llt, nn_Lle, nn_lt, nn_le, nn_eq, nn_in, nn_clamp, nn_succ, nn_pos, nn_neg1, bk, hk, i32_m1]
      exact this
    simp [o_ic, o_lc, o_null, o_il, o_ll, o_al, o_dup, o_pop, o_dup_x1, o_dup2, o_iadd, o_isub, o_imul, o_iand, o_ior, o_ixor, o_ishl, o_ishr, o_idiv, o_irem, o_ineg, o_ladd, o_lsub, o_lmul, o_land, o_lor, o_lxor, o_ldiv, o_lrem, o_lneg, o_lcmp, o_i2l, o_l2i, o_i2b, o_i2c, o_iushr, o_lshl, o_lshr, o_if_eq, o_if_ne, o_if_lt, o_if_ge, o_if_gt, o_if_le, o_icmp_eq, o_icmp_ne, o_icmp_lt, o_icmp_ge, o_icmp_gt, o_icmp_le, o_ifnull, o_ifnonnull, o_acmp_eq, o_acmp_ne, o_is, o_ls, o_as, o_iinc, o_kill, o_sw, o_ireturn, o_zreturn, o_nreturn, o_lreturn, o_areturn, o_return, o_athrow, o_call, entP, lg_sl, Value.category, st1, st2, List.set, List.getElem?_cons_zero, List.getElem?_cons_succ, List.foldl, popN, aft, o_gI, o_gR, o_pI, o_pN, o_pR, o_aI, o_aG, o_aR, o_len, o_aR8, o_sI, o_sB, o_sZ, o_sG, o_new, o_newA, o_cast, o_inst, o_cst, o_oi, o_sR, o_gIc, o_gSv, o_gSc, o_getc, o_dead, o_acopy, o_castA, o_castI, o_sR7, o_mna, o_mmax, o_mmin, o_mabs, b2, b3, nn_eqL, nn_ltL, nn_leL, nn_Llt, nn_Lle, nn_lt, nn_le, nn_eq, nn_in, nn_clamp, nn_succ, nn_pos, nn_neg1, bk, hk, lcmp_0]
    refine ⟨fun z => ?_, fun z => ?_⟩
    · have := st false (by rw [hchg]; symm; rw [b9_not]; exact fun q => q z)
      rw [show b2i false 1 = 0 from rfl] at this
      simp [bX4_alive_143, o_ic, o_lc, o_null, o_il, o_ll, o_al, o_dup, o_pop, o_dup_x1, o_dup2, o_iadd, o_isub, o_imul, o_iand, o_ior, o_ixor, o_ishl, o_ishr, o_idiv, o_irem, o_ineg, o_ladd, o_lsub, o_lmul, o_land, o_lor, o_lxor, o_ldiv, o_lrem, o_lneg, o_lcmp, o_i2l, o_l2i, o_i2b, o_i2c, o_iushr, o_lshl, o_lshr, o_if_eq, o_if_ne, o_if_lt, o_if_ge, o_if_gt, o_if_le, o_icmp_eq, o_icmp_ne, o_icmp_lt, o_icmp_ge, o_icmp_gt, o_icmp_le, o_ifnull, o_ifnonnull, o_acmp_eq, o_acmp_ne, o_is, o_ls, o_as, o_iinc, o_kill, o_sw, o_ireturn, o_zreturn, o_nreturn, o_lreturn, o_areturn, o_return, o_athrow, o_call, entP, lg_sl, Value.category, st1, st2, List.set, List.getElem?_cons_zero, List.getElem?_cons_succ, List.foldl, popN, aft]
      exact this
    · have := st true (by rw [hchg]; symm; rw [b9_iff]; exact z)
      exact this
  have main : ∀ m i v, i + m = (tl9 (t1R R k, t2R R k)).length → LB v (fun e => tb9 R pl k e || ((tl9 (t1R R k, t2R R k)).take i).any (fun y => zb R X y e)) → W [some (.ref r), some (.int (nn pl)), some (.ref a), some (.int (b2i mo 1)), some (.int (nn k)), some (.long v), none, some (.int (nn i)), none] [] σ := by
    intro m
    induction m with
    | zero =>
      intro i v hi' hv
      apply hW
      have bi : i < 2147483648 := by omega
      have bl : (tl9 (t1R R k, t2R R k)).length < 2147483648 := by omega
      have le : (tl9 (t1R R k, t2R R k)).length ≤ i := by omega
      simp [o_ic, o_lc, o_null, o_il, o_ll, o_al, o_dup, o_pop, o_dup_x1, o_dup2, o_iadd, o_isub, o_imul, o_iand, o_ior, o_ixor, o_ishl, o_ishr, o_idiv, o_irem, o_ineg, o_ladd, o_lsub, o_lmul, o_land, o_lor, o_lxor, o_ldiv, o_lrem, o_lneg, o_lcmp, o_i2l, o_l2i, o_i2b, o_i2c, o_iushr, o_lshl, o_lshr, o_if_eq, o_if_ne, o_if_lt, o_if_ge, o_if_gt, o_if_le, o_icmp_eq, o_icmp_ne, o_icmp_lt, o_icmp_ge, o_icmp_gt, o_icmp_le, o_ifnull, o_ifnonnull, o_acmp_eq, o_acmp_ne, o_is, o_ls, o_as, o_iinc, o_kill, o_sw, o_ireturn, o_zreturn, o_nreturn, o_lreturn, o_areturn, o_return, o_athrow, o_call, entP, lg_sl, Value.category, st1, st2, List.set, List.getElem?_cons_zero, List.getElem?_cons_succ, List.foldl, popN, aft, o_gI, o_gR, o_pI, o_pN, o_pR, o_aI, o_aG, o_aR, o_len, o_aR8, o_sI, o_sB, o_sZ, o_sG, o_new, o_newA, o_cast, o_inst, o_cst, o_oi, o_sR, o_gIc, o_gSv, o_gSc, o_getc, o_dead, o_acopy, o_castA, o_castI, o_sR7, o_mna, o_mmax, o_mmin, o_mabs, hR.tr, rr1, va_rf]
      refine hv_get hR.ns hgk ?_
      simp [o_ic, o_lc, o_null, o_il, o_ll, o_al, o_dup, o_pop, o_dup_x1, o_dup2, o_iadd, o_isub, o_imul, o_iand, o_ior, o_ixor, o_ishl, o_ishr, o_idiv, o_irem, o_ineg, o_ladd, o_lsub, o_lmul, o_land, o_lor, o_lxor, o_ldiv, o_lrem, o_lneg, o_lcmp, o_i2l, o_l2i, o_i2b, o_i2c, o_iushr, o_lshl, o_lshr, o_if_eq, o_if_ne, o_if_lt, o_if_ge, o_if_gt, o_if_le, o_icmp_eq, o_icmp_ne, o_icmp_lt, o_icmp_ge, o_icmp_gt, o_icmp_le, o_ifnull, o_ifnonnull, o_acmp_eq, o_acmp_ne, o_is, o_ls, o_as, o_iinc, o_kill, o_sw, o_ireturn, o_zreturn, o_nreturn, o_lreturn, o_areturn, o_return, o_athrow, o_call, entP, lg_sl, Value.category, st1, st2, List.set, List.getElem?_cons_zero, List.getElem?_cons_succ, List.foldl, popN, aft, o_gI, o_gR, o_pI, o_pN, o_pR, o_aI, o_aG, o_aR, o_len, o_aR8, o_sI, o_sB, o_sZ, o_sG, o_new, o_newA, o_cast, o_inst, o_cst, o_oi, o_sR, o_gIc, o_gSv, o_gSc, o_getc, o_dead, o_acopy, o_castA, o_castI, o_sR7, o_mna, o_mmax, o_mmin, o_mabs, t, e2, va_rf]
      refine hv_size a1 ?_
      simp [o_ic, o_lc, o_null, o_il, o_ll, o_al, o_dup, o_pop, o_dup_x1, o_dup2, o_iadd, o_isub, o_imul, o_iand, o_ior, o_ixor, o_ishl, o_ishr, o_idiv, o_irem, o_ineg, o_ladd, o_lsub, o_lmul, o_land, o_lor, o_lxor, o_ldiv, o_lrem, o_lneg, o_lcmp, o_i2l, o_l2i, o_i2b, o_i2c, o_iushr, o_lshl, o_lshr, o_if_eq, o_if_ne, o_if_lt, o_if_ge, o_if_gt, o_if_le, o_icmp_eq, o_icmp_ne, o_icmp_lt, o_icmp_ge, o_icmp_gt, o_icmp_le, o_ifnull, o_ifnonnull, o_acmp_eq, o_acmp_ne, o_is, o_ls, o_as, o_iinc, o_kill, o_sw, o_ireturn, o_zreturn, o_nreturn, o_lreturn, o_areturn, o_return, o_athrow, o_call, entP, lg_sl, Value.category, st1, st2, List.set, List.getElem?_cons_zero, List.getElem?_cons_succ, List.foldl, popN, aft, o_gI, o_gR, o_pI, o_pN, o_pR, o_aI, o_aG, o_aR, o_len, o_aR8, o_sI, o_sB, o_sZ, o_sG, o_new, o_newA, o_cast, o_inst, o_cst, o_oi, o_sR, o_gIc, o_gSv, o_gSc, o_getc, o_dead, o_acopy, o_castA, o_castI, o_sR7, o_mna, o_mmax, o_mmin, o_mabs, nn_eqL, nn_ltL, nn_leL, nn_Llt, nn_Lle, nn_lt, nn_le, nn_eq, nn_in, nn_clamp, nn_succ, nn_pos, nn_neg1, bi, bl, le]
      rw [List.take_of_length_le le] at hv
      exact last v _ hv
    | succ m ih =>
      intro i v hi' hv
      apply hW
      have hil : i < (tl9 (t1R R k, t2R R k)).length := by omega
      have bi : i < 2147483648 := by omega
      have bl : (tl9 (t1R R k, t2R R k)).length < 2147483648 := by omega
      have nle : ¬ (tl9 (t1R R k, t2R R k)).length ≤ i := by omega
      have hg : (tl9 (t1R R k, t2R R k))[i]? = some (tl9 (t1R R k, t2R R k))[i] := List.getElem?_eq_getElem hil
      have hyl := hR.nx_lt hk (List.getElem_mem hil)
      have hih := fun v' => ih (i + 1) v' (by omega)
      rw [List.take_succ, hg] at hih
      generalize (tl9 (t1R R k, t2R R k))[i] = y at hg hyl hih
      have hgm : ((tl9 (t1R R k, t2R R k)).map A)[i]? = some (A y) := by rw [List.getElem?_map, hg]; rfl
      have ty := hR.tgA hyl
      have n0 := (hR.nd y hyl).2.1
      have by' : y < 2147483648 := by omega
      simp [o_ic, o_lc, o_null, o_il, o_ll, o_al, o_dup, o_pop, o_dup_x1, o_dup2, o_iadd, o_isub, o_imul, o_iand, o_ior, o_ixor, o_ishl, o_ishr, o_idiv, o_irem, o_ineg, o_ladd, o_lsub, o_lmul, o_land, o_lor, o_lxor, o_ldiv, o_lrem, o_lneg, o_lcmp, o_i2l, o_l2i, o_i2b, o_i2c, o_iushr, o_lshl, o_lshr, o_if_eq, o_if_ne, o_if_lt, o_if_ge, o_if_gt, o_if_le, o_icmp_eq, o_icmp_ne, o_icmp_lt, o_icmp_ge, o_icmp_gt, o_icmp_le, o_ifnull, o_ifnonnull, o_acmp_eq, o_acmp_ne, o_is, o_ls, o_as, o_iinc, o_kill, o_sw, o_ireturn, o_zreturn, o_nreturn, o_lreturn, o_areturn, o_return, o_athrow, o_call, entP, lg_sl, Value.category, st1, st2, List.set, List.getElem?_cons_zero, List.getElem?_cons_succ, List.foldl, popN, aft, o_gI, o_gR, o_pI, o_pN, o_pR, o_aI, o_aG, o_aR, o_len, o_aR8, o_sI, o_sB, o_sZ, o_sG, o_new, o_newA, o_cast, o_inst, o_cst, o_oi, o_sR, o_gIc, o_gSv, o_gSc, o_getc, o_dead, o_acopy, o_castA, o_castI, o_sR7, o_mna, o_mmax, o_mmin, o_mabs, hR.tr, rr1, va_rf]
      refine hv_get hR.ns hgk ?_
      simp [o_ic, o_lc, o_null, o_il, o_ll, o_al, o_dup, o_pop, o_dup_x1, o_dup2, o_iadd, o_isub, o_imul, o_iand, o_ior, o_ixor, o_ishl, o_ishr, o_idiv, o_irem, o_ineg, o_ladd, o_lsub, o_lmul, o_land, o_lor, o_lxor, o_ldiv, o_lrem, o_lneg, o_lcmp, o_i2l, o_l2i, o_i2b, o_i2c, o_iushr, o_lshl, o_lshr, o_if_eq, o_if_ne, o_if_lt, o_if_ge, o_if_gt, o_if_le, o_icmp_eq, o_icmp_ne, o_icmp_lt, o_icmp_ge, o_icmp_gt, o_icmp_le, o_ifnull, o_ifnonnull, o_acmp_eq, o_acmp_ne, o_is, o_ls, o_as, o_iinc, o_kill, o_sw, o_ireturn, o_zreturn, o_nreturn, o_lreturn, o_areturn, o_return, o_athrow, o_call, entP, lg_sl, Value.category, st1, st2, List.set, List.getElem?_cons_zero, List.getElem?_cons_succ, List.foldl, popN, aft, o_gI, o_gR, o_pI, o_pN, o_pR, o_aI, o_aG, o_aR, o_len, o_aR8, o_sI, o_sB, o_sZ, o_sG, o_new, o_newA, o_cast, o_inst, o_cst, o_oi, o_sR, o_gIc, o_gSv, o_gSc, o_getc, o_dead, o_acopy, o_castA, o_castI, o_sR7, o_mna, o_mmax, o_mmin, o_mabs, t, e2, va_rf]
      refine hv_size a1 ?_
      simp [o_ic, o_lc, o_null, o_il, o_ll, o_al, o_dup, o_pop, o_dup_x1, o_dup2, o_iadd, o_isub, o_imul, o_iand, o_ior, o_ixor, o_ishl, o_ishr, o_idiv, o_irem, o_ineg, o_ladd, o_lsub, o_lmul, o_land, o_lor, o_lxor, o_ldiv, o_lrem, o_lneg, o_lcmp, o_i2l, o_l2i, o_i2b, o_i2c, o_iushr, o_lshl, o_lshr, o_if_eq, o_if_ne, o_if_lt, o_if_ge, o_if_gt, o_if_le, o_icmp_eq, o_icmp_ne, o_icmp_lt, o_icmp_ge, o_icmp_gt, o_icmp_le, o_ifnull, o_ifnonnull, o_acmp_eq, o_acmp_ne, o_is, o_ls, o_as, o_iinc, o_kill, o_sw, o_ireturn, o_zreturn, o_nreturn, o_lreturn, o_areturn, o_return, o_athrow, o_call, entP, lg_sl, Value.category, st1, st2, List.set, List.getElem?_cons_zero, List.getElem?_cons_succ, List.foldl, popN, aft, o_gI, o_gR, o_pI, o_pN, o_pR, o_aI, o_aG, o_aR, o_len, o_aR8, o_sI, o_sB, o_sZ, o_sG, o_new, o_newA, o_cast, o_inst, o_cst, o_oi, o_sR, o_gIc, o_gSv, o_gSc, o_getc, o_dead, o_acopy, o_castA, o_castI, o_sR7, o_mna, o_mmax, o_mmin, o_mabs, nn_eqL, nn_ltL, nn_leL, nn_Llt, nn_Lle, nn_lt, nn_le, nn_eq, nn_in, nn_clamp, nn_succ, nn_pos, nn_neg1, bi, bl, nle, hR.tr, rr1, va_rf]
      refine hv_get hR.ns hgk ?_
      simp [o_ic, o_lc, o_null, o_il, o_ll, o_al, o_dup, o_pop, o_dup_x1, o_dup2, o_iadd, o_isub, o_imul, o_iand, o_ior, o_ixor, o_ishl, o_ishr, o_idiv, o_irem, o_ineg, o_ladd, o_lsub, o_lmul, o_land, o_lor, o_lxor, o_ldiv, o_lrem, o_lneg, o_lcmp, o_i2l, o_l2i, o_i2b, o_i2c, o_iushr, o_lshl, o_lshr, o_if_eq, o_if_ne, o_if_lt, o_if_ge, o_if_gt, o_if_le, o_icmp_eq, o_icmp_ne, o_icmp_lt, o_icmp_ge, o_icmp_gt, o_icmp_le, o_ifnull, o_ifnonnull, o_acmp_eq, o_acmp_ne, o_is, o_ls, o_as, o_iinc, o_kill, o_sw, o_ireturn, o_zreturn, o_nreturn, o_lreturn, o_areturn, o_return, o_athrow, o_call, entP, lg_sl, Value.category, st1, st2, List.set, List.getElem?_cons_zero, List.getElem?_cons_succ, List.foldl, popN, aft, o_gI, o_gR, o_pI, o_pN, o_pR, o_aI, o_aG, o_aR, o_len, o_aR8, o_sI, o_sB, o_sZ, o_sG, o_new, o_newA, o_cast, o_inst, o_cst, o_oi, o_sR, o_gIc, o_gSv, o_gSc, o_getc, o_dead, o_acopy, o_castA, o_castI, o_sR7, o_mna, o_mmax, o_mmin, o_mabs, t, e2, va_rf]
      refine hv_get a1 hgm ?_
      simp [o_ic, o_lc, o_null, o_il, o_ll, o_al, o_dup, o_pop, o_dup_x1, o_dup2, o_iadd, o_isub, o_imul, o_iand, o_ior, o_ixor, o_ishl, o_ishr, o_idiv, o_irem, o_ineg, o_ladd, o_lsub, o_lmul, o_land, o_lor, o_lxor, o_ldiv, o_lrem, o_lneg, o_lcmp, o_i2l, o_l2i, o_i2b, o_i2c, o_iushr, o_lshl, o_lshr, o_if_eq, o_if_ne, o_if_lt, o_if_ge, o_if_gt, o_if_le, o_icmp_eq, o_icmp_ne, o_icmp_lt, o_icmp_ge, o_icmp_gt, o_icmp_le, o_ifnull, o_ifnonnull, o_acmp_eq, o_acmp_ne, o_is, o_ls, o_as, o_iinc, o_kill, o_sw, o_ireturn, o_zreturn, o_nreturn, o_lreturn, o_areturn, o_return, o_athrow, o_call, entP, lg_sl, Value.category, st1, st2, List.set, List.getElem?_cons_zero, List.getElem?_cons_succ, List.foldl, popN, aft, o_gI, o_gR, o_pI, o_pN, o_pR, o_aI, o_aG, o_aR, o_len, o_aR8, o_sI, o_sB, o_sZ, o_sG, o_new, o_newA, o_cast, o_inst, o_cst, o_oi, o_sR, o_gIc, o_gSv, o_gSc, o_getc, o_dead, o_acopy, o_castA, o_castI, o_sR7, o_mna, o_mmax, o_mmin, o_mabs, ty, n0, b2, b3, nn_eqL, nn_ltL, nn_leL, nn_Llt, nn_Lle, nn_lt, nn_le, nn_eq, nn_in, nn_clamp, nn_succ, nn_pos, nn_neg1, by', hyl, nn_succ]
      refine hih _ ((hv.or (b7 y hyl)).congr (fun e he => ?_))
      simp [Bool.or_assoc]
  exact main (tl9 (t1R R k, t2R R k)).length 0 v (by omega) (hv.congr (fun e he => by simp))
theorem ct_alive {pl : Nat} (hk0 : Hok κ σ0) (hR0 : RtB κ σ0 r R wss A NX BF B ss h9) (hV0 : VS σ0 r (nds R).length h9 VA 8 (fun i => fb R i)) (hp : pl < 3) (h32 : (sms R.1).length ≤ 32) (r1 : 1 ≤ hC σ0) (r2 : 240 ≤ hS σ0)
    (kk : ∀ σ' a, AV9 κ σ0 σ' a (nds R).length (fun k e => decide (e < (sms R.1).length) && b9 (alvP R pl e k)) → Q (.inl (some (.ref a))) σ') : hvc [(4, pX4_alive κ)] [.ref r, .int (nn pl)] σ0 Q := by
  have hR := hR0
  have h240 := nds_240 hR.wf.1
  have rr1 := hR.rr 1 (by omega)
  have rul := rul_alv (R := R) hR.wf.1 hR.wf.2.1 hp
  have bn : (nds R).length < 2147483648 := by omega
  have npos : ¬ nn (nds R).length < 0 := fun q => (nn_pos bn).1 q
  have q2 : (nds R).length ≤ hS σ0 := by omega
  have q3 : (nds R).length ≤ 65536 := by omega
  have k1 : Hok κ (hnw σ0 101 (nds R).length (nds R).length) := hk0.nw (by decide)
  have F1 : HL κ NoM NoM 1 (nds R).length σ0 (hnw σ0 101 (nds R).length (nds R).length) := ((HL.rfl9 (M := NoM) (MR := NoM) hk0).nw k1).up (by omega) (by omega)
  have hz0 := (hk0.1 (hN σ0) (Nat.le_refl _)).2
  have A1 : AV9 κ σ0 (hnw σ0 101 (nds R).length (nds R).length) (hN σ0) (nds R).length (zb R (fun _ e => decide (e < (sms R.1).length))) := by
    refine ⟨F1, by rw [hT_nw, if_pos rfl], by rw [hL_nw, if_pos rfl], Nat.le_refl _, fun k hk => ?_⟩
    rw [hG_nw, (hz0 k).2.1]
    refine LB.zero.congr (fun e he => ?_)
    unfold zb
    by_cases c : e < (sms R.1).length <;> simp [c]
  have go : pX4_alive κ [.ref r, .int (nn pl)] σ0 Q := by
    simp [pX4_alive, bX4_alive_0, o_ic, o_lc, o_null, o_il, o_ll, o_al, o_dup, o_pop, o_dup_x1, o_dup2, o_iadd, o_isub, o_imul, o_iand, o_ior, o_ixor, o_ishl, o_ishr, o_idiv, o_irem, o_ineg, o_ladd, o_lsub, o_lmul, o_land, o_lor, o_lxor, o_ldiv, o_lrem, o_lneg, o_lcmp, o_i2l, o_l2i, o_i2b, o_i2c, o_iushr, o_lshl, o_lshr, o_if_eq, o_if_ne, o_if_lt, o_if_ge, o_if_gt, o_if_le, o_icmp_eq, o_icmp_ne, o_icmp_lt, o_icmp_ge, o_icmp_gt, o_icmp_le, o_ifnull, o_ifnonnull, o_acmp_eq, o_acmp_ne, o_is, o_ls, o_as, o_iinc, o_kill, o_sw, o_ireturn, o_zreturn, o_nreturn, o_lreturn, o_areturn, o_return, o_athrow, o_call, entP, lg_sl, Value.category, st1, st2, List.set, List.getElem?_cons_zero, List.getElem?_cons_succ, List.foldl, popN, aft, o_gI, o_gR, o_pI, o_pN, o_pR, o_aI, o_aG, o_aR, o_len, o_aR8, o_sI, o_sB, o_sZ, o_sG, o_new, o_newA, o_cast, o_inst, o_cst, o_oi, o_sR, o_gIc, o_gSv, o_gSc, o_getc, o_dead, o_acopy, o_castA, o_castI, o_sR7, o_mna, o_mmax, o_mmin, o_mabs, hR.tr, rr1, va_rf]
    refine hv_size hR.ns ?_
    simp only [List.length_map, List.length_range]
    simp [o_ic, o_lc, o_null, o_il, o_ll, o_al, o_dup, o_pop, o_dup_x1, o_dup2, o_iadd, o_isub, o_imul, o_iand, o_ior, o_ixor, o_ishl, o_ishr, o_idiv, o_irem, o_ineg, o_ladd, o_lsub, o_lmul, o_land, o_lor, o_lxor, o_ldiv, o_lrem, o_lneg, o_lcmp, o_i2l, o_l2i, o_i2b, o_i2c, o_iushr, o_lshl, o_lshr, o_if_eq, o_if_ne, o_if_lt, o_if_ge, o_if_gt, o_if_le, o_icmp_eq, o_icmp_ne, o_icmp_lt, o_icmp_ge, o_icmp_gt, o_icmp_le, o_ifnull, o_ifnonnull, o_acmp_eq, o_acmp_ne, o_is, o_ls, o_as, o_iinc, o_kill, o_sw, o_ireturn, o_zreturn, o_nreturn, o_lreturn, o_areturn, o_return, o_athrow, o_call, entP, lg_sl, Value.category, st1, st2, List.set, List.getElem?_cons_zero, List.getElem?_cons_succ, List.foldl, popN, aft, o_gI, o_gR, o_pI, o_pN, o_pR, o_aI, o_aG, o_aR, o_len, o_aR8, o_sI, o_sB, o_sZ, o_sG, o_new, o_newA, o_cast, o_inst, o_cst, o_oi, o_sR, o_gIc, o_gSv, o_gSc, o_getc, o_dead, o_acopy, o_castA, o_castI, o_sR7, o_mna, o_mmax, o_mmin, o_mabs, npos, nn_eqL, nn_ltL, nn_leL, nn_Llt, nn_Lle, nn_lt, nn_le, nn_eq, nn_in, nn_clamp, nn_succ, nn_pos, nn_neg1, bn, q2, q3, r1]
    unfold bX4_alive_12
    intro Z hZ
    have outer : ∀ mu (σ : AH) (X : Nat → Nat → Bool) (mo : Bool), muM (nds R).length X + (if mo = true then 1 else 0) ≤ mu → NInv (nds R).length (sms R.1).length (rAlv R pl) (fun e => fAlv R pl e) X → (∀ k e, k < (nds R).length → (sms R.1).length ≤ e → e < 64 → X k e = false) → (mo = false → ∀ k e, k < (nds R).length → e < 64 → rAlv R pl X k e = X k e) → AV9 κ σ0 σ (hN σ0) (nds R).length (zb R X) → Z [some (.ref r), some (.int (nn pl)), some (.ref (hN σ0)), some (.int (b2i mo 1)), none, none, none, none, none] [] σ := by
      intro mu
      have fin : ∀ (σ : AH) (X : Nat → Nat → Bool), NInv (nds R).length (sms R.1).length (rAlv R pl) (fun e => fAlv R pl e) X → (∀ k e, k < (nds R).length → e < 64 → rAlv R pl X k e = X k e) → AV9 κ σ0 σ (hN σ0) (nds R).length (zb R X) → Z [some (.ref r), some (.int (nn pl)), some (.ref (hN σ0)), some (.int (b2i false 1)), none, none, none, none, none] [] σ := by
        intro σ X hN9 hfx S
        apply hZ
        simp [b2i, o_ic, o_lc, o_null, o_il, o_ll, o_al, o_dup, o_pop, o_dup_x1, o_dup2, o_iadd, o_isub, o_imul, o_iand, o_ior, o_ixor, o_ishl, o_ishr, o_idiv, o_irem, o_ineg, o_ladd, o_lsub, o_lmul, o_land, o_lor, o_lxor, o_ldiv, o_lrem, o_lneg, o_lcmp, o_i2l, o_l2i, o_i2b, o_i2c, o_iushr, o_lshl, o_lshr, o_if_eq, o_if_ne, o_if_lt, o_if_ge, o_if_gt, o_if_le, o_icmp_eq, o_icmp_ne, o_icmp_lt, o_icmp_ge, o_icmp_gt, o_icmp_le, o_ifnull, o_ifnonnull, o_acmp_eq, o_acmp_ne, o_is, o_ls, o_as, o_iinc, o_kill, o_sw, o_ireturn, o_zreturn, o_nreturn, o_lreturn, o_areturn, o_return, o_athrow, o_call, entP, lg_sl, Value.category, st1, st2, List.set, List.getElem?_cons_zero, List.getElem?_cons_succ, List.foldl, popN, aft, bX4_alive_161]
        refine kk σ (hN σ0) (S.congr (fun k x hk' hx => ?_))
        unfold zb
        rw [hN9.done rul hfx k x hk' hx]
        by_cases c : x < (sms R.1).length
        · simp only [c, decide_true, Bool.true_and]
          rw [b9_eq (gfp_alv hR.wf.1 hR.wf.2.1 hk')]
          cases hb : b9 (alvP R pl x k) with
          | true => rw [b9_not.2 (fun q => q (b9_iff.1 hb))]; rfl
          | false => rw [b9_iff.2 (b9_not.1 hb)]; rfl
        · simp [c]
      induction mu with
      | zero =>
        intro σ X mo hmu hN9 hms hfx S
        have hm : mo = false := by
          cases mo with
          | false => rfl
          | true => simp at hmu
        subst hm
        exact fin σ X hN9 (hfx rfl) S
      | succ mu ih =>
        intro σ X mo hmu hN9 hms hfx S
        cases mo with
        | false => exact fin σ X hN9 (hfx rfl) S
        | true =>
          have hmu' : muM (nds R).length X ≤ mu := by simp at hmu; omega
          apply hZ
          have hR' := hR0.new hk0 S.1
          have rr1' := hR'.rr 1 (by omega)
          simp [b2i, o_ic, o_lc, o_null, o_il, o_ll, o_al, o_dup, o_pop, o_dup_x1, o_dup2, o_iadd, o_isub, o_imul, o_iand, o_ior, o_ixor, o_ishl, o_ishr, o_idiv, o_irem, o_ineg, o_ladd, o_lsub, o_lmul, o_land, o_lor, o_lxor, o_ldiv, o_lrem, o_lneg, o_lcmp, o_i2l, o_l2i, o_i2b, o_i2c, o_iushr, o_lshl, o_lshr, o_if_eq, o_if_ne, o_if_lt, o_if_ge, o_if_gt, o_if_le, o_icmp_eq, o_icmp_ne, o_icmp_lt, o_icmp_ge, o_icmp_gt, o_icmp_le, o_ifnull, o_ifnonnull, o_acmp_eq, o_acmp_ne, o_is, o_ls, o_as, o_iinc, o_kill, o_sw, o_ireturn, o_zreturn, o_nreturn, o_lreturn, o_areturn, o_return, o_athrow, o_call, entP, lg_sl, Value.category, st1, st2, List.set, List.getElem?_cons_zero, List.getElem?_cons_succ, List.foldl, popN, aft, o_gI, o_gR, o_pI, o_pN, o_pR, o_aI, o_aG, o_aR, o_len, o_aR8, o_sI, o_sB, o_sZ, o_sG, o_new, o_newA, o_cast, o_inst, o_cst, o_oi, o_sR, o_gIc, o_gSv, o_gSc, o_getc, o_dead, o_acopy, o_castA, o_castI, o_sR7, o_mna, o_mmax, o_mmin, o_mabs, hR'.tr, rr1', va_rf]
          refine hv_size hR'.ns ?_
          simp only [List.length_map, List.length_range]
          simp [o_ic, o_lc, o_null, o_il, o_ll, o_al, o_dup, o_pop, o_dup_x1, o_dup2, o_iadd, o_isub, o_imul, o_iand, o_ior, o_ixor, o_ishl, o_ishr, o_idiv, o_irem, o_ineg, o_ladd, o_lsub, o_lmul, o_land, o_lor, o_lxor, o_ldiv, o_lrem, o_lneg, o_lcmp, o_i2l, o_l2i, o_i2b, o_i2c, o_iushr, o_lshl, o_lshr, o_if_eq, o_if_ne, o_if_lt, o_if_ge, o_if_gt, o_if_le, o_icmp_eq, o_icmp_ne, o_icmp_lt, o_icmp_ge, o_icmp_gt, o_icmp_le, o_ifnull, o_ifnonnull, o_acmp_eq, o_acmp_ne, o_is, o_ls, o_as, o_iinc, o_kill, o_sw, o_ireturn, o_zreturn, o_nreturn, o_lreturn, o_areturn, o_return, o_athrow, o_call, entP, lg_sl, Value.category, st1, st2, List.set, List.getElem?_cons_zero, List.getElem?_cons_succ, List.foldl, popN, aft]
          unfold bX4_alive_29
          intro Y hY
          have inner : ∀ j (σ : AH) (X1 : Nat → Nat → Bool) (mo : Bool), j ≤ (nds R).length → PsI (nds R).length (sms R.1).length (rAlv R pl) (fun e => fAlv R pl e) (fun k => j ≤ k) mo X1 X → (∀ k e, k < (nds R).length → (sms R.1).length ≤ e → e < 64 → X1 k e = false) → AV9 κ σ0 σ (hN σ0) (nds R).length (zb R X1) → Y [some (.ref r), some (.int (nn pl)), some (.ref (hN σ0)), some (.int (b2i mo 1)), some (.int (nn j - 1)), none, none, none, none] [] σ := by
            intro j
            induction j with
            | zero =>
              intro σ X1 mo hj hP hms1 S
              apply hY
              rw [nn_0m1]
              simp [o_ic, o_lc, o_null, o_il, o_ll, o_al, o_dup, o_pop, o_dup_x1, o_dup2, o_iadd, o_isub, o_imul, o_iand, o_ior, o_ixor, o_ishl, o_ishr, o_idiv, o_irem, o_ineg, o_ladd, o_lsub, o_lmul, o_land, o_lor, o_lxor, o_ldiv, o_lrem, o_lneg, o_lcmp, o_i2l, o_l2i, o_i2b, o_i2c, o_iushr, o_lshl, o_lshr, o_if_eq, o_if_ne, o_if_lt, o_if_ge, o_if_gt, o_if_le, o_icmp_eq, o_icmp_ne, o_icmp_lt, o_icmp_ge, o_icmp_gt, o_icmp_le, o_ifnull, o_ifnonnull, o_acmp_eq, o_acmp_ne, o_is, o_ls, o_as, o_iinc, o_kill, o_sw, o_ireturn, o_zreturn, o_nreturn, o_lreturn, o_areturn, o_return, o_athrow, o_call, entP, lg_sl, Value.category, st1, st2, List.set, List.getElem?_cons_zero, List.getElem?_cons_succ, List.foldl, popN, aft, bX4_alive_158]
              refine ih σ X1 mo ?_ hP.1 hms1 (fun hm k e hk' he => hP.2.1 hm k e hk' (Nat.zero_le _) he) S
              cases mo with
              | false => simp; have := hP.2.2.2; omega
              | true => have := hP.2.2.1 rfl; simp; omega
            | succ j ihj =>
              intro σ X1 mo hj hP hms1 S
              apply hY
              rw [nn_pred (show 0 < j + 1 by omega), Nat.add_sub_cancel]
              have hR' := hR0.new hk0 S.1
              have hV' := hV0.new hk0 hR0.tr S.1
              have hjn : j < (nds R).length := by omega
              refine al_row hR' hV' hp S hms1 hjn (fun σ' S' => ?_)
              refine ihj σ' _ _ (by omega) ((hP.step rul (by omega) hjn).imp (fun i hi' hij => by
                by_cases e : i = j
                · exact Or.inr e
                · exact Or.inl (by omega))) (fun k e hk' he he2 => ?_) S'
              by_cases z : k = j
              · subst z; rw [updM_eq]; exact rul.2.1 X1 k e hk' he he2
              · rw [updM_ne _ _ z]; exact hms1 k e hk' he he2
          exact inner (nds R).length σ X false (Nat.le_refl _) ((PsI.start hN9).imp (fun i hi' q => by omega)) hms S
    exact outer (muM (nds R).length (fun _ e => decide (e < (sms R.1).length)) + 1) _ _ true (by simp) (NInv.start rul) (fun k e _ he _ => by simp; omega) (fun q => by cases q) A1
  simpa [hvc, dspI, hR.tr] using go
end AV
