/-! THE COMPONENT: blocks -/
set_option maxRecDepth 100000
/-- lines in a row of objects, each behind the other -/
def ItsC (κ : Nat → Option Nat) (σ : AH) : List Nat → List Itm → Nat → Nat → Prop
  | [], [], lo, hi => lo ≤ hi
  | a :: as, it :: its, lo, hi => ∃ mid, ItmC κ σ a it lo mid ∧ ItsC κ σ as its mid hi
  | _, _, _, _ => False
/-- blocks: rows with what they hold -/
def BksC (κ : Nat → Option Nat) (σ : AH) : List (Nat × List Nat) → List (List Itm) → Nat → Nat → Prop
  | [], [], lo, hi => lo ≤ hi
  | w :: ws, its :: bs, lo, hi => ∃ mid, (lo ≤ w.1 ∧ AL κ σ w.1 w.2 ∧ ItsC κ σ w.2 its (w.1 + 1) mid) ∧ BksC κ σ ws bs mid hi
  | _, _, _, _ => False
def HLx (κ : Nat → Option Nat) (M MR : Nat → Prop) (σ σ' : AH) : Prop := ∃ c s, HL κ M MR c s σ σ'
section IC
variable {κ : Nat → Option Nat} {M MR : Nat → Prop} {c s : Nat} {σ σ' σ1 : AH}
theorem HLx.trans {c' s' : Nat} (h : HLx κ M MR σ σ1) (h' : HL κ M MR c' s' σ1 σ') : HLx κ M MR σ σ' := by
  obtain ⟨c, s, h⟩ := h
  exact ⟨_, _, h.trans h'⟩
theorem Off.sub {lo hi lo' hi' : Nat} (h : Off M MR lo hi) (h1 : lo ≤ lo') (h2 : hi' ≤ hi) : Off M MR lo' hi' := fun a q1 q2 => h a (by omega) (by omega)
theorem ItsC.le : ∀ {as : List Nat} {its : List Itm} {lo hi : Nat}, ItsC κ σ as its lo hi → lo ≤ hi
  | [], [], _, _, h => h
  | a :: as, it :: its, lo, hi, h => by
    obtain ⟨mid, h1, h2⟩ := h
    have := h1.1
    have := h1.2.1
    have := ItsC.le h2
    omega
  | [], _ :: _, _, _, h => h.elim
  | _ :: _, [], _, _, h => h.elim
theorem ItsC.len : ∀ {as : List Nat} {its : List Itm} {lo hi : Nat}, ItsC κ σ as its lo hi → as.length = its.length
  | [], [], _, _, h => rfl
  | a :: as, it :: its, lo, hi, h => by
    obtain ⟨mid, h1, h2⟩ := h
    simp [ItsC.len h2]
  | [], _ :: _, _, _, h => h.elim
  | _ :: _, [], _, _, h => h.elim
theorem ItsC.hl (hk : Hok κ σ) (hF : HL κ M MR c s σ σ') : ∀ {as : List Nat} {its : List Itm} {lo hi : Nat}, ItsC κ σ as its lo hi → Off M MR lo hi → ItsC κ σ' as its lo hi
  | [], [], _, _, h, _ => h
  | a :: as, it :: its, lo, hi, h, ho => by
    obtain ⟨mid, h1, h2⟩ := h
    have hle := ItsC.le h2
    have h3 := h1.1
    have h4 := h1.2.1
    exact ⟨mid, h1.hl hk hF (ho.sub (by omega) hle), ItsC.hl hk hF h2 (ho.sub (by omega) (Nat.le_refl _))⟩
  | [], _ :: _, _, _, h, _ => h.elim
  | _ :: _, [], _, _, h, _ => h.elim
theorem ItsC.snoc {a : Nat} {it : Itm} {mid hi : Nat} : ∀ {as : List Nat} {its : List Itm} {lo : Nat}, ItsC κ σ as its lo mid → ItmC κ σ a it mid hi → ItsC κ σ (as ++ [a]) (its ++ [it]) lo hi
  | [], [], lo, h, q => by
    have h : lo ≤ mid := h
    exact ⟨hi, ⟨by have := q.1; omega, q.2.1, q.2.2.1.wd h (Nat.le_refl _), q.2.2.2.1.wd h (Nat.le_refl _), q.2.2.2.2⟩, Nat.le_refl _⟩
  | a' :: as, it' :: its, lo, h, q => by
    obtain ⟨m', h1, h2⟩ := h
    exact ⟨m', h1, ItsC.snoc h2 q⟩
  | [], _ :: _, _, h, _ => h.elim
  | _ :: _, [], _, h, _ => h.elim
theorem ItsC.up {hi hi' : Nat} (hh : hi ≤ hi') : ∀ {as : List Nat} {its : List Itm} {lo : Nat}, ItsC κ σ as its lo hi → ItsC κ σ as its lo hi'
  | [], [], lo, h => Nat.le_trans h hh
  | a' :: as, it' :: its, lo, h => by
    obtain ⟨m', h1, h2⟩ := h
    exact ⟨m', h1, ItsC.up hh h2⟩
  | [], _ :: _, _, h => h.elim
  | _ :: _, [], _, h => h.elim
theorem BksC.le : ∀ {ws : List (Nat × List Nat)} {bs : List (List Itm)} {lo hi : Nat}, BksC κ σ ws bs lo hi → lo ≤ hi
  | [], [], _, _, h => h
  | w :: ws, b :: bs, lo, hi, h => by
    obtain ⟨mid, ⟨h1, h2, h3⟩, h4⟩ := h
    have := ItsC.le h3
    have := BksC.le h4
    omega
  | [], _ :: _, _, _, h => h.elim
  | _ :: _, [], _, _, h => h.elim
theorem BksC.len : ∀ {ws : List (Nat × List Nat)} {bs : List (List Itm)} {lo hi : Nat}, BksC κ σ ws bs lo hi → ws.length = bs.length
  | [], [], _, _, h => rfl
  | w :: ws, b :: bs, lo, hi, h => by
    obtain ⟨mid, h1, h2⟩ := h
    simp [BksC.len h2]
  | [], _ :: _, _, _, h => h.elim
  | _ :: _, [], _, _, h => h.elim
theorem BksC.hl (hk : Hok κ σ) (hF : HL κ M MR c s σ σ') : ∀ {ws : List (Nat × List Nat)} {bs : List (List Itm)} {lo hi : Nat}, BksC κ σ ws bs lo hi → Off M MR lo hi → BksC κ σ' ws bs lo hi
  | [], [], _, _, h, _ => h
  | w :: ws, b :: bs, lo, hi, h, ho => by
    obtain ⟨mid, ⟨h1, h2, h3⟩, h4⟩ := h
    have hle := BksC.le h4
    have hle2 := ItsC.le h3
    exact ⟨mid, ⟨h1, hF.al h2 (ho w.1 h1 (by omega)).1, h3.hl hk hF (ho.sub (by omega) hle)⟩, BksC.hl hk hF h4 (ho.sub (by omega) (Nat.le_refl _))⟩
  | [], _ :: _, _, _, h, _ => h.elim
  | _ :: _, [], _, _, h, _ => h.elim
theorem BksC.snoc {w : Nat × List Nat} {its : List Itm} {mid hi : Nat} (q1 : mid ≤ w.1) (q2 : AL κ σ w.1 w.2) (q3 : ItsC κ σ w.2 its (w.1 + 1) hi) : ∀ {ws : List (Nat × List Nat)} {bs : List (List Itm)} {lo : Nat}, BksC κ σ ws bs lo mid → BksC κ σ (ws ++ [w]) (bs ++ [its]) lo hi
  | [], [], lo, h => by
    have h : lo ≤ mid := h
    exact ⟨hi, ⟨by omega, q2, q3⟩, Nat.le_refl _⟩
  | w' :: ws, b' :: bs, lo, h => by
    obtain ⟨m', h1, h2⟩ := h
    exact ⟨m', h1, BksC.snoc q1 q2 q3 h2⟩
  | [], _ :: _, _, h => h.elim
  | _ :: _, [], _, h => h.elim
end IC
/-- the reader's routine as it grows: lines, rows of blocks, heads -/
def CX (κ : Nat → Option Nat) (σ : AH) (rd ln : Nat) (ws hds : List Nat) : Prop := hR σ rd 0 = some (rd + 1) ∧ hR σ rd 7 = some (rd + 8) ∧ hT σ (rd + 1) = 4 ∧ hR σ (rd + 1) 0 = some (rd + 2) ∧ hR σ (rd + 1) 1 = some (rd + 3) ∧ hR σ (rd + 1) 2 = some (rd + 4) ∧ hR σ (rd + 1) 3 = some (rd + 5) ∧ hI σ (rd + 1) 4 = nn ln ∧ hI σ (rd + 1) 5 = 0 ∧ AL κ σ (rd + 2) ws ∧ AL κ σ (rd + 3) [] ∧ AL κ σ (rd + 4) [] ∧ AL κ σ (rd + 5) [] ∧ ∃ xs, AL κ σ (rd + 8) xs ∧ xs.length = hds.length ∧ ∀ (i h : Nat), hds[i]? = some h → ∃ x, xs[i]? = some x ∧ IntO σ x (nn h)
/-- what reading may write -/
abbrev M9 (rd : Nat) : Nat → Prop := fun b => rd ≤ b ∧ b < rd + 9
abbrev MW (rd w : Nat) : Nat → Prop := fun b => (rd ≤ b ∧ b < rd + 9) ∨ b = w
section CXs
variable {κ : Nat → Option Nat} {Q : Ret AH} {σ σ' : AH} {rd o f c s ln : Nat} {l ws hds : List Nat} {nl : List (Nat × Nat)} {M : Nat → Prop}
theorem LRd.hl (h : LRd κ σ rd o l nl f) (hF : HL κ M NoM c s σ σ') (m0 : ¬ M rd) (m1 : ¬ M (rd + 6)) (m2 : ¬ M (rd + 7)) (m3 : ∀ b, M b → hT σ b ≠ 20 ∧ hT σ b ≠ 60 ∧ hT σ b ≠ 1 ∧ hT σ b ≠ 102) : LRd κ σ' rd o l nl f := ⟨h.1.hl hF m1 m2 m3, h.2.hl h.rd3 h.ok hF m0⟩
theorem CX.hl (h : CX κ σ rd ln ws hds) (hr : hT σ rd = 3) (hk : Hok κ σ) (hF : HL κ M NoM c s σ σ') (m1 : ∀ j, 1 ≤ j → j ≤ 5 → ¬ M (rd + j)) (m2 : ¬ M (rd + 8)) (m3 : ∀ b, M b → hT σ b ≠ 20 ∧ hT σ b ≠ 60) : CX κ σ' rd ln ws hds := by
  obtain ⟨a1, a2, a3, a4, a5, a6, a7, a8, a9, b1, b2, b3, b4, xs, b5, b6, b7⟩ := h
  have gi := fun j => hF.int hk a3 (by decide) (m1 1 (by omega) (by omega)) j
  have gr := fun j => hF.ref hk a3 (by decide) id j
  have gd := fun j => hF.ref hk hr (by decide) id j
  refine ⟨(gd 0).trans a1, (gd 7).trans a2, hF.tg hk a3 (by decide), (gr 0).trans a4, (gr 1).trans a5, (gr 2).trans a6, (gr 3).trans a7, (gi 4).trans a8, (gi 5).trans a9, hF.al b1 (m1 2 (by omega) (by omega)), hF.al b2 (m1 3 (by omega) (by omega)), hF.al b3 (m1 4 (by omega) (by omega)), hF.al b4 (m1 5 (by omega) (by omega)), xs, hF.al b5 m2, b6, fun i x hx => ?_⟩
  obtain ⟨y, e1, e2⟩ := b7 i x hx
  exact ⟨y, e1, e2.hl hk hF (fun z => e2.1.elim (m3 y z).1 (m3 y z).2)⟩
theorem CX.ls (hc : CX κ σ rd ln ws hds) (h : LRd κ σ rd o l nl f) (hF : HL κ (M3 rd) NoM c s σ σ') : CX κ σ' rd ln ws hds := by
  refine hc.hl h.rd3 h.ok hF (fun j h1 h2 z => ?_) (fun z => ?_) (fun b z => ?_)
  · rcases z with z | z | z <;> omega
  · rcases z with z | z | z <;> omega
  · have := h.tg z; omega
theorem CX.ln1 (hc : CX κ σ rd ln ws hds) (h : LRd κ σ rd o l nl f) : LRd κ (hsI σ (rd + 1) 4 (nn (ln + 1))) rd o l nl f ∧ CX κ (hsI σ (rd + 1) 4 (nn (ln + 1))) rd (ln + 1) ws hds ∧ HL κ (EqM (rd + 1)) NoM 0 0 σ (hsI σ (rd + 1) 4 (nn (ln + 1))) := by
  have t := hc.2.2.1
  have F : HL κ (EqM (rd + 1)) NoM 0 0 σ (hsI σ (rd + 1) 4 (nn (ln + 1))) := (HL.rfl9 (M := EqM (rd + 1)) (MR := NoM) h.ok).sI (Or.inl rfl) t (by decide)
  have hm3 : ∀ b, EqM (rd + 1) b → hT σ b = 4 := fun b q => by rw [show b = rd + 1 from q]; exact t
  refine ⟨h.hl F (by show ¬ rd = rd + 1; omega) (by show ¬ rd + 6 = rd + 1; omega) (by show ¬ rd + 7 = rd + 1; omega) (fun b q => by rw [hm3 b q]; decide), ?_, F⟩
  obtain ⟨a1, a2, a3, a4, a5, a6, a7, a8, a9, b1, b2, b3, b4, xs, b5, b6, b7⟩ := hc
  refine ⟨a1, a2, a3, a4, a5, a6, a7, by simp [hT_sI, hT_sR, hT_sG, hL_sI, hL_sR, hL_sG, hI_sI, hI_sR, hI_sG, hG_sI, hG_sR, hG_sG, hR_sI, hR_sR, hR_sG, hN_sI, hN_sR, hN_sG, hC_sI, hC_sR, hC_sG, hS_sI, hS_sR, hS_sG, hT_nw, hL_nw, hI_nw, hG_nw, hR_nw, hN_nw, hC_nw, hS_nw, hvc, hvi, dspI, vref, va_rf], by simp [hT_sI, hT_sR, hT_sG, hL_sI, hL_sR, hL_sG, hI_sI, hI_sR, hI_sG, hG_sI, hG_sR, hG_sG, hR_sI, hR_sR, hR_sG, hN_sI, hN_sR, hN_sG, hC_sI, hC_sR, hC_sG, hS_sI, hS_sR, hS_sG, hT_nw, hL_nw, hI_nw, hG_nw, hR_nw, hN_nw, hC_nw, hS_nw, hvc, hvi, dspI, vref, va_rf]; exact a9, F.al b1 (by show ¬ rd + 2 = rd + 1; omega), F.al b2 (by show ¬ rd + 3 = rd + 1; omega), F.al b3 (by show ¬ rd + 4 = rd + 1; omega), F.al b4 (by show ¬ rd + 5 = rd + 1; omega), xs, F.al b5 (by show ¬ rd + 8 = rd + 1; omega), b6, fun i x hx => ?_⟩
  obtain ⟨y, e1, e2⟩ := b7 i x hx
  exact ⟨y, e1, e2.hl h.ok F (fun z => by have := hm3 y z; rcases e2.1 with q | q <;> omega)⟩
/-- to a list that is none of the reader's -/
theorem CX.row {w : Nat} (hc : CX κ σ rd ln ws hds) (h : LRd κ σ rd o l nl f) (hw : rd + 9 ≤ w) (tw : hT σ w = 19) (hF : HL κ (EqM w) NoM c s σ σ') : LRd κ σ' rd o l nl f ∧ CX κ σ' rd ln ws hds := by
  have hm3 : ∀ b, EqM w b → hT σ b = 19 := fun b q => by rw [show b = w from q]; exact tw
  exact ⟨h.hl hF (by show ¬ rd = w; omega) (by show ¬ rd + 6 = w; omega) (by show ¬ rd + 7 = w; omega) (fun b q => by rw [hm3 b q]; decide), hc.hl h.rd3 h.ok hF (fun j h1 h2 => by show ¬ rd + j = w; omega) (by show ¬ rd + 8 = w; omega) (fun b q => by rw [hm3 b q]; decide)⟩
/-- what may begin a line -/
theorem ls_begs {X : Cont AH} {w : Nat} (h : LRd κ σ rd o l nl f)
    (k1 : begs (tpF l) l.length f = true → bX3_block_147 κ Q X [some (.ref rd), none, some (.ref w), some (.int 0), none, none] [] σ)
    (k0 : begs (tpF l) l.length f = false → bX3_block_151 κ Q X [some (.ref rd), none, some (.ref w), some (.int 0), none, none] [] σ) :
    (o_il 3 <|
    o_if_ne (bX3_block_225 κ Q) <|
    o_al 0 <|
    o_cst κ 1 <|
    o_call 2 (hvc [(3, pX3_isWord κ)]) (fun _ a σ => Q (.inr a) σ) <|
    o_if_ne (bX3_block_147 κ Q X) <|
    o_al 0 <|
    o_cst κ 2 <|
    o_call 2 (hvc [(3, pX3_isWord κ)]) (fun _ a σ => Q (.inr a) σ) <|
    o_if_ne (bX3_block_147 κ Q X) <|
    o_al 0 <|
    o_cst κ 3 <|
    o_call 2 (hvc [(3, pX3_isWord κ)]) (fun _ a σ => Q (.inr a) σ) <|
    o_if_ne (bX3_block_147 κ Q X) <|
    o_al 0 <|
    o_cst κ 4 <|
    o_call 2 (hvc [(3, pX3_isWord κ)]) (fun _ a σ => Q (.inr a) σ) <|
    o_if_ne (bX3_block_147 κ Q X) <|
    o_al 0 <|
    o_call 1 (hvc [(3, pX3_nameHere κ)]) (fun _ a σ => Q (.inr a) σ) <|
    o_ic (-1) <|
    o_icmp_ne (bX3_block_147 κ Q X) <|
    o_al 0 <|
    o_ic 114 <|
    o_ic 1 <|
    o_call 3 (hvc [(3, pX3_numbered κ)]) (fun _ a σ => Q (.inr a) σ) <|
    o_ic (-1) <|
    o_icmp_eq (bX3_block_151 κ Q X) <|
    (bX3_block_147 κ Q X)) [some (.ref rd), none, some (.ref w), some (.int 0), none, none] [] σ := by
  obtain ⟨s1, es1, -⟩ := h.1.2.1.2 1 (by decide)
  obtain ⟨s2, es2, -⟩ := h.1.2.1.2 2 (by decide)
  obtain ⟨s3, es3, -⟩ := h.1.2.1.2 3 (by decide)
  obtain ⟨s4, es4, -⟩ := h.1.2.1.2 4 (by decide)
  unfold begs at k1 k0
  simp [o_ic, o_lc, o_null, o_il, o_ll, o_al, o_dup, o_pop, o_dup_x1, o_dup2, o_iadd, o_isub, o_imul, o_iand, o_ior, o_ixor, o_ishl, o_ishr, o_idiv, o_irem, o_ineg, o_ladd, o_lsub, o_lmul, o_land, o_lor, o_lxor, o_ldiv, o_lrem, o_lneg, o_lcmp, o_i2l, o_l2i, o_i2b, o_i2c, o_iushr, o_lshl, o_lshr, o_if_eq, o_if_ne, o_if_lt, o_if_ge, o_if_gt, o_if_le, o_icmp_eq, o_icmp_ne, o_icmp_lt, o_icmp_ge, o_icmp_gt, o_icmp_le, o_ifnull, o_ifnonnull, o_acmp_eq, o_acmp_ne, o_is, o_ls, o_as, o_iinc, o_kill, o_sw, o_ireturn, o_zreturn, o_nreturn, o_lreturn, o_areturn, o_return, o_athrow, o_call, entP, lg_sl, Value.category, st1, st2, List.set, List.getElem?_cons_zero, List.getElem?_cons_succ, List.foldl, popN, aft, o_gI, o_gR, o_pI, o_pN, o_pR, o_aI, o_aG, o_aR, o_len, o_aR8, o_sI, o_sB, o_sZ, o_sG, o_new, o_newA, o_cast, o_inst, o_cst, o_oi, o_sR, o_gIc, o_gSv, o_gSc, o_getc, o_dead, o_acopy, o_castA, o_castI, o_sR7, o_mna, o_mmax, o_mmin, o_mabs, hT_sI, hT_sR, hT_sG, hL_sI, hL_sR, hL_sG, hI_sI, hI_sR, hI_sG, hG_sI, hG_sR, hG_sG, hR_sI, hR_sR, hR_sG, hN_sI, hN_sR, hN_sG, hC_sI, hC_sR, hC_sG, hS_sI, hS_sR, hS_sG, hT_nw, hL_nw, hI_nw, hG_nw, hR_nw, hN_nw, hC_nw, hS_nw, hvc, hvi, dspI, vref, va_rf, h.rd3, es1]
  refine h.wd (i := 1) (by decide) kTx1 es1 (by decide) ?_
  by_cases w1 : isW (tpF l) l.length f wTell = true
  · rw [if_pos w1]
    simp [o_ic, o_lc, o_null, o_il, o_ll, o_al, o_dup, o_pop, o_dup_x1, o_dup2, o_iadd, o_isub, o_imul, o_iand, o_ior, o_ixor, o_ishl, o_ishr, o_idiv, o_irem, o_ineg, o_ladd, o_lsub, o_lmul, o_land, o_lor, o_lxor, o_ldiv, o_lrem, o_lneg, o_lcmp, o_i2l, o_l2i, o_i2b, o_i2c, o_iushr, o_lshl, o_lshr, o_if_eq, o_if_ne, o_if_lt, o_if_ge, o_if_gt, o_if_le, o_icmp_eq, o_icmp_ne, o_icmp_lt, o_icmp_ge, o_icmp_gt, o_icmp_le, o_ifnull, o_ifnonnull, o_acmp_eq, o_acmp_ne, o_is, o_ls, o_as, o_iinc, o_kill, o_sw, o_ireturn, o_zreturn, o_nreturn, o_lreturn, o_areturn, o_return, o_athrow, o_call, entP, lg_sl, Value.category, st1, st2, List.set, List.getElem?_cons_zero, List.getElem?_cons_succ, List.foldl, popN, aft]
    exact k1 (by simp [w1])
  rw [if_neg w1]
  simp [o_ic, o_lc, o_null, o_il, o_ll, o_al, o_dup, o_pop, o_dup_x1, o_dup2, o_iadd, o_isub, o_imul, o_iand, o_ior, o_ixor, o_ishl, o_ishr, o_idiv, o_irem, o_ineg, o_ladd, o_lsub, o_lmul, o_land, o_lor, o_lxor, o_ldiv, o_lrem, o_lneg, o_lcmp, o_i2l, o_l2i, o_i2b, o_i2c, o_iushr, o_lshl, o_lshr, o_if_eq, o_if_ne, o_if_lt, o_if_ge, o_if_gt, o_if_le, o_icmp_eq, o_icmp_ne, o_icmp_lt, o_icmp_ge, o_icmp_gt, o_icmp_le, o_ifnull, o_ifnonnull, o_acmp_eq, o_acmp_ne, o_is, o_ls, o_as, o_iinc, o_kill, o_sw, o_ireturn, o_zreturn, o_nreturn, o_lreturn, o_areturn, o_return, o_athrow, o_call, entP, lg_sl, Value.category, st1, st2, List.set, List.getElem?_cons_zero, List.getElem?_cons_succ, List.foldl, popN, aft, o_gI, o_gR, o_pI, o_pN, o_pR, o_aI, o_aG, o_aR, o_len, o_aR8, o_sI, o_sB, o_sZ, o_sG, o_new, o_newA, o_cast, o_inst, o_cst, o_oi, o_sR, o_gIc, o_gSv, o_gSc, o_getc, o_dead, o_acopy, o_castA, o_castI, o_sR7, o_mna, o_mmax, o_mmin, o_mabs, hT_sI, hT_sR, hT_sG, hL_sI, hL_sR, hL_sG, hI_sI, hI_sR, hI_sG, hG_sI, hG_sR, hG_sG, hR_sI, hR_sR, hR_sG, hN_sI, hN_sR, hN_sG, hC_sI, hC_sR, hC_sG, hS_sI, hS_sR, hS_sG, hT_nw, hL_nw, hI_nw, hG_nw, hR_nw, hN_nw, hC_nw, hS_nw, hvc, hvi, dspI, vref, va_rf, h.rd3, es2]
  refine h.wd (i := 2) (by decide) kTx2 es2 (by decide) ?_
  by_cases w2 : isW (tpF l) l.length f wGo = true
  · rw [if_pos w2]
    simp [o_ic, o_lc, o_null, o_il, o_ll, o_al, o_dup, o_pop, o_dup_x1, o_dup2, o_iadd, o_isub, o_imul, o_iand, o_ior, o_ixor, o_ishl, o_ishr, o_idiv, o_irem, o_ineg, o_ladd, o_lsub, o_lmul, o_land, o_lor, o_lxor, o_ldiv, o_lrem, o_lneg, o_lcmp, o_i2l, o_l2i, o_i2b, o_i2c, o_iushr, o_lshl, o_lshr, o_if_eq, o_if_ne, o_if_lt, o_if_ge, o_if_gt, o_if_le, o_icmp_eq, o_icmp_ne, o_icmp_lt, o_icmp_ge, o_icmp_gt, o_icmp_le, o_ifnull, o_ifnonnull, o_acmp_eq, o_acmp_ne, o_is, o_ls, o_as, o_iinc, o_kill, o_sw, o_ireturn, o_zreturn, o_nreturn, o_lreturn, o_areturn, o_return, o_athrow, o_call, entP, lg_sl, Value.category, st1, st2, List.set, List.getElem?_cons_zero, List.getElem?_cons_succ, List.foldl, popN, aft]
    exact k1 (by simp [w2])
  rw [if_neg w2]
  simp [o_ic, o_lc, o_null, o_il, o_ll, o_al, o_dup, o_pop, o_dup_x1, o_dup2, o_iadd, o_isub, o_imul, o_iand, o_ior, o_ixor, o_ishl, o_ishr, o_idiv, o_irem, o_ineg, o_ladd, o_lsub, o_lmul, o_land, o_lor, o_lxor, o_ldiv, o_lrem, o_lneg, o_lcmp, o_i2l, o_l2i, o_i2b, o_i2c, o_iushr, o_lshl, o_lshr, o_if_eq, o_if_ne, o_if_lt, o_if_ge, o_if_gt, o_if_le, o_icmp_eq, o_icmp_ne, o_icmp_lt, o_icmp_ge, o_icmp_gt, o_icmp_le, o_ifnull, o_ifnonnull, o_acmp_eq, o_acmp_ne, o_is, o_ls, o_as, o_iinc, o_kill, o_sw, o_ireturn, o_zreturn, o_nreturn, o_lreturn, o_areturn, o_return, o_athrow, o_call, entP, lg_sl, Value.category, st1, st2, List.set, List.getElem?_cons_zero, List.getElem?_cons_succ, List.foldl, popN, aft, o_gI, o_gR, o_pI, o_pN, o_pR, o_aI, o_aG, o_aR, o_len, o_aR8, o_sI, o_sB, o_sZ, o_sG, o_new, o_newA, o_cast, o_inst, o_cst, o_oi, o_sR, o_gIc, o_gSv, o_gSc, o_getc, o_dead, o_acopy, o_castA, o_castI, o_sR7, o_mna, o_mmax, o_mmin, o_mabs, hT_sI, hT_sR, hT_sG, hL_sI, hL_sR, hL_sG, hI_sI, hI_sR, hI_sG, hG_sI, hG_sR, hG_sG, hR_sI, hR_sR, hR_sG, hN_sI, hN_sR, hN_sG, hC_sI, hC_sR, hC_sG, hS_sI, hS_sR, hS_sG, hT_nw, hL_nw, hI_nw, hG_nw, hR_nw, hN_nw, hC_nw, hS_nw, hvc, hvi, dspI, vref, va_rf, h.rd3, es3]
  refine h.wd (i := 3) (by decide) kTx3 es3 (by decide) ?_
  by_cases w3 : isW (tpF l) l.length f wIf = true
  · rw [if_pos w3]
    simp [o_ic, o_lc, o_null, o_il, o_ll, o_al, o_dup, o_pop, o_dup_x1, o_dup2, o_iadd, o_isub, o_imul, o_iand, o_ior, o_ixor, o_ishl, o_ishr, o_idiv, o_irem, o_ineg, o_ladd, o_lsub, o_lmul, o_land, o_lor, o_lxor, o_ldiv, o_lrem, o_lneg, o_lcmp, o_i2l, o_l2i, o_i2b, o_i2c, o_iushr, o_lshl, o_lshr, o_if_eq, o_if_ne, o_if_lt, o_if_ge, o_if_gt, o_if_le, o_icmp_eq, o_icmp_ne, o_icmp_lt, o_icmp_ge, o_icmp_gt, o_icmp_le, o_ifnull, o_ifnonnull, o_acmp_eq, o_acmp_ne, o_is, o_ls, o_as, o_iinc, o_kill, o_sw, o_ireturn, o_zreturn, o_nreturn, o_lreturn, o_areturn, o_return, o_athrow, o_call, entP, lg_sl, Value.category, st1, st2, List.set, List.getElem?_cons_zero, List.getElem?_cons_succ, List.foldl, popN, aft]
    exact k1 (by simp [w3])
  rw [if_neg w3]
  simp [o_ic, o_lc, o_null, o_il, o_ll, o_al, o_dup, o_pop, o_dup_x1, o_dup2, o_iadd, o_isub, o_imul, o_iand, o_ior, o_ixor, o_ishl, o_ishr, o_idiv, o_irem, o_ineg, o_ladd, o_lsub, o_lmul, o_land, o_lor, o_lxor, o_ldiv, o_lrem, o_lneg, o_lcmp, o_i2l, o_l2i, o_i2b, o_i2c, o_iushr, o_lshl, o_lshr, o_if_eq, o_if_ne, o_if_lt, o_if_ge, o_if_gt, o_if_le, o_icmp_eq, o_icmp_ne, o_icmp_lt, o_icmp_ge, o_icmp_gt, o_icmp_le, o_ifnull, o_ifnonnull, o_acmp_eq, o_acmp_ne, o_is, o_ls, o_as, o_iinc, o_kill, o_sw, o_ireturn, o_zreturn, o_nreturn, o_lreturn, o_areturn, o_return, o_athrow, o_call, entP, lg_sl, Value.category, st1, st2, List.set, List.getElem?_cons_zero, List.getElem?_cons_succ, List.foldl, popN, aft, o_gI, o_gR, o_pI, o_pN, o_pR, o_aI, o_aG, o_aR, o_len, o_aR8, o_sI, o_sB, o_sZ, o_sG, o_new, o_newA, o_cast, o_inst, o_cst, o_oi, o_sR, o_gIc, o_gSv, o_gSc, o_getc, o_dead, o_acopy, o_castA, o_castI, o_sR7, o_mna, o_mmax, o_mmin, o_mabs, hT_sI, hT_sR, hT_sG, hL_sI, hL_sR, hL_sG, hI_sI, hI_sR, hI_sG, hG_sI, hG_sR, hG_sG, hR_sI, hR_sR, hR_sG, hN_sI, hN_sR, hN_sG, hC_sI, hC_sR, hC_sG, hS_sI, hS_sR, hS_sG, hT_nw, hL_nw, hI_nw, hG_nw, hR_nw, hN_nw, hC_nw, hS_nw, hvc, hvi, dspI, vref, va_rf, h.rd3, es4]
  refine h.wd (i := 4) (by decide) kTx4 es4 (by decide) ?_
  by_cases w4 : isW (tpF l) l.length f wLeave = true
  · rw [if_pos w4]
    simp [o_ic, o_lc, o_null, o_il, o_ll, o_al, o_dup, o_pop, o_dup_x1, o_dup2, o_iadd, o_isub, o_imul, o_iand, o_ior, o_ixor, o_ishl, o_ishr, o_idiv, o_irem, o_ineg, o_ladd, o_lsub, o_lmul, o_land, o_lor, o_lxor, o_ldiv, o_lrem, o_lneg, o_lcmp, o_i2l, o_l2i, o_i2b, o_i2c, o_iushr, o_lshl, o_lshr, o_if_eq, o_if_ne, o_if_lt, o_if_ge, o_if_gt, o_if_le, o_icmp_eq, o_icmp_ne, o_icmp_lt, o_icmp_ge, o_icmp_gt, o_icmp_le, o_ifnull, o_ifnonnull, o_acmp_eq, o_acmp_ne, o_is, o_ls, o_as, o_iinc, o_kill, o_sw, o_ireturn, o_zreturn, o_nreturn, o_lreturn, o_areturn, o_return, o_athrow, o_call, entP, lg_sl, Value.category, st1, st2, List.set, List.getElem?_cons_zero, List.getElem?_cons_succ, List.foldl, popN, aft]
    exact k1 (by simp [w4])
  rw [if_neg w4]
  simp [o_ic, o_lc, o_null, o_il, o_ll, o_al, o_dup, o_pop, o_dup_x1, o_dup2, o_iadd, o_isub, o_imul, o_iand, o_ior, o_ixor, o_ishl, o_ishr, o_idiv, o_irem, o_ineg, o_ladd, o_lsub, o_lmul, o_land, o_lor, o_lxor, o_ldiv, o_lrem, o_lneg, o_lcmp, o_i2l, o_l2i, o_i2b, o_i2c, o_iushr, o_lshl, o_lshr, o_if_eq, o_if_ne, o_if_lt, o_if_ge, o_if_gt, o_if_le, o_icmp_eq, o_icmp_ne, o_icmp_lt, o_icmp_ge, o_icmp_gt, o_icmp_le, o_ifnull, o_ifnonnull, o_acmp_eq, o_acmp_ne, o_is, o_ls, o_as, o_iinc, o_kill, o_sw, o_ireturn, o_zreturn, o_nreturn, o_lreturn, o_areturn, o_return, o_athrow, o_call, entP, lg_sl, Value.category, st1, st2, List.set, List.getElem?_cons_zero, List.getElem?_cons_succ, List.foldl, popN, aft, o_gI, o_gR, o_pI, o_pN, o_pR, o_aI, o_aG, o_aR, o_len, o_aR8, o_sI, o_sB, o_sZ, o_sG, o_new, o_newA, o_cast, o_inst, o_cst, o_oi, o_sR, o_gIc, o_gSv, o_gSc, o_getc, o_dead, o_acopy, o_castA, o_castI, o_sR7, o_mna, o_mmax, o_mmin, o_mabs, hT_sI, hT_sR, hT_sG, hL_sI, hL_sR, hL_sG, hI_sI, hI_sR, hI_sG, hG_sI, hG_sR, hG_sG, hR_sI, hR_sR, hR_sG, hN_sI, hN_sR, hN_sG, hC_sI, hC_sR, hC_sG, hS_sI, hS_sR, hS_sG, hT_nw, hL_nw, hI_nw, hG_nw, hR_nw, hN_nw, hC_nw, hS_nw, hvc, hvi, dspI, vref, va_rf, h.rd3]
  refine ct_nameHere h.1.2.2.1 h.2 ?_
  cases hnm : nmA (tpF l) l.length f with
  | some n =>
    have bn := (nmA_srt hnm).2
    have b9' : n < 2147483648 := by omega
    simp [o_ic, o_lc, o_null, o_il, o_ll, o_al, o_dup, o_pop, o_dup_x1, o_dup2, o_iadd, o_isub, o_imul, o_iand, o_ior, o_ixor, o_ishl, o_ishr, o_idiv, o_irem, o_ineg, o_ladd, o_lsub, o_lmul, o_land, o_lor, o_lxor, o_ldiv, o_lrem, o_lneg, o_lcmp, o_i2l, o_l2i, o_i2b, o_i2c, o_iushr, o_lshl, o_lshr, o_if_eq, o_if_ne, o_if_lt, o_if_ge, o_if_gt, o_if_le, o_icmp_eq, o_icmp_ne, o_icmp_lt, o_icmp_ge, o_icmp_gt, o_icmp_le, o_ifnull, o_ifnonnull, o_acmp_eq, o_acmp_ne, o_is, o_ls, o_as, o_iinc, o_kill, o_sw, o_ireturn, o_zreturn, o_nreturn, o_lreturn, o_areturn, o_return, o_athrow, o_call, entP, lg_sl, Value.category, st1, st2, List.set, List.getElem?_cons_zero, List.getElem?_cons_succ, List.foldl, popN, aft, onn, nn_eqL, nn_ltL, nn_leL, nn_Llt, nn_Lle, nn_lt, nn_le, nn_eq, nn_in, nn_clamp, nn_succ, nn_pos, nn_neg1, b9']
    exact k1 (by simp [hnm])
  | none =>
    simp [o_ic, o_lc, o_null, o_il, o_ll, o_al, o_dup, o_pop, o_dup_x1, o_dup2, o_iadd, o_isub, o_imul, o_iand, o_ior, o_ixor, o_ishl, o_ishr, o_idiv, o_irem, o_ineg, o_ladd, o_lsub, o_lmul, o_land, o_lor, o_lxor, o_ldiv, o_lrem, o_lneg, o_lcmp, o_i2l, o_l2i, o_i2b, o_i2c, o_iushr, o_lshl, o_lshr, o_if_eq, o_if_ne, o_if_lt, o_if_ge, o_if_gt, o_if_le, o_icmp_eq, o_icmp_ne, o_icmp_lt, o_icmp_ge, o_icmp_gt, o_icmp_le, o_ifnull, o_ifnonnull, o_acmp_eq, o_acmp_ne, o_is, o_ls, o_as, o_iinc, o_kill, o_sw, o_ireturn, o_zreturn, o_nreturn, o_lreturn, o_areturn, o_return, o_athrow, o_call, entP, lg_sl, Value.category, st1, st2, List.set, List.getElem?_cons_zero, List.getElem?_cons_succ, List.foldl, popN, aft, o_gI, o_gR, o_pI, o_pN, o_pR, o_aI, o_aG, o_aR, o_len, o_aR8, o_sI, o_sB, o_sZ, o_sG, o_new, o_newA, o_cast, o_inst, o_cst, o_oi, o_sR, o_gIc, o_gSv, o_gSc, o_getc, o_dead, o_acopy, o_castA, o_castI, o_sR7, o_mna, o_mmax, o_mmin, o_mabs, hT_sI, hT_sR, hT_sG, hL_sI, hL_sR, hL_sG, hI_sI, hI_sR, hI_sG, hG_sI, hG_sR, hG_sG, hR_sI, hR_sR, hR_sG, hN_sI, hN_sR, hN_sG, hC_sI, hC_sR, hC_sG, hS_sI, hS_sR, hS_sG, hT_nw, hL_nw, hI_nw, hG_nw, hR_nw, hN_nw, hC_nw, hS_nw, hvc, hvi, dspI, vref, va_rf, onn, h.rd3]
    refine ct_numbered (c := 114) (most := 1) h.1.2.2.1 h.2 (by omega) (by omega) ?_
    cases hrow : numb (tpF l) l.length f 114 1 with
    | some row =>
      have bw := numb_le hrow
      have bw' : row < 2147483648 := by omega
      simp [o_ic, o_lc, o_null, o_il, o_ll, o_al, o_dup, o_pop, o_dup_x1, o_dup2, o_iadd, o_isub, o_imul, o_iand, o_ior, o_ixor, o_ishl, o_ishr, o_idiv, o_irem, o_ineg, o_ladd, o_lsub, o_lmul, o_land, o_lor, o_lxor, o_ldiv, o_lrem, o_lneg, o_lcmp, o_i2l, o_l2i, o_i2b, o_i2c, o_iushr, o_lshl, o_lshr, o_if_eq, o_if_ne, o_if_lt, o_if_ge, o_if_gt, o_if_le, o_icmp_eq, o_icmp_ne, o_icmp_lt, o_icmp_ge, o_icmp_gt, o_icmp_le, o_ifnull, o_ifnonnull, o_acmp_eq, o_acmp_ne, o_is, o_ls, o_as, o_iinc, o_kill, o_sw, o_ireturn, o_zreturn, o_nreturn, o_lreturn, o_areturn, o_return, o_athrow, o_call, entP, lg_sl, Value.category, st1, st2, List.set, List.getElem?_cons_zero, List.getElem?_cons_succ, List.foldl, popN, aft, onn, nn_eqL, nn_ltL, nn_leL, nn_Llt, nn_Lle, nn_lt, nn_le, nn_eq, nn_in, nn_clamp, nn_succ, nn_pos, nn_neg1, bw']
      exact k1 (by simp [hrow])
    | none =>
      simp [o_ic, o_lc, o_null, o_il, o_ll, o_al, o_dup, o_pop, o_dup_x1, o_dup2, o_iadd, o_isub, o_imul, o_iand, o_ior, o_ixor, o_ishl, o_ishr, o_idiv, o_irem, o_ineg, o_ladd, o_lsub, o_lmul, o_land, o_lor, o_lxor, o_ldiv, o_lrem, o_lneg, o_lcmp, o_i2l, o_l2i, o_i2b, o_i2c, o_iushr, o_lshl, o_lshr, o_if_eq, o_if_ne, o_if_lt, o_if_ge, o_if_gt, o_if_le, o_icmp_eq, o_icmp_ne, o_icmp_lt, o_icmp_ge, o_icmp_gt, o_icmp_le, o_ifnull, o_ifnonnull, o_acmp_eq, o_acmp_ne, o_is, o_ls, o_as, o_iinc, o_kill, o_sw, o_ireturn, o_zreturn, o_nreturn, o_lreturn, o_areturn, o_return, o_athrow, o_call, entP, lg_sl, Value.category, st1, st2, List.set, List.getElem?_cons_zero, List.getElem?_cons_succ, List.foldl, popN, aft, onn]
      exact k0 (by simp [hnm, hrow, w1, w2, w3, w4])
end CXs
