/-! THE COMPONENT: close joins ends to blocks -/
set_option maxRecDepth 100000
def updA (f : Nat → Nat) (m v : Nat) : Nat → Nat := fun k => if k = m then v else f k
theorem updA_eq (f : Nat → Nat) (m v : Nat) : updA f m v m = v := by unfold updA; rw [if_pos rfl]
theorem updA_ne (f : Nat → Nat) {m v k : Nat} (h : k ≠ m) : updA f m v k = f k := by unfold updA; rw [if_neg h]
theorem map_updA {f : Nat → Nat} {m v : Nat} {l : List Nat} (h : ∀ x ∈ l, x ≠ m) : l.map (updA f m v) = l.map f := List.map_congr_left (fun x hx => updA_ne f (h x hx))
def EdOk (E : Edg) (m : Nat) : Prop := ∀ e ∈ E, e.1 < m ∧ e.2 < m
theorem outE_mem {E : Edg} {k x : Nat} (h : x ∈ outE E k) : (k, x) ∈ E := by
  unfold outE at h
  rw [List.mem_filterMap] at h
  obtain ⟨e, h1, h2⟩ := h
  split at h2
  · next q => cases h2; rw [← q]; exact h1
  · cases h2
theorem inE_mem {E : Edg} {k x : Nat} (h : x ∈ inE E k) : (x, k) ∈ E := by
  unfold inE at h
  rw [List.mem_filterMap] at h
  obtain ⟨e, h1, h2⟩ := h
  split at h2
  · next q => cases h2; rw [← q]; exact h1
  · cases h2
section JN
variable {κ : Nat → Option Nat} {Q : Ret AH} {σ σ0 σ' : AH} {r m : Nat} {R : Rt} {wss : List (Nat × List Nat)} {A lo hi NX BF : Nat → Nat} {E : Edg} {c s : Nat} {ow : List Nat}
/-- a node more, that nothing leads to as yet -/
theorem CS.add {a x y : Nat} (C : CS κ σ r R wss m A lo hi NX BF E) (w : WfR R) (h0 : 0 < R.2.length) (hm : R.1.length ≤ m) (hE : EdOk E m) (F : HL κ NoM NoM c s σ σ') (ta : hT σ' a = 14) (e2 : hR σ' a 2 = some x) (e3 : hR σ' a 3 = some y) (ax : AL κ σ' x []) (ay : AL κ σ' y []) (hxy : x ≠ y) (na : hN σ ≤ a) (nx' : hN σ ≤ x) (ny : hN σ ≤ y) :
    CS κ σ' r R wss (m + 1) (updA A m a) (updA lo m (hN σ)) (updA hi m (hN σ')) (updA NX m x) (updA BF m y) E := by
  have C' := C.fr F id id (fun _ _ _ => id) (fun _ _ => ⟨id, id⟩) (fun _ _ => id)
  have hk' := F.ok
  have lt : ∀ k, k < m → updA A m a k = A k ∧ updA lo m (hN σ) k = lo k ∧ updA hi m (hN σ') k = hi k ∧ updA NX m x k = NX k ∧ updA BF m y k = BF k := fun k hk => ⟨updA_ne _ (by omega), updA_ne _ (by omega), updA_ne _ (by omega), updA_ne _ (by omega), updA_ne _ (by omega)⟩
  have hlo : r + 8 ≤ hN σ := by
    have := w.2.2.1 0 h0
    have := C.iv 0 (by omega)
    omega
  refine ⟨hk', C'.tr, C'.rr, C'.al, C'.wl, fun b ww hb => ?_, fun i j hij hj => ?_, fun k hk => ?_, fun k hk => ?_⟩
  · obtain ⟨q1, q2, q3, q4, q5⟩ := C'.rows b ww hb
    have hbl := (List.getElem?_eq_some_iff.1 hb).1
    have hbr : b < R.2.length := by rw [← C.wl]; exact hbl
    have hw := w.2.2.1 b hbr
    refine ⟨q1, q2, q3, fun j hj => ?_, fun k hk => ?_⟩
    · rw [(lt _ (by omega)).1]; exact q4 j hj
    · by_cases e : k = m
      · subst e
        rw [updA_eq, updA_eq]
        have := C.ok.1.lt (a := ww.1) (by rw [(C.rows b ww hb).1.1]; decide)
        omega
      · rw [(lt k (by omega)).2.1, (lt k (by omega)).2.2.1]; exact q5 k (by omega)
  · by_cases e : j = m
    · subst e
      rw [updA_eq, (lt i hij).2.2.1]
      have := C.iv i hij
      omega
    · rw [(lt j (by omega)).2.1, (lt i (by omega)).2.2.1]; exact C.ch i j hij (by omega)
  · by_cases e : k = m
    · subst e
      simp only [updA_eq]
      have l1 := hk'.1.lt (a := a) (by rw [ta]; decide)
      have l2 := hk'.1.lt (a := x) (by rw [ax.1]; decide)
      have l3 := hk'.1.lt (a := y) (by rw [ay.1]; decide)
      exact ⟨hlo, na, l1, nx', l2, ny, l3, hxy, Nat.le_refl _⟩
    · obtain ⟨z1, z2, z3, z4, z5⟩ := lt k (by omega)
      rw [z1, z2, z3, z4, z5]; exact C'.iv k (by omega)
  · by_cases e : k = m
    · subst e
      simp only [updA_eq]
      have o0 : outE E k = [] := outE_nil (fun e he => by have := hE e he; omega)
      have i0 : inE E k = [] := inE_nil (fun e he => by have := hE e he; omega)
      rw [o0, i0]
      exact ⟨by rw [ta]; decide, e2, e3, ax, ay⟩
    · obtain ⟨z1, z2, z3, z4, z5⟩ := lt k (by omega)
      rw [z1, z4, z5, map_updA (fun x hx => by have := hE _ (outE_mem hx); simp only at this; omega), map_updA (fun x hx => by have := hE _ (inE_mem hx); simp only at this; omega)]
      exact C'.nd k (by omega)
/-- one way of an end, from line k to block t -/
def jn1 (R : Rt) (k nw t : Nat) (ow : List Nat) (E : Edg) : List Nat × Edg := if nw < 2 ∨ wyE R t < 2 then (ow, E ++ [(k, fstN R.2 t)]) else (ow ++ [t], E ++ [(k, R.1.length + ow.length), (R.1.length + ow.length, fstN R.2 t)])
def P3X (κ : Nat → Option Nat) (σ0 σ : AH) (r : Nat) (R : Rt) (wss : List (Nat × List Nat)) (ow : List Nat) (E : Edg) (c s : Nat) : Prop := ∃ A lo hi NX BF, P3 κ σ0 σ r R wss A lo hi NX BF ow E c s
/-- what is known of the edges while ends are joined -/
def JOk (R : Rt) (ow : List Nat) (E : Edg) (q : Nat) : Prop := EdOk E (R.1.length + ow.length) ∧ ow.length ≤ q ∧ E.length ≤ (e3 R R.1.length).length + 2 * q ∧ (∀ t, t < R.2.length → (inE E (fstN R.2 t)).length ≤ 2 * q)
theorem inE_le (E : Edg) (k : Nat) : (inE E k).length ≤ E.length := by unfold inE; exact List.length_filterMap_le _ _
theorem ct_joins {b t nw q : Nat} (h : P3X κ σ0 σ r R wss ow E c s) (w : WfR R) (hT9 : TgOk R) (hb : b < R.2.length) (ht : t < R.2.length) (hnW : nw = (iT (endI R b)).length) (hJ : JOk R ow E q) (hq : q < 80) (ho : (outE E (lastN R b)).length < 2) (r1 : 8 ≤ hC σ) (r2 : 870 ≤ hS σ)
    (kk : ∀ σ', P3X κ σ0 σ' r R wss (jn1 R (lastN R b) nw t ow E).1 (jn1 R (lastN R b) nw t ow E).2 (c + 8) (s + 870) → Q (.inl none) σ') : pX4_joins κ [.ref r, .ref (eA wss b), .int (nn t)] σ Q := by
  obtain ⟨A, lo, hi, NX, BF, h⟩ := h
  have C := h.cs
  have V := C.endV w h.it
  obtain ⟨j1, j2, j3, j4⟩ := hJ
  have hbw := end_get w hb
  have hlast : lastN R b < R.1.length + ow.length := by have := hbw.2.1; omega
  have htw := w.2.2.1 t ht
  have hfst : fstN R.2 t < R.1.length + ow.length := by omega
  have hea := C.eA w hb
  have hln := w.1
  have hnb := w.2.1
  obtain ⟨bl, v1, v2, v3, v4, v5, v6⟩ := id V
  have hE : EndA σ R b (eA wss b) := (v6 b _ (List.getElem?_eq_getElem (by omega))).2.2
  have te : hT σ (eA wss b) = 11 ∨ hT σ (eA wss b) = 12 ∨ hT σ (eA wss b) = 13 := by obtain ⟨q1, q2, q3, -⟩ := hE; omega
  have htl : t < wss.length := by omega
  have hg : wss[t]? = some wss[t] := List.getElem?_eq_getElem htl
  have hgm : (wss.map (·.1))[t]? = some wss[t].1 := by rw [List.getElem?_map, hg]; rfl
  obtain ⟨q1, q2, q3, q4, q5⟩ := C.rows t _ hg
  have h00 := q4 0 (by omega)
  rw [Nat.add_zero] at h00
  have tf := C.tgA hfst
  have tl := C.tgA hlast
  have r0 := C.rr 0 (by omega)
  have rr1 := C.rr 1 (by omega)
  have bt : t < 2147483648 := by omega
  have hx40 : ∀ a, a < R.2.length → ∀ x ∈ iT (endI R a), x.2 < 40 := fun a ha x hx => by
    obtain ⟨e1, -⟩ := end_get w ha
    have := hT9 (a, endI R a) (List.mem_of_getElem? e1) x hx
    omega
  have bw := wyC_le R t R.2.length
  have bw2 : wyE R t < 2147483648 := by unfold wyE; omega
  have bnw : nw < 2147483648 := by
    rw [hnW]
    obtain ⟨-, -, q4', q5'⟩ := hbw
    obtain ⟨-, -, -, -, -, -, -, -, r4, r5, r6, -⟩ := q5'
    by_cases z4 : (endI R b).1 = 4
    · obtain ⟨t, e⟩ := r4 z4; rw [e]; simp
    · by_cases z5 : (endI R b).1 = 5
      · obtain ⟨t, u, e⟩ := r5 z5; rw [e]; simp
      · rw [r6 z4 z5]; simp
  have te' : hT σ (A (lastN R b)) = 11 ∨ hT σ (A (lastN R b)) = 12 ∨ hT σ (A (lastN R b)) = 13 := by rw [← hea]; exact te
  have direct : (nw < 2 ∨ wyE R t < 2) → bX4_joins_36 κ Q [some (.ref r), some (.ref (A (lastN R b))), some (.int (nn t)), some (.ref (A (fstN R.2 t))), none] [] σ := by
    intro hd
    simp [bX4_joins_36, o_ic, o_lc, o_null, o_il, o_ll, o_al, o_dup, o_pop, o_dup_x1, o_dup2, o_iadd, o_isub, o_imul, o_iand, o_ior, o_ixor, o_ishl, o_ishr, o_idiv, o_irem, o_ineg, o_ladd, o_lsub, o_lmul, o_land, o_lor, o_lxor, o_ldiv, o_lrem, o_lneg, o_lcmp, o_i2l, o_l2i, o_i2b, o_i2c, o_iushr, o_lshl, o_lshr, o_if_eq, o_if_ne, o_if_lt, o_if_ge, o_if_gt, o_if_le, o_icmp_eq, o_icmp_ne, o_icmp_lt, o_icmp_ge, o_icmp_gt, o_icmp_le, o_ifnull, o_ifnonnull, o_acmp_eq, o_acmp_ne, o_is, o_ls, o_as, o_iinc, o_kill, o_sw, o_ireturn, o_zreturn, o_nreturn, o_lreturn, o_areturn, o_return, o_athrow, o_call, entP, lg_sl, Value.category, st1, st2, List.set, List.getElem?_cons_zero, List.getElem?_cons_succ, List.foldl, popN, aft, o_gI, o_gR, o_pI, o_pN, o_pR, o_aI, o_aG, o_aR, o_len, o_aR8, o_sI, o_sB, o_sZ, o_sG, o_new, o_newA, o_cast, o_inst, o_cst, o_oi, o_sR, o_gIc, o_gSv, o_gSc, o_getc, o_dead, o_acopy, o_castA, o_castI, o_sR7, o_mna, o_mmax, o_mmin, o_mabs]
    have go : pX6_leadsTo κ [.ref (A (lastN R b)), .ref (A (fstN R.2 t))] σ (aft [some (.ref r), some (.ref (A (lastN R b))), some (.int (nn t)), some (.ref (A (fstN R.2 t))), none] [] (fun x a σ => Q (.inr a) σ) (o_return Q)) := by
      have := j4 t ht
      refine ct_leadsTo C hlast hfst (by omega) (by omega) (by omega) (by omega) (fun σ' F C' => ?_)
      simp [o_ic, o_lc, o_null, o_il, o_ll, o_al, o_dup, o_pop, o_dup_x1, o_dup2, o_iadd, o_isub, o_imul, o_iand, o_ior, o_ixor, o_ishl, o_ishr, o_idiv, o_irem, o_ineg, o_ladd, o_lsub, o_lmul, o_land, o_lor, o_lxor, o_ldiv, o_lrem, o_lneg, o_lcmp, o_i2l, o_l2i, o_i2b, o_i2c, o_iushr, o_lshl, o_lshr, o_if_eq, o_if_ne, o_if_lt, o_if_ge, o_if_gt, o_if_le, o_icmp_eq, o_icmp_ne, o_icmp_lt, o_icmp_ge, o_icmp_gt, o_icmp_le, o_ifnull, o_ifnonnull, o_acmp_eq, o_acmp_ne, o_is, o_ls, o_as, o_iinc, o_kill, o_sw, o_ireturn, o_zreturn, o_nreturn, o_lreturn, o_areturn, o_return, o_athrow, o_call, entP, lg_sl, Value.category, st1, st2, List.set, List.getElem?_cons_zero, List.getElem?_cons_succ, List.foldl, popN, aft]
      refine kk σ' ?_
      unfold jn1
      rw [if_pos hd]
      have hP := h.edge hlast hfst F C'
      exact ⟨A, lo, hi, NX, BF, hP.up (by omega) (by omega)⟩
    rcases te' with z | z | z <;> simpa [hvc, dspI, z] using go
  have onway : ¬ (nw < 2 ∨ wyE R t < 2) → bX4_joins_42 κ Q [some (.ref r), some (.ref (A (lastN R b))), some (.int (nn t)), some (.ref (A (fstN R.2 t))), none] [] σ := by
    intro hd
    have hk := C.ok
    generalize hmm : R.1.length + ow.length = m at *
    have hm1 : R.1.length + (ow ++ [t]).length = m + 1 := by simp; omega
    have hmlen : m < 240 := by omega
    have k1 : Hok κ (hnw σ 14 0 4) := hk.nw (by decide)
    have F1 : HL κ NoM NoM 1 4 σ (hnw σ 14 0 4) := ((HL.rfl9 (M := NoM) (MR := NoM) hk).nw k1).up (by omega) (by omega)
    have t1 : hT (hnw σ 14 0 4) (hN σ) = 14 := by rw [hT_nw, if_pos rfl]
    have c1 : 1 ≤ hC σ := by omega
    have s1 : 4 ≤ hS σ := by omega
    simp [bX4_joins_42, o_ic, o_lc, o_null, o_il, o_ll, o_al, o_dup, o_pop, o_dup_x1, o_dup2, o_iadd, o_isub, o_imul, o_iand, o_ior, o_ixor, o_ishl, o_ishr, o_idiv, o_irem, o_ineg, o_ladd, o_lsub, o_lmul, o_land, o_lor, o_lxor, o_ldiv, o_lrem, o_lneg, o_lcmp, o_i2l, o_l2i, o_i2b, o_i2c, o_iushr, o_lshl, o_lshr, o_if_eq, o_if_ne, o_if_lt, o_if_ge, o_if_gt, o_if_le, o_icmp_eq, o_icmp_ne, o_icmp_lt, o_icmp_ge, o_icmp_gt, o_icmp_le, o_ifnull, o_ifnonnull, o_acmp_eq, o_acmp_ne, o_is, o_ls, o_as, o_iinc, o_kill, o_sw, o_ireturn, o_zreturn, o_nreturn, o_lreturn, o_areturn, o_return, o_athrow, o_call, entP, lg_sl, Value.category, st1, st2, List.set, List.getElem?_cons_zero, List.getElem?_cons_succ, List.foldl, popN, aft, o_gI, o_gR, o_pI, o_pN, o_pR, o_aI, o_aG, o_aR, o_len, o_aR8, o_sI, o_sB, o_sZ, o_sG, o_new, o_newA, o_cast, o_inst, o_cst, o_oi, o_sR, o_gIc, o_gSv, o_gSc, o_getc, o_dead, o_acopy, o_castA, o_castI, o_sR7, o_mna, o_mmax, o_mmin, o_mabs, hvi, c1, s1]
    refine ct_newOnWay k1 t1 (by have := F1.C; omega) (by have := F1.S; omega) (fun σ2 F2 N2 => ?_)
    obtain ⟨x, y, e2, e3, ax, ay, hxy, nx', ny⟩ := N2
    have F12 : HL κ NoM NoM 3 10 σ σ2 := (F1.after F2 hk (fun b q => Or.inr (by have : b = hN σ := q; omega)) (fun b q => Or.inr (by have : b = hN σ := q; omega))).up (by omega) (by omega)
    have n12 := F1.lt
    have t2 : hT σ2 (hN σ) = 14 := F2.tg k1 t1 (by decide)
    have C2 := C.add w (by omega) (by omega) j1 F12 t2 e2 e3 ax ay hxy (Nat.le_refl _) (by omega) (by omega)
    have am : updA A m (hN σ) m = hN σ := updA_eq _ _ _
    have al9 : ∀ i, i < m → updA A m (hN σ) i = A i := fun i hi' => updA_ne _ (by omega)
    have ns9 : AL κ σ (r + 2) ((List.range m).map A) := by rw [← hmm]; exact h.ns
    have ns2 : AL κ σ2 (r + 2) ((List.range m).map A) := F12.al ns9 id
    have rr2 : hR σ2 r 1 = some (r + 2) := C2.rr 1 (by omega)
    have hrN : r < hN σ := hk.1.lt (by rw [C.tr]; decide)
    simp [o_ic, o_lc, o_null, o_il, o_ll, o_al, o_dup, o_pop, o_dup_x1, o_dup2, o_iadd, o_isub, o_imul, o_iand, o_ior, o_ixor, o_ishl, o_ishr, o_idiv, o_irem, o_ineg, o_ladd, o_lsub, o_lmul, o_land, o_lor, o_lxor, o_ldiv, o_lrem, o_lneg, o_lcmp, o_i2l, o_l2i, o_i2b, o_i2c, o_iushr, o_lshl, o_lshr, o_if_eq, o_if_ne, o_if_lt, o_if_ge, o_if_gt, o_if_le, o_icmp_eq, o_icmp_ne, o_icmp_lt, o_icmp_ge, o_icmp_gt, o_icmp_le, o_ifnull, o_ifnonnull, o_acmp_eq, o_acmp_ne, o_is, o_ls, o_as, o_iinc, o_kill, o_sw, o_ireturn, o_zreturn, o_nreturn, o_lreturn, o_areturn, o_return, o_athrow, o_call, entP, lg_sl, Value.category, st1, st2, List.set, List.getElem?_cons_zero, List.getElem?_cons_succ, List.foldl, popN, aft, o_gI, o_gR, o_pI, o_pN, o_pR, o_aI, o_aG, o_aR, o_len, o_aR8, o_sI, o_sB, o_sZ, o_sG, o_new, o_newA, o_cast, o_inst, o_cst, o_oi, o_sR, o_gIc, o_gSv, o_gSc, o_getc, o_dead, o_acopy, o_castA, o_castI, o_sR7, o_mna, o_mmax, o_mmin, o_mabs, C2.tr, rr2, va_rf]
    refine hv_size ns2 ?_
    simp only [List.length_map, List.length_range]
    -- number and block
    obtain ⟨C3, F3⟩ := C2.sI (i := m) (j := 0) (v := nn m) (by omega)
    obtain ⟨C4, F4⟩ := C3.sI (i := m) (j := 1) (v := nn t) (by omega)
    rw [am] at C3 F3
    rw [am] at C4 F4
    have F34 := F3.trans F4
    have ne2 : ¬ r = hN σ := by omega
    simp [o_ic, o_lc, o_null, o_il, o_ll, o_al, o_dup, o_pop, o_dup_x1, o_dup2, o_iadd, o_isub, o_imul, o_iand, o_ior, o_ixor, o_ishl, o_ishr, o_idiv, o_irem, o_ineg, o_ladd, o_lsub, o_lmul, o_land, o_lor, o_lxor, o_ldiv, o_lrem, o_lneg, o_lcmp, o_i2l, o_l2i, o_i2b, o_i2c, o_iushr, o_lshl, o_lshr, o_if_eq, o_if_ne, o_if_lt, o_if_ge, o_if_gt, o_if_le, o_icmp_eq, o_icmp_ne, o_icmp_lt, o_icmp_ge, o_icmp_gt, o_icmp_le, o_ifnull, o_ifnonnull, o_acmp_eq, o_acmp_ne, o_is, o_ls, o_as, o_iinc, o_kill, o_sw, o_ireturn, o_zreturn, o_nreturn, o_lreturn, o_areturn, o_return, o_athrow, o_call, entP, lg_sl, Value.category, st1, st2, List.set, List.getElem?_cons_zero, List.getElem?_cons_succ, List.foldl, popN, aft, o_gI, o_gR, o_pI, o_pN, o_pR, o_aI, o_aG, o_aR, o_len, o_aR8, o_sI, o_sB, o_sZ, o_sG, o_new, o_newA, o_cast, o_inst, o_cst, o_oi, o_sR, o_gIc, o_gSv, o_gSc, o_getc, o_dead, o_acopy, o_castA, o_castI, o_sR7, o_mna, o_mmax, o_mmin, o_mabs, t2, hT_sI, C2.tr, hR_sI, rr2, va_rf]
    have ns4 : AL κ (hsI (hsI σ2 (hN σ) 0 (nn m)) (hN σ) 1 (nn t)) (r + 2) ((List.range m).map A) := F34.al ns2 (by
      have := C2.iv m (by omega)
      rw [am] at this
      show ¬ r + 2 = hN σ
      omega)
    have ho4 : hT (hsI (hsI σ2 (hN σ) 0 (nn m)) (hN σ) 1 (nn t)) (hN σ) ∈ objTs ++ [60] := by
      have : hT (hsI (hsI σ2 (hN σ) 0 (nn m)) (hN σ) 1 (nn t)) (hN σ) = 14 := t2
      rw [this]; simp [objTs]
    simp [hvc, dspI, hT_sI, ns2.1]
    refine cq_add C4.ok ns4 ho4 (by simp; omega) (by have := F12.C; have : hC (hsI (hsI σ2 (hN σ) 0 (nn m)) (hN σ) 1 (nn t)) = hC σ2 := rfl; omega) (by simp only [List.length_map, List.length_range]; have := F12.S; have : hS (hsI (hsI σ2 (hN σ) 0 (nn m)) (hN σ) 1 (nn t)) = hS σ2 := rfl; omega) (fun σ5 k5 f5 A5 => ?_)
    simp only [List.length_map, List.length_range] at f5
    have F5 := HL.ofAdd f5 C4.ok k5 ns4
    have ivm := C2.iv m (by omega)
    rw [am] at ivm
    have C5 := C4.fr F5 (by show ¬ r + 1 = r + 2; omega) id (fun b ww hb => by have := (C4.rows b ww hb).2.1; show ¬ ww.1 = r + 2; omega) (fun i hi' => by have := C4.iv i hi'; exact ⟨by show ¬ _ = r + 2; omega, by show ¬ _ = r + 2; omega⟩) (fun _ _ => id)
    have i55 : hI σ5 r 5 = nn ow.length := by
      rw [F5.int C4.ok C4.tr (by decide) (M := EqM (r + 2)) (by show ¬ r = r + 2; omega) 5, F34.int C2.ok C2.tr (by decide) (M := EqM (hN σ)) ne2 5, F12.int hk C.tr (by decide) id 5]; exact h.i5
    have i54 : hI σ5 r 4 = nn R.1.length := by
      rw [F5.int C4.ok C4.tr (by decide) (M := EqM (r + 2)) (by show ¬ r = r + 2; omega) 4, F34.int C2.ok C2.tr (by decide) (M := EqM (hN σ)) ne2 4, F12.int hk C.tr (by decide) id 4]; exact h.i4
    simp [o_ic, o_lc, o_null, o_il, o_ll, o_al, o_dup, o_pop, o_dup_x1, o_dup2, o_iadd, o_isub, o_imul, o_iand, o_ior, o_ixor, o_ishl, o_ishr, o_idiv, o_irem, o_ineg, o_ladd, o_lsub, o_lmul, o_land, o_lor, o_lxor, o_ldiv, o_lrem, o_lneg, o_lcmp, o_i2l, o_l2i, o_i2b, o_i2c, o_iushr, o_lshl, o_lshr, o_if_eq, o_if_ne, o_if_lt, o_if_ge, o_if_gt, o_if_le, o_icmp_eq, o_icmp_ne, o_icmp_lt, o_icmp_ge, o_icmp_gt, o_icmp_le, o_ifnull, o_ifnonnull, o_acmp_eq, o_acmp_ne, o_is, o_ls, o_as, o_iinc, o_kill, o_sw, o_ireturn, o_zreturn, o_nreturn, o_lreturn, o_areturn, o_return, o_athrow, o_call, entP, lg_sl, Value.category, st1, st2, List.set, List.getElem?_cons_zero, List.getElem?_cons_succ, List.foldl, popN, aft, o_gI, o_gR, o_pI, o_pN, o_pR, o_aI, o_aG, o_aR, o_len, o_aR8, o_sI, o_sB, o_sZ, o_sG, o_new, o_newA, o_cast, o_inst, o_cst, o_oi, o_sR, o_gIc, o_gSv, o_gSc, o_getc, o_dead, o_acopy, o_castA, o_castI, o_sR7, o_mna, o_mmax, o_mmin, o_mabs, C5.tr, i55, nn_succ]
    have F6 : HL κ (EqM r) NoM 0 0 σ5 (hsI σ5 r 5 (nn (ow.length + 1))) := (HL.rfl9 k5).sI (Or.inl rfl) C5.tr (by decide)
    have C6 := C5.fr F6 (by show ¬ r + 1 = r; omega) id (fun b ww hb => by have := (C5.rows b ww hb).2.1; show ¬ ww.1 = r; omega) (fun i hi' => by have := C5.iv i hi'; exact ⟨by show ¬ _ = r; omega, by show ¬ _ = r; omega⟩) (fun _ _ => id)
    -- lines
    have it2 : ∀ i z, R.1[i]? = some z → ItmF σ2 (A i) z.2 (lo i) (hi i) := fun i z hz => (h.it i z hz).hl hk F12 id id (fun _ _ _ => ⟨id, id⟩)
    have it5 : ∀ i z, R.1[i]? = some z → ItmF (hsI σ5 r 5 (nn (ow.length + 1))) (updA A m (hN σ) i) z.2 (updA lo m (hN σ) i) (updA hi m (hN σ2) i) := fun i z hz => by
      have hil := (List.getElem?_eq_some_iff.1 hz).1
      rw [al9 i (by omega), updA_ne _ (by omega), updA_ne _ (by omega)]
      have q4 := ((it2 i z hz).sI (b := hN σ) (j := 0) (v := nn m) (by rw [t2]; decide) (Or.inl (by rw [t2]; decide)) (Or.inr (by omega))).sI (b := hN σ) (j := 1) (v := nn t) (by rw [hT_sI, t2]; decide) (Or.inl (by rw [hT_sI, t2]; decide)) (Or.inr (by omega))
      have q5 := q4.ls C4.ok F5 (fun b q => by rw [show b = r + 2 from q]; exact ns4.1)
      exact q5.sI (by rw [C5.tr]; decide) (Or.inl (by rw [C5.tr]; decide)) (Or.inl C5.tr)
    have P6 : P3 κ σ0 (hsI σ5 r 5 (nn (ow.length + 1))) r R wss (updA A m (hN σ)) (updA lo m (hN σ)) (updA hi m (hN σ2)) (updA NX m x) (updA BF m y) (ow ++ [t]) E (c + 4) (s + (20 + 2 * m)) := by
      refine ⟨by rw [hm1]; exact C6, it5, ?_, fun i hi' => ?_, fun i hi1 hi2 => ?_, ?_, ?_, ?_, ?_, ?_⟩
      · rw [hm1, List.range_succ, List.map_append, map_updA (fun z hz => by simp at hz; omega)]
        simp only [List.map_cons, List.map_nil, am]
        exact F6.al A5 (by show ¬ r + 2 = r; omega)
      · rw [hm1] at hi'
        have t5 : hT σ5 (updA A m (hN σ) i) = hT (hsI (hsI σ2 (hN σ) 0 (nn m)) (hN σ) 1 (nn t)) (updA A m (hN σ) i) := F5.tag C4.ok (by have := C4.tgA (i := i) (by omega); omega)
        have tt := C4.tgA (i := i) (by omega)
        have ivi := C4.iv i (by omega)
        have g5 := fun j => F5.int C4.ok (a := updA A m (hN σ) i) rfl (by omega) (M := EqM (r + 2)) (by show ¬ _ = r + 2; omega) j
        have nr : ¬ updA A m (hN σ) i = r := by omega
        rw [hI_sI, hI_sI, if_neg (fun q => nr q.1), if_neg (fun q => nr q.1), g5 0, g5 1]
        by_cases e : i = m
        · subst e
          rw [am]
          have hbk : bkO R (ow ++ [t]) i = t := by
            unfold bkO
            rw [if_neg (by omega), List.getD_eq_getElem?_getD, List.getElem?_append_right (by omega)]
            rw [show i - R.1.length - ow.length = 0 by omega]; rfl
          rw [hbk]
          simp [hT_sI, hT_sR, hT_sG, hL_sI, hL_sR, hL_sG, hI_sI, hI_sR, hI_sG, hG_sI, hG_sR, hG_sG, hR_sI, hR_sR, hR_sG, hN_sI, hN_sR, hN_sG, hC_sI, hC_sR, hC_sG, hS_sI, hS_sR, hS_sG, hT_nw, hL_nw, hI_nw, hG_nw, hR_nw, hN_nw, hC_nw, hS_nw, hvc, hvi, dspI, vref, va_rf]
        · rw [al9 i (by omega)]
          have ne : ¬ A i = hN σ := by have := C.iv i (by omega); omega
          simp [hT_sI, hT_sR, hT_sG, hL_sI, hL_sR, hL_sG, hI_sI, hI_sR, hI_sG, hG_sI, hG_sR, hG_sG, hR_sI, hR_sR, hR_sG, hN_sI, hN_sR, hN_sG, hC_sI, hC_sR, hC_sG, hS_sI, hS_sR, hS_sG, hT_nw, hL_nw, hI_nw, hG_nw, hR_nw, hN_nw, hC_nw, hS_nw, hvc, hvi, dspI, vref, va_rf, ne]
          have g2 := fun j => F12.int hk (a := A i) rfl (by have := C.tgA (i := i) (by omega); omega) id j
          rw [g2 0, g2 1]
          have := h.nm i (by omega)
          have hbk : bkO R (ow ++ [t]) i = bkO R ow i := by
            unfold bkO
            by_cases z : i < R.1.length
            · rw [if_pos z, if_pos z]
            · rw [if_neg z, if_neg z, List.getD_eq_getElem?_getD, List.getD_eq_getElem?_getD, List.getElem?_append_left (by omega)]
          rw [hbk]; exact this
      · rw [hm1] at hi2
        show hT σ5 _ = 14
        by_cases e : i = m
        · subst e
          rw [am]
          exact F5.tg C4.ok (show hT (hsI (hsI σ2 (hN σ) 0 (nn i)) (hN σ) 1 (nn t)) (hN σ) = 14 from t2) (by decide)
        · rw [al9 i (by omega)]
          have q := h.tg i hi1 (by omega)
          have q2 : hT σ2 (A i) = 14 := F12.tg hk q (by decide)
          exact F5.tg C4.ok (show hT (hsI (hsI σ2 (hN σ) 0 (nn m)) (hN σ) 1 (nn t)) (A i) = 14 from q2) (by decide)
      · exact F6.al (F5.al (F34.al (F12.al h.ss id) (by show ¬ r + 3 = hN σ; omega)) (by show ¬ r + 3 = r + 2; omega)) (by show ¬ r + 3 = r; omega)
      · exact F6.al (F5.al (F34.al (F12.al h.wy id) (by show ¬ r + 4 = hN σ; omega)) (by show ¬ r + 4 = r + 2; omega)) (by show ¬ r + 4 = r; omega)
      · simp [hT_sI, hT_sR, hT_sG, hL_sI, hL_sR, hL_sG, hI_sI, hI_sR, hI_sG, hG_sI, hG_sR, hG_sG, hR_sI, hR_sR, hR_sG, hN_sI, hN_sR, hN_sG, hC_sI, hC_sR, hC_sG, hS_sI, hS_sR, hS_sG, hT_nw, hL_nw, hI_nw, hG_nw, hR_nw, hN_nw, hC_nw, hS_nw, hvc, hvi, dspI, vref, va_rf]; exact i54
      · simp [hT_sI, hT_sR, hT_sG, hL_sI, hL_sR, hL_sG, hI_sI, hI_sR, hI_sG, hG_sI, hG_sR, hG_sG, hR_sI, hR_sR, hR_sG, hN_sI, hN_sR, hN_sG, hC_sI, hC_sR, hC_sG, hS_sI, hS_sR, hS_sG, hT_nw, hL_nw, hI_nw, hG_nw, hR_nw, hN_nw, hC_nw, hS_nw, hvc, hvi, dspI, vref, va_rf]
      · have G1 := h.fr.trans (F12.imp (M' := GeM r) (MR' := GeM r) (fun _ q => q.elim) (fun _ q => q.elim))
        have G2 := G1.trans (F34.imp (M' := GeM r) (MR' := GeM r) (fun b q => by have : b = hN σ := q; show r ≤ b; omega) (fun _ q => q.elim))
        have G3 := G2.trans (F5.imp (M' := GeM r) (MR' := GeM r) (fun b q => by have : b = r + 2 := q; show r ≤ b; omega) (fun _ q => q.elim))
        have G4 := G3.trans (F6.imp (M' := GeM r) (MR' := GeM r) (fun b q => by have : b = r := q; show r ≤ b; omega) (fun _ q => q.elim))
        exact G4.up (by omega) (by omega)
    -- the edges
    have hl6 : lastN R b < R.1.length + (ow ++ [t]).length := by omega
    have hf6 : fstN R.2 t < R.1.length + (ow ++ [t]).length := by omega
    have hm6 : m < R.1.length + (ow ++ [t]).length := by omega
    have im0 : inE E m = [] := inE_nil (fun e he => by have := j1 e he; omega)
    have om0 : outE E m = [] := outE_nil (fun e he => by have := j1 e he; omega)
    have eL : updA A m (hN σ) (lastN R b) = A (lastN R b) := al9 _ hlast
    have eF : updA A m (hN σ) (fstN R.2 t) = A (fstN R.2 t) := al9 _ hfst
    have G6 := F12.S
    have G6c := F12.C
    have s6 : hS (hsI σ5 r 5 (nn (ow.length + 1))) = hS σ5 := rfl
    have c6 : hC (hsI σ5 r 5 (nn (ow.length + 1))) = hC σ5 := rfl
    have s5 : hS (hsI (hsI σ2 (hN σ) 0 (nn m)) (hN σ) 1 (nn t)) = hS σ2 := rfl
    have c5 : hC (hsI (hsI σ2 (hN σ) 0 (nn m)) (hN σ) 1 (nn t)) = hC σ2 := rfl
    have S5 := F5.S
    have C5' := F5.C
    have tl6 : hT (hsI σ5 r 5 (nn (ow.length + 1))) (A (lastN R b)) = hT σ (A (lastN R b)) := by
      have q1 := F12.tag hk (a := A (lastN R b)) (by omega)
      have q2 : hT σ5 (A (lastN R b)) = hT (hsI (hsI σ2 (hN σ) 0 (nn m)) (hN σ) 1 (nn t)) (A (lastN R b)) := F5.tag C4.ok (by show hT σ2 _ ≠ 0; omega)
      show hT σ5 _ = _
      rw [q2]; exact q1
    have go : pX6_leadsTo κ [.ref (A (lastN R b)), .ref (hN σ)] (hsI σ5 r 5 (nn (ow.length + 1))) (aft [some (.ref r), some (.ref (A (lastN R b))), some (.int (nn t)), some (.ref (A (fstN R.2 t))), some (.ref (hN σ))] [] (fun x a σ => Q (.inr a) σ) (o_al 4 <| o_al 3 <| o_call 2 (hvc [(7, pX6_leadsTo κ), (8, pX6_leadsTo κ), (9, pX6_leadsTo κ), (10, pX6_leadsTo κ), (11, pX6_leadsTo κ), (12, pX6_leadsTo κ), (13, pX6_leadsTo κ), (14, pX6_leadsTo κ)]) (fun _ a σ => Q (.inr a) σ) <| o_return Q)) := by
      have := ct_leadsTo (Q := (aft [some (.ref r), some (.ref (A (lastN R b))), some (.int (nn t)), some (.ref (A (fstN R.2 t))), some (.ref (hN σ))] [] (fun x a σ => Q (.inr a) σ) (o_al 4 <| o_al 3 <| o_call 2 (hvc [(7, pX6_leadsTo κ), (8, pX6_leadsTo κ), (9, pX6_leadsTo κ), (10, pX6_leadsTo κ), (11, pX6_leadsTo κ), (12, pX6_leadsTo κ), (13, pX6_leadsTo κ), (14, pX6_leadsTo κ)]) (fun _ a σ => Q (.inr a) σ) <| o_return Q))) P6.cs hl6 hm6 (by omega) (by rw [im0]; simp) (by omega) (by rw [im0]; simp; omega) (fun σ7 F7 C7 => ?_)
      · rw [eL, am] at this; exact this
      · have P7 := P6.edge hl6 hm6 F7 C7
        have t7 := C7.tgA hm6
        rw [am] at t7
        simp [o_ic, o_lc, o_null, o_il, o_ll, o_al, o_dup, o_pop, o_dup_x1, o_dup2, o_iadd, o_isub, o_imul, o_iand, o_ior, o_ixor, o_ishl, o_ishr, o_idiv, o_irem, o_ineg, o_ladd, o_lsub, o_lmul, o_land, o_lor, o_lxor, o_ldiv, o_lrem, o_lneg, o_lcmp, o_i2l, o_l2i, o_i2b, o_i2c, o_iushr, o_lshl, o_lshr, o_if_eq, o_if_ne, o_if_lt, o_if_ge, o_if_gt, o_if_le, o_icmp_eq, o_icmp_ne, o_icmp_lt, o_icmp_ge, o_icmp_gt, o_icmp_le, o_ifnull, o_ifnonnull, o_acmp_eq, o_acmp_ne, o_is, o_ls, o_as, o_iinc, o_kill, o_sw, o_ireturn, o_zreturn, o_nreturn, o_lreturn, o_areturn, o_return, o_athrow, o_call, entP, lg_sl, Value.category, st1, st2, List.set, List.getElem?_cons_zero, List.getElem?_cons_succ, List.foldl, popN, aft, o_gI, o_gR, o_pI, o_pN, o_pR, o_aI, o_aG, o_aR, o_len, o_aR8, o_sI, o_sB, o_sZ, o_sG, o_new, o_newA, o_cast, o_inst, o_cst, o_oi, o_sR, o_gIc, o_gSv, o_gSc, o_getc, o_dead, o_acopy, o_castA, o_castI, o_sR7, o_mna, o_mmax, o_mmin, o_mabs]
        refine tgLead t7 ?_
        have ol : (outE (E ++ [(lastN R b, m)]) m).length = 0 := by
          rw [outE_snoc, if_neg (by omega), om0]; rfl
        have il : (inE (E ++ [(lastN R b, m)]) (fstN R.2 t)).length ≤ 160 := by
          rw [inE_snoc, if_neg (by omega)]; have := j4 t ht; omega
        have S7 := F7.S
        have C7' := F7.C
        rw [im0] at S7
        simp only [List.length_nil] at S7
        have h2 := ct_leadsTo (Q := aft [some (.ref r), some (.ref (A (lastN R b))), some (.int (nn t)), some (.ref (A (fstN R.2 t))), some (.ref (hN σ))] [] (fun x a σ => Q (.inr a) σ) (o_return Q)) P7.cs hm6 hf6 (by omega) (by omega) (by omega) (by omega) (fun σ8 F8 C8 => ?_)
        · rw [eF, am] at h2; exact h2
        · have P8 := P7.edge hm6 hf6 F8 C8
          simp [o_ic, o_lc, o_null, o_il, o_ll, o_al, o_dup, o_pop, o_dup_x1, o_dup2, o_iadd, o_isub, o_imul, o_iand, o_ior, o_ixor, o_ishl, o_ishr, o_idiv, o_irem, o_ineg, o_ladd, o_lsub, o_lmul, o_land, o_lor, o_lxor, o_ldiv, o_lrem, o_lneg, o_lcmp, o_i2l, o_l2i, o_i2b, o_i2c, o_iushr, o_lshl, o_lshr, o_if_eq, o_if_ne, o_if_lt, o_if_ge, o_if_gt, o_if_le, o_icmp_eq, o_icmp_ne, o_icmp_lt, o_icmp_ge, o_icmp_gt, o_icmp_le, o_ifnull, o_ifnonnull, o_acmp_eq, o_acmp_ne, o_is, o_ls, o_as, o_iinc, o_kill, o_sw, o_ireturn, o_zreturn, o_nreturn, o_lreturn, o_areturn, o_return, o_athrow, o_call, entP, lg_sl, Value.category, st1, st2, List.set, List.getElem?_cons_zero, List.getElem?_cons_succ, List.foldl, popN, aft]
          refine kk σ8 ?_
          unfold jn1
          rw [if_neg hd]
          simp only [hmm]
          rw [List.append_assoc] at P8
          simp only [List.cons_append, List.nil_append] at P8
          refine ⟨_, _, _, _, _, P8.up (by omega) ?_⟩
          rw [im0]; simp only [List.length_nil]; omega
    rcases te' with z | z | z <;> simpa [hvc, dspI, tl6, z] using go
  rw [hea]
  simp [pX4_joins, bX4_joins_0, o_ic, o_lc, o_null, o_il, o_ll, o_al, o_dup, o_pop, o_dup_x1, o_dup2, o_iadd, o_isub, o_imul, o_iand, o_ior, o_ixor, o_ishl, o_ishr, o_idiv, o_irem, o_ineg, o_ladd, o_lsub, o_lmul, o_land, o_lor, o_lxor, o_ldiv, o_lrem, o_lneg, o_lcmp, o_i2l, o_l2i, o_i2b, o_i2c, o_iushr, o_lshl, o_lshr, o_if_eq, o_if_ne, o_if_lt, o_if_ge, o_if_gt, o_if_le, o_icmp_eq, o_icmp_ne, o_icmp_lt, o_icmp_ge, o_icmp_gt, o_icmp_le, o_ifnull, o_ifnonnull, o_acmp_eq, o_acmp_ne, o_is, o_ls, o_as, o_iinc, o_kill, o_sw, o_ireturn, o_zreturn, o_nreturn, o_lreturn, o_areturn, o_return, o_athrow, o_call, entP, lg_sl, Value.category, st1, st2, List.set, List.getElem?_cons_zero, List.getElem?_cons_succ, List.foldl, popN, aft, o_gI, o_gR, o_pI, o_pN, o_pR, o_aI, o_aG, o_aR, o_len, o_aR8, o_sI, o_sB, o_sZ, o_sG, o_new, o_newA, o_cast, o_inst, o_cst, o_oi, o_sR, o_gIc, o_gSv, o_gSc, o_getc, o_dead, o_acopy, o_castA, o_castI, o_sR7, o_mna, o_mmax, o_mmin, o_mabs, C.tr, r0, va_rf]
  refine hv_get C.al hgm ?_
  simp [o_ic, o_lc, o_null, o_il, o_ll, o_al, o_dup, o_pop, o_dup_x1, o_dup2, o_iadd, o_isub, o_imul, o_iand, o_ior, o_ixor, o_ishl, o_ishr, o_idiv, o_irem, o_ineg, o_ladd, o_lsub, o_lmul, o_land, o_lor, o_lxor, o_ldiv, o_lrem, o_lneg, o_lcmp, o_i2l, o_l2i, o_i2b, o_i2c, o_iushr, o_lshl, o_lshr, o_if_eq, o_if_ne, o_if_lt, o_if_ge, o_if_gt, o_if_le, o_icmp_eq, o_icmp_ne, o_icmp_lt, o_icmp_ge, o_icmp_gt, o_icmp_le, o_ifnull, o_ifnonnull, o_acmp_eq, o_acmp_ne, o_is, o_ls, o_as, o_iinc, o_kill, o_sw, o_ireturn, o_zreturn, o_nreturn, o_lreturn, o_areturn, o_return, o_athrow, o_call, entP, lg_sl, Value.category, st1, st2, List.set, List.getElem?_cons_zero, List.getElem?_cons_succ, List.foldl, popN, aft, o_gI, o_gR, o_pI, o_pN, o_pR, o_aI, o_aG, o_aR, o_len, o_aR8, o_sI, o_sB, o_sZ, o_sG, o_new, o_newA, o_cast, o_inst, o_cst, o_oi, o_sR, o_gIc, o_gSv, o_gSc, o_getc, o_dead, o_acopy, o_castA, o_castI, o_sR7, o_mna, o_mmax, o_mmin, o_mabs, q1.1]
  refine hv_get (i := 0) q1 h00 ?_
  simp [o_ic, o_lc, o_null, o_il, o_ll, o_al, o_dup, o_pop, o_dup_x1, o_dup2, o_iadd, o_isub, o_imul, o_iand, o_ior, o_ixor, o_ishl, o_ishr, o_idiv, o_irem, o_ineg, o_ladd, o_lsub, o_lmul, o_land, o_lor, o_lxor, o_ldiv, o_lrem, o_lneg, o_lcmp, o_i2l, o_l2i, o_i2b, o_i2c, o_iushr, o_lshl, o_lshr, o_if_eq, o_if_ne, o_if_lt, o_if_ge, o_if_gt, o_if_le, o_icmp_eq, o_icmp_ne, o_icmp_lt, o_icmp_ge, o_icmp_gt, o_icmp_le, o_ifnull, o_ifnonnull, o_acmp_eq, o_acmp_ne, o_is, o_ls, o_as, o_iinc, o_kill, o_sw, o_ireturn, o_zreturn, o_nreturn, o_lreturn, o_areturn, o_return, o_athrow, o_call, entP, lg_sl, Value.category, st1, st2, List.set, List.getElem?_cons_zero, List.getElem?_cons_succ, List.foldl, popN, aft, o_gI, o_gR, o_pI, o_pN, o_pR, o_aI, o_aG, o_aR, o_len, o_aR8, o_sI, o_sB, o_sZ, o_sG, o_new, o_newA, o_cast, o_inst, o_cst, o_oi, o_sR, o_gIc, o_gSv, o_gSc, o_getc, o_dead, o_acopy, o_castA, o_castI, o_sR7, o_mna, o_mmax, o_mmin, o_mabs, tf]
  rw [hea] at hE
  refine ct_ways hE ?_
  rw [← hnW]
  simp [o_ic, o_lc, o_null, o_il, o_ll, o_al, o_dup, o_pop, o_dup_x1, o_dup2, o_iadd, o_isub, o_imul, o_iand, o_ior, o_ixor, o_ishl, o_ishr, o_idiv, o_irem, o_ineg, o_ladd, o_lsub, o_lmul, o_land, o_lor, o_lxor, o_ldiv, o_lrem, o_lneg, o_lcmp, o_i2l, o_l2i, o_i2b, o_i2c, o_iushr, o_lshl, o_lshr, o_if_eq, o_if_ne, o_if_lt, o_if_ge, o_if_gt, o_if_le, o_icmp_eq, o_icmp_ne, o_icmp_lt, o_icmp_ge, o_icmp_gt, o_icmp_le, o_ifnull, o_ifnonnull, o_acmp_eq, o_acmp_ne, o_is, o_ls, o_as, o_iinc, o_kill, o_sw, o_ireturn, o_zreturn, o_nreturn, o_lreturn, o_areturn, o_return, o_athrow, o_call, entP, lg_sl, Value.category, st1, st2, List.set, List.getElem?_cons_zero, List.getElem?_cons_succ, List.foldl, popN, aft, o_gI, o_gR, o_pI, o_pN, o_pR, o_aI, o_aG, o_aR, o_len, o_aR8, o_sI, o_sB, o_sZ, o_sG, o_new, o_newA, o_cast, o_inst, o_cst, o_oi, o_sR, o_gIc, o_gSv, o_gSc, o_getc, o_dead, o_acopy, o_castA, o_castI, o_sR7, o_mna, o_mmax, o_mmin, o_mabs, nn_eqL, nn_ltL, nn_leL, nn_Llt, nn_Lle, nn_lt, nn_le, nn_eq, nn_in, nn_clamp, nn_succ, nn_pos, nn_neg1, bnw]
  refine ⟨fun z => direct (Or.inl z), fun z => ?_⟩
  simp [hvc, dspI, C.tr]
  refine ct_waysTo V bt hx40 ?_
  simp [o_ic, o_lc, o_null, o_il, o_ll, o_al, o_dup, o_pop, o_dup_x1, o_dup2, o_iadd, o_isub, o_imul, o_iand, o_ior, o_ixor, o_ishl, o_ishr, o_idiv, o_irem, o_ineg, o_ladd, o_lsub, o_lmul, o_land, o_lor, o_lxor, o_ldiv, o_lrem, o_lneg, o_lcmp, o_i2l, o_l2i, o_i2b, o_i2c, o_iushr, o_lshl, o_lshr, o_if_eq, o_if_ne, o_if_lt, o_if_ge, o_if_gt, o_if_le, o_icmp_eq, o_icmp_ne, o_icmp_lt, o_icmp_ge, o_icmp_gt, o_icmp_le, o_ifnull, o_ifnonnull, o_acmp_eq, o_acmp_ne, o_is, o_ls, o_as, o_iinc, o_kill, o_sw, o_ireturn, o_zreturn, o_nreturn, o_lreturn, o_areturn, o_return, o_athrow, o_call, entP, lg_sl, Value.category, st1, st2, List.set, List.getElem?_cons_zero, List.getElem?_cons_succ, List.foldl, popN, aft, o_gI, o_gR, o_pI, o_pN, o_pR, o_aI, o_aG, o_aR, o_len, o_aR8, o_sI, o_sB, o_sZ, o_sG, o_new, o_newA, o_cast, o_inst, o_cst, o_oi, o_sR, o_gIc, o_gSv, o_gSc, o_getc, o_dead, o_acopy, o_castA, o_castI, o_sR7, o_mna, o_mmax, o_mmin, o_mabs, nn_eqL, nn_ltL, nn_leL, nn_Llt, nn_Lle, nn_lt, nn_le, nn_eq, nn_in, nn_clamp, nn_succ, nn_pos, nn_neg1, bw2]
  refine ⟨fun y => onway (by omega), fun y => direct (Or.inr (by omega))⟩
end JN
