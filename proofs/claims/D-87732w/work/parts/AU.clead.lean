/-! THE COMPONENT: close leads lines to the next -/
set_option maxRecDepth 100000
/-- block of a node: a line, or one on the way -/
def bkO (R : Rt) (ow : List Nat) (k : Nat) : Nat := if k < R.1.length then bkI R k else ow.getD (k - R.1.length) 0
def P3 (κ : Nat → Option Nat) (σ0 σ : AH) (r : Nat) (R : Rt) (wss : List (Nat × List Nat)) (A lo hi NX BF : Nat → Nat) (ow : List Nat) (E : Edg) (c s : Nat) : Prop := (CS κ σ r R wss (R.1.length + ow.length) A lo hi NX BF E) ∧ (∀ i x, R.1[i]? = some x → ItmF σ (A i) x.2 (lo i) (hi i)) ∧ (AL κ σ (r + 2) ((List.range (R.1.length + ow.length)).map A)) ∧ (∀ i, i < R.1.length + ow.length → hI σ (A i) 0 = nn i ∧ hI σ (A i) 1 = nn (bkO R ow i)) ∧ (∀ i, R.1.length ≤ i → i < R.1.length + ow.length → hT σ (A i) = 14) ∧ (AL κ σ (r + 3) []) ∧ (AL κ σ (r + 4) []) ∧ (hI σ r 4 = nn R.1.length) ∧ (hI σ r 5 = nn ow.length) ∧ (HL κ (GeM r) (GeM r) c s σ0 σ)
theorem P3.cs {κ : Nat → Option Nat} {σ0 σ : AH} {r : Nat} {R : Rt} {wss : List (Nat × List Nat)} {A lo hi NX BF : Nat → Nat} {ow : List Nat} {E : Edg} {c s : Nat} (h : P3 κ σ0 σ r R wss A lo hi NX BF ow E c s) : CS κ σ r R wss (R.1.length + ow.length) A lo hi NX BF E := h.1
theorem P3.it {κ : Nat → Option Nat} {σ0 σ : AH} {r : Nat} {R : Rt} {wss : List (Nat × List Nat)} {A lo hi NX BF : Nat → Nat} {ow : List Nat} {E : Edg} {c s : Nat} (h : P3 κ σ0 σ r R wss A lo hi NX BF ow E c s) : ∀ i x, R.1[i]? = some x → ItmF σ (A i) x.2 (lo i) (hi i) := h.2.1
theorem P3.ns {κ : Nat → Option Nat} {σ0 σ : AH} {r : Nat} {R : Rt} {wss : List (Nat × List Nat)} {A lo hi NX BF : Nat → Nat} {ow : List Nat} {E : Edg} {c s : Nat} (h : P3 κ σ0 σ r R wss A lo hi NX BF ow E c s) : AL κ σ (r + 2) ((List.range (R.1.length + ow.length)).map A) := h.2.2.1
theorem P3.nm {κ : Nat → Option Nat} {σ0 σ : AH} {r : Nat} {R : Rt} {wss : List (Nat × List Nat)} {A lo hi NX BF : Nat → Nat} {ow : List Nat} {E : Edg} {c s : Nat} (h : P3 κ σ0 σ r R wss A lo hi NX BF ow E c s) : ∀ i, i < R.1.length + ow.length → hI σ (A i) 0 = nn i ∧ hI σ (A i) 1 = nn (bkO R ow i) := h.2.2.2.1
theorem P3.tg {κ : Nat → Option Nat} {σ0 σ : AH} {r : Nat} {R : Rt} {wss : List (Nat × List Nat)} {A lo hi NX BF : Nat → Nat} {ow : List Nat} {E : Edg} {c s : Nat} (h : P3 κ σ0 σ r R wss A lo hi NX BF ow E c s) : ∀ i, R.1.length ≤ i → i < R.1.length + ow.length → hT σ (A i) = 14 := h.2.2.2.2.1
theorem P3.ss {κ : Nat → Option Nat} {σ0 σ : AH} {r : Nat} {R : Rt} {wss : List (Nat × List Nat)} {A lo hi NX BF : Nat → Nat} {ow : List Nat} {E : Edg} {c s : Nat} (h : P3 κ σ0 σ r R wss A lo hi NX BF ow E c s) : AL κ σ (r + 3) [] := h.2.2.2.2.2.1
theorem P3.wy {κ : Nat → Option Nat} {σ0 σ : AH} {r : Nat} {R : Rt} {wss : List (Nat × List Nat)} {A lo hi NX BF : Nat → Nat} {ow : List Nat} {E : Edg} {c s : Nat} (h : P3 κ σ0 σ r R wss A lo hi NX BF ow E c s) : AL κ σ (r + 4) [] := h.2.2.2.2.2.2.1
theorem P3.i4 {κ : Nat → Option Nat} {σ0 σ : AH} {r : Nat} {R : Rt} {wss : List (Nat × List Nat)} {A lo hi NX BF : Nat → Nat} {ow : List Nat} {E : Edg} {c s : Nat} (h : P3 κ σ0 σ r R wss A lo hi NX BF ow E c s) : hI σ r 4 = nn R.1.length := h.2.2.2.2.2.2.2.1
theorem P3.i5 {κ : Nat → Option Nat} {σ0 σ : AH} {r : Nat} {R : Rt} {wss : List (Nat × List Nat)} {A lo hi NX BF : Nat → Nat} {ow : List Nat} {E : Edg} {c s : Nat} (h : P3 κ σ0 σ r R wss A lo hi NX BF ow E c s) : hI σ r 5 = nn ow.length := h.2.2.2.2.2.2.2.2.1
theorem P3.fr {κ : Nat → Option Nat} {σ0 σ : AH} {r : Nat} {R : Rt} {wss : List (Nat × List Nat)} {A lo hi NX BF : Nat → Nat} {ow : List Nat} {E : Edg} {c s : Nat} (h : P3 κ σ0 σ r R wss A lo hi NX BF ow E c s) : HL κ (GeM r) (GeM r) c s σ0 σ := h.2.2.2.2.2.2.2.2.2
section P3s
variable {κ : Nat → Option Nat} {Q : Ret AH} {σ σ0 σ' : AH} {r : Nat} {R : Rt} {wss : List (Nat × List Nat)} {A lo hi NX BF : Nat → Nat} {ow : List Nat} {E E' : Edg} {c s c' s' : Nat}
/-- an edge more -/
theorem P3.edge {k j : Nat} (h : P3 κ σ0 σ r R wss A lo hi NX BF ow E c s) (hk : k < R.1.length + ow.length) (hj : j < R.1.length + ow.length) (F : HL κ (fun b => b = NX k ∨ b = BF j) NoM c' s' σ σ') (C' : CS κ σ' r R wss (R.1.length + ow.length) A lo hi NX BF E') : P3 κ σ0 σ' r R wss A lo hi NX BF ow E' (c + c') (s + s') := by
  have z_cs : CS κ σ' r R wss (R.1.length + ow.length) A lo hi NX BF E' := C'
  have z_it : ∀ i x, R.1[i]? = some x → ItmF σ' (A i) x.2 (lo i) (hi i) := fun i x hx => (h.it i x hx).ls h.cs.ok F (fun b q => by
    rcases q with q | q
    · rw [q]; exact (h.cs.nd k hk).2.2.2.1.1
    · rw [q]; exact (h.cs.nd j hj).2.2.2.2.1)
  have z_ns : AL κ σ' (r + 2) ((List.range (R.1.length + ow.length)).map A) := F.al h.ns (fun q => by have := h.cs.iv k hk; have := h.cs.iv j hj; rcases q with q | q <;> omega)
  have z_nm : ∀ i, i < R.1.length + ow.length → hI σ' (A i) 0 = nn i ∧ hI σ' (A i) 1 = nn (bkO R ow i) := fun i hi' => by
    have t := h.cs.tgA hi'
    have t1 := (h.cs.nd k hk).2.2.2.1.1
    have t2 := (h.cs.nd j hj).2.2.2.2.1
    have g := fun q => F.int h.cs.ok (a := A i) rfl (by omega) (fun z => by rcases z with z | z <;> rw [z] at t <;> omega) q
    rw [g 0, g 1]; exact h.nm i hi'
  have z_tg : ∀ i, R.1.length ≤ i → i < R.1.length + ow.length → hT σ' (A i) = 14 := fun i h1 h2 => F.tg h.cs.ok (h.tg i h1 h2) (by decide)
  have z_ss : AL κ σ' (r + 3) [] := F.al h.ss (fun q => by have := h.cs.iv k hk; have := h.cs.iv j hj; rcases q with q | q <;> omega)
  have z_wy : AL κ σ' (r + 4) [] := F.al h.wy (fun q => by have := h.cs.iv k hk; have := h.cs.iv j hj; rcases q with q | q <;> omega)
  have z_i4 : hI σ' r 4 = nn R.1.length := by rw [F.int h.cs.ok h.cs.tr (by decide) (fun q => by have := h.cs.iv k hk; have := h.cs.iv j hj; rcases q with q | q <;> omega) 4]; exact h.i4
  have z_i5 : hI σ' r 5 = nn ow.length := by rw [F.int h.cs.ok h.cs.tr (by decide) (fun q => by have := h.cs.iv k hk; have := h.cs.iv j hj; rcases q with q | q <;> omega) 5]; exact h.i5
  have z_fr : HL κ (GeM r) (GeM r) (c + c') (s + s') σ0 σ' := h.fr.trans (F.imp (fun b q => by have := h.cs.iv k hk; have := h.cs.iv j hj; show r ≤ b; rcases q with q | q <;> omega) (fun _ q => q.elim))
  exact ⟨z_cs, z_it, z_ns, z_nm, z_tg, z_ss, z_wy, z_i4, z_i5, z_fr⟩
theorem P3.up (h : P3 κ σ0 σ r R wss A lo hi NX BF ow E c s) (hc : c ≤ c') (hs : s ≤ s') : P3 κ σ0 σ r R wss A lo hi NX BF ow E c' s' := ⟨h.cs, h.it, h.ns, h.nm, h.tg, h.ss, h.wy, h.i4, h.i5, h.fr.up hc hs⟩
/-- the edges from line to line, of the first k lines -/
def e3 (R : Rt) : Nat → Edg
  | 0 => []
  | k + 1 => e3 R k ++ (if (R.1.getD k fit0).2.1 < 4 then [(k, k + 1)] else [])
theorem e3_lt (R : Rt) : ∀ k e, e ∈ e3 R k → e.1 < k ∧ e.2 = e.1 + 1 ∧ (R.1.getD e.1 fit0).2.1 < 4
  | 0, e, h => by simp [e3] at h
  | k + 1, e, h => by
    simp only [e3, List.mem_append] at h
    rcases h with h | h
    · have := e3_lt R k e h; exact ⟨by omega, this.2⟩
    · split at h
      · next q => simp at h; subst h; exact ⟨by simp, rfl, q⟩
      · simp at h
theorem e3_len (R : Rt) : ∀ k, (e3 R k).length ≤ k
  | 0 => Nat.le_refl 0
  | k + 1 => by
    have := e3_len R k
    unfold e3
    split <;> simp <;> omega
theorem outE_nil {E : Edg} {k : Nat} (h : ∀ e ∈ E, e.1 ≠ k) : outE E k = [] := by
  unfold outE
  rw [List.filterMap_eq_nil_iff]
  intro e he
  rw [if_neg (h e he)]
theorem inE_nil {E : Edg} {k : Nat} (h : ∀ e ∈ E, e.2 ≠ k) : inE E k = [] := by
  unfold inE
  rw [List.filterMap_eq_nil_iff]
  intro e he
  rw [if_neg (h e he)]
theorem WfR.k4 {R : Rt} (w : WfR R) {b k : Nat} (hb : b < R.2.length) (h1 : fstN R.2 b ≤ k) (h2 : k < nxtN R b) : 4 ≤ (R.1.getD k fit0).2.1 ↔ k + 1 = nxtN R b := by
  obtain ⟨it, e⟩ := w.2.2.2.2.2 b hb k h1 h2
  obtain ⟨-, -, -, q, -⟩ := w.2.2.2.2.1 k _ e
  rw [List.getD_eq_getElem?_getD, e]; exact q
theorem tgLead {a b : Nat} (h : hT σ a = 7 ∨ hT σ a = 8 ∨ hT σ a = 9 ∨ hT σ a = 10 ∨ hT σ a = 11 ∨ hT σ a = 12 ∨ hT σ a = 13 ∨ hT σ a = 14) (k : pX6_leadsTo κ [.ref a, .ref b] σ Q) : hvc [(7, pX6_leadsTo κ), (8, pX6_leadsTo κ), (9, pX6_leadsTo κ), (10, pX6_leadsTo κ), (11, pX6_leadsTo κ), (12, pX6_leadsTo κ), (13, pX6_leadsTo κ), (14, pX6_leadsTo κ)] [.ref a, .ref b] σ Q := by
  rcases h with h | h | h | h | h | h | h | h <;> simpa [hvc, dspI, h] using k
theorem cl_row {b : Nat} {J : Cont AH} (w : WfR R) (hb : b < R.2.length) (r1 : 5000 ≤ hC σ0) (r2 : 120000 ≤ hS σ0) : ∀ m j (σ : AH), j + m + 1 = nxtN R b - fstN R.2 b → P3 κ σ0 σ r R wss A lo hi NX BF [] (e3 R (fstN R.2 b + j)) (160 + 2 * (e3 R (fstN R.2 b + j)).length) (27040 + 20 * (e3 R (fstN R.2 b + j)).length) →
    (∀ σ', P3 κ σ0 σ' r R wss A lo hi NX BF [] (e3 R (nxtN R b)) (160 + 2 * (e3 R (nxtN R b)).length) (27040 + 20 * (e3 R (nxtN R b)).length) → J [some (.ref r), some (.int (nn (b + 1))), none, none] [] σ') →
    bX4_close_127 κ Q J [some (.ref r), some (.int (nn b)), some (.ref (wss.getD b (0, [])).1), some (.int (nn j))] [] σ := by
  intro m j σ hm hP kk
  unfold bX4_close_127
  intro X hX
  revert j σ
  have hw2 := w.2.2.1 b hb
  have hln := w.1
  have hnb := w.2.1
  induction m with
  | zero =>
    intro j σ hm hP
    apply hX
    have C := hP.cs
    have hbl : b < wss.length := by rw [C.wl]; exact hb
    have hg : wss[b]? = some (wss.getD b (0, [])) := by rw [List.getD_eq_getElem?_getD, List.getElem?_eq_getElem hbl]; rfl
    obtain ⟨q1, q2, q3, q4, q5⟩ := C.rows b _ hg
    generalize wss.getD b (0, []) = ww at hg q1 q2 q3 q4 q5
    have b1 : j + 1 < 2147483648 := by omega
    have b2 : ww.2.length < 2147483648 := by omega
    have le : ww.2.length ≤ j + 1 := by omega
    simp [o_ic, o_lc, o_null, o_il, o_ll, o_al, o_dup, o_pop, o_dup_x1, o_dup2, o_iadd, o_isub, o_imul, o_iand, o_ior, o_ixor, o_ishl, o_ishr, o_idiv, o_irem, o_ineg, o_ladd, o_lsub, o_lmul, o_land, o_lor, o_lxor, o_ldiv, o_lrem, o_lneg, o_lcmp, o_i2l, o_l2i, o_i2b, o_i2c, o_iushr, o_lshl, o_lshr, o_if_eq, o_if_ne, o_if_lt, o_if_ge, o_if_gt, o_if_le, o_icmp_eq, o_icmp_ne, o_icmp_lt, o_icmp_ge, o_icmp_gt, o_icmp_le, o_ifnull, o_ifnonnull, o_acmp_eq, o_acmp_ne, o_is, o_ls, o_as, o_iinc, o_kill, o_sw, o_ireturn, o_zreturn, o_nreturn, o_lreturn, o_areturn, o_return, o_athrow, o_call, entP, lg_sl, Value.category, st1, st2, List.set, List.getElem?_cons_zero, List.getElem?_cons_succ, List.foldl, popN, aft, o_gI, o_gR, o_pI, o_pN, o_pR, o_aI, o_aG, o_aR, o_len, o_aR8, o_sI, o_sB, o_sZ, o_sG, o_new, o_newA, o_cast, o_inst, o_cst, o_oi, o_sR, o_gIc, o_gSv, o_gSc, o_getc, o_dead, o_acopy, o_castA, o_castI, o_sR7, o_mna, o_mmax, o_mmin, o_mabs, nn_succ]
    refine hv_size q1 ?_
    simp [o_ic, o_lc, o_null, o_il, o_ll, o_al, o_dup, o_pop, o_dup_x1, o_dup2, o_iadd, o_isub, o_imul, o_iand, o_ior, o_ixor, o_ishl, o_ishr, o_idiv, o_irem, o_ineg, o_ladd, o_lsub, o_lmul, o_land, o_lor, o_lxor, o_ldiv, o_lrem, o_lneg, o_lcmp, o_i2l, o_l2i, o_i2b, o_i2c, o_iushr, o_lshl, o_lshr, o_if_eq, o_if_ne, o_if_lt, o_if_ge, o_if_gt, o_if_le, o_icmp_eq, o_icmp_ne, o_icmp_lt, o_icmp_ge, o_icmp_gt, o_icmp_le, o_ifnull, o_ifnonnull, o_acmp_eq, o_acmp_ne, o_is, o_ls, o_as, o_iinc, o_kill, o_sw, o_ireturn, o_zreturn, o_nreturn, o_lreturn, o_areturn, o_return, o_athrow, o_call, entP, lg_sl, Value.category, st1, st2, List.set, List.getElem?_cons_zero, List.getElem?_cons_succ, List.foldl, popN, aft, o_gI, o_gR, o_pI, o_pN, o_pR, o_aI, o_aG, o_aR, o_len, o_aR8, o_sI, o_sB, o_sZ, o_sG, o_new, o_newA, o_cast, o_inst, o_cst, o_oi, o_sR, o_gIc, o_gSv, o_gSc, o_getc, o_dead, o_acopy, o_castA, o_castI, o_sR7, o_mna, o_mmax, o_mmin, o_mabs, nn_eqL, nn_ltL, nn_leL, nn_Llt, nn_Lle, nn_lt, nn_le, nn_eq, nn_in, nn_clamp, nn_succ, nn_pos, nn_neg1, b1, b2, le, bX4_close_164, nn_succ]
    refine kk σ ?_
    have e : e3 R (nxtN R b) = e3 R (fstN R.2 b + j) := by
      rw [show nxtN R b = fstN R.2 b + j + 1 by omega]
      conv => lhs; unfold e3
      rw [if_neg (by have := (w.k4 hb (k := fstN R.2 b + j) (by omega) (by omega)).2 (by omega); omega)]
      simp
    rw [e]; exact hP
  | succ m ih =>
    intro j σ hm hP
    apply hX
    have C := hP.cs
    have hbl : b < wss.length := by rw [C.wl]; exact hb
    have hg : wss[b]? = some (wss.getD b (0, [])) := by rw [List.getD_eq_getElem?_getD, List.getElem?_eq_getElem hbl]; rfl
    obtain ⟨q1, q2, q3, q4, q5⟩ := C.rows b _ hg
    generalize wss.getD b (0, []) = ww at hg q1 q2 q3 q4 q5 ih
    have b1 : j + 1 < 2147483648 := by omega
    have b0 : j < 2147483648 := by omega
    have b2 : ww.2.length < 2147483648 := by omega
    have nle : ¬ ww.2.length ≤ j + 1 := by omega
    have hj := q4 j (by omega)
    have hj1 := q4 (j + 1) (by omega)
    obtain ⟨-, e2⟩ := w.bk9 hb (k := fstN R.2 b + j) (by omega) (by omega)
    obtain ⟨-, e2'⟩ := w.bk9 hb (k := fstN R.2 b + (j + 1)) (by omega) (by omega)
    have l2 : fstN R.2 b + j < R.1.length + ([] : List Nat).length := by simpa using e2
    have l2' : fstN R.2 b + (j + 1) < R.1.length + ([] : List Nat).length := by simpa using e2'
    have t := C.tgA l2
    have t' := C.tgA l2'
    have k3 : (R.1.getD (fstN R.2 b + j) fit0).2.1 < 4 := by
      have := w.k4 hb (k := fstN R.2 b + j) (by omega) (by omega)
      omega
    have eo : outE (e3 R (fstN R.2 b + j)) (fstN R.2 b + j) = [] := outE_nil (fun e he => by have := e3_lt R _ e he; omega)
    have ei : inE (e3 R (fstN R.2 b + j)) (fstN R.2 b + (j + 1)) = [] := inE_nil (fun e he => by have := e3_lt R _ e he; omega)
    have el := e3_len R (fstN R.2 b + j)
    have ee : e3 R (fstN R.2 b + (j + 1)) = e3 R (fstN R.2 b + j) ++ [(fstN R.2 b + j, fstN R.2 b + (j + 1))] := by
      rw [show fstN R.2 b + (j + 1) = fstN R.2 b + j + 1 by omega]
      conv => lhs; unfold e3
      rw [if_pos k3]
    simp [o_ic, o_lc, o_null, o_il, o_ll, o_al, o_dup, o_pop, o_dup_x1, o_dup2, o_iadd, o_isub, o_imul, o_iand, o_ior, o_ixor, o_ishl, o_ishr, o_idiv, o_irem, o_ineg, o_ladd, o_lsub, o_lmul, o_land, o_lor, o_lxor, o_ldiv, o_lrem, o_lneg, o_lcmp, o_i2l, o_l2i, o_i2b, o_i2c, o_iushr, o_lshl, o_lshr, o_if_eq, o_if_ne, o_if_lt, o_if_ge, o_if_gt, o_if_le, o_icmp_eq, o_icmp_ne, o_icmp_lt, o_icmp_ge, o_icmp_gt, o_icmp_le, o_ifnull, o_ifnonnull, o_acmp_eq, o_acmp_ne, o_is, o_ls, o_as, o_iinc, o_kill, o_sw, o_ireturn, o_zreturn, o_nreturn, o_lreturn, o_areturn, o_return, o_athrow, o_call, entP, lg_sl, Value.category, st1, st2, List.set, List.getElem?_cons_zero, List.getElem?_cons_succ, List.foldl, popN, aft, o_gI, o_gR, o_pI, o_pN, o_pR, o_aI, o_aG, o_aR, o_len, o_aR8, o_sI, o_sB, o_sZ, o_sG, o_new, o_newA, o_cast, o_inst, o_cst, o_oi, o_sR, o_gIc, o_gSv, o_gSc, o_getc, o_dead, o_acopy, o_castA, o_castI, o_sR7, o_mna, o_mmax, o_mmin, o_mabs, nn_succ]
    refine hv_size q1 ?_
    simp [o_ic, o_lc, o_null, o_il, o_ll, o_al, o_dup, o_pop, o_dup_x1, o_dup2, o_iadd, o_isub, o_imul, o_iand, o_ior, o_ixor, o_ishl, o_ishr, o_idiv, o_irem, o_ineg, o_ladd, o_lsub, o_lmul, o_land, o_lor, o_lxor, o_ldiv, o_lrem, o_lneg, o_lcmp, o_i2l, o_l2i, o_i2b, o_i2c, o_iushr, o_lshl, o_lshr, o_if_eq, o_if_ne, o_if_lt, o_if_ge, o_if_gt, o_if_le, o_icmp_eq, o_icmp_ne, o_icmp_lt, o_icmp_ge, o_icmp_gt, o_icmp_le, o_ifnull, o_ifnonnull, o_acmp_eq, o_acmp_ne, o_is, o_ls, o_as, o_iinc, o_kill, o_sw, o_ireturn, o_zreturn, o_nreturn, o_lreturn, o_areturn, o_return, o_athrow, o_call, entP, lg_sl, Value.category, st1, st2, List.set, List.getElem?_cons_zero, List.getElem?_cons_succ, List.foldl, popN, aft, o_gI, o_gR, o_pI, o_pN, o_pR, o_aI, o_aG, o_aR, o_len, o_aR8, o_sI, o_sB, o_sZ, o_sG, o_new, o_newA, o_cast, o_inst, o_cst, o_oi, o_sR, o_gIc, o_gSv, o_gSc, o_getc, o_dead, o_acopy, o_castA, o_castI, o_sR7, o_mna, o_mmax, o_mmin, o_mabs, nn_eqL, nn_ltL, nn_leL, nn_Llt, nn_Lle, nn_lt, nn_le, nn_eq, nn_in, nn_clamp, nn_succ, nn_pos, nn_neg1, b1, b2, nle, nn_succ]
    refine hv_get q1 hj ?_
    simp [o_ic, o_lc, o_null, o_il, o_ll, o_al, o_dup, o_pop, o_dup_x1, o_dup2, o_iadd, o_isub, o_imul, o_iand, o_ior, o_ixor, o_ishl, o_ishr, o_idiv, o_irem, o_ineg, o_ladd, o_lsub, o_lmul, o_land, o_lor, o_lxor, o_ldiv, o_lrem, o_lneg, o_lcmp, o_i2l, o_l2i, o_i2b, o_i2c, o_iushr, o_lshl, o_lshr, o_if_eq, o_if_ne, o_if_lt, o_if_ge, o_if_gt, o_if_le, o_icmp_eq, o_icmp_ne, o_icmp_lt, o_icmp_ge, o_icmp_gt, o_icmp_le, o_ifnull, o_ifnonnull, o_acmp_eq, o_acmp_ne, o_is, o_ls, o_as, o_iinc, o_kill, o_sw, o_ireturn, o_zreturn, o_nreturn, o_lreturn, o_areturn, o_return, o_athrow, o_call, entP, lg_sl, Value.category, st1, st2, List.set, List.getElem?_cons_zero, List.getElem?_cons_succ, List.foldl, popN, aft, o_gI, o_gR, o_pI, o_pN, o_pR, o_aI, o_aG, o_aR, o_len, o_aR8, o_sI, o_sB, o_sZ, o_sG, o_new, o_newA, o_cast, o_inst, o_cst, o_oi, o_sR, o_gIc, o_gSv, o_gSc, o_getc, o_dead, o_acopy, o_castA, o_castI, o_sR7, o_mna, o_mmax, o_mmin, o_mabs, t, nn_succ]
    refine hv_get q1 hj1 ?_
    simp [o_ic, o_lc, o_null, o_il, o_ll, o_al, o_dup, o_pop, o_dup_x1, o_dup2, o_iadd, o_isub, o_imul, o_iand, o_ior, o_ixor, o_ishl, o_ishr, o_idiv, o_irem, o_ineg, o_ladd, o_lsub, o_lmul, o_land, o_lor, o_lxor, o_ldiv, o_lrem, o_lneg, o_lcmp, o_i2l, o_l2i, o_i2b, o_i2c, o_iushr, o_lshl, o_lshr, o_if_eq, o_if_ne, o_if_lt, o_if_ge, o_if_gt, o_if_le, o_icmp_eq, o_icmp_ne, o_icmp_lt, o_icmp_ge, o_icmp_gt, o_icmp_le, o_ifnull, o_ifnonnull, o_acmp_eq, o_acmp_ne, o_is, o_ls, o_as, o_iinc, o_kill, o_sw, o_ireturn, o_zreturn, o_nreturn, o_lreturn, o_areturn, o_return, o_athrow, o_call, entP, lg_sl, Value.category, st1, st2, List.set, List.getElem?_cons_zero, List.getElem?_cons_succ, List.foldl, popN, aft, o_gI, o_gR, o_pI, o_pN, o_pR, o_aI, o_aG, o_aR, o_len, o_aR8, o_sI, o_sB, o_sZ, o_sG, o_new, o_newA, o_cast, o_inst, o_cst, o_oi, o_sR, o_gIc, o_gSv, o_gSc, o_getc, o_dead, o_acopy, o_castA, o_castI, o_sR7, o_mna, o_mmax, o_mmin, o_mabs, t']
    refine tgLead t ?_
    refine ct_leadsTo C l2 l2' (by rw [eo]; simp) (by rw [ei]; simp) (by have := hP.fr.C; omega) (by rw [eo, ei]; have := hP.fr.S; simp; omega) (fun σ' F C' => ?_)
    rw [eo, ei] at F
    have hP' := hP.edge l2 l2' F C'
    simp [o_ic, o_lc, o_null, o_il, o_ll, o_al, o_dup, o_pop, o_dup_x1, o_dup2, o_iadd, o_isub, o_imul, o_iand, o_ior, o_ixor, o_ishl, o_ishr, o_idiv, o_irem, o_ineg, o_ladd, o_lsub, o_lmul, o_land, o_lor, o_lxor, o_ldiv, o_lrem, o_lneg, o_lcmp, o_i2l, o_l2i, o_i2b, o_i2c, o_iushr, o_lshl, o_lshr, o_if_eq, o_if_ne, o_if_lt, o_if_ge, o_if_gt, o_if_le, o_icmp_eq, o_icmp_ne, o_icmp_lt, o_icmp_ge, o_icmp_gt, o_icmp_le, o_ifnull, o_ifnonnull, o_acmp_eq, o_acmp_ne, o_is, o_ls, o_as, o_iinc, o_kill, o_sw, o_ireturn, o_zreturn, o_nreturn, o_lreturn, o_areturn, o_return, o_athrow, o_call, entP, lg_sl, Value.category, st1, st2, List.set, List.getElem?_cons_zero, List.getElem?_cons_succ, List.foldl, popN, aft, nn_succ]
    refine ih (j + 1) σ' (by omega) ?_
    rw [ee]
    simp only [List.length_append, List.length_cons, List.length_nil] at hP' ⊢
    exact hP'.up (by omega) (by omega)
theorem cl_rows (w : WfR R) (h0 : 0 < R.2.length) (r1 : 5000 ≤ hC σ0) (r2 : 120000 ≤ hS σ0) (hP : P1 κ σ0 σ r R wss A lo hi NX BF R.1.length)
    (kk : ∀ σ', P3 κ σ0 σ' r R wss A lo hi NX BF [] (e3 R R.1.length) 500 30300 → bX4_close_172 κ Q [some (.ref r), some (.int 0), none, none] [] σ') :
    bX4_close_89 κ Q [some (.ref r), some (.int (nn R.2.length)), none, none] [] σ := by
  have C := hP.cs
  have r1' := C.rr 1 (by omega)
  have hnb := w.2.1
  have hln := w.1
  simp [bX4_close_89, o_ic, o_lc, o_null, o_il, o_ll, o_al, o_dup, o_pop, o_dup_x1, o_dup2, o_iadd, o_isub, o_imul, o_iand, o_ior, o_ixor, o_ishl, o_ishr, o_idiv, o_irem, o_ineg, o_ladd, o_lsub, o_lmul, o_land, o_lor, o_lxor, o_ldiv, o_lrem, o_lneg, o_lcmp, o_i2l, o_l2i, o_i2b, o_i2c, o_iushr, o_lshl, o_lshr, o_if_eq, o_if_ne, o_if_lt, o_if_ge, o_if_gt, o_if_le, o_icmp_eq, o_icmp_ne, o_icmp_lt, o_icmp_ge, o_icmp_gt, o_icmp_le, o_ifnull, o_ifnonnull, o_acmp_eq, o_acmp_ne, o_is, o_ls, o_as, o_iinc, o_kill, o_sw, o_ireturn, o_zreturn, o_nreturn, o_lreturn, o_areturn, o_return, o_athrow, o_call, entP, lg_sl, Value.category, st1, st2, List.set, List.getElem?_cons_zero, List.getElem?_cons_succ, List.foldl, popN, aft, o_gI, o_gR, o_pI, o_pN, o_pR, o_aI, o_aG, o_aR, o_len, o_aR8, o_sI, o_sB, o_sZ, o_sG, o_new, o_newA, o_cast, o_inst, o_cst, o_oi, o_sR, o_gIc, o_gSv, o_gSc, o_getc, o_dead, o_acopy, o_castA, o_castI, o_sR7, o_mna, o_mmax, o_mmin, o_mabs, C.tr, r1', va_rf]
  refine hv_size hP.ns ?_
  simp [o_ic, o_lc, o_null, o_il, o_ll, o_al, o_dup, o_pop, o_dup_x1, o_dup2, o_iadd, o_isub, o_imul, o_iand, o_ior, o_ixor, o_ishl, o_ishr, o_idiv, o_irem, o_ineg, o_ladd, o_lsub, o_lmul, o_land, o_lor, o_lxor, o_ldiv, o_lrem, o_lneg, o_lcmp, o_i2l, o_l2i, o_i2b, o_i2c, o_iushr, o_lshl, o_lshr, o_if_eq, o_if_ne, o_if_lt, o_if_ge, o_if_gt, o_if_le, o_icmp_eq, o_icmp_ne, o_icmp_lt, o_icmp_ge, o_icmp_gt, o_icmp_le, o_ifnull, o_ifnonnull, o_acmp_eq, o_acmp_ne, o_is, o_ls, o_as, o_iinc, o_kill, o_sw, o_ireturn, o_zreturn, o_nreturn, o_lreturn, o_areturn, o_return, o_athrow, o_call, entP, lg_sl, Value.category, st1, st2, List.set, List.getElem?_cons_zero, List.getElem?_cons_succ, List.foldl, popN, aft, o_gI, o_gR, o_pI, o_pN, o_pR, o_aI, o_aG, o_aR, o_len, o_aR8, o_sI, o_sB, o_sZ, o_sG, o_new, o_newA, o_cast, o_inst, o_cst, o_oi, o_sR, o_gIc, o_gSv, o_gSc, o_getc, o_dead, o_acopy, o_castA, o_castI, o_sR7, o_mna, o_mmax, o_mmin, o_mabs, C.tr]
  -- the number of lines
  have F : HL κ (EqM r) NoM 0 0 σ (hsI σ r 4 (nn R.1.length)) := (HL.rfl9 C.ok).sI (Or.inl rfl) C.tr (by decide)
  have h3 : P3 κ σ0 (hsI σ r 4 (nn R.1.length)) r R wss A lo hi NX BF [] (e3 R 0) (160 + 2 * (e3 R 0).length) (27040 + 20 * (e3 R 0).length) := by
    have ne : ∀ i, i < R.1.length → ¬ A i = r := fun i hi' => by have := C.iv i hi'; omega
    refine ⟨?_, fun i x hx => (hP.it i x hx).sI (by rw [C.tr]; decide) (Or.inl (by rw [C.tr]; decide)) (Or.inl C.tr), F.al hP.ns (by show ¬ r + 2 = r; omega), fun i hi' => ?_, fun i h1 h2 => by simp at h2; omega, F.al hP.ss (by show ¬ r + 3 = r; omega), F.al hP.wy (by show ¬ r + 4 = r; omega), by simp [hT_sI, hT_sR, hT_sG, hL_sI, hL_sR, hL_sG, hI_sI, hI_sR, hI_sG, hG_sI, hG_sR, hG_sG, hR_sI, hR_sR, hR_sG, hN_sI, hN_sR, hN_sG, hC_sI, hC_sR, hC_sG, hS_sI, hS_sR, hS_sG, hT_nw, hL_nw, hI_nw, hG_nw, hR_nw, hN_nw, hC_nw, hS_nw, hvc, hvi, dspI, vref, va_rf], by simp [hT_sI, hT_sR, hT_sG, hL_sI, hL_sR, hL_sG, hI_sI, hI_sR, hI_sG, hG_sI, hG_sR, hG_sG, hR_sI, hR_sR, hR_sG, hN_sI, hN_sR, hN_sG, hC_sI, hC_sR, hC_sG, hS_sI, hS_sR, hS_sG, hT_nw, hL_nw, hI_nw, hG_nw, hR_nw, hN_nw, hC_nw, hS_nw, hvc, hvi, dspI, vref, va_rf]; exact hP.i5, ?_⟩
    · refine C.fr F (by show ¬ r + 1 = r; omega) id (fun b w' hb => ?_) (fun i hi' => ?_) (fun _ _ => id)
      · have := (C.rows b w' hb).2.1; show ¬ w'.1 = r; omega
      · have := C.iv i hi'
        exact ⟨by show ¬ NX i = r; omega, by show ¬ BF i = r; omega⟩
    · simp at hi'
      have := hP.nm i hi'
      unfold bkO
      rw [if_pos hi']
      simp [hT_sI, hT_sR, hT_sG, hL_sI, hL_sR, hL_sG, hI_sI, hI_sR, hI_sG, hG_sI, hG_sR, hG_sG, hR_sI, hR_sR, hR_sG, hN_sI, hN_sR, hN_sG, hC_sI, hC_sR, hC_sG, hS_sI, hS_sR, hS_sG, hT_nw, hL_nw, hI_nw, hG_nw, hR_nw, hN_nw, hC_nw, hS_nw, hvc, hvi, dspI, vref, va_rf, ne i hi']; exact this
    · have := hP.fr.trans (F.imp (M' := GeM r) (MR' := GeM r) (fun b q => by have : b = r := q; show r ≤ b; omega) (fun _ q => q.elim))
      refine this.up (by simp [e3]; omega) (by have := sq_le hln; simp [e3]; omega)
  unfold bX4_close_102
  intro X hX
  have main : ∀ m b (σ : AH) k, b + m = R.2.length → k = (if b < R.2.length then fstN R.2 b else R.1.length) → P3 κ σ0 σ r R wss A lo hi NX BF [] (e3 R k) (160 + 2 * (e3 R k).length) (27040 + 20 * (e3 R k).length) → X [some (.ref r), some (.int (nn b)), none, none] [] σ := by
    intro m
    induction m with
    | zero =>
      intro b σ k hb hk hP
      apply hX
      have C := hP.cs
      have r0 := C.rr 0 (by omega)
      have b1 : b < 2147483648 := by omega
      have b2 : wss.length < 2147483648 := by rw [C.wl]; omega
      have le : wss.length ≤ b := by rw [C.wl]; omega
      simp [o_ic, o_lc, o_null, o_il, o_ll, o_al, o_dup, o_pop, o_dup_x1, o_dup2, o_iadd, o_isub, o_imul, o_iand, o_ior, o_ixor, o_ishl, o_ishr, o_idiv, o_irem, o_ineg, o_ladd, o_lsub, o_lmul, o_land, o_lor, o_lxor, o_ldiv, o_lrem, o_lneg, o_lcmp, o_i2l, o_l2i, o_i2b, o_i2c, o_iushr, o_lshl, o_lshr, o_if_eq, o_if_ne, o_if_lt, o_if_ge, o_if_gt, o_if_le, o_icmp_eq, o_icmp_ne, o_icmp_lt, o_icmp_ge, o_icmp_gt, o_icmp_le, o_ifnull, o_ifnonnull, o_acmp_eq, o_acmp_ne, o_is, o_ls, o_as, o_iinc, o_kill, o_sw, o_ireturn, o_zreturn, o_nreturn, o_lreturn, o_areturn, o_return, o_athrow, o_call, entP, lg_sl, Value.category, st1, st2, List.set, List.getElem?_cons_zero, List.getElem?_cons_succ, List.foldl, popN, aft, o_gI, o_gR, o_pI, o_pN, o_pR, o_aI, o_aG, o_aR, o_len, o_aR8, o_sI, o_sB, o_sZ, o_sG, o_new, o_newA, o_cast, o_inst, o_cst, o_oi, o_sR, o_gIc, o_gSv, o_gSc, o_getc, o_dead, o_acopy, o_castA, o_castI, o_sR7, o_mna, o_mmax, o_mmin, o_mabs, C.tr, r0, va_rf]
      refine hv_size C.al ?_
      simp [o_ic, o_lc, o_null, o_il, o_ll, o_al, o_dup, o_pop, o_dup_x1, o_dup2, o_iadd, o_isub, o_imul, o_iand, o_ior, o_ixor, o_ishl, o_ishr, o_idiv, o_irem, o_ineg, o_ladd, o_lsub, o_lmul, o_land, o_lor, o_lxor, o_ldiv, o_lrem, o_lneg, o_lcmp, o_i2l, o_l2i, o_i2b, o_i2c, o_iushr, o_lshl, o_lshr, o_if_eq, o_if_ne, o_if_lt, o_if_ge, o_if_gt, o_if_le, o_icmp_eq, o_icmp_ne, o_icmp_lt, o_icmp_ge, o_icmp_gt, o_icmp_le, o_ifnull, o_ifnonnull, o_acmp_eq, o_acmp_ne, o_is, o_ls, o_as, o_iinc, o_kill, o_sw, o_ireturn, o_zreturn, o_nreturn, o_lreturn, o_areturn, o_return, o_athrow, o_call, entP, lg_sl, Value.category, st1, st2, List.set, List.getElem?_cons_zero, List.getElem?_cons_succ, List.foldl, popN, aft, o_gI, o_gR, o_pI, o_pN, o_pR, o_aI, o_aG, o_aR, o_len, o_aR8, o_sI, o_sB, o_sZ, o_sG, o_new, o_newA, o_cast, o_inst, o_cst, o_oi, o_sR, o_gIc, o_gSv, o_gSc, o_getc, o_dead, o_acopy, o_castA, o_castI, o_sR7, o_mna, o_mmax, o_mmin, o_mabs, nn_eqL, nn_ltL, nn_leL, nn_Llt, nn_Lle, nn_lt, nn_le, nn_eq, nn_in, nn_clamp, nn_succ, nn_pos, nn_neg1, b1, b2, le, bX4_close_170]
      rw [if_neg (by omega)] at hk
      rw [hk] at hP
      have := e3_len R R.1.length
      exact kk σ (hP.up (by omega) (by omega))
    | succ m ih =>
      intro b σ k hb hk hP
      apply hX
      have C := hP.cs
      have r0 := C.rr 0 (by omega)
      have b1 : b < 2147483648 := by omega
      have b2 : wss.length < 2147483648 := by rw [C.wl]; omega
      have nle : ¬ wss.length ≤ b := by rw [C.wl]; omega
      have hbl : b < wss.length := by rw [C.wl]; omega
      have hg : wss[b]? = some (wss.getD b (0, [])) := by rw [List.getD_eq_getElem?_getD, List.getElem?_eq_getElem hbl]; rfl
      have hgm : (wss.map (·.1))[b]? = some (wss.getD b (0, [])).1 := by rw [List.getElem?_map, hg]; rfl
      obtain ⟨q1, -⟩ := C.rows b _ hg
      simp [o_ic, o_lc, o_null, o_il, o_ll, o_al, o_dup, o_pop, o_dup_x1, o_dup2, o_iadd, o_isub, o_imul, o_iand, o_ior, o_ixor, o_ishl, o_ishr, o_idiv, o_irem, o_ineg, o_ladd, o_lsub, o_lmul, o_land, o_lor, o_lxor, o_ldiv, o_lrem, o_lneg, o_lcmp, o_i2l, o_l2i, o_i2b, o_i2c, o_iushr, o_lshl, o_lshr, o_if_eq, o_if_ne, o_if_lt, o_if_ge, o_if_gt, o_if_le, o_icmp_eq, o_icmp_ne, o_icmp_lt, o_icmp_ge, o_icmp_gt, o_icmp_le, o_ifnull, o_ifnonnull, o_acmp_eq, o_acmp_ne, o_is, o_ls, o_as, o_iinc, o_kill, o_sw, o_ireturn, o_zreturn, o_nreturn, o_lreturn, o_areturn, o_return, o_athrow, o_call, entP, lg_sl, Value.category, st1, st2, List.set, List.getElem?_cons_zero, List.getElem?_cons_succ, List.foldl, popN, aft, o_gI, o_gR, o_pI, o_pN, o_pR, o_aI, o_aG, o_aR, o_len, o_aR8, o_sI, o_sB, o_sZ, o_sG, o_new, o_newA, o_cast, o_inst, o_cst, o_oi, o_sR, o_gIc, o_gSv, o_gSc, o_getc, o_dead, o_acopy, o_castA, o_castI, o_sR7, o_mna, o_mmax, o_mmin, o_mabs, C.tr, r0, va_rf]
      refine hv_size C.al ?_
      simp [o_ic, o_lc, o_null, o_il, o_ll, o_al, o_dup, o_pop, o_dup_x1, o_dup2, o_iadd, o_isub, o_imul, o_iand, o_ior, o_ixor, o_ishl, o_ishr, o_idiv, o_irem, o_ineg, o_ladd, o_lsub, o_lmul, o_land, o_lor, o_lxor, o_ldiv, o_lrem, o_lneg, o_lcmp, o_i2l, o_l2i, o_i2b, o_i2c, o_iushr, o_lshl, o_lshr, o_if_eq, o_if_ne, o_if_lt, o_if_ge, o_if_gt, o_if_le, o_icmp_eq, o_icmp_ne, o_icmp_lt, o_icmp_ge, o_icmp_gt, o_icmp_le, o_ifnull, o_ifnonnull, o_acmp_eq, o_acmp_ne, o_is, o_ls, o_as, o_iinc, o_kill, o_sw, o_ireturn, o_zreturn, o_nreturn, o_lreturn, o_areturn, o_return, o_athrow, o_call, entP, lg_sl, Value.category, st1, st2, List.set, List.getElem?_cons_zero, List.getElem?_cons_succ, List.foldl, popN, aft, o_gI, o_gR, o_pI, o_pN, o_pR, o_aI, o_aG, o_aR, o_len, o_aR8, o_sI, o_sB, o_sZ, o_sG, o_new, o_newA, o_cast, o_inst, o_cst, o_oi, o_sR, o_gIc, o_gSv, o_gSc, o_getc, o_dead, o_acopy, o_castA, o_castI, o_sR7, o_mna, o_mmax, o_mmin, o_mabs, nn_eqL, nn_ltL, nn_leL, nn_Llt, nn_Lle, nn_lt, nn_le, nn_eq, nn_in, nn_clamp, nn_succ, nn_pos, nn_neg1, b1, b2, nle, C.tr, r0, va_rf]
      refine hv_get C.al hgm ?_
      simp only [List.getD_eq_getElem?_getD] at q1
      simp [o_ic, o_lc, o_null, o_il, o_ll, o_al, o_dup, o_pop, o_dup_x1, o_dup2, o_iadd, o_isub, o_imul, o_iand, o_ior, o_ixor, o_ishl, o_ishr, o_idiv, o_irem, o_ineg, o_ladd, o_lsub, o_lmul, o_land, o_lor, o_lxor, o_ldiv, o_lrem, o_lneg, o_lcmp, o_i2l, o_l2i, o_i2b, o_i2c, o_iushr, o_lshl, o_lshr, o_if_eq, o_if_ne, o_if_lt, o_if_ge, o_if_gt, o_if_le, o_icmp_eq, o_icmp_ne, o_icmp_lt, o_icmp_ge, o_icmp_gt, o_icmp_le, o_ifnull, o_ifnonnull, o_acmp_eq, o_acmp_ne, o_is, o_ls, o_as, o_iinc, o_kill, o_sw, o_ireturn, o_zreturn, o_nreturn, o_lreturn, o_areturn, o_return, o_athrow, o_call, entP, lg_sl, Value.category, st1, st2, List.set, List.getElem?_cons_zero, List.getElem?_cons_succ, List.foldl, popN, aft, o_gI, o_gR, o_pI, o_pN, o_pR, o_aI, o_aG, o_aR, o_len, o_aR8, o_sI, o_sB, o_sZ, o_sG, o_new, o_newA, o_cast, o_inst, o_cst, o_oi, o_sR, o_gIc, o_gSv, o_gSc, o_getc, o_dead, o_acopy, o_castA, o_castI, o_sR7, o_mna, o_mmax, o_mmin, o_mabs, q1.1]
      rw [if_pos (by omega)] at hk
      rw [hk] at hP
      have hw2 := w.2.2.1 b (by omega)
      have := cl_row (Q := Q) (J := X) (κ := κ) (wss := wss) (A := A) (lo := lo) (hi := hi) (NX := NX) (BF := BF) w (show b < R.2.length by omega) r1 r2 (nxtN R b - fstN R.2 b - 1) 0 σ (by omega) hP (fun σ' hP' => ?_)
      · rw [List.getD_eq_getElem?_getD] at this; exact this
      · refine ih (b + 1) σ' _ (by omega) ?_ hP'
        unfold nxtN
        rfl
  refine main R.2.length 0 _ 0 (by omega) ?_ h3
  rw [if_pos h0, w.2.2.2.1 h0]
end P3s
