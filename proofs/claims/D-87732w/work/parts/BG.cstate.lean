/-! THE COMPONENT: its state as a whole -/
set_option maxRecDepth 100000
/-- a routine with its rows of bits -/
def RtC (κ : Nat → Option Nat) (σ : AH) (r : Nat) (R : Rt) (h9 : Nat) : Prop := ∃ wss A NX BF B ss h8 VA, RtB κ σ r R wss A NX BF B ss h8 ∧ VS σ r (nds R).length h8 VA 8 (fun i => fb R i) ∧ (∀ i, i < 8 → VA i < h9) ∧ h8 ≤ h9 ∧ h9 ≤ hN σ ∧ (sms R.1).length ≤ 32
/-- its way: small Integers -/
def WayC (κ : Nat → Option Nat) (σ : AH) (r : Nat) (way : List Nat) : Prop := ∃ ws, AL κ σ (r + 4) ws ∧ ws.length = way.length ∧ ∀ (i b : Nat), way[i]? = some b → ∃ y, ws[i]? = some y ∧ hT σ y = 60 ∧ hI σ y 0 = nn b
def PlC (κ : Nat → Option Nat) (σ : AH) (ra : Option Nat) (x : PlA) (lo h9 : Nat) : Prop := match ra, x with
  | none, none => True
  | some r, some x => PlOk x ∧ lo ≤ r ∧ RtC κ σ r x.1 h9 ∧ WayC κ σ r x.2
  | _, _ => False
/-- a run's object -/
def RunC (σ : AH) (a : Nat) (r : RnA) : Prop := hT σ a = 18 ∧ (hR σ a 2 = some (a + 1) ∧ hR σ a 3 = some (a + 2) ∧ hR σ a 4 = some (a + 3) ∧ hR σ a 5 = some (a + 4) ∧ hR σ a 6 = some (a + 5)) ∧ (hT σ (a + 1) = 100 ∧ hL σ (a + 1) = 48 ∧ ∀ j, j < 48 → hI σ (a + 1) j = r.2.1 j) ∧ (hT σ (a + 3) = 100 ∧ hL σ (a + 3) = 32 ∧ ∀ j, j < 32 → hI σ (a + 3) j = nn (r.2.2.2.2.1 j)) ∧ (hT σ (a + 4) = 100 ∧ hL σ (a + 4) = 100 ∧ ∀ j x, j < 100 → r.2.2.2.2.2.2.1[j]? = some x → hI σ (a + 4) j = x) ∧ (hT σ (a + 5) = 106 ∧ hL σ (a + 5) = 2 ∧ ∀ b, b < 2 → hR σ (a + 5) b = some (a + 6 + b) ∧ hT σ (a + 6 + b) = 100 ∧ hL σ (a + 6 + b) = 8 ∧ ∀ j, j < 8 → hI σ (a + 6 + b) j = r.2.2.1 (8 * b + j)) ∧ hI σ a 7 = r.1.1 ∧ hI σ a 8 = nn r.2.2.2.2.2.2.2 ∧ hI σ a 9 = nn r.2.2.2.2.2.2.1.length ∧ hI σ a 10 = r.1.2 ∧ r.2.2.2.2.2.2.1.length ≤ 1000 ∧ r.2.2.2.2.2.2.2 ≤ 1000 ∧ sumN r.2.2.2.2.1 32 = r.2.2.2.2.2.1
/-- nothing ran yet -/
def Run0 (r : RnA) : Prop := r.1 = (0, 0) ∧ (∀ j, r.2.1 j = 0) ∧ (∀ j, r.2.2.1 j = 0) ∧ (∀ j, r.2.2.2.2.1 j = 0) ∧ r.2.2.2.2.2.1 = 0 ∧ r.2.2.2.2.2.2.1 = [] ∧ r.2.2.2.2.2.2.2 = 0
def RnC (σ : AH) (o : Nat) (r : RnA) : Prop := (hR σ o 5 = none ∧ Run0 r) ∨ ∃ a, hR σ o 5 = some a ∧ o + 7 ≤ a ∧ RunC σ a r
def CC (κ : Nat → Option Nat) (σ : AH) (o : Nat) (l : List Nat) (P : Nat → PlA) (wr : Int32) (bg : Nat → Int32) (rn : RnA) (RA : Nat → Option Nat) (H : Nat → Nat) : Prop := (Hok κ σ) ∧ (Kst κ σ) ∧ (TapeC σ o l) ∧ (hR σ o 0 = some (o + 1)) ∧ (hR σ o 2 = some (o + 2) ∧ hT σ (o + 2) = 100 ∧ hL σ (o + 2) = 48 ∧ ∀ i, i < 48 → hI σ (o + 2) i = bg i) ∧ (hR σ o 3 = some (o + 3) ∧ hT σ (o + 3) = 105 ∧ hL σ (o + 3) = 4 ∧ ∀ p, p < 4 → hR σ (o + 3) p = RA p) ∧ (hI σ o 4 = wr) ∧ (hR σ o 6 = some (o + 4) ∧ hT σ (o + 4) = 2 ∧ hR σ (o + 4) 0 = some (o + 5) ∧ hR σ (o + 4) 1 = some (o + 6) ∧ hR σ (o + 4) 3 = some o ∧ hT σ (o + 5) = 102 ∧ hL σ (o + 5) = 3000 ∧ hT σ (o + 6) = 100 ∧ hL σ (o + 6) = 480) ∧ (∀ p, p < 4 → PlC κ σ (RA p) (P p) (o + 7) (H p)) ∧ (∀ p q, p < 4 → q < 4 → p ≠ q → ∀ r r', RA p = some r → RA q = some r' → H p ≤ r' ∨ H q ≤ r) ∧ (RnC σ o rn)
theorem CC.ok {κ : Nat → Option Nat} {σ : AH} {o : Nat} {l : List Nat} {P : Nat → PlA} {wr : Int32} {bg : Nat → Int32} {rn : RnA} {RA : Nat → Option Nat} {H : Nat → Nat} (h : CC κ σ o l P wr bg rn RA H) : Hok κ σ := h.1
theorem CC.ks {κ : Nat → Option Nat} {σ : AH} {o : Nat} {l : List Nat} {P : Nat → PlA} {wr : Int32} {bg : Nat → Int32} {rn : RnA} {RA : Nat → Option Nat} {H : Nat → Nat} (h : CC κ σ o l P wr bg rn RA H) : Kst κ σ := h.2.1
theorem CC.tp {κ : Nat → Option Nat} {σ : AH} {o : Nat} {l : List Nat} {P : Nat → PlA} {wr : Int32} {bg : Nat → Int32} {rn : RnA} {RA : Nat → Option Nat} {H : Nat → Nat} (h : CC κ σ o l P wr bg rn RA H) : TapeC σ o l := h.2.2.1
theorem CC.f0 {κ : Nat → Option Nat} {σ : AH} {o : Nat} {l : List Nat} {P : Nat → PlA} {wr : Int32} {bg : Nat → Int32} {rn : RnA} {RA : Nat → Option Nat} {H : Nat → Nat} (h : CC κ σ o l P wr bg rn RA H) : hR σ o 0 = some (o + 1) := h.2.2.2.1
theorem CC.f2 {κ : Nat → Option Nat} {σ : AH} {o : Nat} {l : List Nat} {P : Nat → PlA} {wr : Int32} {bg : Nat → Int32} {rn : RnA} {RA : Nat → Option Nat} {H : Nat → Nat} (h : CC κ σ o l P wr bg rn RA H) : hR σ o 2 = some (o + 2) ∧ hT σ (o + 2) = 100 ∧ hL σ (o + 2) = 48 ∧ ∀ i, i < 48 → hI σ (o + 2) i = bg i := h.2.2.2.2.1
theorem CC.f3 {κ : Nat → Option Nat} {σ : AH} {o : Nat} {l : List Nat} {P : Nat → PlA} {wr : Int32} {bg : Nat → Int32} {rn : RnA} {RA : Nat → Option Nat} {H : Nat → Nat} (h : CC κ σ o l P wr bg rn RA H) : hR σ o 3 = some (o + 3) ∧ hT σ (o + 3) = 105 ∧ hL σ (o + 3) = 4 ∧ ∀ p, p < 4 → hR σ (o + 3) p = RA p := h.2.2.2.2.2.1
theorem CC.f4 {κ : Nat → Option Nat} {σ : AH} {o : Nat} {l : List Nat} {P : Nat → PlA} {wr : Int32} {bg : Nat → Int32} {rn : RnA} {RA : Nat → Option Nat} {H : Nat → Nat} (h : CC κ σ o l P wr bg rn RA H) : hI σ o 4 = wr := h.2.2.2.2.2.2.1
theorem CC.f6 {κ : Nat → Option Nat} {σ : AH} {o : Nat} {l : List Nat} {P : Nat → PlA} {wr : Int32} {bg : Nat → Int32} {rn : RnA} {RA : Nat → Option Nat} {H : Nat → Nat} (h : CC κ σ o l P wr bg rn RA H) : hR σ o 6 = some (o + 4) ∧ hT σ (o + 4) = 2 ∧ hR σ (o + 4) 0 = some (o + 5) ∧ hR σ (o + 4) 1 = some (o + 6) ∧ hR σ (o + 4) 3 = some o ∧ hT σ (o + 5) = 102 ∧ hL σ (o + 5) = 3000 ∧ hT σ (o + 6) = 100 ∧ hL σ (o + 6) = 480 := h.2.2.2.2.2.2.2.1
theorem CC.pl {κ : Nat → Option Nat} {σ : AH} {o : Nat} {l : List Nat} {P : Nat → PlA} {wr : Int32} {bg : Nat → Int32} {rn : RnA} {RA : Nat → Option Nat} {H : Nat → Nat} (h : CC κ σ o l P wr bg rn RA H) : ∀ p, p < 4 → PlC κ σ (RA p) (P p) (o + 7) (H p) := h.2.2.2.2.2.2.2.2.1
theorem CC.dj {κ : Nat → Option Nat} {σ : AH} {o : Nat} {l : List Nat} {P : Nat → PlA} {wr : Int32} {bg : Nat → Int32} {rn : RnA} {RA : Nat → Option Nat} {H : Nat → Nat} (h : CC κ σ o l P wr bg rn RA H) : ∀ p q, p < 4 → q < 4 → p ≠ q → ∀ r r', RA p = some r → RA q = some r' → H p ≤ r' ∨ H q ≤ r := h.2.2.2.2.2.2.2.2.2.1
theorem CC.rn {κ : Nat → Option Nat} {σ : AH} {o : Nat} {l : List Nat} {P : Nat → PlA} {wr : Int32} {bg : Nat → Int32} {rn : RnA} {RA : Nat → Option Nat} {H : Nat → Nat} (h : CC κ σ o l P wr bg rn RA H) : RnC σ o rn := h.2.2.2.2.2.2.2.2.2.2
section CCs
variable {κ : Nat → Option Nat} {Q : Ret AH} {M MR : Nat → Prop} {σ σ' : AH} {o r h9 c s : Nat} {l : List Nat} {P : Nat → PlA} {wr : Int32} {bg : Nat → Int32} {rn : RnA} {RA : Nat → Option Nat} {H : Nat → Nat} {R : Rt}
theorem RtC.hl (h : RtC κ σ r R h9) (hk : Hok κ σ) (F : HL κ M MR c s σ σ') (hm : ∀ a, r ≤ a → a < h9 → a ≠ r + 4 → ¬ M a ∧ ¬ MR a) : RtC κ σ' r R h9 := by
  obtain ⟨wss, A, NX, BF, B, ss, h8, VA, h1, h2, h3, h4, h5, h6⟩ := h
  have r9 := h1.r9
  refine ⟨wss, A, NX, BF, B, ss, h8, VA, h1.hl hk F (fun a q1 q2 q3 => hm a q1 (by omega) q3), fun i hi' => ?_, h3, h4, by have := F.lt; omega, h6⟩
  obtain ⟨b1, b2, b3, b4, b5, b6, b7⟩ := h2 i hi'
  have nr := (hm r (Nat.le_refl _) (by omega) (by omega)).2
  have na := (hm (VA i) (by omega) (h3 i hi') (by omega)).1
  refine ⟨(F.ref hk h1.tr (by decide) nr (6 + i)).trans b1, F.tg hk b2 (by decide), (F.len hk (by rw [b2]; decide)).trans b3, b4, by have := F.lt; omega, b6, fun k hk' => ?_⟩
  rw [F.lng hk b2 (by decide) na k]; exact b7 k hk'
theorem HL.k60 (F : HL κ M MR c s σ σ') (hk : Hok κ σ) {y : Nat} (h : hT σ y = 60) : hT σ' y = 60 ∧ hI σ' y 0 = hI σ y 0 := by
  have hl := hk.1.lt (a := y) (by rw [h]; decide)
  exact ⟨F.tg hk h (by decide), ((F.2.2.2.1 y hl (by rw [h]; decide) (by rw [h]; decide)).1 (Or.inr (by rw [h]; exact Or.inl rfl)) 0).1⟩
theorem WayC.hl {way : List Nat} (h : WayC κ σ r way) (hk : Hok κ σ) (F : HL κ M MR c s σ σ') (hm : ¬ M (r + 4)) : WayC κ σ' r way := by
  obtain ⟨ws, h1, h2, h3⟩ := h
  refine ⟨ws, F.al h1 hm, h2, fun i b hb => ?_⟩
  obtain ⟨y, e1, e2, e3⟩ := h3 i b hb
  obtain ⟨q1, q2⟩ := F.k60 hk e2
  exact ⟨y, e1, q1, q2.trans e3⟩
theorem PlC.hl {ra : Option Nat} {x : PlA} {lo : Nat} (h : PlC κ σ ra x lo h9) (hk : Hok κ σ) (F : HL κ M MR c s σ σ') (hm : ∀ a, lo ≤ a → a < hN σ → ¬ M a ∧ ¬ MR a) : PlC κ σ' ra x lo h9 := by
  cases ra with
  | none => cases x with
    | none => trivial
    | some x => exact h.elim
  | some r => cases x with
    | none => exact h.elim
    | some x =>
      obtain ⟨h1, h2, h3, h4⟩ := h
      have hh : h9 ≤ hN σ := by obtain ⟨wss, A, NX, BF, B, ss, h8, VA, -, -, -, -, h5, -⟩ := h3; exact h5
      have hw : r + 4 < hN σ := by obtain ⟨ws, h1, -⟩ := h4; exact hk.1.lt (by rw [h1.1]; decide)
      exact ⟨h1, h2, h3.hl hk F (fun a q1 q2 q3 => hm a (by omega) (by omega)), h4.hl hk F (hm (r + 4) (by omega) hw).1⟩
theorem RunC.hl {a : Nat} (h : RunC σ a rn) (hk : Hok κ σ) (F : HL κ M MR c s σ σ') (hm : ∀ b, a ≤ b → b < hN σ → ¬ M b ∧ ¬ MR b) : RunC σ' a rn := by
  obtain ⟨t, ⟨r2, r3, r4, r5, r6⟩, ⟨n1, n2, n3⟩, ⟨w1, w2, w3⟩, ⟨d1, d2, d3⟩, ⟨q1, q2, q3⟩, i7, i8, i9, i10, rest⟩ := h
  have lt : ∀ b t, hT σ b = t → t ≠ 0 → b < hN σ := fun b t hb ht => hk.1.lt (by rw [hb]; exact ht)
  obtain ⟨m1, m2⟩ := hm a (Nat.le_refl _) (lt a 18 t (by decide))
  have gr := fun j => F.ref hk t (by decide) m2 j
  have gi := fun j => F.int hk t (by decide) m1 j
  have fi : ∀ b, a ≤ b → hT σ b = 100 → ∀ j, hI σ' b j = hI σ b j := fun b hb ht j => F.int hk ht (by decide) (hm b hb (lt b 100 ht (by decide))).1 j
  have f5r := fun j => F.ref hk q1 (by decide) (hm (a + 5) (by omega) (lt _ 106 q1 (by decide))).2 j
  refine ⟨F.tg hk t (by decide), ⟨(gr 2).trans r2, (gr 3).trans r3, (gr 4).trans r4, (gr 5).trans r5, (gr 6).trans r6⟩, ⟨F.tg hk n1 (by decide), (F.len hk (by rw [n1]; decide)).trans n2, fun j hj => (fi _ (by omega) n1 j).trans (n3 j hj)⟩, ⟨F.tg hk w1 (by decide), (F.len hk (by rw [w1]; decide)).trans w2, fun j hj => (fi _ (by omega) w1 j).trans (w3 j hj)⟩, ⟨F.tg hk d1 (by decide), (F.len hk (by rw [d1]; decide)).trans d2, fun j x hj hx => (fi _ (by omega) d1 j).trans (d3 j x hj hx)⟩, ⟨F.tg hk q1 (by decide), (F.len hk (by rw [q1]; decide)).trans q2, fun b hb => ?_⟩, (gi 7).trans i7, (gi 8).trans i8, (gi 9).trans i9, (gi 10).trans i10, rest⟩
  obtain ⟨x1, x2, x3, x4⟩ := q3 b hb
  exact ⟨(f5r b).trans x1, F.tg hk x2 (by decide), (F.len hk (by rw [x2]; decide)).trans x3, fun j hj => (fi _ (by omega) x2 j).trans (x4 j hj)⟩
theorem RnC.hl (h : RnC σ o rn) (hk : Hok κ σ) (ho : hT σ o = 1) (F : HL κ M MR c s σ σ') (mo : hR σ' o 5 = hR σ o 5) (hm : ∀ a, o + 7 ≤ a → a < hN σ → ¬ M a ∧ ¬ MR a) : RnC σ' o rn := by
  rcases h with ⟨h1, h2⟩ | ⟨a, h1, h2, h3⟩
  · exact Or.inl ⟨mo.trans h1, h2⟩
  · exact Or.inr ⟨a, mo.trans h1, h2, h3.hl hk F (fun b q1 q2 => hm b (by omega) q2)⟩
theorem CC.t0 (h : CC κ σ o l P wr bg rn RA H) : hT σ o = 1 := h.tp.1
/-- new things alone -/
theorem CC.new (h : CC κ σ o l P wr bg rn RA H) (F : HL κ NoM NoM c s σ σ') : CC κ σ' o l P wr bg rn RA H := by
  have hk := h.ok
  have t := h.t0
  have gr := fun j => F.ref hk t (by decide) id j
  have gi := fun j => F.int hk t (by decide) id j
  obtain ⟨a1, a2, a3, a4⟩ := h.f2
  obtain ⟨b1, b2, b3, b4⟩ := h.f3
  obtain ⟨c1, c2, c3, c4, c5, c6, c7, c8, c9⟩ := h.f6
  refine ⟨F.ok, h.ks.hl hk F, h.tp.hl hk F (fun b q => q.elim (fun z => z.elim) (fun z => z.elim)), (gr 0).trans h.f0, ⟨(gr 2).trans a1, F.tg hk a2 (by decide), (F.len hk (by rw [a2]; decide)).trans a3, fun i hi' => (F.int hk a2 (by decide) id i).trans (a4 i hi')⟩, ⟨(gr 3).trans b1, F.tg hk b2 (by decide), (F.len hk (by rw [b2]; decide)).trans b3, fun p hp => (F.ref hk b2 (by decide) id p).trans (b4 p hp)⟩, (gi 4).trans h.f4, ⟨(gr 6).trans c1, F.tg hk c2 (by decide), (F.ref hk c2 (by decide) id 0).trans c3, (F.ref hk c2 (by decide) id 1).trans c4, (F.ref hk c2 (by decide) id 3).trans c5, F.tg hk c6 (by decide), (F.len hk (by rw [c6]; decide)).trans c7, F.tg hk c8 (by decide), (F.len hk (by rw [c8]; decide)).trans c9⟩, fun p hp => (h.pl p hp).hl hk F (fun _ _ _ => ⟨id, id⟩), h.dj, h.rn.hl hk t F (gr 5) (fun _ _ _ => ⟨id, id⟩)⟩
/-- in a range -/
theorem ct_in {v a b : Int32} (k : Q (.inl (some (.int (if a ≤ v ∧ v ≤ b then 1 else 0)))) σ) : pX0_in κ [.int v, .int a, .int b] σ Q := by
  simp [pX0_in, bX0_in_15, bX0_in_14, bX0_in_0, o_ic, o_lc, o_null, o_il, o_ll, o_al, o_dup, o_pop, o_dup_x1, o_dup2, o_iadd, o_isub, o_imul, o_iand, o_ior, o_ixor, o_ishl, o_ishr, o_idiv, o_irem, o_ineg, o_ladd, o_lsub, o_lmul, o_land, o_lor, o_lxor, o_ldiv, o_lrem, o_lneg, o_lcmp, o_i2l, o_l2i, o_i2b, o_i2c, o_iushr, o_lshl, o_lshr, o_if_eq, o_if_ne, o_if_lt, o_if_ge, o_if_gt, o_if_le, o_icmp_eq, o_icmp_ne, o_icmp_lt, o_icmp_ge, o_icmp_gt, o_icmp_le, o_ifnull, o_ifnonnull, o_acmp_eq, o_acmp_ne, o_is, o_ls, o_as, o_iinc, o_kill, o_sw, o_ireturn, o_zreturn, o_nreturn, o_lreturn, o_areturn, o_return, o_athrow, o_call, entP, lg_sl, Value.category, st1, st2, List.set, List.getElem?_cons_zero, List.getElem?_cons_succ, List.foldl, popN, aft]
  by_cases c1 : v < a
  · have : ¬ (a ≤ v ∧ v ≤ b) := fun q => Int32.not_lt.2 q.1 c1
    rw [if_neg this] at k
    refine ⟨fun _ => k, fun q => absurd c1 (Int32.not_lt.2 q)⟩
  · refine ⟨fun q => absurd q c1, fun q => ?_⟩
    by_cases c2 : b < v
    · rw [if_neg (fun z => Int32.not_lt.2 z.2 c2)] at k
      exact ⟨fun _ => k, fun z => absurd c2 (Int32.not_lt.2 z)⟩
    · rw [if_pos ⟨q, Int32.not_lt.1 c2⟩] at k
      exact ⟨fun z => absurd z c2, fun _ => k⟩
theorem nnm1_toInt {n : Nat} (hn : n < 2147483648) : (nn n - 1).toInt = (n : Int) - 1 := by
  by_cases c : n = 0
  · subst c; rw [nn_0m1]; rfl
  · rw [nn_pred (by omega), nn_toInt (by omega)]; omega
theorem in_ix {v : Int32} {n : Nat} (hn : n < 2147483648) : ((0 : Int32) ≤ v ∧ v ≤ nn n - 1) ↔ ∃ q, ix v n = some q := by
  rw [Int32.le_iff_toInt_le, Int32.le_iff_toInt_le, nnm1_toInt hn, Int32.toInt_zero]
  unfold ix
  constructor
  · intro h; exact ⟨_, if_pos (by omega)⟩
  · rintro ⟨q, h⟩
    split at h
    · omega
    · cases h
/-- in 0 .. n - 1 -/
theorem ct_in0 {v b : Int32} {n : Nat} (hn : n < 2147483648) (hb : b = nn n - 1) (k1 : ∀ q, ix v n = some q → Q (.inl (some (.int 1))) σ) (k0 : ix v n = none → Q (.inl (some (.int 0))) σ) : pX0_in κ [.int v, .int 0, .int b] σ Q := by
  refine ct_in ?_
  rw [hb]
  cases h : ix v n with
  | some q => rw [if_pos ((in_ix hn).2 ⟨q, h⟩)]; exact k1 q h
  | none => rw [if_neg (fun z => by obtain ⟨q, hq⟩ := (in_ix hn).1 z; rw [h] at hq; cases hq)]; exact k0 h
theorem ct_of {p : Int32} (h : CC κ σ o l P wr bg rn RA H) (k1 : ∀ q r x, ix p 4 = some q → q < 4 → p = nn q → RA q = some r → P q = some x → pl9 P p = some x → PlOk x → o + 7 ≤ r → RtC κ σ r x.1 (H q) → WayC κ σ r x.2 → Q (.inl (some (.ref r))) σ) (k0 : pl9 P p = none → Q (.inl (some .null)) σ) : hvc [(1, pX0_of κ)] [.ref o, .int p] σ Q := by
  obtain ⟨b1, b2, b3, b4⟩ := h.f3
  have t := h.t0
  simp [hvc, dspI, t, pX0_of, bX0_of_0, o_ic, o_lc, o_null, o_il, o_ll, o_al, o_dup, o_pop, o_dup_x1, o_dup2, o_iadd, o_isub, o_imul, o_iand, o_ior, o_ixor, o_ishl, o_ishr, o_idiv, o_irem, o_ineg, o_ladd, o_lsub, o_lmul, o_land, o_lor, o_lxor, o_ldiv, o_lrem, o_lneg, o_lcmp, o_i2l, o_l2i, o_i2b, o_i2c, o_iushr, o_lshl, o_lshr, o_if_eq, o_if_ne, o_if_lt, o_if_ge, o_if_gt, o_if_le, o_icmp_eq, o_icmp_ne, o_icmp_lt, o_icmp_ge, o_icmp_gt, o_icmp_le, o_ifnull, o_ifnonnull, o_acmp_eq, o_acmp_ne, o_is, o_ls, o_as, o_iinc, o_kill, o_sw, o_ireturn, o_zreturn, o_nreturn, o_lreturn, o_areturn, o_return, o_athrow, o_call, entP, lg_sl, Value.category, st1, st2, List.set, List.getElem?_cons_zero, List.getElem?_cons_succ, List.foldl, popN, aft]
  refine ct_in0 (n := 4) (by omega) (by decide) (fun q hq => ?_) (fun hq => ?_)
  · obtain ⟨e1, e2, e3⟩ := ix_some hq
    subst e1
    have hpl := h.pl q e2
    have hp9 : pl9 P (nn q) = P q := by unfold pl9; rw [hq]
    simp [o_ic, o_lc, o_null, o_il, o_ll, o_al, o_dup, o_pop, o_dup_x1, o_dup2, o_iadd, o_isub, o_imul, o_iand, o_ior, o_ixor, o_ishl, o_ishr, o_idiv, o_irem, o_ineg, o_ladd, o_lsub, o_lmul, o_land, o_lor, o_lxor, o_ldiv, o_lrem, o_lneg, o_lcmp, o_i2l, o_l2i, o_i2b, o_i2c, o_iushr, o_lshl, o_lshr, o_if_eq, o_if_ne, o_if_lt, o_if_ge, o_if_gt, o_if_le, o_icmp_eq, o_icmp_ne, o_icmp_lt, o_icmp_ge, o_icmp_gt, o_icmp_le, o_ifnull, o_ifnonnull, o_acmp_eq, o_acmp_ne, o_is, o_ls, o_as, o_iinc, o_kill, o_sw, o_ireturn, o_zreturn, o_nreturn, o_lreturn, o_areturn, o_return, o_athrow, o_call, entP, lg_sl, Value.category, st1, st2, List.set, List.getElem?_cons_zero, List.getElem?_cons_succ, List.foldl, popN, aft, o_gI, o_gR, o_pI, o_pN, o_pR, o_aI, o_aG, o_aR, o_len, o_aR8, o_sI, o_sB, o_sZ, o_sG, o_new, o_newA, o_cast, o_inst, o_cst, o_oi, o_sR, o_gIc, o_gSv, o_gSc, o_getc, o_dead, o_acopy, o_castA, o_castI, o_sR7, o_mna, o_mmax, o_mmin, o_mabs, t, b1, va_rf, b2, b3, nn_eqL, nn_ltL, nn_leL, nn_Llt, nn_Lle, nn_lt, nn_le, nn_eq, nn_in, nn_clamp, nn_succ, nn_pos, nn_neg1, e3, e2, b4 q e2, bX0_of_19]
    cases hra : RA q with
    | none =>
      rw [hra] at hpl
      have hPq : P q = none := by
        cases hx : P q with
        | none => rfl
        | some x => rw [hx] at hpl; exact hpl.elim
      exact k0 (by rw [hp9]; exact hPq)
    | some r =>
      rw [hra] at hpl
      cases hx : P q with
      | none => rw [hx] at hpl; exact hpl.elim
      | some x =>
        rw [hx] at hpl
        obtain ⟨g1, g2, g3, g4⟩ := hpl
        exact k1 q r x hq e2 rfl hra hx (by rw [hp9]; exact hx) g1 g2 g3 g4
  · simp [o_ic, o_lc, o_null, o_il, o_ll, o_al, o_dup, o_pop, o_dup_x1, o_dup2, o_iadd, o_isub, o_imul, o_iand, o_ior, o_ixor, o_ishl, o_ishr, o_idiv, o_irem, o_ineg, o_ladd, o_lsub, o_lmul, o_land, o_lor, o_lxor, o_ldiv, o_lrem, o_lneg, o_lcmp, o_i2l, o_l2i, o_i2b, o_i2c, o_iushr, o_lshl, o_lshr, o_if_eq, o_if_ne, o_if_lt, o_if_ge, o_if_gt, o_if_le, o_icmp_eq, o_icmp_ne, o_icmp_lt, o_icmp_ge, o_icmp_gt, o_icmp_le, o_ifnull, o_ifnonnull, o_acmp_eq, o_acmp_ne, o_is, o_ls, o_as, o_iinc, o_kill, o_sw, o_ireturn, o_zreturn, o_nreturn, o_lreturn, o_areturn, o_return, o_athrow, o_call, entP, lg_sl, Value.category, st1, st2, List.set, List.getElem?_cons_zero, List.getElem?_cons_succ, List.foldl, popN, aft, bX0_of_18, bX0_of_19]
    refine k0 ?_
    unfold pl9; rw [hq]
end CCs
