/-! THE COMPONENT's WORLD: the rest of the rows (gen/arows6.py) -/
set_option maxRecDepth 100000
section AR6
variable {g : GC} {y : MethodName} {cc : ByteArray} {nL : Nat} {ret : Option FieldType} {fr lo : Nat} {ht : HT} {Rt : Ret AH} {E : Cont AH → Nat → Prop} {X : (Lc → Nat → AH → Prop) → Nat → Prop} {pc : Nat} {Q J : Cont AH}
def o_castA (Q : Cont AH) : Cont AH := fun L st σ => match st with
  | .ref a :: st => hT σ a = 104 ∧ Q L (.ref a :: st) σ
  | _ => False
def o_castI (Q : Cont AH) : Cont AH := fun L st σ => match st with
  | .ref a :: st => (hT σ a = 20 ∨ hT σ a = 60) ∧ Q L (.ref a :: st) σ
  | _ => False
theorem si_castA (hE : IsEnt (wC g) y cc nL ret fr lo ht Rt E X) {idx : Nat} (d : decode cc pc = .ok (.checkcast idx, 3)) (hcl : Cond.classLink y.cls idx "[Ljava/lang/Object;" ∈ lw_all) (kk : E Q (pc + 3)) : E (o_castA Q) pc := by
  obtain ⟨p, l, e, R, s, m, args, below, meth, c, b0, hI_, -, hx, hb, hml, -, hown, hts, -, -, hKn, -, ⟨hR1, hR2, hR3, hR4⟩, -⟩ := hE
  rw [hI_] at kk ⊢
  have hK : KnC g s := hKn
  intro L st σ z H locs cells slots ls h1 h2 h3 h4 h5
  have h1 : RepC g σ H := h1
  have h3 : cells + hC σ ≤ b0.1 := h3
  have h4 : slots + hS σ ≤ b0.2 := h4
  unfold o_castA at z
  split at z
  · next a st' =>
    obtain ⟨z1, z⟩ := z
    obtain ⟨-, hcell⟩ := (h1.2.2.2.2 a).2.2.2.1 4 z1 (by decide)
    have hRA := (hK.K.2 4 _ (cTys_get (by decide))).2
    have hP : va_P (g.2.2.1, g.2.2.2.1) cCl [(a, .inl (g.2.2.2.2.1 4, hL σ a, .inr (.inr (.inr (.inr (hR σ a))))))] H := by
      intro k q hk
      match k, hk with
      | 0, hk => cases hk; exact hcell
      | k + 1, hk => simp at hk
    exact va_castA hx hb hown (hts _ hcl) hP 0 rfl (va_nmO hRA rfl) d (kk L _ σ z H locs cells slots ls h1 h2 h3 h4 h5)
  · exact z.elim
theorem si_castI (hE : IsEnt (wC g) y cc nL ret fr lo ht Rt E X) {idx : Nat} (d : decode cc pc = .ok (.checkcast idx, 3)) (hcl : Cond.classLink y.cls idx "java/lang/Integer" ∈ lw_all) (kk : E Q (pc + 3)) : E (o_castI Q) pc := by
  obtain ⟨p, l, e, R, s, m, args, below, meth, c, b0, hI_, -, hx, hb, hml, -, hown, hts, -, -, hKn, -, ⟨hR1, hR2, hR3, hR4⟩, -⟩ := hE
  rw [hI_] at kk ⊢
  have hK : KnC g s := hKn
  intro L st σ z H locs cells slots ls h1 h2 h3 h4 h5
  have h1 : RepC g σ H := h1
  have h3 : cells + hC σ ≤ b0.1 := h3
  have h4 : slots + hS σ ≤ b0.2 := h4
  unfold o_castI at z
  split at z
  · next a st' =>
    obtain ⟨z1, z⟩ := z
    have hr : ∃ cell : Cell, H[a]? = some cell ∧ cell.vm.isStatics = false ∧ s.vm.findClass "java/lang/Integer" = some cell.cls := by
      rcases z1 with z1 | z1
      · exact h1.recv hK cls19 z1
      · exact recv60 a σ z1 s H hK h1
    exact va_castS hx hb hown (hts _ hcl) (((hK.K).1 19 _ rfl).2) hr d (kk L _ σ z H locs cells slots ls h1 h2 h3 h4 h5)
  · exact z.elim
theorem nn32 (z : Int32) (hz : ¬ z < 0) : z.toInt = (z.toNatClampNeg : Int) := by
  have hz0 : (0 : Int) ≤ z.toInt := by
    have := Int32.not_lt.mp hz
    simpa using Int32.le_iff_toInt_le.mp this
  show z.toInt = ((z.toInt.toNat : Nat) : Int)
  omega
theorem si_acopy (hE : IsEnt (wC g) y cc nL ret fr lo ht Rt E X) {idx : Nat} (d : decode cc pc = .ok (.invokestatic idx, 3)) (hl : Cond.methodLink y.cls idx arraycopyName ∈ lw_all) (hna : Cond.native arraycopyName ∈ lw_all) (hsta : Cond.static arraycopyName ∈ lw_all) (hini : Cond.initialized "java/lang/System" ∈ lw_all) (hfr : 1 ≤ fr) (hlo : 8 + (nativeFrameWords "java/lang/System" "arraycopy" 5 + 11) ≤ lo) (hobj : AnyOK g (objTs ++ [60]) "java/lang/Object") (kk : E Q (pc + 3)) : E (o_acopy Q) pc := by
  obtain ⟨p, l, e, R, s, m, args, below, meth, c, b0, hI_, -, hx, hb, hml, -, hown, hts, -, -, hKn, -, ⟨hR1, hR2, hR3, hR4⟩, -⟩ := hE
  rw [hI_] at kk ⊢
  have hK : KnC g s := hKn
  intro L st σ z H locs cells slots ls h1 h2 h3 h4 h5
  have h1 : RepC g σ H := h1
  have h3 : cells + hC σ ≤ b0.1 := h3
  have h4 : slots + hS σ ≤ b0.2 := h4
  unfold o_acopy at z
  split at z
  · next n dp a sp a0 st' =>
    obtain ⟨⟨t1, t0, tne⟩, ⟨n1, n2, n3⟩, ⟨b1, b2⟩, hlen, hel, z⟩ := z
    obtain ⟨hfr9, hc1⟩ := (h1.2.2.2.2 a).2.2.2.1 4 t1 (by decide)
    obtain ⟨-, hc0⟩ := (h1.2.2.2.2 a0).2.2.2.1 4 t0 (by decide)
    obtain ⟨hAr, hRA⟩ := hK.K.2 4 _ (cTys_get (by decide))
    obtain ⟨-, k0, hk0, cm0, hkk0⟩ := hAr (hL σ a0) (aV 4 (hI σ a0) (hG σ a0) (hR σ a0))
    obtain ⟨-, k1, hk1, cm1, hkk1⟩ := hAr (hL σ a) (aV 4 (hI σ a) (hG σ a) (hR σ a))
    have hcat := cat_sum st'
    intro T hT9 Y
    obtain ⟨vm', Y', step⟩ := Y.arraycopy hx hown (hts _ hl) (hts _ hna) (hts _ hsta) (hts _ hini) (src := a0) (dst := a) (srcPos := sp) (destPos := dp) (n := n) (by rw [hT9]; exact hc0) (by rw [hT9]; exact hc1)
      (fun _ h => by cases h) (fun _ h => by cases h) (fun h => by cases h) (fun h => by cases h) hk0 hk1 hkk0 hkk1 rfl n1 n2 n3
      (by rw [nn32 sp n1, nn32 n n3, arrV_size]; omega)
      (by rw [nn32 dp n2, nn32 n n3, arrV_size]; omega)
      (fun vm₁ hal i hi => by
        have e9 : (arrV (g.2.2.2.2.1 4) (hL σ a0) (aV 4 (hI σ a0) (hG σ a0) (hR σ a0))).slots.getD (sp.toNatClampNeg + i) .null = va_rf (hR σ a0 (sp.toNatClampNeg + i)) := by
          rw [Array.getD_eq_getD_getElem?, arrV_read _ _ (by omega)]
          rfl
        rw [e9]
        cases hy : hR σ a0 (sp.toNatClampNeg + i) with
        | none => exact ⟨rfl, trivial⟩
        | some b =>
          obtain ⟨cellV, g1, g2, ⟨kC, hkC⟩, hasg⟩ := hobj s σ H b hK h1 (hel i hi b hy)
          obtain ⟨kA, comp, r1, r2, r3, -⟩ := hRA
          cases hk1.symm.trans r1
          cases hkk1.symm.trans r2
          obtain ⟨kE, hkE, -⟩ := Vm.findClass_spec r3
          obtain ⟨kC', hkC', -⟩ := hal.2.2 _ _ hkC
          obtain ⟨kE', hkE', -⟩ := hal.2.2 _ _ hkE
          refine ⟨rfl, cellV, (show T.heap[b]? = some cellV by rw [hT9]; exact g1), (fun q h => by rw [h] at g2; cases g2), ⟨kC', hkC'⟩, ?_, ?_⟩
          · exact ⟨kE', hkE'⟩
          · show vm₁.assignable _ _ = true
            rw [hal.assignable]
            exact hasg _ r3)
      (g := F0 m pc ls (.int n :: .int dp :: .ref a :: .int sp :: .ref a0 :: st')) rfl (by rw [hml]; exact h5.1) (rest := st') rfl (by rw [hb]; exact d) (by omega) (by show 2 * 0 + _ + _ ≤ _; omega)
    have e1 : copied (arrV (g.2.2.2.2.1 4) (hL σ a0) (aV 4 (hI σ a0) (hG σ a0) (hR σ a0))) (arrV (g.2.2.2.2.1 4) (hL σ a) (aV 4 (hI σ a) (hG σ a) (hR σ a))) sp dp n = arrV (g.2.2.2.2.1 4) (hL σ a) (fun j => va_rf (va_cpy (hR σ a0) (hR σ a) sp.toNatClampNeg dp.toNatClampNeg n.toNatClampNeg j)) := va_copied (fun z => va_rf z) (g.2.2.2.2.1 4) (g.2.2.2.2.1 4) (hR σ a0) (hR σ a) b1
    rw [e1] at Y' step
    have hlt : a < H.size := (Array.getElem?_eq_some_iff.mp hc1).1
    obtain ⟨σ', hσ⟩ : ∃ σ' : AH, σ' = (σ.1, σ.2.1, σ.2.2.1, σ.2.2.2.1, σ.2.2.2.2.1, fun b j => if b = a then va_cpy (hR σ a0) (hR σ a) sp.toNatClampNeg dp.toNatClampNeg n.toNatClampNeg j else hR σ b j) := ⟨_, rfl⟩
    have q := z σ' (by rw [hσ]) (by rw [hσ]; rfl) (by rw [hσ]; rfl) (by rw [hσ]; rfl) (by rw [hσ]; rfl) (by intro b j; rw [hσ]; rfl)
    have hN9 : hN σ' = hN σ := by rw [hσ]; rfl
    have hC9 : hC σ' = hC σ := by rw [hσ]; rfl
    have hS9 : hS σ' = hS σ := by rw [hσ]; rfl
    have hoff : ∀ b, b ≠ a → hI σ' b = hI σ b ∧ hG σ' b = hG σ b ∧ hR σ' b = hR σ b := by
      intro b hb9
      rw [hσ]
      exact ⟨rfl, rfl, funext fun j => if_neg hb9⟩
    have hRep : RepC g σ' ((T.setVm vm').setCell a (arrV (g.2.2.2.2.1 4) (hL σ a) (fun j => va_rf (va_cpy (hR σ a0) (hR σ a) sp.toNatClampNeg dp.toNatClampNeg n.toNatClampNeg j)))).heap := by
      have hheap : ((T.setVm vm').setCell a (arrV (g.2.2.2.2.1 4) (hL σ a) (fun j => va_rf (va_cpy (hR σ a0) (hR σ a) sp.toNatClampNeg dp.toNatClampNeg n.toNatClampNeg j)))).heap = H.setIfInBounds a (arrV (g.2.2.2.2.1 4) (hL σ a) (fun j => va_rf (va_cpy (hR σ a0) (hR σ a) sp.toNatClampNeg dp.toNatClampNeg n.toNatClampNeg j))) := by rw [← hT9]; rfl
      rw [hheap]
      refine h1.one hfr9 hN9 (by simp) (by rw [hσ]; rfl) (by rw [hσ]; rfl) hoff (fun q hq => by simp [Array.getElem?_setIfInBounds, Ne.symm hq]) (h1.lt (by omega)) ?_
      rw [t1]
      refine ⟨fun c9 hc9 _ => by omega, fun q => by omega, fun q => by omega, fun u hu _ => ?_, fun u hu _ => by omega⟩
      have eu : u = 4 := by omega
      subst eu
      refine ⟨hfr9, ?_⟩
      rw [hσ]
      simp [Array.getElem?_setIfInBounds, hlt]
      congr 1
      funext j
      show _ = va_rf (hR _ a j)
      simp [hR]
    refine Exists.elim (kk L st' σ' q _ _ _ _ ls hRep ?_ (by show _ + hC σ' ≤ _; rw [hC9]; exact h3) (by show _ + hS σ' ≤ _; rw [hS9]; exact h4) h5 _ rfl Y') (fun t ht9 => ⟨t, step t ht9.1, ht9.2⟩)
    intro r hr
    rcases List.mem_append.mp hr with h | h
    · exact h2 r h
    · obtain ⟨x, -, hx9⟩ := List.mem_map.mp h
      rw [← hx9]
      exact hfr9
  · exact z.elim
theorem assign_self {s : State} {c : ClassId} {k : Class} (h : s.vm.classes[c]? = some k) : s.vm.assignable c c = true := by
  show s.vm.assignableAux (255 + 1) c c = true
  rw [Vm.assignableAux, beq_self_eq_true, Bool.true_or]
def o_sR7 (Q : Cont AH) : Cont AH := fun L st σ => match st with
  | .ref b :: .int i :: .ref a :: st => (hT σ a = 107 ∧ vp_in i (hL σ a)) ∧ hT σ b = 101 ∧ Q L st (hsR σ a i.toNatClampNeg (some b))
  | _ => False
/-- rows of longs into their array -/
theorem si_aastore7 (hE : IsEnt (wC g) y cc nL ret fr lo ht Rt E X) (d : decode cc pc = .ok (.aastore, 1)) (kk : E Q (pc + 1)) : E (o_sR7 Q) pc := by
  obtain ⟨p, l, e, R, s, m, args, below, meth, c, b0, hI_, -, hx, hb, hml, -, hown, hts, -, -, hKn, -, ⟨hR1, hR2, hR3, hR4⟩, -⟩ := hE
  rw [hI_] at kk ⊢
  have hK : KnC g s := hKn
  intro L st σ z H locs cells slots ls h1 h2 h3 h4 h5
  have h1 : RepC g σ H := h1
  have h3 : cells + hC σ ≤ b0.1 := h3
  have h4 : slots + hS σ ≤ b0.2 := h4
  unfold o_sR7 at z
  split at z
  · next b i a st' =>
    obtain ⟨⟨z1, hin⟩, z2, z⟩ := z
    obtain ⟨hfr9, hcell⟩ := (h1.2.2.2.2 a).2.2.2.1 7 z1 (by decide)
    obtain ⟨-, hcb⟩ := (h1.2.2.2.2 b).2.2.2.1 1 z2 (by decide)
    obtain ⟨hAr, hRA⟩ := hK.K.2 7 _ (cTys_get (by decide))
    obtain ⟨hArb, hRb⟩ := hK.K.2 1 _ (cTys_get (by decide))
    have hRb : s.vm.findClass ("[" ++ FieldType.toString .long) = some (g.2.2.2.2.1 1) := hRb
    obtain ⟨comp, c9, k9, f1, f2, f3, f4, f5⟩ := arrayOverA_spec (t := .long) (ao_at hK (args := args) q1338)
    have hRA : s.vm.findClass ("[" ++ FieldType.toString (.array .long)) = some (g.2.2.2.2.1 7) := hRA
    have e7 : c9 = g.2.2.2.2.1 7 := Option.some.inj (f5.symm.trans hRA)
    have e1 : comp = g.2.2.2.2.1 1 := Option.some.inj (f1.symm.trans hRb)
    obtain ⟨-, kb, hkb, -⟩ := hArb 0 (fun _ => .null)
    have hkb : s.vm.classes[g.2.2.2.2.1 1]? = some kb := hkb
    have hlt : i.toNatClampNeg < hL σ a := Nat.not_le.mp fun q => hin (Or.inr q)
    refine W.aast hx hb hcell (fun q h => by cases h) (fun h => by cases h) (k := k9) (by show s.vm.classes[g.2.2.2.2.1 7]? = _; rw [← e7]; exact f3) f4 rfl (kcomp := kb) (by rw [e1]; exact hkb) ⟨fun q => hin (Or.inl q), by rw [arrV_size]; exact hlt⟩ hcb (fun q h => by cases h) (kv := kb) hkb (by rw [e1]; exact assign_self hkb) rfl rfl d (fun H' e1 e2 e3 => ?_)
    exact kk L st' _ z H' _ cells slots ls (RepC.ast h1 z1 (by decide) e1 e2 e3 rfl rfl rfl off_R (fun j => aR_val (x := some b) (by decide) j)) (own_app h2 hfr9) h3 h4 h5
  · exact z.elim
end AR6
