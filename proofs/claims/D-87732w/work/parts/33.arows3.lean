/-! THE COMPONENT's WORLD: new cells, stored references, casts, constants, calls (gen/arows3.py) -/
set_option maxRecDepth 100000
section AR3
variable {g : GC} {y : MethodName} {cc : ByteArray} {nL : Nat} {ret : Option FieldType} {fr lo : Nat} {ht : HT} {Rt : Ret AH} {E : Cont AH → Nat → Prop} {X : (Lc → Nat → AH → Prop) → Nat → Prop} {pc : Nat} {Q J : Cont AH}
theorem ao_at {g : GC} {s : State} (hK : KnC g s) {t : FieldType} (hao : Cond.arrayOver t ∈ lw_tbl) {args : Array Value} : (Cond.arrayOver t).before args s = true := by
  obtain ⟨⟨⟨b, h, -⟩, -⟩, hW⟩ := hK
  have h1 : (Cond.arrayOver t).before args (g.1.setVm s.vm) = true := by rw [Cond.arrayOver_setVmC hW.alike]; exact h _ hao
  exact h1
/-- after a new cell -/
theorem RepC.new {σ : AH} {H H' : Heap} (h : RepC g σ H) {t n k : Nat} (hsz : H'.size = hN σ + 1) (oq : ∀ q, q < hN σ → H'[q]? = H[q]?) (hc : cellAt g (hN σ) t n (fun _ => 0) (fun _ => 0) (fun _ => none) H'[hN σ]?) : RepC g (hnw σ t n k) H' := by
  obtain ⟨h1, h2, h3, h4, h5⟩ := h
  obtain ⟨r1, r2, r3, r4, -, -, r7, r8⟩ := h_nw σ t n k
  refine ⟨by rw [hsz, r4], fun b hb => ?_, ⟨by rw [r4]; omega, fun b hb => ?_⟩, h4, fun b => ?_⟩
  · rw [r4] at hb
    rw [r7, if_neg (by omega), r1, r2, r3]
    exact h2 b (by omega)
  · rw [oq b (by omega)]
    exact h3.2 b hb
  · rw [r1, r2, r3, r7, r8]
    by_cases hb : b = hN σ
    · rw [if_pos hb, if_pos hb, hb]
      have z := (h2 (hN σ) (Nat.le_refl _)).2.2
      have e1 : hI σ (hN σ) = fun _ => 0 := funext fun j => (z j).1
      have e2 : hG σ (hN σ) = fun _ => 0 := funext fun j => (z j).2.1
      have e3 : hR σ (hN σ) = fun _ => none := funext fun j => (z j).2.2
      rw [e1, e2, e3]
      exact hc
    · rw [if_neg hb, if_neg hb]
      rcases Nat.lt_or_ge b (hN σ) with q | q
      · rw [oq b q]
        exact h5 b
      · have w := h5 b
        rw [(h2 b q).2.1] at w ⊢
        exact ⟨fun c hc => by omega, fun q => by omega, fun q => by omega, fun u hu => by omega, fun u hu => by omega⟩
def o_new (cn N : Nat) (Q : Cont AH) : Cont AH := fun L st σ => (1 ≤ hC σ ∧ N ≤ hS σ) ∧ Q L (.ref (hN σ) :: st) (hnw σ (cn + 1) 0 N)
theorem si_new (hE : IsEnt (wC g) y cc nL ret fr lo ht Rt E X) {idx cn : Nat} {C : String} {T : u_T} {N : Nat} {ty : Nat → FieldType} (d : decode cc pc = .ok (.new idx, 3)) (hc : ClsOK cn C T N ty) (hcl : Cond.classLink y.cls idx C ∈ lw_all) (hins : Cond.instantiable C N ∈ lw_all) (hini : Cond.initialized C ∈ lw_all) (hdef : ∀ k, k < N → defaultValue (ty k) = cV cn (fun _ => 0) (fun _ => 0) (fun _ => none) k) (kk : E Q (pc + 3)) : E (o_new cn N Q) pc := by
  obtain ⟨p, l, e, R, s, m, args, below, meth, c, b0, hI_, -, hx, hb, hml, -, hown, hts, -, -, hKn, -, ⟨hR1, hR2, hR3, hR4⟩, -⟩ := hE
  rw [hI_] at kk ⊢
  have hK : KnC g s := hKn
  intro L st σ z H locs cells slots ls h1 h2 h3 h4 h5
  have h1 : RepC g σ H := h1
  have h3 : cells + hC σ ≤ b0.1 := h3
  have h4 : slots + hS σ ≤ b0.2 := h4
  obtain ⟨⟨z1, z2⟩, z⟩ := z
  have hKn9 := (hK.K).1 cn _ hc.2.1
  obtain ⟨hS9, hfc, kC0, hkC0, hkind⟩ := id hKn9
  have hsz := h1.1
  refine W.newcK hx hb hown (hts _ hcl) (hts _ hins) (hts _ hini) rfl d (by omega) (by omega) hfc hsz (fun H' kC g1 g2 g3 g4 => ?_)
  obtain ⟨cell, q1, q2, q3, q4⟩ := u_born ty hts hc.2.2.2.1 hKn9 g1 g2 hc.2.2.2.2.2
  refine kk L _ _ z H' locs (cells + 1) (slots + N) ls (h1.new g3 (fun q hq => g4 q hq) ?_) h2 (show _ + (hC σ - 1) ≤ _ by omega) (show _ + (hS σ - N) ≤ _ by omega) h5
  refine ⟨fun c9 hc9 _ => ?_, fun q => by have := hc.1; omega, fun q => by have := hc.1; omega, fun u hu _ => by have := hc.1; omega, fun u hu _ => by have := hc.1; omega⟩
  have ec : c9 = cn := by omega
  subst ec
  exact ⟨(h1.2.1 _ (Nat.le_refl _)).1, cell, q1, q2, q3, fun k hk => (q4 k (by rw [← hc.2.2.1]; exact hk)).trans (congrArg some (hdef k (by rw [← hc.2.2.1]; exact hk)))⟩
def o_newA (t : Nat) (Q : Cont AH) : Cont AH := fun L st σ => match st with
  | .int n :: st => (¬ n < 0 ∧ n.toNatClampNeg ≤ 65536) ∧ (1 ≤ hC σ ∧ n.toNatClampNeg ≤ hS σ) ∧ Q L (.ref (hN σ) :: st) (hnw σ t n.toNatClampNeg n.toNatClampNeg)
  | _ => False
theorem arr_new {σ : AH} {u n : Nat} {o : Option Cell} (hu : u < 8) {H0 : Heap} (h : RepC g σ H0) (ho : o = some (arrV (g.2.2.2.2.1 u) n (aV u (fun _ => 0) (fun _ => 0) (fun _ => none)))) : cellAt g (hN σ) (u + 100) n (fun _ => 0) (fun _ => 0) (fun _ => none) o := by
  refine ⟨fun c9 hc9 _ => by omega, fun q => by omega, fun q => by omega, fun u' hu' _ => ?_, fun u' hu' _ => by omega⟩
  have eu : u' = u := by omega
  subst eu
  exact ⟨(h.2.1 _ (Nat.le_refl _)).1, ho⟩
theorem si_newarray0 (hE : IsEnt (wC g) y cc nL ret fr lo ht Rt E X) (d : decode cc pc = .ok (.newarray .int, 2)) (hac : Cond.arrayClass .int ∈ lw_all) (kk : E Q (pc + 2)) : E (o_newA 100 Q) pc := by
  obtain ⟨p, l, e, R, s, m, args, below, meth, c, b0, hI_, -, hx, hb, hml, -, hown, hts, -, -, hKn, -, ⟨hR1, hR2, hR3, hR4⟩, -⟩ := hE
  rw [hI_] at kk ⊢
  have hK : KnC g s := hKn
  intro L st σ z H locs cells slots ls h1 h2 h3 h4 h5
  have h1 : RepC g σ H := h1
  have h3 : cells + hC σ ≤ b0.1 := h3
  have h4 : slots + hS σ ≤ b0.2 := h4
  unfold o_newA at z
  split at z
  · next n st' =>
    obtain ⟨⟨z1, z2⟩, ⟨z3, z4⟩, z⟩ := z
    have hsz := h1.1
    refine W.newa (atype := .int) hx hb (hts _ hac) rfl d rfl z1 (by show _ * componentBytes .int ≤ _; simp only [componentBytes]; omega) (by omega) (by omega) (fun cA kA comp g1 g2 g3 => ?_)
    have hRA := (hK.K.2 0 _ (cTys_get (by decide))).2
    have hcA : g.2.2.2.2.1 0 = cA := Option.some.inj ((show s.vm.findClass ("[" ++ FieldType.toString .int) = some _ from hRA).symm.trans g1)
    rw [hsz]
    refine kk L _ _ z _ locs (cells + 1) (slots + n.toNatClampNeg) ls (h1.new (by simp [hsz]) (fun q hq => ?_) (arr_new (u := 0) (by decide) h1 ?_)) h2 (show _ + (hC σ - 1) ≤ _ by omega) (show _ + (hS σ - n.toNatClampNeg) ≤ _ by omega) h5
    · rw [Array.getElem?_push, if_neg (by omega)]
    · rw [← hsz, hcA, Array.getElem?_push_size]
      exact congrArg some (arrV_new cA n.toNatClampNeg _)
  · exact z.elim
theorem si_newarray1 (hE : IsEnt (wC g) y cc nL ret fr lo ht Rt E X) (d : decode cc pc = .ok (.newarray .long, 2)) (hac : Cond.arrayClass .long ∈ lw_all) (kk : E Q (pc + 2)) : E (o_newA 101 Q) pc := by
  obtain ⟨p, l, e, R, s, m, args, below, meth, c, b0, hI_, -, hx, hb, hml, -, hown, hts, -, -, hKn, -, ⟨hR1, hR2, hR3, hR4⟩, -⟩ := hE
  rw [hI_] at kk ⊢
  have hK : KnC g s := hKn
  intro L st σ z H locs cells slots ls h1 h2 h3 h4 h5
  have h1 : RepC g σ H := h1
  have h3 : cells + hC σ ≤ b0.1 := h3
  have h4 : slots + hS σ ≤ b0.2 := h4
  unfold o_newA at z
  split at z
  · next n st' =>
    obtain ⟨⟨z1, z2⟩, ⟨z3, z4⟩, z⟩ := z
    have hsz := h1.1
    refine W.newa (atype := .long) hx hb (hts _ hac) rfl d rfl z1 (by show _ * componentBytes .long ≤ _; simp only [componentBytes]; omega) (by omega) (by omega) (fun cA kA comp g1 g2 g3 => ?_)
    have hRA := (hK.K.2 1 _ (cTys_get (by decide))).2
    have hcA : g.2.2.2.2.1 1 = cA := Option.some.inj ((show s.vm.findClass ("[" ++ FieldType.toString .long) = some _ from hRA).symm.trans g1)
    rw [hsz]
    refine kk L _ _ z _ locs (cells + 1) (slots + n.toNatClampNeg) ls (h1.new (by simp [hsz]) (fun q hq => ?_) (arr_new (u := 1) (by decide) h1 ?_)) h2 (show _ + (hC σ - 1) ≤ _ by omega) (show _ + (hS σ - n.toNatClampNeg) ≤ _ by omega) h5
    · rw [Array.getElem?_push, if_neg (by omega)]
    · rw [← hsz, hcA, Array.getElem?_push_size]
      exact congrArg some (arrV_new cA n.toNatClampNeg _)
  · exact z.elim
theorem si_newarray2 (hE : IsEnt (wC g) y cc nL ret fr lo ht Rt E X) (d : decode cc pc = .ok (.newarray .byte, 2)) (hac : Cond.arrayClass .byte ∈ lw_all) (kk : E Q (pc + 2)) : E (o_newA 102 Q) pc := by
  obtain ⟨p, l, e, R, s, m, args, below, meth, c, b0, hI_, -, hx, hb, hml, -, hown, hts, -, -, hKn, -, ⟨hR1, hR2, hR3, hR4⟩, -⟩ := hE
  rw [hI_] at kk ⊢
  have hK : KnC g s := hKn
  intro L st σ z H locs cells slots ls h1 h2 h3 h4 h5
  have h1 : RepC g σ H := h1
  have h3 : cells + hC σ ≤ b0.1 := h3
  have h4 : slots + hS σ ≤ b0.2 := h4
  unfold o_newA at z
  split at z
  · next n st' =>
    obtain ⟨⟨z1, z2⟩, ⟨z3, z4⟩, z⟩ := z
    have hsz := h1.1
    refine W.newa (atype := .byte) hx hb (hts _ hac) rfl d rfl z1 (by show _ * componentBytes .byte ≤ _; simp only [componentBytes]; omega) (by omega) (by omega) (fun cA kA comp g1 g2 g3 => ?_)
    have hRA := (hK.K.2 2 _ (cTys_get (by decide))).2
    have hcA : g.2.2.2.2.1 2 = cA := Option.some.inj ((show s.vm.findClass ("[" ++ FieldType.toString .byte) = some _ from hRA).symm.trans g1)
    rw [hsz]
    refine kk L _ _ z _ locs (cells + 1) (slots + n.toNatClampNeg) ls (h1.new (by simp [hsz]) (fun q hq => ?_) (arr_new (u := 2) (by decide) h1 ?_)) h2 (show _ + (hC σ - 1) ≤ _ by omega) (show _ + (hS σ - n.toNatClampNeg) ≤ _ by omega) h5
    · rw [Array.getElem?_push, if_neg (by omega)]
    · rw [← hsz, hcA, Array.getElem?_push_size]
      exact congrArg some (arrV_new cA n.toNatClampNeg _)
  · exact z.elim
theorem si_newarray3 (hE : IsEnt (wC g) y cc nL ret fr lo ht Rt E X) (d : decode cc pc = .ok (.newarray .boolean, 2)) (hac : Cond.arrayClass .boolean ∈ lw_all) (kk : E Q (pc + 2)) : E (o_newA 103 Q) pc := by
  obtain ⟨p, l, e, R, s, m, args, below, meth, c, b0, hI_, -, hx, hb, hml, -, hown, hts, -, -, hKn, -, ⟨hR1, hR2, hR3, hR4⟩, -⟩ := hE
  rw [hI_] at kk ⊢
  have hK : KnC g s := hKn
  intro L st σ z H locs cells slots ls h1 h2 h3 h4 h5
  have h1 : RepC g σ H := h1
  have h3 : cells + hC σ ≤ b0.1 := h3
  have h4 : slots + hS σ ≤ b0.2 := h4
  unfold o_newA at z
  split at z
  · next n st' =>
    obtain ⟨⟨z1, z2⟩, ⟨z3, z4⟩, z⟩ := z
    have hsz := h1.1
    refine W.newa (atype := .boolean) hx hb (hts _ hac) rfl d rfl z1 (by show _ * componentBytes .boolean ≤ _; simp only [componentBytes]; omega) (by omega) (by omega) (fun cA kA comp g1 g2 g3 => ?_)
    have hRA := (hK.K.2 3 _ (cTys_get (by decide))).2
    have hcA : g.2.2.2.2.1 3 = cA := Option.some.inj ((show s.vm.findClass ("[" ++ FieldType.toString .boolean) = some _ from hRA).symm.trans g1)
    rw [hsz]
    refine kk L _ _ z _ locs (cells + 1) (slots + n.toNatClampNeg) ls (h1.new (by simp [hsz]) (fun q hq => ?_) (arr_new (u := 3) (by decide) h1 ?_)) h2 (show _ + (hC σ - 1) ≤ _ by omega) (show _ + (hS σ - n.toNatClampNeg) ≤ _ by omega) h5
    · rw [Array.getElem?_push, if_neg (by omega)]
    · rw [← hsz, hcA, Array.getElem?_push_size]
      exact congrArg some (arrV_new cA n.toNatClampNeg _)
  · exact z.elim
theorem si_anewarray4 (hE : IsEnt (wC g) y cc nL ret fr lo ht Rt E X) {idx : Nat} (d : decode cc pc = .ok (.anewarray idx, 3)) (hcl : Cond.classLink y.cls idx "java/lang/Object" ∈ lw_all) (hao : Cond.arrayOver (.object "java/lang/Object") ∈ lw_tbl) (kk : E Q (pc + 3)) : E (o_newA 104 Q) pc := by
  obtain ⟨p, l, e, R, s, m, args, below, meth, c, b0, hI_, -, hx, hb, hml, -, hown, hts, -, -, hKn, -, ⟨hR1, hR2, hR3, hR4⟩, -⟩ := hE
  rw [hI_] at kk ⊢
  have hK : KnC g s := hKn
  intro L st σ z H locs cells slots ls h1 h2 h3 h4 h5
  have h1 : RepC g σ H := h1
  have h3 : cells + hC σ ≤ b0.1 := h3
  have h4 : slots + hS σ ≤ b0.2 := h4
  unfold o_newA at z
  split at z
  · next n st' =>
    obtain ⟨⟨z1, z2⟩, ⟨z3, z4⟩, z⟩ := z
    have hsz := h1.1
    have hov : (Cond.arrayOver (.object "java/lang/Object")).before args s = true := ao_at hK hao
    refine W.anew hx hb hown (hts _ hcl) hov rfl d rfl z1 (by omega) (by omega) (by omega) (fun cA kA comp g1 g2 g3 g4 => ?_)
    have hRA := (hK.K.2 4 _ (cTys_get (by decide))).2
    have hcA : g.2.2.2.2.1 4 = cA := Option.some.inj ((show s.vm.findClass ("[" ++ FieldType.toString (.object "java/lang/Object")) = some _ from (by obtain ⟨_, _, _, _, _, h9⟩ := hRA; exact h9)).symm.trans g1)
    rw [hsz]
    refine kk L _ _ z _ locs (cells + 1) (slots + n.toNatClampNeg) ls (h1.new (by simp [hsz]) (fun q hq => ?_) (arr_new (u := 4) (by decide) h1 ?_)) h2 (show _ + (hC σ - 1) ≤ _ by omega) (show _ + (hS σ - n.toNatClampNeg) ≤ _ by omega) h5
    · rw [Array.getElem?_push, if_neg (by omega)]
    · rw [← hsz, hcA, Array.getElem?_push_size]
      exact congrArg some (arrV_new cA n.toNatClampNeg _)
  · exact z.elim
theorem si_anewarray5 (hE : IsEnt (wC g) y cc nL ret fr lo ht Rt E X) {idx : Nat} (d : decode cc pc = .ok (.anewarray idx, 3)) (hcl : Cond.classLink y.cls idx "LateAndEarly$Routine" ∈ lw_all) (hao : Cond.arrayOver (.object "LateAndEarly$Routine") ∈ lw_tbl) (kk : E Q (pc + 3)) : E (o_newA 105 Q) pc := by
  obtain ⟨p, l, e, R, s, m, args, below, meth, c, b0, hI_, -, hx, hb, hml, -, hown, hts, -, -, hKn, -, ⟨hR1, hR2, hR3, hR4⟩, -⟩ := hE
  rw [hI_] at kk ⊢
  have hK : KnC g s := hKn
  intro L st σ z H locs cells slots ls h1 h2 h3 h4 h5
  have h1 : RepC g σ H := h1
  have h3 : cells + hC σ ≤ b0.1 := h3
  have h4 : slots + hS σ ≤ b0.2 := h4
  unfold o_newA at z
  split at z
  · next n st' =>
    obtain ⟨⟨z1, z2⟩, ⟨z3, z4⟩, z⟩ := z
    have hsz := h1.1
    have hov : (Cond.arrayOver (.object "LateAndEarly$Routine")).before args s = true := ao_at hK hao
    refine W.anew hx hb hown (hts _ hcl) hov rfl d rfl z1 (by omega) (by omega) (by omega) (fun cA kA comp g1 g2 g3 g4 => ?_)
    have hRA := (hK.K.2 5 _ (cTys_get (by decide))).2
    have hcA : g.2.2.2.2.1 5 = cA := Option.some.inj ((show s.vm.findClass ("[" ++ FieldType.toString (.object "LateAndEarly$Routine")) = some _ from (by obtain ⟨_, _, _, _, _, h9⟩ := hRA; exact h9)).symm.trans g1)
    rw [hsz]
    refine kk L _ _ z _ locs (cells + 1) (slots + n.toNatClampNeg) ls (h1.new (by simp [hsz]) (fun q hq => ?_) (arr_new (u := 5) (by decide) h1 ?_)) h2 (show _ + (hC σ - 1) ≤ _ by omega) (show _ + (hS σ - n.toNatClampNeg) ≤ _ by omega) h5
    · rw [Array.getElem?_push, if_neg (by omega)]
    · rw [← hsz, hcA, Array.getElem?_push_size]
      exact congrArg some (arrV_new cA n.toNatClampNeg _)
  · exact z.elim
theorem si_anewarray7 (hE : IsEnt (wC g) y cc nL ret fr lo ht Rt E X) {idx : Nat} (d : decode cc pc = .ok (.anewarray idx, 3)) (hcl : Cond.classLink y.cls idx (FieldType.array .long).toString ∈ lw_all) (hao : Cond.arrayOver (.array .long) ∈ lw_tbl) (kk : E Q (pc + 3)) : E (o_newA 107 Q) pc := by
  obtain ⟨p, l, e, R, s, m, args, below, meth, c, b0, hI_, -, hx, hb, hml, -, hown, hts, -, -, hKn, -, ⟨hR1, hR2, hR3, hR4⟩, -⟩ := hE
  rw [hI_] at kk ⊢
  have hK : KnC g s := hKn
  intro L st σ z H locs cells slots ls h1 h2 h3 h4 h5
  have h1 : RepC g σ H := h1
  have h3 : cells + hC σ ≤ b0.1 := h3
  have h4 : slots + hS σ ≤ b0.2 := h4
  unfold o_newA at z
  split at z
  · next n st' =>
    obtain ⟨⟨z1, z2⟩, ⟨z3, z4⟩, z⟩ := z
    have hsz := h1.1
    have hov : (Cond.arrayOver (.array .long)).before args s = true := ao_at hK hao
    refine W.anewA hx hb hown (hts _ hcl) hov rfl d rfl z1 (by omega) (by omega) (by omega) (fun cA kA comp g1 g2 g3 g4 => ?_)
    have hRA := (hK.K.2 7 _ (cTys_get (by decide))).2
    have hcA : g.2.2.2.2.1 7 = cA := Option.some.inj ((show s.vm.findClass ("[" ++ FieldType.toString (.array .long)) = some _ from hRA).symm.trans g1)
    rw [hsz]
    refine kk L _ _ z _ locs (cells + 1) (slots + n.toNatClampNeg) ls (h1.new (by simp [hsz]) (fun q hq => ?_) (arr_new (u := 7) (by decide) h1 ?_)) h2 (show _ + (hC σ - 1) ≤ _ by omega) (show _ + (hS σ - n.toNatClampNeg) ≤ _ by omega) h5
    · rw [Array.getElem?_push, if_neg (by omega)]
    · rw [← hsz, hcA, Array.getElem?_push_size]
      exact congrArg some (arrV_new cA n.toNatClampNeg _)
  · exact z.elim
/-! casts -/
/-- an object with a tag of ts is of a class that can be cast to T -/
def CastOK (ts : List Nat) (T : String) : Prop := ∀ t ∈ ts, ∃ (c : Nat) (C : String) (Tb : u_T) (N : Nat) (ty : Nat → FieldType), t = c + 1 ∧ ClsOK c C Tb N ty ∧ (C = T ∨ Cond.castable C T ∈ lw_tbl)
def NoCast (ts : List Nat) (T : String) : Prop := ∀ t ∈ ts, ∃ (c : Nat) (C : String) (Tb : u_T) (N : Nat) (ty : Nat → FieldType), t = c + 1 ∧ ClsOK c C Tb N ty ∧ (C, T) ∈ kNo
theorem RepC.recv {σ : AH} {H : Heap} {s : State} (h : RepC g σ H) (hK : KnC g s) {a c : Nat} {C : String} {Tb : u_T} {N : Nat} {ty : Nat → FieldType} (hc : ClsOK c C Tb N ty) (ht9 : hT σ a = c + 1) : ∃ cell : Cell, H[a]? = some cell ∧ cell.vm.isStatics = false ∧ s.vm.findClass C = some cell.cls := by
  obtain ⟨-, cell, g1, g2, g3, -⟩ := (h.2.2.2.2 a).1 c ht9 hc.1
  refine ⟨cell, g1, by rw [g3]; rfl, ?_⟩
  rw [g2]
  exact ((hK.K).1 c _ hc.2.1).2.1
def o_cast (ts : List Nat) (Q : Cont AH) : Cont AH := fun L st σ => match st with
  | .ref a :: st => hT σ a ∈ ts ∧ Q L (.ref a :: st) σ
  | .null :: st => Q L (.null :: st) σ
  | _ => False
def o_inst (ts ns : List Nat) (Q : Cont AH) : Cont AH := fun L st σ => match st with
  | .ref a :: st => (hT σ a ∈ ts ∧ Q L (.int 1 :: st) σ) ∨ (hT σ a ∈ ns ∧ Q L (.int 0 :: st) σ)
  | .null :: st => Q L (.int 0 :: st) σ
  | _ => False
theorem si_cast (hE : IsEnt (wC g) y cc nL ret fr lo ht Rt E X) {idx : Nat} {T : String} {ts : List Nat} (d : decode cc pc = .ok (.checkcast idx, 3)) (hcl : Cond.classLink y.cls idx T ∈ lw_all) (hts9 : CastOK ts T) (kk : E Q (pc + 3)) : E (o_cast ts Q) pc := by
  obtain ⟨p, l, e, R, s, m, args, below, meth, c, b0, hI_, -, hx, hb, hml, -, hown, hts, -, -, hKn, -, ⟨hR1, hR2, hR3, hR4⟩, -⟩ := hE
  rw [hI_] at kk ⊢
  have hK : KnC g s := hKn
  intro L st σ z H locs cells slots ls h1 h2 h3 h4 h5
  have h1 : RepC g σ H := h1
  have h3 : cells + hC σ ≤ b0.1 := h3
  have h4 : slots + hS σ ≤ b0.2 := h4
  unfold o_cast at z
  split at z
  · next a st' =>
    obtain ⟨z1, z⟩ := z
    obtain ⟨cn, C, Tb, N, ty, e1, e2, e3⟩ := hts9 _ z1
    have hr := h1.recv hK e2 e1
    rcases e3 with e3 | e3
    · subst e3
      exact va_castS hx hb hown (hts _ hcl) (((hK.K).1 cn _ e2.2.1).2) hr d (kk L _ σ z H locs cells slots ls h1 h2 h3 h4 h5)
    · exact va_castY hx hb hown (hts _ hcl) (va_Nw.warmC hK.2 (nw_tbl hK e3 rfl)) hr d (kk L _ σ z H locs cells slots ls h1 h2 h3 h4 h5)
  · exact lv_castN hx hb d (kk L _ σ z H locs cells slots ls h1 h2 h3 h4 h5)
  · exact z.elim
theorem si_inst (hE : IsEnt (wC g) y cc nL ret fr lo ht Rt E X) {idx : Nat} {T : String} {ts ns : List Nat} (d : decode cc pc = .ok (.instanceof idx, 3)) (hcl : Cond.classLink y.cls idx T ∈ lw_all) (hts9 : CastOK ts T) (hns9 : NoCast ns T) (kk : E Q (pc + 3)) : E (o_inst ts ns Q) pc := by
  obtain ⟨p, l, e, R, s, m, args, below, meth, c, b0, hI_, -, hx, hb, hml, -, hown, hts, -, -, hKn, -, ⟨hR1, hR2, hR3, hR4⟩, -⟩ := hE
  rw [hI_] at kk ⊢
  have hK : KnC g s := hKn
  intro L st σ z H locs cells slots ls h1 h2 h3 h4 h5
  have h1 : RepC g σ H := h1
  have h3 : cells + hC σ ≤ b0.1 := h3
  have h4 : slots + hS σ ≤ b0.2 := h4
  unfold o_inst at z
  split at z
  · next a st' =>
    rcases z with ⟨z1, z⟩ | ⟨z1, z⟩
    · obtain ⟨cn, C, Tb, N, ty, e1, e2, e3⟩ := hts9 _ z1
      have hr := h1.recv hK e2 e1
      rcases e3 with e3 | e3
      · subst e3
        exact va_instS hx hb hown (hts _ hcl) (((hK.K).1 cn _ e2.2.1).2) hr d (kk L _ σ z H locs cells slots ls h1 h2 h3 h4 h5)
      · exact va_instY hx hb hown (hts _ hcl) (va_Nw.warmC hK.2 (nw_tbl hK e3 rfl)) hr d (kk L _ σ z H locs cells slots ls h1 h2 h3 h4 h5)
    · obtain ⟨cn, C, Tb, N, ty, e1, e2, e3⟩ := hns9 _ z1
      have hr := h1.recv hK e2 e1
      exact va_instNo hx hb hown (hts _ hcl) (va_Nc.moved hK.2.alike (hK.1.2.2.2.2.2.1 _ e3)) hr d (kk L _ σ z H locs cells slots ls h1 h2 h3 h4 h5)
  · exact lv_instN hx hb d (kk L _ σ z H locs cells slots ls h1 h2 h3 h4 h5)
  · exact z.elim
/-! constants -/
def o_cst (κ : Nat → Option Nat) (k : Nat) (Q : Cont AH) : Cont AH := fun L st σ => Q L (va_rf (κ k) :: st) σ
theorem si_ldcS (hE : IsEnt (wC g) y cc nL ret fr lo ht Rt E X) {idx k : Nat} {tx : String} (d : decode cc pc = .ok (.ldc idx, 2)) (hk : kStr[k]? = some (y.cls, idx, tx)) (kk : E Q (pc + 2)) : E (o_cst g.2.1 k Q) pc := by
  obtain ⟨p, l, e, R, s, m, args, below, meth, c, b0, hI_, -, hx, hb, hml, -, hown, hts, -, -, hKn, -, ⟨hR1, hR2, hR3, hR4⟩, -⟩ := hE
  rw [hI_] at kk ⊢
  have hK : KnC g s := hKn
  intro L st σ z H locs cells slots ls h1 h2 h3 h4 h5
  have h1 : RepC g σ H := h1
  have h3 : cells + hC σ ≤ b0.1 := h3
  have h4 : slots + hS σ ≤ b0.2 := h4
  obtain ⟨a, ha, hR⟩ := hK.1.2.2.1 k _ hk
  have z : Q L (va_rf (g.2.1 k) :: st) σ := z
  rw [ha] at z
  exact va_ldcS hx hb hown (vk_R.warm hK.2 hR) d (kk L _ σ z H locs cells slots ls h1 h2 h3 h4 h5)
theorem c_static {σ : AH} {H : Heap} {s : State} (h1 : RepC g σ H) (hK : KnC g s) {C n d9 : String} {v : Value} (hZ : va_Z C n d9 v (fun _ => False) g.1 g.1.heap) : va_Z C n d9 v (fun _ => False) s H := va_Z.kept (va_Z.moved hK.2.alike hZ) (fun a ha _ => h1.2.2.1.2 a ha)
theorem si_gst (hE : IsEnt (wC g) y cc nL ret fr lo ht Rt E X) {idx : Nat} {C n d9 : String} {v : Value} (d : decode cc pc = .ok (.getstatic idx, 3)) (hl : Cond.fieldLink y.cls idx C n d9 ∈ lw_all) {Cn : Cont AH} (hCC : ∀ L st σ, Cn L st σ → Q L (v :: st) σ) (hZ : GOK g → va_Z C n d9 v (fun _ => False) g.1 g.1.heap) (kk : E Q (pc + 3)) : E Cn pc := by
  obtain ⟨p, l, e, R, s, m, args, below, meth, c, b0, hI_, -, hx, hb, hml, -, hown, hts, -, -, hKn, -, ⟨hR1, hR2, hR3, hR4⟩, -⟩ := hE
  rw [hI_] at kk ⊢
  have hK : KnC g s := hKn
  intro L st σ z H locs cells slots ls h1 h2 h3 h4 h5
  have h1 : RepC g σ H := h1
  have h3 : cells + hC σ ≤ b0.1 := h3
  have h4 : slots + hS σ ≤ b0.2 := h4
  obtain ⟨cf, kf, fi, f, a, cell, q1, q2, q3, q4, q5, q6, q7, -⟩ := c_static h1 hK (hZ hK.1)
  exact W.gets hx hb hown (hts _ hl) q1 q2 q3 q4 q5 (fun q => by rw [q] at q6; cases q6) q7 rfl d (kk L _ σ (hCC L st σ z) H locs cells slots ls h1 h2 h3 h4 h5)
theorem si_gstR (hE : IsEnt (wC g) y cc nL ret fr lo ht Rt E X) {idx k : Nat} {C n d9 : String} (d : decode cc pc = .ok (.getstatic idx, 3)) (hl : Cond.fieldLink y.cls idx C n d9 ∈ lw_all) (hk : kSta[k]? = some (C, n, d9)) (kk : E Q (pc + 3)) : E (o_cst g.2.1 (30 + k) Q) pc := si_gst hE d hl (fun _ _ _ z => z) (fun h => h.2.2.2.1 k _ hk) kk
theorem si_gstI (hE : IsEnt (wC g) y cc nL ret fr lo ht Rt E X) {idx : Nat} {v : Int32} {C n d9 : String} (d : decode cc pc = .ok (.getstatic idx, 3)) (hl : Cond.fieldLink y.cls idx C n d9 ∈ lw_all) (hk : (C, n, d9, v) ∈ kInt) (kk : E Q (pc + 3)) : E (o_ic v Q) pc := si_gst hE d hl (fun _ _ _ z => z) (fun h => h.2.2.2.2.1 _ hk) kk
theorem si_ldcM (hE : IsEnt (wC g) y cc nL ret fr lo ht Rt E X) {idx : Nat} (d : decode cc pc = .ok (.ldc idx, 2)) (hl : Cond.classLink y.cls idx "[Ljava/lang/Object;" ∈ lw_all) (kk : E Q (pc + 2)) : E (o_cst g.2.1 40 Q) pc := by
  obtain ⟨p, l, e, R, s, m, args, below, meth, c, b0, hI_, -, hx, hb, hml, -, hown, hts, -, -, hKn, -, ⟨hR1, hR2, hR3, hR4⟩, -⟩ := hE
  rw [hI_] at kk ⊢
  have hK : KnC g s := hKn
  intro L st σ z H locs cells slots ls h1 h2 h3 h4 h5
  have h1 : RepC g σ H := h1
  have h3 : cells + hC σ ≤ b0.1 := h3
  have h4 : slots + hS σ ≤ b0.2 := h4
  obtain ⟨mi, ha, hM⟩ := hK.1.2.2.2.2.2.2
  have z : Q L (va_rf (g.2.1 40) :: st) σ := z
  rw [ha] at z
  exact va_ldcM hx hb hown (hts _ hl) (va_Mi.moved hK.2.alike hM) d (kk L _ σ z H locs cells slots ls h1 h2 h3 h4 h5)
/-- Object.<init> -/
def o_oi (Q : Cont AH) : Cont AH := fun L st σ => match st with
  | .ref _ :: st => st.length ≤ 4 ∧ Q L st σ
  | _ => False
theorem si_oi (hE : IsEnt (wC g) y cc nL ret fr lo ht Rt E X) {idx : Nat} (d : decode cc pc = .ok (.invokespecial idx, 3)) (hl : Cond.methodLink y.cls idx objectInit ∈ lw_all) (hi : Cond.instanceMethod objectInit ∈ lw_all) (hco : Cond.code objectInit ⟨#[0xb1]⟩ 1 none ∈ lw_all) (hfr : 1 ≤ fr) (hlo : 20 ≤ lo) (kk : E Q (pc + 3)) : E (o_oi Q) pc := by
  obtain ⟨p, l, e, R, s, m, args, below, meth, c, b0, hI_, -, hx, hb, hml, -, hown, hts, -, -, hKn, -, ⟨hR1, hR2, hR3, hR4⟩, -⟩ := hE
  rw [hI_] at kk ⊢
  have hK : KnC g s := hKn
  intro L st σ z H locs cells slots ls h1 h2 h3 h4 h5
  have h1 : RepC g σ H := h1
  have h3 : cells + hC σ ≤ b0.1 := h3
  have h4 : slots + hS σ ≤ b0.2 := h4
  unfold o_oi at z
  split at z
  · next a st' =>
    obtain ⟨z1, z⟩ := z
    have hcat := cat_sum st'
    exact W.objInit hx hb hown (hts _ hl) (hts _ hi) (hts _ hco) rfl (by rw [hml]; exact h5.1) rfl d (by omega) (by show 2 * 0 + _ + 12 ≤ _; omega) (kk L _ σ z H locs cells slots ls h1 h2 h3 h4 h5)
  · exact z.elim
end AR3
