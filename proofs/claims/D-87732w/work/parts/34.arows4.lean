/-! THE COMPONENT's WORLD: stored references, read-only objects, natives, calls (gen/arows4.py) -/
set_option maxRecDepth 100000
section AR4
variable {g : GC} {y : MethodName} {cc : ByteArray} {nL : Nat} {ret : Option FieldType} {fr lo : Nat} {ht : HT} {Rt : Ret AH} {E : Cont AH → Nat → Prop} {X : (Lc → Nat → AH → Prop) → Nat → Prop} {pc : Nat} {Q J : Cont AH}
/-- objects that go into an array of objects -/
abbrev objTs : List Nat := [1, 2, 3, 4, 5, 6, 7, 8, 9, 10, 11, 12, 13, 14, 15, 16, 17, 18, 19, 20]
def CastAny (C T : String) (s : State) : Prop := ∀ comp c0 : ClassId, s.vm.findClass T = some comp → s.vm.findClass C = some c0 → s.vm.assignable c0 comp = true
theorem castAny {s : State} (hK : KnC g s) {C T : String} (h : Cond.castable C T ∈ lw_tbl) : CastAny C T s := by
  intro comp c0 h1 h2
  have hn : va_Nw (.castable C T) s := va_Nw.warmC hK.2 (nw_tbl hK h rfl)
  have hn : (Cond.castable C T).before #[] s = true := hn
  simp only [Cond.before, Cond.holds, Cond.value, h1, h2] at hn
  simpa using hn
theorem c_aast {p : Program} {l : Launch} {e : Env} {R : Room} {s : State} {m : MethodId} {args : Array Value} {below : List Frame} {meth : Method} {c : Code} {H : Heap} {locs : List Loc} {cells slots : Nat} {Z : State → Prop} {ls : Array Slot} {rest : List Value} (hx : p.tables.exec = Jvm.exec) (hb : c.code = cc) {cA : ClassId} {n : Nat} {f : Nat → Value} {a b : Nat} {i : Int32} {C : String} (hcell : H[a]? = some (arrV cA n f)) (hRA : va_RA s cA (.object C)) (hany : va_Any C s H b) (hin : vp_in i n) (hdg : decode cc pc = .ok (.aastore, 1))
    (kk : ∀ H' : Heap, H'[a]? = some ((arrV cA n f).setSlot i.toNatClampNeg (.ref b)) → H'.size = H.size → (∀ q, q ≠ a → H'[q]? = H[q]?) → W p l e R s m args below meth c H' (locs ++ [⟨a, i.toNatClampNeg⟩]) cells slots Z (F0 m (pc + 1) ls rest)) : W p l e R s m args below meth c H locs cells slots Z (F0 m pc ls (.ref b :: .int i :: .ref a :: rest)) := by
  have hlt : i.toNatClampNeg < n := Nat.not_le.mp fun q => hin (Or.inr q)
  have h0 : ¬ i < 0 := fun q => hin (Or.inl q)
  obtain ⟨cellV, g1, g3, ⟨kC, hkC⟩, hasg⟩ := hany
  obtain ⟨kA, comp, k1, k2, k3, -⟩ := hRA
  obtain ⟨kE, hkE, -⟩ := Vm.findClass_spec k3
  exact W.aast hx hb hcell (fun q h => by cases h) (fun h => by cases h) k1 k2 rfl hkE ⟨h0, by rw [arrV_size]; exact hlt⟩ g1 (fun q h => by rw [h] at g3; cases g3) hkC (hasg _ k3) rfl rfl hdg kk
/-- a reference of the tags ts, or null, into an array of the tag t -/
def o_sR (t : Nat) (ts : List Nat) (Q : Cont AH) : Cont AH := fun L st σ => match st with
  | .ref b :: .int i :: .ref a :: st => (hT σ a = t ∧ vp_in i (hL σ a)) ∧ hT σ b ∈ ts ∧ Q L st (hsR σ a i.toNatClampNeg (some b))
  | .null :: .int i :: .ref a :: st => (hT σ a = t ∧ vp_in i (hL σ a)) ∧ Q L st (hsR σ a i.toNatClampNeg none)
  | _ => False
/-- what may be stored: each tag gives an object that can be cast -/
def AnyOK (g : GC) (ts : List Nat) (C : String) : Prop := ∀ (s : State) (σ : AH) (H : Heap) (b : Nat), KnC g s → RepC g σ H → hT σ b ∈ ts → va_Any C s H b
theorem anyOK_of {ts : List Nat} {C : String} (h : CastOK ts C) : AnyOK g ts C := by
  intro s σ H b hK hR ht9
  obtain ⟨cn, C9, Tb, N, ty, e1, e2, e3⟩ := h _ ht9
  obtain ⟨cell, h1, h2, h3⟩ := hR.recv hK e2 e1
  obtain ⟨kC, hkC, hnm⟩ := Vm.findClass_spec h3
  refine ⟨cell, h1, h2, ⟨kC, hkC⟩, fun comp hc => ?_⟩
  rcases e3 with e3 | e3
  · subst e3
    have e9 : cell.cls = comp := Option.some.inj (h3.symm.trans hc)
    have e8 : g.2.2.1 cn = comp := Option.some.inj ((((hK.K).1 cn _ e2.2.1).2.1).symm.trans hc)
    rw [e9, ← e8]
    exact va_assign ((hK.K).1 cn _ e2.2.1).2
  · exact castAny hK e3 comp _ hc h3
theorem anyOK_60 {C : String} (h : Cond.castable "java/lang/Integer" C ∈ lw_tbl) : AnyOK g [60] C := by
  intro s σ H b hK hR ht9
  rw [List.mem_singleton] at ht9
  obtain ⟨cell, h1, h2, h3, h4, -⟩ := (hR.2.2.2.2 b).2.1 ht9
  have h4' : s.vm.findClass "java/lang/Integer" = some cell.cls := by rw [hK.2.alike.findClass]; exact h4
  obtain ⟨kC, hkC, hnm⟩ := Vm.findClass_spec h4'
  exact ⟨cell, h1, h2, ⟨kC, hkC⟩, fun comp hc => castAny hK h comp _ hc h4'⟩
theorem anyOK_app {ts us : List Nat} {C : String} (h1 : AnyOK g ts C) (h2 : AnyOK g us C) : AnyOK g (ts ++ us) C := by
  intro s σ H b hK hR ht9
  rcases List.mem_append.mp ht9 with q | q
  · exact h1 s σ H b hK hR q
  · exact h2 s σ H b hK hR q
theorem si_aastore4 (hE : IsEnt (wC g) y cc nL ret fr lo ht Rt E X) {ts : List Nat} (d : decode cc pc = .ok (.aastore, 1)) (hA : AnyOK g ts "java/lang/Object") (kk : E Q (pc + 1)) : E (o_sR 104 ts Q) pc := by
  obtain ⟨p, l, e, R, s, m, args, below, meth, c, b0, hI_, -, hx, hb, hml, -, hown, hts, -, -, hKn, -, ⟨hR1, hR2, hR3, hR4⟩, -⟩ := hE
  rw [hI_] at kk ⊢
  have hK : KnC g s := hKn
  intro L st σ z H locs cells slots ls h1 h2 h3 h4 h5
  have h1 : RepC g σ H := h1
  have h3 : cells + hC σ ≤ b0.1 := h3
  have h4 : slots + hS σ ≤ b0.2 := h4
  unfold o_sR at z
  split at z
  · next b i a st' =>
    obtain ⟨⟨z1, hin⟩, z2, z⟩ := z
    obtain ⟨hfr, hcell⟩ := (h1.2.2.2.2 a).2.2.2.1 4 z1 (by decide)
    refine c_aast hx hb hcell ((hK.K.2 4 _ (cTys_get (by decide))).2) (hA s σ H b hK h1 z2) hin d (fun H' e1 e2 e3 => ?_)
    exact kk L st' _ z H' _ cells slots ls (RepC.ast h1 z1 (by decide) e1 e2 e3 rfl rfl rfl off_R (fun j => aR_val (x := some b) (by decide) j)) (own_app h2 hfr) h3 h4 h5
  · next i a st' =>
    obtain ⟨⟨z1, hin⟩, z⟩ := z
    obtain ⟨hfr, hcell⟩ := (h1.2.2.2.2 a).2.2.2.1 4 z1 (by decide)
    refine va_WaastN (C := "java/lang/Object") hx hb hcell ((hK.K.2 4 _ (cTys_get (by decide))).1 _ _) (fun q => by cases q) (by rw [arrV_size]; exact hin) rfl rfl d (fun H' e1 e2 e3 => ?_)
    exact kk L st' _ z H' _ cells slots ls (RepC.ast h1 z1 (by decide) e1 e2 e3 rfl rfl rfl off_R (fun j => aR_val (x := none) (by decide) j)) (own_app h2 hfr) h3 h4 h5
  · exact z.elim
theorem si_aastore5 (hE : IsEnt (wC g) y cc nL ret fr lo ht Rt E X) {ts : List Nat} (d : decode cc pc = .ok (.aastore, 1)) (hA : AnyOK g ts "LateAndEarly$Routine") (kk : E Q (pc + 1)) : E (o_sR 105 ts Q) pc := by
  obtain ⟨p, l, e, R, s, m, args, below, meth, c, b0, hI_, -, hx, hb, hml, -, hown, hts, -, -, hKn, -, ⟨hR1, hR2, hR3, hR4⟩, -⟩ := hE
  rw [hI_] at kk ⊢
  have hK : KnC g s := hKn
  intro L st σ z H locs cells slots ls h1 h2 h3 h4 h5
  have h1 : RepC g σ H := h1
  have h3 : cells + hC σ ≤ b0.1 := h3
  have h4 : slots + hS σ ≤ b0.2 := h4
  unfold o_sR at z
  split at z
  · next b i a st' =>
    obtain ⟨⟨z1, hin⟩, z2, z⟩ := z
    obtain ⟨hfr, hcell⟩ := (h1.2.2.2.2 a).2.2.2.1 5 z1 (by decide)
    refine c_aast hx hb hcell ((hK.K.2 5 _ (cTys_get (by decide))).2) (hA s σ H b hK h1 z2) hin d (fun H' e1 e2 e3 => ?_)
    exact kk L st' _ z H' _ cells slots ls (RepC.ast h1 z1 (by decide) e1 e2 e3 rfl rfl rfl off_R (fun j => aR_val (x := some b) (by decide) j)) (own_app h2 hfr) h3 h4 h5
  · next i a st' =>
    obtain ⟨⟨z1, hin⟩, z⟩ := z
    obtain ⟨hfr, hcell⟩ := (h1.2.2.2.2 a).2.2.2.1 5 z1 (by decide)
    refine va_WaastN (C := "LateAndEarly$Routine") hx hb hcell ((hK.K.2 5 _ (cTys_get (by decide))).1 _ _) (fun q => by cases q) (by rw [arrV_size]; exact hin) rfl rfl d (fun H' e1 e2 e3 => ?_)
    exact kk L st' _ z H' _ cells slots ls (RepC.ast h1 z1 (by decide) e1 e2 e3 rfl rfl rfl off_R (fun j => aR_val (x := none) (by decide) j)) (own_app h2 hfr) h3 h4 h5
  · exact z.elim

/-! objects that are only read: Integer's cache, Strings -/
def o_gIc (Q : Cont AH) : Cont AH := fun L st σ => match st with
  | .ref a :: st => (hT σ a = 20 ∨ hT σ a = 60) ∧ Q L (.int (hI σ a 0) :: st) σ
  | _ => False
theorem si_gIc (hE : IsEnt (wC g) y cc nL ret fr lo ht Rt E X) {idx : Nat} (d : decode cc pc = .ok (.getfield idx, 3)) (hl : FLk y.cls idx "java/lang/Integer" "value" "I") (kk : E Q (pc + 3)) : E (o_gIc Q) pc := by
  obtain ⟨p, l, e, R, s, m, args, below, meth, c, b0, hI_, -, hx, hb, hml, -, hown, hts, -, -, hKn, -, ⟨hR1, hR2, hR3, hR4⟩, -⟩ := hE
  rw [hI_] at kk ⊢
  have hK : KnC g s := hKn
  intro L st σ z H locs cells slots ls h1 h2 h3 h4 h5
  have h1 : RepC g σ H := h1
  have h3 : cells + hC σ ≤ b0.1 := h3
  have h4 : slots + hS σ ≤ b0.2 := h4
  unfold o_gIc at z
  split at z
  · next a st' =>
    obtain ⟨z1, z⟩ := z
    rcases z1 with z1 | z1
    · obtain ⟨cf, kf, fi, f, hi, -, hst, hsl⟩ := fo_at hts hK cls19 (k := 0) (by decide) (ref := "java/lang/Integer") (name := "value") (desc := "I") rfl rfl (Or.inl rfl)
      obtain ⟨-, cell, g1, g2, g3, g4⟩ := (h1.2.2.2.2 a).1 19 z1 (by decide)
      refine c_get hx hb hown hts hK hl hi hst g1 (by rw [g3]; exact fun h => by cases h) (v := .int (hI σ a 0)) ?_ d (kk L _ σ z H locs cells slots ls h1 h2 h3 h4 h5)
      rw [hsl]
      exact g4 0 (by decide)
    · obtain ⟨cell, g1, g2, g3, g4, cf, k, i, f, f1, f2, f3⟩ := (h1.2.2.2.2 a).2.1 z1
      obtain ⟨k', hi', he⟩ := State.fieldFound?_setVm hK.2.alike f1
      exact c_get hx hb hown hts hK hl hi' f2 g1 g3 f3 d (kk L _ σ z H locs cells slots ls h1 h2 h3 h4 h5)
  · exact z.elim
def o_gSv (Q : Cont AH) : Cont AH := fun L st σ => match st with
  | .ref a :: st => hT σ a = 61 ∧ Q L (va_rf (hR σ a 0) :: st) σ
  | _ => False
def o_gSc (Q : Cont AH) : Cont AH := fun L st σ => match st with
  | .ref a :: st => hT σ a = 61 ∧ Q L (.int (hI σ a 1) :: st) σ
  | _ => False
theorem si_gSv (hE : IsEnt (wC g) y cc nL ret fr lo ht Rt E X) {idx : Nat} (d : decode cc pc = .ok (.getfield idx, 3)) (hl : FLk y.cls idx "java/lang/String" "value" "[B") (kk : E Q (pc + 3)) : E (o_gSv Q) pc := by
  obtain ⟨p, l, e, R, s, m, args, below, meth, c, b0, hI_, -, hx, hb, hml, -, hown, hts, -, -, hKn, -, ⟨hR1, hR2, hR3, hR4⟩, -⟩ := hE
  rw [hI_] at kk ⊢
  have hK : KnC g s := hKn
  intro L st σ z H locs cells slots ls h1 h2 h3 h4 h5
  have h1 : RepC g σ H := h1
  have h3 : cells + hC σ ≤ b0.1 := h3
  have h4 : slots + hS σ ≤ b0.2 := h4
  unfold o_gSv at z
  split at z
  · next a st' =>
    obtain ⟨z1, z⟩ := z
    obtain ⟨cell, g1, g2, g3, g4, ⟨cf, k, i, f, f1, f2, f3⟩, -⟩ := (h1.2.2.2.2 a).2.2.1 z1
    obtain ⟨k', hi', he⟩ := State.fieldFound?_setVm hK.2.alike f1
    exact c_get hx hb hown hts hK hl hi' f2 g1 g3 f3 d (kk L _ σ z H locs cells slots ls h1 h2 h3 h4 h5)
  · exact z.elim
theorem si_gSc (hE : IsEnt (wC g) y cc nL ret fr lo ht Rt E X) {idx : Nat} (d : decode cc pc = .ok (.getfield idx, 3)) (hl : FLk y.cls idx "java/lang/String" "coder" "B") (kk : E Q (pc + 3)) : E (o_gSc Q) pc := by
  obtain ⟨p, l, e, R, s, m, args, below, meth, c, b0, hI_, -, hx, hb, hml, -, hown, hts, -, -, hKn, -, ⟨hR1, hR2, hR3, hR4⟩, -⟩ := hE
  rw [hI_] at kk ⊢
  have hK : KnC g s := hKn
  intro L st σ z H locs cells slots ls h1 h2 h3 h4 h5
  have h1 : RepC g σ H := h1
  have h3 : cells + hC σ ≤ b0.1 := h3
  have h4 : slots + hS σ ≤ b0.2 := h4
  unfold o_gSc at z
  split at z
  · next a st' =>
    obtain ⟨z1, z⟩ := z
    obtain ⟨cell, g1, g2, g3, g4, -, ⟨cf, k, i, f, f1, f2, f3⟩⟩ := (h1.2.2.2.2 a).2.2.1 z1
    obtain ⟨k', hi', he⟩ := State.fieldFound?_setVm hK.2.alike f1
    exact c_get hx hb hown hts hK hl hi' f2 g1 g3 f3 d (kk L _ σ z H locs cells slots ls h1 h2 h3 h4 h5)
  · exact z.elim
/-! natives -/
/-- getClass of an array of objects -/
def o_getc (κ : Nat → Option Nat) (Q : Cont AH) : Cont AH := fun L st σ => match st with
  | .ref a :: st => hT σ a = 104 ∧ st.length ≤ 4 ∧ Q L (va_rf (κ 40) :: st) σ
  | _ => False
theorem si_getc (hE : IsEnt (wC g) y cc nL ret fr lo ht Rt E X) {idx : Nat} (d : decode cc pc = .ok (.invokevirtual idx, 3)) (hl : Cond.methodLink y.cls idx ⟨"java/lang/Object", "getClass", "()Ljava/lang/Class;"⟩ ∈ lw_all) (hde : Cond.declares ⟨"java/lang/Object", "getClass", "()Ljava/lang/Class;"⟩ ∈ lw_tbl) (hse : Cond.selects "[Ljava/lang/Object;" ⟨"java/lang/Object", "getClass", "()Ljava/lang/Class;"⟩ ⟨"java/lang/Object", "getClass", "()Ljava/lang/Class;"⟩ ∈ lw_all) (hi : Cond.instanceMethod ⟨"java/lang/Object", "getClass", "()Ljava/lang/Class;"⟩ ∈ lw_all) (hna : Cond.native ⟨"java/lang/Object", "getClass", "()Ljava/lang/Class;"⟩ ∈ lw_all) (hfr : 1 ≤ fr) (hlo : 22 ≤ lo) (kk : E Q (pc + 3)) : E (o_getc g.2.1 Q) pc := by
  obtain ⟨p, l, e, R, s, m, args, below, meth, c, b0, hI_, -, hx, hb, hml, -, hown, hts, -, -, hKn, -, ⟨hR1, hR2, hR3, hR4⟩, -⟩ := hE
  rw [hI_] at kk ⊢
  have hK : KnC g s := hKn
  intro L st σ z H locs cells slots ls h1 h2 h3 h4 h5
  have h1 : RepC g σ H := h1
  have h3 : cells + hC σ ≤ b0.1 := h3
  have h4 : slots + hS σ ≤ b0.2 := h4
  unfold o_getc at z
  split at z
  · next a st' =>
    obtain ⟨z1, z2, z⟩ := z
    obtain ⟨mi, ha, hM⟩ := hK.1.2.2.2.2.2.2
    rw [ha] at z
    obtain ⟨-, hcell⟩ := (h1.2.2.2.2 a).2.2.2.1 4 z1 (by decide)
    have hRA := (hK.K.2 4 _ (cTys_get (by decide))).2
    have hcat := cat_sum st'
    refine va_getC hx hb (by rw [hml]; exact h5.1.symm) hown (hts _ hl) (va_Nw.use rfl (va_Nw.warmD hK.2 (nw_tbl hK hde rfl))) (hts _ hse) (hts _ hi) (hts _ hna) (va_Mi.moved hK.2.alike hM) ⟨_, hcell, rfl, ?_⟩ (by omega) (by omega) d (kk L _ σ z H locs cells slots ls h1 h2 h3 h4 h5)
    exact va_nmO hRA rfl
  · exact z.elim
end AR4
