/-! THE COMPONENT's WORLD: arrays, new cells, casts, constants -/
set_option maxRecDepth 100000
theorem cTys_get {g : GC} {u : Nat} (hu : u < 8) : (cTys g)[u]? = some (g.2.2.2.2.1 u, aTy u) := by simp [cTys, hu]
section AR
variable {g : GC} {y : MethodName} {cc : ByteArray} {nL : Nat} {ret : Option FieldType} {fr lo : Nat} {ht : HT} {Rt : Ret AH} {E : Cont AH → Nat → Prop} {X : (Lc → Nat → AH → Prop) → Nat → Prop} {pc : Nat} {Q J : Cont AH}
theorem RepC.arr {σ : AH} {H : Heap} {s : State} (h : RepC g σ H) (hK : KnC g s) {a u : Nat} (hu : (hT σ a = u + 100 ∧ u < 8) ∨ (hT σ a = u + 150 ∧ u < 9)) :
    ∃ cell : Cell, H[a]? = some cell ∧ s.isArrayOf cell (aTy u) ∧ cell.vm ≠ .unknown ∧ cell.slots.size = hL σ a ∧ ∀ j, j < hL σ a → cell.slots[j]? = some (aV u (hI σ a) (hG σ a) (hR σ a) j) := by
  rcases hu with ⟨h1, h2⟩ | ⟨h1, h2⟩
  · obtain ⟨-, h3⟩ := (h.2.2.2.2 a).2.2.2.1 u h1 h2
    exact ⟨_, h3, (hK.K.2 u _ (cTys_get h2)).1 _ _, (fun q => by cases q), arrV_size _ _ _, fun j hj => arrV_read _ _ hj⟩
  · obtain ⟨cell, h3, h4, h5, -, h6, h7⟩ := (h.2.2.2.2 a).2.2.2.2 u h1 h2
    exact ⟨cell, h3, State.isArrayOf_alike hK.2.alike h4, h5, h6, h7⟩
def o_aI (t : Nat) (Q : Cont AH) : Cont AH := fun L st σ => match st with
  | .int i :: .ref a :: st => (hT σ a = t ∨ hT σ a = t + 50) ∧ vp_in i (hL σ a) ∧ Q L (.int (hI σ a i.toNatClampNeg) :: st) σ
  | _ => False
def o_aG (t : Nat) (Q : Cont AH) : Cont AH := fun L st σ => match st with
  | .int i :: .ref a :: st => (hT σ a = t ∨ hT σ a = t + 50) ∧ vp_in i (hL σ a) ∧ Q L (.long (hG σ a i.toNatClampNeg) :: st) σ
  | _ => False
def o_aR (t : Nat) (Q : Cont AH) : Cont AH := fun L st σ => match st with
  | .int i :: .ref a :: st => (hT σ a = t ∨ hT σ a = t + 50) ∧ vp_in i (hL σ a) ∧ Q L (va_rf (hR σ a i.toNatClampNeg) :: st) σ
  | _ => False
def o_len (Q : Cont AH) : Cont AH := fun L st σ => match st with
  | .ref a :: st => ((100 ≤ hT σ a ∧ hT σ a < 108) ∨ (150 ≤ hT σ a ∧ hT σ a < 159)) ∧ Q L (.int (nI (hL σ a)) :: st) σ
  | _ => False
theorem si_iaload (hE : IsEnt (wC g) y cc nL ret fr lo ht Rt E X) (d : decode cc pc = .ok (.iaload, 1)) (kk : E Q (pc + 1)) : E (o_aI 100 Q) pc := by
  obtain ⟨p, l, e, R, s, m, args, below, meth, c, b0, hI_, -, hx, hb, hml, -, hown, hts, -, -, hKn, -, ⟨hR1, hR2, hR3, hR4⟩, -⟩ := hE
  rw [hI_] at kk ⊢
  have hK : KnC g s := hKn
  intro L st σ z H locs cells slots ls h1 h2 h3 h4 h5
  have h1 : RepC g σ H := h1
  unfold o_aI at z
  split at z
  · next i a st' =>
    obtain ⟨z1, hin, z⟩ := z
    obtain ⟨cell, c1, c2, c3, c4, c5⟩ := h1.arr hK (u := 0) (z1.imp (fun q => ⟨q, by decide⟩) (fun q => ⟨q, by decide⟩))
    have hlt : i.toNatClampNeg < hL σ a := Nat.not_le.mp fun q => hin (Or.inr q)
    exact W.iald hx hb c1 c2 c3 (by rw [c4]; exact hin) (c5 _ hlt) rfl rfl d (kk L _ σ z H locs cells slots ls h1 h2 h3 h4 h5)
  · exact z.elim
theorem si_laload (hE : IsEnt (wC g) y cc nL ret fr lo ht Rt E X) (d : decode cc pc = .ok (.laload, 1)) (kk : E Q (pc + 1)) : E (o_aG 101 Q) pc := by
  obtain ⟨p, l, e, R, s, m, args, below, meth, c, b0, hI_, -, hx, hb, hml, -, hown, hts, -, -, hKn, -, ⟨hR1, hR2, hR3, hR4⟩, -⟩ := hE
  rw [hI_] at kk ⊢
  have hK : KnC g s := hKn
  intro L st σ z H locs cells slots ls h1 h2 h3 h4 h5
  have h1 : RepC g σ H := h1
  unfold o_aG at z
  split at z
  · next i a st' =>
    obtain ⟨z1, hin, z⟩ := z
    obtain ⟨cell, c1, c2, c3, c4, c5⟩ := h1.arr hK (u := 1) (z1.imp (fun q => ⟨q, by decide⟩) (fun q => ⟨q, by decide⟩))
    have hlt : i.toNatClampNeg < hL σ a := Nat.not_le.mp fun q => hin (Or.inr q)
    exact W.lald hx hb c1 c2 c3 (by rw [c4]; exact hin) (c5 _ hlt) rfl rfl d (kk L _ σ z H locs cells slots ls h1 h2 h3 h4 h5)
  · exact z.elim
theorem si_baload (hE : IsEnt (wC g) y cc nL ret fr lo ht Rt E X) (d : decode cc pc = .ok (.baload, 1)) (kk : E Q (pc + 1)) : E (o_aI 102 Q) pc := by
  obtain ⟨p, l, e, R, s, m, args, below, meth, c, b0, hI_, -, hx, hb, hml, -, hown, hts, -, -, hKn, -, ⟨hR1, hR2, hR3, hR4⟩, -⟩ := hE
  rw [hI_] at kk ⊢
  have hK : KnC g s := hKn
  intro L st σ z H locs cells slots ls h1 h2 h3 h4 h5
  have h1 : RepC g σ H := h1
  unfold o_aI at z
  split at z
  · next i a st' =>
    obtain ⟨z1, hin, z⟩ := z
    obtain ⟨cell, c1, c2, c3, c4, c5⟩ := h1.arr hK (u := 2) (z1.imp (fun q => ⟨q, by decide⟩) (fun q => ⟨q, by decide⟩))
    have hlt : i.toNatClampNeg < hL σ a := Nat.not_le.mp fun q => hin (Or.inr q)
    exact W.bald hx hb c1 c2 c3 (by rw [c4]; exact hin) (c5 _ hlt) rfl rfl d (kk L _ σ z H locs cells slots ls h1 h2 h3 h4 h5)
  · exact z.elim
theorem si_zaload (hE : IsEnt (wC g) y cc nL ret fr lo ht Rt E X) (d : decode cc pc = .ok (.baload, 1)) (kk : E Q (pc + 1)) : E (o_aI 103 Q) pc := by
  obtain ⟨p, l, e, R, s, m, args, below, meth, c, b0, hI_, -, hx, hb, hml, -, hown, hts, -, -, hKn, -, ⟨hR1, hR2, hR3, hR4⟩, -⟩ := hE
  rw [hI_] at kk ⊢
  have hK : KnC g s := hKn
  intro L st σ z H locs cells slots ls h1 h2 h3 h4 h5
  have h1 : RepC g σ H := h1
  unfold o_aI at z
  split at z
  · next i a st' =>
    obtain ⟨z1, hin, z⟩ := z
    obtain ⟨cell, c1, c2, c3, c4, c5⟩ := h1.arr hK (u := 3) (z1.imp (fun q => ⟨q, by decide⟩) (fun q => ⟨q, by decide⟩))
    have hlt : i.toNatClampNeg < hL σ a := Nat.not_le.mp fun q => hin (Or.inr q)
    exact W.zald hx hb c1 c2 c3 (by rw [c4]; exact hin) (c5 _ hlt) rfl rfl d (kk L _ σ z H locs cells slots ls h1 h2 h3 h4 h5)
  · exact z.elim
theorem si_aaload4 (hE : IsEnt (wC g) y cc nL ret fr lo ht Rt E X) (d : decode cc pc = .ok (.aaload, 1)) (kk : E Q (pc + 1)) : E (o_aR 104 Q) pc := by
  obtain ⟨p, l, e, R, s, m, args, below, meth, c, b0, hI_, -, hx, hb, hml, -, hown, hts, -, -, hKn, -, ⟨hR1, hR2, hR3, hR4⟩, -⟩ := hE
  rw [hI_] at kk ⊢
  have hK : KnC g s := hKn
  intro L st σ z H locs cells slots ls h1 h2 h3 h4 h5
  have h1 : RepC g σ H := h1
  unfold o_aR at z
  split at z
  · next i a st' =>
    obtain ⟨z1, hin, z⟩ := z
    obtain ⟨cell, c1, c2, c3, c4, c5⟩ := h1.arr hK (u := 4) (z1.imp (fun q => ⟨q, by decide⟩) (fun q => ⟨q, by decide⟩))
    have hlt : i.toNatClampNeg < hL σ a := Nat.not_le.mp fun q => hin (Or.inr q)
    exact W.aald hx hb c1 c2 rfl c3 (by rw [c4]; exact hin) (c5 _ hlt) rfl rfl d (kk L _ σ z H locs cells slots ls h1 h2 h3 h4 h5)
  · exact z.elim
theorem si_aaload5 (hE : IsEnt (wC g) y cc nL ret fr lo ht Rt E X) (d : decode cc pc = .ok (.aaload, 1)) (kk : E Q (pc + 1)) : E (o_aR 105 Q) pc := by
  obtain ⟨p, l, e, R, s, m, args, below, meth, c, b0, hI_, -, hx, hb, hml, -, hown, hts, -, -, hKn, -, ⟨hR1, hR2, hR3, hR4⟩, -⟩ := hE
  rw [hI_] at kk ⊢
  have hK : KnC g s := hKn
  intro L st σ z H locs cells slots ls h1 h2 h3 h4 h5
  have h1 : RepC g σ H := h1
  unfold o_aR at z
  split at z
  · next i a st' =>
    obtain ⟨z1, hin, z⟩ := z
    obtain ⟨cell, c1, c2, c3, c4, c5⟩ := h1.arr hK (u := 5) (z1.imp (fun q => ⟨q, by decide⟩) (fun q => ⟨q, by decide⟩))
    have hlt : i.toNatClampNeg < hL σ a := Nat.not_le.mp fun q => hin (Or.inr q)
    exact W.aald hx hb c1 c2 rfl c3 (by rw [c4]; exact hin) (c5 _ hlt) rfl rfl d (kk L _ σ z H locs cells slots ls h1 h2 h3 h4 h5)
  · exact z.elim
theorem si_aaload6 (hE : IsEnt (wC g) y cc nL ret fr lo ht Rt E X) (d : decode cc pc = .ok (.aaload, 1)) (kk : E Q (pc + 1)) : E (o_aR 106 Q) pc := by
  obtain ⟨p, l, e, R, s, m, args, below, meth, c, b0, hI_, -, hx, hb, hml, -, hown, hts, -, -, hKn, -, ⟨hR1, hR2, hR3, hR4⟩, -⟩ := hE
  rw [hI_] at kk ⊢
  have hK : KnC g s := hKn
  intro L st σ z H locs cells slots ls h1 h2 h3 h4 h5
  have h1 : RepC g σ H := h1
  unfold o_aR at z
  split at z
  · next i a st' =>
    obtain ⟨z1, hin, z⟩ := z
    obtain ⟨cell, c1, c2, c3, c4, c5⟩ := h1.arr hK (u := 6) (z1.imp (fun q => ⟨q, by decide⟩) (fun q => ⟨q, by decide⟩))
    have hlt : i.toNatClampNeg < hL σ a := Nat.not_le.mp fun q => hin (Or.inr q)
    exact W.aald hx hb c1 c2 rfl c3 (by rw [c4]; exact hin) (c5 _ hlt) rfl rfl d (kk L _ σ z H locs cells slots ls h1 h2 h3 h4 h5)
  · exact z.elim
theorem si_aaload7 (hE : IsEnt (wC g) y cc nL ret fr lo ht Rt E X) (d : decode cc pc = .ok (.aaload, 1)) (kk : E Q (pc + 1)) : E (o_aR 107 Q) pc := by
  obtain ⟨p, l, e, R, s, m, args, below, meth, c, b0, hI_, -, hx, hb, hml, -, hown, hts, -, -, hKn, -, ⟨hR1, hR2, hR3, hR4⟩, -⟩ := hE
  rw [hI_] at kk ⊢
  have hK : KnC g s := hKn
  intro L st σ z H locs cells slots ls h1 h2 h3 h4 h5
  have h1 : RepC g σ H := h1
  unfold o_aR at z
  split at z
  · next i a st' =>
    obtain ⟨z1, hin, z⟩ := z
    obtain ⟨cell, c1, c2, c3, c4, c5⟩ := h1.arr hK (u := 7) (z1.imp (fun q => ⟨q, by decide⟩) (fun q => ⟨q, by decide⟩))
    have hlt : i.toNatClampNeg < hL σ a := Nat.not_le.mp fun q => hin (Or.inr q)
    exact W.aald hx hb c1 c2 rfl c3 (by rw [c4]; exact hin) (c5 _ hlt) rfl rfl d (kk L _ σ z H locs cells slots ls h1 h2 h3 h4 h5)
  · exact z.elim
def o_aR8 (Q : Cont AH) : Cont AH := fun L st σ => match st with
  | .int i :: .ref a :: st => hT σ a = 158 ∧ vp_in i (hL σ a) ∧ Q L (va_rf (hR σ a i.toNatClampNeg) :: st) σ
  | _ => False
theorem si_aaload8 (hE : IsEnt (wC g) y cc nL ret fr lo ht Rt E X) (d : decode cc pc = .ok (.aaload, 1)) (kk : E Q (pc + 1)) : E (o_aR8 Q) pc := by
  obtain ⟨p, l, e, R, s, m, args, below, meth, c, b0, hI_, -, hx, hb, hml, -, hown, hts, -, -, hKn, -, ⟨hR1, hR2, hR3, hR4⟩, -⟩ := hE
  rw [hI_] at kk ⊢
  have hK : KnC g s := hKn
  intro L st σ z H locs cells slots ls h1 h2 h3 h4 h5
  have h1 : RepC g σ H := h1
  unfold o_aR8 at z
  split at z
  · next i a st' =>
    obtain ⟨z1, hin, z⟩ := z
    obtain ⟨cell, c1, c2, c3, c4, c5⟩ := h1.arr hK (u := 8) (Or.inr ⟨z1, by decide⟩)
    have hlt : i.toNatClampNeg < hL σ a := Nat.not_le.mp fun q => hin (Or.inr q)
    exact W.aald hx hb c1 c2 rfl c3 (by rw [c4]; exact hin) (c5 _ hlt) rfl rfl d (kk L _ σ z H locs cells slots ls h1 h2 h3 h4 h5)
  · exact z.elim
theorem si_alen (hE : IsEnt (wC g) y cc nL ret fr lo ht Rt E X) (d : decode cc pc = .ok (.arraylength, 1)) (kk : E Q (pc + 1)) : E (o_len Q) pc := by
  obtain ⟨p, l, e, R, s, m, args, below, meth, c, b0, hI_, -, hx, hb, hml, -, hown, hts, -, -, hKn, -, ⟨hR1, hR2, hR3, hR4⟩, -⟩ := hE
  rw [hI_] at kk ⊢
  have hK : KnC g s := hKn
  intro L st σ z H locs cells slots ls h1 h2 h3 h4 h5
  have h1 : RepC g σ H := h1
  unfold o_len at z
  split at z
  · next a st' =>
    obtain ⟨z1, z⟩ := z
    have hu : ∃ u, (hT σ a = u + 100 ∧ u < 8) ∨ (hT σ a = u + 150 ∧ u < 9) := by
      rcases z1 with q | q
      · exact ⟨hT σ a - 100, Or.inl ⟨by omega, by omega⟩⟩
      · exact ⟨hT σ a - 150, Or.inr ⟨by omega, by omega⟩⟩
    obtain ⟨u, hu⟩ := hu
    obtain ⟨cell, c1, c2, c3, c4, c5⟩ := h1.arr hK hu
    exact W.alen hx hb c1 c2 (by rw [c4]; rfl) rfl rfl d (kk L _ σ z H locs cells slots ls h1 h2 h3 h4 h5)
  · exact z.elim
/-- after a store into an array -/
theorem RepC.ast {σ σ' : AH} {H H' : Heap} (h : RepC g σ H) {a u i : Nat} {v : Value} (htg : hT σ a = u + 100) (hu : u < 8) (e1 : H'[a]? = some ((arrV (g.2.2.2.2.1 u) (hL σ a) (aV u (hI σ a) (hG σ a) (hR σ a))).setSlot i v)) (e2 : H'.size = H.size) (e3 : ∀ q, q ≠ a → H'[q]? = H[q]?) (hN' : hN σ' = hN σ) (hT' : hT σ' = hT σ) (hL' : hL σ' = hL σ) (hv : ∀ b, b ≠ a → hI σ' b = hI σ b ∧ hG σ' b = hG σ b ∧ hR σ' b = hR σ b) (hV : ∀ j, updV (aV u (hI σ a) (hG σ a) (hR σ a)) i v j = aV u (hI σ' a) (hG σ' a) (hR σ' a) j) : RepC g σ' H' := by
  obtain ⟨hfr, -⟩ := (h.2.2.2.2 a).2.2.2.1 u htg hu
  refine h.one hfr hN' e2 hT' hL' hv e3 (h.lt (by omega)) ?_
  refine ⟨fun c hc9 hlt => by omega, fun q => by omega, fun q => by omega, fun u' hu' _ => ?_, fun u' hu' _ => by omega⟩
  have eu : u' = u := by omega
  subst eu
  refine ⟨hfr, ?_⟩
  rw [e1, arrV_store]
  congr 2
  funext j
  exact hV j
theorem own_app {locs : List Loc} {a i : Nat} (h2 : ∀ q ∈ locs, (wC g).2.2.1 q.base) (hfr : g.2.2.2.2.2 a) : ∀ q ∈ locs ++ [⟨a, i⟩], (wC g).2.2.1 q.base := by
  intro r hr
  rcases List.mem_append.mp hr with a9 | a9
  · exact h2 r a9
  · rw [List.mem_singleton] at a9
    rw [a9]
    exact hfr
theorem aI_val {σ : AH} {a i u : Nat} {x : Int32} (hu : u = 0 ∨ u = 2 ∨ u = 3) (j : Nat) : updV (aV u (hI σ a) (hG σ a) (hR σ a)) i (.int x) j = aV u (hI (hsI σ a i x) a) (hG (hsI σ a i x) a) (hR (hsI σ a i x) a) j := by
  have e1 : hI (hsI σ a i x) a j = if j = i then x else hI σ a j := by rw [(h_rw σ a i).1]; simp
  by_cases hj : j = i
  · subst hj
    rcases hu with rfl | rfl | rfl <;> simp [updV, aV, e1]
  · rcases hu with rfl | rfl | rfl <;> simp [updV, aV, e1, hj]
theorem aG_val {σ : AH} {a i : Nat} {x : Int64} (j : Nat) : updV (aV 1 (hI σ a) (hG σ a) (hR σ a)) i (.long x) j = aV 1 (hI (hsG σ a i x) a) (hG (hsG σ a i x) a) (hR (hsG σ a i x) a) j := by
  have e1 : hG (hsG σ a i x) a j = if j = i then x else hG σ a j := by show up2 _ _ _ _ _ _ = _; simp [up2]; rfl
  by_cases hj : j = i
  · subst hj
    simp [updV, aV, e1]
  · simp [updV, aV, e1, hj]
theorem aR_val {σ : AH} {a i u : Nat} {x : Option Nat} (hu : 4 ≤ u) (j : Nat) : updV (aV u (hI σ a) (hG σ a) (hR σ a)) i (va_rf x) j = aV u (hI (hsR σ a i x) a) (hG (hsR σ a i x) a) (hR (hsR σ a i x) a) j := by
  have e1 : hR (hsR σ a i x) a j = if j = i then x else hR σ a j := by show up2 _ _ _ _ _ _ = _; simp [up2]; rfl
  have e2 : ∀ fI fG fR, aV u fI fG fR j = va_rf (fR j) := by
    intro fI fG fR
    match u, hu with
    | n + 4, _ => rfl
  rw [e2]
  by_cases hj : j = i
  · subst hj
    simp [updV, e1]
  · simp only [updV, if_neg hj, e1, e2]
def o_sI (t : Nat) (Q : Cont AH) : Cont AH := fun L st σ => match st with
  | .int x :: .int i :: .ref a :: st => hT σ a = t ∧ vp_in i (hL σ a) ∧ Q L st (hsI σ a i.toNatClampNeg x)
  | _ => False
def o_sB (Q : Cont AH) : Cont AH := fun L st σ => match st with
  | .int x :: .int i :: .ref a :: st => hT σ a = 102 ∧ vp_in i (hL σ a) ∧ Q L st (hsI σ a i.toNatClampNeg x.toInt8.toInt32)
  | _ => False
def o_sZ (Q : Cont AH) : Cont AH := fun L st σ => match st with
  | .int x :: .int i :: .ref a :: st => hT σ a = 103 ∧ vp_in i (hL σ a) ∧ (x = 0 ∨ x = 1) ∧ Q L st (hsI σ a i.toNatClampNeg x)
  | _ => False
def o_sG (Q : Cont AH) : Cont AH := fun L st σ => match st with
  | .long x :: .int i :: .ref a :: st => hT σ a = 101 ∧ vp_in i (hL σ a) ∧ Q L st (hsG σ a i.toNatClampNeg x)
  | _ => False
theorem si_iastore (hE : IsEnt (wC g) y cc nL ret fr lo ht Rt E X) (d : decode cc pc = .ok (.iastore, 1)) (kk : E Q (pc + 1)) : E (o_sI 100 Q) pc := by
  obtain ⟨p, l, e, R, s, m, args, below, meth, c, b0, hI_, -, hx, hb, hml, -, hown, hts, -, -, hKn, -, ⟨hR1, hR2, hR3, hR4⟩, -⟩ := hE
  rw [hI_] at kk ⊢
  have hK : KnC g s := hKn
  intro L st σ z H locs cells slots ls h1 h2 h3 h4 h5
  have h1 : RepC g σ H := h1
  unfold o_sI at z
  split at z
  · next x i a st' =>
    obtain ⟨z1, hin, z⟩ := z
    obtain ⟨hfr, hcell⟩ := (h1.2.2.2.2 a).2.2.2.1 0 z1 (by decide)
    refine W.iast hx hb hcell ((hK.K.2 0 _ (cTys_get (by decide))).1 _ _) (fun q => by cases q) (by rw [arrV_size]; exact hin) rfl rfl d (fun H' e1 e2 e3 => ?_)
    refine kk L st' _ z H' _ cells slots ls (RepC.ast h1 z1 (by decide) e1 e2 e3 rfl rfl rfl off_I (fun j => aI_val (Or.inl rfl) j)) (own_app h2 hfr) h3 h4 h5
  · exact z.elim
theorem si_bastore (hE : IsEnt (wC g) y cc nL ret fr lo ht Rt E X) (d : decode cc pc = .ok (.bastore, 1)) (kk : E Q (pc + 1)) : E (o_sB Q) pc := by
  obtain ⟨p, l, e, R, s, m, args, below, meth, c, b0, hI_, -, hx, hb, hml, -, hown, hts, -, -, hKn, -, ⟨hR1, hR2, hR3, hR4⟩, -⟩ := hE
  rw [hI_] at kk ⊢
  have hK : KnC g s := hKn
  intro L st σ z H locs cells slots ls h1 h2 h3 h4 h5
  have h1 : RepC g σ H := h1
  unfold o_sB at z
  split at z
  · next x i a st' =>
    obtain ⟨z1, hin, z⟩ := z
    obtain ⟨hfr, hcell⟩ := (h1.2.2.2.2 a).2.2.2.1 2 z1 (by decide)
    refine W.bast hx hb hcell ((hK.K.2 2 _ (cTys_get (by decide))).1 _ _) (fun q => by cases q) (by rw [arrV_size]; exact hin) rfl rfl d (fun H' e1 e2 e3 => ?_)
    refine kk L st' _ z H' _ cells slots ls (RepC.ast h1 z1 (by decide) e1 e2 e3 rfl rfl rfl off_I (fun j => aI_val (Or.inr (Or.inl rfl)) j)) (own_app h2 hfr) h3 h4 h5
  · exact z.elim
theorem si_zastore (hE : IsEnt (wC g) y cc nL ret fr lo ht Rt E X) (d : decode cc pc = .ok (.bastore, 1)) (kk : E Q (pc + 1)) : E (o_sZ Q) pc := by
  obtain ⟨p, l, e, R, s, m, args, below, meth, c, b0, hI_, -, hx, hb, hml, -, hown, hts, -, -, hKn, -, ⟨hR1, hR2, hR3, hR4⟩, -⟩ := hE
  rw [hI_] at kk ⊢
  have hK : KnC g s := hKn
  intro L st σ z H locs cells slots ls h1 h2 h3 h4 h5
  have h1 : RepC g σ H := h1
  unfold o_sZ at z
  split at z
  · next x i a st' =>
    obtain ⟨z1, hin, h01, z⟩ := z
    obtain ⟨hfr, hcell⟩ := (h1.2.2.2.2 a).2.2.2.1 3 z1 (by decide)
    refine W.zast hx hb hcell ((hK.K.2 3 _ (cTys_get (by decide))).1 _ _) (fun q => by cases q) (by rw [arrV_size]; exact hin) rfl rfl d (fun H' e1 e2 e3 => ?_)
    have hnr : narrow .boolean (.int x) = .int x := by rcases h01 with q | q <;> rw [q] <;> rfl
    rw [hnr] at e1
    refine kk L st' _ z H' _ cells slots ls (RepC.ast h1 z1 (by decide) e1 e2 e3 rfl rfl rfl off_I (fun j => aI_val (Or.inr (Or.inr rfl)) j)) (own_app h2 hfr) h3 h4 h5
  · exact z.elim
theorem si_lastore (hE : IsEnt (wC g) y cc nL ret fr lo ht Rt E X) (d : decode cc pc = .ok (.lastore, 1)) (kk : E Q (pc + 1)) : E (o_sG Q) pc := by
  obtain ⟨p, l, e, R, s, m, args, below, meth, c, b0, hI_, -, hx, hb, hml, -, hown, hts, -, -, hKn, -, ⟨hR1, hR2, hR3, hR4⟩, -⟩ := hE
  rw [hI_] at kk ⊢
  have hK : KnC g s := hKn
  intro L st σ z H locs cells slots ls h1 h2 h3 h4 h5
  have h1 : RepC g σ H := h1
  unfold o_sG at z
  split at z
  · next x i a st' =>
    obtain ⟨z1, hin, z⟩ := z
    obtain ⟨hfr, hcell⟩ := (h1.2.2.2.2 a).2.2.2.1 1 z1 (by decide)
    refine W.last hx hb hcell ((hK.K.2 1 _ (cTys_get (by decide))).1 _ _) (fun q => by cases q) (by rw [arrV_size]; exact hin) rfl rfl d (fun H' e1 e2 e3 => ?_)
    refine kk L st' _ z H' _ cells slots ls (RepC.ast h1 z1 (by decide) e1 e2 e3 rfl rfl rfl off_G (fun j => aG_val j)) (own_app h2 hfr) h3 h4 h5
  · exact z.elim
end AR
