/-! THE COMPONENT's WORLD: Math; exceptions that are caught (gen/arows7.py) -/
set_option maxRecDepth 100000
section AR7
variable {g : GC} {y : MethodName} {cc : ByteArray} {nL : Nat} {ret : Option FieldType} {fr lo : Nat} {ht : HT} {Rt : Ret AH} {E : Cont AH → Nat → Prop} {X : (Lc → Nat → AH → Prop) → Nat → Prop} {pc : Nat} {Q J : Cont AH}
def o_mmax (Q : Cont AH) : Cont AH := fun L st σ => match st with
  | .int b :: .int a :: st => st.length ≤ 4 ∧ Q L (.int (if a < b then b else a) :: st) σ
  | _ => False
theorem si_mmax (hE : IsEnt (wC g) y cc nL ret fr lo ht Rt E X) {idx : Nat} (d : decode cc pc = .ok (.invokestatic idx, 3)) (hl : Cond.methodLink y.cls idx Lib.Math.max.name ∈ lw_all) (hst : Cond.static Lib.Math.max.name ∈ lw_all) (hini : Cond.initialized "java/lang/Math" ∈ lw_all) (hco : Cond.code Lib.Math.max.name Lib.Math.max.code 2 (some .int) ∈ lw_all) (hfr : 1 ≤ fr) (hlo : 21 ≤ lo) (kk : E Q (pc + 3)) : E (o_mmax Q) pc := by
  obtain ⟨p, l, e, R, s, m, args, below, meth, c, b0, hI_, -, hx, hb, hml, -, hown, hts, -, -, hKn, -, ⟨hR1, hR2, hR3, hR4⟩, -⟩ := hE
  rw [hI_] at kk ⊢
  have hK : KnC g s := hKn
  intro L st σ z H locs cells slots ls h1 h2 h3 h4 h5
  have h1 : RepC g σ H := h1
  have h3 : cells + hC σ ≤ b0.1 := h3
  have h4 : slots + hS σ ≤ b0.2 := h4
  unfold o_mmax at z
  split at z
  · next b a st' =>
    obtain ⟨z1, z⟩ := z
    have hcat := cat_sum st'
    exact va_mmax hx hb (by rw [hml]; exact h5.1.symm) hown (hts _ hl) (hts _ hst) (hts _ hini) (hts _ hco) (by omega) (by omega) (by omega) (by omega) d (kk L _ σ z H locs cells slots ls h1 h2 h3 h4 h5)
  · exact z.elim
def o_mmin (Q : Cont AH) : Cont AH := fun L st σ => match st with
  | .int b :: .int a :: st => st.length ≤ 4 ∧ Q L (.int (if b < a then b else a) :: st) σ
  | _ => False
theorem si_mmin (hE : IsEnt (wC g) y cc nL ret fr lo ht Rt E X) {idx : Nat} (d : decode cc pc = .ok (.invokestatic idx, 3)) (hl : Cond.methodLink y.cls idx Lib.Math.min.name ∈ lw_all) (hst : Cond.static Lib.Math.min.name ∈ lw_all) (hini : Cond.initialized "java/lang/Math" ∈ lw_all) (hco : Cond.code Lib.Math.min.name Lib.Math.min.code 2 (some .int) ∈ lw_all) (hfr : 1 ≤ fr) (hlo : 21 ≤ lo) (kk : E Q (pc + 3)) : E (o_mmin Q) pc := by
  obtain ⟨p, l, e, R, s, m, args, below, meth, c, b0, hI_, -, hx, hb, hml, -, hown, hts, -, -, hKn, -, ⟨hR1, hR2, hR3, hR4⟩, -⟩ := hE
  rw [hI_] at kk ⊢
  have hK : KnC g s := hKn
  intro L st σ z H locs cells slots ls h1 h2 h3 h4 h5
  have h1 : RepC g σ H := h1
  have h3 : cells + hC σ ≤ b0.1 := h3
  have h4 : slots + hS σ ≤ b0.2 := h4
  unfold o_mmin at z
  split at z
  · next b a st' =>
    obtain ⟨z1, z⟩ := z
    have hcat := cat_sum st'
    exact va_mmin hx hb (by rw [hml]; exact h5.1.symm) hown (hts _ hl) (hts _ hst) (hts _ hini) (hts _ hco) (by omega) (by omega) (by omega) (by omega) d (kk L _ σ z H locs cells slots ls h1 h2 h3 h4 h5)
  · exact z.elim
def o_mabs (Q : Cont AH) : Cont AH := fun L st σ => match st with
  | .int a :: st => st.length ≤ 4 ∧ Q L (.int (if 0 ≤ a then a else 0 - a) :: st) σ
  | _ => False
theorem si_mabs (hE : IsEnt (wC g) y cc nL ret fr lo ht Rt E X) {idx : Nat} (d : decode cc pc = .ok (.invokestatic idx, 3)) (hl : Cond.methodLink y.cls idx Lib.Math.abs.name ∈ lw_all) (hst : Cond.static Lib.Math.abs.name ∈ lw_all) (hini : Cond.initialized "java/lang/Math" ∈ lw_all) (hco : Cond.code Lib.Math.abs.name Lib.Math.abs.code 1 (some .int) ∈ lw_all) (hfr : 1 ≤ fr) (hlo : 21 ≤ lo) (kk : E Q (pc + 3)) : E (o_mabs Q) pc := by
  obtain ⟨p, l, e, R, s, m, args, below, meth, c, b0, hI_, -, hx, hb, hml, -, hown, hts, -, -, hKn, -, ⟨hR1, hR2, hR3, hR4⟩, -⟩ := hE
  rw [hI_] at kk ⊢
  have hK : KnC g s := hKn
  intro L st σ z H locs cells slots ls h1 h2 h3 h4 h5
  have h1 : RepC g σ H := h1
  have h3 : cells + hC σ ≤ b0.1 := h3
  have h4 : slots + hS σ ≤ b0.2 := h4
  unfold o_mabs at z
  split at z
  · next a st' =>
    obtain ⟨z1, z⟩ := z
    have hcat := cat_sum st'
    exact va_mabs hx hb (by rw [hml]; exact h5.1.symm) hown (hts _ hl) (hts _ hst) (hts _ hini) (hts _ hco) (by omega) (by omega) (by omega) (by omega) d (kk L _ σ z H locs cells slots ls h1 h2 h3 h4 h5)
  · exact z.elim
end AR7
/-! a handler whose class may be resolved now for the first time -/
theorem go_cold {Q : Handler → Pre} {E : CtlPost} {e : Env} {d : Bool} {acts : List Action} {s : State} {f : JFrame} {a : Addr} {x : ExceptionTableEntry} {t : List ExceptionTableEntry} {c : ClassId} {cell : Cell} {vm' : Vm} (hx : covers x f.pc = true) (h0 : x.catchType ≠ 0)
    (hg : (VmOp.resolveClass f.method.cls x.catchType).answer e s.vm = .ok c ∧ (VmOp.resolveClass f.method.cls x.catchType).tables e s.vm = vm') (hsz : vm'.classes.size ≤ s.vm.classes.size) (hcell : s.heap[a]? = some cell) (hobj : ∀ k, cell.vm ≠ .statics k)
    (hk : ∃ k, vm'.classes[cell.cls]? = some k) (hc : ∃ k, vm'.classes[c]? = some k) (hfit : vm'.assignable cell.cls c = true) :
    wp (findHandler.go f a (x :: t)) Q E e d acts s ↔ Q (.found x.handlerPc) d acts (s.setVm vm') := by
  simp only [covers] at hx
  simp [findHandler.go, hx, h0, hg, hcell, hobj, hk, hc, hfit, VmOp.dirties, VmOp.acts, VmOp.lands_eq hg.2 hsz]
/-- the first row of the table that covers pc -/
def hsel : HT → Nat → Option (Nat × Nat)
  | [], _ => none
  | x :: r, pc => if x.1 ≤ pc ∧ pc < x.2.1 then some (x.2.2.1, x.2.2.2) else hsel r pc
theorem go_sel {e : Env} {s : State} {f : JFrame} {a : Addr} {c : ClassId} {cell : Cell} {vm' : Vm} {tgt idx : Nat} (h0 : idx ≠ 0)
    (hg : (VmOp.resolveClass f.method.cls idx).answer e s.vm = .ok c ∧ (VmOp.resolveClass f.method.cls idx).tables e s.vm = vm') (hsz : vm'.classes.size ≤ s.vm.classes.size) (hcell : s.heap[a]? = some cell) (hobj : ∀ k, cell.vm ≠ .statics k)
    (hk : ∃ k, vm'.classes[cell.cls]? = some k) (hc : ∃ k, vm'.classes[c]? = some k) (hfit : vm'.assignable cell.cls c = true) : ∀ (l : List ExceptionTableEntry), hsel (l.map (fun x => (x.startPc, x.endPc, x.handlerPc, x.catchType))) f.pc = some (tgt, idx) → ∀ (Q : Handler → Pre) (E : CtlPost) (d : Bool) (acts : List Action), wp (findHandler.go f a l) Q E e d acts s ↔ Q (.found tgt) d acts (s.setVm vm')
  | [], h => by cases h
  | x :: l, h => by
    intro Q E d acts
    simp only [List.map_cons, hsel] at h
    split at h
    · next hcv =>
      cases h
      exact go_cold (by simp [covers, hcv]) h0 hg hsz hcell hobj hk hc hfit
    · next hcv =>
      rw [W.findHandler_go_skip (by simp [covers]; omega)]
      exact go_sel h0 hg hsz hcell hobj hk hc hfit l h Q E d acts
theorem step_cold {e : Env} {s s' : State} {a : Addr} {f : JFrame} {r : List Frame} {pc : Nat} (hfind : ∀ (Q : Handler → Pre) (E : CtlPost) (d : Bool) (acts : List Action), wp (findHandler f a) Q E e d acts s ↔ Q (.found pc) d acts s') :
    (stepThrowing e s a (.java f :: r)).1 = s'.setFrames (.java { f with pc := pc, stack := [.ref a] } :: r) := by
  simp only [stepThrowing, searchFrame, vmDo]
  generalize hr : Sem.go _ e false [] s = res
  obtain ⟨as, rfl, ha⟩ := Sem.eq_ok_of hr (a := Handler.found pc) (s' := s') (acts' := []) (by simp [hfind _ _ _ _])
  rfl
theorem caught_cold {tb : Tables} {e : Env} {s target : State} {f : JFrame} {c : Code} {below : List Frame} {a : Addr} {vm' : Vm} (h : At s f.method c below) {pc : Nat}
    (hfind : ∀ (Q : Handler → Pre) (E : CtlPost) (d : Bool) (acts : List Action), wp (findHandler f a) Q E e d acts ((s.setTop f).pushFrame (.throwing a)) ↔ Q (.found pc) d acts (((s.setTop f).pushFrame (.throwing a)).setVm vm'))
    (hrest : Steps tb e below ((s.setVm vm').setTop { f with pc := pc, stack := [.ref a] }) target) : Steps tb e below ((s.setTop f).pushFrame (.throwing a)) target := by
  obtain ⟨hgo, hw⟩ := h.throwing a
  refine Steps.head hgo hw ?_
  rw [stepThread_throwing (frames_entered h.top _), step_cold hfind]
  obtain ⟨g₀, hg⟩ := Option.isSome_iff_exists.mp h.top
  obtain ⟨r, hr⟩ := State.topJava?_eq_some.mp hg
  have hr' : (s.setVm vm').frames = .java g₀ :: r := hr
  rw [State.setTop_of_frames _ hr'] at hrest
  have e1 : (((s.setTop f).pushFrame (.throwing a)).setVm vm').setFrames (.java { f with pc := pc, stack := [.ref a] } :: s.frames.tail) = (s.setVm vm').setFrames (.java { f with pc := pc, stack := [.ref a] } :: r) := by
    rw [hr]
    show ((((s.setTop f).pushFrame (.throwing a))).setFrames (.java { f with pc := pc, stack := [.ref a] } :: r)).setVm vm' = (s.setFrames (.java { f with pc := pc, stack := [.ref a] } :: r)).setVm vm'
    rw [State.pushFrame, State.setFrames_setFrames, State.setTop_of_frames _ hr, State.setFrames_setFrames]
  rw [e1]
  exact hrest
/-- an object of the class CN, caught by the first row that covers pc -/
theorem si_catch {g : GC} {y : MethodName} {cc : ByteArray} {nL : Nat} {ret : Option FieldType} {fr lo : Nat} {ht : HT} {Rt : Ret AH} {E : Cont AH → Nat → Prop} {X : (Lc → Nat → AH → Prop) → Nat → Prop} {pc : Nat} {QH : Cont AH} (hE : IsEnt (wC g) y cc nL ret fr lo ht Rt E X) {tgt idx cn : Nat} {CN : String} {T9 : u_T} {N : Nat} {ty : Nat → FieldType} (hs : hsel ht pc = some (tgt, idx)) (h0 : idx ≠ 0) (hcl : Cond.classLink y.cls idx CN ∈ lw_all) (hc : ClsOK cn CN T9 N ty) (kk : E QH tgt) : X (fun L a σ => hT σ a = cn + 1 ∧ QH L [.ref a] σ) pc := by
  obtain ⟨p, l, e, R, s, m, args, below, meth, c, b0, hI_, hXI, hx, hb, hml, -, hown, hts, -, -, hKn, -, -, htab, hm0, hco0⟩ := hE
  rw [hXI]
  rw [hI_] at kk
  have hK : KnC g s := hKn
  intro L a σ z H locs cells slots ls st T h1 h2 h3 h4 h5 hT9 Y
  obtain ⟨z1, z⟩ := z
  have h1 : RepC g σ H := h1
  obtain ⟨-, cell, g1, g2, g3, -⟩ := (h1.2.2.2.2 a).1 cn z1 hc.1
  have hpl : e.platform.magicAccessors = ({} : Platform).magicAccessors := by rw [Y.admits.platform]
  obtain ⟨c', hc', hcl9⟩ := Cond.classLink_spec hown (hts _ hcl) e.platform hpl
  have hcc : c' = g.2.2.1 cn := Option.some.inj (hc'.symm.trans ((hK.K).1 cn _ hc.2.1).2.1)
  obtain ⟨dk, _, _, kt, hd, _, _, _, _, hkt, _, hopen⟩ := hcl9.here
  have hcl₀ := Y.warmed.classLinks hcl9
  have hW' : s.WarmedH (T.vm.noted m.cls idx (.cls c')) := Y.warmed.noted hd hopen (State.rightAt_cls hcl9)
  obtain ⟨kt', hkt', -⟩ := hW'.alike.2.2 _ _ hkt
  have hcls : cell.cls = c' := by rw [g2, hcc]
  have hop := (resolveClass_links e.toSetting hcl₀).op (op := VmOp.resolveClass m.cls idx) rfl
  have Y' := Y.noted hW'
  obtain ⟨t, b1, b2⟩ := kk L [.ref a] σ z H locs cells slots ls h1 h2 h3 h4 h5 (T.setVm (T.vm.noted m.cls idx (.cls c'))) hT9 Y'
  refine ⟨t, ?_, b2⟩
  refine caught_cold (c := c) (f := F0 m pc ls st) (vm' := T.vm.noted m.cls idx (.cls c')) Y.here (pc := tgt) ?_ b1
  intro Q9 E9 d9 acts9
  have hvm9 : ((T.setTop (F0 m pc ls st)).pushFrame (.throwing a)).vm = T.vm := Stand.throwing_vm T _ a
  have hheap9 : ((T.setTop (F0 m pc ls st)).pushFrame (.throwing a)).heap = T.heap := Stand.throwing_heap T _ a
  rw [W.findHandler_eq (meth := meth) (code := c) (by rw [hvm9]; exact Y.method') Y.code]
  refine go_sel (c := c') (cell := cell) (idx := idx) h0 (by rw [hvm9]; exact hop) (by rw [hvm9]; simp [Vm.size_noted]) (by rw [hheap9, hT9]; exact g1) (fun k h => by rw [g3] at h; cases h) ⟨kt', by rw [hcls]; exact hkt'⟩ ⟨kt', hkt'⟩ (by rw [hcls]; show Vm.assignableAux _ (255 + 1) c' c' = true; rw [Vm.assignableAux, beq_self_eq_true, Bool.true_or]) c.exceptionTable.toList (by rw [htab]; exact hs) Q9 E9 d9 acts9

