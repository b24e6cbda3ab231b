/-! FOUNDATION: continuations over a world, entailment by the machine, one op an instruction -/
set_option maxRecDepth 100000
abbrev Lc : Type := List (Option Value)
abbrev Cont (S : Type) : Type := Lc → List Value → S → Prop
abbrev Res : Type := Option Value ⊕ Nat
abbrev Ret (S : Type) : Type := Res → S → Prop
abbrev PT (S : Type) : Type := List Value → S → Ret S → Prop
def outc (r : Res) : Outcome := match r with
  | .inl v => .returned v
  | .inr a => .threw a
/-- a world: the picture of the heap; the room left (cells, slots); the cells that may be written; what is known of the tables -/
abbrev Wd (S : Type) : Type := (S → Heap → Prop) × (S → Nat × Nat) × (Nat → Prop) × (State → Prop)
def lrep (ls : Array Slot) (nL : Nat) (L : Lc) : Prop := ls.size = nL ∧ lv_wf ls ∧ ∀ (i : Nat) (v : Value), L[i]? = some (some v) → ls[i]? = some (.val v)
def EndQ {S : Type} (w : Wd S) (b0 : Nat × Nat) (Q : Ret S) (st : State) (o : Outcome) (t : State) : Prop :=
  ∃ (r : Res) (σ : S), Q r σ ∧ o = outc r ∧ w.1 σ t.heap ∧ st.WarmedH t.vm ∧ ∃ (L : List Loc) (k n : Nat), st.sameButNew ({ t with vm := st.vm } : State) L k n ∧ (∀ q ∈ L, w.2.2.1 q.base) ∧ k + (w.2.1 σ).1 ≤ b0.1 ∧ n + (w.2.1 σ).2 ≤ b0.2
def EQ_ {S : Type} (w : Wd S) (b0 : Nat × Nat) (Q : Ret S) (s : State) (below : List Frame) : State → Prop := fun t => ∃ o, t.status = .running ∧ Ended t below o ∧ EndQ w b0 Q s o t
/-- the machine at pc, for every heap that the world's picture describes -/
def AtP {S : Type} (w : Wd S) (p : Program) (l : Launch) (e : Env) (R : Room) (s : State) (m : MethodId) (args : Array Value) (below : List Frame) (meth : Method) (c : Code) (b0 : Nat × Nat) (Rt : Ret S) (nL pc : Nat) : Cont S := fun L st σ =>
  ∀ (H : Heap) (locs : List Loc) (cells slots : Nat) (ls : Array Slot), w.1 σ H → (∀ q ∈ locs, w.2.2.1 q.base) → cells + (w.2.1 σ).1 ≤ b0.1 → slots + (w.2.1 σ).2 ≤ b0.2 → lrep ls nL L →
    W p l e R s m args below meth c H locs cells slots (EQ_ w b0 Rt s below) (F0 m pc ls st)
/-- the machine at pc with an exception on its way -/
def ThP {S : Type} (w : Wd S) (p : Program) (l : Launch) (e : Env) (R : Room) (s : State) (m : MethodId) (args : Array Value) (below : List Frame) (meth : Method) (c : Code) (b0 : Nat × Nat) (Rt : Ret S) (nL pc : Nat) : Lc → Nat → S → Prop := fun L a σ =>
  ∀ (H : Heap) (locs : List Loc) (cells slots : Nat) (ls : Array Slot) (st : List Value) (T : State), w.1 σ H → (∀ q ∈ locs, w.2.2.1 q.base) → cells + (w.2.1 σ).1 ≤ b0.1 → slots + (w.2.1 σ).2 ≤ b0.2 → lrep ls nL L → T.heap = H →
    Stand p l e R s m args below meth c T locs cells slots → ∃ t, Steps p.tables e below ((T.setTop (F0 m pc ls st)).pushFrame (.throwing a)) t ∧ EQ_ w b0 Rt s below t
abbrev HT : Type := List (Nat × Nat × Nat × Nat)
def IsEnt {S : Type} (w : Wd S) (y : MethodName) (cc : ByteArray) (nL : Nat) (ret : Option FieldType) (fr lo : Nat) (ht : HT) (Rt : Ret S) (E : Cont S → Nat → Prop) (X : (Lc → Nat → S → Prop) → Nat → Prop) : Prop :=
  ∃ (p : Program) (l : Launch) (e : Env) (R : Room) (s : State) (m : MethodId) (args : Array Value) (below : List Frame) (meth : Method) (c : Code) (b0 : Nat × Nat),
    (∀ C pc, E C pc ↔ ∀ L st σ, C L st σ → AtP w p l e R s m args below meth c b0 Rt nL pc L st σ) ∧
    (∀ C pc, X C pc ↔ ∀ L a σ, C L a σ → ThP w p l e R s m args below meth c b0 Rt nL pc L a σ) ∧
    p.tables.exec = Jvm.exec ∧ c.code = cc ∧ c.maxLocals = nL ∧ meth.sig.returnType = ret ∧ s.vm.findClass y.cls = some m.cls ∧ (∀ wd ∈ lw_all, wd.before args s = true) ∧ meth.locks = false ∧ meth.name = y.name ∧ w.2.2.2 s ∧
    (∀ U : State, s.WarmedH U.vm → w.2.2.2 U) ∧ (R.frames = fr ∧ R.locals = lo ∧ R.cells = b0.1 ∧ R.slots = b0.2) ∧ c.exceptionTable.toList.map (fun x => (x.startPc, x.endPc, x.handlerPc, x.catchType)) = ht ∧ s.vm.method? m = some meth ∧ meth.code = some c
/-- a contract by a predicate transformer -/
def CT {S : Type} (w : Wd S) (y : MethodName) (wd : Cond) (fr lo : Nat) (pt : PT S) : Prop :=
  ∀ (l : Launch) (as : List Value) (σ : S) (Q : Ret S), pt as σ Q → MetFree l y (headSpec (wd :: lw_all) ({ frames := fr, cells := (w.2.1 σ).1, slots := (w.2.1 σ).2, locals := lo } : Room)) (fun v U => v = as.toArray ∧ w.2.2.2 U ∧ w.1 σ U.heap) (fun _ _ _ _ _ => True) (fun _ st o t => EndQ w (w.2.1 σ) Q st o t)
/-- what a world must have: its knowledge outlives calls and warmer tables -/
def WdOK {S : Type} (w : Wd S) : Prop := (∀ s U : State, s.WarmedH U.vm → w.2.2.2 s → w.2.2.2 U) ∧ (∀ (U : State) (g : JFrame) (mk : MethodId) (a : Array Value), w.2.2.2 U → w.2.2.2 (U.calling g mk a))
/-- a method's locals at its entry -/
def entP : Nat → List Value → Lc
  | n, [] => List.replicate n none
  | n, .long x :: vs => some (.long x) :: none :: entP (n - 2) vs
  | n, .double x :: vs => some (.double x) :: none :: entP (n - 2) vs
  | n, v :: vs => some v :: entP (n - 1) vs
def fixC {S : Type} (F : Cont S → Cont S) : Cont S := fun L st σ => ∀ X : Cont S, (∀ L st σ, F X L st σ → X L st σ) → X L st σ
section FND
variable {S : Type} {w : Wd S} {y : MethodName} {cc : ByteArray} {nL : Nat} {ret : Option FieldType} {fr lo : Nat} {ht : HT} {Rt : Ret S} {E : Cont S → Nat → Prop} {X : (Lc → Nat → S → Prop) → Nat → Prop} {pc : Nat} {Q J : Cont S}
theorem si_fix (hE : IsEnt w y cc nL ret fr lo ht Rt E X) {F : Cont S → Cont S} (k : ∀ J, E J pc → E (F J) pc) : E (fixC F) pc := by
  obtain ⟨p, l, e, R, s, m, args, below, meth, c, b0, hI, -⟩ := hE
  rw [hI]
  intro L st σ h
  refine h (AtP w p l e R s m args below meth c b0 Rt nL pc) (fun L st σ h2 => ?_)
  exact (hI _ _).mp (k _ ((hI _ _).mpr fun _ _ _ z => z)) L st σ h2
theorem si_weak (hE : IsEnt w y cc nL ret fr lo ht Rt E X) {C : Cont S} (h : ∀ L st σ, C L st σ → Q L st σ) (k : E Q pc) : E C pc := by
  obtain ⟨p, l, e, R, s, m, args, below, meth, c, b0, hI, -⟩ := hE
  rw [hI] at k ⊢
  exact fun L st σ z => k L st σ (h L st σ z)
/-- a step that moves the stack alone -/
theorem si_st (hE : IsEnt w y cc nL ret fr lo ht Rt E X) {C : Cont S} {pc' : Nat} (h : ∀ (L : Lc) (st : List Value) (σ : S), C L st σ → ∃ st', Q L st' σ ∧
      ∀ (p : Program) (l : Launch) (e : Env) (R : Room) (s : State) (m : MethodId) (args : Array Value) (below : List Frame) (meth : Method) (c : Code) (H : Heap) (locs : List Loc) (cells slots : Nat) (Z : State → Prop) (ls : Array Slot),
      p.tables.exec = Jvm.exec → c.code = cc → lrep ls nL L → s.vm.findClass y.cls = some m.cls → (∀ wd ∈ lw_all, wd.before args s = true) → W p l e R s m args below meth c H locs cells slots Z (F0 m pc' ls st') → W p l e R s m args below meth c H locs cells slots Z (F0 m pc ls st))
    (k : E Q pc') : E C pc := by
  obtain ⟨p, l, e, R, s, m, args, below, meth, c, b0, hI, -, hx, hb, -, -, hown, hts, -⟩ := hE
  rw [hI] at k ⊢
  intro L st σ z H locs cells slots ls h1 h2 h3 h4 h5
  obtain ⟨st', q, r⟩ := h L st σ z
  exact r p l e R s m args below meth c H locs cells slots _ ls hx hb h5 hown hts (k L st' σ q H locs cells slots ls h1 h2 h3 h4 h5)
/-- a branch -/
theorem si_br (hE : IsEnt w y cc nL ret fr lo ht Rt E X) {C : Cont S} {pc' tgt : Nat} (h : ∀ (L : Lc) (st : List Value) (σ : S), C L st σ → ∃ (st' : List Value) (P : Prop), (P → J L st' σ) ∧ (¬ P → Q L st' σ) ∧
      ∀ (p : Program) (l : Launch) (e : Env) (R : Room) (s : State) (m : MethodId) (args : Array Value) (below : List Frame) (meth : Method) (c : Code) (H : Heap) (locs : List Loc) (cells slots : Nat) (Z : State → Prop) (ls : Array Slot),
      p.tables.exec = Jvm.exec → c.code = cc → (P → W p l e R s m args below meth c H locs cells slots Z (F0 m tgt ls st')) → (¬ P → W p l e R s m args below meth c H locs cells slots Z (F0 m pc' ls st')) → W p l e R s m args below meth c H locs cells slots Z (F0 m pc ls st))
    (j : E J tgt) (k : E Q pc') : E C pc := by
  obtain ⟨p, l, e, R, s, m, args, below, meth, c, b0, hI, -, hx, hb, -⟩ := hE
  rw [hI] at k j ⊢
  intro L st σ z H locs cells slots ls h1 h2 h3 h4 h5
  obtain ⟨st', P, q1, q2, r⟩ := h L st σ z
  exact r p l e R s m args below meth c H locs cells slots _ ls hx hb (fun a => j L st' σ (q1 a) H locs cells slots ls h1 h2 h3 h4 h5) (fun a => k L st' σ (q2 a) H locs cells slots ls h1 h2 h3 h4 h5)

def o_ic (v : Int32) (Q : Cont S) : Cont S := fun L st σ => Q L (.int v :: st) σ
def o_lc (v : Int64) (Q : Cont S) : Cont S := fun L st σ => Q L (.long v :: st) σ
def o_null (Q : Cont S) : Cont S := fun L st σ => Q L (.null :: st) σ
theorem si_iconst (hE : IsEnt w y cc nL ret fr lo ht Rt E X) {n : Int} {v : Int32} (d : decode cc pc = .ok (.iconst n, 1)) (hv : Int32.ofInt n = v) (k : E Q (pc + 1)) : E (o_ic v Q) pc := si_st (Q := Q) (pc' := pc + 1) hE (fun L st σ z => ⟨_, z, fun p l e R s m args below meth c H locs cells slots Z ls hx hb _ _ _ kk => lv_iconst hx hb d hv kk⟩) k
theorem si_bipush (hE : IsEnt w y cc nL ret fr lo ht Rt E X) {n : Int} {v : Int32} (d : decode cc pc = .ok (.bipush n, 2)) (hv : (Int8.ofInt n).toInt32 = v) (k : E Q (pc + 2)) : E (o_ic v Q) pc := si_st (Q := Q) (pc' := pc + 2) hE (fun L st σ z => ⟨_, z, fun p l e R s m args below meth c H locs cells slots Z ls hx hb _ _ _ kk => lv_bipush hx hb d hv kk⟩) k
theorem si_sipush (hE : IsEnt w y cc nL ret fr lo ht Rt E X) {n : Int} {v : Int32} (d : decode cc pc = .ok (.sipush n, 3)) (hv : (Int16.ofInt n).toInt32 = v) (k : E Q (pc + 3)) : E (o_ic v Q) pc := si_st (Q := Q) (pc' := pc + 3) hE (fun L st σ z => ⟨_, z, fun p l e R s m args below meth c H locs cells slots Z ls hx hb _ _ _ kk => lv_sipush hx hb d hv kk⟩) k
theorem si_lconst (hE : IsEnt w y cc nL ret fr lo ht Rt E X) {n : Fin 2} {v : Int64} (d : decode cc pc = .ok (.lconst n, 1)) (hv : Int64.ofNat (n : Nat) = v) (k : E Q (pc + 1)) : E (o_lc v Q) pc := si_st (Q := Q) (pc' := pc + 1) hE (fun L st σ z => ⟨_, z, fun p l e R s m args below meth c H locs cells slots Z ls hx hb _ _ _ kk => lv_lconst hx hb d hv kk⟩) k
theorem si_ldc (hE : IsEnt w y cc nL ret fr lo ht Rt E X) {index : Nat} {v : Int32} (d : decode cc pc = .ok (.ldc index, 2)) (hv : Cond.constant y.cls index v ∈ lw_all) (k : E Q (pc + 2)) : E (o_ic v Q) pc := si_st (Q := Q) (pc' := pc + 2) hE (fun L st σ z => ⟨_, z, fun p l e R s m args below meth c H locs cells slots Z ls hx hb _ ho hts kk => lv_ldc hx hb ho (hts _ hv) d kk⟩) k
theorem si_ldc2 (hE : IsEnt w y cc nL ret fr lo ht Rt E X) {index : Nat} {v : Int64} (d : decode cc pc = .ok (.ldc2_w index, 3)) (hv : Cond.constantLong y.cls index v ∈ lw_all) (k : E Q (pc + 3)) : E (o_lc v Q) pc := si_st (Q := Q) (pc' := pc + 3) hE (fun L st σ z => ⟨_, z, fun p l e R s m args below meth c H locs cells slots Z ls hx hb _ ho hts kk => lv_ldc2 hx hb ho (hts _ hv) d kk⟩) k
theorem si_null (hE : IsEnt w y cc nL ret fr lo ht Rt E X) (d : decode cc pc = .ok (.aconst_null, 1)) (k : E Q (pc + 1)) : E (o_null Q) pc := si_st (Q := Q) (pc' := pc + 1) hE (fun L st σ z => ⟨_, z, fun p l e R s m args below meth c H locs cells slots Z ls hx hb _ _ _ kk => lv_null hx hb d kk⟩) k
def o_il (i : Nat) (Q : Cont S) : Cont S := fun L st σ => match L[i]? with
  | some (some (.int x)) => Q L (.int x :: st) σ
  | _ => False
theorem si_iload_n (hE : IsEnt w y cc nL ret fr lo ht Rt E X) {k : Fin 4} {i : Nat} (d : decode cc pc = .ok (.iload_n k, 1)) (hi : (k : Nat) = i) (kk : E Q (pc + 1)) : E (o_il i Q) pc := by
  refine si_st hE (fun L st σ z => ?_) kk
  unfold o_il at z
  split at z
  · next x h => exact ⟨_, z, fun p l e R s m args below meth c H locs cells slots Z ls hx hb hl _ _ kk => lv_iload_n hx hb d hi (hl.2.2 _ _ h) kk⟩
  · exact z.elim
theorem si_iload (hE : IsEnt w y cc nL ret fr lo ht Rt E X) {i : Nat} (d : decode cc pc = .ok (.iload i, 2)) (kk : E Q (pc + 2)) : E (o_il i Q) pc := by
  refine si_st hE (fun L st σ z => ?_) kk
  unfold o_il at z
  split at z
  · next x h => exact ⟨_, z, fun p l e R s m args below meth c H locs cells slots Z ls hx hb hl _ _ kk => lv_iload hx hb d (hl.2.2 _ _ h) kk⟩
  · exact z.elim
def o_ll (i : Nat) (Q : Cont S) : Cont S := fun L st σ => match L[i]? with
  | some (some (.long x)) => Q L (.long x :: st) σ
  | _ => False
theorem si_lload_n (hE : IsEnt w y cc nL ret fr lo ht Rt E X) {k : Fin 4} {i : Nat} (d : decode cc pc = .ok (.lload_n k, 1)) (hi : (k : Nat) = i) (kk : E Q (pc + 1)) : E (o_ll i Q) pc := by
  refine si_st hE (fun L st σ z => ?_) kk
  unfold o_ll at z
  split at z
  · next x h => exact ⟨_, z, fun p l e R s m args below meth c H locs cells slots Z ls hx hb hl _ _ kk => lv_lload_n hx hb d hi (hl.2.2 _ _ h) kk⟩
  · exact z.elim
theorem si_lload (hE : IsEnt w y cc nL ret fr lo ht Rt E X) {i : Nat} (d : decode cc pc = .ok (.lload i, 2)) (kk : E Q (pc + 2)) : E (o_ll i Q) pc := by
  refine si_st hE (fun L st σ z => ?_) kk
  unfold o_ll at z
  split at z
  · next x h => exact ⟨_, z, fun p l e R s m args below meth c H locs cells slots Z ls hx hb hl _ _ kk => lv_lload hx hb d (hl.2.2 _ _ h) kk⟩
  · exact z.elim
def o_al (i : Nat) (Q : Cont S) : Cont S := fun L st σ => match L[i]? with
  | some (some (.ref x)) => Q L (.ref x :: st) σ
  | some (some .null) => Q L (.null :: st) σ
  | _ => False
theorem si_aload_n (hE : IsEnt w y cc nL ret fr lo ht Rt E X) {k : Fin 4} {i : Nat} (d : decode cc pc = .ok (.aload_n k, 1)) (hi : (k : Nat) = i) (kk : E Q (pc + 1)) : E (o_al i Q) pc := by
  refine si_st hE (fun L st σ z => ?_) kk
  unfold o_al at z
  split at z
  · next x h => exact ⟨_, z, fun p l e R s m args below meth c H locs cells slots Z ls hx hb hl _ _ kk => lv_aload_n hx hb d hi (hl.2.2 _ _ h) kk⟩
  · next h => exact ⟨_, z, fun p l e R s m args below meth c H locs cells slots Z ls hx hb hl _ _ kk => lv_aload_nN hx hb d hi (hl.2.2 _ _ h) kk⟩
  · exact z.elim
theorem si_aload (hE : IsEnt w y cc nL ret fr lo ht Rt E X) {i : Nat} (d : decode cc pc = .ok (.aload i, 2)) (kk : E Q (pc + 2)) : E (o_al i Q) pc := by
  refine si_st hE (fun L st σ z => ?_) kk
  unfold o_al at z
  split at z
  · next x h => exact ⟨_, z, fun p l e R s m args below meth c H locs cells slots Z ls hx hb hl _ _ kk => lv_aload hx hb d (hl.2.2 _ _ h) kk⟩
  · next h => exact ⟨_, z, fun p l e R s m args below meth c H locs cells slots Z ls hx hb hl _ _ kk => lv_aloadN hx hb d (hl.2.2 _ _ h) kk⟩
  · exact z.elim
def o_dup  (Q : Cont S) : Cont S := fun L st σ => match st with
  | v :: st => (v.category = 1) ∧ Q L (v :: v :: st) σ
  | _ => False
theorem si_dup (hE : IsEnt w y cc nL ret fr lo ht Rt E X)  (d : decode cc pc = .ok (.dup, 1)) (k : E Q (pc + 1)) : E (o_dup  Q) pc := by
  refine si_st hE (fun L st σ z => ?_) k
  unfold o_dup at z
  split at z
  · exact ⟨_, z.2, fun p l e R s m args below meth c H locs cells slots Z ls hx hb _ _ _ kk => lv_dup hx hb d z.1 kk⟩
  · exact z.elim
def o_pop  (Q : Cont S) : Cont S := fun L st σ => match st with
  | v :: st => (v.category = 1) ∧ Q L (st) σ
  | _ => False
theorem si_pop (hE : IsEnt w y cc nL ret fr lo ht Rt E X)  (d : decode cc pc = .ok (.pop, 1)) (k : E Q (pc + 1)) : E (o_pop  Q) pc := by
  refine si_st hE (fun L st σ z => ?_) k
  unfold o_pop at z
  split at z
  · exact ⟨_, z.2, fun p l e R s m args below meth c H locs cells slots Z ls hx hb _ _ _ kk => lv_pop hx hb d z.1 kk⟩
  · exact z.elim
def o_dup_x1 (Q : Cont S) : Cont S := fun L st σ => match st with
  | v :: u :: st => (v.category = 1 ∧ u.category = 1) ∧ Q L (v :: u :: v :: st) σ
  | _ => False
theorem si_dup_x1 (hE : IsEnt w y cc nL ret fr lo ht Rt E X) (d : decode cc pc = .ok (.dup_x1, 1)) (k : E Q (pc + 1)) : E (o_dup_x1 Q) pc := by
  refine si_st hE (fun L st σ z => ?_) k
  unfold o_dup_x1 at z
  split at z
  · exact ⟨_, z.2, fun p l e R s m args below meth c H locs cells slots Z ls hx hb _ _ _ kk => lv_dup_x1 hx hb d z.1.1 z.1.2 kk⟩
  · exact z.elim
def o_dup2 (Q : Cont S) : Cont S := fun L st σ => match st with
  | v :: u :: st => (v.category = 1 ∧ u.category = 1) ∧ Q L (v :: u :: v :: u :: st) σ
  | _ => False
theorem si_dup2 (hE : IsEnt w y cc nL ret fr lo ht Rt E X) (d : decode cc pc = .ok (.dup2, 1)) (k : E Q (pc + 1)) : E (o_dup2 Q) pc := by
  refine si_st hE (fun L st σ z => ?_) k
  unfold o_dup2 at z
  split at z
  · exact ⟨_, z.2, fun p l e R s m args below meth c H locs cells slots Z ls hx hb _ _ _ kk => lv_dup2_11 hx hb d z.1.1 z.1.2 kk⟩
  · exact z.elim
def o_iadd  (Q : Cont S) : Cont S := fun L st σ => match st with
  | .int b :: .int a :: st => Q L (.int (a + b) :: st) σ
  | _ => False
theorem si_iadd (hE : IsEnt w y cc nL ret fr lo ht Rt E X)  (d : decode cc pc = .ok (.iadd, 1)) (k : E Q (pc + 1)) : E (o_iadd  Q) pc := by
  refine si_st hE (fun L st σ z => ?_) k
  unfold o_iadd at z
  split at z
  · exact ⟨_, z, fun p l e R s m args below meth c H locs cells slots Z ls hx hb _ _ _ kk => lv_iadd hx hb d kk⟩
  · exact z.elim
def o_isub  (Q : Cont S) : Cont S := fun L st σ => match st with
  | .int b :: .int a :: st => Q L (.int (a - b) :: st) σ
  | _ => False
theorem si_isub (hE : IsEnt w y cc nL ret fr lo ht Rt E X)  (d : decode cc pc = .ok (.isub, 1)) (k : E Q (pc + 1)) : E (o_isub  Q) pc := by
  refine si_st hE (fun L st σ z => ?_) k
  unfold o_isub at z
  split at z
  · exact ⟨_, z, fun p l e R s m args below meth c H locs cells slots Z ls hx hb _ _ _ kk => lv_isub hx hb d kk⟩
  · exact z.elim
def o_imul  (Q : Cont S) : Cont S := fun L st σ => match st with
  | .int b :: .int a :: st => Q L (.int (a * b) :: st) σ
  | _ => False
theorem si_imul (hE : IsEnt w y cc nL ret fr lo ht Rt E X)  (d : decode cc pc = .ok (.imul, 1)) (k : E Q (pc + 1)) : E (o_imul  Q) pc := by
  refine si_st hE (fun L st σ z => ?_) k
  unfold o_imul at z
  split at z
  · exact ⟨_, z, fun p l e R s m args below meth c H locs cells slots Z ls hx hb _ _ _ kk => lv_imul hx hb d kk⟩
  · exact z.elim
def o_iand  (Q : Cont S) : Cont S := fun L st σ => match st with
  | .int b :: .int a :: st => Q L (.int (a &&& b) :: st) σ
  | _ => False
theorem si_iand (hE : IsEnt w y cc nL ret fr lo ht Rt E X)  (d : decode cc pc = .ok (.iand, 1)) (k : E Q (pc + 1)) : E (o_iand  Q) pc := by
  refine si_st hE (fun L st σ z => ?_) k
  unfold o_iand at z
  split at z
  · exact ⟨_, z, fun p l e R s m args below meth c H locs cells slots Z ls hx hb _ _ _ kk => lv_iand hx hb d kk⟩
  · exact z.elim
def o_ior  (Q : Cont S) : Cont S := fun L st σ => match st with
  | .int b :: .int a :: st => Q L (.int (a ||| b) :: st) σ
  | _ => False
theorem si_ior (hE : IsEnt w y cc nL ret fr lo ht Rt E X)  (d : decode cc pc = .ok (.ior, 1)) (k : E Q (pc + 1)) : E (o_ior  Q) pc := by
  refine si_st hE (fun L st σ z => ?_) k
  unfold o_ior at z
  split at z
  · exact ⟨_, z, fun p l e R s m args below meth c H locs cells slots Z ls hx hb _ _ _ kk => lv_ior hx hb d kk⟩
  · exact z.elim
def o_ixor  (Q : Cont S) : Cont S := fun L st σ => match st with
  | .int b :: .int a :: st => Q L (.int (a ^^^ b) :: st) σ
  | _ => False
theorem si_ixor (hE : IsEnt w y cc nL ret fr lo ht Rt E X)  (d : decode cc pc = .ok (.ixor, 1)) (k : E Q (pc + 1)) : E (o_ixor  Q) pc := by
  refine si_st hE (fun L st σ z => ?_) k
  unfold o_ixor at z
  split at z
  · exact ⟨_, z, fun p l e R s m args below meth c H locs cells slots Z ls hx hb _ _ _ kk => lv_ixor hx hb d kk⟩
  · exact z.elim
def o_ishl  (Q : Cont S) : Cont S := fun L st σ => match st with
  | .int b :: .int a :: st => Q L (.int (a <<< (b &&& 31)) :: st) σ
  | _ => False
theorem si_ishl (hE : IsEnt w y cc nL ret fr lo ht Rt E X)  (d : decode cc pc = .ok (.ishl, 1)) (k : E Q (pc + 1)) : E (o_ishl  Q) pc := by
  refine si_st hE (fun L st σ z => ?_) k
  unfold o_ishl at z
  split at z
  · exact ⟨_, z, fun p l e R s m args below meth c H locs cells slots Z ls hx hb _ _ _ kk => lv_ishl hx hb d kk⟩
  · exact z.elim
def o_ishr  (Q : Cont S) : Cont S := fun L st σ => match st with
  | .int b :: .int a :: st => Q L (.int (a >>> (b &&& 31)) :: st) σ
  | _ => False
theorem si_ishr (hE : IsEnt w y cc nL ret fr lo ht Rt E X)  (d : decode cc pc = .ok (.ishr, 1)) (k : E Q (pc + 1)) : E (o_ishr  Q) pc := by
  refine si_st hE (fun L st σ z => ?_) k
  unfold o_ishr at z
  split at z
  · exact ⟨_, z, fun p l e R s m args below meth c H locs cells slots Z ls hx hb _ _ _ kk => lv_ishr hx hb d kk⟩
  · exact z.elim
def o_idiv  (Q : Cont S) : Cont S := fun L st σ => match st with
  | .int b :: .int a :: st => (¬ b = 0) ∧ Q L (.int (a / b) :: st) σ
  | _ => False
theorem si_idiv (hE : IsEnt w y cc nL ret fr lo ht Rt E X)  (d : decode cc pc = .ok (.idiv, 1)) (k : E Q (pc + 1)) : E (o_idiv  Q) pc := by
  refine si_st hE (fun L st σ z => ?_) k
  unfold o_idiv at z
  split at z
  · exact ⟨_, z.2, fun p l e R s m args below meth c H locs cells slots Z ls hx hb _ _ _ kk => lv_idiv hx hb d z.1 kk⟩
  · exact z.elim
def o_irem  (Q : Cont S) : Cont S := fun L st σ => match st with
  | .int b :: .int a :: st => (¬ b = 0) ∧ Q L (.int (a - a / b * b) :: st) σ
  | _ => False
theorem si_irem (hE : IsEnt w y cc nL ret fr lo ht Rt E X)  (d : decode cc pc = .ok (.irem, 1)) (k : E Q (pc + 1)) : E (o_irem  Q) pc := by
  refine si_st hE (fun L st σ z => ?_) k
  unfold o_irem at z
  split at z
  · exact ⟨_, z.2, fun p l e R s m args below meth c H locs cells slots Z ls hx hb _ _ _ kk => lv_irem hx hb d z.1 kk⟩
  · exact z.elim
def o_ineg  (Q : Cont S) : Cont S := fun L st σ => match st with
  | .int a :: st => Q L (.int (-a) :: st) σ
  | _ => False
theorem si_ineg (hE : IsEnt w y cc nL ret fr lo ht Rt E X)  (d : decode cc pc = .ok (.ineg, 1)) (k : E Q (pc + 1)) : E (o_ineg  Q) pc := by
  refine si_st hE (fun L st σ z => ?_) k
  unfold o_ineg at z
  split at z
  · exact ⟨_, z, fun p l e R s m args below meth c H locs cells slots Z ls hx hb _ _ _ kk => lv_ineg hx hb d kk⟩
  · exact z.elim
def o_ladd  (Q : Cont S) : Cont S := fun L st σ => match st with
  | .long b :: .long a :: st => Q L (.long (a + b) :: st) σ
  | _ => False
theorem si_ladd (hE : IsEnt w y cc nL ret fr lo ht Rt E X)  (d : decode cc pc = .ok (.ladd, 1)) (k : E Q (pc + 1)) : E (o_ladd  Q) pc := by
  refine si_st hE (fun L st σ z => ?_) k
  unfold o_ladd at z
  split at z
  · exact ⟨_, z, fun p l e R s m args below meth c H locs cells slots Z ls hx hb _ _ _ kk => lv_ladd hx hb d kk⟩
  · exact z.elim
def o_lsub  (Q : Cont S) : Cont S := fun L st σ => match st with
  | .long b :: .long a :: st => Q L (.long (a - b) :: st) σ
  | _ => False
theorem si_lsub (hE : IsEnt w y cc nL ret fr lo ht Rt E X)  (d : decode cc pc = .ok (.lsub, 1)) (k : E Q (pc + 1)) : E (o_lsub  Q) pc := by
  refine si_st hE (fun L st σ z => ?_) k
  unfold o_lsub at z
  split at z
  · exact ⟨_, z, fun p l e R s m args below meth c H locs cells slots Z ls hx hb _ _ _ kk => lv_lsub hx hb d kk⟩
  · exact z.elim
def o_lmul  (Q : Cont S) : Cont S := fun L st σ => match st with
  | .long b :: .long a :: st => Q L (.long (a * b) :: st) σ
  | _ => False
theorem si_lmul (hE : IsEnt w y cc nL ret fr lo ht Rt E X)  (d : decode cc pc = .ok (.lmul, 1)) (k : E Q (pc + 1)) : E (o_lmul  Q) pc := by
  refine si_st hE (fun L st σ z => ?_) k
  unfold o_lmul at z
  split at z
  · exact ⟨_, z, fun p l e R s m args below meth c H locs cells slots Z ls hx hb _ _ _ kk => lv_lmul hx hb d kk⟩
  · exact z.elim
def o_land  (Q : Cont S) : Cont S := fun L st σ => match st with
  | .long b :: .long a :: st => Q L (.long (a &&& b) :: st) σ
  | _ => False
theorem si_land (hE : IsEnt w y cc nL ret fr lo ht Rt E X)  (d : decode cc pc = .ok (.land, 1)) (k : E Q (pc + 1)) : E (o_land  Q) pc := by
  refine si_st hE (fun L st σ z => ?_) k
  unfold o_land at z
  split at z
  · exact ⟨_, z, fun p l e R s m args below meth c H locs cells slots Z ls hx hb _ _ _ kk => lv_land hx hb d kk⟩
  · exact z.elim
def o_lor  (Q : Cont S) : Cont S := fun L st σ => match st with
  | .long b :: .long a :: st => Q L (.long (a ||| b) :: st) σ
  | _ => False
theorem si_lor (hE : IsEnt w y cc nL ret fr lo ht Rt E X)  (d : decode cc pc = .ok (.lor, 1)) (k : E Q (pc + 1)) : E (o_lor  Q) pc := by
  refine si_st hE (fun L st σ z => ?_) k
  unfold o_lor at z
  split at z
  · exact ⟨_, z, fun p l e R s m args below meth c H locs cells slots Z ls hx hb _ _ _ kk => lv_lor hx hb d kk⟩
  · exact z.elim
def o_lxor  (Q : Cont S) : Cont S := fun L st σ => match st with
  | .long b :: .long a :: st => Q L (.long (a ^^^ b) :: st) σ
  | _ => False
theorem si_lxor (hE : IsEnt w y cc nL ret fr lo ht Rt E X)  (d : decode cc pc = .ok (.lxor, 1)) (k : E Q (pc + 1)) : E (o_lxor  Q) pc := by
  refine si_st hE (fun L st σ z => ?_) k
  unfold o_lxor at z
  split at z
  · exact ⟨_, z, fun p l e R s m args below meth c H locs cells slots Z ls hx hb _ _ _ kk => lv_lxor hx hb d kk⟩
  · exact z.elim
def o_ldiv  (Q : Cont S) : Cont S := fun L st σ => match st with
  | .long b :: .long a :: st => (¬ b = 0) ∧ Q L (.long (a / b) :: st) σ
  | _ => False
theorem si_ldiv (hE : IsEnt w y cc nL ret fr lo ht Rt E X)  (d : decode cc pc = .ok (.ldiv, 1)) (k : E Q (pc + 1)) : E (o_ldiv  Q) pc := by
  refine si_st hE (fun L st σ z => ?_) k
  unfold o_ldiv at z
  split at z
  · exact ⟨_, z.2, fun p l e R s m args below meth c H locs cells slots Z ls hx hb _ _ _ kk => lv_ldiv hx hb d z.1 kk⟩
  · exact z.elim
def o_lrem  (Q : Cont S) : Cont S := fun L st σ => match st with
  | .long b :: .long a :: st => (¬ b = 0) ∧ Q L (.long (a - a / b * b) :: st) σ
  | _ => False
theorem si_lrem (hE : IsEnt w y cc nL ret fr lo ht Rt E X)  (d : decode cc pc = .ok (.lrem, 1)) (k : E Q (pc + 1)) : E (o_lrem  Q) pc := by
  refine si_st hE (fun L st σ z => ?_) k
  unfold o_lrem at z
  split at z
  · exact ⟨_, z.2, fun p l e R s m args below meth c H locs cells slots Z ls hx hb _ _ _ kk => lv_lrem hx hb d z.1 kk⟩
  · exact z.elim
def o_lneg  (Q : Cont S) : Cont S := fun L st σ => match st with
  | .long a :: st => Q L (.long (-a) :: st) σ
  | _ => False
theorem si_lneg (hE : IsEnt w y cc nL ret fr lo ht Rt E X)  (d : decode cc pc = .ok (.lneg, 1)) (k : E Q (pc + 1)) : E (o_lneg  Q) pc := by
  refine si_st hE (fun L st σ z => ?_) k
  unfold o_lneg at z
  split at z
  · exact ⟨_, z, fun p l e R s m args below meth c H locs cells slots Z ls hx hb _ _ _ kk => lv_lneg hx hb d kk⟩
  · exact z.elim
def o_lcmp  (Q : Cont S) : Cont S := fun L st σ => match st with
  | .long b :: .long a :: st => Q L (.int (lg_cmp a b) :: st) σ
  | _ => False
theorem si_lcmp (hE : IsEnt w y cc nL ret fr lo ht Rt E X)  (d : decode cc pc = .ok (.lcmp, 1)) (k : E Q (pc + 1)) : E (o_lcmp  Q) pc := by
  refine si_st hE (fun L st σ z => ?_) k
  unfold o_lcmp at z
  split at z
  · exact ⟨_, z, fun p l e R s m args below meth c H locs cells slots Z ls hx hb _ _ _ kk => W.lcmp hx hb d kk⟩
  · exact z.elim
def o_i2l  (Q : Cont S) : Cont S := fun L st σ => match st with
  | .int a :: st => Q L (.long a.toInt64 :: st) σ
  | _ => False
theorem si_i2l (hE : IsEnt w y cc nL ret fr lo ht Rt E X)  (d : decode cc pc = .ok (.i2l, 1)) (k : E Q (pc + 1)) : E (o_i2l  Q) pc := by
  refine si_st hE (fun L st σ z => ?_) k
  unfold o_i2l at z
  split at z
  · exact ⟨_, z, fun p l e R s m args below meth c H locs cells slots Z ls hx hb _ _ _ kk => lv_i2l hx hb d rfl kk⟩
  · exact z.elim
def o_l2i  (Q : Cont S) : Cont S := fun L st σ => match st with
  | .long a :: st => Q L (.int a.toInt32 :: st) σ
  | _ => False
theorem si_l2i (hE : IsEnt w y cc nL ret fr lo ht Rt E X)  (d : decode cc pc = .ok (.l2i, 1)) (k : E Q (pc + 1)) : E (o_l2i  Q) pc := by
  refine si_st hE (fun L st σ z => ?_) k
  unfold o_l2i at z
  split at z
  · exact ⟨_, z, fun p l e R s m args below meth c H locs cells slots Z ls hx hb _ _ _ kk => lv_l2i hx hb d rfl kk⟩
  · exact z.elim
def o_i2b  (Q : Cont S) : Cont S := fun L st σ => match st with
  | .int a :: st => Q L (.int a.toInt8.toInt32 :: st) σ
  | _ => False
theorem si_i2b (hE : IsEnt w y cc nL ret fr lo ht Rt E X)  (d : decode cc pc = .ok (.i2b, 1)) (k : E Q (pc + 1)) : E (o_i2b  Q) pc := by
  refine si_st hE (fun L st σ z => ?_) k
  unfold o_i2b at z
  split at z
  · exact ⟨_, z, fun p l e R s m args below meth c H locs cells slots Z ls hx hb _ _ _ kk => lv_i2b hx hb d rfl kk⟩
  · exact z.elim
def o_i2c  (Q : Cont S) : Cont S := fun L st σ => match st with
  | .int a :: st => Q L (.int (a.toUInt32 % 65536).toInt32 :: st) σ
  | _ => False
theorem si_i2c (hE : IsEnt w y cc nL ret fr lo ht Rt E X)  (d : decode cc pc = .ok (.i2c, 1)) (k : E Q (pc + 1)) : E (o_i2c  Q) pc := by
  refine si_st hE (fun L st σ z => ?_) k
  unfold o_i2c at z
  split at z
  · exact ⟨_, z, fun p l e R s m args below meth c H locs cells slots Z ls hx hb _ _ _ kk => lv_i2c hx hb d rfl kk⟩
  · exact z.elim
def o_iushr  (Q : Cont S) : Cont S := fun L st σ => match st with
  | .int b :: .int a :: st => Q L (.int (a.toUInt32 >>> (b.toUInt32 &&& Int32.toUInt32 31)).toInt32 :: st) σ
  | _ => False
theorem si_iushr (hE : IsEnt w y cc nL ret fr lo ht Rt E X)  (d : decode cc pc = .ok (.iushr, 1)) (k : E Q (pc + 1)) : E (o_iushr  Q) pc := by
  refine si_st hE (fun L st σ z => ?_) k
  unfold o_iushr at z
  split at z
  · exact ⟨_, z, fun p l e R s m args below meth c H locs cells slots Z ls hx hb _ _ _ kk => lv_iushr hx hb d rfl kk⟩
  · exact z.elim
def o_lshl  (Q : Cont S) : Cont S := fun L st σ => match st with
  | .int b :: .long a :: st => Q L (.long (a <<< (b.toInt64 &&& 63)) :: st) σ
  | _ => False
theorem si_lshl (hE : IsEnt w y cc nL ret fr lo ht Rt E X)  (d : decode cc pc = .ok (.lshl, 1)) (k : E Q (pc + 1)) : E (o_lshl  Q) pc := by
  refine si_st hE (fun L st σ z => ?_) k
  unfold o_lshl at z
  split at z
  · exact ⟨_, z, fun p l e R s m args below meth c H locs cells slots Z ls hx hb _ _ _ kk => lv_lshl hx hb d rfl kk⟩
  · exact z.elim
def o_lshr  (Q : Cont S) : Cont S := fun L st σ => match st with
  | .int b :: .long a :: st => Q L (.long (a >>> (b.toInt64 &&& 63)) :: st) σ
  | _ => False
theorem si_lshr (hE : IsEnt w y cc nL ret fr lo ht Rt E X)  (d : decode cc pc = .ok (.lshr, 1)) (k : E Q (pc + 1)) : E (o_lshr  Q) pc := by
  refine si_st hE (fun L st σ z => ?_) k
  unfold o_lshr at z
  split at z
  · exact ⟨_, z, fun p l e R s m args below meth c H locs cells slots Z ls hx hb _ _ _ kk => lv_lshr hx hb d rfl kk⟩
  · exact z.elim
def o_if_eq (J Q : Cont S) : Cont S := fun L st σ => match st with
  | .int a :: st => (a = 0 → J L st σ) ∧ (¬ (a = 0) → Q L st σ)
  | _ => False
theorem si_if_eq (hE : IsEnt w y cc nL ret fr lo ht Rt E X) {off : Int} {tgt : Nat} (d : decode cc pc = .ok (.ifCond .eq off, 3)) (ht9 : (pc : Int) + off = (tgt : Int)) (j : E J tgt) (k : E Q (pc + 3)) : E (o_if_eq J Q) pc := by
  refine si_br hE (fun L st σ z => ?_) j k
  unfold o_if_eq at z
  split at z
  · exact ⟨_, _, z.1, z.2, fun p l e R s m args below meth c H locs cells slots Z ls hx hb kt kf => lv_if_eq hx hb d ht9 kt kf⟩
  · exact z.elim
def o_if_ne (J Q : Cont S) : Cont S := fun L st σ => match st with
  | .int a :: st => (¬ a = 0 → J L st σ) ∧ (¬ (¬ a = 0) → Q L st σ)
  | _ => False
theorem si_if_ne (hE : IsEnt w y cc nL ret fr lo ht Rt E X) {off : Int} {tgt : Nat} (d : decode cc pc = .ok (.ifCond .ne off, 3)) (ht9 : (pc : Int) + off = (tgt : Int)) (j : E J tgt) (k : E Q (pc + 3)) : E (o_if_ne J Q) pc := by
  refine si_br hE (fun L st σ z => ?_) j k
  unfold o_if_ne at z
  split at z
  · exact ⟨_, _, z.1, z.2, fun p l e R s m args below meth c H locs cells slots Z ls hx hb kt kf => lv_if_ne hx hb d ht9 kt (fun h => kf (fun g => g h))⟩
  · exact z.elim
def o_if_lt (J Q : Cont S) : Cont S := fun L st σ => match st with
  | .int a :: st => (a < 0 → J L st σ) ∧ (¬ (a < 0) → Q L st σ)
  | _ => False
theorem si_if_lt (hE : IsEnt w y cc nL ret fr lo ht Rt E X) {off : Int} {tgt : Nat} (d : decode cc pc = .ok (.ifCond .lt off, 3)) (ht9 : (pc : Int) + off = (tgt : Int)) (j : E J tgt) (k : E Q (pc + 3)) : E (o_if_lt J Q) pc := by
  refine si_br hE (fun L st σ z => ?_) j k
  unfold o_if_lt at z
  split at z
  · exact ⟨_, _, z.1, z.2, fun p l e R s m args below meth c H locs cells slots Z ls hx hb kt kf => lv_if_lt hx hb d ht9 kt kf⟩
  · exact z.elim
def o_if_ge (J Q : Cont S) : Cont S := fun L st σ => match st with
  | .int a :: st => (0 ≤ a → J L st σ) ∧ (¬ (0 ≤ a) → Q L st σ)
  | _ => False
theorem si_if_ge (hE : IsEnt w y cc nL ret fr lo ht Rt E X) {off : Int} {tgt : Nat} (d : decode cc pc = .ok (.ifCond .ge off, 3)) (ht9 : (pc : Int) + off = (tgt : Int)) (j : E J tgt) (k : E Q (pc + 3)) : E (o_if_ge J Q) pc := by
  refine si_br hE (fun L st σ z => ?_) j k
  unfold o_if_ge at z
  split at z
  · exact ⟨_, _, z.1, z.2, fun p l e R s m args below meth c H locs cells slots Z ls hx hb kt kf => lv_if_ge hx hb d ht9 kt kf⟩
  · exact z.elim
def o_if_gt (J Q : Cont S) : Cont S := fun L st σ => match st with
  | .int a :: st => (0 < a → J L st σ) ∧ (¬ (0 < a) → Q L st σ)
  | _ => False
theorem si_if_gt (hE : IsEnt w y cc nL ret fr lo ht Rt E X) {off : Int} {tgt : Nat} (d : decode cc pc = .ok (.ifCond .gt off, 3)) (ht9 : (pc : Int) + off = (tgt : Int)) (j : E J tgt) (k : E Q (pc + 3)) : E (o_if_gt J Q) pc := by
  refine si_br hE (fun L st σ z => ?_) j k
  unfold o_if_gt at z
  split at z
  · exact ⟨_, _, z.1, z.2, fun p l e R s m args below meth c H locs cells slots Z ls hx hb kt kf => lv_if_gt hx hb d ht9 kt kf⟩
  · exact z.elim
def o_if_le (J Q : Cont S) : Cont S := fun L st σ => match st with
  | .int a :: st => (a ≤ 0 → J L st σ) ∧ (¬ (a ≤ 0) → Q L st σ)
  | _ => False
theorem si_if_le (hE : IsEnt w y cc nL ret fr lo ht Rt E X) {off : Int} {tgt : Nat} (d : decode cc pc = .ok (.ifCond .le off, 3)) (ht9 : (pc : Int) + off = (tgt : Int)) (j : E J tgt) (k : E Q (pc + 3)) : E (o_if_le J Q) pc := by
  refine si_br hE (fun L st σ z => ?_) j k
  unfold o_if_le at z
  split at z
  · exact ⟨_, _, z.1, z.2, fun p l e R s m args below meth c H locs cells slots Z ls hx hb kt kf => lv_if_le hx hb d ht9 kt kf⟩
  · exact z.elim
def o_icmp_eq (J Q : Cont S) : Cont S := fun L st σ => match st with
  | .int b :: .int a :: st => (a = b → J L st σ) ∧ (¬ (a = b) → Q L st σ)
  | _ => False
theorem si_icmp_eq (hE : IsEnt w y cc nL ret fr lo ht Rt E X) {off : Int} {tgt : Nat} (d : decode cc pc = .ok (.if_icmp .eq off, 3)) (ht9 : (pc : Int) + off = (tgt : Int)) (j : E J tgt) (k : E Q (pc + 3)) : E (o_icmp_eq J Q) pc := by
  refine si_br hE (fun L st σ z => ?_) j k
  unfold o_icmp_eq at z
  split at z
  · exact ⟨_, _, z.1, z.2, fun p l e R s m args below meth c H locs cells slots Z ls hx hb kt kf => lv_icmp_eq hx hb d ht9 kt kf⟩
  · exact z.elim
def o_icmp_ne (J Q : Cont S) : Cont S := fun L st σ => match st with
  | .int b :: .int a :: st => (¬ a = b → J L st σ) ∧ (¬ (¬ a = b) → Q L st σ)
  | _ => False
theorem si_icmp_ne (hE : IsEnt w y cc nL ret fr lo ht Rt E X) {off : Int} {tgt : Nat} (d : decode cc pc = .ok (.if_icmp .ne off, 3)) (ht9 : (pc : Int) + off = (tgt : Int)) (j : E J tgt) (k : E Q (pc + 3)) : E (o_icmp_ne J Q) pc := by
  refine si_br hE (fun L st σ z => ?_) j k
  unfold o_icmp_ne at z
  split at z
  · exact ⟨_, _, z.1, z.2, fun p l e R s m args below meth c H locs cells slots Z ls hx hb kt kf => lv_icmp_ne hx hb d ht9 kt (fun h => kf (fun g => g h))⟩
  · exact z.elim
def o_icmp_lt (J Q : Cont S) : Cont S := fun L st σ => match st with
  | .int b :: .int a :: st => (a < b → J L st σ) ∧ (¬ (a < b) → Q L st σ)
  | _ => False
theorem si_icmp_lt (hE : IsEnt w y cc nL ret fr lo ht Rt E X) {off : Int} {tgt : Nat} (d : decode cc pc = .ok (.if_icmp .lt off, 3)) (ht9 : (pc : Int) + off = (tgt : Int)) (j : E J tgt) (k : E Q (pc + 3)) : E (o_icmp_lt J Q) pc := by
  refine si_br hE (fun L st σ z => ?_) j k
  unfold o_icmp_lt at z
  split at z
  · exact ⟨_, _, z.1, z.2, fun p l e R s m args below meth c H locs cells slots Z ls hx hb kt kf => lv_icmp_lt hx hb d ht9 kt kf⟩
  · exact z.elim
def o_icmp_ge (J Q : Cont S) : Cont S := fun L st σ => match st with
  | .int b :: .int a :: st => (b ≤ a → J L st σ) ∧ (¬ (b ≤ a) → Q L st σ)
  | _ => False
theorem si_icmp_ge (hE : IsEnt w y cc nL ret fr lo ht Rt E X) {off : Int} {tgt : Nat} (d : decode cc pc = .ok (.if_icmp .ge off, 3)) (ht9 : (pc : Int) + off = (tgt : Int)) (j : E J tgt) (k : E Q (pc + 3)) : E (o_icmp_ge J Q) pc := by
  refine si_br hE (fun L st σ z => ?_) j k
  unfold o_icmp_ge at z
  split at z
  · exact ⟨_, _, z.1, z.2, fun p l e R s m args below meth c H locs cells slots Z ls hx hb kt kf => lv_icmp_ge hx hb d ht9 kt kf⟩
  · exact z.elim
def o_icmp_gt (J Q : Cont S) : Cont S := fun L st σ => match st with
  | .int b :: .int a :: st => (b < a → J L st σ) ∧ (¬ (b < a) → Q L st σ)
  | _ => False
theorem si_icmp_gt (hE : IsEnt w y cc nL ret fr lo ht Rt E X) {off : Int} {tgt : Nat} (d : decode cc pc = .ok (.if_icmp .gt off, 3)) (ht9 : (pc : Int) + off = (tgt : Int)) (j : E J tgt) (k : E Q (pc + 3)) : E (o_icmp_gt J Q) pc := by
  refine si_br hE (fun L st σ z => ?_) j k
  unfold o_icmp_gt at z
  split at z
  · exact ⟨_, _, z.1, z.2, fun p l e R s m args below meth c H locs cells slots Z ls hx hb kt kf => lv_icmp_gt hx hb d ht9 kt kf⟩
  · exact z.elim
def o_icmp_le (J Q : Cont S) : Cont S := fun L st σ => match st with
  | .int b :: .int a :: st => (a ≤ b → J L st σ) ∧ (¬ (a ≤ b) → Q L st σ)
  | _ => False
theorem si_icmp_le (hE : IsEnt w y cc nL ret fr lo ht Rt E X) {off : Int} {tgt : Nat} (d : decode cc pc = .ok (.if_icmp .le off, 3)) (ht9 : (pc : Int) + off = (tgt : Int)) (j : E J tgt) (k : E Q (pc + 3)) : E (o_icmp_le J Q) pc := by
  refine si_br hE (fun L st σ z => ?_) j k
  unfold o_icmp_le at z
  split at z
  · exact ⟨_, _, z.1, z.2, fun p l e R s m args below meth c H locs cells slots Z ls hx hb kt kf => lv_icmp_le hx hb d ht9 kt kf⟩
  · exact z.elim
theorem si_goto (hE : IsEnt w y cc nL ret fr lo ht Rt E X) {off : Int} {tgt : Nat} (d : decode cc pc = .ok (.goto off, 3)) (ht9 : (pc : Int) + off = (tgt : Int)) (j : E J tgt) : E J pc := by
  refine si_st hE (fun L st σ z => ?_) j
  exact ⟨_, z, fun p l e R s m args below meth c H locs cells slots Z ls hx hb _ _ _ kk => lv_goto hx hb d ht9 kk⟩
def o_ifnull (J Q : Cont S) : Cont S := fun L st σ => match st with
  | .null :: st => J L st σ
  | .ref _ :: st => Q L st σ
  | _ => False
theorem si_ifnull (hE : IsEnt w y cc nL ret fr lo ht Rt E X) {off : Int} {tgt : Nat} (d : decode cc pc = .ok (.ifnull off, 3)) (ht9 : (pc : Int) + off = (tgt : Int)) (j : E J tgt) (k : E Q (pc + 3)) : E (o_ifnull J Q) pc := by
  refine si_br hE (fun L st σ z => ?_) j k
  unfold o_ifnull at z
  split at z
  · exact ⟨_, True, fun _ => z, fun h => absurd trivial h, fun p l e R s m args below meth c H locs cells slots Z ls hx hb kt kf => lv_ifnullN hx hb d ht9 (kt trivial)⟩
  · exact ⟨_, False, fun h => h.elim, fun _ => z, fun p l e R s m args below meth c H locs cells slots Z ls hx hb kt kf => lv_ifnull hx hb d (kf id)⟩
  · exact z.elim
def o_ifnonnull (J Q : Cont S) : Cont S := fun L st σ => match st with
  | .ref _ :: st => J L st σ
  | .null :: st => Q L st σ
  | _ => False
theorem si_ifnonnull (hE : IsEnt w y cc nL ret fr lo ht Rt E X) {off : Int} {tgt : Nat} (d : decode cc pc = .ok (.ifnonnull off, 3)) (ht9 : (pc : Int) + off = (tgt : Int)) (j : E J tgt) (k : E Q (pc + 3)) : E (o_ifnonnull J Q) pc := by
  refine si_br hE (fun L st σ z => ?_) j k
  unfold o_ifnonnull at z
  split at z
  · exact ⟨_, True, fun _ => z, fun h => absurd trivial h, fun p l e R s m args below meth c H locs cells slots Z ls hx hb kt kf => lv_ifnonnull hx hb d ht9 (kt trivial)⟩
  · exact ⟨_, False, fun h => h.elim, fun _ => z, fun p l e R s m args below meth c H locs cells slots Z ls hx hb kt kf => lv_ifnonnullN hx hb d (kf id)⟩
  · exact z.elim
def vref : Value → Option (Option Nat)
  | .null => some none
  | .ref x => some (some x)
  | _ => none
theorem vref_rf {v : Value} {r : Option Nat} (h : vref v = some r) : v = va_rf r := by
  unfold vref at h
  split at h
  · cases h; rfl
  · cases h; rfl
  · cases h
def o_acmp_eq (J Q : Cont S) : Cont S := fun L st σ => match st with
  | b :: a :: st => match vref a, vref b with
    | some ra, some rb => (ra = rb → J L st σ) ∧ (¬ ra = rb → Q L st σ)
    | _, _ => False
  | _ => False
theorem si_acmp_eq (hE : IsEnt w y cc nL ret fr lo ht Rt E X) {off : Int} {tgt : Nat} (d : decode cc pc = .ok (.if_acmp .eq off, 3)) (ht9 : (pc : Int) + off = (tgt : Int)) (j : E J tgt) (k : E Q (pc + 3)) : E (o_acmp_eq J Q) pc := by
  refine si_br hE (fun L st σ z => ?_) j k
  unfold o_acmp_eq at z
  split at z
  · split at z
    · next b a st' ra rb ha hb0 =>
      rw [vref_rf ha, vref_rf hb0]
      exact ⟨_, _, z.1, z.2, fun p l e R s m args below meth c H locs cells slots Z ls hx hb kt kf => lv_acmp_eq hx hb d ht9 kt kf⟩
    · exact z.elim
  · exact z.elim
def o_acmp_ne (J Q : Cont S) : Cont S := fun L st σ => match st with
  | b :: a :: st => match vref a, vref b with
    | some ra, some rb => (¬ ra = rb → J L st σ) ∧ (ra = rb → Q L st σ)
    | _, _ => False
  | _ => False
theorem si_acmp_ne (hE : IsEnt w y cc nL ret fr lo ht Rt E X) {off : Int} {tgt : Nat} (d : decode cc pc = .ok (.if_acmp .ne off, 3)) (ht9 : (pc : Int) + off = (tgt : Int)) (j : E J tgt) (k : E Q (pc + 3)) : E (o_acmp_ne J Q) pc := by
  refine si_br hE (fun L st σ z => ?_) j k
  unfold o_acmp_ne at z
  split at z
  · split at z
    · next b a st' ra rb ha hb0 =>
      rw [vref_rf ha, vref_rf hb0]
      exact ⟨_, ¬ ra = rb, z.1, fun h => z.2 (Classical.not_not.mp h), fun p l e R s m args below meth c H locs cells slots Z ls hx hb kt kf => lv_acmp_ne hx hb d ht9 kt (fun h => kf (fun g => g h))⟩
    · exact z.elim
  · exact z.elim
/-- the locals as the kit lists them -/
def lpairs (L : Lc) : List (Nat × Value) := (List.range L.length).filterMap (fun i => match L[i]? with
  | some (some v) => some (i, v)
  | _ => none)
theorem lpairs_mem {L : Lc} {q : Nat × Value} : q ∈ lpairs L ↔ L[q.1]? = some (some q.2) := by
  unfold lpairs
  rw [List.mem_filterMap]
  constructor
  · rintro ⟨i, -, h⟩
    split at h
    · next v hv => cases h; exact hv
    · cases h
  · intro h
    refine ⟨q.1, List.mem_range.mpr (List.getElem?_eq_some_iff.mp h).1, ?_⟩
    rw [h]
theorem lrep_has {ls : Array Slot} {nL : Nat} {L : Lc} (h : lrep ls nL L) : lv_has ls nL (lpairs L) := ⟨h.1, h.2.1, fun q hq => h.2.2 _ _ (lpairs_mem.mp hq)⟩
/-- a store of one word at i: a long that ends there is lost -/
def st1 (L : Lc) (i : Nat) (v : Value) : Lc := match i with
  | 0 => L.set 0 (some v)
  | j + 1 => match L[j]? with
    | some (some (.long _)) => (L.set j none).set (j + 1) (some v)
    | some (some (.double _)) => (L.set j none).set (j + 1) (some v)
    | _ => L.set (j + 1) (some v)
def st2 (L : Lc) (i : Nat) (v : Value) : Lc := (st1 L i v).set (i + 1) none
theorem st1_get {L : Lc} {i : Nat} {v u : Value} {j : Nat} (h : (st1 L i v)[j]? = some (some u)) : (j = i ∧ u = v) ∨ (j ≠ i ∧ L[j]? = some (some u) ∧ ¬ (j + 1 = i ∧ u.category = 2)) := by
  have key : ∀ (M : Lc), (M.set i (some v))[j]? = some (some u) → (j = i ∧ u = v) ∨ (j ≠ i ∧ M[j]? = some (some u)) := by
    intro M hM
    by_cases hj : j = i
    · subst hj
      rw [List.getElem?_set] at hM
      simp at hM
      exact Or.inl ⟨rfl, hM.2.symm⟩
    · rw [List.getElem?_set_ne (Ne.symm hj)] at hM
      exact Or.inr ⟨hj, hM⟩
  cases i with
  | zero =>
    rcases key L h with r | r
    · exact Or.inl r
    · exact Or.inr ⟨r.1, r.2, fun q => by omega⟩
  | succ k =>
    simp only [st1] at h
    have clr : ∀ (h : ((L.set k none).set (k + 1) (some v))[j]? = some (some u)), (j = k + 1 ∧ u = v) ∨ (j ≠ k + 1 ∧ L[j]? = some (some u) ∧ ¬ (j + 1 = k + 1 ∧ u.category = 2)) := by
      intro h
      rcases key _ h with r | r
      · exact Or.inl r
      · by_cases hjk : j = k
        · subst hjk
          have := r.2
          rw [List.getElem?_set] at this
          simp at this
        · refine Or.inr ⟨r.1, ?_, fun q => hjk (by omega)⟩
          have := r.2
          rwa [List.getElem?_set_ne (Ne.symm hjk)] at this
    split at h
    · exact clr h
    · exact clr h
    · next h1 h2 =>
      rcases key L h with r | r
      · exact Or.inl r
      · refine Or.inr ⟨r.1, r.2, fun q => ?_⟩
        have e : j = k := by omega
        subst e
        cases u with
        | long z => exact h1 z r.2
        | double z => exact h2 z r.2
        | _ => simp [Value.category] at q
theorem lrep_st1 {ls' : Array Slot} {nL i : Nat} {L : Lc} {v : Value} (h : lv_has ls' nL ((i, v) :: (lpairs L).filter (fun q => !(q.1 == i) && !(q.1 + 1 == i && q.2.category == 2)))) : lrep ls' nL (st1 L i v) := by
  refine ⟨h.1, h.2.1, fun j u hu => ?_⟩
  rcases st1_get hu with ⟨rfl, rfl⟩ | ⟨h1, h2, h3⟩
  · exact h.2.2 (j, u) List.mem_cons_self
  · refine h.2.2 (j, u) (List.mem_cons_of_mem _ (List.mem_filter.mpr ⟨lpairs_mem.mpr h2, ?_⟩))
    simp only [Bool.and_eq_true, Bool.not_eq_true', beq_eq_false_iff_ne, Bool.and_eq_false_imp, beq_iff_eq]
    exact ⟨h1, fun q => by simpa using fun z => h3 ⟨q, z⟩⟩
theorem lrep_st2 {ls' : Array Slot} {nL i : Nat} {L : Lc} {v : Value} (h : lv_has ls' nL ((i, v) :: (lpairs L).filter (fun q => !(q.1 == i) && (!(q.1 == i + 1) && !(q.1 + 1 == i && q.2.category == 2))))) : lrep ls' nL (st2 L i v) := by
  refine ⟨h.1, h.2.1, fun j u hu => ?_⟩
  unfold st2 at hu
  have hj : j ≠ i + 1 := by
    intro q
    subst q
    rw [List.getElem?_set] at hu
    simp at hu
  rw [List.getElem?_set_ne (Ne.symm hj)] at hu
  rcases st1_get hu with ⟨rfl, rfl⟩ | ⟨h1, h2, h3⟩
  · exact h.2.2 (j, u) List.mem_cons_self
  · refine h.2.2 (j, u) (List.mem_cons_of_mem _ (List.mem_filter.mpr ⟨lpairs_mem.mpr h2, ?_⟩))
    simp only [Bool.and_eq_true, Bool.not_eq_true', beq_eq_false_iff_ne, Bool.and_eq_false_imp, beq_iff_eq]
    exact ⟨h1, hj, fun q => by simpa using fun z => h3 ⟨q, z⟩⟩
/-- a step that stores a local -/
theorem si_lo (hE : IsEnt w y cc nL ret fr lo ht Rt E X) {C : Cont S} {pc' : Nat} (h : ∀ (L : Lc) (st : List Value) (σ : S), C L st σ → ∃ (L' : Lc) (st' : List Value), Q L' st' σ ∧
      ∀ (p : Program) (l : Launch) (e : Env) (R : Room) (s : State) (m : MethodId) (args : Array Value) (below : List Frame) (meth : Method) (c : Code) (H : Heap) (locs : List Loc) (cells slots : Nat) (Z : State → Prop) (ls : Array Slot),
      p.tables.exec = Jvm.exec → c.code = cc → lrep ls nL L → (∀ ls', lrep ls' nL L' → W p l e R s m args below meth c H locs cells slots Z (F0 m pc' ls' st')) → W p l e R s m args below meth c H locs cells slots Z (F0 m pc ls st))
    (k : E Q pc') : E C pc := by
  obtain ⟨p, l, e, R, s, m, args, below, meth, c, b0, hI, -, hx, hb, -⟩ := hE
  rw [hI] at k ⊢
  intro L st σ z H locs cells slots ls h1 h2 h3 h4 h5
  obtain ⟨L', st', q, r⟩ := h L st σ z
  exact r p l e R s m args below meth c H locs cells slots _ ls hx hb h5 (fun ls' h6 => k L' st' σ q H locs cells slots ls' h1 h2 h3 h4 h6)
def o_is (i : Nat) (Q : Cont S) : Cont S := fun L st σ => match st with
  | .int x :: st => Q (st1 L i (.int x)) st σ
  | _ => False
def o_ls (i : Nat) (Q : Cont S) : Cont S := fun L st σ => match st with
  | .long x :: st => Q (st2 L i (.long x)) st σ
  | _ => False
def o_as (i : Nat) (Q : Cont S) : Cont S := fun L st σ => match st with
  | .ref x :: st => Q (st1 L i (.ref x)) st σ
  | .null :: st => Q (st1 L i .null) st σ
  | _ => False
theorem si_istore_n (hE : IsEnt w y cc nL ret fr lo ht Rt E X) {k : Fin 4} {i : Nat} (d : decode cc pc = .ok (.istore_n k, 1)) (hi : (k : Nat) = i) (hn : i < nL) (kk : E Q (pc + 1)) : E (o_is i Q) pc := by
  refine si_lo hE (fun L st σ z => ?_) kk
  unfold o_is at z
  split at z
  · exact ⟨_, _, z, fun p l e R s m args below meth c H locs cells slots Z ls hx hb hl kk => lv_istore_n hx hb d hi (lrep_has hl) hn rfl (fun ls' h => kk ls' (lrep_st1 h))⟩
  · exact z.elim
theorem si_istore (hE : IsEnt w y cc nL ret fr lo ht Rt E X) {i : Nat} (d : decode cc pc = .ok (.istore i, 2)) (hn : i < nL) (kk : E Q (pc + 2)) : E (o_is i Q) pc := by
  refine si_lo hE (fun L st σ z => ?_) kk
  unfold o_is at z
  split at z
  · exact ⟨_, _, z, fun p l e R s m args below meth c H locs cells slots Z ls hx hb hl kk => lv_istore hx hb d (lrep_has hl) hn rfl (fun ls' h => kk ls' (lrep_st1 h))⟩
  · exact z.elim
theorem si_lstore_n (hE : IsEnt w y cc nL ret fr lo ht Rt E X) {k : Fin 4} {i : Nat} (d : decode cc pc = .ok (.lstore_n k, 1)) (hi : (k : Nat) = i) (hn : i + 1 < nL) (kk : E Q (pc + 1)) : E (o_ls i Q) pc := by
  refine si_lo hE (fun L st σ z => ?_) kk
  unfold o_ls at z
  split at z
  · exact ⟨_, _, z, fun p l e R s m args below meth c H locs cells slots Z ls hx hb hl kk => lv_lstore_n hx hb d hi (lrep_has hl) hn rfl (fun ls' h => kk ls' (lrep_st2 h))⟩
  · exact z.elim
theorem si_lstore (hE : IsEnt w y cc nL ret fr lo ht Rt E X) {i : Nat} (d : decode cc pc = .ok (.lstore i, 2)) (hn : i + 1 < nL) (kk : E Q (pc + 2)) : E (o_ls i Q) pc := by
  refine si_lo hE (fun L st σ z => ?_) kk
  unfold o_ls at z
  split at z
  · exact ⟨_, _, z, fun p l e R s m args below meth c H locs cells slots Z ls hx hb hl kk => lv_lstore hx hb d (lrep_has hl) hn rfl (fun ls' h => kk ls' (lrep_st2 h))⟩
  · exact z.elim
theorem si_astore_n (hE : IsEnt w y cc nL ret fr lo ht Rt E X) {k : Fin 4} {i : Nat} (d : decode cc pc = .ok (.astore_n k, 1)) (hi : (k : Nat) = i) (hn : i < nL) (kk : E Q (pc + 1)) : E (o_as i Q) pc := by
  refine si_lo hE (fun L st σ z => ?_) kk
  unfold o_as at z
  split at z
  · exact ⟨_, _, z, fun p l e R s m args below meth c H locs cells slots Z ls hx hb hl kk => lv_astore_n hx hb d hi (lrep_has hl) hn rfl (fun ls' h => kk ls' (lrep_st1 h))⟩
  · exact ⟨_, _, z, fun p l e R s m args below meth c H locs cells slots Z ls hx hb hl kk => lv_astore_nN hx hb d hi (lrep_has hl) hn rfl (fun ls' h => kk ls' (lrep_st1 h))⟩
  · exact z.elim
theorem si_astore (hE : IsEnt w y cc nL ret fr lo ht Rt E X) {i : Nat} (d : decode cc pc = .ok (.astore i, 2)) (hn : i < nL) (kk : E Q (pc + 2)) : E (o_as i Q) pc := by
  refine si_lo hE (fun L st σ z => ?_) kk
  unfold o_as at z
  split at z
  · exact ⟨_, _, z, fun p l e R s m args below meth c H locs cells slots Z ls hx hb hl kk => lv_astore hx hb d (lrep_has hl) hn rfl (fun ls' h => kk ls' (lrep_st1 h))⟩
  · exact ⟨_, _, z, fun p l e R s m args below meth c H locs cells slots Z ls hx hb hl kk => lv_astoreN hx hb d (lrep_has hl) hn rfl (fun ls' h => kk ls' (lrep_st1 h))⟩
  · exact z.elim
def o_iinc (i : Nat) (v : Int32) (Q : Cont S) : Cont S := fun L st σ => match L[i]? with
  | some (some (.int x)) => Q (L.set i (some (.int (x + v)))) st σ
  | _ => False
theorem si_iinc (hE : IsEnt w y cc nL ret fr lo ht Rt E X) {i : Nat} {n : Int} {v : Int32} (d : decode cc pc = .ok (.iinc i n, 3)) (hv : Int32.ofInt n = v) (hn : i < nL) (kk : E Q (pc + 3)) : E (o_iinc i v Q) pc := by
  refine si_lo hE (fun L st σ z => ?_) kk
  unfold o_iinc at z
  split at z
  · next x h =>
    refine ⟨_, _, z, fun p l e R s m args below meth c H locs cells slots Z ls hx hb hl kk => ?_⟩
    obtain ⟨j, hj⟩ := List.getElem?_of_mem (lpairs_mem.mpr (show L[(i, Value.int x).1]? = some (some (i, Value.int x).2) from h))
    refine lv_iinc hx hb d (lrep_has hl) hj (by rw [hv]) hn rfl (fun ls' h2 => kk ls' ?_)
    have h3 := lrep_st1 h2
    refine ⟨h3.1, h3.2.1, fun j u hu => h3.2.2 j u ?_⟩
    have hwf := hl.2.1
    -- no long ends at i: the local i is an int
    cases i with
    | zero => exact hu
    | succ k =>
      have hno : ∀ z, L[k]? = some (some z) → z.category ≠ 2 := by
        intro z hz hc
        have a1 := hl.2.2 _ _ hz
        have a2 := hwf.1 k z a1 hc
        have a3 := hl.2.2 _ _ h
        rw [a2] at a3
        cases a3
      simp only [st1]
      split
      · next z hz => exact absurd rfl (hno _ hz)
      · next z hz => exact absurd rfl (hno _ hz)
      · exact hu
  · exact z.elim
/-- locals that are no longer read are forgotten -/
def o_kill (ks : List Nat) (Q : Cont S) : Cont S := fun L st σ => Q (ks.foldl (fun M k => M.set k none) L) st σ
theorem lrep_kill {ls : Array Slot} {nL : Nat} : ∀ (ks : List Nat) {L : Lc}, lrep ls nL L → lrep ls nL (ks.foldl (fun M k => M.set k none) L)
  | [], _, h => h
  | k :: ks, L, h => lrep_kill ks (L := L.set k none) ⟨h.1, h.2.1, fun i v q => h.2.2 i v (by
      by_cases e : i = k
      · subst e
        rw [List.getElem?_set] at q
        simp at q
      · rwa [List.getElem?_set_ne (Ne.symm e)] at q)⟩
theorem si_kill (hE : IsEnt w y cc nL ret fr lo ht Rt E X) {ks : List Nat} (k : E Q pc) : E (o_kill ks Q) pc := by
  refine si_lo hE (fun L st σ z => ?_) k
  exact ⟨_, _, z, fun p l e R s m args below meth c H locs cells slots Z ls hx hb hl kk => kk ls (lrep_kill ks hl)⟩
/-! switches -/
def swR (x : Int32) (D : Prop) : List (Int32 × Prop) → Prop
  | [] => D
  | (k, T) :: r => (x = k → T) ∧ (¬ x = k → swR x D r)
def o_sw (tbl : List (Int32 × Cont S)) (D : Cont S) : Cont S := fun L st σ => match st with
  | .int x :: st => swR x (D L st σ) (tbl.map (fun q => (q.1, q.2 L st σ)))
  | _ => False
def swT (E : Cont S → Nat → Prop) (pc : Nat) : Int → List Int → List (Int32 × Cont S) → Prop
  | _, [], [] => True
  | lo, off :: os, (k, T) :: r => (∃ tgt : Nat, (pc : Int) + off = tgt ∧ k.toInt = lo ∧ E T tgt) ∧ swT E pc (lo + 1) os r
  | _, _, _ => False
def swL (E : Cont S → Nat → Prop) (pc : Nat) : List (Int × Int) → List (Int32 × Cont S) → Prop
  | [], [] => True
  | (a, off) :: os, (k, T) :: r => (∃ tgt : Nat, (pc : Int) + off = tgt ∧ k.toInt = a ∧ E T tgt) ∧ swL E pc os r
  | _, _ => False
theorem swT_pick {E : Cont S → Nat → Prop} {pc : Nat} {L : Lc} {st : List Value} {σ : S} {D : Prop} {x : Int32} : ∀ {lo : Int} {os : List Int} {tbl : List (Int32 × Cont S)}, swT E pc lo os tbl → swR x D (tbl.map (fun q => (q.1, q.2 L st σ))) →
    (∃ (i : Nat) (off : Int) (tgt : Nat) (T : Cont S), x.toInt = lo + i ∧ os[i]? = some off ∧ (pc : Int) + off = tgt ∧ E T tgt ∧ T L st σ) ∨ ((x.toInt < lo ∨ lo + os.length ≤ x.toInt) ∧ D)
  | lo, [], [], _, h => Or.inr ⟨by have := Int.lt_or_le x.toInt lo; simpa using this, h⟩
  | lo, off :: os, (k, T) :: r, h, g => by
    obtain ⟨⟨tgt, t1, t2, t3⟩, h2⟩ := h
    by_cases hx : x = k
    · exact Or.inl ⟨0, off, tgt, T, by rw [hx, t2]; simp, rfl, t1, t3, g.1 hx⟩
    · have hne : x.toInt ≠ lo := fun q => hx (Int32.toInt_inj.mp (by rw [q, t2]))
      rcases swT_pick h2 (g.2 hx) with ⟨i, off', tgt', T', a1, a2, a3⟩ | ⟨a1, a2⟩
      · exact Or.inl ⟨i + 1, off', tgt', T', by rw [a1]; push_cast; omega, a2, a3⟩
      · refine Or.inr ⟨?_, a2⟩
        simp only [List.length_cons]
        push_cast
        omega
  | _, [], _ :: _, h, _ => h.elim
  | _, _ :: _, [], h, _ => h.elim
theorem si_tsw (hE : IsEnt w y cc nL ret fr lo ht Rt E X) {dflt lo9 hi : Int} {offs : Array Int} {len td : Nat} {tbl : List (Int32 × Cont S)} {D : Cont S} (d : decode cc pc = .ok (.tableswitch dflt lo9 hi offs, len)) (hh : lo9 + offs.toList.length = hi + 1) (hd : (pc : Int) + dflt = (td : Int)) (kD : E D td) (kT : swT E pc lo9 offs.toList tbl) : E (o_sw tbl D) pc := by
  obtain ⟨p, l, e, R, s, m, args, below, meth, c, b0, hI, -, hx, hb, -⟩ := hE
  rw [hI] at kD ⊢
  intro L st σ z H locs cells slots ls h1 h2 h3 h4 h5
  unfold o_sw at z
  split at z
  · next x st' =>
    rcases swT_pick kT z with ⟨i, off, tgt, T, a1, a2, a3, a4, a5⟩ | ⟨a1, a2⟩
    · have hlt : i < offs.toList.length := (List.getElem?_eq_some_iff.mp a2).1
      refine lv_tableIn hx hb d (by omega) (by omega) (off := off) (tgt := tgt) ?_ a3 ((hI _ _).mp a4 L st' σ a5 H locs cells slots ls h1 h2 h3 h4 h5)
      have : (x.toInt - lo9).toNat = i := by omega
      rw [this]
      simpa using a2
    · exact lv_tableOut hx hb d (by omega) hd (kD L st' σ a2 H locs cells slots ls h1 h2 h3 h4 h5)
  · exact z.elim
theorem swL_pick {E : Cont S → Nat → Prop} {pc : Nat} {L : Lc} {st : List Value} {σ : S} {D : Prop} {x : Int32} {dflt : Int} : ∀ {os : List (Int × Int)} {tbl : List (Int32 × Cont S)}, swL E pc os tbl → swR x D (tbl.map (fun q => (q.1, q.2 L st σ))) →
    (∃ (off : Int) (tgt : Nat) (T : Cont S), Op.lookupswitch.offset os dflt x.toInt = off ∧ (pc : Int) + off = tgt ∧ E T tgt ∧ T L st σ) ∨ (Op.lookupswitch.offset os dflt x.toInt = dflt ∧ D)
  | [], [], _, h => Or.inr ⟨rfl, h⟩
  | (a, off) :: os, (k, T) :: r, h, g => by
    obtain ⟨⟨tgt, t1, t2, t3⟩, h2⟩ := h
    by_cases hx : x = k
    · exact Or.inl ⟨off, tgt, T, by rw [Op.lookupswitch.offset_cons, if_pos (by rw [hx, t2])], t1, t3, g.1 hx⟩
    · rw [lv_osw hx t2]
      exact swL_pick h2 (g.2 hx)
  | [], _ :: _, h, _ => h.elim
  | _ :: _, [], h, _ => h.elim
theorem si_lsw (hE : IsEnt w y cc nL ret fr lo ht Rt E X) {dflt : Int} {ps : Array (Int × Int)} {len td : Nat} {tbl : List (Int32 × Cont S)} {D : Cont S} (d : decode cc pc = .ok (.lookupswitch dflt ps, len)) (hp : (ps.toList.zip (ps.toList.drop 1)).all (fun (a, next) => a.1 < next.1) = true) (hd : (pc : Int) + dflt = (td : Int)) (kD : E D td) (kT : swL E pc ps.toList tbl) : E (o_sw tbl D) pc := by
  obtain ⟨p, l, e, R, s, m, args, below, meth, c, b0, hI, -, hx, hb, -⟩ := hE
  rw [hI] at kD ⊢
  intro L st σ z H locs cells slots ls h1 h2 h3 h4 h5
  unfold o_sw at z
  split at z
  · next x st' =>
    rcases swL_pick (dflt := dflt) kT z with ⟨off, tgt, T, a2, a3, a4, a5⟩ | ⟨a1, a2⟩
    · exact lv_lookup hx hb d hp a2 a3 ((hI _ _).mp a4 L st' σ a5 H locs cells slots ls h1 h2 h3 h4 h5)
    · exact lv_lookup hx hb d hp a1 hd (kD L st' σ a2 H locs cells slots ls h1 h2 h3 h4 h5)
  · exact z.elim
end FND

