/-! FOUNDATION 3: links, the call op -/
set_option maxRecDepth 100000
def popN : Nat → List Value → List Value → Option (List Value × List Value)
  | 0, acc, st => some (acc, st)
  | n + 1, acc, v :: st => popN n (v :: acc) st
  | _ + 1, _, [] => none
theorem popN_spec : ∀ {n : Nat} {acc st as st' : List Value}, popN n acc st = some (as, st') → ∃ pre : List Value, as = pre ++ acc ∧ pre.length = n ∧ st = pre.reverse ++ st'
  | 0, acc, st, as, st', h => by cases h; exact ⟨[], rfl, rfl, rfl⟩
  | n + 1, acc, v :: st, as, st', h => by
    obtain ⟨pre, h1, h2, h3⟩ := popN_spec (n := n) (acc := v :: acc) (st := st) h
    exact ⟨pre ++ [v], by rw [h1]; simp, by simp [h2], by rw [h3]; simp⟩
  | n + 1, acc, [], as, st', h => by cases h
/-- what follows a call -/
def aft {S : Type} (L : Lc) (st : List Value) (Xc : Lc → Nat → S → Prop) (Q : Cont S) : Ret S := fun r σ => match r with
  | .inl (some v) => Q L (v :: st) σ
  | .inl none => Q L st σ
  | .inr a => Xc L a σ
def o_call {S : Type} (n : Nat) (G : PT S) (Xc : Lc → Nat → S → Prop) (Q : Cont S) : Cont S := fun L st σ => match popN n [] st with
  | some (as, st') => (st'.length ≤ 4 ∨ (st'.map fun v => v.category).sum ≤ 8) ∧ G as σ (aft L st' Xc Q)
  | none => False
/-- the invoking instruction links and enters y2 -/
def Lk {S : Type} (w : Wd S) (own : String) (ins : Instr) (as : List Value) (σ : S) (y2 : MethodName) : Prop :=
  ∀ (p : Program) (l : Launch) (e : Env) (R : Room) (s : State) (m : MethodId) (args : Array Value) (below : List Frame) (meth : Method) (c : Code) (T : State) (locs : List Loc) (cells slots : Nat), Stand p l e R s m args below meth c T locs cells slots →
    p.tables.exec = Jvm.exec → s.vm.findClass own = some m.cls → (∀ wd ∈ lw_all, wd.before args s = true) → w.2.2.2 s → w.1 σ T.heap → ∀ (g : JFrame), g.method = m → ∀ (rest : List Value), g.stack = as.reverse ++ rest → decode c.code g.pc = .ok (ins, 3) →
    ∃ (vm₁ : Vm) (mk : MethodId), Stand p l e R s m args below meth c (T.setVm vm₁) locs cells slots ∧ (T.setVm vm₁).methodNamed? y2 = some mk ∧
      ∀ target, Steps p.tables e below (doInvoke e ((T.setVm vm₁).setTop { g with stack := rest }) [] mk as.toArray).1 target → Steps p.tables e below (T.setTop g) target
def Cal {S : Type} (w : Wd S) (own : String) (ins : Instr) (fr lo : Nat) (as : List Value) (σ : S) (Q : Ret S) : Prop :=
  ∃ (y2 : MethodName) (wd : Cond) (fr2 lo2 : Nat) (pt : PT S) (cc2 : ByteArray) (nL2 : Nat) (ret2 : Option FieldType) (ht2 : HT), CT w y2 wd fr2 lo2 pt ∧ wd ∈ lw_all ∧ isCodeW y2 cc2 nL2 ret2 ht2 wd ∧ Cond.initialized y2.cls ∈ lw_all ∧ fr2 + 1 ≤ fr ∧ 8 + (nL2 + 11) + lo2 ≤ lo ∧ pt as σ Q ∧ Lk w own ins as σ y2
theorem cat_sum (st : List Value) : (st.map fun v => v.category).sum ≤ 2 * st.length := by
  induction st with
  | nil => simp
  | cons v t ih =>
    have := lv_cat v
    simp only [List.map_cons, List.sum_cons, List.length_cons]
    omega
theorem si_call {S : Type} {w : Wd S} {y : MethodName} {cc : ByteArray} {nL : Nat} {ret : Option FieldType} {fr lo : Nat} {ht : HT} {Rt : Ret S} {E : Cont S → Nat → Prop} {X : (Lc → Nat → S → Prop) → Nat → Prop} {pc : Nat} {Q : Cont S} {n : Nat} {G : PT S} {Xc : Lc → Nat → S → Prop} {ins : Instr}
    (hw : WdOK w) (hE : IsEnt w y cc nL ret fr lo ht Rt E X) (d : decode cc pc = .ok (ins, 3)) (hG : ∀ as σ Q', as.length = n → G as σ Q' → Cal w y.cls ins fr lo as σ Q') (hX : X Xc pc) (k : E Q (pc + 3)) : E (o_call n G Xc Q) pc := by
  obtain ⟨p, l, e, R, s, m, args, below, meth, c, b0, hI, hXI, hx, hb, hml, hr, hown, hts, hlocks, -, hKn, hKnW, ⟨hR1, hR2, hR3, hR4⟩, -⟩ := hE
  rw [hI] at k ⊢
  rw [hXI] at hX
  intro L st σ z H locs cells slots ls h1 h2 h3 h4 h5
  unfold o_call at z
  split at z
  · next as st' hpop =>
    obtain ⟨hlen4, z⟩ := z
    obtain ⟨pre, e1, e2, e3⟩ := popN_spec hpop
    rw [List.append_nil] at e1
    subst e1
    obtain ⟨y2, wd, fr2, lo2, pt, cc2, nL2, ret2, ht2, hC, hwd, hcode, hini, hfr, hlo, hpt, hlk⟩ := hG _ _ _ e2 z
    intro T hT Y
    have hdg : decode c.code (F0 m pc ls st).pc = .ok (ins, 3) := by rw [hb]; exact d
    obtain ⟨vm₁, mk, Y1, hn, st1⟩ := hlk p l e R s m args below meth c T locs cells slots Y hx hown hts hKn (by rw [hT]; exact h1) (F0 m pc ls st) rfl st' e3 hdg
    have hheap1 : (T.setVm vm₁).heap = H := hT
    have hcat : 2 * (F0 m pc ls st').monitorRoom + (st'.map fun v => v.category).sum ≤ 8 := by
      have := cat_sum st'
      have h0 : (F0 m pc ls st').monitorRoom = 0 := rfl
      rw [h0]
      rcases hlen4 with hlen4 | hlen4
      · omega
      · omega
    obtain ⟨r, σ', T', L', k', n', hQ, hR, Y', hL, hk', hn', stp⟩ := call_core hw hC hwd hcode hini Y1 hts (hKnW _ Y1.warmed) hpt (by rw [hheap1]; exact h1) (by omega) (by omega) (by omega) (by omega) (g := F0 m pc ls st') rfl (by rw [hml]; exact h5.1) hdg hcat hn
    have hlocs : ∀ q ∈ locs ++ L', w.2.2.1 q.base := fun q hq => by
      rcases List.mem_append.mp hq with a | a
      · exact h2 q a
      · exact hL q a
    match r, hQ, stp with
    | .inl (some v), hQ, stp =>
      obtain ⟨t, b1, b2⟩ := k L (v :: st') σ' hQ T'.heap (locs ++ L') (cells + k') (slots + n') ls hR hlocs (by omega) (by omega) h5 T' rfl Y'
      exact ⟨t, st1 t (stp.trans b1), b2⟩
    | .inl none, hQ, stp =>
      obtain ⟨t, b1, b2⟩ := k L st' σ' hQ T'.heap (locs ++ L') (cells + k') (slots + n') ls hR hlocs (by omega) (by omega) h5 T' rfl Y'
      exact ⟨t, st1 t (stp.trans b1), b2⟩
    | .inr a, hQ, stp =>
      obtain ⟨t, b1, b2⟩ := hX L a σ' hQ T'.heap (locs ++ L') (cells + k') (slots + n') ls st' T' hR hlocs (by omega) (by omega) h5 rfl Y'
      exact ⟨t, st1 t (stp.trans b1), b2⟩
  · exact z.elim
def notMH (s : String) : Prop := s ≠ "java/lang/invoke/MethodHandle" ∧ s ≠ "java/lang/invoke/VarHandle"
/-- an object of the class C stands at b -/
def Recv {S : Type} (w : Wd S) (C : String) (b : Nat) (σ : S) : Prop := ∀ (s : State) (H : Heap), w.2.2.2 s → w.1 σ H → ∃ cell : Cell, H[b]? = some cell ∧ cell.vm.isStatics = false ∧ s.vm.findClass C = some cell.cls
def parN (y : MethodName) (n : Nat) : Prop := (parseMethodDescriptor y.desc).map (fun d => d.parameters.length) = some n
theorem parN.len {y : MethodName} {n : Nat} (h : parN y n) {as : List Value} (ha : as.length = n) : ∀ sig, parseMethodDescriptor y.desc = some sig → as.length = sig.parameters.length := by
  intro sig hs
  unfold parN at h
  rw [hs] at h
  exact ha.trans (Option.some.inj h).symm
section LINK
variable {S : Type} {w : Wd S} {own C : String} {idx n : Nat} {y : MethodName} {wd : Cond} {cc : ByteArray} {nL : Nat} {ret : Option FieldType} {ht : HT} {b : Nat} {as' : List Value} {σ : S}
theorem lk_V (hl : Cond.methodLink own idx y ∈ lw_all) (hi : Cond.instanceMethod y ∈ lw_all) (hs : Cond.selects C y y ∈ lw_all) (hwd : wd ∈ lw_all) (hc : isCodeW y cc nL ret ht wd) (hy : notMH y.cls) (hp : parN y n) (ha : as'.length = n) (hr : Recv w C b σ) : Lk w own (.invokevirtual idx) (.ref b :: as') σ y := by
  intro p l e R s m args below meth c T locs cells slots Y hexec hown hts hKn hRp g hg rest hst hdg
  obtain ⟨cellB, hcell, hobj, hcls⟩ := hr s T.heap hKn hRp
  obtain ⟨mk, methM, hnamed, hmethM, hstM, habM⟩ := Cond.instanceMethod_spec (hts _ hi)
  obtain ⟨mk', methM', cM, hnamed', hmethM', -, -, -, -, -, -, hsigM⟩ := hc.spec (hts _ hwd)
  cases hnamed.symm.trans hnamed'
  cases hmethM.symm.trans hmethM'
  obtain ⟨c2, r2, m2, q1, q2, q3, q4, kP, hkP, hkPi⟩ := Cond.selects_spec (hts _ hs)
  cases hcls.symm.trans q1
  cases (State.methodFound?_of_named hnamed hy).symm.trans q2
  cases hnamed.symm.trans q3
  have hselP : selectMethod e.platform s.vm cellB.cls mk = .method mk := by rw [Launch.admits_selectMethod Y.admits]; exact q4
  obtain ⟨vm₁, X₁, hstep₁⟩ := Y.invokevirtual hexec hown (hts _ hl) hnamed hmethM hstM hkP hkPi hy (a := b) (cell := cellB) hcell
    (fun z h => by rw [h] at hobj; cases hobj) hselP hmethM habM hkP hkPi (g := g) hg (argsL := as') (rest := rest) (hp.len ha _ hsigM) (by rw [hst]; simp) hdg
  exact ⟨vm₁, mk, X₁, X₁.named hnamed, fun target h => hstep₁ _ fun acts => by rw [doInvoke_state]; exact h⟩
theorem lk_S {as : List Value} (hl : Cond.methodLink own idx y ∈ lw_all) (hi : Cond.static y ∈ lw_all) (hin : Cond.initialized y.cls ∈ lw_all) (hwd : wd ∈ lw_all) (hc : isCodeW y cc nL ret ht wd) (hy : notMH y.cls) (hp : parN y n) (ha : as.length = n) : Lk w own (.invokestatic idx) as σ y := by
  intro p l e R s m args below meth c T locs cells slots Y hexec hown hts hKn hRp g hg rest hst hdg
  obtain ⟨mk, methM, cM, hnamed, hmethM, -, -, -, -, -, -, hsigM⟩ := hc.spec (hts _ hwd)
  have hstatic : methM.isStatic = true := Cond.static_spec hnamed hmethM (hts _ hi)
  obtain ⟨kP, hkP, -⟩ := className_of_methodNamed hnamed
  have hinitP : kP.init = .initialized := Cond.initialized_spec (findClass_of_methodNamed hnamed) hkP (hts _ hin)
  obtain ⟨vm₁, X₁, hstep₁⟩ := Y.invokestatic hexec hown (hts _ hl) hnamed hmethM hstatic hkP hinitP hy (g := g) hg (argsL := as) (rest := rest) (hp.len ha _ hsigM) hst hdg
  exact ⟨vm₁, mk, X₁, X₁.named hnamed, fun target h => hstep₁ _ fun acts => by rw [doInvoke_state]; exact h⟩
theorem lk_I (hl : Cond.methodLink own idx y ∈ lw_all) (hi : Cond.instanceMethod y ∈ lw_all) (hwd : Cond.code y cc nL none ∈ lw_all) (hn : y.name = "<init>") (hy : notMH y.cls) (hp : parN y n) (ha : as'.length = n) : Lk w own (.invokespecial idx) (.ref b :: as') σ y := by
  intro p l e R s m args below meth c T locs cells slots Y hexec hown hts hKn hRp g hg rest hst hdg
  subst hg
  have hpl : e.platform.magicAccessors = ({} : Platform).magicAccessors := by rw [Y.admits.platform]
  obtain ⟨mk, methM, cM, kP, vm₁, hnamed, hmethM, hcodeM, -, hlocalsM, -, hkP, -, hW₁, hstep₁⟩ := Steps.initColdArgs (e := e) Y.here hexec Y.warmed hpl hown hn hy (hts _ hl) (hts _ hi) (hts _ hwd) (f := g) rfl (hp.len ha) (argsL := as') (rest := rest) (by rw [hst]; simp; rfl) hdg
  have X₁ := Y.noted hW₁
  exact ⟨vm₁, mk, X₁, X₁.named hnamed, fun target h => hstep₁ _ fun acts => by rw [doInvoke_state]; exact h⟩
theorem lk_U {owner : String} {x : MethodName} (hl : Cond.methodLink own idx x ∈ lw_all) (hsm : Cond.sameMethod x.cls owner x.name x.desc ∈ lw_all) (hd0 : ∀ s, w.2.2.2 s → (∀ (args : Array Value), (∀ wd ∈ lw_all, wd.before args s = true) → va_Decl s ⟨owner, x.name, x.desc⟩)) (ho : notMH owner) (hs : Cond.selects C x y ∈ lw_all) (hi : Cond.instanceMethod y ∈ lw_all) (hp : parN x n) (ha : as'.length = n) (hr : Recv w C b σ) : Lk w own (.invokevirtual idx) (.ref b :: as') σ y := by
  intro p l e R s m args below meth c T locs cells slots Y hexec hown hts hKn hRp g hg rest hst hdg
  obtain ⟨cellB, hcell, hobj, hcls⟩ := hr s T.heap hKn hRp
  obtain ⟨r0, r, hn, hrm, hstR, hsigR⟩ := hd0 s hKn args hts
  obtain ⟨cn, ck, r1, hcn, hck, hni, hf, hn1⟩ := Cond.sameMethod_found (hts _ hsm)
  cases hn.symm.trans hn1
  obtain ⟨mk, methM, hnamed, hmethM, -, habM⟩ := Cond.instanceMethod_spec (hts _ hi)
  obtain ⟨c2, r2, m2, q1, q2, q3, q4, kP, hkP, hkPi⟩ := Cond.selects_spec (hts _ hs)
  cases hcls.symm.trans q1
  cases hf.symm.trans q2
  cases hnamed.symm.trans q3
  have hselP : selectMethod e.platform s.vm cellB.cls r0 = .method mk := by rw [Launch.admits_selectMethod Y.admits]; exact q4
  obtain ⟨vm₁, X₁, hstep₁⟩ := Y.invokevirtualUp hexec hown (hts _ hl) (hts _ hsm) ho hn hrm hstR (a := b) (cell := cellB) hcell
    (fun z h => by rw [h] at hobj; cases hobj) hselP hmethM habM hkP hkPi (g := g) hg (argsL := as') (rest := rest) (hp.len ha _ hsigR) (by rw [hst]; simp) hdg
  exact ⟨vm₁, mk, X₁, X₁.named hnamed, fun target h => hstep₁ _ fun acts => by rw [doInvoke_state]; exact h⟩
theorem lk_VN {host : String} (hl : ∀ s, w.2.2.2 s → va_Nw (.methodLinkNest own idx y host) s) (hi : Cond.instanceMethod y ∈ lw_all) (hs : Cond.selects C y y ∈ lw_all) (hwd : wd ∈ lw_all) (hc : isCodeW y cc nL ret ht wd) (hy : notMH y.cls) (hp : parN y n) (ha : as'.length = n) (hr : Recv w C b σ) : Lk w own (.invokevirtual idx) (.ref b :: as') σ y := by
  intro p l e R s m args below meth c T locs cells slots Y hexec hown hts hKn hRp g hg rest hst hdg
  obtain ⟨cellB, hcell, hobj, hcls⟩ := hr s T.heap hKn hRp
  obtain ⟨mk, methM, hnamed, hmethM, hstM, habM⟩ := Cond.instanceMethod_spec (hts _ hi)
  obtain ⟨mk', methM', cM, hnamed', hmethM', -, -, -, -, -, -, hsigM⟩ := hc.spec (hts _ hwd)
  cases hnamed.symm.trans hnamed'
  cases hmethM.symm.trans hmethM'
  obtain ⟨c2, r2, m2, q1, q2, q3, q4, kP, hkP, hkPi⟩ := Cond.selects_spec (hts _ hs)
  cases hcls.symm.trans q1
  cases (State.methodFound?_of_named hnamed hy).symm.trans q2
  cases hnamed.symm.trans q3
  have hselP : selectMethod e.platform s.vm cellB.cls mk = .method mk := by rw [Launch.admits_selectMethod Y.admits]; exact q4
  obtain ⟨vm₁, X₁, hstep₁⟩ := Y.invokevirtualNest hexec hown (va_Nw.use rfl (hl s hKn)) hnamed hmethM hstM hkP hkPi hy (a := b) (cell := cellB) hcell
    (fun z h => by rw [h] at hobj; cases hobj) hselP hmethM habM hkP hkPi (g := g) hg (argsL := as') (rest := rest) (hp.len ha _ hsigM) (by rw [hst]; simp) hdg
  exact ⟨vm₁, mk, X₁, X₁.named hnamed, fun target h => hstep₁ _ fun acts => by rw [doInvoke_state]; exact h⟩
theorem lk_SN {host : String} {as : List Value} (hl : ∀ s, w.2.2.2 s → va_Nw (.methodLinkNest own idx y host) s) (hi : Cond.static y ∈ lw_all) (hin : Cond.initialized y.cls ∈ lw_all) (hwd : wd ∈ lw_all) (hc : isCodeW y cc nL ret ht wd) (hy : notMH y.cls) (hp : parN y n) (ha : as.length = n) : Lk w own (.invokestatic idx) as σ y := by
  intro p l e R s m args below meth c T locs cells slots Y hexec hown hts hKn hRp g hg rest hst hdg
  obtain ⟨mk, methM, cM, hnamed, hmethM, -, -, -, -, -, -, hsigM⟩ := hc.spec (hts _ hwd)
  have hstatic : methM.isStatic = true := Cond.static_spec hnamed hmethM (hts _ hi)
  obtain ⟨kP, hkP, -⟩ := className_of_methodNamed hnamed
  have hinitP : kP.init = .initialized := Cond.initialized_spec (findClass_of_methodNamed hnamed) hkP (hts _ hin)
  obtain ⟨vm₁, X₁, hstep₁⟩ := Y.invokestaticNest hexec hown (va_Nw.use rfl (hl s hKn)) hnamed hmethM hstatic hkP hinitP hy (g := g) hg (argsL := as) (rest := rest) (hp.len ha _ hsigM) hst hdg
  exact ⟨vm₁, mk, X₁, X₁.named hnamed, fun target h => hstep₁ _ fun acts => by rw [doInvoke_state]; exact h⟩
theorem lk_IN {host : String} (hl : ∀ s, w.2.2.2 s → va_Nw (.methodLinkNest own idx y host) s) (hi : Cond.instanceMethod y ∈ lw_all) (hwd : Cond.code y cc nL none ∈ lw_all) (hn : y.name = "<init>") (hy : notMH y.cls) (hp : parN y n) (ha : as'.length = n) : Lk w own (.invokespecial idx) (.ref b :: as') σ y := by
  intro p l e R s m args below meth c T locs cells slots Y hexec hown hts hKn hRp g hg rest hst hdg
  subst hg
  have hpl : e.platform.magicAccessors = ({} : Platform).magicAccessors := by rw [Y.admits.platform]
  obtain ⟨mk, methM, cM, kP, vm₁, hnamed, hmethM, hcodeM, -, hlocalsM, -, hkP, -, hW₁, hstep₁⟩ := Steps.initColdArgsNest (e := e) Y.here hexec Y.warmed hpl hown hn hy (va_Nw.use rfl (hl s hKn)) (hts _ hi) (hts _ hwd) (f := g) rfl (hp.len ha) (argsL := as') (rest := rest) (by rw [hst]; simp; rfl) hdg
  have X₁ := Y.noted hW₁
  exact ⟨vm₁, mk, X₁, X₁.named hnamed, fun target h => hstep₁ _ fun acts => by rw [doInvoke_state]; exact h⟩
end LINK
