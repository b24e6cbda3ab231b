/-! FOUNDATION 2: returns, throws, calls, contracts -/
set_option maxRecDepth 100000
theorem W_mono {p : Program} {l : Launch} {e : Env} {R : Room} {s : State} {m : MethodId} {args : Array Value} {below : List Frame} {meth : Method} {c : Code} {H : Heap} {locs : List Loc} {cells slots : Nat} {Z Z' : State → Prop} {g : JFrame} (h : W p l e R s m args below meth c H locs cells slots Z g) (hz : ∀ t, Z t → Z' t) : W p l e R s m args below meth c H locs cells slots Z' g := by
  intro T hT Y
  obtain ⟨t, a, b⟩ := h T hT Y
  exact ⟨t, a, hz t b⟩
section FND2
variable {S : Type} {w : Wd S} {y : MethodName} {cc : ByteArray} {nL : Nat} {ret : Option FieldType} {fr lo : Nat} {ht : HT} {Rt : Ret S} {E : Cont S → Nat → Prop} {X : (Lc → Nat → S → Prop) → Nat → Prop} {pc : Nat} {Q J : Cont S}
/-- what the kit's own end gives -/
theorem endq {b0 : Nat × Nat} {s : State} {below : List Frame} {args : Array Value} {cells slots : Nat} {σ : S} {H : Heap} {v : Option Value} (h1 : w.1 σ H) (h3 : cells + (w.2.1 σ).1 ≤ b0.1) (h4 : slots + (w.2.1 σ).2 ≤ b0.2) (z : Rt (.inl v) σ) : ∀ t, MQ below (fun _ _ o t => o = .returned v ∧ t.heap = H) args s cells slots w.2.2.1 t → EQ_ w b0 Rt s below t := by
  rintro t ⟨o, t1, t2, ⟨rfl, htH⟩, Lq, ⟨-, hW, hsame⟩, hL⟩
  exact ⟨_, t1, t2, .inl v, σ, z, rfl, by rw [htH]; exact h1, hW, Lq, cells, slots, hsame, hL, h3, h4⟩
def o_ireturn (R : Ret S) : Cont S := fun _ st σ => match st with
  | [.int v] => R (.inl (some (.int v))) σ
  | _ => False
theorem si_ireturn (hE : IsEnt w y cc nL (some .int) fr lo ht Rt E X) (d : decode cc pc = .ok (.ireturn, 1)) : E (o_ireturn Rt) pc := by
  obtain ⟨p, l, e, R, s, m, args, below, meth, c, b0, hI, -, hx, hb, -, hr, -, -, hlocks, -⟩ := hE
  rw [hI]
  intro L st σ z H locs cells slots ls h1 h2 h3 h4 h5
  unfold o_ireturn at z
  split at z
  · exact W_mono (W.iret hx hb hr (fun t ht hW => ⟨rfl, ht⟩) h2 d hlocks) (endq h1 h3 h4 z)
  · exact z.elim
def o_zreturn (R : Ret S) : Cont S := fun _ st σ => match st with
  | [.int v] => (v = 0 ∨ v = 1) ∧ R (.inl (some (.int v))) σ
  | _ => False
theorem si_zreturn (hE : IsEnt w y cc nL (some .boolean) fr lo ht Rt E X) (d : decode cc pc = .ok (.ireturn, 1)) : E (o_zreturn Rt) pc := by
  obtain ⟨p, l, e, R, s, m, args, below, meth, c, b0, hI, -, hx, hb, -, hr, -, -, hlocks, -⟩ := hE
  rw [hI]
  intro L st σ z H locs cells slots ls h1 h2 h3 h4 h5
  unfold o_zreturn at z
  split at z
  · have hn : ∀ v : Int32, v = 0 ∨ v = 1 → narrow .boolean (.int v) = .int v := by rintro v (rfl | rfl) <;> rfl
    exact W_mono (W.zret hx hb hr (hn _ z.1) (fun t ht hW => ⟨rfl, ht⟩) h2 d hlocks) (endq h1 h3 h4 z.2)
  · exact z.elim
/-- a byte, a char: what is returned is in its range -/
def o_nreturn (ty : FieldType) (R : Ret S) : Cont S := fun _ st σ => match st with
  | [.int v] => narrow ty (.int v) = .int v ∧ R (.inl (some (.int v))) σ
  | _ => False
theorem si_nreturn {ty : FieldType} (hE : IsEnt w y cc nL (some ty) fr lo ht Rt E X) (d : decode cc pc = .ok (.ireturn, 1)) : E (o_nreturn ty Rt) pc := by
  obtain ⟨p, l, e, R, s, m, args, below, meth, c, b0, hI, -, hx, hb, -, hr, -, -, hlocks, -⟩ := hE
  rw [hI]
  intro L st σ z H locs cells slots ls h1 h2 h3 h4 h5
  unfold o_nreturn at z
  split at z
  · exact W_mono (W.zret hx hb hr z.1 (fun t ht hW => ⟨rfl, ht⟩) h2 d hlocks) (endq h1 h3 h4 z.2)
  · exact z.elim
def o_lreturn (R : Ret S) : Cont S := fun _ st σ => match st with
  | [.long v] => R (.inl (some (.long v))) σ
  | _ => False
theorem si_lreturn (hE : IsEnt w y cc nL (some .long) fr lo ht Rt E X) (d : decode cc pc = .ok (.lreturn, 1)) : E (o_lreturn Rt) pc := by
  obtain ⟨p, l, e, R, s, m, args, below, meth, c, b0, hI, -, hx, hb, -, hr, -, -, hlocks, -⟩ := hE
  rw [hI]
  intro L st σ z H locs cells slots ls h1 h2 h3 h4 h5
  unfold o_lreturn at z
  split at z
  · exact W_mono (W.lret hx hb hr (fun t ht hW => ⟨rfl, ht⟩) h2 d hlocks) (endq h1 h3 h4 z)
  · exact z.elim
def o_areturn (R : Ret S) : Cont S := fun _ st σ => match st with
  | [.ref a] => R (.inl (some (.ref a))) σ
  | [.null] => R (.inl (some .null)) σ
  | _ => False
theorem si_areturn {rt : FieldType} (hE : IsEnt w y cc nL (some rt) fr lo ht Rt E X) (hrt : (∃ n, rt = .object n) ∨ ∃ t, rt = .array t) (d : decode cc pc = .ok (.areturn, 1)) : E (o_areturn Rt) pc := by
  obtain ⟨p, l, e, R, s, m, args, below, meth, c, b0, hI, -, hx, hb, -, hr, -, -, hlocks, -⟩ := hE
  rw [hI]
  intro L st σ z H locs cells slots ls h1 h2 h3 h4 h5
  unfold o_areturn at z
  split at z
  · exact W_mono (W.aret hx hb hr hrt (Or.inr ⟨_, rfl⟩) (fun t ht hW => ⟨rfl, ht⟩) h2 d hlocks) (endq h1 h3 h4 z)
  · exact W_mono (W.aret hx hb hr hrt (Or.inl rfl) (fun t ht hW => ⟨rfl, ht⟩) h2 d hlocks) (endq h1 h3 h4 z)
  · exact z.elim
def o_return (R : Ret S) : Cont S := fun _ st σ => match st with
  | [] => R (.inl none) σ
  | _ => False
theorem si_return (hE : IsEnt w y cc nL none fr lo ht Rt E X) (d : decode cc pc = .ok (.return_, 1)) : E (o_return Rt) pc := by
  obtain ⟨p, l, e, R, s, m, args, below, meth, c, b0, hI, -, hx, hb, -, hr, -, -, hlocks, -⟩ := hE
  rw [hI]
  intro L st σ z H locs cells slots ls h1 h2 h3 h4 h5
  unfold o_return at z
  split at z
  · exact W_mono (W.vret hx hb hr (fun t ht hW => ⟨rfl, ht⟩) h2 d hlocks) (endq h1 h3 h4 z)
  · exact z.elim
/-! throws -/
theorem si_out (hE : IsEnt w y cc nL ret fr lo ht Rt E X) (hc : ht.all (fun x => !(decide (x.1 ≤ pc) && decide (pc < x.2.1))) = true) : X (fun _ a σ => Rt (.inr a) σ) pc := by
  obtain ⟨p, l, e, R, s, m, args, below, meth, c, b0, -, hXI, hx, hb, -, hr, -, -, hlocks, -, -, -, -, htab, -⟩ := hE
  rw [hXI]
  intro L a σ z H locs cells slots ls st T h1 h2 h3 h4 h5 hT Y
  have hout : ∀ q ∈ c.exceptionTable.toList, covers q (F0 m pc ls st).pc = false := by
    intro q hq
    have h6 : (q.startPc, q.endPc, q.handlerPc, q.catchType) ∈ ht := by rw [← htab]; exact List.mem_map.mpr ⟨q, hq, rfl⟩
    have h7 := List.all_eq_true.mp hc _ h6
    show covers q pc = false
    simp [covers] at h7 ⊢
    omega
  obtain ⟨a1, a2, a3, a4, a5⟩ := Y.leaveThrown a (g := F0 m pc ls st) rfl rfl rfl hout hlocks
  refine ⟨_, a1, .threw a, a2, a3, .inr a, σ, z, rfl, ?_, a4, locs, cells, slots, a5, h2, h3, h4⟩
  have : (T.setFrames (.throwing a :: below)).heap = T.heap := rfl
  rw [this, hT]
  exact h1
def o_athrow (Xc : Lc → Nat → S → Prop) : Cont S := fun L st σ => match st with
  | .ref a :: _ => Xc L a σ
  | _ => False
theorem si_athrow (hE : IsEnt w y cc nL ret fr lo ht Rt E X) {Xc : Lc → Nat → S → Prop} (d : decode cc pc = .ok (.athrow, 1)) (k : X Xc pc) : E (o_athrow Xc) pc := by
  obtain ⟨p, l, e, R, s, m, args, below, meth, c, b0, hI, hXI, hx, hb, -⟩ := hE
  rw [hI]
  rw [hXI] at k
  intro L st σ z H locs cells slots ls h1 h2 h3 h4 h5
  unfold o_athrow at z
  split at z
  · next a st' =>
    intro T hT Y
    obtain ⟨t, b1, b2⟩ := k L a σ z H locs cells slots ls st' T h1 h2 h3 h4 h5 hT Y
    refine ⟨t, ?_, b2⟩
    have hdg : decode c.code pc = .ok (.athrow, 1) := by rw [hb]; exact d
    jvm_step Y.here [hx, hdg, athrow.wp_sem]
    exact b1
  · exact z.elim
end FND2
/-! code words -/
def isCodeW (y : MethodName) (cc : ByteArray) (nL : Nat) (ret : Option FieldType) (ht : HT) (wd : Cond) : Prop := (wd = Cond.code y cc nL ret ∧ ht = []) ∨ wd = Cond.codeWith y cc nL ret ht
theorem isCodeW.spec {y : MethodName} {cc : ByteArray} {nL : Nat} {ret : Option FieldType} {ht : HT} {wd : Cond} (h : isCodeW y cc nL ret ht wd) {args : Array Value} {s : State} (hb : wd.before args s = true) :
    ∃ mk meth c, s.methodNamed? y = some mk ∧ s.vm.method? mk = some meth ∧ meth.code = some c ∧ c.code = cc ∧ c.maxLocals = nL ∧ meth.sig.returnType = ret ∧ meth.locks = false ∧ c.exceptionTable.toList.map (fun x => (x.startPc, x.endPc, x.handlerPc, x.catchType)) = ht ∧ parseMethodDescriptor y.desc = some meth.sig := by
  rcases h with ⟨rfl, rfl⟩ | rfl
  · obtain ⟨mk, hn⟩ := Cond.code_named hb
    obtain ⟨meth, c, h1, h2, h3, h4, h5, h6, h7, h8⟩ := Cond.code_spec hn hb
    refine ⟨mk, meth, c, hn, h1, h2, h3, h4, h5, h6, ?_, h8⟩
    have : c.exceptionTable = #[] := by simpa using h7
    rw [this]
    rfl
  · obtain ⟨mk, meth, c, hn, h1, h2, h3, h4, h5, h6, h7, h8⟩ := Cond.codeWith_spec hb
    exact ⟨mk, meth, c, hn, h1, h2, h3, h4, h6, h7, h5, h8⟩
theorem entP_get : ∀ {as : List Value} {n k : Nat} {i : Nat} {v : Value}, (entP n as)[i]? = some (some v) → (k + i, v) ∈ lv_args k as
  | [], n, k, i, v, h => by
    rw [entP, List.getElem?_replicate] at h
    split at h <;> simp at h
  | u :: vs, n, k, i, v, h => by
    have two : ∀ {h : (some u :: none :: entP (n - 2) vs)[i]? = some (some v)}, u.category = 2 → (k + i, v) ∈ lv_args k (u :: vs) := by
      intro h hc
      rw [lv_args, if_pos hc]
      match i, h with
      | 0, h => simp at h; rw [h]; exact List.mem_cons_self
      | 1, h => simp at h
      | j + 2, h =>
        have h2 : (entP (n - 2) vs)[j]? = some (some v) := by simpa using h
        have := entP_get (k := k + 2) h2
        rw [show k + (j + 2) = k + 2 + j by omega]
        exact List.mem_cons_of_mem _ this
    have one : ∀ {h : (some u :: entP (n - 1) vs)[i]? = some (some v)}, ¬ u.category = 2 → (k + i, v) ∈ lv_args k (u :: vs) := by
      intro h hc
      rw [lv_args, if_neg hc]
      match i, h with
      | 0, h => simp at h; rw [h]; exact List.mem_cons_self
      | j + 1, h =>
        have h2 : (entP (n - 1) vs)[j]? = some (some v) := by simpa using h
        have := entP_get (k := k + 1) h2
        rw [show k + (j + 1) = k + 1 + j by omega]
        exact List.mem_cons_of_mem _ this
    cases u with
    | long x => exact two (h := by rwa [entP] at h) rfl
    | double x => exact two (h := by rwa [entP] at h) rfl
    | int x => exact one (h := by rwa [entP] at h <;> simp) (by simp [Value.category])
    | float x => exact one (h := by rwa [entP] at h <;> simp) (by simp [Value.category])
    | null => exact one (h := by rwa [entP] at h <;> simp) (by simp [Value.category])
    | ref x => exact one (h := by rwa [entP] at h <;> simp) (by simp [Value.category])
    | _ => exact one (h := by rwa [entP] at h <;> simp) (by simp [Value.category])
theorem CT.of {S : Type} {w : Wd S} (hw : WdOK w) {y : MethodName} {cc : ByteArray} {nL : Nat} {ret : Option FieldType} {ht : HT} {wd : Cond} {fr lo : Nat} (hy : plainName y.cls = true) (hcw : isCodeW y cc nL ret ht wd) {B : Ret S → Cont S}
    (h : ∀ (Rt : Ret S) (E : Cont S → Nat → Prop) (X : (Lc → Nat → S → Prop) → Nat → Prop), IsEnt w y cc nL ret fr lo ht Rt E X → E (B Rt) 0) : CT w y wd fr lo (fun as σ Q => (lg_sl as).length ≤ nL ∧ B Q (entP nL as) [] σ) := by
  rintro l as σ Q ⟨hlen, hB⟩
  refine MetFree.of_bodyS (code := cc) (maxLocals := nL) (ret := ret) hy ?_ ?_
  · intro args s m h hn
    obtain ⟨mk, meth, c, h0, h1, h2, h3, h4, h5, h6, -, -⟩ := hcw.spec (atoms_spec (ws := wd :: lw_all) h wd List.mem_cons_self)
    cases hn.symm.trans h0
    exact ⟨meth, c, h1, h2, h3, h4, h5, h6⟩
  · intro p e s m args below meth c s₁ BL hml hP _
    obtain ⟨rfl, hKn, hRp⟩ := hP
    have hts := atoms_spec (ws := wd :: lw_all) BL.pre
    obtain ⟨mk, meth', c', g0, g1, g2, g3, g4, g5, g6, g7, -⟩ := hcw.spec (hts wd List.mem_cons_self)
    cases BL.named.symm.trans g0
    cases BL.method.symm.trans g1
    have hcode : meth.code = some c := (Stand.of_body BL).code
    cases hcode.symm.trans g2
    have hE : IsEnt w y cc nL ret fr lo ht Q (fun C pc => ∀ L st σ', C L st σ' → AtP w p l e ({ frames := fr, cells := (w.2.1 σ).1, slots := (w.2.1 σ).2, locals := lo } : Room) s m as.toArray below meth c (w.2.1 σ) Q nL pc L st σ') (fun C pc => ∀ L a σ', C L a σ' → ThP w p l e ({ frames := fr, cells := (w.2.1 σ).1, slots := (w.2.1 σ).2, locals := lo } : Room) s m as.toArray below meth c (w.2.1 σ) Q nL pc L a σ') :=
      ⟨p, l, e, _, s, m, as.toArray, below, meth, c, w.2.1 σ, fun _ _ => Iff.rfl, fun _ _ => Iff.rfl, BL.exec, BL.bytes, hml, BL.returns, findClass_of_methodNamed BL.named, fun wd h => hts _ (List.mem_cons_of_mem _ h), BL.notSynchronized, (name_of_methodNamed BL.named BL.method).1, hKn, fun U hW => hw.1 _ _ hW hKn, ⟨rfl, rfl, rfl, rfl⟩, g7, BL.method, hcode⟩
    have hl := lv_entry as hlen
    have hh0 : s₁.heap = s.heap := by rw [BL.state]; rfl
    have key := h Q _ _ hE (entP nL as) [] σ hB s.heap [] 0 0 _ hRp (fun q h => by cases h) (by simp) (by simp) ⟨hl.1, hl.2.1, fun i v hv => hl.2.2 (i, v) (by have := entP_get (k := 0) hv; simpa using this)⟩
    obtain ⟨t, a1, o, a2, a3, a4⟩ := key s₁ hh0 (Stand.of_body BL)
    refine ⟨t, o, ?_, a2, a3, a4⟩
    rw [lg_entry_eq]
    exact a1
/-- the contract at a weaker predicate -/
theorem CT.weak {S : Type} {w : Wd S} {y : MethodName} {wd : Cond} {fr lo : Nat} {pt pt' : PT S} (h : CT w y wd fr lo pt) (hp : ∀ as σ Q, pt' as σ Q → pt as σ Q) : CT w y wd fr lo pt' := fun l as σ Q z => h l as σ Q (hp as σ Q z)
section CALL
variable {S : Type} {w : Wd S} {p : Program} {l : Launch} {e : Env} {R : Room} {s : State} {m : MethodId} {args : Array Value} {below : List Frame} {meth : Method} {c : Code} {T : State} {locs : List Loc} {cells slots : Nat}
/-- behind the link: the callee runs by its contract -/
theorem call_core (hw : WdOK w) {y2 : MethodName} {wd : Cond} {fr2 lo2 : Nat} {pt : PT S} (hC : CT w y2 wd fr2 lo2 pt) (hwd : wd ∈ lw_all) {cc2 : ByteArray} {nL2 : Nat} {ret2 : Option FieldType} {ht2 : HT} (hcode : isCodeW y2 cc2 nL2 ret2 ht2 wd) (hini : Cond.initialized y2.cls ∈ lw_all)
    (Y : Stand p l e R s m args below meth c T locs cells slots) (hts : ∀ wd ∈ lw_all, wd.before args s = true) (hKn : w.2.2.2 T) {as : List Value} {σ : S} {Q : Ret S} (hpt : pt as σ Q) (hRp : w.1 σ T.heap)
    (hfr : fr2 + 1 ≤ R.frames) (hlo : 8 + (nL2 + 11) + lo2 ≤ R.locals) (hcells : cells + (w.2.1 σ).1 ≤ R.cells) (hslots : slots + (w.2.1 σ).2 ≤ R.slots)
    {g : JFrame} (hg : g.method = m) (hsize : g.locals.size = c.maxLocals) {ig : Instr} {len : Nat} (hdg : decode c.code g.pc = .ok (ig, len)) (hW : 2 * g.monitorRoom + (g.stack.map fun v => v.category).sum ≤ 8) {mk : MethodId} (hn : T.methodNamed? y2 = some mk) :
    ∃ (r : Res) (σ' : S) (T' : State) (L : List Loc) (k n : Nat), Q r σ' ∧ w.1 σ' T'.heap ∧ Stand p l e R s m args below meth c T' (locs ++ L) (cells + k) (slots + n) ∧ (∀ q ∈ L, w.2.2.1 q.base) ∧ k + (w.2.1 σ').1 ≤ (w.2.1 σ).1 ∧ n + (w.2.1 σ').2 ≤ (w.2.1 σ).2 ∧
      Steps p.tables e below (doInvoke e (T.setTop g) [] mk as.toArray).1 (match r with
        | .inl v => T'.setTop { g with pc := g.pc + len, stack := v.toList ++ g.stack }
        | .inr x => (T'.setTop g).pushFrame (.throwing x)) := by
  have hM := hC l as σ Q hpt
  have at_ : ∀ w9 ∈ wd :: lw_all, w9.before as.toArray T = true := by
    intro w9 h9
    have hin : w9 ∈ lw_all := by
      rcases List.mem_cons.mp h9 with e9 | e9
      · rw [e9]; exact hwd
      · exact e9
    exact word_at Y.warmed (lw_self w9 hin).2 (hts w9 hin)
  obtain ⟨mk', methY, cY, hn', hmY, hcY, -, hlY, -, -, -, -⟩ := hcode.spec (at_ wd List.mem_cons_self)
  cases hn.symm.trans hn'
  obtain ⟨kY, hkY, -⟩ := className_of_methodNamed hn
  have hinitY : kY.init = .initialized := Cond.initialized_spec (findClass_of_methodNamed hn) hkY (at_ _ (List.mem_cons_of_mem _ hini))
  have h : At T g.method c below := by rw [hg]; exact Y.here
  have happ : (headSpec (wd :: lw_all) ({ frames := fr2, cells := (w.2.1 σ).1, slots := (w.2.1 σ).2, locals := lo2 } : Room)).appliesLoose y2 e.platform (T.calling g mk as.toArray) = true :=
    Spec.appliesLoose_calling (g := g) h hdg hn hkY hinitY
      (Y.room_calling (g := g) (R' := ({ frames := fr2, cells := (w.2.1 σ).1, slots := (w.2.1 σ).2, locals := lo2 } : Room)) hsize hmY hcY hfr (by rw [hlY]; show _ + lo2 ≤ _; omega) hcells hslots) (atoms_intro at_)
  obtain ⟨mid, hmid⟩ := h.above
  have hfrs : (T.setTop g).frames = (.java g :: mid) ++ below := by rw [State.frames_setTop' g h.top, hmid]; rfl
  obtain ⟨o, s₂, hsteps, -, hend, r, σ', hQ, ho, hR2, hW2, L, k, n, hsame, hL, hk, hn2⟩ := Steps.callFree hM p Y.admits Y.cas Y.clock (acts := []) hfrs happ ⟨rfl, hw.2 _ g mk _ hKn, hRp⟩ trivial
  rw [State.frames_setTop' g h.top, Y.tail] at hend
  subst ho
  cases r with
  | inl v =>
    obtain ⟨T', Y', -, -, hs2⟩ := Y.outOf hg hdg hend hW2 hsame
    have hheap : T'.heap = s₂.heap := by rw [hs2]; simp [State.setTop, State.modifyTopJava, State.setFrames]
    refine ⟨.inl v, σ', T', L, k, n, hQ, by rw [hheap]; exact hR2, Y', hL, hk, hn2, ?_⟩
    rw [hs2] at hsteps
    exact hsteps
  | inr x =>
    obtain ⟨T', Y', -, -, hs2⟩ := Y.outOfThrown hg hend hW2 hsame
    have hheap : T'.heap = s₂.heap := by rw [hs2]; exact (Stand.throwing_heap T' g x).symm
    refine ⟨.inr x, σ', T', L, k, n, hQ, by rw [hheap]; exact hR2, Y', hL, hk, hn2, ?_⟩
    rw [hs2] at hsteps
    exact hsteps
end CALL
