/-! THE COMPONENT's WORLD: rows (gen/arows.py) -/
set_option maxRecDepth 100000
def FLk (own : String) (idx : Nat) (ref name desc : String) : Prop := Cond.fieldLink own idx ref name desc ∈ lw_all ∨ ∃ host, Cond.fieldLinkNest own idx ref name desc host ∈ lw_tbl
def ClsOK (c : Nat) (C : String) (T : u_T) (N : Nat) (ty : Nat → FieldType) : Prop := c < 22 ∧ cCl[c]? = some (C, T, N) ∧ nF c = N ∧ (∀ w ∈ u_ws C T N, w ∈ lw_all) ∧ (∀ a, a < N → ∀ b, b < N → a ≠ b → (T a).2.1 ≠ (T b).2.1) ∧ ∀ k, k < N → parseFieldDescriptor (T k).2.2.1 = some (ty k)
theorem cls0 : ClsOK 0 kN0 kT0 7 kY0 := ⟨by decide, rfl, rfl, kI0, kM0, kO0⟩
theorem cls1 : ClsOK 1 kN1 kT1 4 kY1 := ⟨by decide, rfl, rfl, kI1, kM1, kO1⟩
theorem cls2 : ClsOK 2 kN2 kT2 9 kY2 := ⟨by decide, rfl, rfl, kI2, kM2, kO2⟩
theorem cls3 : ClsOK 3 kN3 kT3 14 kY3 := ⟨by decide, rfl, rfl, kI3, kM3, kO3⟩
theorem cls4 : ClsOK 4 kN4 kT4 8 kY4 := ⟨by decide, rfl, rfl, kI4, kM4, kO4⟩
theorem cls5 : ClsOK 5 kN5 kT5 6 kY5 := ⟨by decide, rfl, rfl, kI5, kM5, kO5⟩
theorem cls6 : ClsOK 6 kN6 kT6 6 kY6 := ⟨by decide, rfl, rfl, kI6, kM6, kO6⟩
theorem cls7 : ClsOK 7 kN7 kT7 6 kY7 := ⟨by decide, rfl, rfl, kI7, kM7, kO7⟩
theorem cls8 : ClsOK 8 kN8 kT8 7 kY8 := ⟨by decide, rfl, rfl, kI8, kM8, kO8⟩
theorem cls9 : ClsOK 9 kN9 kT9 5 kY9 := ⟨by decide, rfl, rfl, kI9, kM9, kO9⟩
theorem cls10 : ClsOK 10 kN10 kT10 5 kY10 := ⟨by decide, rfl, rfl, kI10, kM10, kO10⟩
theorem cls11 : ClsOK 11 kN11 kT11 8 kY11 := ⟨by decide, rfl, rfl, kI11, kM11, kO11⟩
theorem cls12 : ClsOK 12 kN12 kT12 4 kY12 := ⟨by decide, rfl, rfl, kI12, kM12, kO12⟩
theorem cls13 : ClsOK 13 kN13 kT13 4 kY13 := ⟨by decide, rfl, rfl, kI13, kM13, kO13⟩
theorem cls14 : ClsOK 14 kN14 kT14 4 kY14 := ⟨by decide, rfl, rfl, kI14, kM14, kO14⟩
theorem cls15 : ClsOK 15 kN15 kT15 3 kY15 := ⟨by decide, rfl, rfl, kI15, kM15, kO15⟩
theorem cls16 : ClsOK 16 kN16 kT16 2 kY16 := ⟨by decide, rfl, rfl, kI16, kM16, kO16⟩
theorem cls17 : ClsOK 17 kN17 kT17 12 kY17 := ⟨by decide, rfl, rfl, kI17, kM17, kO17⟩
theorem cls18 : ClsOK 18 kN18 kT18 3 kY18 := ⟨by decide, rfl, rfl, kI18, kM18, kO18⟩
theorem cls19 : ClsOK 19 kN19 kT19 1 kY19 := ⟨by decide, rfl, rfl, kI19, kM19, kO19⟩
theorem cls21 : ClsOK 21 RX2 TX2 62 tyX2 := ⟨by decide, rfl, rfl, in_X2, nmX2, tyX2_ok⟩
/-- the field k of the classes with the tags ts -/
def FO (ts : List Nat) (k kd : Nat) (ref name desc : String) (fin : Bool) (FT : FieldType) : Prop := ∀ t ∈ ts, ∃ (c : Nat) (C : String) (T : u_T) (N : Nat) (ty : Nat → FieldType), t = c + 1 ∧ ClsOK c C T N ty ∧ k < N ∧ (T k).2.1 = name ∧ (T k).2.2.1 = desc ∧ fK c k = kd ∧ (T k).2.2.2 = fin ∧ ty k = FT ∧ ((T k).1 = ref ∨ Cond.sameField ref (T k).1 name desc ∈ lw_all)
theorem nw_tbl {g : GC} {s : State} (hK : KnC g s) {w : Cond} (hw : w ∈ lw_tbl) (ho : w.onTables = true) : va_Nw w g.1 := by
  obtain ⟨⟨⟨b, h, -⟩, -⟩, -⟩ := hK
  exact va_Nw.of ho (h w hw)
section CORE
variable {p : Program} {l : Launch} {e : Env} {R : Room} {s : State} {m : MethodId} {args : Array Value} {below : List Frame} {meth : Method} {c : Code} {H : Heap} {locs : List Loc} {cells slots : Nat} {Z : State → Prop} {cc : ByteArray} {pc : Nat} {ls : Array Slot} {rest : List Value} {g : GC}
theorem c_get (hx : p.tables.exec = Jvm.exec) (hb : c.code = cc) {own ref name desc : String} {idx : Nat} (hown : s.vm.findClass own = some m.cls) (hts : ∀ wd ∈ lw_all, wd.before args s = true) (hK : KnC g s) (hl : FLk own idx ref name desc) {cf i : Nat} {k : Class} {f : Field} (hi : s.fieldFound? ref name desc = some (cf, k, i, f)) (hst : f.isStatic = false) {a : Nat} {cell : Cell} {v : Value} (hcell : H[a]? = some cell) (hkn : cell.vm ≠ .unknown) (hsl : cell.slots[f.slot]? = some v) (hd : decode cc pc = .ok (.getfield idx, 3))
    (kk : W p l e R s m args below meth c H locs cells slots Z (F0 m (pc + 3) ls (v :: rest))) : W p l e R s m args below meth c H locs cells slots Z (F0 m pc ls (.ref a :: rest)) := by
  rcases hl with hl | ⟨host, hl⟩
  · exact W.getf hx hb hown (hts _ hl) hi hst hcell hkn hsl rfl rfl hd kk
  · exact va_Wgetf hx hb hown (va_Nw.use rfl (va_Nw.warmF hK.2 (nw_tbl hK hl rfl))) hi hst hcell hkn hsl rfl rfl hd kk
theorem c_put (hx : p.tables.exec = Jvm.exec) (hb : c.code = cc) {own ref name desc : String} {idx : Nat} (hown : s.vm.findClass own = some m.cls) (hts : ∀ wd ∈ lw_all, wd.before args s = true) (hK : KnC g s) (hl : FLk own idx ref name desc) {cf i : Nat} {k : Class} {f : Field} (hi : s.fieldFound? ref name desc = some (cf, k, i, f)) (hst : f.isStatic = false) {a : Nat} {cell : Cell} {v : Value} (hS : k2_Sd s f cell.cls v) (hcell : H[a]? = some cell) (hvm : cell.vm = .none) (hlt : f.slot < cell.slots.size) (hd : decode cc pc = .ok (.putfield idx, 3))
    (kk : ∀ H' : Heap, H'[a]? = some (cell.setSlot f.slot v) → H'.size = H.size → (∀ q, q ≠ a → H'[q]? = H[q]?) → W p l e R s m args below meth c H' (locs ++ [⟨a, f.slot⟩]) cells slots Z (F0 m (pc + 3) ls rest)) : W p l e R s m args below meth c H locs cells slots Z (F0 m pc ls (v :: .ref a :: rest)) := by
  rcases hl with hl | ⟨host, hl⟩
  · exact W.putK hx hb ⟨hown, hts _ hl, ⟨_, _, _, hi⟩, hst⟩ hS hcell hvm hlt rfl rfl hd kk
  · exact va_WputK hx hb hown (va_Nw.use rfl (va_Nw.warmF hK.2 (nw_tbl hK hl rfl))) hi hst hS hcell hvm hlt rfl rfl hd kk
/-- a field's own facts at a state -/
theorem fo_at (hts : ∀ wd ∈ lw_all, wd.before args s = true) (hK : KnC g s) {cn : Nat} {C : String} {T : u_T} {N : Nat} {ty : Nat → FieldType} (hc : ClsOK cn C T N ty) {k : Nat} (hk : k < N) {ref name desc : String} (h1 : (T k).2.1 = name) (h2 : (T k).2.2.1 = desc) (h3 : (T k).1 = ref ∨ Cond.sameField ref (T k).1 name desc ∈ lw_all) :
    ∃ (cf : Nat) (kf : Class) (fi : Nat) (f : Field), s.fieldFound? ref name desc = some (cf, kf, fi, f) ∧ s.fieldFound? (T k).1 (T k).2.1 (T k).2.2.1 = some (cf, kf, fi, f) ∧ f.isStatic = false ∧ f.slot = g.2.2.2.1 cn k := by
  obtain ⟨hS, hfc, kC, hkC, hkind⟩ := (hK.K).1 cn _ hc.2.1
  obtain ⟨cf, kf, fi, f, hi, hsl⟩ := hS k hk
  refine ⟨cf, kf, fi, f, ?_, hi, (u_facts hfc hkC (u_lays hts hc.2.2.2.1 hk) hi).1, hsl⟩
  rcases h3 with h3 | h3
  · rw [← h3, ← h1, ← h2]; exact hi
  · exact u_same (hts _ h3) _ (by rw [← h1, ← h2]; exact hi)
end CORE
section AW
variable {g : GC} {y : MethodName} {cc : ByteArray} {nL : Nat} {ret : Option FieldType} {fr lo : Nat} {ht : HT} {Rt : Ret AH} {E : Cont AH → Nat → Prop} {X : (Lc → Nat → AH → Prop) → Nat → Prop} {pc : Nat} {Q J : Cont AH}
theorem si_gf (hE : IsEnt (wC g) y cc nL ret fr lo ht Rt E X) {idx k kd : Nat} {ts : List Nat} {ref name desc : String} {fin : Bool} {FT : FieldType} (d : decode cc pc = .ok (.getfield idx, 3)) (hl : FLk y.cls idx ref name desc) (hF : FO ts k kd ref name desc fin FT) {C : Cont AH}
    (hCC : ∀ L st σ, C L st σ → ∃ a st', st = .ref a :: st' ∧ hT σ a ∈ ts ∧ ∀ cn, fK cn k = kd → Q L (cV cn (hI σ a) (hG σ a) (hR σ a) k :: st') σ) (kk : E Q (pc + 3)) : E C pc := by
  obtain ⟨p, l, e, R, s, m, args, below, meth, c, b0, hI_, -, hx, hb, -, -, hown, hts, -, -, hKn, -⟩ := hE
  rw [hI_] at kk ⊢
  intro L st σ z H locs cells slots ls h1 h2 h3 h4 h5
  obtain ⟨a, st', rfl, ht9, q⟩ := hCC L st σ z
  obtain ⟨cn, C9, T, N, ty, e1, e2, e3, e4, e5, e6, -, -, e7⟩ := hF _ ht9
  have hK : KnC g s := hKn
  obtain ⟨cf, kf, fi, f, hi, -, hst, hsl⟩ := fo_at hts hK e2 e3 e4 e5 e7
  obtain ⟨-, cell, g1, g2, g3, g4⟩ := ((h1 : RepC g σ H).2.2.2.2 a).1 cn e1 e2.1
  refine c_get hx hb hown hts hK hl hi hst g1 (by rw [g3]; exact fun h => by cases h) (v := cV cn (hI σ a) (hG σ a) (hR σ a) k) ?_ d (kk L _ σ (q cn e6) H locs cells slots ls h1 h2 h3 h4 h5)
  rw [hsl]
  exact g4 k (by rw [e2.2.2.1]; exact e3)
def o_gI (k : Nat) (ts : List Nat) (Q : Cont AH) : Cont AH := fun L st σ => match st with
  | .ref a :: st => hT σ a ∈ ts ∧ Q L (.int (hI σ a k) :: st) σ
  | _ => False
def o_gR (k : Nat) (ts : List Nat) (Q : Cont AH) : Cont AH := fun L st σ => match st with
  | .ref a :: st => hT σ a ∈ ts ∧ Q L (va_rf (hR σ a k) :: st) σ
  | _ => False
theorem si_gI (hE : IsEnt (wC g) y cc nL ret fr lo ht Rt E X) {idx k : Nat} {ts : List Nat} {ref name desc : String} {fin : Bool} {FT : FieldType} (d : decode cc pc = .ok (.getfield idx, 3)) (hl : FLk y.cls idx ref name desc) (hF : FO ts k 0 ref name desc fin FT) (kk : E Q (pc + 3)) : E (o_gI k ts Q) pc := by
  refine si_gf hE d hl hF (fun L st σ z => ?_) kk
  unfold o_gI at z
  split at z
  · exact ⟨_, _, rfl, z.1, fun cn h => by simp only [cV, h]; exact z.2⟩
  · exact z.elim
theorem si_gR (hE : IsEnt (wC g) y cc nL ret fr lo ht Rt E X) {idx k : Nat} {ts : List Nat} {ref name desc : String} {fin : Bool} {FT : FieldType} (d : decode cc pc = .ok (.getfield idx, 3)) (hl : FLk y.cls idx ref name desc) (hF : FO ts k 2 ref name desc fin FT) (kk : E Q (pc + 3)) : E (o_gR k ts Q) pc := by
  refine si_gf hE d hl hF (fun L st σ z => ?_) kk
  unfold o_gR at z
  split at z
  · exact ⟨_, _, rfl, z.1, fun cn h => by simp only [cV, h]; exact z.2⟩
  · exact z.elim
/-- after a store into a field of an object -/
theorem RepC.fld {σ σ' : AH} {H H' : Heap} (h : RepC g σ H) {a cn k : Nat} {v : Value} (htg : hT σ a = cn + 1) {C : String} {T : u_T} {N : Nat} {ty : Nat → FieldType} (hc : ClsOK cn C T N ty) (hk : k < N) {cell : Cell} (g2 : cell.cls = g.2.2.1 cn) (g3 : cell.vm = .none) (g4 : ∀ j, j < nF cn → cell.slots[g.2.2.2.1 cn j]? = some (cV cn (hI σ a) (hG σ a) (hR σ a) j)) (hap : ∀ x y, x < N → y < N → x ≠ y → g.2.2.2.1 cn x ≠ g.2.2.2.1 cn y)
    (hfr : g.2.2.2.2.2 a) (e1 : H'[a]? = some (cell.setSlot (g.2.2.2.1 cn k) v)) (e2 : H'.size = H.size) (e3 : ∀ q, q ≠ a → H'[q]? = H[q]?) (hN' : hN σ' = hN σ) (hT' : hT σ' = hT σ) (hL' : hL σ' = hL σ) (hv : ∀ b, b ≠ a → hI σ' b = hI σ b ∧ hG σ' b = hG σ b ∧ hR σ' b = hR σ b) (hV : ∀ j, updV (cV cn (hI σ a) (hG σ a) (hR σ a)) k v j = cV cn (hI σ' a) (hG σ' a) (hR σ' a) j) : RepC g σ' H' := by
  refine h.one hfr hN' e2 hT' hL' hv e3 (h.lt (by omega)) ?_
  have hn : nF cn = N := hc.2.2.1
  refine ⟨fun c hc9 hlt => ?_, fun q => by have := hc.1; omega, fun q => by have := hc.1; omega, fun u hu _ => by have := hc.1; omega, fun u hu _ => by have := hc.1; omega⟩
  have ec : c = cn := by omega
  subst ec
  refine ⟨hfr, _, e1, g2, g3, fun j hj => ?_⟩
  rw [← hV j]
  exact t_set (fun i hi => g4 i (by rw [hn]; exact hi)) hap hk v j (by rw [← hn]; exact hj)
theorem si_pf (hE : IsEnt (wC g) y cc nL ret fr lo ht Rt E X) {idx k kd : Nat} {ts : List Nat} {ref name desc : String} {FT : FieldType} (d : decode cc pc = .ok (.putfield idx, 3)) (hl : FLk y.cls idx ref name desc) (hF : FO ts k kd ref name desc false FT) {C : Cont AH}
    (hCC : ∀ L st σ, C L st σ → ∃ (a : Nat) (v : Value) (st' : List Value) (σ' : AH), st = v :: .ref a :: st' ∧ hT σ a ∈ ts ∧ Q L st' σ' ∧ narrow FT v = v ∧ fits FT v = true ∧ hN σ' = hN σ ∧ hC σ' = hC σ ∧ hS σ' = hS σ ∧ hT σ' = hT σ ∧ hL σ' = hL σ ∧ (∀ b, b ≠ a → hI σ' b = hI σ b ∧ hG σ' b = hG σ b ∧ hR σ' b = hR σ b) ∧ ∀ cn, fK cn k = kd → ∀ j, updV (cV cn (hI σ a) (hG σ a) (hR σ a)) k v j = cV cn (hI σ' a) (hG σ' a) (hR σ' a) j) (kk : E Q (pc + 3)) : E C pc := by
  obtain ⟨p, l, e, R, s, m, args, below, meth, c, b0, hI_, -, hx, hb, -, -, hown, hts, -, -, hKn, -⟩ := hE
  rw [hI_] at kk ⊢
  intro L st σ z H locs cells slots ls h1 h2 h3 h4 h5
  obtain ⟨a, v, st', σ', rfl, ht9, q, hn, hfit, f1, f2, f3, f4, f5, f6, f7⟩ := hCC L st σ z
  obtain ⟨cn, C9, T, N, ty, e1, e2, e3, e4, e5, e6, efin, ety, e7⟩ := hF _ ht9
  have hK : KnC g s := hKn
  obtain ⟨cf, kf, fi, f, hi, hi0, hst, hsl⟩ := fo_at hts hK e2 e3 e4 e5 e7
  obtain ⟨hfr, cell, g1, g2, g3, g4⟩ := ((h1 : RepC g σ H).2.2.2.2 a).1 cn e1 e2.1
  obtain ⟨hS9, hfc, kC, hkC, hkind⟩ := (hK.K).1 cn _ e2.2.1
  have hap := va_apart (own := y.cls) (D := (g.2.2.1, g.2.2.2.1)) (ci := cn) hts e2.2.2.2.1 ty e2.2.2.2.2.2 e2.2.2.2.2.1 hK.K e2.2.1
  have hlay := hts _ (e2.2.2.2.1 _ (u_in_lay e3))
  unfold u_lay at hlay
  rw [if_neg (by rw [efin]; decide)] at hlay
  have h6 := u_store hfc hkC hkind hlay hi0 (e2.2.2.2.2.2 k e3) (by rw [ety]; exact hn) (by rw [ety]; exact hfit)
  refine c_put hx hb hown hts hK hl hi hst (by rw [g2]; exact h6) g1 g3 (by rw [hsl]; exact k2_hasslot (g4 k (by rw [e2.2.2.1]; exact e3))) d (fun H' r1 r2 r3 => ?_)
  rw [hsl] at r1
  refine kk L st' σ' q H' _ cells slots ls (RepC.fld h1 e1 e2 e3 g2 g3 g4 hap hfr r1 r2 r3 f1 f4 f5 f6 (f7 cn e6)) (fun r hr => ?_) (by show _ + hC σ' ≤ _; rw [f2]; exact h3) (by show _ + hS σ' ≤ _; rw [f3]; exact h4) h5
  rcases List.mem_append.mp hr with a9 | a9
  · exact h2 r a9
  · rw [List.mem_singleton] at a9
    rw [a9]
    exact hfr
/-- a final field, in its own class's constructor -/
theorem si_pfF (hE : IsEnt (wC g) y cc nL ret fr lo ht Rt E X) (hinit : y.name = "<init>") {idx k kd : Nat} {ts : List Nat} {name desc : String} {FT : FieldType} (d : decode cc pc = .ok (.putfield idx, 3)) (hl : Cond.fieldLink y.cls idx y.cls name desc ∈ lw_all) (hF : FO ts k kd y.cls name desc true FT) (hself : ∀ t ∈ ts, ∃ (c : Nat) (C : String) (T : u_T) (N : Nat) (ty : Nat → FieldType), t = c + 1 ∧ ClsOK c C T N ty ∧ k < N ∧ (T k).1 = y.cls) {C : Cont AH}
    (hCC : ∀ L st σ, C L st σ → ∃ (a : Nat) (v : Value) (st' : List Value) (σ' : AH), st = v :: .ref a :: st' ∧ hT σ a ∈ ts ∧ Q L st' σ' ∧ narrow FT v = v ∧ fits FT v = true ∧ hN σ' = hN σ ∧ hC σ' = hC σ ∧ hS σ' = hS σ ∧ hT σ' = hT σ ∧ hL σ' = hL σ ∧ (∀ b, b ≠ a → hI σ' b = hI σ b ∧ hG σ' b = hG σ b ∧ hR σ' b = hR σ b) ∧ ∀ cn, fK cn k = kd → ∀ j, updV (cV cn (hI σ a) (hG σ a) (hR σ a)) k v j = cV cn (hI σ' a) (hG σ' a) (hR σ' a) j) (kk : E Q (pc + 3)) : E C pc := by
  obtain ⟨p, l, e, R, s, m, args, below, meth, c, b0, hI_, -, hx, hb, -, -, hown, hts, -, hmn, hKn, -⟩ := hE
  rw [hI_] at kk ⊢
  intro L st σ z H locs cells slots ls h1 h2 h3 h4 h5
  obtain ⟨a, v, st', σ', rfl, ht9, q, hn, hfit, f1, f2, f3, f4, f5, f6, f7⟩ := hCC L st σ z
  obtain ⟨cn, C9, T, N, ty, e1, e2, e3, e4, e5, e6, efin, ety, e7⟩ := hF _ ht9
  obtain ⟨cn', C', T', N', ty', x1, x2, x3, x4⟩ := hself _ ht9
  have hcn : cn' = cn := by omega
  subst hcn
  have hTT := Option.some.inj (x2.2.1.symm.trans e2.2.1)
  cases hTT
  have hK : KnC g s := hKn
  obtain ⟨cf, kf, fi, f, hi, hi0, hst, hsl⟩ := fo_at hts hK e2 e3 e4 e5 e7
  obtain ⟨hfr, cell, g1, g2, g3, g4⟩ := ((h1 : RepC g σ H).2.2.2.2 a).1 cn' e1 e2.1
  obtain ⟨hS9, hfc, kC, hkC, hkind⟩ := (hK.K).1 cn' _ e2.2.1
  have hap := va_apart (own := y.cls) (D := (g.2.2.1, g.2.2.2.1)) (ci := cn') hts e2.2.2.2.1 ty e2.2.2.2.2.2 e2.2.2.2.2.1 hK.K e2.2.1
  have hlay := hts _ (e2.2.2.2.1 _ (u_in_lay e3))
  unfold u_lay at hlay
  rw [if_pos efin] at hlay
  have hcf : m.cls = cf := by
    obtain ⟨_, _, c', _, _, _, -, -, hf', -, -, -, hown2, -⟩ := Cond.laysFinal_spec hlay
    have e9 : c' = cf := by have := hi0.symm.trans hf'; simp at this; exact this.1.symm
    rw [x4] at hown2
    rw [← e9]; exact Option.some.inj (hown.symm.trans hown2)
  have h6 := u_fits hfc hkC hkind (Or.inr hlay) hi0 (e2.2.2.2.2.2 k e3) (by rw [ety]; exact hn) (by rw [ety]; exact hfit)
  refine W.putFinK hx hb hown (hts _ hl) hi hst hcf (by rw [hmn]; exact hinit) (by rw [g2]; exact h6) g1 g3 (by rw [hsl]; exact k2_hasslot (g4 k (by rw [e2.2.2.1]; exact e3))) rfl rfl d (fun H' r1 r2 r3 => ?_)
  rw [hsl] at r1
  refine kk L st' σ' q H' _ cells slots ls (RepC.fld h1 e1 e2 e3 g2 g3 g4 hap hfr r1 r2 r3 f1 f4 f5 f6 (f7 cn' e6)) (fun r hr => ?_) (by show _ + hC σ' ≤ _; rw [f2]; exact h3) (by show _ + hS σ' ≤ _; rw [f3]; exact h4) h5
  rcases List.mem_append.mp hr with a9 | a9
  · exact h2 r a9
  · rw [List.mem_singleton] at a9
    rw [a9]
    exact hfr
/-- stores: an int (as it is; 0 or 1; a char), a reference -/
def o_pI (k : Nat) (ts : List Nat) (Q : Cont AH) : Cont AH := fun L st σ => match st with
  | .int x :: .ref a :: st => hT σ a ∈ ts ∧ Q L st (hsI σ a k x)
  | _ => False
def o_pN (ty : FieldType) (k : Nat) (ts : List Nat) (Q : Cont AH) : Cont AH := fun L st σ => match st with
  | .int x :: .ref a :: st => hT σ a ∈ ts ∧ narrow ty (.int x) = .int x ∧ fits ty (.int x) = true ∧ Q L st (hsI σ a k x)
  | _ => False
def o_pR (k : Nat) (ts : List Nat) (Q : Cont AH) : Cont AH := fun L st σ => match st with
  | v :: .ref a :: st => hT σ a ∈ ts ∧ match vref v with
    | some r => Q L st (hsR σ a k r)
    | none => False
  | _ => False
theorem pI_val {σ : AH} {a k : Nat} {x : Int32} {cn : Nat} (h : fK cn k = 0) (j : Nat) : updV (cV cn (hI σ a) (hG σ a) (hR σ a)) k (.int x) j = cV cn (hI (hsI σ a k x) a) (hG (hsI σ a k x) a) (hR (hsI σ a k x) a) j := by
  have e1 : hI (hsI σ a k x) a j = if j = k then x else hI σ a j := by rw [(h_rw σ a k).1]; simp
  by_cases hj : j = k
  · subst hj
    simp only [updV, cV, h, e1, if_true]
  · simp only [updV, if_neg hj, cV, e1, if_neg hj]
    rfl
theorem pR_val {σ : AH} {a k : Nat} {x : Option Nat} {cn : Nat} (h : fK cn k = 2) (j : Nat) : updV (cV cn (hI σ a) (hG σ a) (hR σ a)) k (va_rf x) j = cV cn (hI (hsR σ a k x) a) (hG (hsR σ a k x) a) (hR (hsR σ a k x) a) j := by
  have e1 : hR (hsR σ a k x) a j = if j = k then x else hR σ a j := by
    show up2 _ _ _ _ _ _ = _
    simp [up2]; rfl
  by_cases hj : j = k
  · subst hj
    simp only [updV, cV, h, e1, if_true]
  · simp only [updV, if_neg hj, cV, e1, if_neg hj]
    rfl
theorem off_I {σ : AH} {a k : Nat} {x : Int32} : ∀ b, b ≠ a → hI (hsI σ a k x) b = hI σ b ∧ hG (hsI σ a k x) b = hG σ b ∧ hR (hsI σ a k x) b = hR σ b := fun b hb => ⟨funext fun j => by rw [(h_rw σ a k).1]; simp [hb], rfl, rfl⟩
theorem off_R {σ : AH} {a k : Nat} {x : Option Nat} : ∀ b, b ≠ a → hI (hsR σ a k x) b = hI σ b ∧ hG (hsR σ a k x) b = hG σ b ∧ hR (hsR σ a k x) b = hR σ b := fun b hb => ⟨rfl, rfl, funext fun j => by show up2 _ _ _ _ _ _ = _; simp [up2, hb]; rfl⟩
theorem off_G {σ : AH} {a k : Nat} {x : Int64} : ∀ b, b ≠ a → hI (hsG σ a k x) b = hI σ b ∧ hG (hsG σ a k x) b = hG σ b ∧ hR (hsG σ a k x) b = hR σ b := fun b hb => ⟨rfl, funext fun j => by show up2 _ _ _ _ _ _ = _; simp [up2, hb]; rfl, rfl⟩
theorem si_pI (hE : IsEnt (wC g) y cc nL ret fr lo ht Rt E X) {idx k : Nat} {ts : List Nat} {ref name desc : String} (d : decode cc pc = .ok (.putfield idx, 3)) (hl : FLk y.cls idx ref name desc) (hF : FO ts k 0 ref name desc false .int) (kk : E Q (pc + 3)) : E (o_pI k ts Q) pc := by
  refine si_pf hE d hl hF (fun L st σ z => ?_) kk
  unfold o_pI at z
  split at z
  · exact ⟨_, _, _, _, rfl, z.1, z.2, rfl, rfl, rfl, rfl, rfl, rfl, rfl, off_I, fun cn h j => pI_val h j⟩
  · exact z.elim
theorem si_pN (hE : IsEnt (wC g) y cc nL ret fr lo ht Rt E X) {idx k : Nat} {ts : List Nat} {ref name desc : String} {FT : FieldType} (d : decode cc pc = .ok (.putfield idx, 3)) (hl : FLk y.cls idx ref name desc) (hF : FO ts k 0 ref name desc false FT) (kk : E Q (pc + 3)) : E (o_pN FT k ts Q) pc := by
  refine si_pf hE d hl hF (fun L st σ z => ?_) kk
  unfold o_pN at z
  split at z
  · exact ⟨_, _, _, _, rfl, z.1, z.2.2.2, z.2.1, z.2.2.1, rfl, rfl, rfl, rfl, rfl, off_I, fun cn h j => pI_val h j⟩
  · exact z.elim
theorem si_pR (hE : IsEnt (wC g) y cc nL ret fr lo ht Rt E X) {idx k : Nat} {ts : List Nat} {ref name desc : String} {FT : FieldType} (d : decode cc pc = .ok (.putfield idx, 3)) (hl : FLk y.cls idx ref name desc) (hF : FO ts k 2 ref name desc false FT) (hft : (∃ n, FT = .object n) ∨ ∃ t, FT = .array t) (kk : E Q (pc + 3)) : E (o_pR k ts Q) pc := by
  refine si_pf hE d hl hF (fun L st σ z => ?_) kk
  unfold o_pR at z
  split at z
  · next v a st' =>
    obtain ⟨z1, z⟩ := z
    split at z
    · next r hr =>
      have hv := vref_rf hr
      subst hv
      refine ⟨_, _, _, _, rfl, z1, z, ?_, ?_, rfl, rfl, rfl, rfl, rfl, off_R, fun cn h j => pR_val h j⟩
      · rcases hft with ⟨n, rfl⟩ | ⟨t, rfl⟩ <;> cases r <;> rfl
      · rcases hft with ⟨n, rfl⟩ | ⟨t, rfl⟩ <;> cases r <;> rfl
    · exact z.elim
  · exact z.elim
theorem si_pIF (hE : IsEnt (wC g) y cc nL ret fr lo ht Rt E X) (hinit : y.name = "<init>") {idx k : Nat} {ts : List Nat} {name desc : String} (d : decode cc pc = .ok (.putfield idx, 3)) (hl : Cond.fieldLink y.cls idx y.cls name desc ∈ lw_all) (hF : FO ts k 0 y.cls name desc true .int) (hself : ∀ t ∈ ts, ∃ (c : Nat) (C : String) (T : u_T) (N : Nat) (ty : Nat → FieldType), t = c + 1 ∧ ClsOK c C T N ty ∧ k < N ∧ (T k).1 = y.cls) (kk : E Q (pc + 3)) : E (o_pI k ts Q) pc := by
  refine si_pfF hE hinit d hl hF hself (fun L st σ z => ?_) kk
  unfold o_pI at z
  split at z
  · exact ⟨_, _, _, _, rfl, z.1, z.2, rfl, rfl, rfl, rfl, rfl, rfl, rfl, off_I, fun cn h j => pI_val h j⟩
  · exact z.elim
theorem si_pNF (hE : IsEnt (wC g) y cc nL ret fr lo ht Rt E X) (hinit : y.name = "<init>") {idx k : Nat} {ts : List Nat} {name desc : String} {FT : FieldType} (d : decode cc pc = .ok (.putfield idx, 3)) (hl : Cond.fieldLink y.cls idx y.cls name desc ∈ lw_all) (hF : FO ts k 0 y.cls name desc true FT) (hself : ∀ t ∈ ts, ∃ (c : Nat) (C : String) (T : u_T) (N : Nat) (ty : Nat → FieldType), t = c + 1 ∧ ClsOK c C T N ty ∧ k < N ∧ (T k).1 = y.cls) (kk : E Q (pc + 3)) : E (o_pN FT k ts Q) pc := by
  refine si_pfF hE hinit d hl hF hself (fun L st σ z => ?_) kk
  unfold o_pN at z
  split at z
  · exact ⟨_, _, _, _, rfl, z.1, z.2.2.2, z.2.1, z.2.2.1, rfl, rfl, rfl, rfl, rfl, off_I, fun cn h j => pI_val h j⟩
  · exact z.elim
theorem si_pRF (hE : IsEnt (wC g) y cc nL ret fr lo ht Rt E X) (hinit : y.name = "<init>") {idx k : Nat} {ts : List Nat} {name desc : String} {FT : FieldType} (d : decode cc pc = .ok (.putfield idx, 3)) (hl : Cond.fieldLink y.cls idx y.cls name desc ∈ lw_all) (hF : FO ts k 2 y.cls name desc true FT) (hself : ∀ t ∈ ts, ∃ (c : Nat) (C : String) (T : u_T) (N : Nat) (ty : Nat → FieldType), t = c + 1 ∧ ClsOK c C T N ty ∧ k < N ∧ (T k).1 = y.cls) (hft : (∃ n, FT = .object n) ∨ ∃ t, FT = .array t) (kk : E Q (pc + 3)) : E (o_pR k ts Q) pc := by
  refine si_pfF hE hinit d hl hF hself (fun L st σ z => ?_) kk
  unfold o_pR at z
  split at z
  · next v a st' =>
    obtain ⟨z1, z⟩ := z
    split at z
    · next r hr =>
      have hv := vref_rf hr
      subst hv
      refine ⟨_, _, _, _, rfl, z1, z, ?_, ?_, rfl, rfl, rfl, rfl, rfl, off_R, fun cn h j => pR_val h j⟩
      · rcases hft with ⟨n, rfl⟩ | ⟨t, rfl⟩ <;> cases r <;> rfl
      · rcases hft with ⟨n, rfl⟩ | ⟨t, rfl⟩ <;> cases r <;> rfl
    · exact z.elim
  · exact z.elim
end AW
