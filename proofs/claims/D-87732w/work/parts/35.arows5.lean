/-! THE COMPONENT's WORLD: calls (gen/arows5.py) -/
set_option maxRecDepth 100000
section AR5
variable {g : GC} {y : MethodName} {cc : ByteArray} {nL : Nat} {ret : Option FieldType} {fr lo : Nat} {ht : HT} {Rt : Ret AH} {E : Cont AH → Nat → Prop} {X : (Lc → Nat → AH → Prop) → Nat → Prop} {pc : Nat} {Q J : Cont AH}
/-- what isn't reached -/
def o_dead : Cont AH := fun _ _ _ => False
theorem si_dead (hE : IsEnt (wC g) y cc nL ret fr lo ht Rt E X) : E o_dead pc := by
  obtain ⟨p, l, e, R, s, m, args, below, meth, c, b0, hI, -⟩ := hE
  rw [hI]
  exact fun L st σ z => z.elim
/-- a call by the receiver's tag -/
def dspI (t : Nat) : List (Nat × PT AH) → PT AH
  | [] => fun _ _ _ => False
  | (u, p) :: r => fun as σ Z => if t = u then p as σ Z else dspI t r as σ Z
def hvc (tbl : List (Nat × PT AH)) : PT AH := fun as σ Z => match as with
  | .ref b :: _ => dspI (hT σ b) tbl as σ Z
  | _ => False
def hvi (p : PT AH) : PT AH := fun as σ Z => match as with
  | .ref _ :: _ => p as σ Z
  | _ => False
def CalE (g : GC) (own : String) (ins : Instr) (n fr lo t : Nat) (p : PT AH) : Prop := ∀ (b : Nat) (as' : List Value) (σ : AH) (Q' : Ret AH), hT σ b = t → as'.length = n → p (.ref b :: as') σ Q' → Cal (wC g) own ins fr lo (.ref b :: as') σ Q'
def DOK (g : GC) (own : String) (ins : Instr) (n fr lo : Nat) : List (Nat × PT AH) → Prop
  | [] => True
  | (t, p) :: r => CalE g own ins n fr lo t p ∧ DOK g own ins n fr lo r
theorem DOK.cal {own : String} {ins : Instr} {n fr lo : Nat} {b : Nat} {as' : List Value} {σ : AH} {Q' : Ret AH} (hn : as'.length = n) : ∀ {tbl : List (Nat × PT AH)}, DOK g own ins n fr lo tbl → dspI (hT σ b) tbl (.ref b :: as') σ Q' → Cal (wC g) own ins fr lo (.ref b :: as') σ Q'
  | [], _, h => h.elim
  | (t, p) :: r, hD, h => by
    simp only [dspI] at h
    split at h
    · next ht9 => exact hD.1 b as' σ Q' ht9 hn h
    · exact DOK.cal hn hD.2 h
theorem si_hv (hE : IsEnt (wC g) y cc nL ret fr lo ht Rt E X) {idx n : Nat} {tbl : List (Nat × PT AH)} {Xc : Lc → Nat → AH → Prop} (d : decode cc pc = .ok (.invokevirtual idx, 3)) (hD : DOK g y.cls (.invokevirtual idx) n fr lo tbl) (hX : X Xc pc) (kk : E Q (pc + 3)) : E (o_call (n + 1) (hvc tbl) Xc Q) pc := by
  refine si_call (wC_ok g) hE d (fun as σ Q' hn hG => ?_) hX kk
  match as, hn, hG with
  | .ref b :: as', hn, hG => exact hD.cal (by simpa using hn) hG
theorem si_hi (hE : IsEnt (wC g) y cc nL ret fr lo ht Rt E X) {idx n : Nat} {p : PT AH} {Xc : Lc → Nat → AH → Prop} (d : decode cc pc = .ok (.invokespecial idx, 3)) (hD : ∀ b as' σ Q', as'.length = n → p (.ref b :: as') σ Q' → Cal (wC g) y.cls (.invokespecial idx) fr lo (.ref b :: as') σ Q') (hX : X Xc pc) (kk : E Q (pc + 3)) : E (o_call (n + 1) (hvi p) Xc Q) pc := by
  refine si_call (wC_ok g) hE d (fun as σ Q' hn hG => ?_) hX kk
  match as, hn, hG with
  | .ref b :: as', hn, hG => exact hD b as' σ Q' (by simpa using hn) hG
theorem si_hs (hE : IsEnt (wC g) y cc nL ret fr lo ht Rt E X) {idx n : Nat} {p : PT AH} {Xc : Lc → Nat → AH → Prop} (d : decode cc pc = .ok (.invokestatic idx, 3)) (hD : ∀ as σ Q', as.length = n → p as σ Q' → Cal (wC g) y.cls (.invokestatic idx) fr lo as σ Q') (hX : X Xc pc) (kk : E Q (pc + 3)) : E (o_call n p Xc Q) pc :=
  si_call (wC_ok g) hE d (fun as σ Q' hn hG => hD as σ Q' hn hG) hX kk
def RecvT (g : GC) (t : Nat) (C : String) : Prop := ∀ (b : Nat) (σ : AH), hT σ b = t → Recv (wC g) C b σ
theorem recvO {cn : Nat} {C : String} {T : u_T} {N : Nat} {ty : Nat → FieldType} (hc : ClsOK cn C T N ty) : RecvT g (cn + 1) C := fun b σ ht9 s H hK hR => RepC.recv hR hK hc ht9
theorem recv60 : RecvT g 60 "java/lang/Integer" := by
  intro b σ ht9 s H hK hR
  obtain ⟨cell, h1, h2, -, h4, -⟩ := ((hR : RepC g σ H).2.2.2.2 b).2.1 ht9
  exact ⟨cell, h1, h2, by rw [(hK : KnC g s).2.alike.findClass]; exact h4⟩
theorem recv61 : RecvT g 61 "java/lang/String" := by
  intro b σ ht9 s H hK hR
  obtain ⟨cell, h1, h2, -, h4, -⟩ := ((hR : RepC g σ H).2.2.2.2 b).2.2.1 ht9
  exact ⟨cell, h1, h2, by rw [(hK : KnC g s).2.alike.findClass]; exact h4⟩
variable {own C : String} {idx n t : Nat} {y2 : MethodName} {wd : Cond} {fr2 lo2 : Nat} {p : PT AH} {cc2 : ByteArray} {nL2 : Nat} {ret2 : Option FieldType} {ht2 : HT}
theorem cal_V (hr : RecvT g t C) (hC : CT (wC g) y2 wd fr2 lo2 p) (hcw : isCodeW y2 cc2 nL2 ret2 ht2 wd) (hwd : wd ∈ lw_all) (hini : Cond.initialized y2.cls ∈ lw_all) (hl : Cond.methodLink own idx y2 ∈ lw_all) (hi : Cond.instanceMethod y2 ∈ lw_all) (hs : Cond.selects C y2 y2 ∈ lw_all) (hy : notMH y2.cls) (hp : parN y2 n) (hfr : fr2 + 1 ≤ fr) (hlo : 8 + (nL2 + 11) + lo2 ≤ lo) : CalE g own (.invokevirtual idx) n fr lo t p :=
  fun b as' σ Q' ht9 hn hpt => ⟨y2, wd, fr2, lo2, p, cc2, nL2, ret2, ht2, hC, hwd, hcw, hini, hfr, hlo, hpt, lk_V hl hi hs hwd hcw hy hp hn (hr b σ ht9)⟩
theorem cal_U {x : MethodName} {owner : String} (hr : RecvT g t C) (hC : CT (wC g) y2 wd fr2 lo2 p) (hcw : isCodeW y2 cc2 nL2 ret2 ht2 wd) (hwd : wd ∈ lw_all) (hini : Cond.initialized y2.cls ∈ lw_all) (hl : Cond.methodLink own idx x ∈ lw_all) (hsm : Cond.sameMethod x.cls owner x.name x.desc ∈ lw_all) (hd0 : Cond.declares ⟨owner, x.name, x.desc⟩ ∈ lw_tbl ∨ ∃ (b0 : ByteArray) (m0 : Nat) (r0 : Option FieldType), Cond.instanceMethod ⟨owner, x.name, x.desc⟩ ∈ lw_all ∧ Cond.code ⟨owner, x.name, x.desc⟩ b0 m0 r0 ∈ lw_all) (ho : notMH owner) (hs : Cond.selects C x y2 ∈ lw_all) (hi : Cond.instanceMethod y2 ∈ lw_all) (hp : parN x n) (hfr : fr2 + 1 ≤ fr) (hlo : 8 + (nL2 + 11) + lo2 ≤ lo) : CalE g own (.invokevirtual idx) n fr lo t p := by
  intro b as' σ Q' ht9 hn hpt
  refine ⟨y2, wd, fr2, lo2, p, cc2, nL2, ret2, ht2, hC, hwd, hcw, hini, hfr, hlo, hpt, lk_U hl hsm (fun s hK args hts => ?_) ho hs hi hp hn (hr b σ ht9)⟩
  have hK : KnC g s := hK
  rcases hd0 with h | ⟨b0, m0, r0, h1, h2⟩
  · exact va_Decl.abs (va_Nw.warmD hK.2 (nw_tbl hK h rfl))
  · exact va_Decl.of (hts _ h1) (hts _ h2)
theorem cal_S (hC : CT (wC g) y2 wd fr2 lo2 p) (hcw : isCodeW y2 cc2 nL2 ret2 ht2 wd) (hwd : wd ∈ lw_all) (hini : Cond.initialized y2.cls ∈ lw_all) (hl : Cond.methodLink own idx y2 ∈ lw_all) (hi : Cond.static y2 ∈ lw_all) (hy : notMH y2.cls) (hp : parN y2 n) (hfr : fr2 + 1 ≤ fr) (hlo : 8 + (nL2 + 11) + lo2 ≤ lo) : ∀ as σ Q', as.length = n → p as σ Q' → Cal (wC g) own (.invokestatic idx) fr lo as σ Q' :=
  fun as σ Q' hn hpt => ⟨y2, wd, fr2, lo2, p, cc2, nL2, ret2, ht2, hC, hwd, hcw, hini, hfr, hlo, hpt, lk_S hl hi hini hwd hcw hy hp hn⟩
theorem cal_SN {host : String} (hC : CT (wC g) y2 wd fr2 lo2 p) (hcw : isCodeW y2 cc2 nL2 ret2 ht2 wd) (hwd : wd ∈ lw_all) (hini : Cond.initialized y2.cls ∈ lw_all) (hl : Cond.methodLinkNest own idx y2 host ∈ lw_tbl) (hi : Cond.static y2 ∈ lw_all) (hy : notMH y2.cls) (hp : parN y2 n) (hfr : fr2 + 1 ≤ fr) (hlo : 8 + (nL2 + 11) + lo2 ≤ lo) : ∀ as σ Q', as.length = n → p as σ Q' → Cal (wC g) own (.invokestatic idx) fr lo as σ Q' :=
  fun as σ Q' hn hpt => ⟨y2, wd, fr2, lo2, p, cc2, nL2, ret2, ht2, hC, hwd, hcw, hini, hfr, hlo, hpt, lk_SN (fun s hK => va_Nw.warmM (hK : KnC g s).2 (nw_tbl hK hl rfl)) hi hini hwd hcw hy hp hn⟩
theorem cal_I (hC : CT (wC g) y2 (Cond.code y2 cc2 nL2 none) fr2 lo2 p) (hwd : Cond.code y2 cc2 nL2 none ∈ lw_all) (hini : Cond.initialized y2.cls ∈ lw_all) (hl : Cond.methodLink own idx y2 ∈ lw_all) (hi : Cond.instanceMethod y2 ∈ lw_all) (hn9 : y2.name = "<init>") (hy : notMH y2.cls) (hp : parN y2 n) (hfr : fr2 + 1 ≤ fr) (hlo : 8 + (nL2 + 11) + lo2 ≤ lo) : ∀ b as' σ Q', as'.length = n → p (.ref b :: as') σ Q' → Cal (wC g) own (.invokespecial idx) fr lo (.ref b :: as') σ Q' :=
  fun b as' σ Q' hn hpt => ⟨y2, _, fr2, lo2, p, cc2, nL2, none, [], hC, hwd, Or.inl ⟨rfl, rfl⟩, hini, hfr, hlo, hpt, lk_I hl hi hwd hn9 hy hp hn⟩
theorem cal_IN {host : String} (hC : CT (wC g) y2 (Cond.code y2 cc2 nL2 none) fr2 lo2 p) (hwd : Cond.code y2 cc2 nL2 none ∈ lw_all) (hini : Cond.initialized y2.cls ∈ lw_all) (hl : Cond.methodLinkNest own idx y2 host ∈ lw_tbl) (hi : Cond.instanceMethod y2 ∈ lw_all) (hn9 : y2.name = "<init>") (hy : notMH y2.cls) (hp : parN y2 n) (hfr : fr2 + 1 ≤ fr) (hlo : 8 + (nL2 + 11) + lo2 ≤ lo) : ∀ b as' σ Q', as'.length = n → p (.ref b :: as') σ Q' → Cal (wC g) own (.invokespecial idx) fr lo (.ref b :: as') σ Q' :=
  fun b as' σ Q' hn hpt => ⟨y2, _, fr2, lo2, p, cc2, nL2, none, [], hC, hwd, Or.inl ⟨rfl, rfl⟩, hini, hfr, hlo, hpt, lk_IN (fun s hK => va_Nw.warmM (hK : KnC g s).2 (nw_tbl hK hl rfl)) hi hwd hn9 hy hp hn⟩
/-! System.arraycopy between arrays of objects -/
def o_acopy (Q : Cont AH) : Cont AH := fun L st σ => match st with
  | .int n :: .int dp :: .ref a :: .int sp :: .ref a0 :: st => (hT σ a = 104 ∧ hT σ a0 = 104 ∧ a ≠ a0) ∧ (¬ sp < 0 ∧ ¬ dp < 0 ∧ ¬ n < 0) ∧ (sp.toNatClampNeg + n.toNatClampNeg ≤ hL σ a0 ∧ dp.toNatClampNeg + n.toNatClampNeg ≤ hL σ a) ∧ st.length ≤ 4 ∧ (∀ i, i < n.toNatClampNeg → ∀ b, hR σ a0 (sp.toNatClampNeg + i) = some b → hT σ b ∈ objTs ++ [60]) ∧
      ∀ σ', σ'.1 = σ.1 → hT σ' = hT σ → hL σ' = hL σ → hI σ' = hI σ → hG σ' = hG σ → (∀ b j, hR σ' b j = if b = a then va_cpy (hR σ a0) (hR σ a) sp.toNatClampNeg dp.toNatClampNeg n.toNatClampNeg j else hR σ b j) → Q L st σ'
  | _ => False
end AR5
