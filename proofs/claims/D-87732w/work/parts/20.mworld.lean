/-! THE MODEL's WORLD: its int fields and arrays by the field's number; letters apart -/
set_option maxRecDepth 100000
abbrev MS : Type := (Nat → Int32) × Int64 × (Nat → Nat → Int32)
/-- where it stands; its class, its slots; the classes [I, [Z -/
abbrev GM : Type := Nat × ClassId × (Nat → Nat) × ClassId × ClassId
def mKd (k : Nat) : Nat := match k with
  | 0 => 2
  | 7 => 1
  | 8 => 3
  | 9 => 2
  | 10 => 2
  | 11 => 2
  | 12 => 2
  | 13 => 2
  | 14 => 2
  | 15 => 2
  | 16 => 2
  | 17 => 2
  | 18 => 2
  | 19 => 2
  | 20 => 2
  | 21 => 2
  | 22 => 2
  | 23 => 2
  | 24 => 2
  | 25 => 2
  | 26 => 2
  | 27 => 2
  | 28 => 2
  | 29 => 2
  | 30 => 2
  | 31 => 2
  | 38 => 4
  | 39 => 2
  | 40 => 2
  | 42 => 3
  | 43 => 2
  | 44 => 3
  | 45 => 2
  | 46 => 2
  | 47 => 2
  | 48 => 2
  | 49 => 2
  | 50 => 2
  | 56 => 4
  | 57 => 2
  | 58 => 2
  | 59 => 2
  | 61 => 2
  | _ => 0
def mOrd (k : Nat) : Nat := match k with
  | 8 => 1
  | 9 => 2
  | 10 => 3
  | 11 => 4
  | 12 => 5
  | 13 => 6
  | 14 => 7
  | 15 => 8
  | 16 => 9
  | 17 => 10
  | 18 => 11
  | 19 => 12
  | 20 => 13
  | 21 => 14
  | 22 => 15
  | 23 => 16
  | 24 => 17
  | 25 => 18
  | 26 => 19
  | 27 => 20
  | 28 => 21
  | 29 => 22
  | 30 => 23
  | 31 => 24
  | 39 => 25
  | 40 => 26
  | 42 => 27
  | 43 => 28
  | 44 => 29
  | 45 => 30
  | 46 => 31
  | 47 => 32
  | 48 => 33
  | 49 => 34
  | 50 => 35
  | 57 => 36
  | 58 => 37
  | 59 => 38
  | 61 => 39
  | _ => 0
def mLen (k : Nat) : Nat := match k with
  | 0 => 3000
  | 8 => 5
  | 9 => 5
  | 10 => 5
  | 11 => 5
  | 12 => 5
  | 13 => 205
  | 14 => 205
  | 15 => 1200
  | 16 => 1200
  | 17 => 1200
  | 18 => 1200
  | 19 => 1200
  | 20 => 1200
  | 21 => 1200
  | 22 => 1200
  | 23 => 1200
  | 24 => 1200
  | 25 => 1200
  | 26 => 160
  | 27 => 160
  | 28 => 160
  | 29 => 160
  | 30 => 160
  | 31 => 38400
  | 39 => 200
  | 40 => 200
  | 42 => 40
  | 43 => 40
  | 44 => 240
  | 45 => 48
  | 46 => 48
  | 47 => 16
  | 48 => 32
  | 49 => 32
  | 50 => 100
  | 57 => 5
  | 58 => 300
  | 59 => 60000
  | 61 => 240
  | _ => 0
def mad (mo k : Nat) : Nat := mo + 1 + mOrd k
theorem mad_ne (mo k : Nat) : mad mo k ≠ mo := by unfold mad; omega
def mVal (mo : Nat) (ms : MS) (k : Nat) : Value := match mKd k with
  | 0 => .int (ms.1 k)
  | 4 => .int (ms.1 k)
  | 1 => .long ms.2.1
  | _ => .ref (mad mo k)
def isArK (k : Nat) : Bool := mKd k == 2 || mKd k == 3
def mCA (g : GM) (k : Nat) : ClassId := if mKd k = 2 then g.2.2.2.1 else g.2.2.2.2
def mD (g : GM) : va_G := (fun _ => g.2.1, fun _ => g.2.2.1)
abbrev mCl : List vw_C := [(RX2, TX2, 62)]
abbrev mTys (g : GM) : List (ClassId × FieldType) := [(g.2.2.2.1, .int), (g.2.2.2.2, .boolean)]
def RepM (g : GM) (ms : MS) (H : Heap) : Prop := t_OB g.1 g.2.1 62 g.2.2.1 H (mVal g.1 ms) ∧ ∀ k, k < 62 → isArK k = true → H[mad g.1 k]? = some (arrV (mCA g k) (mLen k) (fun j => .int (ms.2.2 k j)))
def KnM (g : GM) (U : State) : Prop := va_K (mD g) mCl (mTys g) U
def wM (g : GM) : Wd MS := (RepM g, fun _ => (0, 0), fun q => g.1 ≤ q ∧ q < g.1 + 41, KnM g)
theorem wM_ok (g : GM) : WdOK (wM g) := ⟨fun _ _ hW h => va_K.moved hW.alike h, fun U f mk a h => va_K.moved (u := U) (U := U.calling f mk a) (Vm.Alike.refl U.vm) h⟩
theorem mOrd_lt : ∀ k, k < 62 → mOrd k < 40 := by decide +kernel
theorem mOrd_inj : ∀ a, a < 62 → ∀ b, b < 62 → isArK a = true → isArK b = true → mOrd a = mOrd b → a = b := by decide +kernel
def mput (σ : MS) (k : Nat) (x : Int32) : MS := (fun j => if j = k then x else σ.1 j, σ.2.1, σ.2.2)
def mputL (σ : MS) (x : Int64) : MS := (σ.1, x, σ.2.2)
def mset (σ : MS) (k i : Nat) (x : Int32) : MS := (σ.1, σ.2.1, fun j n => if j = k ∧ n = i then x else σ.2.2 j n)
def mFs (mo : Nat) (ms : MS) : List Value := (List.range 62).map (mVal mo ms)
theorem mFs_get {mo : Nat} {ms : MS} {k : Nat} (h : k < 62) : (mFs mo ms)[k]? = some (mVal mo ms k) := by simp [mFs, h]
theorem RepM.P {g : GM} {ms : MS} {H : Heap} (h : RepM g ms H) : va_P (mD g) mCl [(g.1, .inr (0, mFs g.1 ms))] H := by
  intro k q hk
  match k, hk with
  | 0, hk =>
    cases hk
    refine ⟨(RX2, TX2, 62), rfl, h.1.to fun k hk => ?_⟩
    show _ = (mFs g.1 ms).getD k .null
    rw [List.getD_eq_getElem?_getD, mFs_get hk]
    rfl
  | k + 1, hk => simp at hk
section MW
variable {g : GM} {y : MethodName} {cc : ByteArray} {nL : Nat} {ret : Option FieldType} {fr lo : Nat} {ht : HT} {Rt : Ret MS} {E : Cont MS → Nat → Prop} {X : (Lc → Nat → MS → Prop) → Nat → Prop} {pc : Nat} {Q J : Cont MS}
/-- a read of a field -/
theorem si_mget (hE : IsEnt (wM g) y cc nL ret fr lo ht Rt E X) (hy : y.cls = RX2) {idx k : Nat} (hl : Cond.fieldLink RX2 idx RX2 (TX2 k).2.1 (TX2 k).2.2.1 ∈ lw_all) (hk : k < 62) (hT : (TX2 k).1 = RX2) (d : decode cc pc = .ok (.getfield idx, 3)) {C : Cont MS} (hC : ∀ L st σ, C L st σ → ∃ st', st = .ref g.1 :: st' ∧ Q L (mVal g.1 σ k :: st') σ) (kk : E Q (pc + 3)) : E C pc := by
  obtain ⟨p, l, e, R, s, m, args, below, meth, c, b0, hI, -, hx, hb, -, -, hown, hts, -, -, hKn, -⟩ := hE
  rw [hI] at kk ⊢
  rw [hy] at hown
  intro L st σ z H locs cells slots ls h1 h2 h3 h4 h5
  obtain ⟨st', rfl, q⟩ := hC L st σ z
  exact va_get (D := mD g) (ci := 0) (v := mVal g.1 σ k) (C := RX2) (T := TX2) (N := 62) hx hb hts in_X2 hown hKn (RepM.P h1) 0 rfl rfl k hk (hts _ hl) (fun _ h9 => by rw [hT] at h9; exact h9) (mFs_get hk) d (kk L _ σ q H locs cells slots ls h1 h2 h3 h4 h5)
def o_mg (mo k : Nat) (Q : Cont MS) : Cont MS := fun L st σ => match st with
  | v :: st => v = .ref mo ∧ Q L (.int (σ.1 k) :: st) σ
  | _ => False
def o_mgl (mo : Nat) (Q : Cont MS) : Cont MS := fun L st σ => match st with
  | v :: st => v = .ref mo ∧ Q L (.long σ.2.1 :: st) σ
  | _ => False
def o_mga (mo k : Nat) (Q : Cont MS) : Cont MS := fun L st σ => match st with
  | v :: st => v = .ref mo ∧ Q L (.ref (mad mo k) :: st) σ
  | _ => False
theorem si_mg (hE : IsEnt (wM g) y cc nL ret fr lo ht Rt E X) (hy : y.cls = RX2) {idx k : Nat} (d : decode cc pc = .ok (.getfield idx, 3)) (hl : Cond.fieldLink RX2 idx RX2 (TX2 k).2.1 (TX2 k).2.2.1 ∈ lw_all) (hk : k < 62) (hT : (TX2 k).1 = RX2) (hkd : ∀ σ : MS, mVal g.1 σ k = .int (σ.1 k)) (kk : E Q (pc + 3)) : E (o_mg g.1 k Q) pc := by
  refine si_mget hE hy hl hk hT d (fun L st σ z => ?_) kk
  unfold o_mg at z
  split at z
  · exact ⟨_, by rw [z.1], by rw [hkd]; exact z.2⟩
  · exact z.elim
theorem si_mgl (hE : IsEnt (wM g) y cc nL ret fr lo ht Rt E X) (hy : y.cls = RX2) {idx : Nat} (d : decode cc pc = .ok (.getfield idx, 3)) (hl : Cond.fieldLink RX2 idx RX2 (TX2 7).2.1 (TX2 7).2.2.1 ∈ lw_all) (kk : E Q (pc + 3)) : E (o_mgl g.1 Q) pc := by
  refine si_mget hE hy hl (by decide) rfl d (fun L st σ z => ?_) kk
  unfold o_mgl at z
  split at z
  · exact ⟨_, by rw [z.1], z.2⟩
  · exact z.elim
theorem si_mga (hE : IsEnt (wM g) y cc nL ret fr lo ht Rt E X) (hy : y.cls = RX2) {idx k : Nat} (d : decode cc pc = .ok (.getfield idx, 3)) (hl : Cond.fieldLink RX2 idx RX2 (TX2 k).2.1 (TX2 k).2.2.1 ∈ lw_all) (hk : k < 62) (hT : (TX2 k).1 = RX2) (hkd : ∀ σ : MS, mVal g.1 σ k = .ref (mad g.1 k)) (kk : E Q (pc + 3)) : E (o_mga g.1 k Q) pc := by
  refine si_mget hE hy hl hk hT d (fun L st σ z => ?_) kk
  unfold o_mga at z
  split at z
  · exact ⟨_, by rw [z.1], by rw [hkd]; exact z.2⟩
  · exact z.elim
/-- a write of a field -/
theorem si_mput (hE : IsEnt (wM g) y cc nL ret fr lo ht Rt E X) (hy : y.cls = RX2) {idx k : Nat} (hl : Cond.fieldLink RX2 idx RX2 (TX2 k).2.1 (TX2 k).2.2.1 ∈ lw_all) (hk : k < 62) (hT : (TX2 k).1 = RX2) (hfin : (TX2 k).2.2.2 = false) (d : decode cc pc = .ok (.putfield idx, 3)) {C : Cont MS}
    (hC : ∀ L st σ, C L st σ → ∃ (v : Value) (st' : List Value) (σ' : MS), st = v :: .ref g.1 :: st' ∧ Q L st' σ' ∧ narrow (tyX2 k) v = v ∧ fits (tyX2 k) v = true ∧ σ'.2.2 = σ.2.2 ∧ ∀ j, j < 62 → updV (mVal g.1 σ) k v j = mVal g.1 σ' j) (kk : E Q (pc + 3)) : E C pc := by
  obtain ⟨p, l, e, R, s, m, args, below, meth, c, b0, hI, -, hx, hb, -, -, hown, hts, -, -, hKn, -⟩ := hE
  rw [hI] at kk ⊢
  rw [hy] at hown
  intro L st σ z H locs cells slots ls h1 h2 h3 h4 h5
  obtain ⟨v, st', σ', rfl, q, hn, hfit, hA, hV⟩ := hC L st σ z
  have hK : va_K (mD g) mCl (mTys g) s := hKn
  have hap := va_apart (own := RX2) (D := mD g) (ci := 0) (C := RX2) (T := TX2) (N := 62) hts in_X2 tyX2 tyX2_ok nmX2 hK rfl
  obtain ⟨⟨cell, q1, q2, q3, q4⟩, hArr⟩ := h1
  obtain ⟨hS, hfc, kC, hkC, hkind⟩ := hK.1 0 _ rfl
  obtain ⟨cf, kf, fi, f, hi, hsl⟩ := hS k hk
  have hlay := hts _ (in_X2 _ (u_in_lay hk))
  unfold u_lay at hlay
  rw [if_neg (by rw [hfin]; decide)] at hlay
  have hst := (u_facts hfc hkC (u_lays hts in_X2 hk) hi).1
  have h6 := u_store hfc hkC hkind hlay hi (tyX2_ok k hk) hn hfit
  refine W.putK hx hb (f := f) ⟨hown, hts _ hl, ⟨_, _, _, by rw [hT] at hi; exact hi⟩, hst⟩ (by rw [q2]; exact h6) q1 q3 (by rw [hsl]; exact k2_hasslot (q4 k hk)) rfl rfl d fun H' e1 e2 e3 => ?_
  rw [hsl] at e1
  refine kk L st' σ' q H' _ cells slots ls ⟨t_OB.to (V := updV (mVal g.1 σ) k v) ⟨_, e1, q2, q3, t_set q4 hap hk v⟩ hV, fun j hj ha => ?_⟩ (fun r hr => ?_) h3 h4 h5
  · rw [hA, e3 (mad g.1 j) (mad_ne g.1 j)]
    exact hArr j hj ha
  · rcases List.mem_append.mp hr with a | a
    · exact h2 r a
    · rw [List.mem_singleton] at a
      rw [a]
      exact ⟨Nat.le_refl _, by show g.1 < g.1 + 41; omega⟩
def o_mp (mo k : Nat) (Q : Cont MS) : Cont MS := fun L st σ => match st with
  | .int x :: v :: st => v = .ref mo ∧ Q L st (mput σ k x)
  | _ => False
def o_mpz (mo k : Nat) (Q : Cont MS) : Cont MS := fun L st σ => match st with
  | .int x :: v :: st => v = .ref mo ∧ (x = 0 ∨ x = 1) ∧ Q L st (mput σ k x)
  | _ => False
def o_mpl (mo : Nat) (Q : Cont MS) : Cont MS := fun L st σ => match st with
  | .long x :: v :: st => v = .ref mo ∧ Q L st (mputL σ x)
  | _ => False
theorem mput_val {mo : Nat} {σ : MS} {k : Nat} {x : Int32} (hkd : mKd k = 0 ∨ mKd k = 4) (j : Nat) : updV (mVal mo σ) k (.int x) j = mVal mo (mput σ k x) j := by
  by_cases h : j = k
  · subst h
    rcases hkd with a | a <;> simp [updV, mVal, a, mput]
  · simp [updV, mVal, mput, h]
theorem si_mp (hE : IsEnt (wM g) y cc nL ret fr lo ht Rt E X) (hy : y.cls = RX2) {idx k : Nat} (d : decode cc pc = .ok (.putfield idx, 3)) (hl : Cond.fieldLink RX2 idx RX2 (TX2 k).2.1 (TX2 k).2.2.1 ∈ lw_all) (hk : k < 62) (hT : (TX2 k).1 = RX2) (hfin : (TX2 k).2.2.2 = false) (hkd : mKd k = 0) (hty : tyX2 k = .int) (kk : E Q (pc + 3)) : E (o_mp g.1 k Q) pc := by
  refine si_mput hE hy hl hk hT hfin d (fun L st σ z => ?_) kk
  unfold o_mp at z
  split at z
  · exact ⟨_, _, _, by rw [z.1], z.2, by rw [hty]; rfl, by rw [hty]; rfl, rfl, fun j _ => mput_val (Or.inl hkd) j⟩
  · exact z.elim
theorem si_mpz (hE : IsEnt (wM g) y cc nL ret fr lo ht Rt E X) (hy : y.cls = RX2) {idx k : Nat} (d : decode cc pc = .ok (.putfield idx, 3)) (hl : Cond.fieldLink RX2 idx RX2 (TX2 k).2.1 (TX2 k).2.2.1 ∈ lw_all) (hk : k < 62) (hT : (TX2 k).1 = RX2) (hfin : (TX2 k).2.2.2 = false) (hkd : mKd k = 4) (hty : tyX2 k = .boolean) (kk : E Q (pc + 3)) : E (o_mpz g.1 k Q) pc := by
  refine si_mput hE hy hl hk hT hfin d (fun L st σ z => ?_) kk
  unfold o_mpz at z
  split at z
  · refine ⟨_, _, _, by rw [z.1], z.2.2, ?_, ?_, rfl, fun j _ => mput_val (Or.inr hkd) j⟩
    · rw [hty]; rcases z.2.1 with a | a <;> rw [a] <;> rfl
    · rw [hty]; rcases z.2.1 with a | a <;> rw [a] <;> rfl
  · exact z.elim
theorem si_mpl (hE : IsEnt (wM g) y cc nL ret fr lo ht Rt E X) (hy : y.cls = RX2) {idx : Nat} (d : decode cc pc = .ok (.putfield idx, 3)) (hl : Cond.fieldLink RX2 idx RX2 (TX2 7).2.1 (TX2 7).2.2.1 ∈ lw_all) (kk : E Q (pc + 3)) : E (o_mpl g.1 Q) pc := by
  refine si_mput hE hy hl (by decide) rfl rfl d (fun L st σ z => ?_) kk
  unfold o_mpl at z
  split at z
  · refine ⟨_, _, _, by rw [z.1], z.2, rfl, rfl, rfl, fun j _ => ?_⟩
    by_cases h : j = 7
    · subst h; rfl
    · have hk : mKd j ≠ 1 := by
        intro a
        have : ∀ i, mKd i = 1 → i = 7 := by
          intro i
          unfold mKd
          split <;> simp
        exact h (this j a)
      simp only [updV, h, if_false, mVal]
      split
      · rfl
      · rfl
      · next a => exact absurd a hk
      · rfl
  · exact z.elim
/-- arrays -/
def o_mia (mo k : Nat) (Q : Cont MS) : Cont MS := fun L st σ => match st with
  | .int i :: v :: st => v = .ref (mad mo k) ∧ vp_in i (mLen k) ∧ Q L (.int (σ.2.2 k i.toNatClampNeg) :: st) σ
  | _ => False
def o_mis (mo k : Nat) (Q : Cont MS) : Cont MS := fun L st σ => match st with
  | .int x :: .int i :: v :: st => v = .ref (mad mo k) ∧ vp_in i (mLen k) ∧ Q L st (mset σ k i.toNatClampNeg x)
  | _ => False
def o_mbs (mo k : Nat) (Q : Cont MS) : Cont MS := fun L st σ => match st with
  | .int x :: .int i :: v :: st => v = .ref (mad mo k) ∧ vp_in i (mLen k) ∧ (x = 0 ∨ x = 1) ∧ Q L st (mset σ k i.toNatClampNeg x)
  | _ => False
theorem si_mia (hE : IsEnt (wM g) y cc nL ret fr lo ht Rt E X) {k : Nat} (d : decode cc pc = .ok (.iaload, 1)) (hk : k < 62) (hkd : mKd k = 2) (kk : E Q (pc + 1)) : E (o_mia g.1 k Q) pc := by
  obtain ⟨p, l, e, R, s, m, args, below, meth, c, b0, hI, -, hx, hb, -, -, hown, hts, -, -, hKn, -⟩ := hE
  rw [hI] at kk ⊢
  intro L st σ z H locs cells slots ls h1 h2 h3 h4 h5
  unfold o_mia at z
  split at z
  · next i v st' =>
    obtain ⟨rfl, hin, z⟩ := z
    have hcell := h1.2 k hk (by simp [isArK, hkd])
    have hcA : mCA g k = g.2.2.2.1 := by simp [mCA, hkd]
    rw [hcA] at hcell
    have hlt : i.toNatClampNeg < mLen k := Nat.not_le.mp fun q => hin (Or.inr q)
    have hK : va_K (mD g) mCl (mTys g) s := hKn
    exact W.iald (v := .int (σ.2.2 k i.toNatClampNeg)) hx hb hcell ((hK.2 0 _ rfl).1 _ _) (fun q => by cases q) (by rw [arrV_size]; exact hin) (by rw [arrV_read _ _ hlt]) rfl rfl d (kk L _ σ z H locs cells slots ls h1 h2 h3 h4 h5)
  · exact z.elim
theorem si_mza (hE : IsEnt (wM g) y cc nL ret fr lo ht Rt E X) {k : Nat} (d : decode cc pc = .ok (.baload, 1)) (hk : k < 62) (hkd : mKd k = 3) (kk : E Q (pc + 1)) : E (o_mia g.1 k Q) pc := by
  obtain ⟨p, l, e, R, s, m, args, below, meth, c, b0, hI, -, hx, hb, -, -, hown, hts, -, -, hKn, -⟩ := hE
  rw [hI] at kk ⊢
  intro L st σ z H locs cells slots ls h1 h2 h3 h4 h5
  unfold o_mia at z
  split at z
  · next i v st' =>
    obtain ⟨rfl, hin, z⟩ := z
    have hcell := h1.2 k hk (by simp [isArK, hkd])
    have hcA : mCA g k = g.2.2.2.2 := by simp [mCA, hkd]
    rw [hcA] at hcell
    have hlt : i.toNatClampNeg < mLen k := Nat.not_le.mp fun q => hin (Or.inr q)
    have hK : va_K (mD g) mCl (mTys g) s := hKn
    exact W.zald (v := .int (σ.2.2 k i.toNatClampNeg)) hx hb hcell ((hK.2 1 _ rfl).1 _ _) (fun q => by cases q) (by rw [arrV_size]; exact hin) (by rw [arrV_read _ _ hlt]) rfl rfl d (kk L _ σ z H locs cells slots ls h1 h2 h3 h4 h5)
  · exact z.elim
theorem RepM.store {ms : MS} {H H' : Heap} {k i : Nat} {x : Int32} (h : RepM g ms H) (hk : k < 62) (ha : isArK k = true) (e1 : H'[mad g.1 k]? = some ((arrV (mCA g k) (mLen k) (fun j => .int (ms.2.2 k j))).setSlot i (.int x))) (e3 : ∀ q, q ≠ mad g.1 k → H'[q]? = H[q]?) : RepM g (mset ms k i x) H' := by
  refine ⟨?_, fun j hj haj => ?_⟩
  · have h9 : t_OB g.1 g.2.1 62 g.2.2.1 H' (mVal g.1 ms) := h.1.kept (e3 _ (by unfold mad; omega))
    exact h9
  · by_cases hjk : j = k
    · subst hjk
      rw [e1, arrV_store]
      congr 2
      funext n
      simp only [updV, mset]
      by_cases hn : n = i <;> simp [hn]
    · rw [e3 _ (fun q => hjk (mOrd_inj j hj k hk haj ha (by unfold mad at q; omega))), h.2 j hj haj]
      congr 2
      funext n
      simp [mset, hjk]
theorem mad_own {k : Nat} (hk : k < 62) : (wM g).2.2.1 (mad g.1 k) := ⟨by unfold mad; omega, by have := mOrd_lt k hk; show mad g.1 k < g.1 + 41; unfold mad; omega⟩
theorem si_mis (hE : IsEnt (wM g) y cc nL ret fr lo ht Rt E X) {k : Nat} (d : decode cc pc = .ok (.iastore, 1)) (hk : k < 62) (hkd : mKd k = 2) (kk : E Q (pc + 1)) : E (o_mis g.1 k Q) pc := by
  obtain ⟨p, l, e, R, s, m, args, below, meth, c, b0, hI, -, hx, hb, -, -, hown, hts, -, -, hKn, -⟩ := hE
  rw [hI] at kk ⊢
  intro L st σ z H locs cells slots ls h1 h2 h3 h4 h5
  unfold o_mis at z
  split at z
  · next x i v st' =>
    obtain ⟨rfl, hin, z⟩ := z
    have ha : isArK k = true := by simp [isArK, hkd]
    have hcell := h1.2 k hk ha
    have hcA : mCA g k = g.2.2.2.1 := by simp [mCA, hkd]
    have hK : va_K (mD g) mCl (mTys g) s := hKn
    refine W.iast hx hb hcell (by rw [hcA]; exact (hK.2 0 _ rfl).1 _ _) (fun q => by cases q) (by rw [arrV_size]; exact hin) rfl rfl d (fun H' e1 e2 e3 => ?_)
    refine kk L st' _ z H' _ cells slots ls (RepM.store h1 hk ha e1 e3) (fun r hr => ?_) h3 h4 h5
    rcases List.mem_append.mp hr with a | a
    · exact h2 r a
    · rw [List.mem_singleton] at a
      rw [a]
      exact mad_own hk
  · exact z.elim
theorem si_mbs (hE : IsEnt (wM g) y cc nL ret fr lo ht Rt E X) {k : Nat} (d : decode cc pc = .ok (.bastore, 1)) (hk : k < 62) (hkd : mKd k = 3) (kk : E Q (pc + 1)) : E (o_mbs g.1 k Q) pc := by
  obtain ⟨p, l, e, R, s, m, args, below, meth, c, b0, hI, -, hx, hb, -, -, hown, hts, -, -, hKn, -⟩ := hE
  rw [hI] at kk ⊢
  intro L st σ z H locs cells slots ls h1 h2 h3 h4 h5
  unfold o_mbs at z
  split at z
  · next x i v st' =>
    obtain ⟨rfl, hin, h01, z⟩ := z
    have ha : isArK k = true := by simp [isArK, hkd]
    have hcell := h1.2 k hk ha
    have hcA : mCA g k = g.2.2.2.2 := by simp [mCA, hkd]
    have hK : va_K (mD g) mCl (mTys g) s := hKn
    have hnr : narrow .boolean (.int x) = .int x := by rcases h01 with a | a <;> rw [a] <;> rfl
    refine W.zast hx hb hcell (by rw [hcA]; exact (hK.2 1 _ rfl).1 _ _) (fun q => by cases q) (by rw [arrV_size]; exact hin) rfl rfl d (fun H' e1 e2 e3 => ?_)
    rw [hnr] at e1
    refine kk L st' _ z H' _ cells slots ls (RepM.store h1 hk ha e1 e3) (fun r hr => ?_) h3 h4 h5
    rcases List.mem_append.mp hr with a | a
    · exact h2 r a
    · rw [List.mem_singleton] at a
      rw [a]
      exact mad_own hk
  · exact z.elim
/-- a call of a method of its own -/
def o_mc (mo n : Nat) (pt : PT MS) (R : Ret MS) (Q : Cont MS) : Cont MS := o_call n (fun as σ Z => as.head? = some (.ref mo) ∧ pt as σ Z) (fun _ a σ => R (.inr a) σ) Q
theorem mrecv {σ : MS} : Recv (wM g) RX2 g.1 σ := by
  intro s H hK h
  have hK : va_K (mD g) mCl (mTys g) s := hK
  obtain ⟨⟨cell, h1, h2, h3, -⟩, -⟩ := (h : RepM g σ H)
  refine ⟨cell, h1, by rw [h3]; rfl, ?_⟩
  rw [h2]
  exact (hK.1 0 _ rfl).2.1
theorem si_mc (hE : IsEnt (wM g) y cc nL ret fr lo [] Rt E X) (hy : y.cls = RX2) {idx n : Nat} {y2 : MethodName} {cc2 : ByteArray} {nL2 : Nat} {ret2 : Option FieldType} {fr2 lo2 : Nat} {pt : PT MS} (d : decode cc pc = .ok (.invokevirtual idx, 3)) (hC : CT (wM g) y2 (Cond.code y2 cc2 nL2 ret2) fr2 lo2 pt) (hy2 : y2.cls = RX2)
    (hl : Cond.methodLink RX2 idx y2 ∈ lw_all) (hi : Cond.instanceMethod y2 ∈ lw_all) (hs : Cond.selects RX2 y2 y2 ∈ lw_all) (hwd : Cond.code y2 cc2 nL2 ret2 ∈ lw_all) (hin : Cond.initialized RX2 ∈ lw_all) (hp : parN y2 n) (hfr : fr2 + 1 ≤ fr) (hlo : 8 + (nL2 + 11) + lo2 ≤ lo) (kk : E Q (pc + 3)) : E (o_mc g.1 (n + 1) pt Rt Q) pc := by
  refine si_call (wM_ok g) hE d (fun as σ Q' hn hG => ?_) (si_out hE rfl) kk
  obtain ⟨hh, hpt⟩ := hG
  match as, hn, hh, hpt with
  | v :: as', hn, hh, hpt =>
    have hv : v = .ref g.1 := by simpa using hh
    subst hv
    refine ⟨y2, _, fr2, lo2, pt, cc2, nL2, ret2, [], hC, hwd, Or.inl ⟨rfl, rfl⟩, by rw [hy2]; exact hin, hfr, hlo, hpt, ?_⟩
    rw [hy]
    exact lk_V hl hi hs hwd (Or.inl ⟨rfl, rfl⟩) (by rw [hy2]; exact ⟨by decide +kernel, by decide +kernel⟩) hp (by simpa using hn) mrecv
end MW
