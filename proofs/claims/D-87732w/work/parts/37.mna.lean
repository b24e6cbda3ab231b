/-! new int[2][8]: the two rows of eight ints -/
set_option maxRecDepth 100000
section MNA
variable {E : CtlPost} {e : Env} {d : Bool} {acts : List Action} {s : State}
theorem mn_newArray {c comp : ClassId} {k : Class} {type : FieldType} {len : Nat} {init : Value} (hk : s.vm.classes[c]? = some k) (hkind : k.kind = .array comp type)
    (hlimit : ¬ len > e.platform.arrayLengthLimit) (hheap : ¬ len * componentBytes type > e.platform.maxHeapBytes) (hfit : fits type init = true) (hdef : init.isDefault = true) {Q : Addr → Pre}
    (h1 : s.heap.size < e.platform.maxCells) (h2 : s.slotsUsed + len ≤ e.platform.maxSlots)
    (hq : Q s.heap.size d acts (s.pushCell { cls := c, slots := Array.replicate len init, vm := .none })) :
    wp (Jvm.newArray c len init) Q E e d acts s := by
  have hfits : ∀ i v, (Array.replicate len init)[i]? = some v → s.fitsSlot c .none i v = true := by
    intro i v hv
    simp only [Array.getElem?_replicate] at hv
    split at hv
    · cases hv; simp [State.fitsSlot, State.slotType?, hk, hkind, hfit]
    · cases hv
  have hda : allocActs (Array.replicate len init) s.heap.size acts = acts := by
    have hall : ((Array.replicate len init).all (·.isDefault)) = true := by
      rw [Array.all_replicate]; split <;> simp [hdef]
    unfold allocActs; rw [if_pos hall]
  simp only [Jvm.newArray, Jvm.arrayFits, wp_bind', W.ask, W.ite, hlimit, if_false, wp_pure', W.theClass, hk, hkind, hheap, W.alloc, W.stop, Option.some.injEq, exists_eq_left', Array.size_replicate, hda]
  rw [if_neg (by omega)]
  exact ⟨h1, h2, hfits, hq⟩
end MNA
theorem mn_make1 {E : CtlPost} {e : Env} {d : Bool} {acts : List Action} {s : State} {cI cc : ClassId} {kc : Class} (hkc : s.vm.classes[cI]? = some kc) (hkindc : kc.kind = .array cc .int) (hl2 : ¬ 8 > e.platform.arrayLengthLimit) (hh2 : ¬ 8 * 4 > e.platform.maxHeapBytes)
    (h1 : s.heap.size < e.platform.maxCells) (h2 : s.slotsUsed + 8 ≤ e.platform.maxSlots) {Q : Addr → Pre} (hq : Q s.heap.size d acts (s.pushCell { cls := cI, slots := Array.replicate 8 (.int 0), vm := .none })) : wp (multianewarray.make cI [8]) Q E e d acts s := by
  rw [multianewarray.make]
  simp only [wp_bind', W.ite, wp_pure', W.theClass, hkc, hkindc, Option.some.injEq, exists_eq_left']
  rw [if_neg (by decide)]
  exact mn_newArray (len := (8 : Int32).toNatClampNeg) hkc hkindc hl2 hh2 rfl rfl h1 h2 hq
/-- the cells, and the states, one by one -/
def mnO (cA : ClassId) : Cell := { cls := cA, slots := Array.replicate 2 .null, vm := .none }
def mnR (cI : ClassId) : Cell := { cls := cI, slots := Array.replicate 8 (.int 0), vm := .none }
def mnO1 (cA : ClassId) (h : Nat) : Cell := (mnO cA).setSlot 0 (.ref (h + 1))
def mnO2 (cA : ClassId) (h : Nat) : Cell := (mnO1 cA h).setSlot 1 (.ref (h + 2))
def mnS0 (T : State) (cA : ClassId) : State := T.pushCell (mnO cA)
def mnS1 (T : State) (cA cI : ClassId) : State := ((mnS0 T cA).pushCell (mnR cI)).setCell T.heap.size (mnO1 cA T.heap.size)
def mnS2 (T : State) (cA cI : ClassId) : State := ((mnS1 T cA cI).pushCell (mnR cI)).setCell T.heap.size (mnO2 cA T.heap.size)
theorem mnS0_f (T : State) (cA : ClassId) : (mnS0 T cA).heap.size = T.heap.size + 1 ∧ (mnS0 T cA).heap[T.heap.size]? = some (mnO cA) ∧ (mnS0 T cA).vm = T.vm ∧ (mnS0 T cA).slotsUsed = T.slotsUsed + 2 := ⟨by simp [mnS0], by simp [mnS0], rfl, by simp [mnS0, mnO]⟩
theorem mnS1_f (T : State) (cA cI : ClassId) : (mnS1 T cA cI).heap.size = T.heap.size + 2 ∧ (mnS1 T cA cI).heap[T.heap.size]? = some (mnO1 cA T.heap.size) ∧ (mnS1 T cA cI).vm = T.vm ∧ (mnS1 T cA cI).slotsUsed = T.slotsUsed + 10 := by
  obtain ⟨a, b, c, d⟩ := mnS0_f T cA
  have hlt : T.heap.size < (mnS0 T cA).heap.size := by omega
  have hb' : ((mnS0 T cA).pushCell (mnR cI)).heap[T.heap.size]? = some (mnO cA) := by rw [State.heap_pushCell_of_lt (h := hlt)]; exact b
  refine ⟨?_, State.heap_setCell_self hb', by simp [mnS1, c], ?_⟩
  · simp [mnS1, State.setCell, a]
  · simp [mnS1, d, mnR]
theorem mna_make {E : CtlPost} {e : Env} {d : Bool} {acts : List Action} {T : State} {cA cI cc : ClassId} {k kc : Class} (hk : T.vm.classes[cA]? = some k) (hkind : k.kind = .array cI (.array .int)) (hkc : T.vm.classes[cI]? = some kc) (hkindc : kc.kind = .array cc .int)
    (hl1 : ¬ 2 > e.platform.arrayLengthLimit) (hh1 : ¬ 2 * 4 > e.platform.maxHeapBytes) (hl2 : ¬ 8 > e.platform.arrayLengthLimit) (hh2 : ¬ 8 * 4 > e.platform.maxHeapBytes) (hc : T.heap.size + 3 ≤ e.platform.maxCells) (hs : T.slotsUsed + 18 ≤ e.platform.maxSlots)
    {Q : Addr → Pre} (hq : ∀ d' acts', Q T.heap.size d' acts' (mnS2 T cA cI)) : wp (multianewarray.make cA [2, 8]) Q E e d acts T := by
  obtain ⟨a0, a1, a2, a3⟩ := mnS0_f T cA
  obtain ⟨b0, b1, b2, b3⟩ := mnS1_f T cA cI
  rw [multianewarray.make]
  simp only [wp_bind', W.ite, wp_pure', W.theClass, hk, hkind, Option.some.injEq, exists_eq_left']
  rw [if_neg (by decide)]
  refine mn_newArray (len := (2 : Int32).toNatClampNeg) hk hkind hl1 hh1 rfl rfl (by omega) (by show T.slotsUsed + 2 ≤ _; omega) ?_
  rw [if_neg (by decide), wp_bind', Std.Legacy.Range.forIn_eq_forIn_range']
  show wp (forIn ([0, 1] : List Nat) PUnit.unit _) _ E e d acts (mnS0 T cA)
  refine wp_forIn_inv (fun rest s' => (rest = [0, 1] ∧ s' = mnS0 T cA) ∨ (rest = [1] ∧ s' = mnS1 T cA cI) ∨ (rest = [] ∧ s' = mnS2 T cA cI)) _ _ (Or.inl ⟨rfl, rfl⟩) ?_ ?_
  · rintro x rest s' d' acts' Q' hI hnext
    rcases hI with ⟨hl, rfl⟩ | ⟨hl, rfl⟩ | ⟨hl, _⟩
    · cases hl
      simp only [wp_bind']
      refine mn_make1 (by rw [a2]; exact hkc) hkindc hl2 hh2 (by omega) (by omega) ?_
      simp only [wp_bind', W.writeLoc, wp_pure']
      have hlt : T.heap.size < (mnS0 T cA).heap.size := by omega
      refine ⟨mnO cA, by rw [State.heap_pushCell_of_lt (h := hlt)]; exact a1, by simp [mnO], by simp [mnO], ?_, hnext _ _ _ (Or.inr (Or.inl ⟨rfl, ?_⟩))⟩
      · simp [State.fitsSlot, State.slotType?, a2, hk, hkind, mnO, fits]
      · rw [a0]; rfl
    · cases hl
      simp only [wp_bind']
      refine mn_make1 (by rw [b2]; exact hkc) hkindc hl2 hh2 (by omega) (by omega) ?_
      simp only [wp_bind', W.writeLoc, wp_pure']
      have hlt : T.heap.size < (mnS1 T cA cI).heap.size := by omega
      refine ⟨mnO1 cA T.heap.size, by rw [State.heap_pushCell_of_lt (h := hlt)]; exact b1, by simp [mnO1, mnO, Cell.setSlot], by simp [mnO1, mnO, Cell.setSlot], ?_, hnext _ _ _ (Or.inr (Or.inr ⟨rfl, ?_⟩))⟩
      · simp [State.fitsSlot, State.slotType?, b2, hk, hkind, mnO1, mnO, Cell.setSlot, fits]
      · rw [b0]; rfl
    · cases hl
  · rintro s' d' acts' hI
    rcases hI with ⟨hl, -⟩ | ⟨hl, -⟩ | ⟨-, rfl⟩
    · cases hl
    · cases hl
    · simp only [wp_pure']
      exact hq _ _
theorem mnS2_f (T : State) (cA cI : ClassId) : (mnS2 T cA cI).heap.size = T.heap.size + 3 ∧ (mnS2 T cA cI).heap[T.heap.size]? = some (mnO2 cA T.heap.size) ∧ (mnS2 T cA cI).heap[T.heap.size + 1]? = some (mnR cI) ∧ (mnS2 T cA cI).heap[T.heap.size + 2]? = some (mnR cI) ∧ ∀ q, q < T.heap.size → (mnS2 T cA cI).heap[q]? = T.heap[q]? := by
  obtain ⟨a0, a1, a2, a3⟩ := mnS0_f T cA
  obtain ⟨b0, b1, b2, b3⟩ := mnS1_f T cA cI
  have hlt : T.heap.size < (mnS1 T cA cI).heap.size := by omega
  have hb' : ((mnS1 T cA cI).pushCell (mnR cI)).heap[T.heap.size]? = some (mnO1 cA T.heap.size) := by rw [State.heap_pushCell_of_lt (h := hlt)]; exact b1
  have n1 : T.heap.size ≠ T.heap.size + 1 := by omega
  have n2 : T.heap.size ≠ T.heap.size + 2 := by omega
  have l1 : T.heap.size + 1 < (mnS1 T cA cI).heap.size := by omega
  refine ⟨by simp [mnS2, State.setCell, b0], State.heap_setCell_self hb', ?_, ?_, fun q hq => ?_⟩
  · show (((mnS1 T cA cI).pushCell (mnR cI)).setCell T.heap.size (mnO2 cA T.heap.size)).heap[T.heap.size + 1]? = _
    rw [State.heap_setCell_other n1, State.heap_pushCell_of_lt (h := l1)]
    show (((mnS0 T cA).pushCell (mnR cI)).setCell T.heap.size (mnO1 cA T.heap.size)).heap[T.heap.size + 1]? = _
    rw [State.heap_setCell_other n1]
    show ((mnS0 T cA).heap.push (mnR cI))[T.heap.size + 1]? = _
    rw [← a0, Array.getElem?_push_size]
  · show (((mnS1 T cA cI).pushCell (mnR cI)).setCell T.heap.size (mnO2 cA T.heap.size)).heap[T.heap.size + 2]? = _
    rw [State.heap_setCell_other n2]
    show ((mnS1 T cA cI).heap.push (mnR cI))[T.heap.size + 2]? = _
    rw [← b0, Array.getElem?_push_size]
  · have nq : T.heap.size ≠ q := by omega
    have lq1 : q < (mnS1 T cA cI).heap.size := by omega
    have lq0 : q < (mnS0 T cA).heap.size := by omega
    show (((mnS1 T cA cI).pushCell (mnR cI)).setCell T.heap.size (mnO2 cA T.heap.size)).heap[q]? = _
    rw [State.heap_setCell_other nq, State.heap_pushCell_of_lt (h := lq1)]
    show (((mnS0 T cA).pushCell (mnR cI)).setCell T.heap.size (mnO1 cA T.heap.size)).heap[q]? = _
    rw [State.heap_setCell_other nq, State.heap_pushCell_of_lt (h := lq0)]
    exact State.heap_pushCell_of_lt _ _ hq
theorem mnS2_top (T : State) (f : JFrame) (cA cI : ClassId) : mnS2 (T.setTop f) cA cI = (mnS2 T cA cI).setTop f := by
  simp only [mnS2, mnS1, mnS0, State.heap_setTop, State.pushCell_setTop, State.setCell_setTop]
theorem mn_stand {p : Program} {l : Launch} {e : Env} {R : Room} {s : State} {m : MethodId} {args : Array Value} {below : List Frame} {meth : Method} {c : Code} {T : State} {locs : List Loc} {cells slots : Nat} (X : Stand p l e R s m args below meth c T locs cells slots) (cA cI : ClassId) : Stand p l e R s m args below meth c (mnS2 T cA cI) (locs ++ [⟨T.heap.size, 0⟩] ++ [⟨T.heap.size, 1⟩]) (cells + 3) (slots + 18) := by
  obtain ⟨a0, a1, a2, a3⟩ := mnS0_f T cA
  obtain ⟨b0, b1, b2, b3⟩ := mnS1_f T cA cI
  have hlt0 : T.heap.size < (mnS0 T cA).heap.size := by omega
  have hlt : T.heap.size < (mnS1 T cA cI).heap.size := by omega
  have X0 : Stand p l e R s m args below meth c (mnS0 T cA) locs (cells + 1) (slots + 2) := by simpa [mnS0, mnO] using X.pushed (mnO cA)
  have X1 : Stand p l e R s m args below meth c (mnS1 T cA cI) (locs ++ [⟨T.heap.size, 0⟩]) (cells + 2) (slots + 10) := by
    have h := (X0.pushed (mnR cI)).stored (a := T.heap.size) (by rw [State.heap_pushCell_of_lt (h := hlt0)]; exact a1) 0 (.ref (T.heap.size + 1))
    simpa [mnS1, mnR, mnO1] using h
  have h := (X1.pushed (mnR cI)).stored (a := T.heap.size) (by rw [State.heap_pushCell_of_lt (h := hlt)]; exact b1) 1 (.ref (T.heap.size + 2))
  simpa [mnS2, mnR, mnO2] using h
theorem W_mna {p : Program} {l : Launch} {e : Env} {R : Room} {s : State} {m : MethodId} {args : Array Value} {below : List Frame} {meth : Method} {c : Code} {H : Heap} {locs : List Loc} {cells slots : Nat} {Q : State → Prop} {cc : ByteArray} {pc : Nat} {ls : Array Slot} {rest : List Value} (hexec : p.tables.exec = Jvm.exec) (hb : c.code = cc) {own : String} {index : Nat}
    (hown : s.vm.findClass own = some m.cls) (hclink : (Cond.classLink own index "[[I").before args s = true) (hover : (Cond.arrayOver (.array .int)).before args s = true) (harr : (Cond.arrayClass .int).before args s = true)
    (hdg : decode cc pc = .ok (.multianewarray index 2, 4)) (hcells : cells + 3 ≤ R.cells) (hslots : slots + 18 ≤ R.slots)
    (kk : ∀ (cA cI : ClassId) (H' : Heap), s.vm.findClass "[[I" = some cA → s.vm.findClass "[I" = some cI → H'.size = H.size + 3 → H'[H.size]? = some (mnO2 cA H.size) → H'[H.size + 1]? = some (mnR cI) → H'[H.size + 2]? = some (mnR cI) → (∀ q, q < H.size → H'[q]? = H[q]?) →
      W p l e R s m args below meth c H' (locs ++ [⟨H.size, 0⟩] ++ [⟨H.size, 1⟩]) (cells + 3) (slots + 18) Q (F0 m (pc + 4) ls (.ref H.size :: rest))) : W p l e R s m args below meth c H locs cells slots Q (F0 m pc ls (.int 8 :: .int 2 :: rest)) := by
  intro T hT X
  subst hT; subst hb
  have hpl : e.platform.magicAccessors = ({} : Platform).magicAccessors := by rw [X.admits.platform]
  obtain ⟨comp, cA, kA, hcomp, hidx, hkA, hkindA, hnameA⟩ := arrayOverA_spec hover
  obtain ⟨comp', kC, cc, hcomp', hkC, hkindC⟩ := Cond.arrayClass_spec harr
  have ecomp : comp' = comp := Option.some.inj (hcomp'.symm.trans hcomp)
  subst ecomp
  obtain ⟨c0, hfc0, hcl⟩ := Cond.classLink_spec hown hclink e.platform hpl
  have ec : c0 = cA := Option.some.inj (hfc0.symm.trans hnameA)
  subst ec
  obtain ⟨hg₁, hwarm₁, hready₁⟩ := State.classEntry (e := e) X.warmed hcl
  generalize T.vm.noted m.cls index (.cls c0) = vm₁ at hg₁ hwarm₁ hready₁
  have hal : s.vm.Alike vm₁ := hwarm₁.alike
  obtain ⟨kA₁, hkA₁, heA⟩ := hal.2.2 _ _ hkA
  obtain ⟨kC₁, hkC₁, heC⟩ := hal.2.2 _ _ hkC
  have hkindA₁ : kA₁.kind = .array comp' (.array .int) := by rw [heA]; exact hkindA
  have hkindC₁ : kC₁.kind = .array cc .int := by rw [heC]; exact hkindC
  have X₁ := X.noted hwarm₁
  have XF := mn_stand X₁ c0 comp'
  obtain ⟨f1, f2, f3, f4, f5⟩ := mnS2_f (T.setVm vm₁) c0 comp'
  obtain ⟨hr1, hr2⟩ := X.roomAbove hcells hslots
  obtain ⟨t', a1, b1⟩ := kk c0 comp' (mnS2 (T.setVm vm₁) c0 comp').heap hnameA hcomp f1 f2 f3 f4 f5 (mnS2 (T.setVm vm₁) c0 comp') rfl XF
  refine ⟨t', ?_, b1⟩
  have hl1 : ¬ 2 > e.platform.arrayLengthLimit := by rw [Launch.admits_arrayLengthLimit X.admits]; omega
  have hh1 : ¬ 2 * 4 > e.platform.maxHeapBytes := by rw [Launch.admits_maxHeapBytes X.admits]; omega
  have hl2 : ¬ 8 > e.platform.arrayLengthLimit := by rw [Launch.admits_arrayLengthLimit X.admits]; omega
  have hh2 : ¬ 8 * 4 > e.platform.maxHeapBytes := by rw [Launch.admits_maxHeapBytes X.admits]; omega
  jvm_step X.here [hexec, hdg]
  simp only [multianewarray.sem, wp_bind', W.resolveClassAt_links (State.method?_setTop (F0 m pc ls (.int 8 :: .int 2 :: rest)) X.here.top) hg₁]
  rw [W.popN, if_neg (by decide)]
  refine ⟨F0 m pc ls (.int 8 :: .int 2 :: rest), State.topJava?_setTop' (s := T.setVm vm₁) _ X.here.top, [.int 2, .int 8], rest, rfl, rfl, ?_⟩
  simp only [List.mapM_cons, List.mapM_nil, wp_bind', wp_pure']
  have eS : ((T.setTop (F0 m pc ls (.int 8 :: .int 2 :: rest))).setVm vm₁).setTop { F0 m pc ls (.int 8 :: .int 2 :: rest) with stack := rest } = (T.setVm vm₁).setTop { F0 m pc ls (.int 8 :: .int 2 :: rest) with stack := rest } := by
    show ((T.setVm vm₁).setTop _).setTop _ = _
    rw [State.setTop_setTop]
  refine mna_make (cI := comp') (cc := cc) (k := kA₁) (kc := kC₁) hkA₁ hkindA₁ hkC₁ hkindC₁ hl1 hh1 hl2 hh2 (by show T.heap.size + 3 ≤ _; omega) (by show T.slotsUsed + 18 ≤ _; omega) (fun d' acts' => ?_)
  rw [eS, mnS2_top]
  simp only [wp_bind', W.mark, W.pushRef, State.topJava?_setTop' _ XF.here.top, Option.some.injEq, exists_eq_left', State.setTop_setTop, State.heap_setTop]
  intro acts
  simp [jvm, XF.here.top]
  exact a1
/-- new int[n][k] for n = 2: two rows, then their array; as the machine lays them -/
def o_mna (Q : Cont AH) : Cont AH := fun L st σ => match st with
  | .int k :: .int n :: st => (n = 2 ∧ k = 8) ∧ (3 ≤ hC σ ∧ 18 ≤ hS σ) ∧ Q L (.ref (hN σ) :: st) (hsR (hsR (hnw (hnw (hnw σ 106 2 2) 100 8 8) 100 8 8) (hN σ) 0 (some (hN σ + 1))) (hN σ) 1 (some (hN σ + 2)))
  | _ => False
theorem mnO2_arr (cA : ClassId) (h : Nat) : mnO2 cA h = arrV cA 2 (updV (updV (fun _ => .null) 0 (.ref (h + 1))) 1 (.ref (h + 2))) := by
  unfold mnO2 mnO1
  rw [← arrV_store, ← arrV_store]
  congr 2
theorem mnR_arr (cI : ClassId) : mnR cI = arrV cI 8 (fun _ => .int 0) := (arrV_new cI 8 (.int 0))
theorem rep_mna {g : GC} {σ : AH} {H H' : Heap} (h : RepC g σ H) (q0 : H'.size = H.size + 3) (q1 : H'[H.size]? = some (mnO2 (g.2.2.2.2.1 6) H.size)) (q2 : H'[H.size + 1]? = some (mnR (g.2.2.2.2.1 0))) (q3 : H'[H.size + 2]? = some (mnR (g.2.2.2.2.1 0))) (q4 : ∀ q, q < H.size → H'[q]? = H[q]?) :
    RepC g (hsR (hsR (hnw (hnw (hnw σ 106 2 2) 100 8 8) 100 8 8) (hN σ) 0 (some (hN σ + 1))) (hN σ) 1 (some (hN σ + 2))) H' := by
  have hsz : H.size = hN σ := h.1
  have hfr : g.2.2.2.2.2 (hN σ) := (h.2.1 _ (Nat.le_refl _)).1
  have k1 : RepC g (hnw σ 106 2 2) (H.push (arrV (g.2.2.2.2.1 6) 2 (fun _ => .null))) := h.new (by simp [hsz]) (fun q hq => by rw [Array.getElem?_push, if_neg (by omega)]) (arr_new (u := 6) (by decide) h (by rw [← hsz, Array.getElem?_push_size]; rfl))
  have k2 : RepC g (hnw (hnw σ 106 2 2) 100 8 8) ((H.push (arrV (g.2.2.2.2.1 6) 2 (fun _ => .null))).push (mnR (g.2.2.2.2.1 0))) :=
    k1.new (by rw [← k1.1]; simp) (fun q hq => by rw [Array.getElem?_push, if_neg (by rw [← k1.1] at hq; omega)]) (arr_new (u := 0) (by decide) k1 (by rw [← k1.1, Array.getElem?_push_size, mnR_arr]; rfl))
  have k3 : RepC g (hnw (hnw (hnw σ 106 2 2) 100 8 8) 100 8 8) (((H.push (arrV (g.2.2.2.2.1 6) 2 (fun _ => .null))).push (mnR (g.2.2.2.2.1 0))).push (mnR (g.2.2.2.2.1 0))) :=
    k2.new (by rw [← k2.1]; simp) (fun q hq => by rw [Array.getElem?_push, if_neg (by rw [← k2.1] at hq; omega)]) (arr_new (u := 0) (by decide) k2 (by rw [← k2.1, Array.getElem?_push_size, mnR_arr]; rfl))
  have htg : hT (hnw (hnw (hnw σ 106 2 2) 100 8 8) 100 8 8) (hN σ) = 106 := by
    show va_up (va_up (va_up (hT σ) (hN σ) 106) (hN σ + 1) 100) (hN σ + 2) 100 (hN σ) = 106
    simp [va_up]
  have hlg : hL (hnw (hnw (hnw σ 106 2 2) 100 8 8) 100 8 8) (hN σ) = 2 := by
    show va_up (va_up (va_up (hL σ) (hN σ) 2) (hN σ + 1) 8) (hN σ + 2) 8 (hN σ) = 2
    simp [va_up]
  refine k3.one hfr rfl ?_ rfl rfl ?_ ?_ (show hN σ < hN σ + 1 + 1 + 1 by omega) ?_
  · rw [q0]; simp
  · intro b hb
    obtain ⟨x1, x2, x3⟩ := off_R (σ := hsR (hnw (hnw (hnw σ 106 2 2) 100 8 8) 100 8 8) (hN σ) 0 (some (hN σ + 1))) (k := 1) (x := some (hN σ + 2)) b hb
    obtain ⟨y1, y2, y3⟩ := off_R (σ := hnw (hnw (hnw σ 106 2 2) 100 8 8) 100 8 8) (k := 0) (x := some (hN σ + 1)) b hb
    exact ⟨x1.trans y1, x2.trans y2, x3.trans y3⟩
  · intro q hq
    rw [← hsz] at hq
    by_cases l0 : q < H.size
    · rw [q4 q l0, Array.getElem?_push, if_neg (by simp; omega), Array.getElem?_push, if_neg (by simp; omega), Array.getElem?_push, if_neg (by omega)]
    · by_cases l1 : q = H.size + 1
      · subst l1
        rw [q2, Array.getElem?_push, if_neg (by simp), Array.getElem?_push, if_pos (by simp)]
      · by_cases l2 : q = H.size + 2
        · subst l2
          rw [q3, Array.getElem?_push, if_pos (by simp)]
        · rw [Array.getElem?_eq_none (by omega), Array.getElem?_eq_none (by simp; omega)]
  · rw [htg, hlg]
    refine ⟨fun c9 hc9 hlt => by omega, fun q => by omega, fun q => by omega, fun u' hu' _ => ?_, fun u' hu' _ => by omega⟩
    have eu : u' = 6 := by omega
    subst eu
    refine ⟨hfr, ?_⟩
    rw [← hsz, q1, mnO2_arr]
    congr 2
    funext j
    have z0 := (h.2.1 (hN σ) (Nat.le_refl _)).2.2
    rw [hsz]
    have e1 : hR (hsR (hsR (hnw (hnw (hnw σ 106 2 2) 100 8 8) 100 8 8) (hN σ) 0 (some (hN σ + 1))) (hN σ) 1 (some (hN σ + 2))) (hN σ) j = if j = 1 then some (hN σ + 2) else if j = 0 then some (hN σ + 1) else none := by
      show up2 (up2 (hR σ) _ _ _) _ _ _ _ _ = _
      simp [up2, (z0 j).2.2]
    show _ = va_rf (hR _ _ _)
    rw [e1]
    simp only [updV]
    split
    · rfl
    · split
      · rfl
      · rfl
theorem si_mna {g : GC} {y : MethodName} {cc : ByteArray} {nL : Nat} {ret : Option FieldType} {fr lo : Nat} {ht : HT} {Rt : Ret AH} {E : Cont AH → Nat → Prop} {X : (Lc → Nat → AH → Prop) → Nat → Prop} {pc : Nat} {Q : Cont AH} (hE : IsEnt (wC g) y cc nL ret fr lo ht Rt E X) {idx : Nat} (d : decode cc pc = .ok (.multianewarray idx 2, 4)) (hcl : Cond.classLink y.cls idx "[[I" ∈ lw_all) (kk : E Q (pc + 4)) : E (o_mna Q) pc := by
  obtain ⟨p, l, e, R, s, m, args, below, meth, c, b0, hI_, -, hx, hb, hml, -, hown, hts, -, -, hKn, -, ⟨hR1, hR2, hR3, hR4⟩, -⟩ := hE
  rw [hI_] at kk ⊢
  have hK : KnC g s := hKn
  intro L st σ z H locs cells slots ls h1 h2 h3 h4 h5
  have h1 : RepC g σ H := h1
  have h3 : cells + hC σ ≤ b0.1 := h3
  have h4 : slots + hS σ ≤ b0.2 := h4
  unfold o_mna at z
  split at z
  · next k n st' =>
    obtain ⟨⟨rfl, rfl⟩, ⟨z3, z4⟩, z⟩ := z
    have hsz := h1.1
    have hfr : g.2.2.2.2.2 (hN σ) := (h1.2.1 _ (Nat.le_refl _)).1
    refine W_mna hx hb hown (hts _ hcl) (ao_at hK q1384) (hts _ q205) d (by omega) (by omega) (fun cA cI H' g1 g2 q0 q1 q2 q3 q4 => ?_)
    have hA : g.2.2.2.2.1 6 = cA := Option.some.inj ((show s.vm.findClass "[[I" = some _ from (hK.K.2 6 _ (cTys_get (by decide))).2).symm.trans g1)
    have hI9 : g.2.2.2.2.1 0 = cI := Option.some.inj ((show s.vm.findClass "[I" = some _ from (hK.K.2 0 _ (cTys_get (by decide))).2).symm.trans g2)
    subst hA; subst hI9
    have hrep := rep_mna h1 q0 q1 q2 q3 q4
    rw [hsz]
    exact kk L _ _ z _ _ (cells + 3) (slots + 18) ls hrep (own_app (own_app h2 hfr) hfr) (show _ + (hC σ - 1 - 1 - 1) ≤ _ by omega) (show _ + (hS σ - 2 - 8 - 8) ≤ _ by omega) h5
  · exact z.elim
