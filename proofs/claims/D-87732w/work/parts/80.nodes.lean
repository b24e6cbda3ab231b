/-! THE SPEC: nodes and where they lead -/
set_option maxRecDepth 100000
/-- the ways to a block, of the first a blocks -/
def wyC (R : Rt) (b : Nat) : Nat → Nat
  | 0 => 0
  | a + 1 => wyC R b a + ((if et1 R a = some b then 1 else 0) + (if et2 R a = some b then 1 else 0))
def wyE (R : Rt) (b : Nat) : Nat := wyC R b R.2.length
theorem wyC_le (R : Rt) (b : Nat) : ∀ a, wyC R b a ≤ 2 * a
  | 0 => Nat.le_refl 0
  | a + 1 => by
    have := wyC_le R b a
    unfold wyC
    split <;> split <;> omega
def ledR (R : Rt) : List (Option Nat × Option Nat) × List Nat := led R.1.length (fstN R.2) (wyE R) 0 R.1 []
def nds (R : Rt) : List Nd := List.zipWith (nd1 (sms R.1)) R.1 (ledR R).1 ++ (ledR R).2.map (nd7 (fstN R.2))
theorem WfR.mono {R : Rt} (w : WfR R) : ∀ b b', b' < b → b < R.2.length → nxtN R b' ≤ fstN R.2 b := by
  intro b
  induction b with
  | zero => intro b' h; omega
  | succ b ih =>
    intro b' h hb
    have e : nxtN R b = fstN R.2 (b + 1) := by unfold nxtN; rw [if_pos hb]
    by_cases c : b' = b
    · subst c; rw [e]; exact Nat.le_refl _
    · have := ih b' (by omega) (by omega)
      have := (w.2.2.1 b (by omega)).1
      omega
theorem WfR.next {R : Rt} (w : WfR R) {k : Nat} {x y : FIt} (hx : R.1[k]? = some x) (hy : R.1[k + 1]? = some y) : x.1 ≤ y.1 ∧ (4 ≤ x.2.1 → x.1 < y.1) := by
  obtain ⟨x1, x2, x3, x4, -⟩ := w.2.2.2.2.1 k x hx
  obtain ⟨y1, y2, y3, y4, -⟩ := w.2.2.2.2.1 (k + 1) y hy
  refine ⟨?_, fun h => ?_⟩
  · refine Classical.byContradiction fun q => ?_
    have := w.mono x.1 y.1 (by omega) x1
    omega
  · have h' := x4.1 h
    refine Classical.byContradiction fun q => ?_
    by_cases c : y.1 = x.1
    · rw [c] at y3; omega
    · have := w.mono x.1 y.1 (by omega) x1
      omega
theorem thr_len {n0 : Nat} {fst wy : Nat → Nat} {t : Nat} {ow : List Nat} : (thr n0 fst wy t ow).2.length ≤ ow.length + 1 ∧ ow.length ≤ (thr n0 fst wy t ow).2.length := by
  unfold thr; split
  · simp
  · simp
theorem ldx_len {n0 : Nat} {fst wy : Nat → Nat} {k : Nat} {it : Itm} {ow : List Nat} : (ldx n0 fst wy k it ow).2.length ≤ ow.length + 2 ∧ (it.1 < 4 → (ldx n0 fst wy k it ow).2 = ow) := by
  unfold ldx
  split
  · exact ⟨by simp, fun _ => rfl⟩
  · next h =>
    refine ⟨?_, fun q => absurd q h⟩
    split
    · simp
    · next t u _ =>
      have h1 := thr_len (n0 := n0) (fst := fst) (wy := wy) (t := t.2) (ow := ow)
      have h2 := thr_len (n0 := n0) (fst := fst) (wy := wy) (t := u.2) (ow := (thr n0 fst wy t.2 ow).2)
      simp only; omega
    · simp
theorem led_cons {n0 : Nat} {fst wy : Nat → Nat} {x : FIt} {r : List FIt} {k : Nat} {ow : List Nat} : led n0 fst wy k (x :: r) ow = ((ldx n0 fst wy k x.2 ow).1 :: (led n0 fst wy (k + 1) r (ldx n0 fst wy k x.2 ow).2).1, (led n0 fst wy (k + 1) r (ldx n0 fst wy k x.2 ow).2).2) := rfl
/-- on-way nodes so far, ahead of a line of block b: at most 2 a block -/
theorem ow_step {R : Rt} (w : WfR R) {k : Nat} {x : FIt} {n0 : Nat} {fst wy : Nat → Nat} {ow : List Nat} (hx : R.1[k]? = some x) (ho : ow.length ≤ 2 * x.1) : (ldx n0 fst wy k x.2 ow).2.length ≤ 2 * R.2.length ∧ ∀ y, R.1[k + 1]? = some y → (ldx n0 fst wy k x.2 ow).2.length ≤ 2 * y.1 := by
  have h1 := ldx_len (n0 := n0) (fst := fst) (wy := wy) (k := k) (it := x.2) (ow := ow)
  have x1 := (w.2.2.2.2.1 k x hx).1
  refine ⟨by omega, fun y hy => ?_⟩
  have h2 := w.next hx hy
  by_cases c : x.2.1 < 4
  · rw [h1.2 c]; omega
  · have := h2.2 (by omega); omega
theorem led_ow {R : Rt} (w : WfR R) {n0 : Nat} {fst wy : Nat → Nat} : ∀ suf k ow, (∀ j, suf[j]? = R.1[k + j]?) → (∀ x, suf[0]? = some x → ow.length ≤ 2 * x.1) → ow.length ≤ 2 * R.2.length → (led n0 fst wy k suf ow).2.length ≤ 2 * R.2.length := by
  intro suf
  induction suf with
  | nil => intro k ow _ _ h; exact h
  | cons x suf ih =>
    intro k ow hs hx _
    rw [led_cons]
    have hk : R.1[k]? = some x := (hs 0).symm
    have := ow_step w (n0 := n0) (fst := fst) (wy := wy) hk (hx x rfl)
    exact ih (k + 1) _ (fun j => by have := hs (j + 1); rw [show k + (j + 1) = k + 1 + j by omega] at this; exact this) (fun y hy => this.2 y (by rw [← hy]; exact (hs 1).symm)) this.1
theorem ledR_ow {R : Rt} (w : WfR R) : (ledR R).2.length ≤ 80 := by
  have := led_ow w (n0 := R.1.length) (fst := fstN R.2) (wy := wyE R) R.1 0 [] (fun j => by simp) (fun _ _ => by simp) (by simp)
  have := w.2.1
  unfold ledR; omega
theorem ledR_len (R : Rt) : (ledR R).1.length = R.1.length := led_len _ _ _ _ _ _
theorem nds_len (R : Rt) : (nds R).length = R.1.length + (ledR R).2.length := by
  unfold nds; simp [ledR_len]
theorem nds_lt {R : Rt} {k : Nat} (h : k < R.1.length) : (nds R)[k]? = some (nd1 (sms R.1) (R.1.getD k fit0) ((ledR R).1.getD k (none, none))) := by
  unfold nds
  have h1 : (List.zipWith (nd1 (sms R.1)) R.1 (ledR R).1).length = R.1.length := by simp [ledR_len]
  have h2 : k < (ledR R).1.length := by rw [ledR_len]; exact h
  rw [List.getElem?_append_left (by rw [h1]; exact h), List.getElem?_zipWith, List.getElem?_eq_getElem h, List.getElem?_eq_getElem h2]
  simp [List.getD_eq_getElem?_getD, List.getElem?_eq_getElem h, List.getElem?_eq_getElem h2]
theorem nds_ge {R : Rt} {k : Nat} (h : R.1.length ≤ k) : (nds R)[k]? = ((ledR R).2[k - R.1.length]?).map (nd7 (fstN R.2)) := by
  unfold nds
  have h1 : (List.zipWith (nd1 (sms R.1)) R.1 (ledR R).1).length = R.1.length := by simp [ledR_len]
  rw [List.getElem?_append_right (by rw [h1]; exact h), h1, List.getElem?_map]
