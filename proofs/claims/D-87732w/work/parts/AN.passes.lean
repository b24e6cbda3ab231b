/-! PLAIN: passes till nothing changes; the shape of what was read -/
set_option maxRecDepth 100000
theorem cntT_mono9 : ∀ (n : Nat) {X Y : Nat → Bool}, (∀ j, j < n → X j = true → Y j = true) → cntT n X ≤ cntT n Y
  | 0, _, _, _ => Nat.le_refl 0
  | n + 1, X, Y, h => by
    have ih := cntT_mono9 n (X := X) (Y := Y) (fun j hj => h j (by omega))
    rw [cntT_succ, cntT_succ]
    by_cases c : X n = true
    · rw [if_pos c, if_pos (h n (by omega) c)]; omega
    · rw [if_neg c]; omega
theorem cntT_strict : ∀ (n : Nat) {X Y : Nat → Bool}, (∀ j, j < n → X j = true → Y j = true) → (∃ j, j < n ∧ X j = false ∧ Y j = true) → cntT n X < cntT n Y
  | 0, _, _, _, h => by obtain ⟨j, hj, _⟩ := h; omega
  | n + 1, X, Y, h, ⟨j, hj, hx, hy⟩ => by
    rw [cntT_succ, cntT_succ]
    by_cases c : j = n
    · subst c
      have := cntT_mono9 j (X := X) (Y := Y) (fun i hi => h i (by omega))
      rw [hx, if_neg (by decide), if_pos hy]; omega
    · have ih := cntT_strict n (X := X) (Y := Y) (fun i hi => h i (by omega)) ⟨j, by omega, hx, hy⟩
      by_cases c : X n = true
      · rw [if_pos c, if_pos (h n (by omega) c)]; omega
      · rw [if_neg c]; omega
theorem cntT_full : ∀ (n : Nat) {X : Nat → Bool}, n ≤ cntT n X → ∀ j, j < n → X j = true
  | 0, _, _, j, hj => by omega
  | n + 1, X, h, j, hj => by
    have := cntT_le n X
    rw [cntT_succ] at h
    by_cases c : X n = true
    · by_cases e : j = n
      · subst e; exact c
      · rw [if_pos c] at h
        exact cntT_full n (by omega) j (by omega)
    · rw [if_neg c] at h; omega
def itr9 (F : (Nat → Bool) → Nat → Bool) : Nat → (Nat → Bool) → Nat → Bool
  | 0, x => x
  | n + 1, x => F (itr9 F n x)
section IT9
variable {F : (Nat → Bool) → Nat → Bool} {n : Nat}
theorem itr9_sup (hsup : ∀ x, (∀ k, n ≤ k → x k = false) → ∀ k, n ≤ k → F x k = false) {x0 : Nat → Bool} (h0 : ∀ k, n ≤ k → x0 k = false) : ∀ j k, n ≤ k → itr9 F j x0 k = false
  | 0, k, hk => h0 k hk
  | j + 1, k, hk => hsup _ (fun k hk => itr9_sup hsup h0 j k hk) k hk
theorem itr9_fix (hinf : ∀ x k, x k = true → F x k = true) (hsup : ∀ x, (∀ k, n ≤ k → x k = false) → ∀ k, n ≤ k → F x k = false) {x0 : Nat → Bool} (h0 : ∀ k, n ≤ k → x0 k = false) {m : Nat} (hm : n ≤ m) : F (itr9 F m x0) = itr9 F m x0 := by
  have step : ∀ j, F (itr9 F j x0) = itr9 F j x0 ∨ j ≤ cntT n (itr9 F j x0) := by
    intro j
    induction j with
    | zero => right; omega
    | succ j ih =>
      rcases ih with h | h
      · left
        show F (F (itr9 F j x0)) = F (itr9 F j x0)
        rw [h, h]
      · by_cases c : F (itr9 F j x0) = itr9 F j x0
        · left
          show F (F (itr9 F j x0)) = F (itr9 F j x0)
          rw [c, c]
        · right
          have hne : ∃ k, k < n ∧ itr9 F j x0 k = false ∧ F (itr9 F j x0) k = true := by
            refine Classical.byContradiction fun q => c (funext fun k => ?_)
            cases e1 : itr9 F j x0 k with
            | true => exact hinf _ k e1
            | false =>
              cases e2 : F (itr9 F j x0) k with
              | false => rfl
              | true =>
                by_cases hk : k < n
                · exact absurd ⟨k, hk, e1, e2⟩ q
                · have := hsup _ (itr9_sup hsup h0 j) k (by omega)
                  rw [this] at e2; cases e2
          have := cntT_strict n (X := itr9 F j x0) (Y := F (itr9 F j x0)) (fun k _ hk => hinf _ k hk) hne
          show j + 1 ≤ cntT n (F (itr9 F j x0))
          omega
  rcases step m with h | h
  · exact h
  · have hall := cntT_full n (X := itr9 F m x0) (by omega)
    funext k
    by_cases hk : k < n
    · rw [hall k hk]; exact hinf _ k (hall k hk)
    · rw [itr9_sup hsup h0 m k (by omega)]; exact hsup _ (itr9_sup hsup h0 m) k (by omega)
end IT9
/-- a pass: each of m from b on -/
def pas9 (G : Nat → (Nat → Bool) → Nat → Bool) : Nat → Nat → (Nat → Bool) → Nat → Bool
  | 0, _, x => x
  | m + 1, b, x => pas9 G m (b + 1) (G b x)
theorem pas9_inf {G : Nat → (Nat → Bool) → Nat → Bool} (h : ∀ b x k, x k = true → G b x k = true) : ∀ m b x k, x k = true → pas9 G m b x k = true
  | 0, _, _, _, hk => hk
  | m + 1, b, x, k, hk => pas9_inf h m (b + 1) _ k (h b x k hk)
theorem pas9_fix {G : Nat → (Nat → Bool) → Nat → Bool} (h : ∀ b x k, x k = true → G b x k = true) : ∀ m b x, pas9 G m b x = x → ∀ i, b ≤ i → i < b + m → G i x = x
  | 0, b, x, _, i, h1, h2 => by omega
  | m + 1, b, x, hx, i, h1, h2 => by
    have e : G b x = x := by
      funext k
      cases e1 : x k with
      | true => exact h b x k e1
      | false =>
        cases e2 : G b x k with
        | false => rfl
        | true =>
          have := pas9_inf h m (b + 1) (G b x) k e2
          have q : pas9 G (m + 1) b x k = true := this
          rw [hx, e1] at q; cases q
    by_cases c : i = b
    · subst c; exact e
    · have hx' : pas9 G m (b + 1) x = x := by
        have : pas9 G m (b + 1) (G b x) = x := hx
        rw [e] at this; exact this
      exact pas9_fix h m (b + 1) x hx' i (by omega) (by omega)
theorem pas9_sup {G : Nat → (Nat → Bool) → Nat → Bool} {n : Nat} (h : ∀ b x, b < n → (∀ k, n ≤ k → x k = false) → ∀ k, n ≤ k → G b x k = false) : ∀ m b x, b + m ≤ n → (∀ k, n ≤ k → x k = false) → ∀ k, n ≤ k → pas9 G m b x k = false
  | 0, _, _, _, hx, k, hk => hx k hk
  | m + 1, b, x, hb, hx, k, hk => pas9_sup h m (b + 1) _ (by omega) (h b x (by omega) hx) k hk
noncomputable def pcC (R : Rt) (b : Nat) (c : Nat → Bool) : Nat → Bool := fun t => c t || (c b && b9 (egT R b t))
noncomputable def pcV (R : Rt) (b : Nat) (v : Nat → Bool) : Nat → Bool := fun x => v x || (decide (x = b) && (b9 ((endI R b).1 = 6) || b9 (∃ t, egT R b t ∧ v t = true)))
noncomputable def psC (R : Rt) : (Nat → Bool) → Nat → Bool := pas9 (pcC R) R.2.length 0
noncomputable def psV (R : Rt) : (Nat → Bool) → Nat → Bool := pas9 (pcV R) R.2.length 0
theorem pcC_inf (R : Rt) (b : Nat) (x : Nat → Bool) (k : Nat) (h : x k = true) : pcC R b x k = true := by unfold pcC; rw [h]; rfl
theorem pcV_inf (R : Rt) (b : Nat) (x : Nat → Bool) (k : Nat) (h : x k = true) : pcV R b x k = true := by unfold pcV; rw [h]; rfl
theorem eg_tg {R : Rt} (w : WfR R) (hT : TgOk R) {b t : Nat} (hb : b < R.2.length) (h : egT R b t) : t < R.2.length := by
  obtain ⟨e1, e2, e3, e4⟩ := end_get w hb
  have hm := List.mem_of_getElem? e1
  have key : ∀ (i : Nat), ((iT (endI R b))[i]?).map (fun x : Nat × Nat => x.2) = some t → t < R.2.length := fun i hi => by
    rw [Option.map_eq_some_iff] at hi
    obtain ⟨x, hx1, hx2⟩ := hi
    rw [← hx2]
    exact hT (b, endI R b) hm x (List.mem_of_getElem? hx1)
  rcases h with h | h
  · exact key 0 h
  · exact key 1 h
theorem psC_sup {R : Rt} (w : WfR R) (hT : TgOk R) (x : Nat → Bool) (hx : ∀ k, R.2.length ≤ k → x k = false) (k : Nat) (hk : R.2.length ≤ k) : psC R x k = false := by
  refine pas9_sup (n := R.2.length) (fun b x hb hx k hk => ?_) _ 0 x (by omega) hx k hk
  unfold pcC
  rw [hx k hk]
  simp
  intro _
  rw [b9_not]
  intro q
  have := eg_tg w hT hb q
  omega
theorem psV_sup {R : Rt} (x : Nat → Bool) (hx : ∀ k, R.2.length ≤ k → x k = false) (k : Nat) (hk : R.2.length ≤ k) : psV R x k = false := by
  refine pas9_sup (n := R.2.length) (fun b x hb hx k hk => ?_) _ 0 x (by omega) hx k hk
  unfold pcV
  rw [hx k hk]
  have : ¬ k = b := by omega
  simp [this]
def com0 : Nat → Bool := fun k => decide (k = 0)
def lea0 : Nat → Bool := fun _ => false
theorem com_iff {R : Rt} (w : WfR R) (hT : TgOk R) (h0 : 0 < R.2.length) (b : Nat) : itr9 (psC R) 40 com0 b = true ↔ Rch R b := by
  have hs0 : ∀ k, R.2.length ≤ k → com0 k = false := fun k hk => by unfold com0; simp; omega
  have hfx := itr9_fix (F := psC R) (n := R.2.length) (fun x k h => pas9_inf (pcC_inf R) _ 0 x k h) (psC_sup w hT) hs0 (m := 40) w.2.1
  have hcl := pas9_fix (pcC_inf R) _ 0 _ hfx
  constructor
  · intro h S s0 sS
    have key : ∀ j b, itr9 (psC R) j com0 b = true → S b := by
      intro j
      induction j with
      | zero => intro b hb; unfold itr9 com0 at hb; simp at hb; subst hb; exact s0
      | succ j ih =>
        intro b hb
        have : ∀ m i x, i + m ≤ R.2.length → (∀ k, x k = true → S k) → ∀ k, pas9 (pcC R) m i x k = true → S k := by
          intro m
          induction m with
          | zero => intro i x _ hx k hk; exact hx k hk
          | succ m ihm =>
            intro i x hi hx k hk
            refine ihm (i + 1) _ (by omega) (fun k hk => ?_) k hk
            unfold pcC at hk
            simp at hk
            rcases hk with hk | ⟨h1, h2⟩
            · exact hx k hk
            · exact sS i k (by omega) (hx i h1) (b9_iff.1 h2)
        exact this _ 0 _ (by omega) ih b hb
    exact key 40 b h
  · intro h
    refine h (fun b => itr9 (psC R) 40 com0 b = true) ?_ ?_
    · have : ∀ j, itr9 (psC R) j com0 0 = true := fun j => by
        induction j with
        | zero => rfl
        | succ j ih => exact pas9_inf (pcC_inf R) _ 0 _ 0 ih
      exact this 40
    · intro a t ha h1 h2
      have e := hcl a (by omega) (by omega)
      have : pcC R a (itr9 (psC R) 40 com0) t = true := by unfold pcC; rw [h1, b9_iff.2 h2]; simp
      rw [e] at this; exact this
theorem lea_iff {R : Rt} (w : WfR R) (b : Nat) : itr9 (psV R) 40 lea0 b = true ↔ Lvs R b := by
  have hs0 : ∀ k, R.2.length ≤ k → lea0 k = false := fun k hk => rfl
  have hfx := itr9_fix (F := psV R) (n := R.2.length) (fun x k h => pas9_inf (pcV_inf R) _ 0 x k h) psV_sup hs0 (m := 40) w.2.1
  have hcl := pas9_fix (pcV_inf R) _ 0 _ hfx
  constructor
  · intro h S s0 sS
    have key : ∀ j b, itr9 (psV R) j lea0 b = true → S b := by
      intro j
      induction j with
      | zero => intro b hb; cases hb
      | succ j ih =>
        intro b hb
        have : ∀ m i x, i + m ≤ R.2.length → (∀ k, x k = true → S k) → ∀ k, pas9 (pcV R) m i x k = true → S k := by
          intro m
          induction m with
          | zero => intro i x _ hx k hk; exact hx k hk
          | succ m ihm =>
            intro i x hi hx k hk
            refine ihm (i + 1) _ (by omega) (fun k hk => ?_) k hk
            unfold pcV at hk
            simp at hk
            rcases hk with hk | ⟨he, hk | hk⟩
            · exact hx k hk
            · rw [he]; exact s0 i (by omega) (b9_iff.1 hk)
            · obtain ⟨t, h1, h2⟩ := b9_iff.1 hk
              rw [he]; exact sS i t (by omega) h1 (hx t h2)
        exact this _ 0 _ (by omega) ih b hb
    exact key 40 b h
  · intro h
    refine h (fun b => itr9 (psV R) 40 lea0 b = true) ?_ ?_
    · intro a ha h6
      have e := hcl a (by omega) (by omega)
      have : pcV R a (itr9 (psV R) 40 lea0) a = true := by unfold pcV; rw [b9_iff.2 h6]; simp
      rw [e] at this; exact this
    · intro a t ha h1 h2
      have e := hcl a (by omega) (by omega)
      have : pcV R a (itr9 (psV R) 40 lea0) a = true := by unfold pcV; rw [b9_iff.2 (show ∃ t, egT R a t ∧ itr9 (psV R) 40 lea0 t = true from ⟨t, h1, h2⟩)]; simp
      rw [e] at this; exact this
/-! the shape of what was read -/
def offB (bks : List Blk) (b : Nat) : Nat := (foldB (bks.take b)).1.length
theorem foldB_get : ∀ n (bks : List Blk), bks.length = n → ∀ b hd its, bks[b]? = some (hd, its) → (foldB bks).2[b]? = some (hd, offB bks b) ∧ (∀ j it, its[j]? = some it → (foldB bks).1[offB bks b + j]? = some (b, it)) ∧ offB bks b + its.length = offB bks (b + 1) ∧ offB bks b + its.length ≤ (foldB bks).1.length := by
  intro n
  induction n with
  | zero =>
    intro bks hn b hd its h
    have : bks = [] := List.length_eq_zero_iff.1 hn
    subst this
    simp at h
  | succ n ih =>
    intro bks hn b hd its h
    rcases List.eq_nil_or_concat bks with rfl | ⟨bs, x, rfl⟩
    · simp at h
    · rw [List.concat_eq_append] at hn h ⊢
      have hbs : bs.length = n := by simp at hn; exact hn
      have e2 := foldB_len2 bs
      rw [foldB_snoc]
      by_cases c : b < bs.length
      · rw [List.getElem?_append_left c] at h
        obtain ⟨h1, h2, h3, h4⟩ := ih bs hbs b hd its h
        have t1 : offB (bs ++ [x]) b = offB bs b := by unfold offB; rw [List.take_append_of_le_length (by omega)]
        have t2 : offB (bs ++ [x]) (b + 1) = offB bs (b + 1) := by unfold offB; rw [List.take_append_of_le_length (by omega)]
        rw [t1, t2]
        refine ⟨?_, fun j it hj => ?_, h3, by rw [addB_len1]; omega⟩
        · simp only [addB]
          rw [List.getElem?_append_left (by omega)]; exact h1
        · have hj' := (List.getElem?_eq_some_iff.1 hj).1
          simp only [addB]
          rw [List.getElem?_append_left (by omega)]
          exact h2 j it hj
      · have hb := (List.getElem?_eq_some_iff.1 h).1
        simp at hb
        have e : b = bs.length := by omega
        subst e
        simp at h
        subst h
        have t1 : offB (bs ++ [(hd, its)]) bs.length = (foldB bs).1.length := by unfold offB; rw [List.take_append_of_le_length (by omega), List.take_length]
        have t2 : offB (bs ++ [(hd, its)]) (bs.length + 1) = (foldB bs).1.length + its.length := by
          unfold offB
          rw [List.take_of_length_le (by simp), foldB_snoc, addB_len1]
        rw [t1, t2]
        refine ⟨?_, fun j it hj => ?_, rfl, by rw [addB_len1]; exact Nat.le_refl _⟩
        · simp [addB, e2]
        · have hj' := (List.getElem?_eq_some_iff.1 hj).1
          simp only [addB, e2]
          rw [List.getElem?_append_right (by omega)]
          simp [hj]
theorem foldB_fst {bks : List Blk} {b hd : Nat} {its : List Itm} (h : bks[b]? = some (hd, its)) : fstN (foldB bks).2 b = offB bks b ∧ hdN (foldB bks) b = hd ∧ nxtN (foldB bks) b = offB bks b + its.length := by
  obtain ⟨h1, h2, h3, h4⟩ := foldB_get _ bks rfl b hd its h
  have e1 : fstN (foldB bks).2 b = offB bks b := by unfold fstN; rw [List.getD_eq_getElem?_getD, h1]; rfl
  refine ⟨e1, by unfold hdN; rw [List.getD_eq_getElem?_getD, h1]; rfl, ?_⟩
  unfold nxtN
  have hlt := (List.getElem?_eq_some_iff.1 h).1
  rw [foldB_len2]
  by_cases c : b + 1 < bks.length
  · rw [if_pos c]
    have hq : bks[b + 1]? = some ((bks[b + 1]).1, (bks[b + 1]).2) := by rw [List.getElem?_eq_getElem c]
    have h5 := (foldB_get _ bks rfl (b + 1) _ _ hq).1
    unfold fstN; rw [List.getD_eq_getElem?_getD, h5, h3]; rfl
  · rw [if_neg c, h3]
    unfold offB
    rw [List.take_of_length_le (by omega)]
