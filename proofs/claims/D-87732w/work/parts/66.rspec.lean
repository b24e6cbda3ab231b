/-! THE SPEC of a routine: its lines, sums, heads; its nodes and where they lead -/
set_option maxRecDepth 100000
theorem vpL {k n : Nat} (h : k < 2147483648) : vp_in (no_index (OfNat.ofNat k) : Int32) n ↔ OfNat.ofNat k < n := nn_in h
theorem nn_addL (k n : Nat) : (no_index (OfNat.ofNat k) : Int32) + nn n = nn (OfNat.ofNat k + n) := nn_add k n
theorem nn_addR (k n : Nat) : nn n + (no_index (OfNat.ofNat k) : Int32) = nn (n + OfNat.ofNat k) := nn_add n k
theorem nn_mulL (k n : Nat) : (no_index (OfNat.ofNat k) : Int32) * nn n = nn (OfNat.ofNat k * n) := nn_mul k n
def iS (it : Itm) : Option Sm := it.2.2.2.2.2.1
/-- the blocks that it names: place, block -/
def iT (it : Itm) : List (Nat × Nat) := it.2.2.2.2.2.2
/-- a line: its block, and what was read -/
abbrev FIt : Type := Nat × Itm
def sAdd (l : List Sm) (o : Option Sm) : List Sm := match o with
  | some s => if s ∈ l then l else l ++ [s]
  | none => l
/-- the sums of lines, each once -/
def sms (fs : List FIt) : List Sm := fs.foldl (fun l x => sAdd l (iS x.2)) []
/-- the names of blocks in lines -/
def nmz (fs : List FIt) : List (Nat × Nat) := fs.flatMap (fun x => iT x.2)
theorem sms_snoc (fs : List FIt) (x : FIt) : sms (fs ++ [x]) = sAdd (sms fs) (iS x.2) := by simp [sms, List.foldl_append]
theorem nmz_snoc (fs : List FIt) (x : FIt) : nmz (fs ++ [x]) = nmz fs ++ iT x.2 := by simp [nmz, List.flatMap_append]
theorem sAdd_pre (l : List Sm) (o : Option Sm) : ∃ r, sAdd l o = l ++ r := by
  unfold sAdd; split
  · split
    · exact ⟨[], by simp⟩
    · exact ⟨_, rfl⟩
  · exact ⟨[], by simp⟩
theorem sAdd_mem (l : List Sm) (s : Sm) : s ∈ sAdd l (some s) := by
  unfold sAdd
  by_cases h : s ∈ l
  · simp [h]
  · simp [h]
theorem idx_pre {l r : List Sm} {s : Sm} (h : s ∈ l) : (l ++ r).idxOf s = l.idxOf s := by rw [List.idxOf_append, if_pos h]
theorem idx_le_get {l : List Sm} {s : Sm} {e : Nat} (h : l[e]? = some s) : l.idxOf s ≤ e := by
  induction l generalizing e with
  | nil => simp at h
  | cons a l ih =>
    cases e with
    | zero => simp at h; subst h; simp
    | succ e =>
      simp at h
      have := ih h
      rw [List.idxOf_cons]
      cases a == s
      · simp; omega
      · simp
theorem idx_get {l : List Sm} {s : Sm} (h : s ∈ l) : l[l.idxOf s]? = some s := by
  induction l with
  | nil => simp at h
  | cons a l ih =>
    rw [List.idxOf_cons]
    by_cases e : a = s
    · subst e; simp
    · have e' : (a == s) = false := by simp [e]
      rw [e']
      simp at h
      rcases h with h | h
      · exact absurd h.symm e
      · simp [ih h]
/-- no sum twice -/
theorem sAdd_nodup {l : List Sm} (h : l.Nodup) (o : Option Sm) : (sAdd l o).Nodup := by
  unfold sAdd; split
  · split
    · exact h
    · next s hs => 
      rw [List.nodup_append]
      refine ⟨h, by simp, ?_⟩
      intro a ha b hb e
      simp at hb
      subst hb; subst e; exact hs ha
  · exact h
theorem sms_nodup (fs : List FIt) : (sms fs).Nodup := by
  unfold sms
  have : ∀ (fs : List FIt) (l : List Sm), l.Nodup → (fs.foldl (fun l x => sAdd l (iS x.2)) l).Nodup := by
    intro fs
    induction fs with
    | nil => intro l h; exact h
    | cons a fs ih => intro l h; exact ih _ (sAdd_nodup h _)
  exact this fs [] List.nodup_nil
theorem fold_pre (fs : List FIt) : ∀ (l : List Sm), ∃ r, fs.foldl (fun l x => sAdd l (iS x.2)) l = l ++ r := by
  induction fs with
  | nil => intro l; exact ⟨[], by simp⟩
  | cons a fs ih =>
    intro l
    obtain ⟨r1, h1⟩ := sAdd_pre l (iS a.2)
    obtain ⟨r2, h2⟩ := ih (sAdd l (iS a.2))
    exact ⟨r1 ++ r2, by rw [List.foldl_cons, h2, h1, List.append_assoc]⟩
theorem sms_mem {fs : List FIt} {x : FIt} {s : Sm} (h : x ∈ fs) (hs : iS x.2 = some s) : s ∈ sms fs := by
  obtain ⟨a, b, rfl⟩ := List.append_of_mem h
  unfold sms
  rw [List.foldl_append, List.foldl_cons]
  obtain ⟨r, hr⟩ := fold_pre b (sAdd (a.foldl (fun l x => sAdd l (iS x.2)) []) (iS x.2))
  rw [hr, hs]
  exact List.mem_append_left _ (sAdd_mem _ s)
/-! nodes -/
/-- kind, block, name, row, operands, sum, where it leads -/
abbrev Nd : Type := Nat × Nat × Int32 × Int32 × Opd × Opd × Option Nat × Option Nat × Option Nat
/-- lines; heads: place, first node -/
abbrev Rt : Type := List FIt × List (Nat × Nat)
def fstN (hs : List (Nat × Nat)) (b : Nat) : Nat := (hs.getD b (0, 0)).2
/-- to a block, by a node on the way or not; ow: blocks of nodes on the way so far -/
def thr (n0 : Nat) (fst wy : Nat → Nat) (t : Nat) (ow : List Nat) : Nat × List Nat := if wy t < 2 then (fst t, ow) else (n0 + ow.length, ow ++ [t])
def ldx (n0 : Nat) (fst wy : Nat → Nat) (k : Nat) (it : Itm) (ow : List Nat) : (Option Nat × Option Nat) × List Nat :=
  if it.1 < 4 then ((some (k + 1), none), ow) else match iT it with
  | [t] => ((some (fst t.2), none), ow)
  | [t, u] => ((some (thr n0 fst wy t.2 ow).1, some (thr n0 fst wy u.2 (thr n0 fst wy t.2 ow).2).1), (thr n0 fst wy u.2 (thr n0 fst wy t.2 ow).2).2)
  | _ => ((none, none), ow)
def led (n0 : Nat) (fst wy : Nat → Nat) : Nat → List FIt → List Nat → List (Option Nat × Option Nat) × List Nat
  | _, [], ow => ([], ow)
  | k, x :: r, ow => ((ldx n0 fst wy k x.2 ow).1 :: (led n0 fst wy (k + 1) r (ldx n0 fst wy k x.2 ow).2).1, (led n0 fst wy (k + 1) r (ldx n0 fst wy k x.2 ow).2).2)
def nd1 (sm : List Sm) (x : FIt) (t : Option Nat × Option Nat) : Nd := (x.2.1, x.1, x.2.2.1, x.2.2.2.1, x.2.2.2.2.1, x.2.2.2.2.2.1, (iS x.2).map (fun s => sm.idxOf s), t.1, t.2)
def nd7 (fst : Nat → Nat) (t : Nat) : Nd := (7, t, -1, 0, (0, 0), (0, 0), none, some (fst t), none)
def nd0 : Nd := (8, 0, -1, 0, (0, 0), (0, 0), none, none, none)
def ndA (ns : List Nd) (k : Nat) : Nd := ns.getD k nd0
def nK (x : Nd) : Nat := x.1
def nB (x : Nd) : Nat := x.2.1
def nNm (x : Nd) : Int32 := x.2.2.1
def nRw (x : Nd) : Int32 := x.2.2.2.1
def nOa (x : Nd) : Opd := x.2.2.2.2.1
def nOb (x : Nd) : Opd := x.2.2.2.2.2.1
def nSm (x : Nd) : Option Nat := x.2.2.2.2.2.2.1
def nT1 (x : Nd) : Option Nat := x.2.2.2.2.2.2.2.1
def nT2 (x : Nd) : Option Nat := x.2.2.2.2.2.2.2.2
theorem led_len (n0 : Nat) (fst wy : Nat → Nat) (fs : List FIt) : ∀ k ow, (led n0 fst wy k fs ow).1.length = fs.length := by
  induction fs with
  | nil => intro k ow; rfl
  | cons a fs ih => intro k ow; simp [led, ih]
