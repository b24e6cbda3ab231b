/-! THE COMPONENT's METHODS, decompiled by program (gen/cdecomp.py) -/
set_option maxRecDepth 100000
def bJ0_init_0 (κ : Nat → Option Nat) (R : Ret AH) : Cont AH :=
    o_al 0 <|
    o_oi <|
    o_return R
def pJ0_init (κ : Nat → Option Nat) : PT AH := fun as σ Q => (lg_sl as).length ≤ 1 ∧ bJ0_init_0 κ Q (entP 1 as) [] σ
theorem nJ0_init : parN yJ0_init 0 := by unfold parN; decide +kernel
set_option maxHeartbeats 4000000 in
theorem eJ0_init (g : GC) : CT (wC g) yJ0_init (Cond.code yJ0_init cJ0_init 1 none) 1 20 (pJ0_init g.2.1) := by
  refine CT.of (wC_ok g) (cc := cJ0_init) (nL := 1) (ret := none) (ht := []) (by decide +kernel) (Or.inl ⟨rfl, rfl⟩) (B := bJ0_init_0 g.2.1) (fun R E X hE => ?_)
  have h0 : E (bJ0_init_0 g.2.1 R) 0 := by
    unfold bJ0_init_0
    refine si_aload_n (pc := 0) hE dJ0_init_0 rfl ?_
    refine si_oi (pc := 1) hE dJ0_init_1 q274 q180 q181 (by decide) (by decide) ?_
    exact si_return (pc := 4) hE dJ0_init_4
  exact h0
def bJ1_init_0 (κ : Nat → Option Nat) (R : Ret AH) : Cont AH :=
    o_al 0 <|
    o_call 1 (hvi (pJ0_init κ)) (fun _ a σ => R (.inr a) σ) <|
    o_al 0 <|
    o_ic 0 <|
    o_pI 0 [19] <|
    o_return R
def pJ1_init (κ : Nat → Option Nat) : PT AH := fun as σ Q => (lg_sl as).length ≤ 1 ∧ bJ1_init_0 κ Q (entP 1 as) [] σ
theorem nJ1_init : parN yJ1_init 0 := by unfold parN; decide +kernel
set_option maxHeartbeats 4000000 in
theorem eJ1_init (g : GC) : CT (wC g) yJ1_init (Cond.code yJ1_init cJ1_init 1 none) 2 40 (pJ1_init g.2.1) := by
  refine CT.of (wC_ok g) (cc := cJ1_init) (nL := 1) (ret := none) (ht := []) (by decide +kernel) (Or.inl ⟨rfl, rfl⟩) (B := bJ1_init_0 g.2.1) (fun R E X hE => ?_)
  have h0 : E (bJ1_init_0 g.2.1 R) 0 := by
    unfold bJ1_init_0
    refine si_aload_n (pc := 0) hE dJ1_init_0 rfl ?_
    refine si_hi (pc := 1) (n := 0) hE dJ1_init_1 (cal_I (eJ0_init g) q273 q137 q271 q272 rfl ⟨by decide +kernel, by decide +kernel⟩ nJ0_init (by decide) (by decide)) (si_out hE rfl) ?_
    refine si_aload_n (pc := 4) hE dJ1_init_4 rfl ?_
    refine si_iconst (pc := 5) hE dJ1_init_5 (by decide) ?_
    refine si_pI (pc := 6) hE dJ1_init_6 (Or.inl q279) zfo_0 ?_
    exact si_return (pc := 9) hE dJ1_init_9
  exact h0
def bJ9_init_2_60 (κ : Nat → Option Nat) (R : Ret AH) : Cont AH :=
    o_return R
def bJ9_init_2_41 (κ : Nat → Option Nat) (R : Ret AH) : Cont AH :=
    o_al 0 <|
    o_al 1 <|
    o_pR 3 [5, 6] <|
    o_al 0 <|
    o_al 2 <|
    o_pR 0 [5, 6] <|
    o_il 3 <|
    o_if_ne (bJ9_init_2_60 κ R) <|
    o_al 0 <|
    o_null <|
    o_pR 2 [5, 6] <|
    (bJ9_init_2_60 κ R)
def bJ9_init_2_36 (κ : Nat → Option Nat) (R : Ret AH) : Cont AH :=
    o_al 0 <|
    o_null <|
    o_pR 1 [5, 6] <|
    (bJ9_init_2_41 κ R)
def bJ9_init_2_0 (κ : Nat → Option Nat) (R : Ret AH) : Cont AH :=
    o_al 0 <|
    o_oi <|
    o_al 0 <|
    o_al 0 <|
    o_pR 0 [5, 6] <|
    o_al 0 <|
    o_cst κ 32 <|
    o_pR 1 [5, 6] <|
    o_al 0 <|
    o_cst κ 33 <|
    o_pR 2 [5, 6] <|
    o_il 4 <|
    o_if_eq (bJ9_init_2_36 κ R) <|
    o_al 0 <|
    o_dead
def pJ9_init_2 (κ : Nat → Option Nat) : PT AH := fun as σ Q => (lg_sl as).length ≤ 5 ∧ bJ9_init_2_0 κ Q (entP 5 as) [] σ
theorem nJ9_init_2 : parN yJ9_init_2 4 := by unfold parN; decide +kernel
set_option maxHeartbeats 4000000 in
theorem eJ9_init_2 (g : GC) : CT (wC g) yJ9_init_2 (Cond.code yJ9_init_2 cJ9_init_2 5 none) 1 20 (pJ9_init_2 g.2.1) := by
  refine CT.of (wC_ok g) (cc := cJ9_init_2) (nL := 5) (ret := none) (ht := []) (by decide +kernel) (Or.inl ⟨rfl, rfl⟩) (B := bJ9_init_2_0 g.2.1) (fun R E X hE => ?_)
  have h60 : E (bJ9_init_2_60 g.2.1 R) 60 := by
    unfold bJ9_init_2_60
    exact si_return (pc := 60) hE dJ9_init_2_60
  have h41 : E (bJ9_init_2_41 g.2.1 R) 41 := by
    unfold bJ9_init_2_41
    refine si_aload_n (pc := 41) hE dJ9_init_2_41 rfl ?_
    refine si_aload_n (pc := 42) hE dJ9_init_2_42 rfl ?_
    refine si_pR (pc := 43) hE dJ9_init_2_43 (Or.inl q563) zfo_1 (Or.inl ⟨_, rfl⟩) ?_
    refine si_aload_n (pc := 46) hE dJ9_init_2_46 rfl ?_
    refine si_aload_n (pc := 47) hE dJ9_init_2_47 rfl ?_
    refine si_pR (pc := 48) hE dJ9_init_2_48 (Or.inl q564) zfo_2 (Or.inl ⟨_, rfl⟩) ?_
    refine si_iload_n (pc := 51) hE dJ9_init_2_51 rfl ?_
    refine si_if_ne (pc := 52) hE dJ9_init_2_52 (by decide) h60 ?_
    refine si_aload_n (pc := 55) hE dJ9_init_2_55 rfl ?_
    refine si_null (pc := 56) hE dJ9_init_2_56 ?_
    refine si_pR (pc := 57) hE dJ9_init_2_57 (Or.inl q566) zfo_3 (Or.inl ⟨_, rfl⟩) ?_
    exact h60
  have h36 : E (bJ9_init_2_36 g.2.1 R) 36 := by
    unfold bJ9_init_2_36
    refine si_aload_n (pc := 36) hE dJ9_init_2_36 rfl ?_
    refine si_null (pc := 37) hE dJ9_init_2_37 ?_
    refine si_pR (pc := 38) hE dJ9_init_2_38 (Or.inl q565) zfo_4 (Or.inr ⟨_, rfl⟩) ?_
    exact h41
  have h0 : E (bJ9_init_2_0 g.2.1 R) 0 := by
    unfold bJ9_init_2_0
    refine si_aload_n (pc := 0) hE dJ9_init_2_0 rfl ?_
    refine si_oi (pc := 1) hE dJ9_init_2_1 q531 q180 q181 (by decide) (by decide) ?_
    refine si_aload_n (pc := 4) hE dJ9_init_2_4 rfl ?_
    refine si_aload_n (pc := 5) hE dJ9_init_2_5 rfl ?_
    refine si_pR (pc := 6) hE dJ9_init_2_6 (Or.inl q564) zfo_2 (Or.inl ⟨_, rfl⟩) ?_
    refine si_aload_n (pc := 9) hE dJ9_init_2_9 rfl ?_
    refine si_gstR (pc := 10) (k := 2) hE dJ9_init_2_10 q532 rfl ?_
    refine si_pR (pc := 13) hE dJ9_init_2_13 (Or.inl q565) zfo_4 (Or.inr ⟨_, rfl⟩) ?_
    refine si_aload_n (pc := 16) hE dJ9_init_2_16 rfl ?_
    refine si_gstR (pc := 17) (k := 3) hE dJ9_init_2_17 q534 rfl ?_
    refine si_pR (pc := 20) hE dJ9_init_2_20 (Or.inl q566) zfo_3 (Or.inl ⟨_, rfl⟩) ?_
    refine si_iload (pc := 23) hE dJ9_init_2_23 ?_
    refine si_if_eq (pc := 25) hE dJ9_init_2_25 (by decide) h36 ?_
    refine si_aload_n (pc := 28) hE dJ9_init_2_28 rfl ?_
    exact si_dead hE
  exact h0
def bJ10_init_0 (κ : Nat → Option Nat) (R : Ret AH) : Cont AH :=
    o_al 0 <|
    o_al 1 <|
    o_al 2 <|
    o_il 3 <|
    o_il 4 <|
    o_call 5 (hvi (pJ9_init_2 κ)) (fun _ a σ => R (.inr a) σ) <|
    o_return R
def pJ10_init (κ : Nat → Option Nat) : PT AH := fun as σ Q => (lg_sl as).length ≤ 5 ∧ bJ10_init_0 κ Q (entP 5 as) [] σ
theorem nJ10_init : parN yJ10_init 4 := by unfold parN; decide +kernel
set_option maxHeartbeats 4000000 in
theorem eJ10_init (g : GC) : CT (wC g) yJ10_init (Cond.code yJ10_init cJ10_init 5 none) 2 44 (pJ10_init g.2.1) := by
  refine CT.of (wC_ok g) (cc := cJ10_init) (nL := 5) (ret := none) (ht := []) (by decide +kernel) (Or.inl ⟨rfl, rfl⟩) (B := bJ10_init_0 g.2.1) (fun R E X hE => ?_)
  have h0 : E (bJ10_init_0 g.2.1 R) 0 := by
    unfold bJ10_init_0
    refine si_aload_n (pc := 0) hE dJ10_init_0 rfl ?_
    refine si_aload_n (pc := 1) hE dJ10_init_1 rfl ?_
    refine si_aload_n (pc := 2) hE dJ10_init_2 rfl ?_
    refine si_iload_n (pc := 3) hE dJ10_init_3 rfl ?_
    refine si_iload (pc := 4) hE dJ10_init_4 ?_
    refine si_hi (pc := 6) (n := 4) hE dJ10_init_6 (cal_I (eJ9_init_2 g) q557 q146 q555 q556 rfl ⟨by decide +kernel, by decide +kernel⟩ nJ9_init_2 (by decide) (by decide)) (si_out hE rfl) ?_
    exact si_return (pc := 9) hE dJ10_init_9
  exact h0
def bJ11_init_0 (κ : Nat → Option Nat) (R : Ret AH) : Cont AH :=
    o_al 0 <|
    o_al 1 <|
    o_al 2 <|
    o_il 3 <|
    o_il 4 <|
    o_call 5 (hvi (pJ10_init κ)) (fun _ a σ => R (.inr a) σ) <|
    o_return R
def pJ11_init (κ : Nat → Option Nat) : PT AH := fun as σ Q => (lg_sl as).length ≤ 5 ∧ bJ11_init_0 κ Q (entP 5 as) [] σ
theorem nJ11_init : parN yJ11_init 4 := by unfold parN; decide +kernel
set_option maxHeartbeats 4000000 in
theorem eJ11_init (g : GC) : CT (wC g) yJ11_init (Cond.code yJ11_init cJ11_init 5 none) 3 68 (pJ11_init g.2.1) := by
  refine CT.of (wC_ok g) (cc := cJ11_init) (nL := 5) (ret := none) (ht := []) (by decide +kernel) (Or.inl ⟨rfl, rfl⟩) (B := bJ11_init_0 g.2.1) (fun R E X hE => ?_)
  have h0 : E (bJ11_init_0 g.2.1 R) 0 := by
    unfold bJ11_init_0
    refine si_aload_n (pc := 0) hE dJ11_init_0 rfl ?_
    refine si_aload_n (pc := 1) hE dJ11_init_1 rfl ?_
    refine si_aload_n (pc := 2) hE dJ11_init_2 rfl ?_
    refine si_iload_n (pc := 3) hE dJ11_init_3 rfl ?_
    refine si_iload (pc := 4) hE dJ11_init_4 ?_
    refine si_hi (pc := 6) (n := 4) hE dJ11_init_6 (cal_I (eJ10_init g) q554 q147 q552 q553 rfl ⟨by decide +kernel, by decide +kernel⟩ nJ10_init (by decide) (by decide)) (si_out hE rfl) ?_
    exact si_return (pc := 9) hE dJ11_init_9
  exact h0
def bJ12_init_0 (κ : Nat → Option Nat) (R : Ret AH) : Cont AH :=
    o_al 0 <|
    o_oi <|
    o_return R
def pJ12_init (κ : Nat → Option Nat) : PT AH := fun as σ Q => (lg_sl as).length ≤ 1 ∧ bJ12_init_0 κ Q (entP 1 as) [] σ
theorem nJ12_init : parN yJ12_init 0 := by unfold parN; decide +kernel
set_option maxHeartbeats 4000000 in
theorem eJ12_init (g : GC) : CT (wC g) yJ12_init (Cond.code yJ12_init cJ12_init 1 none) 1 20 (pJ12_init g.2.1) := by
  refine CT.of (wC_ok g) (cc := cJ12_init) (nL := 1) (ret := none) (ht := []) (by decide +kernel) (Or.inl ⟨rfl, rfl⟩) (B := bJ12_init_0 g.2.1) (fun R E X hE => ?_)
  have h0 : E (bJ12_init_0 g.2.1 R) 0 := by
    unfold bJ12_init_0
    refine si_aload_n (pc := 0) hE dJ12_init_0 rfl ?_
    refine si_oi (pc := 1) hE dJ12_init_1 q598 q180 q181 (by decide) (by decide) ?_
    exact si_return (pc := 4) hE dJ12_init_4
  exact h0
def bJ13_init_0 (κ : Nat → Option Nat) (R : Ret AH) : Cont AH :=
    o_al 0 <|
    o_call 1 (hvi (pJ12_init κ)) (fun _ a σ => R (.inr a) σ) <|
    o_al 0 <|
    o_il 1 <|
    o_pI 0 [20] <|
    o_return R
def pJ13_init (κ : Nat → Option Nat) : PT AH := fun as σ Q => (lg_sl as).length ≤ 2 ∧ bJ13_init_0 κ Q (entP 2 as) [] σ
theorem nJ13_init : parN yJ13_init 1 := by unfold parN; decide +kernel
set_option maxHeartbeats 4000000 in
theorem eJ13_init (g : GC) : CT (wC g) yJ13_init (Cond.code yJ13_init cJ13_init 2 none) 2 40 (pJ13_init g.2.1) := by
  refine CT.of (wC_ok g) (cc := cJ13_init) (nL := 2) (ret := none) (ht := []) (by decide +kernel) (Or.inl ⟨rfl, rfl⟩) (B := bJ13_init_0 g.2.1) (fun R E X hE => ?_)
  have h0 : E (bJ13_init_0 g.2.1 R) 0 := by
    unfold bJ13_init_0
    refine si_aload_n (pc := 0) hE dJ13_init_0 rfl ?_
    refine si_hi (pc := 1) (n := 0) hE dJ13_init_1 (cal_I (eJ12_init g) q597 q150 q595 q596 rfl ⟨by decide +kernel, by decide +kernel⟩ nJ12_init (by decide) (by decide)) (si_out hE rfl) ?_
    refine si_aload_n (pc := 4) hE dJ13_init_4 rfl ?_
    refine si_iload_n (pc := 5) hE dJ13_init_5 rfl ?_
    refine si_pIF (pc := 6) hE rfl dJ13_init_6 q599 zfo_5 zfs_0 ?_
    exact si_return (pc := 9) hE dJ13_init_9
  exact h0
def bJ13_valueOf_23 (κ : Nat → Option Nat) (R : Ret AH) : Cont AH :=
    o_new 19 1 <|
    o_dup <|
    o_il 0 <|
    o_call 2 (hvi (pJ13_init κ)) (fun _ a σ => R (.inr a) σ) <|
    o_areturn R
def bJ13_valueOf_0 (κ : Nat → Option Nat) (R : Ret AH) : Cont AH :=
    o_il 0 <|
    o_ic (-128) <|
    o_icmp_lt (bJ13_valueOf_23 κ R) <|
    o_il 0 <|
    o_ic 127 <|
    o_icmp_gt (bJ13_valueOf_23 κ R) <|
    o_cst κ 31 <|
    o_il 0 <|
    o_ic 128 <|
    o_iadd <|
    o_aR8 <|
    o_areturn R
def pJ13_valueOf (κ : Nat → Option Nat) : PT AH := fun as σ Q => (lg_sl as).length ≤ 1 ∧ bJ13_valueOf_0 κ Q (entP 1 as) [] σ
theorem nJ13_valueOf : parN yJ13_valueOf 1 := by unfold parN; decide +kernel
set_option maxHeartbeats 4000000 in
theorem eJ13_valueOf (g : GC) : CT (wC g) yJ13_valueOf (Cond.code yJ13_valueOf cJ13_valueOf 1 (some (.object "java/lang/Integer"))) 3 61 (pJ13_valueOf g.2.1) := by
  refine CT.of (wC_ok g) (cc := cJ13_valueOf) (nL := 1) (ret := (some (.object "java/lang/Integer"))) (ht := []) (by decide +kernel) (Or.inl ⟨rfl, rfl⟩) (B := bJ13_valueOf_0 g.2.1) (fun R E X hE => ?_)
  have h23 : E (bJ13_valueOf_23 g.2.1 R) 23 := by
    unfold bJ13_valueOf_23
    refine si_new (pc := 23) hE dJ13_valueOf_23 cls19 q590 q591 q151 df_19 ?_
    refine si_dup (pc := 26) hE dJ13_valueOf_26 ?_
    refine si_iload_n (pc := 27) hE dJ13_valueOf_27 rfl ?_
    refine si_hi (pc := 28) (n := 1) hE dJ13_valueOf_28 (cal_I (eJ13_init g) q594 q151 q592 q593 rfl ⟨by decide +kernel, by decide +kernel⟩ nJ13_init (by decide) (by decide)) (si_out hE rfl) ?_
    exact si_areturn (pc := 31) hE (Or.inl ⟨_, rfl⟩) dJ13_valueOf_31
  have h0 : E (bJ13_valueOf_0 g.2.1 R) 0 := by
    unfold bJ13_valueOf_0
    refine si_iload_n (pc := 0) hE dJ13_valueOf_0 rfl ?_
    refine si_bipush (pc := 1) hE dJ13_valueOf_1 (by decide) ?_
    refine si_icmp_lt (pc := 3) hE dJ13_valueOf_3 (by decide) h23 ?_
    refine si_iload_n (pc := 6) hE dJ13_valueOf_6 rfl ?_
    refine si_gstI (pc := 7) hE dJ13_valueOf_7 q586 (by decide +kernel) ?_
    refine si_icmp_gt (pc := 10) hE dJ13_valueOf_10 (by decide) h23 ?_
    refine si_gstR (pc := 13) (k := 1) hE dJ13_valueOf_13 q588 rfl ?_
    refine si_iload_n (pc := 16) hE dJ13_valueOf_16 rfl ?_
    refine si_sipush (pc := 17) hE dJ13_valueOf_17 (by decide) ?_
    refine si_iadd (pc := 20) hE dJ13_valueOf_20 ?_
    refine si_aaload8 (pc := 21) hE dJ13_valueOf_21 ?_
    exact si_areturn (pc := 22) hE (Or.inl ⟨_, rfl⟩) dJ13_valueOf_22
  exact h0
def bJ13_intValue_0 (κ : Nat → Option Nat) (R : Ret AH) : Cont AH :=
    o_al 0 <|
    o_gIc <|
    o_ireturn R
def pJ13_intValue (κ : Nat → Option Nat) : PT AH := fun as σ Q => (lg_sl as).length ≤ 1 ∧ bJ13_intValue_0 κ Q (entP 1 as) [] σ
theorem nJ13_intValue : parN yJ13_intValue 0 := by unfold parN; decide +kernel
set_option maxHeartbeats 4000000 in
theorem eJ13_intValue (g : GC) : CT (wC g) yJ13_intValue (Cond.code yJ13_intValue cJ13_intValue 1 (some .int)) 0 0 (pJ13_intValue g.2.1) := by
  refine CT.of (wC_ok g) (cc := cJ13_intValue) (nL := 1) (ret := (some .int)) (ht := []) (by decide +kernel) (Or.inl ⟨rfl, rfl⟩) (B := bJ13_intValue_0 g.2.1) (fun R E X hE => ?_)
  have h0 : E (bJ13_intValue_0 g.2.1 R) 0 := by
    unfold bJ13_intValue_0
    refine si_aload_n (pc := 0) hE dJ13_intValue_0 rfl ?_
    refine si_gIc (pc := 1) hE dJ13_intValue_1 (Or.inl q599) ?_
    exact si_ireturn (pc := 4) hE dJ13_intValue_4
  exact h0
def bJ14_hugeLength_58 (κ : Nat → Option Nat) (R : Ret AH) : Cont AH :=
    o_il 2 <|
    o_ireturn R
def bJ14_hugeLength_49 (κ : Nat → Option Nat) (R : Ret AH) : Cont AH :=
    o_il 2 <|
    o_ic 2147483639 <|
    o_icmp_gt (bJ14_hugeLength_58 κ R) <|
    o_ic 2147483639 <|
    o_ireturn R
def bJ14_hugeLength_0 (κ : Nat → Option Nat) (R : Ret AH) : Cont AH :=
    o_il 0 <|
    o_il 1 <|
    o_iadd <|
    o_is 2 <|
    o_il 2 <|
    o_if_ge (bJ14_hugeLength_49 κ R) <|
    o_dead
def pJ14_hugeLength (κ : Nat → Option Nat) : PT AH := fun as σ Q => (lg_sl as).length ≤ 3 ∧ bJ14_hugeLength_0 κ Q (entP 3 as) [] σ
theorem nJ14_hugeLength : parN yJ14_hugeLength 2 := by unfold parN; decide +kernel
set_option maxHeartbeats 4000000 in
theorem eJ14_hugeLength (g : GC) : CT (wC g) yJ14_hugeLength (Cond.code yJ14_hugeLength cJ14_hugeLength 3 (some .int)) 0 0 (pJ14_hugeLength g.2.1) := by
  refine CT.of (wC_ok g) (cc := cJ14_hugeLength) (nL := 3) (ret := (some .int)) (ht := []) (by decide +kernel) (Or.inl ⟨rfl, rfl⟩) (B := bJ14_hugeLength_0 g.2.1) (fun R E X hE => ?_)
  have h58 : E (bJ14_hugeLength_58 g.2.1 R) 58 := by
    unfold bJ14_hugeLength_58
    refine si_iload_n (pc := 58) hE dJ14_hugeLength_58 rfl ?_
    exact si_ireturn (pc := 59) hE dJ14_hugeLength_59
  have h49 : E (bJ14_hugeLength_49 g.2.1 R) 49 := by
    unfold bJ14_hugeLength_49
    refine si_iload_n (pc := 49) hE dJ14_hugeLength_49 rfl ?_
    refine si_ldc (pc := 50) hE dJ14_hugeLength_50 q623 ?_
    refine si_icmp_gt (pc := 52) hE dJ14_hugeLength_52 (by decide) h58 ?_
    refine si_ldc (pc := 55) hE dJ14_hugeLength_55 q623 ?_
    exact si_ireturn (pc := 57) hE dJ14_hugeLength_57
  have h0 : E (bJ14_hugeLength_0 g.2.1 R) 0 := by
    unfold bJ14_hugeLength_0
    refine si_iload_n (pc := 0) hE dJ14_hugeLength_0 rfl ?_
    refine si_iload_n (pc := 1) hE dJ14_hugeLength_1 rfl ?_
    refine si_iadd (pc := 2) hE dJ14_hugeLength_2 ?_
    refine si_istore_n (pc := 3) hE dJ14_hugeLength_3 rfl (by decide) ?_
    refine si_iload_n (pc := 4) hE dJ14_hugeLength_4 rfl ?_
    refine si_if_ge (pc := 5) hE dJ14_hugeLength_5 (by decide) h49 ?_
    exact si_dead hE
  exact h0
def bJ14_newLength_21 (κ : Nat → Option Nat) (R : Ret AH) : Cont AH :=
    o_il 0 <|
    o_il 1 <|
    o_call 2 (pJ14_hugeLength κ) (fun _ a σ => R (.inr a) σ) <|
    o_ireturn R
def bJ14_newLength_0 (κ : Nat → Option Nat) (R : Ret AH) : Cont AH :=
    o_il 0 <|
    o_il 1 <|
    o_il 2 <|
    o_mmax <|
    o_iadd <|
    o_is 3 <|
    o_ic 0 <|
    o_il 3 <|
    o_icmp_ge (bJ14_newLength_21 κ R) <|
    o_il 3 <|
    o_ic 2147483639 <|
    o_icmp_gt (bJ14_newLength_21 κ R) <|
    o_il 3 <|
    o_ireturn R
def pJ14_newLength (κ : Nat → Option Nat) : PT AH := fun as σ Q => (lg_sl as).length ≤ 4 ∧ bJ14_newLength_0 κ Q (entP 4 as) [] σ
theorem nJ14_newLength : parN yJ14_newLength 3 := by unfold parN; decide +kernel
set_option maxHeartbeats 4000000 in
theorem eJ14_newLength (g : GC) : CT (wC g) yJ14_newLength (Cond.code yJ14_newLength cJ14_newLength 4 (some .int)) 1 22 (pJ14_newLength g.2.1) := by
  refine CT.of (wC_ok g) (cc := cJ14_newLength) (nL := 4) (ret := (some .int)) (ht := []) (by decide +kernel) (Or.inl ⟨rfl, rfl⟩) (B := bJ14_newLength_0 g.2.1) (fun R E X hE => ?_)
  have h21 : E (bJ14_newLength_21 g.2.1 R) 21 := by
    unfold bJ14_newLength_21
    refine si_iload_n (pc := 21) hE dJ14_newLength_21 rfl ?_
    refine si_iload_n (pc := 22) hE dJ14_newLength_22 rfl ?_
    refine si_hs (pc := 23) (n := 2) hE dJ14_newLength_23 (cal_S (eJ14_hugeLength g) (Or.inl ⟨rfl, rfl⟩) q626 q153 q624 q625 ⟨by decide +kernel, by decide +kernel⟩ nJ14_hugeLength (by decide) (by decide)) (si_out hE rfl) ?_
    exact si_ireturn (pc := 26) hE dJ14_newLength_26
  have h0 : E (bJ14_newLength_0 g.2.1 R) 0 := by
    unfold bJ14_newLength_0
    refine si_iload_n (pc := 0) hE dJ14_newLength_0 rfl ?_
    refine si_iload_n (pc := 1) hE dJ14_newLength_1 rfl ?_
    refine si_iload_n (pc := 2) hE dJ14_newLength_2 rfl ?_
    refine si_mmax (pc := 3) hE dJ14_newLength_3 q622 q437 q142 q438 (by decide) (by decide) ?_
    refine si_iadd (pc := 6) hE dJ14_newLength_6 ?_
    refine si_istore_n (pc := 7) hE dJ14_newLength_7 rfl (by decide) ?_
    refine si_iconst (pc := 8) hE dJ14_newLength_8 (by decide) ?_
    refine si_iload_n (pc := 9) hE dJ14_newLength_9 rfl ?_
    refine si_icmp_ge (pc := 10) hE dJ14_newLength_10 (by decide) h21 ?_
    refine si_iload_n (pc := 13) hE dJ14_newLength_13 rfl ?_
    refine si_ldc (pc := 14) hE dJ14_newLength_14 q623 ?_
    refine si_icmp_gt (pc := 16) hE dJ14_newLength_16 (by decide) h21 ?_
    refine si_iload_n (pc := 19) hE dJ14_newLength_19 rfl ?_
    exact si_ireturn (pc := 20) hE dJ14_newLength_20
  exact h0
def bJ15_copyOf_2_13 (κ : Nat → Option Nat) (R : Ret AH) : Cont AH :=
    o_al 2 <|
    o_dead
def bJ15_copyOf_2_24 (κ : Nat → Option Nat) (R : Ret AH) : Cont AH :=
    o_as 3 <|
    o_al 0 <|
    o_ic 0 <|
    o_al 3 <|
    o_ic 0 <|
    o_al 0 <|
    o_len <|
    o_il 1 <|
    o_mmin <|
    o_acopy <|
    o_al 3 <|
    o_areturn R
def bJ15_copyOf_2_0 (κ : Nat → Option Nat) (R : Ret AH) : Cont AH :=
    o_al 2 <|
    o_cst κ 40 <|
    o_acmp_ne (bJ15_copyOf_2_13 κ R) <|
    o_il 1 <|
    o_newA 104 <|
    (bJ15_copyOf_2_24 κ R)
def pJ15_copyOf_2 (κ : Nat → Option Nat) : PT AH := fun as σ Q => (lg_sl as).length ≤ 4 ∧ bJ15_copyOf_2_0 κ Q (entP 4 as) [] σ
theorem nJ15_copyOf_2 : parN yJ15_copyOf_2 3 := by unfold parN; decide +kernel
set_option maxHeartbeats 4000000 in
theorem eJ15_copyOf_2 (g : GC) : CT (wC g) yJ15_copyOf_2 (Cond.code yJ15_copyOf_2 cJ15_copyOf_2 4 (some (.array (.object "java/lang/Object")))) 1 60 (pJ15_copyOf_2 g.2.1) := by
  refine CT.of (wC_ok g) (cc := cJ15_copyOf_2) (nL := 4) (ret := (some (.array (.object "java/lang/Object")))) (ht := []) (by decide +kernel) (Or.inl ⟨rfl, rfl⟩) (B := bJ15_copyOf_2_0 g.2.1) (fun R E X hE => ?_)
  have h13 : E (bJ15_copyOf_2_13 g.2.1 R) 13 := by
    unfold bJ15_copyOf_2_13
    refine si_aload_n (pc := 13) hE dJ15_copyOf_2_13 rfl ?_
    exact si_dead hE
  have h24 : E (bJ15_copyOf_2_24 g.2.1 R) 24 := by
    unfold bJ15_copyOf_2_24
    refine si_astore_n (pc := 24) hE dJ15_copyOf_2_24 rfl (by decide) ?_
    refine si_aload_n (pc := 25) hE dJ15_copyOf_2_25 rfl ?_
    refine si_iconst (pc := 26) hE dJ15_copyOf_2_26 (by decide) ?_
    refine si_aload_n (pc := 27) hE dJ15_copyOf_2_27 rfl ?_
    refine si_iconst (pc := 28) hE dJ15_copyOf_2_28 (by decide) ?_
    refine si_aload_n (pc := 29) hE dJ15_copyOf_2_29 rfl ?_
    refine si_alen (pc := 30) hE dJ15_copyOf_2_30 ?_
    refine si_iload_n (pc := 31) hE dJ15_copyOf_2_31 rfl ?_
    refine si_mmin (pc := 32) hE dJ15_copyOf_2_32 q661 q440 q142 q441 (by decide) (by decide) ?_
    refine si_acopy (pc := 35) hE dJ15_copyOf_2_35 q662 q664 q663 q155 (by decide) (by decide +kernel) anyObj ?_
    refine si_aload_n (pc := 38) hE dJ15_copyOf_2_38 rfl ?_
    exact si_areturn (pc := 39) hE (Or.inr ⟨_, rfl⟩) dJ15_copyOf_2_39
  have h0 : E (bJ15_copyOf_2_0 g.2.1 R) 0 := by
    unfold bJ15_copyOf_2_0
    refine si_aload_n (pc := 0) hE dJ15_copyOf_2_0 rfl ?_
    refine si_ldcM (pc := 1) hE dJ15_copyOf_2_1 q658 ?_
    refine si_acmp_ne (pc := 3) hE dJ15_copyOf_2_3 (by decide) h13 ?_
    refine si_iload_n (pc := 6) hE dJ15_copyOf_2_6 rfl ?_
    refine si_anewarray4 (pc := 7) hE dJ15_copyOf_2_7 q660 q659 ?_
    exact si_goto (pc := 10) hE dJ15_copyOf_2_10 (by decide) h24
  exact h0
def bJ15_copyOf_0 (κ : Nat → Option Nat) (R : Ret AH) : Cont AH :=
    o_al 0 <|
    o_il 1 <|
    o_al 0 <|
    o_getc κ <|
    o_call 3 (pJ15_copyOf_2 κ) (fun _ a σ => R (.inr a) σ) <|
    o_areturn R
def pJ15_copyOf (κ : Nat → Option Nat) : PT AH := fun as σ Q => (lg_sl as).length ≤ 2 ∧ bJ15_copyOf_0 κ Q (entP 2 as) [] σ
theorem nJ15_copyOf : parN yJ15_copyOf 2 := by unfold parN; decide +kernel
set_option maxHeartbeats 4000000 in
theorem eJ15_copyOf (g : GC) : CT (wC g) yJ15_copyOf (Cond.code yJ15_copyOf cJ15_copyOf 2 (some (.array (.object "java/lang/Object")))) 2 83 (pJ15_copyOf g.2.1) := by
  refine CT.of (wC_ok g) (cc := cJ15_copyOf) (nL := 2) (ret := (some (.array (.object "java/lang/Object")))) (ht := []) (by decide +kernel) (Or.inl ⟨rfl, rfl⟩) (B := bJ15_copyOf_0 g.2.1) (fun R E X hE => ?_)
  have h0 : E (bJ15_copyOf_0 g.2.1 R) 0 := by
    unfold bJ15_copyOf_0
    refine si_aload_n (pc := 0) hE dJ15_copyOf_0 rfl ?_
    refine si_iload_n (pc := 1) hE dJ15_copyOf_1 rfl ?_
    refine si_aload_n (pc := 2) hE dJ15_copyOf_2 rfl ?_
    refine si_getc (pc := 3) hE dJ15_copyOf_3 q630 q2298 q2297 q631 q654 (by decide) (by decide) ?_
    refine si_hs (pc := 6) (n := 3) hE dJ15_copyOf_6 (cal_S (eJ15_copyOf_2 g) (Or.inl ⟨rfl, rfl⟩) q657 q154 q655 q656 ⟨by decide +kernel, by decide +kernel⟩ nJ15_copyOf_2 (by decide) (by decide)) (si_out hE rfl) ?_
    exact si_areturn (pc := 9) hE (Or.inr ⟨_, rfl⟩) dJ15_copyOf_9
  exact h0
def bJ7_checkIndex_9 (κ : Nat → Option Nat) (R : Ret AH) : Cont AH :=
    o_al 2 <|
    o_il 0 <|
    o_il 1 <|
    o_dead
def bJ7_checkIndex_16 (κ : Nat → Option Nat) (R : Ret AH) : Cont AH :=
    o_il 0 <|
    o_ireturn R
def bJ7_checkIndex_0 (κ : Nat → Option Nat) (R : Ret AH) : Cont AH :=
    o_il 0 <|
    o_if_lt (bJ7_checkIndex_9 κ R) <|
    o_il 0 <|
    o_il 1 <|
    o_icmp_lt (bJ7_checkIndex_16 κ R) <|
    (bJ7_checkIndex_9 κ R)
def pJ7_checkIndex (κ : Nat → Option Nat) : PT AH := fun as σ Q => (lg_sl as).length ≤ 3 ∧ bJ7_checkIndex_0 κ Q (entP 3 as) [] σ
theorem nJ7_checkIndex : parN yJ7_checkIndex 3 := by unfold parN; decide +kernel
set_option maxHeartbeats 4000000 in
theorem eJ7_checkIndex (g : GC) : CT (wC g) yJ7_checkIndex (Cond.code yJ7_checkIndex cJ7_checkIndex 3 (some .int)) 0 0 (pJ7_checkIndex g.2.1) := by
  refine CT.of (wC_ok g) (cc := cJ7_checkIndex) (nL := 3) (ret := (some .int)) (ht := []) (by decide +kernel) (Or.inl ⟨rfl, rfl⟩) (B := bJ7_checkIndex_0 g.2.1) (fun R E X hE => ?_)
  have h9 : E (bJ7_checkIndex_9 g.2.1 R) 9 := by
    unfold bJ7_checkIndex_9
    refine si_aload_n (pc := 9) hE dJ7_checkIndex_9 rfl ?_
    refine si_iload_n (pc := 10) hE dJ7_checkIndex_10 rfl ?_
    refine si_iload_n (pc := 11) hE dJ7_checkIndex_11 rfl ?_
    exact si_dead hE
  have h16 : E (bJ7_checkIndex_16 g.2.1 R) 16 := by
    unfold bJ7_checkIndex_16
    refine si_iload_n (pc := 16) hE dJ7_checkIndex_16 rfl ?_
    exact si_ireturn (pc := 17) hE dJ7_checkIndex_17
  have h0 : E (bJ7_checkIndex_0 g.2.1 R) 0 := by
    unfold bJ7_checkIndex_0
    refine si_iload_n (pc := 0) hE dJ7_checkIndex_0 rfl ?_
    refine si_if_lt (pc := 1) hE dJ7_checkIndex_1 (by decide) h9 ?_
    refine si_iload_n (pc := 4) hE dJ7_checkIndex_4 rfl ?_
    refine si_iload_n (pc := 5) hE dJ7_checkIndex_5 rfl ?_
    refine si_icmp_lt (pc := 6) hE dJ7_checkIndex_6 (by decide) h16 ?_
    exact h9
  exact h0
def bJ16_checkIndex_0 (κ : Nat → Option Nat) (R : Ret AH) : Cont AH :=
    o_il 0 <|
    o_il 1 <|
    o_null <|
    o_call 3 (pJ7_checkIndex κ) (fun _ a σ => R (.inr a) σ) <|
    o_ireturn R
def pJ16_checkIndex (κ : Nat → Option Nat) : PT AH := fun as σ Q => (lg_sl as).length ≤ 2 ∧ bJ16_checkIndex_0 κ Q (entP 2 as) [] σ
theorem nJ16_checkIndex : parN yJ16_checkIndex 2 := by unfold parN; decide +kernel
set_option maxHeartbeats 4000000 in
theorem eJ16_checkIndex (g : GC) : CT (wC g) yJ16_checkIndex (Cond.code yJ16_checkIndex cJ16_checkIndex 2 (some .int)) 1 22 (pJ16_checkIndex g.2.1) := by
  refine CT.of (wC_ok g) (cc := cJ16_checkIndex) (nL := 2) (ret := (some .int)) (ht := []) (by decide +kernel) (Or.inl ⟨rfl, rfl⟩) (B := bJ16_checkIndex_0 g.2.1) (fun R E X hE => ?_)
  have h0 : E (bJ16_checkIndex_0 g.2.1 R) 0 := by
    unfold bJ16_checkIndex_0
    refine si_iload_n (pc := 0) hE dJ16_checkIndex_0 rfl ?_
    refine si_iload_n (pc := 1) hE dJ16_checkIndex_1 rfl ?_
    refine si_null (pc := 2) hE dJ16_checkIndex_2 ?_
    refine si_hs (pc := 3) (n := 3) hE dJ16_checkIndex_3 (cal_S (eJ7_checkIndex g) (Or.inl ⟨rfl, rfl⟩) q693 q144 q984 q692 ⟨by decide +kernel, by decide +kernel⟩ nJ7_checkIndex (by decide) (by decide)) (si_out hE rfl) ?_
    exact si_ireturn (pc := 6) hE dJ16_checkIndex_6
  exact h0
def bJ2_init_0 (κ : Nat → Option Nat) (R : Ret AH) : Cont AH :=
    o_al 0 <|
    o_call 1 (hvi (pJ1_init κ)) (fun _ a σ => R (.inr a) σ) <|
    o_al 0 <|
    o_cst κ 30 <|
    o_pR 1 [19] <|
    o_return R
def pJ2_init (κ : Nat → Option Nat) : PT AH := fun as σ Q => (lg_sl as).length ≤ 1 ∧ bJ2_init_0 κ Q (entP 1 as) [] σ
theorem nJ2_init : parN yJ2_init 0 := by unfold parN; decide +kernel
set_option maxHeartbeats 4000000 in
theorem eJ2_init (g : GC) : CT (wC g) yJ2_init (Cond.code yJ2_init cJ2_init 1 none) 3 60 (pJ2_init g.2.1) := by
  refine CT.of (wC_ok g) (cc := cJ2_init) (nL := 1) (ret := none) (ht := []) (by decide +kernel) (Or.inl ⟨rfl, rfl⟩) (B := bJ2_init_0 g.2.1) (fun R E X hE => ?_)
  have h0 : E (bJ2_init_0 g.2.1 R) 0 := by
    unfold bJ2_init_0
    refine si_aload_n (pc := 0) hE dJ2_init_0 rfl ?_
    refine si_hi (pc := 1) (n := 0) hE dJ2_init_1 (cal_I (eJ1_init g) q270 q138 q268 q269 rfl ⟨by decide +kernel, by decide +kernel⟩ nJ1_init (by decide) (by decide)) (si_out hE rfl) ?_
    refine si_aload_n (pc := 4) hE dJ2_init_4 rfl ?_
    refine si_gstR (pc := 5) (k := 0) hE dJ2_init_5 q275 rfl ?_
    refine si_pR (pc := 8) hE dJ2_init_8 (Or.inl q277) zfo_6 (Or.inr ⟨_, rfl⟩) ?_
    exact si_return (pc := 11) hE dJ2_init_11
  exact h0
def bJ2_size_0 (κ : Nat → Option Nat) (R : Ret AH) : Cont AH :=
    o_al 0 <|
    o_gI 2 [19] <|
    o_ireturn R
def pJ2_size (κ : Nat → Option Nat) : PT AH := fun as σ Q => (lg_sl as).length ≤ 1 ∧ bJ2_size_0 κ Q (entP 1 as) [] σ
theorem nJ2_size : parN yJ2_size 0 := by unfold parN; decide +kernel
set_option maxHeartbeats 4000000 in
theorem eJ2_size (g : GC) : CT (wC g) yJ2_size (Cond.code yJ2_size cJ2_size 1 (some .int)) 0 0 (pJ2_size g.2.1) := by
  refine CT.of (wC_ok g) (cc := cJ2_size) (nL := 1) (ret := (some .int)) (ht := []) (by decide +kernel) (Or.inl ⟨rfl, rfl⟩) (B := bJ2_size_0 g.2.1) (fun R E X hE => ?_)
  have h0 : E (bJ2_size_0 g.2.1 R) 0 := by
    unfold bJ2_size_0
    refine si_aload_n (pc := 0) hE dJ2_size_0 rfl ?_
    refine si_gI (pc := 1) hE dJ2_size_1 (Or.inl q278) zfo_7 ?_
    exact si_ireturn (pc := 4) hE dJ2_size_4
  exact h0
def bJ2_grow_2_20 (κ : Nat → Option Nat) (R : Ret AH) : Cont AH :=
    o_il 2 <|
    o_il 1 <|
    o_il 2 <|
    o_isub <|
    o_il 2 <|
    o_ic 1 <|
    o_ishr <|
    o_call 3 (pJ14_newLength κ) (fun _ a σ => R (.inr a) σ) <|
    o_is 3 <|
    o_al 0 <|
    o_al 0 <|
    o_gR 1 [19] <|
    o_il 3 <|
    o_call 2 (pJ15_copyOf κ) (fun _ a σ => R (.inr a) σ) <|
    o_dup_x1 <|
    o_pR 1 [19] <|
    o_areturn R
def bJ2_grow_2_45 (κ : Nat → Option Nat) (R : Ret AH) : Cont AH :=
    o_al 0 <|
    o_ic 10 <|
    o_il 1 <|
    o_mmax <|
    o_newA 104 <|
    o_dup_x1 <|
    o_pR 1 [19] <|
    o_areturn R
def bJ2_grow_2_0 (κ : Nat → Option Nat) (R : Ret AH) : Cont AH :=
    o_al 0 <|
    o_gR 1 [19] <|
    o_len <|
    o_is 2 <|
    o_il 2 <|
    o_if_gt (bJ2_grow_2_20 κ R) <|
    o_al 0 <|
    o_gR 1 [19] <|
    o_cst κ 30 <|
    o_acmp_eq (bJ2_grow_2_45 κ R) <|
    (bJ2_grow_2_20 κ R)
def pJ2_grow_2 (κ : Nat → Option Nat) : PT AH := fun as σ Q => (lg_sl as).length ≤ 4 ∧ bJ2_grow_2_0 κ Q (entP 4 as) [] σ
theorem nJ2_grow_2 : parN yJ2_grow_2 1 := by unfold parN; decide +kernel
set_option maxHeartbeats 4000000 in
theorem eJ2_grow_2 (g : GC) : CT (wC g) yJ2_grow_2 (Cond.code yJ2_grow_2 cJ2_grow_2 4 (some (.array (.object "java/lang/Object")))) 3 104 (pJ2_grow_2 g.2.1) := by
  refine CT.of (wC_ok g) (cc := cJ2_grow_2) (nL := 4) (ret := (some (.array (.object "java/lang/Object")))) (ht := []) (by decide +kernel) (Or.inl ⟨rfl, rfl⟩) (B := bJ2_grow_2_0 g.2.1) (fun R E X hE => ?_)
  have h20 : E (bJ2_grow_2_20 g.2.1 R) 20 := by
    unfold bJ2_grow_2_20
    refine si_iload_n (pc := 20) hE dJ2_grow_2_20 rfl ?_
    refine si_iload_n (pc := 21) hE dJ2_grow_2_21 rfl ?_
    refine si_iload_n (pc := 22) hE dJ2_grow_2_22 rfl ?_
    refine si_isub (pc := 23) hE dJ2_grow_2_23 ?_
    refine si_iload_n (pc := 24) hE dJ2_grow_2_24 rfl ?_
    refine si_iconst (pc := 25) hE dJ2_grow_2_25 (by decide) ?_
    refine si_ishr (pc := 26) hE dJ2_grow_2_26 ?_
    refine si_hs (pc := 27) (n := 3) hE dJ2_grow_2_27 (cal_S (eJ14_newLength g) (Or.inl ⟨rfl, rfl⟩) q621 q153 q619 q620 ⟨by decide +kernel, by decide +kernel⟩ nJ14_newLength (by decide) (by decide)) (si_out hE rfl) ?_
    refine si_istore_n (pc := 30) hE dJ2_grow_2_30 rfl (by decide) ?_
    refine si_aload_n (pc := 31) hE dJ2_grow_2_31 rfl ?_
    refine si_aload_n (pc := 32) hE dJ2_grow_2_32 rfl ?_
    refine si_gR (pc := 33) hE dJ2_grow_2_33 (Or.inl q277) zfo_6 ?_
    refine si_iload_n (pc := 36) hE dJ2_grow_2_36 rfl ?_
    refine si_hs (pc := 37) (n := 2) hE dJ2_grow_2_37 (cal_S (eJ15_copyOf g) (Or.inl ⟨rfl, rfl⟩) q629 q154 q627 q628 ⟨by decide +kernel, by decide +kernel⟩ nJ15_copyOf (by decide) (by decide)) (si_out hE rfl) ?_
    refine si_dup_x1 (pc := 40) hE dJ2_grow_2_40 ?_
    refine si_pR (pc := 41) hE dJ2_grow_2_41 (Or.inl q277) zfo_6 (Or.inr ⟨_, rfl⟩) ?_
    exact si_areturn (pc := 44) hE (Or.inr ⟨_, rfl⟩) dJ2_grow_2_44
  have h45 : E (bJ2_grow_2_45 g.2.1 R) 45 := by
    unfold bJ2_grow_2_45
    refine si_aload_n (pc := 45) hE dJ2_grow_2_45 rfl ?_
    refine si_bipush (pc := 46) hE dJ2_grow_2_46 (by decide) ?_
    refine si_iload_n (pc := 48) hE dJ2_grow_2_48 rfl ?_
    refine si_mmax (pc := 49) hE dJ2_grow_2_49 q665 q437 q142 q438 (by decide) (by decide) ?_
    refine si_anewarray4 (pc := 52) hE dJ2_grow_2_52 q666 q659 ?_
    refine si_dup_x1 (pc := 55) hE dJ2_grow_2_55 ?_
    refine si_pR (pc := 56) hE dJ2_grow_2_56 (Or.inl q277) zfo_6 (Or.inr ⟨_, rfl⟩) ?_
    exact si_areturn (pc := 59) hE (Or.inr ⟨_, rfl⟩) dJ2_grow_2_59
  have h0 : E (bJ2_grow_2_0 g.2.1 R) 0 := by
    unfold bJ2_grow_2_0
    refine si_aload_n (pc := 0) hE dJ2_grow_2_0 rfl ?_
    refine si_gR (pc := 1) hE dJ2_grow_2_1 (Or.inl q277) zfo_6 ?_
    refine si_alen (pc := 4) hE dJ2_grow_2_4 ?_
    refine si_istore_n (pc := 5) hE dJ2_grow_2_5 rfl (by decide) ?_
    refine si_iload_n (pc := 6) hE dJ2_grow_2_6 rfl ?_
    refine si_if_gt (pc := 7) hE dJ2_grow_2_7 (by decide) h20 ?_
    refine si_aload_n (pc := 10) hE dJ2_grow_2_10 rfl ?_
    refine si_gR (pc := 11) hE dJ2_grow_2_11 (Or.inl q277) zfo_6 ?_
    refine si_gstR (pc := 14) (k := 0) hE dJ2_grow_2_14 q275 rfl ?_
    refine si_acmp_eq (pc := 17) hE dJ2_grow_2_17 (by decide) h45 ?_
    exact h20
  exact h0
def bJ2_grow_0 (κ : Nat → Option Nat) (R : Ret AH) : Cont AH :=
    o_al 0 <|
    o_al 0 <|
    o_gI 2 [19] <|
    o_ic 1 <|
    o_iadd <|
    o_call 2 (hvc [(19, pJ2_grow_2 κ)]) (fun _ a σ => R (.inr a) σ) <|
    o_areturn R
def pJ2_grow (κ : Nat → Option Nat) : PT AH := fun as σ Q => (lg_sl as).length ≤ 1 ∧ bJ2_grow_0 κ Q (entP 1 as) [] σ
theorem nJ2_grow : parN yJ2_grow 0 := by unfold parN; decide +kernel
set_option maxHeartbeats 4000000 in
theorem eJ2_grow (g : GC) : CT (wC g) yJ2_grow (Cond.code yJ2_grow cJ2_grow 1 (some (.array (.object "java/lang/Object")))) 4 127 (pJ2_grow g.2.1) := by
  refine CT.of (wC_ok g) (cc := cJ2_grow) (nL := 1) (ret := (some (.array (.object "java/lang/Object")))) (ht := []) (by decide +kernel) (Or.inl ⟨rfl, rfl⟩) (B := bJ2_grow_0 g.2.1) (fun R E X hE => ?_)
  have h0 : E (bJ2_grow_0 g.2.1 R) 0 := by
    unfold bJ2_grow_0
    refine si_aload_n (pc := 0) hE dJ2_grow_0 rfl ?_
    refine si_aload_n (pc := 1) hE dJ2_grow_1 rfl ?_
    refine si_gI (pc := 2) hE dJ2_grow_2 (Or.inl q278) zfo_7 ?_
    refine si_iconst (pc := 5) hE dJ2_grow_5 (by decide) ?_
    refine si_iadd (pc := 6) hE dJ2_grow_6 ?_
    refine si_hv (pc := 7) (n := 1) hE dJ2_grow_7 ⟨cal_V (recvO cls18) (eJ2_grow_2 g) (Or.inl ⟨rfl, rfl⟩) q618 q139 q615 q617 qs11 ⟨by decide +kernel, by decide +kernel⟩ nJ2_grow_2 (by decide) (by decide), trivial⟩ (si_out hE rfl) ?_
    exact si_areturn (pc := 10) hE (Or.inr ⟨_, rfl⟩) dJ2_grow_10
  exact h0
def bJ2_add_2_11 (κ : Nat → Option Nat) (R : Ret AH) : Cont AH :=
    o_al 2 <|
    o_il 3 <|
    o_al 1 <|
    o_sR 104 (objTs ++ [60]) <|
    o_al 0 <|
    o_il 3 <|
    o_ic 1 <|
    o_iadd <|
    o_pI 2 [19] <|
    o_return R
def bJ2_add_2_0 (κ : Nat → Option Nat) (R : Ret AH) : Cont AH :=
    o_il 3 <|
    o_al 2 <|
    o_len <|
    o_icmp_ne (bJ2_add_2_11 κ R) <|
    o_al 0 <|
    o_call 1 (hvc [(19, pJ2_grow κ)]) (fun _ a σ => R (.inr a) σ) <|
    o_as 2 <|
    (bJ2_add_2_11 κ R)
def pJ2_add_2 (κ : Nat → Option Nat) : PT AH := fun as σ Q => (lg_sl as).length ≤ 4 ∧ bJ2_add_2_0 κ Q (entP 4 as) [] σ
theorem nJ2_add_2 : parN yJ2_add_2 3 := by unfold parN; decide +kernel
set_option maxHeartbeats 4000000 in
theorem eJ2_add_2 (g : GC) : CT (wC g) yJ2_add_2 (Cond.code yJ2_add_2 cJ2_add_2 4 none) 5 147 (pJ2_add_2 g.2.1) := by
  refine CT.of (wC_ok g) (cc := cJ2_add_2) (nL := 4) (ret := none) (ht := []) (by decide +kernel) (Or.inl ⟨rfl, rfl⟩) (B := bJ2_add_2_0 g.2.1) (fun R E X hE => ?_)
  have h11 : E (bJ2_add_2_11 g.2.1 R) 11 := by
    unfold bJ2_add_2_11
    refine si_aload_n (pc := 11) hE dJ2_add_2_11 rfl ?_
    refine si_iload_n (pc := 12) hE dJ2_add_2_12 rfl ?_
    refine si_aload_n (pc := 13) hE dJ2_add_2_13 rfl ?_
    refine si_aastore4 (pc := 14) hE dJ2_add_2_14 anyObj ?_
    refine si_aload_n (pc := 15) hE dJ2_add_2_15 rfl ?_
    refine si_iload_n (pc := 16) hE dJ2_add_2_16 rfl ?_
    refine si_iconst (pc := 17) hE dJ2_add_2_17 (by decide) ?_
    refine si_iadd (pc := 18) hE dJ2_add_2_18 ?_
    refine si_pI (pc := 19) hE dJ2_add_2_19 (Or.inl q278) zfo_7 ?_
    exact si_return (pc := 22) hE dJ2_add_2_22
  have h0 : E (bJ2_add_2_0 g.2.1 R) 0 := by
    unfold bJ2_add_2_0
    refine si_iload_n (pc := 0) hE dJ2_add_2_0 rfl ?_
    refine si_aload_n (pc := 1) hE dJ2_add_2_1 rfl ?_
    refine si_alen (pc := 2) hE dJ2_add_2_2 ?_
    refine si_icmp_ne (pc := 3) hE dJ2_add_2_3 (by decide) h11 ?_
    refine si_aload_n (pc := 6) hE dJ2_add_2_6 rfl ?_
    refine si_hv (pc := 7) (n := 0) hE dJ2_add_2_7 ⟨cal_V (recvO cls18) (eJ2_grow g) (Or.inl ⟨rfl, rfl⟩) q614 q139 q611 q613 qs10 ⟨by decide +kernel, by decide +kernel⟩ nJ2_grow (by decide) (by decide), trivial⟩ (si_out hE rfl) ?_
    refine si_astore_n (pc := 10) hE dJ2_add_2_10 rfl (by decide) ?_
    exact h11
  exact h0
def bJ2_add_0 (κ : Nat → Option Nat) (R : Ret AH) : Cont AH :=
    o_al 0 <|
    o_dup <|
    o_gI 0 [19] <|
    o_ic 1 <|
    o_iadd <|
    o_pI 0 [19] <|
    o_al 0 <|
    o_al 1 <|
    o_al 0 <|
    o_gR 1 [19] <|
    o_al 0 <|
    o_gI 2 [19] <|
    o_call 4 (hvc [(19, pJ2_add_2 κ)]) (fun _ a σ => R (.inr a) σ) <|
    o_ic 1 <|
    o_zreturn R
def pJ2_add (κ : Nat → Option Nat) : PT AH := fun as σ Q => (lg_sl as).length ≤ 2 ∧ bJ2_add_0 κ Q (entP 2 as) [] σ
theorem nJ2_add : parN yJ2_add 1 := by unfold parN; decide +kernel
set_option maxHeartbeats 4000000 in
theorem eJ2_add (g : GC) : CT (wC g) yJ2_add (Cond.code yJ2_add cJ2_add 2 (some .boolean)) 6 170 (pJ2_add g.2.1) := by
  refine CT.of (wC_ok g) (cc := cJ2_add) (nL := 2) (ret := (some .boolean)) (ht := []) (by decide +kernel) (Or.inl ⟨rfl, rfl⟩) (B := bJ2_add_0 g.2.1) (fun R E X hE => ?_)
  have h0 : E (bJ2_add_0 g.2.1 R) 0 := by
    unfold bJ2_add_0
    refine si_aload_n (pc := 0) hE dJ2_add_0 rfl ?_
    refine si_dup (pc := 1) hE dJ2_add_1 ?_
    refine si_gI (pc := 2) hE dJ2_add_2 (Or.inl q280) zfo_8 ?_
    refine si_iconst (pc := 5) hE dJ2_add_5 (by decide) ?_
    refine si_iadd (pc := 6) hE dJ2_add_6 ?_
    refine si_pI (pc := 7) hE dJ2_add_7 (Or.inl q280) zfo_8 ?_
    refine si_aload_n (pc := 10) hE dJ2_add_10 rfl ?_
    refine si_aload_n (pc := 11) hE dJ2_add_11 rfl ?_
    refine si_aload_n (pc := 12) hE dJ2_add_12 rfl ?_
    refine si_gR (pc := 13) hE dJ2_add_13 (Or.inl q277) zfo_6 ?_
    refine si_aload_n (pc := 16) hE dJ2_add_16 rfl ?_
    refine si_gI (pc := 17) hE dJ2_add_17 (Or.inl q278) zfo_7 ?_
    refine si_hv (pc := 20) (n := 3) hE dJ2_add_20 ⟨cal_V (recvO cls18) (eJ2_add_2 g) (Or.inl ⟨rfl, rfl⟩) q610 q139 q607 q609 qs9 ⟨by decide +kernel, by decide +kernel⟩ nJ2_add_2 (by decide) (by decide), trivial⟩ (si_out hE rfl) ?_
    refine si_iconst (pc := 23) hE dJ2_add_23 (by decide) ?_
    exact si_zreturn (pc := 24) hE dJ2_add_24
  exact h0
def bJ2_elementData_0 (κ : Nat → Option Nat) (R : Ret AH) : Cont AH :=
    o_al 0 <|
    o_gR 1 [19] <|
    o_il 1 <|
    o_aR 104 <|
    o_areturn R
def pJ2_elementData (κ : Nat → Option Nat) : PT AH := fun as σ Q => (lg_sl as).length ≤ 2 ∧ bJ2_elementData_0 κ Q (entP 2 as) [] σ
theorem nJ2_elementData : parN yJ2_elementData 1 := by unfold parN; decide +kernel
set_option maxHeartbeats 4000000 in
theorem eJ2_elementData (g : GC) : CT (wC g) yJ2_elementData (Cond.code yJ2_elementData cJ2_elementData 2 (some (.object "java/lang/Object"))) 0 0 (pJ2_elementData g.2.1) := by
  refine CT.of (wC_ok g) (cc := cJ2_elementData) (nL := 2) (ret := (some (.object "java/lang/Object"))) (ht := []) (by decide +kernel) (Or.inl ⟨rfl, rfl⟩) (B := bJ2_elementData_0 g.2.1) (fun R E X hE => ?_)
  have h0 : E (bJ2_elementData_0 g.2.1 R) 0 := by
    unfold bJ2_elementData_0
    refine si_aload_n (pc := 0) hE dJ2_elementData_0 rfl ?_
    refine si_gR (pc := 1) hE dJ2_elementData_1 (Or.inl q277) zfo_6 ?_
    refine si_iload_n (pc := 4) hE dJ2_elementData_4 rfl ?_
    refine si_aaload4 (pc := 5) hE dJ2_elementData_5 ?_
    exact si_areturn (pc := 6) hE (Or.inl ⟨_, rfl⟩) dJ2_elementData_6
  exact h0
def bJ2_get_0 (κ : Nat → Option Nat) (R : Ret AH) : Cont AH :=
    o_il 1 <|
    o_al 0 <|
    o_gI 2 [19] <|
    o_call 2 (pJ16_checkIndex κ) (fun _ a σ => R (.inr a) σ) <|
    o_pop <|
    o_al 0 <|
    o_il 1 <|
    o_call 2 (hvc [(19, pJ2_elementData κ)]) (fun _ a σ => R (.inr a) σ) <|
    o_areturn R
def pJ2_get (κ : Nat → Option Nat) : PT AH := fun as σ Q => (lg_sl as).length ≤ 2 ∧ bJ2_get_0 κ Q (entP 2 as) [] σ
theorem nJ2_get : parN yJ2_get 1 := by unfold parN; decide +kernel
set_option maxHeartbeats 4000000 in
theorem eJ2_get (g : GC) : CT (wC g) yJ2_get (Cond.code yJ2_get cJ2_get 2 (some (.object "java/lang/Object"))) 2 43 (pJ2_get g.2.1) := by
  refine CT.of (wC_ok g) (cc := cJ2_get) (nL := 2) (ret := (some (.object "java/lang/Object"))) (ht := []) (by decide +kernel) (Or.inl ⟨rfl, rfl⟩) (B := bJ2_get_0 g.2.1) (fun R E X hE => ?_)
  have h0 : E (bJ2_get_0 g.2.1 R) 0 := by
    unfold bJ2_get_0
    refine si_iload_n (pc := 0) hE dJ2_get_0 rfl ?_
    refine si_aload_n (pc := 1) hE dJ2_get_1 rfl ?_
    refine si_gI (pc := 2) hE dJ2_get_2 (Or.inl q278) zfo_7 ?_
    refine si_hs (pc := 5) (n := 2) hE dJ2_get_5 (cal_S (eJ16_checkIndex g) (Or.inl ⟨rfl, rfl⟩) q983 q170 q981 q982 ⟨by decide +kernel, by decide +kernel⟩ nJ16_checkIndex (by decide) (by decide)) (si_out hE rfl) ?_
    refine si_pop (pc := 8) hE dJ2_get_8 ?_
    refine si_aload_n (pc := 9) hE dJ2_get_9 rfl ?_
    refine si_iload_n (pc := 10) hE dJ2_get_10 rfl ?_
    refine si_hv (pc := 11) (n := 1) hE dJ2_get_11 ⟨cal_V (recvO cls18) (eJ2_elementData g) (Or.inl ⟨rfl, rfl⟩) q988 q139 q985 q986 q987 ⟨by decide +kernel, by decide +kernel⟩ nJ2_elementData (by decide) (by decide), trivial⟩ (si_out hE rfl) ?_
    exact si_areturn (pc := 14) hE (Or.inl ⟨_, rfl⟩) dJ2_get_14
  exact h0
def bJ2_clear_42 (κ : Nat → Option Nat) (R : Ret AH) : Cont AH :=
    o_return R
def bJ2_clear_27 (κ : Nat → Option Nat) (R : Ret AH) : Cont AH :=
    fixC fun J27 =>
    o_il 3 <|
    o_il 2 <|
    o_icmp_ge (bJ2_clear_42 κ R) <|
    o_al 1 <|
    o_il 3 <|
    o_null <|
    o_sR 104 (objTs ++ [60]) <|
    o_iinc 3 1 <|
    (o_kill [0] J27)
def bJ2_clear_0 (κ : Nat → Option Nat) (R : Ret AH) : Cont AH :=
    o_al 0 <|
    o_dup <|
    o_gI 0 [19] <|
    o_ic 1 <|
    o_iadd <|
    o_pI 0 [19] <|
    o_al 0 <|
    o_gR 1 [19] <|
    o_as 1 <|
    o_al 0 <|
    o_gI 2 [19] <|
    o_is 2 <|
    o_al 0 <|
    o_ic 0 <|
    o_dup_x1 <|
    o_pI 2 [19] <|
    o_is 3 <|
    (o_kill [0] (bJ2_clear_27 κ R))
def pJ2_clear (κ : Nat → Option Nat) : PT AH := fun as σ Q => (lg_sl as).length ≤ 4 ∧ bJ2_clear_0 κ Q (entP 4 as) [] σ
theorem nJ2_clear : parN yJ2_clear 0 := by unfold parN; decide +kernel
set_option maxHeartbeats 4000000 in
theorem eJ2_clear (g : GC) : CT (wC g) yJ2_clear (Cond.code yJ2_clear cJ2_clear 4 none) 0 0 (pJ2_clear g.2.1) := by
  refine CT.of (wC_ok g) (cc := cJ2_clear) (nL := 4) (ret := none) (ht := []) (by decide +kernel) (Or.inl ⟨rfl, rfl⟩) (B := bJ2_clear_0 g.2.1) (fun R E X hE => ?_)
  have h42 : E (bJ2_clear_42 g.2.1 R) 42 := by
    unfold bJ2_clear_42
    exact si_return (pc := 42) hE dJ2_clear_42
  have h27 : E (bJ2_clear_27 g.2.1 R) 27 := by
    unfold bJ2_clear_27
    refine si_fix hE (fun J27 hJ27 => ?_)
    refine si_iload_n (pc := 27) hE dJ2_clear_27 rfl ?_
    refine si_iload_n (pc := 28) hE dJ2_clear_28 rfl ?_
    refine si_icmp_ge (pc := 29) hE dJ2_clear_29 (by decide) h42 ?_
    refine si_aload_n (pc := 32) hE dJ2_clear_32 rfl ?_
    refine si_iload_n (pc := 33) hE dJ2_clear_33 rfl ?_
    refine si_null (pc := 34) hE dJ2_clear_34 ?_
    refine si_aastore4 (pc := 35) hE dJ2_clear_35 anyObj ?_
    refine si_iinc (pc := 36) hE dJ2_clear_36 (by decide) (by decide) ?_
    exact si_goto (pc := 39) hE dJ2_clear_39 (by decide) (si_kill hE hJ27)
  have h0 : E (bJ2_clear_0 g.2.1 R) 0 := by
    unfold bJ2_clear_0
    refine si_aload_n (pc := 0) hE dJ2_clear_0 rfl ?_
    refine si_dup (pc := 1) hE dJ2_clear_1 ?_
    refine si_gI (pc := 2) hE dJ2_clear_2 (Or.inl q280) zfo_8 ?_
    refine si_iconst (pc := 5) hE dJ2_clear_5 (by decide) ?_
    refine si_iadd (pc := 6) hE dJ2_clear_6 ?_
    refine si_pI (pc := 7) hE dJ2_clear_7 (Or.inl q280) zfo_8 ?_
    refine si_aload_n (pc := 10) hE dJ2_clear_10 rfl ?_
    refine si_gR (pc := 11) hE dJ2_clear_11 (Or.inl q277) zfo_6 ?_
    refine si_astore_n (pc := 14) hE dJ2_clear_14 rfl (by decide) ?_
    refine si_aload_n (pc := 15) hE dJ2_clear_15 rfl ?_
    refine si_gI (pc := 16) hE dJ2_clear_16 (Or.inl q278) zfo_7 ?_
    refine si_istore_n (pc := 19) hE dJ2_clear_19 rfl (by decide) ?_
    refine si_aload_n (pc := 20) hE dJ2_clear_20 rfl ?_
    refine si_iconst (pc := 21) hE dJ2_clear_21 (by decide) ?_
    refine si_dup_x1 (pc := 22) hE dJ2_clear_22 ?_
    refine si_pI (pc := 23) hE dJ2_clear_23 (Or.inl q278) zfo_7 ?_
    refine si_istore_n (pc := 26) hE dJ2_clear_26 rfl (by decide) ?_
    exact (si_kill hE h27)
  exact h0
def bJ3_isLatin1_18 (κ : Nat → Option Nat) (R : Ret AH) : Cont AH :=
    o_zreturn R
def bJ3_isLatin1_17 (κ : Nat → Option Nat) (R : Ret AH) : Cont AH :=
    o_ic 0 <|
    (bJ3_isLatin1_18 κ R)
def bJ3_isLatin1_0 (κ : Nat → Option Nat) (R : Ret AH) : Cont AH :=
    o_ic 1 <|
    o_if_eq (bJ3_isLatin1_17 κ R) <|
    o_al 0 <|
    o_gSc <|
    o_if_ne (bJ3_isLatin1_17 κ R) <|
    o_ic 1 <|
    (bJ3_isLatin1_18 κ R)
def pJ3_isLatin1 (κ : Nat → Option Nat) : PT AH := fun as σ Q => (lg_sl as).length ≤ 1 ∧ bJ3_isLatin1_0 κ Q (entP 1 as) [] σ
theorem nJ3_isLatin1 : parN yJ3_isLatin1 0 := by unfold parN; decide +kernel
set_option maxHeartbeats 4000000 in
theorem eJ3_isLatin1 (g : GC) : CT (wC g) yJ3_isLatin1 (Cond.code yJ3_isLatin1 cJ3_isLatin1 1 (some .boolean)) 0 0 (pJ3_isLatin1 g.2.1) := by
  refine CT.of (wC_ok g) (cc := cJ3_isLatin1) (nL := 1) (ret := (some .boolean)) (ht := []) (by decide +kernel) (Or.inl ⟨rfl, rfl⟩) (B := bJ3_isLatin1_0 g.2.1) (fun R E X hE => ?_)
  have h18 : E (bJ3_isLatin1_18 g.2.1 R) 18 := by
    unfold bJ3_isLatin1_18
    exact si_zreturn (pc := 18) hE dJ3_isLatin1_18
  have h17 : E (bJ3_isLatin1_17 g.2.1 R) 17 := by
    unfold bJ3_isLatin1_17
    refine si_iconst (pc := 17) hE dJ3_isLatin1_17 (by decide) ?_
    exact h18
  have h0 : E (bJ3_isLatin1_0 g.2.1 R) 0 := by
    unfold bJ3_isLatin1_0
    refine si_gstI (pc := 0) hE dJ3_isLatin1_0 q420 (by decide +kernel) ?_
    refine si_if_eq (pc := 3) hE dJ3_isLatin1_3 (by decide) h17 ?_
    refine si_aload_n (pc := 6) hE dJ3_isLatin1_6 rfl ?_
    refine si_gSc (pc := 7) hE dJ3_isLatin1_7 (Or.inl q2307) ?_
    refine si_if_ne (pc := 10) hE dJ3_isLatin1_10 (by decide) h17 ?_
    refine si_iconst (pc := 13) hE dJ3_isLatin1_13 (by decide) ?_
    exact si_goto (pc := 14) hE dJ3_isLatin1_14 (by decide) h18
  exact h0
def bJ3_coder_14 (κ : Nat → Option Nat) (R : Ret AH) : Cont AH :=
    o_nreturn .byte R
def bJ3_coder_13 (κ : Nat → Option Nat) (R : Ret AH) : Cont AH :=
    o_ic 1 <|
    (bJ3_coder_14 κ R)
def bJ3_coder_0 (κ : Nat → Option Nat) (R : Ret AH) : Cont AH :=
    o_ic 1 <|
    o_if_eq (bJ3_coder_13 κ R) <|
    o_al 0 <|
    o_gSc <|
    (bJ3_coder_14 κ R)
def pJ3_coder (κ : Nat → Option Nat) : PT AH := fun as σ Q => (lg_sl as).length ≤ 1 ∧ bJ3_coder_0 κ Q (entP 1 as) [] σ
theorem nJ3_coder : parN yJ3_coder 0 := by unfold parN; decide +kernel
set_option maxHeartbeats 4000000 in
theorem eJ3_coder (g : GC) : CT (wC g) yJ3_coder (Cond.code yJ3_coder cJ3_coder 1 (some .byte)) 0 0 (pJ3_coder g.2.1) := by
  refine CT.of (wC_ok g) (cc := cJ3_coder) (nL := 1) (ret := (some .byte)) (ht := []) (by decide +kernel) (Or.inl ⟨rfl, rfl⟩) (B := bJ3_coder_0 g.2.1) (fun R E X hE => ?_)
  have h14 : E (bJ3_coder_14 g.2.1 R) 14 := by
    unfold bJ3_coder_14
    exact si_nreturn (pc := 14) hE dJ3_coder_14
  have h13 : E (bJ3_coder_13 g.2.1 R) 13 := by
    unfold bJ3_coder_13
    refine si_iconst (pc := 13) hE dJ3_coder_13 (by decide) ?_
    exact h14
  have h0 : E (bJ3_coder_0 g.2.1 R) 0 := by
    unfold bJ3_coder_0
    refine si_gstI (pc := 0) hE dJ3_coder_0 q420 (by decide +kernel) ?_
    refine si_if_eq (pc := 3) hE dJ3_coder_3 (by decide) h13 ?_
    refine si_aload_n (pc := 6) hE dJ3_coder_6 rfl ?_
    refine si_gSc (pc := 7) hE dJ3_coder_7 (Or.inl q2307) ?_
    exact si_goto (pc := 10) hE dJ3_coder_10 (by decide) h14
  exact h0
def bJ3_length_0 (κ : Nat → Option Nat) (R : Ret AH) : Cont AH :=
    o_al 0 <|
    o_gSv <|
    o_len <|
    o_al 0 <|
    o_call 1 (hvc [(61, pJ3_coder κ)]) (fun _ a σ => R (.inr a) σ) <|
    o_ishr <|
    o_ireturn R
def pJ3_length (κ : Nat → Option Nat) : PT AH := fun as σ Q => (lg_sl as).length ≤ 1 ∧ bJ3_length_0 κ Q (entP 1 as) [] σ
theorem nJ3_length : parN yJ3_length 0 := by unfold parN; decide +kernel
set_option maxHeartbeats 4000000 in
theorem eJ3_length (g : GC) : CT (wC g) yJ3_length (Cond.code yJ3_length cJ3_length 1 (some .int)) 1 20 (pJ3_length g.2.1) := by
  refine CT.of (wC_ok g) (cc := cJ3_length) (nL := 1) (ret := (some .int)) (ht := []) (by decide +kernel) (Or.inl ⟨rfl, rfl⟩) (B := bJ3_length_0 g.2.1) (fun R E X hE => ?_)
  have h0 : E (bJ3_length_0 g.2.1 R) 0 := by
    unfold bJ3_length_0
    refine si_aload_n (pc := 0) hE dJ3_length_0 rfl ?_
    refine si_gSv (pc := 1) hE dJ3_length_1 (Or.inl q2308) ?_
    refine si_alen (pc := 4) hE dJ3_length_4 ?_
    refine si_aload_n (pc := 5) hE dJ3_length_5 rfl ?_
    refine si_hv (pc := 6) (n := 0) hE dJ3_length_6 ⟨cal_V recv61 (eJ3_coder g) (Or.inl ⟨rfl, rfl⟩) q429 q140 q426 q427 q428 ⟨by decide +kernel, by decide +kernel⟩ nJ3_coder (by decide) (by decide), trivial⟩ (si_out hE rfl) ?_
    refine si_ishr (pc := 9) hE dJ3_length_9 ?_
    exact si_ireturn (pc := 10) hE dJ3_length_10
  exact h0
def bJ4_canEncode_16 (κ : Nat → Option Nat) (R : Ret AH) : Cont AH :=
    o_zreturn R
def bJ4_canEncode_15 (κ : Nat → Option Nat) (R : Ret AH) : Cont AH :=
    o_ic 0 <|
    (bJ4_canEncode_16 κ R)
def bJ4_canEncode_0 (κ : Nat → Option Nat) (R : Ret AH) : Cont AH :=
    o_il 0 <|
    o_if_lt (bJ4_canEncode_15 κ R) <|
    o_il 0 <|
    o_ic 255 <|
    o_icmp_gt (bJ4_canEncode_15 κ R) <|
    o_ic 1 <|
    (bJ4_canEncode_16 κ R)
def pJ4_canEncode (κ : Nat → Option Nat) : PT AH := fun as σ Q => (lg_sl as).length ≤ 1 ∧ bJ4_canEncode_0 κ Q (entP 1 as) [] σ
theorem nJ4_canEncode : parN yJ4_canEncode 1 := by unfold parN; decide +kernel
set_option maxHeartbeats 4000000 in
theorem eJ4_canEncode (g : GC) : CT (wC g) yJ4_canEncode (Cond.code yJ4_canEncode cJ4_canEncode 1 (some .boolean)) 0 0 (pJ4_canEncode g.2.1) := by
  refine CT.of (wC_ok g) (cc := cJ4_canEncode) (nL := 1) (ret := (some .boolean)) (ht := []) (by decide +kernel) (Or.inl ⟨rfl, rfl⟩) (B := bJ4_canEncode_0 g.2.1) (fun R E X hE => ?_)
  have h16 : E (bJ4_canEncode_16 g.2.1 R) 16 := by
    unfold bJ4_canEncode_16
    exact si_zreturn (pc := 16) hE dJ4_canEncode_16
  have h15 : E (bJ4_canEncode_15 g.2.1 R) 15 := by
    unfold bJ4_canEncode_15
    refine si_iconst (pc := 15) hE dJ4_canEncode_15 (by decide) ?_
    exact h16
  have h0 : E (bJ4_canEncode_0 g.2.1 R) 0 := by
    unfold bJ4_canEncode_0
    refine si_iload_n (pc := 0) hE dJ4_canEncode_0 rfl ?_
    refine si_if_lt (pc := 1) hE dJ4_canEncode_1 (by decide) h15 ?_
    refine si_iload_n (pc := 4) hE dJ4_canEncode_4 rfl ?_
    refine si_sipush (pc := 5) hE dJ4_canEncode_5 (by decide) ?_
    refine si_icmp_gt (pc := 8) hE dJ4_canEncode_8 (by decide) h15 ?_
    refine si_iconst (pc := 11) hE dJ4_canEncode_11 (by decide) ?_
    exact si_goto (pc := 12) hE dJ4_canEncode_12 (by decide) h16
  exact h0
def bJ4_indexOfChar_31 (κ : Nat → Option Nat) (R : Ret AH) : Cont AH :=
    o_ic (-1) <|
    o_ireturn R
def bJ4_indexOfChar_25 (κ : Nat → Option Nat) (R : Ret AH) (J7 : Cont AH) : Cont AH :=
    o_iinc 5 1 <|
    (o_kill [1, 2] J7)
def bJ4_indexOfChar_7 (κ : Nat → Option Nat) (R : Ret AH) : Cont AH :=
    fixC fun J7 =>
    o_il 5 <|
    o_il 3 <|
    o_icmp_ge (bJ4_indexOfChar_31 κ R) <|
    o_al 0 <|
    o_il 5 <|
    o_aI 102 <|
    o_il 4 <|
    o_icmp_ne (bJ4_indexOfChar_25 κ R J7) <|
    o_il 5 <|
    o_ireturn R
def bJ4_indexOfChar_0 (κ : Nat → Option Nat) (R : Ret AH) : Cont AH :=
    o_il 1 <|
    o_i2b <|
    o_is 4 <|
    o_il 2 <|
    o_is 5 <|
    (o_kill [1, 2] (bJ4_indexOfChar_7 κ R))
def pJ4_indexOfChar (κ : Nat → Option Nat) : PT AH := fun as σ Q => (lg_sl as).length ≤ 6 ∧ bJ4_indexOfChar_0 κ Q (entP 6 as) [] σ
theorem nJ4_indexOfChar : parN yJ4_indexOfChar 4 := by unfold parN; decide +kernel
set_option maxHeartbeats 4000000 in
theorem eJ4_indexOfChar (g : GC) : CT (wC g) yJ4_indexOfChar (Cond.code yJ4_indexOfChar cJ4_indexOfChar 6 (some .int)) 0 0 (pJ4_indexOfChar g.2.1) := by
  refine CT.of (wC_ok g) (cc := cJ4_indexOfChar) (nL := 6) (ret := (some .int)) (ht := []) (by decide +kernel) (Or.inl ⟨rfl, rfl⟩) (B := bJ4_indexOfChar_0 g.2.1) (fun R E X hE => ?_)
  have h31 : E (bJ4_indexOfChar_31 g.2.1 R) 31 := by
    unfold bJ4_indexOfChar_31
    refine si_iconst (pc := 31) hE dJ4_indexOfChar_31 (by decide) ?_
    exact si_ireturn (pc := 32) hE dJ4_indexOfChar_32
  have h25 : ∀ (J7 : Cont AH) (hJ7 : E J7 7), E (bJ4_indexOfChar_25 g.2.1 R J7) 25 := by
    intro J7 hJ7
    unfold bJ4_indexOfChar_25
    refine si_iinc (pc := 25) hE dJ4_indexOfChar_25 (by decide) (by decide) ?_
    exact si_goto (pc := 28) hE dJ4_indexOfChar_28 (by decide) (si_kill hE hJ7)
  have h7 : E (bJ4_indexOfChar_7 g.2.1 R) 7 := by
    unfold bJ4_indexOfChar_7
    refine si_fix hE (fun J7 hJ7 => ?_)
    refine si_iload (pc := 7) hE dJ4_indexOfChar_7 ?_
    refine si_iload_n (pc := 9) hE dJ4_indexOfChar_9 rfl ?_
    refine si_icmp_ge (pc := 10) hE dJ4_indexOfChar_10 (by decide) h31 ?_
    refine si_aload_n (pc := 13) hE dJ4_indexOfChar_13 rfl ?_
    refine si_iload (pc := 14) hE dJ4_indexOfChar_14 ?_
    refine si_baload (pc := 16) hE dJ4_indexOfChar_16 ?_
    refine si_iload (pc := 17) hE dJ4_indexOfChar_17 ?_
    refine si_icmp_ne (pc := 19) hE dJ4_indexOfChar_19 (by decide) (h25 J7 hJ7) ?_
    refine si_iload (pc := 22) hE dJ4_indexOfChar_22 ?_
    exact si_ireturn (pc := 24) hE dJ4_indexOfChar_24
  have h0 : E (bJ4_indexOfChar_0 g.2.1 R) 0 := by
    unfold bJ4_indexOfChar_0
    refine si_iload_n (pc := 0) hE dJ4_indexOfChar_0 rfl ?_
    refine si_i2b (pc := 1) hE dJ4_indexOfChar_1 ?_
    refine si_istore (pc := 2) hE dJ4_indexOfChar_2 (by decide) ?_
    refine si_iload_n (pc := 4) hE dJ4_indexOfChar_4 rfl ?_
    refine si_istore (pc := 5) hE dJ4_indexOfChar_5 (by decide) ?_
    exact (si_kill hE h7)
  exact h0
def bJ4_indexOf_29 (κ : Nat → Option Nat) (R : Ret AH) : Cont AH :=
    o_al 0 <|
    o_il 1 <|
    o_il 2 <|
    o_il 3 <|
    o_call 4 (pJ4_indexOfChar κ) (fun _ a σ => R (.inr a) σ) <|
    o_ireturn R
def bJ4_indexOf_9 (κ : Nat → Option Nat) (R : Ret AH) : Cont AH :=
    o_il 2 <|
    o_ic 0 <|
    o_mmax <|
    o_is 2 <|
    o_il 3 <|
    o_al 0 <|
    o_len <|
    o_mmin <|
    o_is 3 <|
    o_il 2 <|
    o_il 3 <|
    o_icmp_lt (bJ4_indexOf_29 κ R) <|
    o_ic (-1) <|
    o_ireturn R
def bJ4_indexOf_0 (κ : Nat → Option Nat) (R : Ret AH) : Cont AH :=
    o_il 1 <|
    o_call 1 (pJ4_canEncode κ) (fun _ a σ => R (.inr a) σ) <|
    o_if_ne (bJ4_indexOf_9 κ R) <|
    o_ic (-1) <|
    o_ireturn R
def pJ4_indexOf (κ : Nat → Option Nat) : PT AH := fun as σ Q => (lg_sl as).length ≤ 4 ∧ bJ4_indexOf_0 κ Q (entP 4 as) [] σ
theorem nJ4_indexOf : parN yJ4_indexOf 4 := by unfold parN; decide +kernel
set_option maxHeartbeats 4000000 in
theorem eJ4_indexOf (g : GC) : CT (wC g) yJ4_indexOf (Cond.code yJ4_indexOf cJ4_indexOf 4 (some .int)) 1 25 (pJ4_indexOf g.2.1) := by
  refine CT.of (wC_ok g) (cc := cJ4_indexOf) (nL := 4) (ret := (some .int)) (ht := []) (by decide +kernel) (Or.inl ⟨rfl, rfl⟩) (B := bJ4_indexOf_0 g.2.1) (fun R E X hE => ?_)
  have h29 : E (bJ4_indexOf_29 g.2.1 R) 29 := by
    unfold bJ4_indexOf_29
    refine si_aload_n (pc := 29) hE dJ4_indexOf_29 rfl ?_
    refine si_iload_n (pc := 30) hE dJ4_indexOf_30 rfl ?_
    refine si_iload_n (pc := 31) hE dJ4_indexOf_31 rfl ?_
    refine si_iload_n (pc := 32) hE dJ4_indexOf_32 rfl ?_
    refine si_hs (pc := 33) (n := 4) hE dJ4_indexOf_33 (cal_S (eJ4_indexOfChar g) (Or.inl ⟨rfl, rfl⟩) q444 q141 q442 q443 ⟨by decide +kernel, by decide +kernel⟩ nJ4_indexOfChar (by decide) (by decide)) (si_out hE rfl) ?_
    exact si_ireturn (pc := 36) hE dJ4_indexOf_36
  have h9 : E (bJ4_indexOf_9 g.2.1 R) 9 := by
    unfold bJ4_indexOf_9
    refine si_iload_n (pc := 9) hE dJ4_indexOf_9 rfl ?_
    refine si_iconst (pc := 10) hE dJ4_indexOf_10 (by decide) ?_
    refine si_mmax (pc := 11) hE dJ4_indexOf_11 q436 q437 q142 q438 (by decide) (by decide) ?_
    refine si_istore_n (pc := 14) hE dJ4_indexOf_14 rfl (by decide) ?_
    refine si_iload_n (pc := 15) hE dJ4_indexOf_15 rfl ?_
    refine si_aload_n (pc := 16) hE dJ4_indexOf_16 rfl ?_
    refine si_alen (pc := 17) hE dJ4_indexOf_17 ?_
    refine si_mmin (pc := 18) hE dJ4_indexOf_18 q439 q440 q142 q441 (by decide) (by decide) ?_
    refine si_istore_n (pc := 21) hE dJ4_indexOf_21 rfl (by decide) ?_
    refine si_iload_n (pc := 22) hE dJ4_indexOf_22 rfl ?_
    refine si_iload_n (pc := 23) hE dJ4_indexOf_23 rfl ?_
    refine si_icmp_lt (pc := 24) hE dJ4_indexOf_24 (by decide) h29 ?_
    refine si_iconst (pc := 27) hE dJ4_indexOf_27 (by decide) ?_
    exact si_ireturn (pc := 28) hE dJ4_indexOf_28
  have h0 : E (bJ4_indexOf_0 g.2.1 R) 0 := by
    unfold bJ4_indexOf_0
    refine si_iload_n (pc := 0) hE dJ4_indexOf_0 rfl ?_
    refine si_hs (pc := 1) (n := 1) hE dJ4_indexOf_1 (cal_S (eJ4_canEncode g) (Or.inl ⟨rfl, rfl⟩) q435 q141 q433 q434 ⟨by decide +kernel, by decide +kernel⟩ nJ4_canEncode (by decide) (by decide)) (si_out hE rfl) ?_
    refine si_if_ne (pc := 4) hE dJ4_indexOf_4 (by decide) h9 ?_
    refine si_iconst (pc := 7) hE dJ4_indexOf_7 (by decide) ?_
    exact si_ireturn (pc := 8) hE dJ4_indexOf_8
  exact h0
def bJ3_indexOf_2_23 (κ : Nat → Option Nat) (R : Ret AH) : Cont AH :=
    o_al 0 <|
    o_gSv <|
    o_il 1 <|
    o_il 2 <|
    o_al 0 <|
    o_call 1 (hvc [(61, pJ3_length κ)]) (fun _ a σ => R (.inr a) σ) <|
    o_dead
def bJ3_indexOf_2_36 (κ : Nat → Option Nat) (R : Ret AH) : Cont AH :=
    o_ireturn R
def bJ3_indexOf_2_0 (κ : Nat → Option Nat) (R : Ret AH) : Cont AH :=
    o_al 0 <|
    o_call 1 (hvc [(61, pJ3_isLatin1 κ)]) (fun _ a σ => R (.inr a) σ) <|
    o_if_eq (bJ3_indexOf_2_23 κ R) <|
    o_al 0 <|
    o_gSv <|
    o_il 1 <|
    o_il 2 <|
    o_al 0 <|
    o_call 1 (hvc [(61, pJ3_length κ)]) (fun _ a σ => R (.inr a) σ) <|
    o_call 4 (pJ4_indexOf κ) (fun _ a σ => R (.inr a) σ) <|
    (bJ3_indexOf_2_36 κ R)
def pJ3_indexOf_2 (κ : Nat → Option Nat) : PT AH := fun as σ Q => (lg_sl as).length ≤ 3 ∧ bJ3_indexOf_2_0 κ Q (entP 3 as) [] σ
theorem nJ3_indexOf_2 : parN yJ3_indexOf_2 2 := by unfold parN; decide +kernel
set_option maxHeartbeats 4000000 in
theorem eJ3_indexOf_2 (g : GC) : CT (wC g) yJ3_indexOf_2 (Cond.code yJ3_indexOf_2 cJ3_indexOf_2 3 (some .int)) 2 48 (pJ3_indexOf_2 g.2.1) := by
  refine CT.of (wC_ok g) (cc := cJ3_indexOf_2) (nL := 3) (ret := (some .int)) (ht := []) (by decide +kernel) (Or.inl ⟨rfl, rfl⟩) (B := bJ3_indexOf_2_0 g.2.1) (fun R E X hE => ?_)
  have h23 : E (bJ3_indexOf_2_23 g.2.1 R) 23 := by
    unfold bJ3_indexOf_2_23
    refine si_aload_n (pc := 23) hE dJ3_indexOf_2_23 rfl ?_
    refine si_gSv (pc := 24) hE dJ3_indexOf_2_24 (Or.inl q2308) ?_
    refine si_iload_n (pc := 27) hE dJ3_indexOf_2_27 rfl ?_
    refine si_iload_n (pc := 28) hE dJ3_indexOf_2_28 rfl ?_
    refine si_aload_n (pc := 29) hE dJ3_indexOf_2_29 rfl ?_
    refine si_hv (pc := 30) (n := 0) hE dJ3_indexOf_2_30 ⟨cal_V recv61 (eJ3_length g) (Or.inl ⟨rfl, rfl⟩) q425 q140 q422 q423 q424 ⟨by decide +kernel, by decide +kernel⟩ nJ3_length (by decide) (by decide), trivial⟩ (si_out hE rfl) ?_
    exact si_dead hE
  have h36 : E (bJ3_indexOf_2_36 g.2.1 R) 36 := by
    unfold bJ3_indexOf_2_36
    exact si_ireturn (pc := 36) hE dJ3_indexOf_2_36
  have h0 : E (bJ3_indexOf_2_0 g.2.1 R) 0 := by
    unfold bJ3_indexOf_2_0
    refine si_aload_n (pc := 0) hE dJ3_indexOf_2_0 rfl ?_
    refine si_hv (pc := 1) (n := 0) hE dJ3_indexOf_2_1 ⟨cal_V recv61 (eJ3_isLatin1 g) (Or.inl ⟨rfl, rfl⟩) q419 q140 q416 q417 q418 ⟨by decide +kernel, by decide +kernel⟩ nJ3_isLatin1 (by decide) (by decide), trivial⟩ (si_out hE rfl) ?_
    refine si_if_eq (pc := 4) hE dJ3_indexOf_2_4 (by decide) h23 ?_
    refine si_aload_n (pc := 7) hE dJ3_indexOf_2_7 rfl ?_
    refine si_gSv (pc := 8) hE dJ3_indexOf_2_8 (Or.inl q2308) ?_
    refine si_iload_n (pc := 11) hE dJ3_indexOf_2_11 rfl ?_
    refine si_iload_n (pc := 12) hE dJ3_indexOf_2_12 rfl ?_
    refine si_aload_n (pc := 13) hE dJ3_indexOf_2_13 rfl ?_
    refine si_hv (pc := 14) (n := 0) hE dJ3_indexOf_2_14 ⟨cal_V recv61 (eJ3_length g) (Or.inl ⟨rfl, rfl⟩) q425 q140 q422 q423 q424 ⟨by decide +kernel, by decide +kernel⟩ nJ3_length (by decide) (by decide), trivial⟩ (si_out hE rfl) ?_
    refine si_hs (pc := 17) (n := 4) hE dJ3_indexOf_2_17 (cal_S (eJ4_indexOf g) (Or.inl ⟨rfl, rfl⟩) q432 q141 q430 q431 ⟨by decide +kernel, by decide +kernel⟩ nJ4_indexOf (by decide) (by decide)) (si_out hE rfl) ?_
    exact si_goto (pc := 20) hE dJ3_indexOf_2_20 (by decide) h36
  exact h0
def bJ3_indexOf_0 (κ : Nat → Option Nat) (R : Ret AH) : Cont AH :=
    o_al 0 <|
    o_il 1 <|
    o_ic 0 <|
    o_call 3 (hvc [(61, pJ3_indexOf_2 κ)]) (fun _ a σ => R (.inr a) σ) <|
    o_ireturn R
def pJ3_indexOf (κ : Nat → Option Nat) : PT AH := fun as σ Q => (lg_sl as).length ≤ 2 ∧ bJ3_indexOf_0 κ Q (entP 2 as) [] σ
theorem nJ3_indexOf : parN yJ3_indexOf 1 := by unfold parN; decide +kernel
set_option maxHeartbeats 4000000 in
theorem eJ3_indexOf (g : GC) : CT (wC g) yJ3_indexOf (Cond.code yJ3_indexOf cJ3_indexOf 2 (some .int)) 3 70 (pJ3_indexOf g.2.1) := by
  refine CT.of (wC_ok g) (cc := cJ3_indexOf) (nL := 2) (ret := (some .int)) (ht := []) (by decide +kernel) (Or.inl ⟨rfl, rfl⟩) (B := bJ3_indexOf_0 g.2.1) (fun R E X hE => ?_)
  have h0 : E (bJ3_indexOf_0 g.2.1 R) 0 := by
    unfold bJ3_indexOf_0
    refine si_aload_n (pc := 0) hE dJ3_indexOf_0 rfl ?_
    refine si_iload_n (pc := 1) hE dJ3_indexOf_1 rfl ?_
    refine si_iconst (pc := 2) hE dJ3_indexOf_2 (by decide) ?_
    refine si_hv (pc := 3) (n := 2) hE dJ3_indexOf_3 ⟨cal_V recv61 (eJ3_indexOf_2 g) (Or.inl ⟨rfl, rfl⟩) q415 q140 q412 q413 q414 ⟨by decide +kernel, by decide +kernel⟩ nJ3_indexOf_2 (by decide) (by decide), trivial⟩ (si_out hE rfl) ?_
    exact si_ireturn (pc := 6) hE dJ3_indexOf_6
  exact h0
def bJ7_checkFromToIndex_14 (κ : Nat → Option Nat) (R : Ret AH) : Cont AH :=
    o_al 3 <|
    o_il 0 <|
    o_il 1 <|
    o_il 2 <|
    o_dead
def bJ7_checkFromToIndex_22 (κ : Nat → Option Nat) (R : Ret AH) : Cont AH :=
    o_il 0 <|
    o_ireturn R
def bJ7_checkFromToIndex_0 (κ : Nat → Option Nat) (R : Ret AH) : Cont AH :=
    o_il 0 <|
    o_if_lt (bJ7_checkFromToIndex_14 κ R) <|
    o_il 0 <|
    o_il 1 <|
    o_icmp_gt (bJ7_checkFromToIndex_14 κ R) <|
    o_il 1 <|
    o_il 2 <|
    o_icmp_le (bJ7_checkFromToIndex_22 κ R) <|
    (bJ7_checkFromToIndex_14 κ R)
def pJ7_checkFromToIndex (κ : Nat → Option Nat) : PT AH := fun as σ Q => (lg_sl as).length ≤ 4 ∧ bJ7_checkFromToIndex_0 κ Q (entP 4 as) [] σ
theorem nJ7_checkFromToIndex : parN yJ7_checkFromToIndex 4 := by unfold parN; decide +kernel
set_option maxHeartbeats 4000000 in
theorem eJ7_checkFromToIndex (g : GC) : CT (wC g) yJ7_checkFromToIndex (Cond.code yJ7_checkFromToIndex cJ7_checkFromToIndex 4 (some .int)) 0 0 (pJ7_checkFromToIndex g.2.1) := by
  refine CT.of (wC_ok g) (cc := cJ7_checkFromToIndex) (nL := 4) (ret := (some .int)) (ht := []) (by decide +kernel) (Or.inl ⟨rfl, rfl⟩) (B := bJ7_checkFromToIndex_0 g.2.1) (fun R E X hE => ?_)
  have h14 : E (bJ7_checkFromToIndex_14 g.2.1 R) 14 := by
    unfold bJ7_checkFromToIndex_14
    refine si_aload_n (pc := 14) hE dJ7_checkFromToIndex_14 rfl ?_
    refine si_iload_n (pc := 15) hE dJ7_checkFromToIndex_15 rfl ?_
    refine si_iload_n (pc := 16) hE dJ7_checkFromToIndex_16 rfl ?_
    refine si_iload_n (pc := 17) hE dJ7_checkFromToIndex_17 rfl ?_
    exact si_dead hE
  have h22 : E (bJ7_checkFromToIndex_22 g.2.1 R) 22 := by
    unfold bJ7_checkFromToIndex_22
    refine si_iload_n (pc := 22) hE dJ7_checkFromToIndex_22 rfl ?_
    exact si_ireturn (pc := 23) hE dJ7_checkFromToIndex_23
  have h0 : E (bJ7_checkFromToIndex_0 g.2.1 R) 0 := by
    unfold bJ7_checkFromToIndex_0
    refine si_iload_n (pc := 0) hE dJ7_checkFromToIndex_0 rfl ?_
    refine si_if_lt (pc := 1) hE dJ7_checkFromToIndex_1 (by decide) h14 ?_
    refine si_iload_n (pc := 4) hE dJ7_checkFromToIndex_4 rfl ?_
    refine si_iload_n (pc := 5) hE dJ7_checkFromToIndex_5 rfl ?_
    refine si_icmp_gt (pc := 6) hE dJ7_checkFromToIndex_6 (by decide) h14 ?_
    refine si_iload_n (pc := 9) hE dJ7_checkFromToIndex_9 rfl ?_
    refine si_iload_n (pc := 10) hE dJ7_checkFromToIndex_10 rfl ?_
    refine si_icmp_le (pc := 11) hE dJ7_checkFromToIndex_11 (by decide) h22 ?_
    exact h14
  exact h0
def bJ3_checkBoundsBeginEnd_0 (κ : Nat → Option Nat) (R : Ret AH) : Cont AH :=
    o_il 0 <|
    o_il 1 <|
    o_il 2 <|
    o_cst κ 34 <|
    o_call 4 (pJ7_checkFromToIndex κ) (fun _ a σ => R (.inr a) σ) <|
    o_pop <|
    o_return R
def pJ3_checkBoundsBeginEnd (κ : Nat → Option Nat) : PT AH := fun as σ Q => (lg_sl as).length ≤ 3 ∧ bJ3_checkBoundsBeginEnd_0 κ Q (entP 3 as) [] σ
theorem nJ3_checkBoundsBeginEnd : parN yJ3_checkBoundsBeginEnd 3 := by unfold parN; decide +kernel
set_option maxHeartbeats 4000000 in
theorem eJ3_checkBoundsBeginEnd (g : GC) : CT (wC g) yJ3_checkBoundsBeginEnd (Cond.code yJ3_checkBoundsBeginEnd cJ3_checkBoundsBeginEnd 3 none) 1 23 (pJ3_checkBoundsBeginEnd g.2.1) := by
  refine CT.of (wC_ok g) (cc := cJ3_checkBoundsBeginEnd) (nL := 3) (ret := none) (ht := []) (by decide +kernel) (Or.inl ⟨rfl, rfl⟩) (B := bJ3_checkBoundsBeginEnd_0 g.2.1) (fun R E X hE => ?_)
  have h0 : E (bJ3_checkBoundsBeginEnd_0 g.2.1 R) 0 := by
    unfold bJ3_checkBoundsBeginEnd_0
    refine si_iload_n (pc := 0) hE dJ3_checkBoundsBeginEnd_0 rfl ?_
    refine si_iload_n (pc := 1) hE dJ3_checkBoundsBeginEnd_1 rfl ?_
    refine si_iload_n (pc := 2) hE dJ3_checkBoundsBeginEnd_2 rfl ?_
    refine si_gstR (pc := 3) (k := 4) hE dJ3_checkBoundsBeginEnd_3 q463 rfl ?_
    refine si_hs (pc := 6) (n := 4) hE dJ3_checkBoundsBeginEnd_6 (cal_S (eJ7_checkFromToIndex g) (Or.inl ⟨rfl, rfl⟩) q467 q144 q465 q466 ⟨by decide +kernel, by decide +kernel⟩ nJ7_checkFromToIndex (by decide) (by decide)) (si_out hE rfl) ?_
    refine si_pop (pc := 9) hE dJ3_checkBoundsBeginEnd_9 ?_
    exact si_return (pc := 10) hE dJ3_checkBoundsBeginEnd_10
  exact h0
def bJ3_checkIndex_0 (κ : Nat → Option Nat) (R : Ret AH) : Cont AH :=
    o_il 0 <|
    o_il 1 <|
    o_cst κ 34 <|
    o_call 3 (pJ7_checkIndex κ) (fun _ a σ => R (.inr a) σ) <|
    o_pop <|
    o_return R
def pJ3_checkIndex (κ : Nat → Option Nat) : PT AH := fun as σ Q => (lg_sl as).length ≤ 2 ∧ bJ3_checkIndex_0 κ Q (entP 2 as) [] σ
theorem nJ3_checkIndex : parN yJ3_checkIndex 2 := by unfold parN; decide +kernel
set_option maxHeartbeats 4000000 in
theorem eJ3_checkIndex (g : GC) : CT (wC g) yJ3_checkIndex (Cond.code yJ3_checkIndex cJ3_checkIndex 2 none) 1 22 (pJ3_checkIndex g.2.1) := by
  refine CT.of (wC_ok g) (cc := cJ3_checkIndex) (nL := 2) (ret := none) (ht := []) (by decide +kernel) (Or.inl ⟨rfl, rfl⟩) (B := bJ3_checkIndex_0 g.2.1) (fun R E X hE => ?_)
  have h0 : E (bJ3_checkIndex_0 g.2.1 R) 0 := by
    unfold bJ3_checkIndex_0
    refine si_iload_n (pc := 0) hE dJ3_checkIndex_0 rfl ?_
    refine si_iload_n (pc := 1) hE dJ3_checkIndex_1 rfl ?_
    refine si_gstR (pc := 2) (k := 4) hE dJ3_checkIndex_2 q463 rfl ?_
    refine si_hs (pc := 5) (n := 3) hE dJ3_checkIndex_5 (cal_S (eJ7_checkIndex g) (Or.inl ⟨rfl, rfl⟩) q693 q144 q691 q692 ⟨by decide +kernel, by decide +kernel⟩ nJ7_checkIndex (by decide) (by decide)) (si_out hE rfl) ?_
    refine si_pop (pc := 8) hE dJ3_checkIndex_8 ?_
    exact si_return (pc := 9) hE dJ3_checkIndex_9
  exact h0
def bJ4_charAt_0 (κ : Nat → Option Nat) (R : Ret AH) : Cont AH :=
    o_il 1 <|
    o_al 0 <|
    o_len <|
    o_call 2 (pJ3_checkIndex κ) (fun _ a σ => R (.inr a) σ) <|
    o_al 0 <|
    o_il 1 <|
    o_aI 102 <|
    o_ic 255 <|
    o_iand <|
    o_i2c <|
    o_nreturn .char R
def pJ4_charAt (κ : Nat → Option Nat) : PT AH := fun as σ Q => (lg_sl as).length ≤ 2 ∧ bJ4_charAt_0 κ Q (entP 2 as) [] σ
theorem nJ4_charAt : parN yJ4_charAt 2 := by unfold parN; decide +kernel
set_option maxHeartbeats 4000000 in
theorem eJ4_charAt (g : GC) : CT (wC g) yJ4_charAt (Cond.code yJ4_charAt cJ4_charAt 2 (some .char)) 2 43 (pJ4_charAt g.2.1) := by
  refine CT.of (wC_ok g) (cc := cJ4_charAt) (nL := 2) (ret := (some .char)) (ht := []) (by decide +kernel) (Or.inl ⟨rfl, rfl⟩) (B := bJ4_charAt_0 g.2.1) (fun R E X hE => ?_)
  have h0 : E (bJ4_charAt_0 g.2.1 R) 0 := by
    unfold bJ4_charAt_0
    refine si_iload_n (pc := 0) hE dJ4_charAt_0 rfl ?_
    refine si_aload_n (pc := 1) hE dJ4_charAt_1 rfl ?_
    refine si_alen (pc := 2) hE dJ4_charAt_2 ?_
    refine si_hs (pc := 3) (n := 2) hE dJ4_charAt_3 (cal_S (eJ3_checkIndex g) (Or.inl ⟨rfl, rfl⟩) q690 q140 q688 q689 ⟨by decide +kernel, by decide +kernel⟩ nJ3_checkIndex (by decide) (by decide)) (si_out hE rfl) ?_
    refine si_aload_n (pc := 6) hE dJ4_charAt_6 rfl ?_
    refine si_iload_n (pc := 7) hE dJ4_charAt_7 rfl ?_
    refine si_baload (pc := 8) hE dJ4_charAt_8 ?_
    refine si_sipush (pc := 9) hE dJ4_charAt_9 (by decide) ?_
    refine si_iand (pc := 12) hE dJ4_charAt_12 ?_
    refine si_i2c (pc := 13) hE dJ4_charAt_13 ?_
    exact si_nreturn (pc := 14) hE dJ4_charAt_14
  exact h0
def bJ3_charAt_16 (κ : Nat → Option Nat) (R : Ret AH) : Cont AH :=
    o_al 0 <|
    o_gSv <|
    o_il 1 <|
    o_dead
def bJ3_charAt_0 (κ : Nat → Option Nat) (R : Ret AH) : Cont AH :=
    o_al 0 <|
    o_call 1 (hvc [(61, pJ3_isLatin1 κ)]) (fun _ a σ => R (.inr a) σ) <|
    o_if_eq (bJ3_charAt_16 κ R) <|
    o_al 0 <|
    o_gSv <|
    o_il 1 <|
    o_call 2 (pJ4_charAt κ) (fun _ a σ => R (.inr a) σ) <|
    o_nreturn .char R
def pJ3_charAt (κ : Nat → Option Nat) : PT AH := fun as σ Q => (lg_sl as).length ≤ 2 ∧ bJ3_charAt_0 κ Q (entP 2 as) [] σ
theorem nJ3_charAt : parN yJ3_charAt 1 := by unfold parN; decide +kernel
set_option maxHeartbeats 4000000 in
theorem eJ3_charAt (g : GC) : CT (wC g) yJ3_charAt (Cond.code yJ3_charAt cJ3_charAt 2 (some .char)) 3 64 (pJ3_charAt g.2.1) := by
  refine CT.of (wC_ok g) (cc := cJ3_charAt) (nL := 2) (ret := (some .char)) (ht := []) (by decide +kernel) (Or.inl ⟨rfl, rfl⟩) (B := bJ3_charAt_0 g.2.1) (fun R E X hE => ?_)
  have h16 : E (bJ3_charAt_16 g.2.1 R) 16 := by
    unfold bJ3_charAt_16
    refine si_aload_n (pc := 16) hE dJ3_charAt_16 rfl ?_
    refine si_gSv (pc := 17) hE dJ3_charAt_17 (Or.inl q2308) ?_
    refine si_iload_n (pc := 20) hE dJ3_charAt_20 rfl ?_
    exact si_dead hE
  have h0 : E (bJ3_charAt_0 g.2.1 R) 0 := by
    unfold bJ3_charAt_0
    refine si_aload_n (pc := 0) hE dJ3_charAt_0 rfl ?_
    refine si_hv (pc := 1) (n := 0) hE dJ3_charAt_1 ⟨cal_V recv61 (eJ3_isLatin1 g) (Or.inl ⟨rfl, rfl⟩) q419 q140 q416 q417 q418 ⟨by decide +kernel, by decide +kernel⟩ nJ3_isLatin1 (by decide) (by decide), trivial⟩ (si_out hE rfl) ?_
    refine si_if_eq (pc := 4) hE dJ3_charAt_4 (by decide) h16 ?_
    refine si_aload_n (pc := 7) hE dJ3_charAt_7 rfl ?_
    refine si_gSv (pc := 8) hE dJ3_charAt_8 (Or.inl q2308) ?_
    refine si_iload_n (pc := 11) hE dJ3_charAt_11 rfl ?_
    refine si_hs (pc := 12) (n := 2) hE dJ3_charAt_12 (cal_S (eJ4_charAt g) (Or.inl ⟨rfl, rfl⟩) q687 q141 q685 q686 ⟨by decide +kernel, by decide +kernel⟩ nJ4_charAt (by decide) (by decide)) (si_out hE rfl) ?_
    exact si_nreturn (pc := 15) hE dJ3_charAt_15
  exact h0
def bJ9_init_0 (κ : Nat → Option Nat) (R : Ret AH) : Cont AH :=
    o_al 0 <|
    o_oi <|
    o_al 0 <|
    o_al 0 <|
    o_pR 0 [5, 6] <|
    o_al 0 <|
    o_cst κ 32 <|
    o_pR 1 [5, 6] <|
    o_al 0 <|
    o_cst κ 33 <|
    o_pR 2 [5, 6] <|
    o_al 0 <|
    o_dead
def pJ9_init (κ : Nat → Option Nat) : PT AH := fun as σ Q => (lg_sl as).length ≤ 1 ∧ bJ9_init_0 κ Q (entP 1 as) [] σ
theorem nJ9_init : parN yJ9_init 0 := by unfold parN; decide +kernel
set_option maxHeartbeats 4000000 in
theorem eJ9_init (g : GC) : CT (wC g) yJ9_init (Cond.code yJ9_init cJ9_init 1 none) 1 20 (pJ9_init g.2.1) := by
  refine CT.of (wC_ok g) (cc := cJ9_init) (nL := 1) (ret := none) (ht := []) (by decide +kernel) (Or.inl ⟨rfl, rfl⟩) (B := bJ9_init_0 g.2.1) (fun R E X hE => ?_)
  have h0 : E (bJ9_init_0 g.2.1 R) 0 := by
    unfold bJ9_init_0
    refine si_aload_n (pc := 0) hE dJ9_init_0 rfl ?_
    refine si_oi (pc := 1) hE dJ9_init_1 q531 q180 q181 (by decide) (by decide) ?_
    refine si_aload_n (pc := 4) hE dJ9_init_4 rfl ?_
    refine si_aload_n (pc := 5) hE dJ9_init_5 rfl ?_
    refine si_pR (pc := 6) hE dJ9_init_6 (Or.inl q564) zfo_2 (Or.inl ⟨_, rfl⟩) ?_
    refine si_aload_n (pc := 9) hE dJ9_init_9 rfl ?_
    refine si_gstR (pc := 10) (k := 2) hE dJ9_init_10 q532 rfl ?_
    refine si_pR (pc := 13) hE dJ9_init_13 (Or.inl q565) zfo_4 (Or.inr ⟨_, rfl⟩) ?_
    refine si_aload_n (pc := 16) hE dJ9_init_16 rfl ?_
    refine si_gstR (pc := 17) (k := 3) hE dJ9_init_17 q534 rfl ?_
    refine si_pR (pc := 20) hE dJ9_init_20 (Or.inl q566) zfo_3 (Or.inl ⟨_, rfl⟩) ?_
    refine si_aload_n (pc := 23) hE dJ9_init_23 rfl ?_
    exact si_dead hE
  exact h0
def bX1_init_0 (κ : Nat → Option Nat) (R : Ret AH) : Cont AH :=
    o_al 0 <|
    o_al 1 <|
    o_pR 3 [2] <|
    o_al 0 <|
    o_oi <|
    o_al 0 <|
    o_ic 3000 <|
    o_newA 102 <|
    o_pR 0 [2] <|
    o_al 0 <|
    o_ic 480 <|
    o_newA 100 <|
    o_pR 1 [2] <|
    o_return R
def pX1_init (κ : Nat → Option Nat) : PT AH := fun as σ Q => (lg_sl as).length ≤ 2 ∧ bX1_init_0 κ Q (entP 2 as) [] σ
theorem nX1_init : parN yX1_init 1 := by unfold parN; decide +kernel
set_option maxHeartbeats 4000000 in
theorem eX1_init (g : GC) : CT (wC g) yX1_init (Cond.code yX1_init cX1_init 2 none) 1 20 (pX1_init g.2.1) := by
  refine CT.of (wC_ok g) (cc := cX1_init) (nL := 2) (ret := none) (ht := []) (by decide +kernel) (Or.inl ⟨rfl, rfl⟩) (B := bX1_init_0 g.2.1) (fun R E X hE => ?_)
  have h0 : E (bX1_init_0 g.2.1 R) 0 := by
    unfold bX1_init_0
    refine si_aload_n (pc := 0) hE dX1_init_0 rfl ?_
    refine si_aload_n (pc := 1) hE dX1_init_1 rfl ?_
    refine si_pRF (pc := 2) hE rfl dX1_init_2 q194 zfo_9 zfs_1 (Or.inl ⟨_, rfl⟩) ?_
    refine si_aload_n (pc := 5) hE dX1_init_5 rfl ?_
    refine si_oi (pc := 6) hE dX1_init_6 q189 q180 q181 (by decide) (by decide) ?_
    refine si_aload_n (pc := 9) hE dX1_init_9 rfl ?_
    refine si_sipush (pc := 10) hE dX1_init_10 (by decide) ?_
    refine si_newarray2 (pc := 13) hE dX1_init_13 q204 ?_
    refine si_pRF (pc := 15) hE rfl dX1_init_15 q190 zfo_10 zfs_2 (Or.inr ⟨_, rfl⟩) ?_
    refine si_aload_n (pc := 18) hE dX1_init_18 rfl ?_
    refine si_sipush (pc := 19) hE dX1_init_19 (by decide) ?_
    refine si_newarray0 (pc := 22) hE dX1_init_22 q205 ?_
    refine si_pRF (pc := 24) hE rfl dX1_init_24 q192 zfo_11 zfs_3 (Or.inr ⟨_, rfl⟩) ?_
    exact si_return (pc := 27) hE dX1_init_27
  exact h0
def bX0_init_0 (κ : Nat → Option Nat) (R : Ret AH) : Cont AH :=
    o_al 0 <|
    o_oi <|
    o_al 0 <|
    o_ic 3000 <|
    o_newA 102 <|
    o_pR 0 [1] <|
    o_al 0 <|
    o_ic 48 <|
    o_newA 100 <|
    o_pR 2 [1] <|
    o_al 0 <|
    o_ic 4 <|
    o_newA 105 <|
    o_pR 3 [1] <|
    o_al 0 <|
    o_new 1 4 <|
    o_dup <|
    o_al 0 <|
    o_call 2 (hvi (pX1_init κ)) (fun _ a σ => R (.inr a) σ) <|
    o_pR 6 [1] <|
    o_return R
def pX0_init (κ : Nat → Option Nat) : PT AH := fun as σ Q => (lg_sl as).length ≤ 1 ∧ bX0_init_0 κ Q (entP 1 as) [] σ
theorem nX0_init : parN yX0_init 0 := by unfold parN; decide +kernel
set_option maxHeartbeats 4000000 in
theorem eX0_init (g : GC) : CT (wC g) yX0_init (Cond.code yX0_init cX0_init 1 none) 2 41 (pX0_init g.2.1) := by
  refine CT.of (wC_ok g) (cc := cX0_init) (nL := 1) (ret := none) (ht := []) (by decide +kernel) (Or.inl ⟨rfl, rfl⟩) (B := bX0_init_0 g.2.1) (fun R E X hE => ?_)
  have h0 : E (bX0_init_0 g.2.1 R) 0 := by
    unfold bX0_init_0
    refine si_aload_n (pc := 0) hE dX0_init_0 rfl ?_
    refine si_oi (pc := 1) hE dX0_init_1 q179 q180 q181 (by decide) (by decide) ?_
    refine si_aload_n (pc := 4) hE dX0_init_4 rfl ?_
    refine si_sipush (pc := 5) hE dX0_init_5 (by decide) ?_
    refine si_newarray2 (pc := 8) hE dX0_init_8 q204 ?_
    refine si_pRF (pc := 10) hE rfl dX0_init_10 q206 zfo_12 zfs_4 (Or.inr ⟨_, rfl⟩) ?_
    refine si_aload_n (pc := 13) hE dX0_init_13 rfl ?_
    refine si_bipush (pc := 14) hE dX0_init_14 (by decide) ?_
    refine si_newarray0 (pc := 16) hE dX0_init_16 q205 ?_
    refine si_pRF (pc := 18) hE rfl dX0_init_18 q211 zfo_13 zfs_5 (Or.inr ⟨_, rfl⟩) ?_
    refine si_aload_n (pc := 21) hE dX0_init_21 rfl ?_
    refine si_iconst (pc := 22) hE dX0_init_22 (by decide) ?_
    refine si_anewarray5 (pc := 23) hE dX0_init_23 q182 q183 ?_
    refine si_pRF (pc := 26) hE rfl dX0_init_26 q212 zfo_14 zfs_6 (Or.inr ⟨_, rfl⟩) ?_
    refine si_aload_n (pc := 29) hE dX0_init_29 rfl ?_
    refine si_new (pc := 30) hE dX0_init_30 cls1 q184 q185 q133 df_1 ?_
    refine si_dup (pc := 33) hE dX0_init_33 ?_
    refine si_aload_n (pc := 34) hE dX0_init_34 rfl ?_
    refine si_hi (pc := 35) (n := 1) hE dX0_init_35 (cal_IN (eX1_init g) q188 q133 q186 q187 rfl ⟨by decide +kernel, by decide +kernel⟩ nX1_init (by decide) (by decide)) (si_out hE rfl) ?_
    refine si_pRF (pc := 38) hE rfl dX0_init_38 q215 zfo_15 zfs_7 (Or.inl ⟨_, rfl⟩) ?_
    exact si_return (pc := 41) hE dX0_init_41
  exact h0
def bX0_feed_11 (κ : Nat → Option Nat) (R : Ret AH) : Cont AH :=
    o_ic (-2) <|
    o_ireturn R
def bX0_feed_73 (κ : Nat → Option Nat) (R : Ret AH) : Cont AH :=
    o_al 0 <|
    o_gI 1 [1] <|
    o_ireturn R
def bX0_feed_34 (κ : Nat → Option Nat) (R : Ret AH) : Cont AH :=
    fixC fun J34 =>
    o_il 4 <|
    o_if_lt (bX0_feed_73 κ R) <|
    o_al 0 <|
    o_gR 0 [1] <|
    o_al 0 <|
    o_gI 1 [1] <|
    o_ll 1 <|
    o_ic 8 <|
    o_il 4 <|
    o_imul <|
    o_lshr <|
    o_l2i <|
    o_i2b <|
    o_sB <|
    o_al 0 <|
    o_dup <|
    o_gI 1 [1] <|
    o_ic 1 <|
    o_iadd <|
    o_pI 1 [1] <|
    o_iinc 4 (-1) <|
    (o_kill [2, 3] J34)
def bX0_feed_29 (κ : Nat → Option Nat) (R : Ret AH) : Cont AH :=
    o_il 3 <|
    o_ic 1 <|
    o_isub <|
    o_is 4 <|
    (o_kill [2, 3] (bX0_feed_34 κ R))
def bX0_feed_14 (κ : Nat → Option Nat) (R : Ret AH) : Cont AH :=
    o_al 0 <|
    o_gI 1 [1] <|
    o_il 3 <|
    o_iadd <|
    o_ic 3000 <|
    o_icmp_le (bX0_feed_29 κ R) <|
    o_ic (-3) <|
    o_ireturn R
def bX0_feed_0 (κ : Nat → Option Nat) (R : Ret AH) : Cont AH :=
    o_il 3 <|
    o_ic 1 <|
    o_icmp_lt (bX0_feed_11 κ R) <|
    o_il 3 <|
    o_ic 8 <|
    o_icmp_le (bX0_feed_14 κ R) <|
    (bX0_feed_11 κ R)
def pX0_feed (κ : Nat → Option Nat) : PT AH := fun as σ Q => (lg_sl as).length ≤ 5 ∧ bX0_feed_0 κ Q (entP 5 as) [] σ
theorem nX0_feed : parN yX0_feed 2 := by unfold parN; decide +kernel
set_option maxHeartbeats 4000000 in
theorem eX0_feed (g : GC) : CT (wC g) yX0_feed (Cond.code yX0_feed cX0_feed 5 (some .int)) 0 0 (pX0_feed g.2.1) := by
  refine CT.of (wC_ok g) (cc := cX0_feed) (nL := 5) (ret := (some .int)) (ht := []) (by decide +kernel) (Or.inl ⟨rfl, rfl⟩) (B := bX0_feed_0 g.2.1) (fun R E X hE => ?_)
  have h11 : E (bX0_feed_11 g.2.1 R) 11 := by
    unfold bX0_feed_11
    refine si_bipush (pc := 11) hE dX0_feed_11 (by decide) ?_
    exact si_ireturn (pc := 13) hE dX0_feed_13
  have h73 : E (bX0_feed_73 g.2.1 R) 73 := by
    unfold bX0_feed_73
    refine si_aload_n (pc := 73) hE dX0_feed_73 rfl ?_
    refine si_gI (pc := 74) hE dX0_feed_74 (Or.inl q209) zfo_16 ?_
    exact si_ireturn (pc := 77) hE dX0_feed_77
  have h34 : E (bX0_feed_34 g.2.1 R) 34 := by
    unfold bX0_feed_34
    refine si_fix hE (fun J34 hJ34 => ?_)
    refine si_iload (pc := 34) hE dX0_feed_34 ?_
    refine si_if_lt (pc := 36) hE dX0_feed_36 (by decide) h73 ?_
    refine si_aload_n (pc := 39) hE dX0_feed_39 rfl ?_
    refine si_gR (pc := 40) hE dX0_feed_40 (Or.inl q206) zfo_12 ?_
    refine si_aload_n (pc := 43) hE dX0_feed_43 rfl ?_
    refine si_gI (pc := 44) hE dX0_feed_44 (Or.inl q209) zfo_16 ?_
    refine si_lload_n (pc := 47) hE dX0_feed_47 rfl ?_
    refine si_bipush (pc := 48) hE dX0_feed_48 (by decide) ?_
    refine si_iload (pc := 50) hE dX0_feed_50 ?_
    refine si_imul (pc := 52) hE dX0_feed_52 ?_
    refine si_lshr (pc := 53) hE dX0_feed_53 ?_
    refine si_l2i (pc := 54) hE dX0_feed_54 ?_
    refine si_i2b (pc := 55) hE dX0_feed_55 ?_
    refine si_bastore (pc := 56) hE dX0_feed_56 ?_
    refine si_aload_n (pc := 57) hE dX0_feed_57 rfl ?_
    refine si_dup (pc := 58) hE dX0_feed_58 ?_
    refine si_gI (pc := 59) hE dX0_feed_59 (Or.inl q209) zfo_16 ?_
    refine si_iconst (pc := 62) hE dX0_feed_62 (by decide) ?_
    refine si_iadd (pc := 63) hE dX0_feed_63 ?_
    refine si_pI (pc := 64) hE dX0_feed_64 (Or.inl q209) zfo_16 ?_
    refine si_iinc (pc := 67) hE dX0_feed_67 (by decide) (by decide) ?_
    exact si_goto (pc := 70) hE dX0_feed_70 (by decide) (si_kill hE hJ34)
  have h29 : E (bX0_feed_29 g.2.1 R) 29 := by
    unfold bX0_feed_29
    refine si_iload_n (pc := 29) hE dX0_feed_29 rfl ?_
    refine si_iconst (pc := 30) hE dX0_feed_30 (by decide) ?_
    refine si_isub (pc := 31) hE dX0_feed_31 ?_
    refine si_istore (pc := 32) hE dX0_feed_32 (by decide) ?_
    exact (si_kill hE h34)
  have h14 : E (bX0_feed_14 g.2.1 R) 14 := by
    unfold bX0_feed_14
    refine si_aload_n (pc := 14) hE dX0_feed_14 rfl ?_
    refine si_gI (pc := 15) hE dX0_feed_15 (Or.inl q209) zfo_16 ?_
    refine si_iload_n (pc := 18) hE dX0_feed_18 rfl ?_
    refine si_iadd (pc := 19) hE dX0_feed_19 ?_
    refine si_sipush (pc := 20) hE dX0_feed_20 (by decide) ?_
    refine si_icmp_le (pc := 23) hE dX0_feed_23 (by decide) h29 ?_
    refine si_bipush (pc := 26) hE dX0_feed_26 (by decide) ?_
    exact si_ireturn (pc := 28) hE dX0_feed_28
  have h0 : E (bX0_feed_0 g.2.1 R) 0 := by
    unfold bX0_feed_0
    refine si_iload_n (pc := 0) hE dX0_feed_0 rfl ?_
    refine si_iconst (pc := 1) hE dX0_feed_1 (by decide) ?_
    refine si_icmp_lt (pc := 2) hE dX0_feed_2 (by decide) h11 ?_
    refine si_iload_n (pc := 5) hE dX0_feed_5 rfl ?_
    refine si_bipush (pc := 6) hE dX0_feed_6 (by decide) ?_
    refine si_icmp_le (pc := 8) hE dX0_feed_8 (by decide) h14 ?_
    exact h11
  exact h0
def bX0_cut_12 (κ : Nat → Option Nat) (R : Ret AH) : Cont AH :=
    o_ic (-2) <|
    o_ireturn R
def bX0_cut_15 (κ : Nat → Option Nat) (R : Ret AH) : Cont AH :=
    o_al 0 <|
    o_il 1 <|
    o_pI 1 [1] <|
    o_il 1 <|
    o_ireturn R
def bX0_cut_0 (κ : Nat → Option Nat) (R : Ret AH) : Cont AH :=
    o_il 1 <|
    o_if_lt (bX0_cut_12 κ R) <|
    o_il 1 <|
    o_al 0 <|
    o_gI 1 [1] <|
    o_icmp_le (bX0_cut_15 κ R) <|
    (bX0_cut_12 κ R)
def pX0_cut (κ : Nat → Option Nat) : PT AH := fun as σ Q => (lg_sl as).length ≤ 2 ∧ bX0_cut_0 κ Q (entP 2 as) [] σ
theorem nX0_cut : parN yX0_cut 1 := by unfold parN; decide +kernel
set_option maxHeartbeats 4000000 in
theorem eX0_cut (g : GC) : CT (wC g) yX0_cut (Cond.code yX0_cut cX0_cut 2 (some .int)) 0 0 (pX0_cut g.2.1) := by
  refine CT.of (wC_ok g) (cc := cX0_cut) (nL := 2) (ret := (some .int)) (ht := []) (by decide +kernel) (Or.inl ⟨rfl, rfl⟩) (B := bX0_cut_0 g.2.1) (fun R E X hE => ?_)
  have h12 : E (bX0_cut_12 g.2.1 R) 12 := by
    unfold bX0_cut_12
    refine si_bipush (pc := 12) hE dX0_cut_12 (by decide) ?_
    exact si_ireturn (pc := 14) hE dX0_cut_14
  have h15 : E (bX0_cut_15 g.2.1 R) 15 := by
    unfold bX0_cut_15
    refine si_aload_n (pc := 15) hE dX0_cut_15 rfl ?_
    refine si_iload_n (pc := 16) hE dX0_cut_16 rfl ?_
    refine si_pI (pc := 17) hE dX0_cut_17 (Or.inl q209) zfo_16 ?_
    refine si_iload_n (pc := 20) hE dX0_cut_20 rfl ?_
    exact si_ireturn (pc := 21) hE dX0_cut_21
  have h0 : E (bX0_cut_0 g.2.1 R) 0 := by
    unfold bX0_cut_0
    refine si_iload_n (pc := 0) hE dX0_cut_0 rfl ?_
    refine si_if_lt (pc := 1) hE dX0_cut_1 (by decide) h12 ?_
    refine si_iload_n (pc := 4) hE dX0_cut_4 rfl ?_
    refine si_aload_n (pc := 5) hE dX0_cut_5 rfl ?_
    refine si_gI (pc := 6) hE dX0_cut_6 (Or.inl q209) zfo_16 ?_
    refine si_icmp_le (pc := 9) hE dX0_cut_9 (by decide) h15 ?_
    exact h12
  exact h0
def bX0_tape_26 (κ : Nat → Option Nat) (R : Ret AH) : Cont AH :=
    o_ireturn R
def bX0_tape_25 (κ : Nat → Option Nat) (R : Ret AH) : Cont AH :=
    o_ic (-1) <|
    (bX0_tape_26 κ R)
def bX0_tape_0 (κ : Nat → Option Nat) (R : Ret AH) : Cont AH :=
    o_il 1 <|
    o_if_lt (bX0_tape_25 κ R) <|
    o_il 1 <|
    o_al 0 <|
    o_gI 1 [1] <|
    o_icmp_ge (bX0_tape_25 κ R) <|
    o_al 0 <|
    o_gR 0 [1] <|
    o_il 1 <|
    o_aI 102 <|
    o_ic 255 <|
    o_iand <|
    (bX0_tape_26 κ R)
def pX0_tape (κ : Nat → Option Nat) : PT AH := fun as σ Q => (lg_sl as).length ≤ 2 ∧ bX0_tape_0 κ Q (entP 2 as) [] σ
theorem nX0_tape : parN yX0_tape 1 := by unfold parN; decide +kernel
set_option maxHeartbeats 4000000 in
theorem eX0_tape (g : GC) : CT (wC g) yX0_tape (Cond.code yX0_tape cX0_tape 2 (some .int)) 0 0 (pX0_tape g.2.1) := by
  refine CT.of (wC_ok g) (cc := cX0_tape) (nL := 2) (ret := (some .int)) (ht := []) (by decide +kernel) (Or.inl ⟨rfl, rfl⟩) (B := bX0_tape_0 g.2.1) (fun R E X hE => ?_)
  have h26 : E (bX0_tape_26 g.2.1 R) 26 := by
    unfold bX0_tape_26
    exact si_ireturn (pc := 26) hE dX0_tape_26
  have h25 : E (bX0_tape_25 g.2.1 R) 25 := by
    unfold bX0_tape_25
    refine si_iconst (pc := 25) hE dX0_tape_25 (by decide) ?_
    exact h26
  have h0 : E (bX0_tape_0 g.2.1 R) 0 := by
    unfold bX0_tape_0
    refine si_iload_n (pc := 0) hE dX0_tape_0 rfl ?_
    refine si_if_lt (pc := 1) hE dX0_tape_1 (by decide) h25 ?_
    refine si_iload_n (pc := 4) hE dX0_tape_4 rfl ?_
    refine si_aload_n (pc := 5) hE dX0_tape_5 rfl ?_
    refine si_gI (pc := 6) hE dX0_tape_6 (Or.inl q209) zfo_16 ?_
    refine si_icmp_ge (pc := 9) hE dX0_tape_9 (by decide) h25 ?_
    refine si_aload_n (pc := 12) hE dX0_tape_12 rfl ?_
    refine si_gR (pc := 13) hE dX0_tape_13 (Or.inl q206) zfo_12 ?_
    refine si_iload_n (pc := 16) hE dX0_tape_16 rfl ?_
    refine si_baload (pc := 17) hE dX0_tape_17 ?_
    refine si_sipush (pc := 18) hE dX0_tape_18 (by decide) ?_
    refine si_iand (pc := 21) hE dX0_tape_21 ?_
    exact si_goto (pc := 22) hE dX0_tape_22 (by decide) h26
  exact h0
def bX0_in_15 (κ : Nat → Option Nat) (R : Ret AH) : Cont AH :=
    o_zreturn R
def bX0_in_14 (κ : Nat → Option Nat) (R : Ret AH) : Cont AH :=
    o_ic 0 <|
    (bX0_in_15 κ R)
def bX0_in_0 (κ : Nat → Option Nat) (R : Ret AH) : Cont AH :=
    o_il 0 <|
    o_il 1 <|
    o_icmp_lt (bX0_in_14 κ R) <|
    o_il 0 <|
    o_il 2 <|
    o_icmp_gt (bX0_in_14 κ R) <|
    o_ic 1 <|
    (bX0_in_15 κ R)
def pX0_in (κ : Nat → Option Nat) : PT AH := fun as σ Q => (lg_sl as).length ≤ 3 ∧ bX0_in_0 κ Q (entP 3 as) [] σ
theorem nX0_in : parN yX0_in 3 := by unfold parN; decide +kernel
set_option maxHeartbeats 4000000 in
theorem eX0_in (g : GC) : CT (wC g) yX0_in (Cond.code yX0_in cX0_in 3 (some .boolean)) 0 0 (pX0_in g.2.1) := by
  refine CT.of (wC_ok g) (cc := cX0_in) (nL := 3) (ret := (some .boolean)) (ht := []) (by decide +kernel) (Or.inl ⟨rfl, rfl⟩) (B := bX0_in_0 g.2.1) (fun R E X hE => ?_)
  have h15 : E (bX0_in_15 g.2.1 R) 15 := by
    unfold bX0_in_15
    exact si_zreturn (pc := 15) hE dX0_in_15
  have h14 : E (bX0_in_14 g.2.1 R) 14 := by
    unfold bX0_in_14
    refine si_iconst (pc := 14) hE dX0_in_14 (by decide) ?_
    exact h15
  have h0 : E (bX0_in_0 g.2.1 R) 0 := by
    unfold bX0_in_0
    refine si_iload_n (pc := 0) hE dX0_in_0 rfl ?_
    refine si_iload_n (pc := 1) hE dX0_in_1 rfl ?_
    refine si_icmp_lt (pc := 2) hE dX0_in_2 (by decide) h14 ?_
    refine si_iload_n (pc := 5) hE dX0_in_5 rfl ?_
    refine si_iload_n (pc := 6) hE dX0_in_6 rfl ?_
    refine si_icmp_gt (pc := 7) hE dX0_in_7 (by decide) h14 ?_
    refine si_iconst (pc := 10) hE dX0_in_10 (by decide) ?_
    exact si_goto (pc := 11) hE dX0_in_11 (by decide) h15
  exact h0
def bX4_init_0 (κ : Nat → Option Nat) (R : Ret AH) : Cont AH :=
    o_al 0 <|
    o_oi <|
    o_al 0 <|
    o_new 18 3 <|
    o_dup <|
    o_call 1 (hvi (pJ2_init κ)) (fun _ a σ => R (.inr a) σ) <|
    o_pR 0 [4] <|
    o_al 0 <|
    o_new 18 3 <|
    o_dup <|
    o_call 1 (hvi (pJ2_init κ)) (fun _ a σ => R (.inr a) σ) <|
    o_pR 1 [4] <|
    o_al 0 <|
    o_new 18 3 <|
    o_dup <|
    o_call 1 (hvi (pJ2_init κ)) (fun _ a σ => R (.inr a) σ) <|
    o_pR 2 [4] <|
    o_al 0 <|
    o_new 18 3 <|
    o_dup <|
    o_call 1 (hvi (pJ2_init κ)) (fun _ a σ => R (.inr a) σ) <|
    o_pR 3 [4] <|
    o_return R
def pX4_init (κ : Nat → Option Nat) : PT AH := fun as σ Q => (lg_sl as).length ≤ 1 ∧ bX4_init_0 κ Q (entP 1 as) [] σ
theorem nX4_init : parN yX4_init 0 := by unfold parN; decide +kernel
set_option maxHeartbeats 4000000 in
theorem eX4_init (g : GC) : CT (wC g) yX4_init (Cond.code yX4_init cX4_init 1 none) 4 80 (pX4_init g.2.1) := by
  refine CT.of (wC_ok g) (cc := cX4_init) (nL := 1) (ret := none) (ht := []) (by decide +kernel) (Or.inl ⟨rfl, rfl⟩) (B := bX4_init_0 g.2.1) (fun R E X hE => ?_)
  have h0 : E (bX4_init_0 g.2.1 R) 0 := by
    unfold bX4_init_0
    refine si_aload_n (pc := 0) hE dX4_init_0 rfl ?_
    refine si_oi (pc := 1) hE dX4_init_1 q262 q180 q181 (by decide) (by decide) ?_
    refine si_aload_n (pc := 4) hE dX4_init_4 rfl ?_
    refine si_new (pc := 5) hE dX4_init_5 cls18 q263 q264 q139 df_18 ?_
    refine si_dup (pc := 8) hE dX4_init_8 ?_
    refine si_hi (pc := 9) (n := 0) hE dX4_init_9 (cal_I (eJ2_init g) q267 q139 q265 q266 rfl ⟨by decide +kernel, by decide +kernel⟩ nJ2_init (by decide) (by decide)) (si_out hE rfl) ?_
    refine si_pRF (pc := 12) hE rfl dX4_init_12 q289 zfo_17 zfs_8 (Or.inl ⟨_, rfl⟩) ?_
    refine si_aload_n (pc := 15) hE dX4_init_15 rfl ?_
    refine si_new (pc := 16) hE dX4_init_16 cls18 q263 q264 q139 df_18 ?_
    refine si_dup (pc := 19) hE dX4_init_19 ?_
    refine si_hi (pc := 20) (n := 0) hE dX4_init_20 (cal_I (eJ2_init g) q267 q139 q265 q266 rfl ⟨by decide +kernel, by decide +kernel⟩ nJ2_init (by decide) (by decide)) (si_out hE rfl) ?_
    refine si_pRF (pc := 23) hE rfl dX4_init_23 q293 zfo_18 zfs_9 (Or.inl ⟨_, rfl⟩) ?_
    refine si_aload_n (pc := 26) hE dX4_init_26 rfl ?_
    refine si_new (pc := 27) hE dX4_init_27 cls18 q263 q264 q139 df_18 ?_
    refine si_dup (pc := 30) hE dX4_init_30 ?_
    refine si_hi (pc := 31) (n := 0) hE dX4_init_31 (cal_I (eJ2_init g) q267 q139 q265 q266 rfl ⟨by decide +kernel, by decide +kernel⟩ nJ2_init (by decide) (by decide)) (si_out hE rfl) ?_
    refine si_pRF (pc := 34) hE rfl dX4_init_34 q297 zfo_19 zfs_10 (Or.inl ⟨_, rfl⟩) ?_
    refine si_aload_n (pc := 37) hE dX4_init_37 rfl ?_
    refine si_new (pc := 38) hE dX4_init_38 cls18 q263 q264 q139 df_18 ?_
    refine si_dup (pc := 41) hE dX4_init_41 ?_
    refine si_hi (pc := 42) (n := 0) hE dX4_init_42 (cal_I (eJ2_init g) q267 q139 q265 q266 rfl ⟨by decide +kernel, by decide +kernel⟩ nJ2_init (by decide) (by decide)) (si_out hE rfl) ?_
    refine si_pRF (pc := 45) hE rfl dX4_init_45 q301 zfo_20 zfs_11 (Or.inl ⟨_, rfl⟩) ?_
    exact si_return (pc := 48) hE dX4_init_48
  exact h0
def bX3_init_0 (κ : Nat → Option Nat) (R : Ret AH) : Cont AH :=
    o_al 0 <|
    o_al 1 <|
    o_pR 8 [3] <|
    o_al 0 <|
    o_oi <|
    o_al 0 <|
    o_new 3 14 <|
    o_dup <|
    o_call 1 (hvi (pX4_init κ)) (fun _ a σ => R (.inr a) σ) <|
    o_pR 0 [3] <|
    o_al 0 <|
    o_new 18 3 <|
    o_dup <|
    o_call 1 (hvi (pJ2_init κ)) (fun _ a σ => R (.inr a) σ) <|
    o_pR 5 [3] <|
    o_al 0 <|
    o_new 18 3 <|
    o_dup <|
    o_call 1 (hvi (pJ2_init κ)) (fun _ a σ => R (.inr a) σ) <|
    o_pR 6 [3] <|
    o_al 0 <|
    o_new 18 3 <|
    o_dup <|
    o_call 1 (hvi (pJ2_init κ)) (fun _ a σ => R (.inr a) σ) <|
    o_pR 7 [3] <|
    o_return R
def pX3_init (κ : Nat → Option Nat) : PT AH := fun as σ Q => (lg_sl as).length ≤ 2 ∧ bX3_init_0 κ Q (entP 2 as) [] σ
theorem nX3_init : parN yX3_init 1 := by unfold parN; decide +kernel
set_option maxHeartbeats 4000000 in
theorem eX3_init (g : GC) : CT (wC g) yX3_init (Cond.code yX3_init cX3_init 2 none) 5 100 (pX3_init g.2.1) := by
  refine CT.of (wC_ok g) (cc := cX3_init) (nL := 2) (ret := none) (ht := []) (by decide +kernel) (Or.inl ⟨rfl, rfl⟩) (B := bX3_init_0 g.2.1) (fun R E X hE => ?_)
  have h0 : E (bX3_init_0 g.2.1 R) 0 := by
    unfold bX3_init_0
    refine si_aload_n (pc := 0) hE dX3_init_0 rfl ?_
    refine si_aload_n (pc := 1) hE dX3_init_1 rfl ?_
    refine si_pRF (pc := 2) hE rfl dX3_init_2 q363 zfo_21 zfs_12 (Or.inl ⟨_, rfl⟩) ?_
    refine si_aload_n (pc := 5) hE dX3_init_5 rfl ?_
    refine si_oi (pc := 6) hE dX3_init_6 q256 q180 q181 (by decide) (by decide) ?_
    refine si_aload_n (pc := 9) hE dX3_init_9 rfl ?_
    refine si_new (pc := 10) hE dX3_init_10 cls3 q257 q258 q136 df_3 ?_
    refine si_dup (pc := 13) hE dX3_init_13 ?_
    refine si_hi (pc := 14) (n := 0) hE dX3_init_14 (cal_IN (eX4_init g) q261 q136 q259 q260 rfl ⟨by decide +kernel, by decide +kernel⟩ nX4_init (by decide) (by decide)) (si_out hE rfl) ?_
    refine si_pRF (pc := 17) hE rfl dX3_init_17 q355 zfo_22 zfs_13 (Or.inl ⟨_, rfl⟩) ?_
    refine si_aload_n (pc := 20) hE dX3_init_20 rfl ?_
    refine si_new (pc := 21) hE dX3_init_21 cls18 q353 q264 q139 df_18 ?_
    refine si_dup (pc := 24) hE dX3_init_24 ?_
    refine si_hi (pc := 25) (n := 0) hE dX3_init_25 (cal_I (eJ2_init g) q267 q139 q354 q266 rfl ⟨by decide +kernel, by decide +kernel⟩ nJ2_init (by decide) (by decide)) (si_out hE rfl) ?_
    refine si_pRF (pc := 28) hE rfl dX3_init_28 q360 zfo_23 zfs_14 (Or.inl ⟨_, rfl⟩) ?_
    refine si_aload_n (pc := 31) hE dX3_init_31 rfl ?_
    refine si_new (pc := 32) hE dX3_init_32 cls18 q353 q264 q139 df_18 ?_
    refine si_dup (pc := 35) hE dX3_init_35 ?_
    refine si_hi (pc := 36) (n := 0) hE dX3_init_36 (cal_I (eJ2_init g) q267 q139 q354 q266 rfl ⟨by decide +kernel, by decide +kernel⟩ nJ2_init (by decide) (by decide)) (si_out hE rfl) ?_
    refine si_pRF (pc := 39) hE rfl dX3_init_39 q361 zfo_24 zfs_15 (Or.inl ⟨_, rfl⟩) ?_
    refine si_aload_n (pc := 42) hE dX3_init_42 rfl ?_
    refine si_new (pc := 43) hE dX3_init_43 cls18 q353 q264 q139 df_18 ?_
    refine si_dup (pc := 46) hE dX3_init_46 ?_
    refine si_hi (pc := 47) (n := 0) hE dX3_init_47 (cal_I (eJ2_init g) q267 q139 q354 q266 rfl ⟨by decide +kernel, by decide +kernel⟩ nJ2_init (by decide) (by decide)) (si_out hE rfl) ?_
    refine si_pRF (pc := 50) hE rfl dX3_init_50 q362 zfo_25 zfs_16 (Or.inl ⟨_, rfl⟩) ?_
    exact si_return (pc := 53) hE dX3_init_53
  exact h0
def bX3_at_28 (κ : Nat → Option Nat) (R : Ret AH) : Cont AH :=
    o_ireturn R
def bX3_at_27 (κ : Nat → Option Nat) (R : Ret AH) : Cont AH :=
    o_ic 0 <|
    (bX3_at_28 κ R)
def bX3_at_0 (κ : Nat → Option Nat) (R : Ret AH) : Cont AH :=
    o_il 1 <|
    o_al 0 <|
    o_gR 8 [3] <|
    o_gI 1 [1] <|
    o_icmp_ge (bX3_at_27 κ R) <|
    o_al 0 <|
    o_gR 8 [3] <|
    o_gR 0 [1] <|
    o_il 1 <|
    o_aI 102 <|
    o_ic 255 <|
    o_iand <|
    (bX3_at_28 κ R)
def pX3_at (κ : Nat → Option Nat) : PT AH := fun as σ Q => (lg_sl as).length ≤ 2 ∧ bX3_at_0 κ Q (entP 2 as) [] σ
theorem nX3_at : parN yX3_at 1 := by unfold parN; decide +kernel
set_option maxHeartbeats 4000000 in
theorem eX3_at (g : GC) : CT (wC g) yX3_at (Cond.code yX3_at cX3_at 2 (some .int)) 0 0 (pX3_at g.2.1) := by
  refine CT.of (wC_ok g) (cc := cX3_at) (nL := 2) (ret := (some .int)) (ht := []) (by decide +kernel) (Or.inl ⟨rfl, rfl⟩) (B := bX3_at_0 g.2.1) (fun R E X hE => ?_)
  have h28 : E (bX3_at_28 g.2.1 R) 28 := by
    unfold bX3_at_28
    exact si_ireturn (pc := 28) hE dX3_at_28
  have h27 : E (bX3_at_27 g.2.1 R) 27 := by
    unfold bX3_at_27
    refine si_iconst (pc := 27) hE dX3_at_27 (by decide) ?_
    exact h28
  have h0 : E (bX3_at_0 g.2.1 R) 0 := by
    unfold bX3_at_0
    refine si_iload_n (pc := 0) hE dX3_at_0 rfl ?_
    refine si_aload_n (pc := 1) hE dX3_at_1 rfl ?_
    refine si_gR (pc := 2) hE dX3_at_2 (Or.inl q363) zfo_21 ?_
    refine si_gI (pc := 5) hE dX3_at_5 (Or.inr ⟨_, q208⟩) zfo_16 ?_
    refine si_icmp_ge (pc := 8) hE dX3_at_8 (by decide) h27 ?_
    refine si_aload_n (pc := 11) hE dX3_at_11 rfl ?_
    refine si_gR (pc := 12) hE dX3_at_12 (Or.inl q363) zfo_21 ?_
    refine si_gR (pc := 15) hE dX3_at_15 (Or.inr ⟨_, q207⟩) zfo_12 ?_
    refine si_iload_n (pc := 18) hE dX3_at_18 rfl ?_
    refine si_baload (pc := 19) hE dX3_at_19 ?_
    refine si_sipush (pc := 20) hE dX3_at_20 (by decide) ?_
    refine si_iand (pc := 23) hE dX3_at_23 ?_
    exact si_goto (pc := 24) hE dX3_at_24 (by decide) h28
  exact h0
def bX3_isLetter_17 (κ : Nat → Option Nat) (R : Ret AH) : Cont AH :=
    o_zreturn R
def bX3_isLetter_16 (κ : Nat → Option Nat) (R : Ret AH) : Cont AH :=
    o_ic 0 <|
    (bX3_isLetter_17 κ R)
def bX3_isLetter_0 (κ : Nat → Option Nat) (R : Ret AH) : Cont AH :=
    o_il 1 <|
    o_ic 97 <|
    o_icmp_lt (bX3_isLetter_16 κ R) <|
    o_il 1 <|
    o_ic 122 <|
    o_icmp_gt (bX3_isLetter_16 κ R) <|
    o_ic 1 <|
    (bX3_isLetter_17 κ R)
def pX3_isLetter (κ : Nat → Option Nat) : PT AH := fun as σ Q => (lg_sl as).length ≤ 2 ∧ bX3_isLetter_0 κ Q (entP 2 as) [] σ
theorem nX3_isLetter : parN yX3_isLetter 1 := by unfold parN; decide +kernel
set_option maxHeartbeats 4000000 in
theorem eX3_isLetter (g : GC) : CT (wC g) yX3_isLetter (Cond.code yX3_isLetter cX3_isLetter 2 (some .boolean)) 0 0 (pX3_isLetter g.2.1) := by
  refine CT.of (wC_ok g) (cc := cX3_isLetter) (nL := 2) (ret := (some .boolean)) (ht := []) (by decide +kernel) (Or.inl ⟨rfl, rfl⟩) (B := bX3_isLetter_0 g.2.1) (fun R E X hE => ?_)
  have h17 : E (bX3_isLetter_17 g.2.1 R) 17 := by
    unfold bX3_isLetter_17
    exact si_zreturn (pc := 17) hE dX3_isLetter_17
  have h16 : E (bX3_isLetter_16 g.2.1 R) 16 := by
    unfold bX3_isLetter_16
    refine si_iconst (pc := 16) hE dX3_isLetter_16 (by decide) ?_
    exact h17
  have h0 : E (bX3_isLetter_0 g.2.1 R) 0 := by
    unfold bX3_isLetter_0
    refine si_iload_n (pc := 0) hE dX3_isLetter_0 rfl ?_
    refine si_bipush (pc := 1) hE dX3_isLetter_1 (by decide) ?_
    refine si_icmp_lt (pc := 3) hE dX3_isLetter_3 (by decide) h16 ?_
    refine si_iload_n (pc := 6) hE dX3_isLetter_6 rfl ?_
    refine si_bipush (pc := 7) hE dX3_isLetter_7 (by decide) ?_
    refine si_icmp_gt (pc := 9) hE dX3_isLetter_9 (by decide) h16 ?_
    refine si_iconst (pc := 12) hE dX3_isLetter_12 (by decide) ?_
    exact si_goto (pc := 13) hE dX3_isLetter_13 (by decide) h17
  exact h0
def bX3_isDigit_17 (κ : Nat → Option Nat) (R : Ret AH) : Cont AH :=
    o_zreturn R
def bX3_isDigit_16 (κ : Nat → Option Nat) (R : Ret AH) : Cont AH :=
    o_ic 0 <|
    (bX3_isDigit_17 κ R)
def bX3_isDigit_0 (κ : Nat → Option Nat) (R : Ret AH) : Cont AH :=
    o_il 1 <|
    o_ic 48 <|
    o_icmp_lt (bX3_isDigit_16 κ R) <|
    o_il 1 <|
    o_ic 57 <|
    o_icmp_gt (bX3_isDigit_16 κ R) <|
    o_ic 1 <|
    (bX3_isDigit_17 κ R)
def pX3_isDigit (κ : Nat → Option Nat) : PT AH := fun as σ Q => (lg_sl as).length ≤ 2 ∧ bX3_isDigit_0 κ Q (entP 2 as) [] σ
theorem nX3_isDigit : parN yX3_isDigit 1 := by unfold parN; decide +kernel
set_option maxHeartbeats 4000000 in
theorem eX3_isDigit (g : GC) : CT (wC g) yX3_isDigit (Cond.code yX3_isDigit cX3_isDigit 2 (some .boolean)) 0 0 (pX3_isDigit g.2.1) := by
  refine CT.of (wC_ok g) (cc := cX3_isDigit) (nL := 2) (ret := (some .boolean)) (ht := []) (by decide +kernel) (Or.inl ⟨rfl, rfl⟩) (B := bX3_isDigit_0 g.2.1) (fun R E X hE => ?_)
  have h17 : E (bX3_isDigit_17 g.2.1 R) 17 := by
    unfold bX3_isDigit_17
    exact si_zreturn (pc := 17) hE dX3_isDigit_17
  have h16 : E (bX3_isDigit_16 g.2.1 R) 16 := by
    unfold bX3_isDigit_16
    refine si_iconst (pc := 16) hE dX3_isDigit_16 (by decide) ?_
    exact h17
  have h0 : E (bX3_isDigit_0 g.2.1 R) 0 := by
    unfold bX3_isDigit_0
    refine si_iload_n (pc := 0) hE dX3_isDigit_0 rfl ?_
    refine si_bipush (pc := 1) hE dX3_isDigit_1 (by decide) ?_
    refine si_icmp_lt (pc := 3) hE dX3_isDigit_3 (by decide) h16 ?_
    refine si_iload_n (pc := 6) hE dX3_isDigit_6 rfl ?_
    refine si_bipush (pc := 7) hE dX3_isDigit_7 (by decide) ?_
    refine si_icmp_gt (pc := 9) hE dX3_isDigit_9 (by decide) h16 ?_
    refine si_iconst (pc := 12) hE dX3_isDigit_12 (by decide) ?_
    exact si_goto (pc := 13) hE dX3_isDigit_13 (by decide) h17
  exact h0
def bX3_row_72 (κ : Nat → Option Nat) (R : Ret AH) (J17 : Cont AH) : Cont AH :=
    o_iand <|
    o_is 3 <|
    o_il 2 <|
    o_al 0 <|
    o_al 0 <|
    o_al 0 <|
    o_gI 3 [3] <|
    o_call 2 (hvc [(3, pX3_at κ)]) (fun _ a σ => R (.inr a) σ) <|
    o_call 2 (hvc [(3, pX3_isDigit κ)]) (fun _ a σ => R (.inr a) σ) <|
    o_ior <|
    o_is 2 <|
    o_al 0 <|
    o_dup <|
    o_gI 3 [3] <|
    o_ic 1 <|
    o_iadd <|
    o_pI 3 [3] <|
    (o_kill [4] J17)
def bX3_row_67 (κ : Nat → Option Nat) (R : Ret AH) (J17 : Cont AH) : Cont AH :=
    o_ic 1 <|
    (bX3_row_72 κ R J17)
def bX3_row_71 (κ : Nat → Option Nat) (R : Ret AH) (J17 : Cont AH) : Cont AH :=
    o_ic 0 <|
    (bX3_row_72 κ R J17)
def bX3_row_47 (κ : Nat → Option Nat) (R : Ret AH) (J17 : Cont AH) : Cont AH :=
    o_il 3 <|
    o_il 2 <|
    o_if_eq (bX3_row_67 κ R J17) <|
    o_al 0 <|
    o_al 0 <|
    o_al 0 <|
    o_gI 3 [3] <|
    o_call 2 (hvc [(3, pX3_at κ)]) (fun _ a σ => R (.inr a) σ) <|
    o_call 2 (hvc [(3, pX3_isDigit κ)]) (fun _ a σ => R (.inr a) σ) <|
    o_if_eq (bX3_row_71 κ R J17) <|
    (bX3_row_67 κ R J17)
def bX3_row_209 (κ : Nat → Option Nat) (R : Ret AH) : Cont AH :=
    o_return R
def bX3_row_173 (κ : Nat → Option Nat) (R : Ret AH) : Cont AH :=
    fixC fun J173 =>
    o_il 4 <|
    o_al 0 <|
    o_gI 3 [3] <|
    o_icmp_ge (bX3_row_209 κ R) <|
    o_al 0 <|
    o_ic 10 <|
    o_al 0 <|
    o_gI 4 [3] <|
    o_imul <|
    o_al 0 <|
    o_il 4 <|
    o_call 2 (hvc [(3, pX3_at κ)]) (fun _ a σ => R (.inr a) σ) <|
    o_iadd <|
    o_ic 48 <|
    o_isub <|
    o_pI 4 [3] <|
    o_iinc 4 1 <|
    (o_kill [1, 2, 3] J173)
def bX3_row_151 (κ : Nat → Option Nat) (R : Ret AH) : Cont AH :=
    o_pI 1 [3] <|
    o_al 0 <|
    o_ic 0 <|
    o_pI 4 [3] <|
    o_al 0 <|
    o_gI 1 [3] <|
    o_ic 3 <|
    o_icmp_ne (bX3_row_209 κ R) <|
    o_al 0 <|
    o_gI 2 [3] <|
    o_is 4 <|
    (o_kill [1, 2, 3] (bX3_row_173 κ R))
def bX3_row_150 (κ : Nat → Option Nat) (R : Ret AH) : Cont AH :=
    o_ic 3 <|
    (bX3_row_151 κ R)
def bX3_row_142 (κ : Nat → Option Nat) (R : Ret AH) : Cont AH :=
    o_il 1 <|
    o_if_eq (bX3_row_150 κ R) <|
    o_ic 2 <|
    (bX3_row_151 κ R)
def bX3_row_131 (κ : Nat → Option Nat) (R : Ret AH) : Cont AH :=
    o_iand <|
    o_is 3 <|
    o_al 0 <|
    o_il 3 <|
    o_if_ne (bX3_row_142 κ R) <|
    o_ic 1 <|
    (bX3_row_151 κ R)
def bX3_row_130 (κ : Nat → Option Nat) (R : Ret AH) : Cont AH :=
    o_ic 0 <|
    (bX3_row_131 κ R)
def bX3_row_123 (κ : Nat → Option Nat) (R : Ret AH) : Cont AH :=
    o_icmp_gt (bX3_row_130 κ R) <|
    o_ic 1 <|
    (bX3_row_131 κ R)
def bX3_row_121 (κ : Nat → Option Nat) (R : Ret AH) : Cont AH :=
    o_ic 9 <|
    (bX3_row_123 κ R)
def bX3_row_102 (κ : Nat → Option Nat) (R : Ret AH) : Cont AH :=
    o_il 3 <|
    o_al 0 <|
    o_gI 3 [3] <|
    o_al 0 <|
    o_gI 2 [3] <|
    o_isub <|
    o_il 1 <|
    o_if_eq (bX3_row_121 κ R) <|
    o_ic 8 <|
    (bX3_row_123 κ R)
def bX3_row_17 (κ : Nat → Option Nat) (R : Ret AH) : Cont AH :=
    fixC fun J17 =>
    o_al 0 <|
    o_al 0 <|
    o_al 0 <|
    o_gI 3 [3] <|
    o_call 2 (hvc [(3, pX3_at κ)]) (fun _ a σ => R (.inr a) σ) <|
    o_call 2 (hvc [(3, pX3_isLetter κ)]) (fun _ a σ => R (.inr a) σ) <|
    o_if_ne (bX3_row_47 κ R J17) <|
    o_al 0 <|
    o_al 0 <|
    o_al 0 <|
    o_gI 3 [3] <|
    o_call 2 (hvc [(3, pX3_at κ)]) (fun _ a σ => R (.inr a) σ) <|
    o_call 2 (hvc [(3, pX3_isDigit κ)]) (fun _ a σ => R (.inr a) σ) <|
    o_if_eq (bX3_row_102 κ R) <|
    (bX3_row_47 κ R J17)
def bX3_row_0 (κ : Nat → Option Nat) (R : Ret AH) : Cont AH :=
    o_al 0 <|
    o_al 0 <|
    o_al 0 <|
    o_gI 2 [3] <|
    o_call 2 (hvc [(3, pX3_at κ)]) (fun _ a σ => R (.inr a) σ) <|
    o_call 2 (hvc [(3, pX3_isLetter κ)]) (fun _ a σ => R (.inr a) σ) <|
    o_is 1 <|
    o_ic 0 <|
    o_is 2 <|
    o_ic 1 <|
    o_is 3 <|
    (o_kill [4] (bX3_row_17 κ R))
def pX3_row (κ : Nat → Option Nat) : PT AH := fun as σ Q => (lg_sl as).length ≤ 5 ∧ bX3_row_0 κ Q (entP 5 as) [] σ
theorem nX3_row : parN yX3_row 0 := by unfold parN; decide +kernel
set_option maxHeartbeats 4000000 in
theorem eX3_row (g : GC) : CT (wC g) yX3_row (Cond.code yX3_row cX3_row 5 none) 1 21 (pX3_row g.2.1) := by
  refine CT.of (wC_ok g) (cc := cX3_row) (nL := 5) (ret := none) (ht := []) (by decide +kernel) (Or.inl ⟨rfl, rfl⟩) (B := bX3_row_0 g.2.1) (fun R E X hE => ?_)
  have h72 : ∀ (J17 : Cont AH) (hJ17 : E J17 17), E (bX3_row_72 g.2.1 R J17) 72 := by
    intro J17 hJ17
    unfold bX3_row_72
    refine si_iand (pc := 72) hE dX3_row_72 ?_
    refine si_istore_n (pc := 73) hE dX3_row_73 rfl (by decide) ?_
    refine si_iload_n (pc := 74) hE dX3_row_74 rfl ?_
    refine si_aload_n (pc := 75) hE dX3_row_75 rfl ?_
    refine si_aload_n (pc := 76) hE dX3_row_76 rfl ?_
    refine si_aload_n (pc := 77) hE dX3_row_77 rfl ?_
    refine si_gI (pc := 78) hE dX3_row_78 (Or.inl q358) zfo_26 ?_
    refine si_hv (pc := 81) (n := 1) hE dX3_row_81 ⟨cal_V (recvO cls2) (eX3_at g) (Or.inl ⟨rfl, rfl⟩) q394 q135 q391 q393 qs1 ⟨by decide +kernel, by decide +kernel⟩ nX3_at (by decide) (by decide), trivial⟩ (si_out hE rfl) ?_
    refine si_hv (pc := 84) (n := 1) hE dX3_row_84 ⟨cal_V (recvO cls2) (eX3_isDigit g) (Or.inl ⟨rfl, rfl⟩) q402 q135 q399 q401 qs3 ⟨by decide +kernel, by decide +kernel⟩ nX3_isDigit (by decide) (by decide), trivial⟩ (si_out hE rfl) ?_
    refine si_ior (pc := 87) hE dX3_row_87 ?_
    refine si_istore_n (pc := 88) hE dX3_row_88 rfl (by decide) ?_
    refine si_aload_n (pc := 89) hE dX3_row_89 rfl ?_
    refine si_dup (pc := 90) hE dX3_row_90 ?_
    refine si_gI (pc := 91) hE dX3_row_91 (Or.inl q358) zfo_26 ?_
    refine si_iconst (pc := 94) hE dX3_row_94 (by decide) ?_
    refine si_iadd (pc := 95) hE dX3_row_95 ?_
    refine si_pI (pc := 96) hE dX3_row_96 (Or.inl q358) zfo_26 ?_
    exact si_goto (pc := 99) hE dX3_row_99 (by decide) (si_kill hE hJ17)
  have h67 : ∀ (J17 : Cont AH) (hJ17 : E J17 17), E (bX3_row_67 g.2.1 R J17) 67 := by
    intro J17 hJ17
    unfold bX3_row_67
    refine si_iconst (pc := 67) hE dX3_row_67 (by decide) ?_
    exact si_goto (pc := 68) hE dX3_row_68 (by decide) (h72 J17 hJ17)
  have h71 : ∀ (J17 : Cont AH) (hJ17 : E J17 17), E (bX3_row_71 g.2.1 R J17) 71 := by
    intro J17 hJ17
    unfold bX3_row_71
    refine si_iconst (pc := 71) hE dX3_row_71 (by decide) ?_
    exact (h72 J17 hJ17)
  have h47 : ∀ (J17 : Cont AH) (hJ17 : E J17 17), E (bX3_row_47 g.2.1 R J17) 47 := by
    intro J17 hJ17
    unfold bX3_row_47
    refine si_iload_n (pc := 47) hE dX3_row_47 rfl ?_
    refine si_iload_n (pc := 48) hE dX3_row_48 rfl ?_
    refine si_if_eq (pc := 49) hE dX3_row_49 (by decide) (h67 J17 hJ17) ?_
    refine si_aload_n (pc := 52) hE dX3_row_52 rfl ?_
    refine si_aload_n (pc := 53) hE dX3_row_53 rfl ?_
    refine si_aload_n (pc := 54) hE dX3_row_54 rfl ?_
    refine si_gI (pc := 55) hE dX3_row_55 (Or.inl q358) zfo_26 ?_
    refine si_hv (pc := 58) (n := 1) hE dX3_row_58 ⟨cal_V (recvO cls2) (eX3_at g) (Or.inl ⟨rfl, rfl⟩) q394 q135 q391 q393 qs1 ⟨by decide +kernel, by decide +kernel⟩ nX3_at (by decide) (by decide), trivial⟩ (si_out hE rfl) ?_
    refine si_hv (pc := 61) (n := 1) hE dX3_row_61 ⟨cal_V (recvO cls2) (eX3_isDigit g) (Or.inl ⟨rfl, rfl⟩) q402 q135 q399 q401 qs3 ⟨by decide +kernel, by decide +kernel⟩ nX3_isDigit (by decide) (by decide), trivial⟩ (si_out hE rfl) ?_
    refine si_if_eq (pc := 64) hE dX3_row_64 (by decide) (h71 J17 hJ17) ?_
    exact (h67 J17 hJ17)
  have h209 : E (bX3_row_209 g.2.1 R) 209 := by
    unfold bX3_row_209
    exact si_return (pc := 209) hE dX3_row_209
  have h173 : E (bX3_row_173 g.2.1 R) 173 := by
    unfold bX3_row_173
    refine si_fix hE (fun J173 hJ173 => ?_)
    refine si_iload (pc := 173) hE dX3_row_173 ?_
    refine si_aload_n (pc := 175) hE dX3_row_175 rfl ?_
    refine si_gI (pc := 176) hE dX3_row_176 (Or.inl q358) zfo_26 ?_
    refine si_icmp_ge (pc := 179) hE dX3_row_179 (by decide) h209 ?_
    refine si_aload_n (pc := 182) hE dX3_row_182 rfl ?_
    refine si_bipush (pc := 183) hE dX3_row_183 (by decide) ?_
    refine si_aload_n (pc := 185) hE dX3_row_185 rfl ?_
    refine si_gI (pc := 186) hE dX3_row_186 (Or.inl q359) zfo_27 ?_
    refine si_imul (pc := 189) hE dX3_row_189 ?_
    refine si_aload_n (pc := 190) hE dX3_row_190 rfl ?_
    refine si_iload (pc := 191) hE dX3_row_191 ?_
    refine si_hv (pc := 193) (n := 1) hE dX3_row_193 ⟨cal_V (recvO cls2) (eX3_at g) (Or.inl ⟨rfl, rfl⟩) q394 q135 q391 q393 qs1 ⟨by decide +kernel, by decide +kernel⟩ nX3_at (by decide) (by decide), trivial⟩ (si_out hE rfl) ?_
    refine si_iadd (pc := 196) hE dX3_row_196 ?_
    refine si_bipush (pc := 197) hE dX3_row_197 (by decide) ?_
    refine si_isub (pc := 199) hE dX3_row_199 ?_
    refine si_pI (pc := 200) hE dX3_row_200 (Or.inl q359) zfo_27 ?_
    refine si_iinc (pc := 203) hE dX3_row_203 (by decide) (by decide) ?_
    exact si_goto (pc := 206) hE dX3_row_206 (by decide) (si_kill hE hJ173)
  have h151 : E (bX3_row_151 g.2.1 R) 151 := by
    unfold bX3_row_151
    refine si_pI (pc := 151) hE dX3_row_151 (Or.inl q356) zfo_28 ?_
    refine si_aload_n (pc := 154) hE dX3_row_154 rfl ?_
    refine si_iconst (pc := 155) hE dX3_row_155 (by decide) ?_
    refine si_pI (pc := 156) hE dX3_row_156 (Or.inl q359) zfo_27 ?_
    refine si_aload_n (pc := 159) hE dX3_row_159 rfl ?_
    refine si_gI (pc := 160) hE dX3_row_160 (Or.inl q356) zfo_28 ?_
    refine si_iconst (pc := 163) hE dX3_row_163 (by decide) ?_
    refine si_icmp_ne (pc := 164) hE dX3_row_164 (by decide) h209 ?_
    refine si_aload_n (pc := 167) hE dX3_row_167 rfl ?_
    refine si_gI (pc := 168) hE dX3_row_168 (Or.inl q357) zfo_29 ?_
    refine si_istore (pc := 171) hE dX3_row_171 (by decide) ?_
    exact (si_kill hE h173)
  have h150 : E (bX3_row_150 g.2.1 R) 150 := by
    unfold bX3_row_150
    refine si_iconst (pc := 150) hE dX3_row_150 (by decide) ?_
    exact h151
  have h142 : E (bX3_row_142 g.2.1 R) 142 := by
    unfold bX3_row_142
    refine si_iload_n (pc := 142) hE dX3_row_142 rfl ?_
    refine si_if_eq (pc := 143) hE dX3_row_143 (by decide) h150 ?_
    refine si_iconst (pc := 146) hE dX3_row_146 (by decide) ?_
    exact si_goto (pc := 147) hE dX3_row_147 (by decide) h151
  have h131 : E (bX3_row_131 g.2.1 R) 131 := by
    unfold bX3_row_131
    refine si_iand (pc := 131) hE dX3_row_131 ?_
    refine si_istore_n (pc := 132) hE dX3_row_132 rfl (by decide) ?_
    refine si_aload_n (pc := 133) hE dX3_row_133 rfl ?_
    refine si_iload_n (pc := 134) hE dX3_row_134 rfl ?_
    refine si_if_ne (pc := 135) hE dX3_row_135 (by decide) h142 ?_
    refine si_iconst (pc := 138) hE dX3_row_138 (by decide) ?_
    exact si_goto (pc := 139) hE dX3_row_139 (by decide) h151
  have h130 : E (bX3_row_130 g.2.1 R) 130 := by
    unfold bX3_row_130
    refine si_iconst (pc := 130) hE dX3_row_130 (by decide) ?_
    exact h131
  have h123 : E (bX3_row_123 g.2.1 R) 123 := by
    unfold bX3_row_123
    refine si_icmp_gt (pc := 123) hE dX3_row_123 (by decide) h130 ?_
    refine si_iconst (pc := 126) hE dX3_row_126 (by decide) ?_
    exact si_goto (pc := 127) hE dX3_row_127 (by decide) h131
  have h121 : E (bX3_row_121 g.2.1 R) 121 := by
    unfold bX3_row_121
    refine si_bipush (pc := 121) hE dX3_row_121 (by decide) ?_
    exact h123
  have h102 : E (bX3_row_102 g.2.1 R) 102 := by
    unfold bX3_row_102
    refine si_iload_n (pc := 102) hE dX3_row_102 rfl ?_
    refine si_aload_n (pc := 103) hE dX3_row_103 rfl ?_
    refine si_gI (pc := 104) hE dX3_row_104 (Or.inl q358) zfo_26 ?_
    refine si_aload_n (pc := 107) hE dX3_row_107 rfl ?_
    refine si_gI (pc := 108) hE dX3_row_108 (Or.inl q357) zfo_29 ?_
    refine si_isub (pc := 111) hE dX3_row_111 ?_
    refine si_iload_n (pc := 112) hE dX3_row_112 rfl ?_
    refine si_if_eq (pc := 113) hE dX3_row_113 (by decide) h121 ?_
    refine si_bipush (pc := 116) hE dX3_row_116 (by decide) ?_
    exact si_goto (pc := 118) hE dX3_row_118 (by decide) h123
  have h17 : E (bX3_row_17 g.2.1 R) 17 := by
    unfold bX3_row_17
    refine si_fix hE (fun J17 hJ17 => ?_)
    refine si_aload_n (pc := 17) hE dX3_row_17 rfl ?_
    refine si_aload_n (pc := 18) hE dX3_row_18 rfl ?_
    refine si_aload_n (pc := 19) hE dX3_row_19 rfl ?_
    refine si_gI (pc := 20) hE dX3_row_20 (Or.inl q358) zfo_26 ?_
    refine si_hv (pc := 23) (n := 1) hE dX3_row_23 ⟨cal_V (recvO cls2) (eX3_at g) (Or.inl ⟨rfl, rfl⟩) q394 q135 q391 q393 qs1 ⟨by decide +kernel, by decide +kernel⟩ nX3_at (by decide) (by decide), trivial⟩ (si_out hE rfl) ?_
    refine si_hv (pc := 26) (n := 1) hE dX3_row_26 ⟨cal_V (recvO cls2) (eX3_isLetter g) (Or.inl ⟨rfl, rfl⟩) q398 q135 q395 q397 qs2 ⟨by decide +kernel, by decide +kernel⟩ nX3_isLetter (by decide) (by decide), trivial⟩ (si_out hE rfl) ?_
    refine si_if_ne (pc := 29) hE dX3_row_29 (by decide) (h47 J17 hJ17) ?_
    refine si_aload_n (pc := 32) hE dX3_row_32 rfl ?_
    refine si_aload_n (pc := 33) hE dX3_row_33 rfl ?_
    refine si_aload_n (pc := 34) hE dX3_row_34 rfl ?_
    refine si_gI (pc := 35) hE dX3_row_35 (Or.inl q358) zfo_26 ?_
    refine si_hv (pc := 38) (n := 1) hE dX3_row_38 ⟨cal_V (recvO cls2) (eX3_at g) (Or.inl ⟨rfl, rfl⟩) q394 q135 q391 q393 qs1 ⟨by decide +kernel, by decide +kernel⟩ nX3_at (by decide) (by decide), trivial⟩ (si_out hE rfl) ?_
    refine si_hv (pc := 41) (n := 1) hE dX3_row_41 ⟨cal_V (recvO cls2) (eX3_isDigit g) (Or.inl ⟨rfl, rfl⟩) q402 q135 q399 q401 qs3 ⟨by decide +kernel, by decide +kernel⟩ nX3_isDigit (by decide) (by decide), trivial⟩ (si_out hE rfl) ?_
    refine si_if_eq (pc := 44) hE dX3_row_44 (by decide) h102 ?_
    exact (h47 J17 hJ17)
  have h0 : E (bX3_row_0 g.2.1 R) 0 := by
    unfold bX3_row_0
    refine si_aload_n (pc := 0) hE dX3_row_0 rfl ?_
    refine si_aload_n (pc := 1) hE dX3_row_1 rfl ?_
    refine si_aload_n (pc := 2) hE dX3_row_2 rfl ?_
    refine si_gI (pc := 3) hE dX3_row_3 (Or.inl q357) zfo_29 ?_
    refine si_hv (pc := 6) (n := 1) hE dX3_row_6 ⟨cal_V (recvO cls2) (eX3_at g) (Or.inl ⟨rfl, rfl⟩) q394 q135 q391 q393 qs1 ⟨by decide +kernel, by decide +kernel⟩ nX3_at (by decide) (by decide), trivial⟩ (si_out hE rfl) ?_
    refine si_hv (pc := 9) (n := 1) hE dX3_row_9 ⟨cal_V (recvO cls2) (eX3_isLetter g) (Or.inl ⟨rfl, rfl⟩) q398 q135 q395 q397 qs2 ⟨by decide +kernel, by decide +kernel⟩ nX3_isLetter (by decide) (by decide), trivial⟩ (si_out hE rfl) ?_
    refine si_istore_n (pc := 12) hE dX3_row_12 rfl (by decide) ?_
    refine si_iconst (pc := 13) hE dX3_row_13 (by decide) ?_
    refine si_istore_n (pc := 14) hE dX3_row_14 rfl (by decide) ?_
    refine si_iconst (pc := 15) hE dX3_row_15 (by decide) ?_
    refine si_istore_n (pc := 16) hE dX3_row_16 rfl (by decide) ?_
    exact (si_kill hE h17)
  exact h0
def bX3_next_163 (κ : Nat → Option Nat) (R : Ret AH) : Cont AH :=
    o_return R
def bX3_next_121 (κ : Nat → Option Nat) (R : Ret AH) : Cont AH :=
    o_al 0 <|
    o_call 1 (hvc [(3, pX3_row κ)]) (fun _ a σ => R (.inr a) σ) <|
    (bX3_next_163 κ R)
def bX3_next_160 (κ : Nat → Option Nat) (R : Ret AH) : Cont AH :=
    o_pI 1 [3] <|
    (bX3_next_163 κ R)
def bX3_next_159 (κ : Nat → Option Nat) (R : Ret AH) : Cont AH :=
    o_ic 1 <|
    (bX3_next_160 κ R)
def bX3_next_128 (κ : Nat → Option Nat) (R : Ret AH) : Cont AH :=
    o_al 0 <|
    o_dup <|
    o_gI 3 [3] <|
    o_ic 1 <|
    o_iadd <|
    o_pI 3 [3] <|
    o_al 0 <|
    o_cst κ 0 <|
    o_al 0 <|
    o_al 0 <|
    o_gI 2 [3] <|
    o_call 2 (hvc [(3, pX3_at κ)]) (fun _ a σ => R (.inr a) σ) <|
    o_call 2 (hvc [(61, pJ3_indexOf κ)]) (fun _ a σ => R (.inr a) σ) <|
    o_if_lt (bX3_next_159 κ R) <|
    o_ic 4 <|
    (bX3_next_160 κ R)
def bX3_next_91 (κ : Nat → Option Nat) (R : Ret AH) : Cont AH :=
    o_al 0 <|
    o_al 0 <|
    o_al 0 <|
    o_gI 2 [3] <|
    o_call 2 (hvc [(3, pX3_at κ)]) (fun _ a σ => R (.inr a) σ) <|
    o_call 2 (hvc [(3, pX3_isLetter κ)]) (fun _ a σ => R (.inr a) σ) <|
    o_if_ne (bX3_next_121 κ R) <|
    o_al 0 <|
    o_al 0 <|
    o_al 0 <|
    o_gI 2 [3] <|
    o_call 2 (hvc [(3, pX3_at κ)]) (fun _ a σ => R (.inr a) σ) <|
    o_call 2 (hvc [(3, pX3_isDigit κ)]) (fun _ a σ => R (.inr a) σ) <|
    o_if_eq (bX3_next_128 κ R) <|
    (bX3_next_121 κ R)
def bX3_next_61 (κ : Nat → Option Nat) (R : Ret AH) : Cont AH :=
    o_al 0 <|
    o_al 0 <|
    o_gI 2 [3] <|
    o_pI 3 [3] <|
    o_al 0 <|
    o_gI 2 [3] <|
    o_al 0 <|
    o_gR 8 [3] <|
    o_gI 1 [1] <|
    o_icmp_lt (bX3_next_91 κ R) <|
    o_al 0 <|
    o_ic 0 <|
    o_pI 1 [3] <|
    (bX3_next_163 κ R)
def bX3_next_48 (κ : Nat → Option Nat) (R : Ret AH) (J8 : Cont AH) : Cont AH :=
    o_al 0 <|
    o_dup <|
    o_gI 2 [3] <|
    o_ic 1 <|
    o_iadd <|
    o_pI 2 [3] <|
    J8
def bX3_next_8 (κ : Nat → Option Nat) (R : Ret AH) : Cont AH :=
    fixC fun J8 =>
    o_al 0 <|
    o_gI 2 [3] <|
    o_al 0 <|
    o_gR 8 [3] <|
    o_gI 1 [1] <|
    o_icmp_ge (bX3_next_61 κ R) <|
    o_al 0 <|
    o_al 0 <|
    o_gI 2 [3] <|
    o_call 2 (hvc [(3, pX3_at κ)]) (fun _ a σ => R (.inr a) σ) <|
    o_ic 32 <|
    o_icmp_eq (bX3_next_48 κ R J8) <|
    o_al 0 <|
    o_al 0 <|
    o_gI 2 [3] <|
    o_call 2 (hvc [(3, pX3_at κ)]) (fun _ a σ => R (.inr a) σ) <|
    o_ic 10 <|
    o_icmp_ne (bX3_next_61 κ R) <|
    (bX3_next_48 κ R J8)
def bX3_next_0 (κ : Nat → Option Nat) (R : Ret AH) : Cont AH :=
    o_al 0 <|
    o_al 0 <|
    o_gI 3 [3] <|
    o_pI 2 [3] <|
    (bX3_next_8 κ R)
def pX3_next (κ : Nat → Option Nat) : PT AH := fun as σ Q => (lg_sl as).length ≤ 1 ∧ bX3_next_0 κ Q (entP 1 as) [] σ
theorem nX3_next : parN yX3_next 0 := by unfold parN; decide +kernel
set_option maxHeartbeats 4000000 in
theorem eX3_next (g : GC) : CT (wC g) yX3_next (Cond.code yX3_next cX3_next 1 none) 4 91 (pX3_next g.2.1) := by
  refine CT.of (wC_ok g) (cc := cX3_next) (nL := 1) (ret := none) (ht := []) (by decide +kernel) (Or.inl ⟨rfl, rfl⟩) (B := bX3_next_0 g.2.1) (fun R E X hE => ?_)
  have h163 : E (bX3_next_163 g.2.1 R) 163 := by
    unfold bX3_next_163
    exact si_return (pc := 163) hE dX3_next_163
  have h121 : E (bX3_next_121 g.2.1 R) 121 := by
    unfold bX3_next_121
    refine si_aload_n (pc := 121) hE dX3_next_121 rfl ?_
    refine si_hv (pc := 122) (n := 0) hE dX3_next_122 ⟨cal_V (recvO cls2) (eX3_row g) (Or.inl ⟨rfl, rfl⟩) q406 q135 q403 q405 qs4 ⟨by decide +kernel, by decide +kernel⟩ nX3_row (by decide) (by decide), trivial⟩ (si_out hE rfl) ?_
    exact si_goto (pc := 125) hE dX3_next_125 (by decide) h163
  have h160 : E (bX3_next_160 g.2.1 R) 160 := by
    unfold bX3_next_160
    refine si_pI (pc := 160) hE dX3_next_160 (Or.inl q356) zfo_28 ?_
    exact h163
  have h159 : E (bX3_next_159 g.2.1 R) 159 := by
    unfold bX3_next_159
    refine si_iconst (pc := 159) hE dX3_next_159 (by decide) ?_
    exact h160
  have h128 : E (bX3_next_128 g.2.1 R) 128 := by
    unfold bX3_next_128
    refine si_aload_n (pc := 128) hE dX3_next_128 rfl ?_
    refine si_dup (pc := 129) hE dX3_next_129 ?_
    refine si_gI (pc := 130) hE dX3_next_130 (Or.inl q358) zfo_26 ?_
    refine si_iconst (pc := 133) hE dX3_next_133 (by decide) ?_
    refine si_iadd (pc := 134) hE dX3_next_134 ?_
    refine si_pI (pc := 135) hE dX3_next_135 (Or.inl q358) zfo_26 ?_
    refine si_aload_n (pc := 138) hE dX3_next_138 rfl ?_
    refine si_ldcS (pc := 139) (k := 0) hE dX3_next_139 rfl ?_
    refine si_aload_n (pc := 141) hE dX3_next_141 rfl ?_
    refine si_aload_n (pc := 142) hE dX3_next_142 rfl ?_
    refine si_gI (pc := 143) hE dX3_next_143 (Or.inl q357) zfo_29 ?_
    refine si_hv (pc := 146) (n := 1) hE dX3_next_146 ⟨cal_V (recvO cls2) (eX3_at g) (Or.inl ⟨rfl, rfl⟩) q394 q135 q391 q393 qs1 ⟨by decide +kernel, by decide +kernel⟩ nX3_at (by decide) (by decide), trivial⟩ (si_out hE rfl) ?_
    refine si_hv (pc := 149) (n := 1) hE dX3_next_149 ⟨cal_V recv61 (eJ3_indexOf g) (Or.inl ⟨rfl, rfl⟩) q411 q140 q408 q409 q410 ⟨by decide +kernel, by decide +kernel⟩ nJ3_indexOf (by decide) (by decide), trivial⟩ (si_out hE rfl) ?_
    refine si_if_lt (pc := 152) hE dX3_next_152 (by decide) h159 ?_
    refine si_iconst (pc := 155) hE dX3_next_155 (by decide) ?_
    exact si_goto (pc := 156) hE dX3_next_156 (by decide) h160
  have h91 : E (bX3_next_91 g.2.1 R) 91 := by
    unfold bX3_next_91
    refine si_aload_n (pc := 91) hE dX3_next_91 rfl ?_
    refine si_aload_n (pc := 92) hE dX3_next_92 rfl ?_
    refine si_aload_n (pc := 93) hE dX3_next_93 rfl ?_
    refine si_gI (pc := 94) hE dX3_next_94 (Or.inl q357) zfo_29 ?_
    refine si_hv (pc := 97) (n := 1) hE dX3_next_97 ⟨cal_V (recvO cls2) (eX3_at g) (Or.inl ⟨rfl, rfl⟩) q394 q135 q391 q393 qs1 ⟨by decide +kernel, by decide +kernel⟩ nX3_at (by decide) (by decide), trivial⟩ (si_out hE rfl) ?_
    refine si_hv (pc := 100) (n := 1) hE dX3_next_100 ⟨cal_V (recvO cls2) (eX3_isLetter g) (Or.inl ⟨rfl, rfl⟩) q398 q135 q395 q397 qs2 ⟨by decide +kernel, by decide +kernel⟩ nX3_isLetter (by decide) (by decide), trivial⟩ (si_out hE rfl) ?_
    refine si_if_ne (pc := 103) hE dX3_next_103 (by decide) h121 ?_
    refine si_aload_n (pc := 106) hE dX3_next_106 rfl ?_
    refine si_aload_n (pc := 107) hE dX3_next_107 rfl ?_
    refine si_aload_n (pc := 108) hE dX3_next_108 rfl ?_
    refine si_gI (pc := 109) hE dX3_next_109 (Or.inl q357) zfo_29 ?_
    refine si_hv (pc := 112) (n := 1) hE dX3_next_112 ⟨cal_V (recvO cls2) (eX3_at g) (Or.inl ⟨rfl, rfl⟩) q394 q135 q391 q393 qs1 ⟨by decide +kernel, by decide +kernel⟩ nX3_at (by decide) (by decide), trivial⟩ (si_out hE rfl) ?_
    refine si_hv (pc := 115) (n := 1) hE dX3_next_115 ⟨cal_V (recvO cls2) (eX3_isDigit g) (Or.inl ⟨rfl, rfl⟩) q402 q135 q399 q401 qs3 ⟨by decide +kernel, by decide +kernel⟩ nX3_isDigit (by decide) (by decide), trivial⟩ (si_out hE rfl) ?_
    refine si_if_eq (pc := 118) hE dX3_next_118 (by decide) h128 ?_
    exact h121
  have h61 : E (bX3_next_61 g.2.1 R) 61 := by
    unfold bX3_next_61
    refine si_aload_n (pc := 61) hE dX3_next_61 rfl ?_
    refine si_aload_n (pc := 62) hE dX3_next_62 rfl ?_
    refine si_gI (pc := 63) hE dX3_next_63 (Or.inl q357) zfo_29 ?_
    refine si_pI (pc := 66) hE dX3_next_66 (Or.inl q358) zfo_26 ?_
    refine si_aload_n (pc := 69) hE dX3_next_69 rfl ?_
    refine si_gI (pc := 70) hE dX3_next_70 (Or.inl q357) zfo_29 ?_
    refine si_aload_n (pc := 73) hE dX3_next_73 rfl ?_
    refine si_gR (pc := 74) hE dX3_next_74 (Or.inl q363) zfo_21 ?_
    refine si_gI (pc := 77) hE dX3_next_77 (Or.inr ⟨_, q208⟩) zfo_16 ?_
    refine si_icmp_lt (pc := 80) hE dX3_next_80 (by decide) h91 ?_
    refine si_aload_n (pc := 83) hE dX3_next_83 rfl ?_
    refine si_iconst (pc := 84) hE dX3_next_84 (by decide) ?_
    refine si_pI (pc := 85) hE dX3_next_85 (Or.inl q356) zfo_28 ?_
    exact si_goto (pc := 88) hE dX3_next_88 (by decide) h163
  have h48 : ∀ (J8 : Cont AH) (hJ8 : E J8 8), E (bX3_next_48 g.2.1 R J8) 48 := by
    intro J8 hJ8
    unfold bX3_next_48
    refine si_aload_n (pc := 48) hE dX3_next_48 rfl ?_
    refine si_dup (pc := 49) hE dX3_next_49 ?_
    refine si_gI (pc := 50) hE dX3_next_50 (Or.inl q357) zfo_29 ?_
    refine si_iconst (pc := 53) hE dX3_next_53 (by decide) ?_
    refine si_iadd (pc := 54) hE dX3_next_54 ?_
    refine si_pI (pc := 55) hE dX3_next_55 (Or.inl q357) zfo_29 ?_
    exact si_goto (pc := 58) hE dX3_next_58 (by decide) hJ8
  have h8 : E (bX3_next_8 g.2.1 R) 8 := by
    unfold bX3_next_8
    refine si_fix hE (fun J8 hJ8 => ?_)
    refine si_aload_n (pc := 8) hE dX3_next_8 rfl ?_
    refine si_gI (pc := 9) hE dX3_next_9 (Or.inl q357) zfo_29 ?_
    refine si_aload_n (pc := 12) hE dX3_next_12 rfl ?_
    refine si_gR (pc := 13) hE dX3_next_13 (Or.inl q363) zfo_21 ?_
    refine si_gI (pc := 16) hE dX3_next_16 (Or.inr ⟨_, q208⟩) zfo_16 ?_
    refine si_icmp_ge (pc := 19) hE dX3_next_19 (by decide) h61 ?_
    refine si_aload_n (pc := 22) hE dX3_next_22 rfl ?_
    refine si_aload_n (pc := 23) hE dX3_next_23 rfl ?_
    refine si_gI (pc := 24) hE dX3_next_24 (Or.inl q357) zfo_29 ?_
    refine si_hv (pc := 27) (n := 1) hE dX3_next_27 ⟨cal_V (recvO cls2) (eX3_at g) (Or.inl ⟨rfl, rfl⟩) q394 q135 q391 q393 qs1 ⟨by decide +kernel, by decide +kernel⟩ nX3_at (by decide) (by decide), trivial⟩ (si_out hE rfl) ?_
    refine si_bipush (pc := 30) hE dX3_next_30 (by decide) ?_
    refine si_icmp_eq (pc := 32) hE dX3_next_32 (by decide) (h48 J8 hJ8) ?_
    refine si_aload_n (pc := 35) hE dX3_next_35 rfl ?_
    refine si_aload_n (pc := 36) hE dX3_next_36 rfl ?_
    refine si_gI (pc := 37) hE dX3_next_37 (Or.inl q357) zfo_29 ?_
    refine si_hv (pc := 40) (n := 1) hE dX3_next_40 ⟨cal_V (recvO cls2) (eX3_at g) (Or.inl ⟨rfl, rfl⟩) q394 q135 q391 q393 qs1 ⟨by decide +kernel, by decide +kernel⟩ nX3_at (by decide) (by decide), trivial⟩ (si_out hE rfl) ?_
    refine si_bipush (pc := 43) hE dX3_next_43 (by decide) ?_
    refine si_icmp_ne (pc := 45) hE dX3_next_45 (by decide) h61 ?_
    exact (h48 J8 hJ8)
  have h0 : E (bX3_next_0 g.2.1 R) 0 := by
    unfold bX3_next_0
    refine si_aload_n (pc := 0) hE dX3_next_0 rfl ?_
    refine si_aload_n (pc := 1) hE dX3_next_1 rfl ?_
    refine si_gI (pc := 2) hE dX3_next_2 (Or.inl q358) zfo_26 ?_
    refine si_pI (pc := 5) hE dX3_next_5 (Or.inl q357) zfo_29 ?_
    exact h8
  exact h0
def bX5_init_0 (κ : Nat → Option Nat) (R : Ret AH) : Cont AH :=
    o_al 0 <|
    o_null <|
    o_null <|
    o_ic 0 <|
    o_ic 0 <|
    o_call 5 (hvi (pJ11_init κ)) (fun _ a σ => R (.inr a) σ) <|
    o_al 0 <|
    o_il 1 <|
    o_pI 6 [5] <|
    o_al 0 <|
    o_il 2 <|
    o_pI 7 [5] <|
    o_return R
def pX5_init (κ : Nat → Option Nat) : PT AH := fun as σ Q => (lg_sl as).length ≤ 3 ∧ bX5_init_0 κ Q (entP 3 as) [] σ
theorem nX5_init : parN yX5_init 2 := by unfold parN; decide +kernel
set_option maxHeartbeats 4000000 in
theorem eX5_init (g : GC) : CT (wC g) yX5_init (Cond.code yX5_init cX5_init 3 none) 4 92 (pX5_init g.2.1) := by
  refine CT.of (wC_ok g) (cc := cX5_init) (nL := 3) (ret := none) (ht := []) (by decide +kernel) (Or.inl ⟨rfl, rfl⟩) (B := bX5_init_0 g.2.1) (fun R E X hE => ?_)
  have h0 : E (bX5_init_0 g.2.1 R) 0 := by
    unfold bX5_init_0
    refine si_aload_n (pc := 0) hE dX5_init_0 rfl ?_
    refine si_null (pc := 1) hE dX5_init_1 ?_
    refine si_null (pc := 2) hE dX5_init_2 ?_
    refine si_iconst (pc := 3) hE dX5_init_3 (by decide) ?_
    refine si_iconst (pc := 4) hE dX5_init_4 (by decide) ?_
    refine si_hi (pc := 5) (n := 4) hE dX5_init_5 (cal_I (eJ11_init g) q551 q148 q549 q550 rfl ⟨by decide +kernel, by decide +kernel⟩ nJ11_init (by decide) (by decide)) (si_out hE rfl) ?_
    refine si_aload_n (pc := 8) hE dX5_init_8 rfl ?_
    refine si_iload_n (pc := 9) hE dX5_init_9 rfl ?_
    refine si_pIF (pc := 10) hE rfl dX5_init_10 q558 zfo_30 zfs_17 ?_
    refine si_aload_n (pc := 13) hE dX5_init_13 rfl ?_
    refine si_iload_n (pc := 14) hE dX5_init_14 rfl ?_
    refine si_pIF (pc := 15) hE rfl dX5_init_15 q560 zfo_31 zfs_18 ?_
    exact si_return (pc := 18) hE dX5_init_18
  exact h0
def bX3_fault_17 (κ : Nat → Option Nat) (R : Ret AH) : Cont AH :=
    o_al 0 <|
    o_gI 2 [3] <|
    o_call 3 (hvi (pX5_init κ)) (fun _ a σ => R (.inr a) σ) <|
    o_areturn R
def bX3_fault_16 (κ : Nat → Option Nat) (R : Ret AH) : Cont AH :=
    o_il 1 <|
    (bX3_fault_17 κ R)
def bX3_fault_0 (κ : Nat → Option Nat) (R : Ret AH) : Cont AH :=
    o_new 4 8 <|
    o_dup <|
    o_al 0 <|
    o_gI 1 [3] <|
    o_ic 1 <|
    o_icmp_ne (bX3_fault_16 κ R) <|
    o_ic 1 <|
    (bX3_fault_17 κ R)
def pX3_fault (κ : Nat → Option Nat) : PT AH := fun as σ Q => (lg_sl as).length ≤ 2 ∧ bX3_fault_0 κ Q (entP 2 as) [] σ
theorem nX3_fault : parN yX3_fault 1 := by unfold parN; decide +kernel
set_option maxHeartbeats 4000000 in
theorem eX3_fault (g : GC) : CT (wC g) yX3_fault (Cond.code yX3_fault cX3_fault 2 (some (.object "LateAndEarly$Fault"))) 5 114 (pX3_fault g.2.1) := by
  refine CT.of (wC_ok g) (cc := cX3_fault) (nL := 2) (ret := (some (.object "LateAndEarly$Fault"))) (ht := []) (by decide +kernel) (Or.inl ⟨rfl, rfl⟩) (B := bX3_fault_0 g.2.1) (fun R E X hE => ?_)
  have h17 : E (bX3_fault_17 g.2.1 R) 17 := by
    unfold bX3_fault_17
    refine si_aload_n (pc := 17) hE dX3_fault_17 rfl ?_
    refine si_gI (pc := 18) hE dX3_fault_18 (Or.inl q357) zfo_29 ?_
    refine si_hi (pc := 21) (n := 2) hE dX3_fault_21 (cal_I (eX5_init g) q548 q149 q546 q547 rfl ⟨by decide +kernel, by decide +kernel⟩ nX5_init (by decide) (by decide)) (si_out hE rfl) ?_
    exact si_areturn (pc := 24) hE (Or.inl ⟨_, rfl⟩) dX3_fault_24
  have h16 : E (bX3_fault_16 g.2.1 R) 16 := by
    unfold bX3_fault_16
    refine si_iload_n (pc := 16) hE dX3_fault_16 rfl ?_
    exact h17
  have h0 : E (bX3_fault_0 g.2.1 R) 0 := by
    unfold bX3_fault_0
    refine si_new (pc := 0) hE dX3_fault_0 cls4 q506 q507 q149 df_4 ?_
    refine si_dup (pc := 3) hE dX3_fault_3 ?_
    refine si_aload_n (pc := 4) hE dX3_fault_4 rfl ?_
    refine si_gI (pc := 5) hE dX3_fault_5 (Or.inl q356) zfo_28 ?_
    refine si_iconst (pc := 8) hE dX3_fault_8 (by decide) ?_
    refine si_icmp_ne (pc := 9) hE dX3_fault_9 (by decide) h16 ?_
    refine si_iconst (pc := 12) hE dX3_fault_12 (by decide) ?_
    exact si_goto (pc := 13) hE dX3_fault_13 (by decide) h17
  exact h0
def bX3_numbered_57 (κ : Nat → Option Nat) (R : Ret AH) : Cont AH :=
    o_ic (-1) <|
    o_ireturn R
def bX3_numbered_131 (κ : Nat → Option Nat) (R : Ret AH) : Cont AH :=
    o_ireturn R
def bX3_numbered_129 (κ : Nat → Option Nat) (R : Ret AH) : Cont AH :=
    o_il 4 <|
    (bX3_numbered_131 κ R)
def bX3_numbered_125 (κ : Nat → Option Nat) (R : Ret AH) : Cont AH :=
    o_ic (-1) <|
    (bX3_numbered_131 κ R)
def bX3_numbered_119 (κ : Nat → Option Nat) (R : Ret AH) : Cont AH :=
    o_il 4 <|
    o_il 2 <|
    o_icmp_le (bX3_numbered_129 κ R) <|
    (bX3_numbered_125 κ R)
def bX3_numbered_99 (κ : Nat → Option Nat) (R : Ret AH) : Cont AH :=
    o_al 0 <|
    o_al 0 <|
    o_gI 2 [3] <|
    o_ic 1 <|
    o_iadd <|
    o_call 2 (hvc [(3, pX3_at κ)]) (fun _ a σ => R (.inr a) σ) <|
    o_ic 48 <|
    o_icmp_ne (bX3_numbered_119 κ R) <|
    o_il 3 <|
    o_ic 2 <|
    o_icmp_gt (bX3_numbered_125 κ R) <|
    (bX3_numbered_119 κ R)
def bX3_numbered_65 (κ : Nat → Option Nat) (R : Ret AH) : Cont AH :=
    fixC fun J65 =>
    o_il 5 <|
    o_il 3 <|
    o_icmp_ge (bX3_numbered_99 κ R) <|
    o_ic 10 <|
    o_il 4 <|
    o_imul <|
    o_al 0 <|
    o_al 0 <|
    o_gI 2 [3] <|
    o_il 5 <|
    o_iadd <|
    o_call 2 (hvc [(3, pX3_at κ)]) (fun _ a σ => R (.inr a) σ) <|
    o_iadd <|
    o_ic 48 <|
    o_isub <|
    o_is 4 <|
    o_iinc 5 1 <|
    (o_kill [1] J65)
def bX3_numbered_59 (κ : Nat → Option Nat) (R : Ret AH) : Cont AH :=
    o_ic 0 <|
    o_is 4 <|
    o_ic 1 <|
    o_is 5 <|
    (o_kill [1] (bX3_numbered_65 κ R))
def bX3_numbered_0 (κ : Nat → Option Nat) (R : Ret AH) : Cont AH :=
    o_al 0 <|
    o_gI 3 [3] <|
    o_al 0 <|
    o_gI 2 [3] <|
    o_isub <|
    o_is 3 <|
    o_al 0 <|
    o_gI 1 [3] <|
    o_ic 2 <|
    o_icmp_ne (bX3_numbered_57 κ R) <|
    o_al 0 <|
    o_al 0 <|
    o_gI 2 [3] <|
    o_call 2 (hvc [(3, pX3_at κ)]) (fun _ a σ => R (.inr a) σ) <|
    o_il 1 <|
    o_icmp_ne (bX3_numbered_57 κ R) <|
    o_il 3 <|
    o_ic 2 <|
    o_icmp_lt (bX3_numbered_57 κ R) <|
    o_il 3 <|
    o_ic 3 <|
    o_icmp_gt (bX3_numbered_57 κ R) <|
    o_al 0 <|
    o_al 0 <|
    o_al 0 <|
    o_gI 2 [3] <|
    o_ic 1 <|
    o_iadd <|
    o_call 2 (hvc [(3, pX3_at κ)]) (fun _ a σ => R (.inr a) σ) <|
    o_call 2 (hvc [(3, pX3_isDigit κ)]) (fun _ a σ => R (.inr a) σ) <|
    o_if_ne (bX3_numbered_59 κ R) <|
    (bX3_numbered_57 κ R)
def pX3_numbered (κ : Nat → Option Nat) : PT AH := fun as σ Q => (lg_sl as).length ≤ 6 ∧ bX3_numbered_0 κ Q (entP 6 as) [] σ
theorem nX3_numbered : parN yX3_numbered 2 := by unfold parN; decide +kernel
set_option maxHeartbeats 4000000 in
theorem eX3_numbered (g : GC) : CT (wC g) yX3_numbered (Cond.code yX3_numbered cX3_numbered 6 (some .int)) 1 21 (pX3_numbered g.2.1) := by
  refine CT.of (wC_ok g) (cc := cX3_numbered) (nL := 6) (ret := (some .int)) (ht := []) (by decide +kernel) (Or.inl ⟨rfl, rfl⟩) (B := bX3_numbered_0 g.2.1) (fun R E X hE => ?_)
  have h57 : E (bX3_numbered_57 g.2.1 R) 57 := by
    unfold bX3_numbered_57
    refine si_iconst (pc := 57) hE dX3_numbered_57 (by decide) ?_
    exact si_ireturn (pc := 58) hE dX3_numbered_58
  have h131 : E (bX3_numbered_131 g.2.1 R) 131 := by
    unfold bX3_numbered_131
    exact si_ireturn (pc := 131) hE dX3_numbered_131
  have h129 : E (bX3_numbered_129 g.2.1 R) 129 := by
    unfold bX3_numbered_129
    refine si_iload (pc := 129) hE dX3_numbered_129 ?_
    exact h131
  have h125 : E (bX3_numbered_125 g.2.1 R) 125 := by
    unfold bX3_numbered_125
    refine si_iconst (pc := 125) hE dX3_numbered_125 (by decide) ?_
    exact si_goto (pc := 126) hE dX3_numbered_126 (by decide) h131
  have h119 : E (bX3_numbered_119 g.2.1 R) 119 := by
    unfold bX3_numbered_119
    refine si_iload (pc := 119) hE dX3_numbered_119 ?_
    refine si_iload_n (pc := 121) hE dX3_numbered_121 rfl ?_
    refine si_icmp_le (pc := 122) hE dX3_numbered_122 (by decide) h129 ?_
    exact h125
  have h99 : E (bX3_numbered_99 g.2.1 R) 99 := by
    unfold bX3_numbered_99
    refine si_aload_n (pc := 99) hE dX3_numbered_99 rfl ?_
    refine si_aload_n (pc := 100) hE dX3_numbered_100 rfl ?_
    refine si_gI (pc := 101) hE dX3_numbered_101 (Or.inl q357) zfo_29 ?_
    refine si_iconst (pc := 104) hE dX3_numbered_104 (by decide) ?_
    refine si_iadd (pc := 105) hE dX3_numbered_105 ?_
    refine si_hv (pc := 106) (n := 1) hE dX3_numbered_106 ⟨cal_V (recvO cls2) (eX3_at g) (Or.inl ⟨rfl, rfl⟩) q394 q135 q391 q393 qs1 ⟨by decide +kernel, by decide +kernel⟩ nX3_at (by decide) (by decide), trivial⟩ (si_out hE rfl) ?_
    refine si_bipush (pc := 109) hE dX3_numbered_109 (by decide) ?_
    refine si_icmp_ne (pc := 111) hE dX3_numbered_111 (by decide) h119 ?_
    refine si_iload_n (pc := 114) hE dX3_numbered_114 rfl ?_
    refine si_iconst (pc := 115) hE dX3_numbered_115 (by decide) ?_
    refine si_icmp_gt (pc := 116) hE dX3_numbered_116 (by decide) h125 ?_
    exact h119
  have h65 : E (bX3_numbered_65 g.2.1 R) 65 := by
    unfold bX3_numbered_65
    refine si_fix hE (fun J65 hJ65 => ?_)
    refine si_iload (pc := 65) hE dX3_numbered_65 ?_
    refine si_iload_n (pc := 67) hE dX3_numbered_67 rfl ?_
    refine si_icmp_ge (pc := 68) hE dX3_numbered_68 (by decide) h99 ?_
    refine si_bipush (pc := 71) hE dX3_numbered_71 (by decide) ?_
    refine si_iload (pc := 73) hE dX3_numbered_73 ?_
    refine si_imul (pc := 75) hE dX3_numbered_75 ?_
    refine si_aload_n (pc := 76) hE dX3_numbered_76 rfl ?_
    refine si_aload_n (pc := 77) hE dX3_numbered_77 rfl ?_
    refine si_gI (pc := 78) hE dX3_numbered_78 (Or.inl q357) zfo_29 ?_
    refine si_iload (pc := 81) hE dX3_numbered_81 ?_
    refine si_iadd (pc := 83) hE dX3_numbered_83 ?_
    refine si_hv (pc := 84) (n := 1) hE dX3_numbered_84 ⟨cal_V (recvO cls2) (eX3_at g) (Or.inl ⟨rfl, rfl⟩) q394 q135 q391 q393 qs1 ⟨by decide +kernel, by decide +kernel⟩ nX3_at (by decide) (by decide), trivial⟩ (si_out hE rfl) ?_
    refine si_iadd (pc := 87) hE dX3_numbered_87 ?_
    refine si_bipush (pc := 88) hE dX3_numbered_88 (by decide) ?_
    refine si_isub (pc := 90) hE dX3_numbered_90 ?_
    refine si_istore (pc := 91) hE dX3_numbered_91 (by decide) ?_
    refine si_iinc (pc := 93) hE dX3_numbered_93 (by decide) (by decide) ?_
    exact si_goto (pc := 96) hE dX3_numbered_96 (by decide) (si_kill hE hJ65)
  have h59 : E (bX3_numbered_59 g.2.1 R) 59 := by
    unfold bX3_numbered_59
    refine si_iconst (pc := 59) hE dX3_numbered_59 (by decide) ?_
    refine si_istore (pc := 60) hE dX3_numbered_60 (by decide) ?_
    refine si_iconst (pc := 62) hE dX3_numbered_62 (by decide) ?_
    refine si_istore (pc := 63) hE dX3_numbered_63 (by decide) ?_
    exact (si_kill hE h65)
  have h0 : E (bX3_numbered_0 g.2.1 R) 0 := by
    unfold bX3_numbered_0
    refine si_aload_n (pc := 0) hE dX3_numbered_0 rfl ?_
    refine si_gI (pc := 1) hE dX3_numbered_1 (Or.inl q358) zfo_26 ?_
    refine si_aload_n (pc := 4) hE dX3_numbered_4 rfl ?_
    refine si_gI (pc := 5) hE dX3_numbered_5 (Or.inl q357) zfo_29 ?_
    refine si_isub (pc := 8) hE dX3_numbered_8 ?_
    refine si_istore_n (pc := 9) hE dX3_numbered_9 rfl (by decide) ?_
    refine si_aload_n (pc := 10) hE dX3_numbered_10 rfl ?_
    refine si_gI (pc := 11) hE dX3_numbered_11 (Or.inl q356) zfo_28 ?_
    refine si_iconst (pc := 14) hE dX3_numbered_14 (by decide) ?_
    refine si_icmp_ne (pc := 15) hE dX3_numbered_15 (by decide) h57 ?_
    refine si_aload_n (pc := 18) hE dX3_numbered_18 rfl ?_
    refine si_aload_n (pc := 19) hE dX3_numbered_19 rfl ?_
    refine si_gI (pc := 20) hE dX3_numbered_20 (Or.inl q357) zfo_29 ?_
    refine si_hv (pc := 23) (n := 1) hE dX3_numbered_23 ⟨cal_V (recvO cls2) (eX3_at g) (Or.inl ⟨rfl, rfl⟩) q394 q135 q391 q393 qs1 ⟨by decide +kernel, by decide +kernel⟩ nX3_at (by decide) (by decide), trivial⟩ (si_out hE rfl) ?_
    refine si_iload_n (pc := 26) hE dX3_numbered_26 rfl ?_
    refine si_icmp_ne (pc := 27) hE dX3_numbered_27 (by decide) h57 ?_
    refine si_iload_n (pc := 30) hE dX3_numbered_30 rfl ?_
    refine si_iconst (pc := 31) hE dX3_numbered_31 (by decide) ?_
    refine si_icmp_lt (pc := 32) hE dX3_numbered_32 (by decide) h57 ?_
    refine si_iload_n (pc := 35) hE dX3_numbered_35 rfl ?_
    refine si_iconst (pc := 36) hE dX3_numbered_36 (by decide) ?_
    refine si_icmp_gt (pc := 37) hE dX3_numbered_37 (by decide) h57 ?_
    refine si_aload_n (pc := 40) hE dX3_numbered_40 rfl ?_
    refine si_aload_n (pc := 41) hE dX3_numbered_41 rfl ?_
    refine si_aload_n (pc := 42) hE dX3_numbered_42 rfl ?_
    refine si_gI (pc := 43) hE dX3_numbered_43 (Or.inl q357) zfo_29 ?_
    refine si_iconst (pc := 46) hE dX3_numbered_46 (by decide) ?_
    refine si_iadd (pc := 47) hE dX3_numbered_47 ?_
    refine si_hv (pc := 48) (n := 1) hE dX3_numbered_48 ⟨cal_V (recvO cls2) (eX3_at g) (Or.inl ⟨rfl, rfl⟩) q394 q135 q391 q393 qs1 ⟨by decide +kernel, by decide +kernel⟩ nX3_at (by decide) (by decide), trivial⟩ (si_out hE rfl) ?_
    refine si_hv (pc := 51) (n := 1) hE dX3_numbered_51 ⟨cal_V (recvO cls2) (eX3_isDigit g) (Or.inl ⟨rfl, rfl⟩) q402 q135 q399 q401 qs3 ⟨by decide +kernel, by decide +kernel⟩ nX3_isDigit (by decide) (by decide), trivial⟩ (si_out hE rfl) ?_
    refine si_if_ne (pc := 54) hE dX3_numbered_54 (by decide) h59 ?_
    exact h57
  exact h0
def bX3_isSign_25 (κ : Nat → Option Nat) (R : Ret AH) : Cont AH :=
    o_zreturn R
def bX3_isSign_24 (κ : Nat → Option Nat) (R : Ret AH) : Cont AH :=
    o_ic 0 <|
    (bX3_isSign_25 κ R)
def bX3_isSign_0 (κ : Nat → Option Nat) (R : Ret AH) : Cont AH :=
    o_al 0 <|
    o_gI 1 [3] <|
    o_ic 4 <|
    o_icmp_ne (bX3_isSign_24 κ R) <|
    o_al 0 <|
    o_al 0 <|
    o_gI 2 [3] <|
    o_call 2 (hvc [(3, pX3_at κ)]) (fun _ a σ => R (.inr a) σ) <|
    o_il 1 <|
    o_icmp_ne (bX3_isSign_24 κ R) <|
    o_ic 1 <|
    (bX3_isSign_25 κ R)
def pX3_isSign (κ : Nat → Option Nat) : PT AH := fun as σ Q => (lg_sl as).length ≤ 2 ∧ bX3_isSign_0 κ Q (entP 2 as) [] σ
theorem nX3_isSign : parN yX3_isSign 1 := by unfold parN; decide +kernel
set_option maxHeartbeats 4000000 in
theorem eX3_isSign (g : GC) : CT (wC g) yX3_isSign (Cond.code yX3_isSign cX3_isSign 2 (some .boolean)) 1 21 (pX3_isSign g.2.1) := by
  refine CT.of (wC_ok g) (cc := cX3_isSign) (nL := 2) (ret := (some .boolean)) (ht := []) (by decide +kernel) (Or.inl ⟨rfl, rfl⟩) (B := bX3_isSign_0 g.2.1) (fun R E X hE => ?_)
  have h25 : E (bX3_isSign_25 g.2.1 R) 25 := by
    unfold bX3_isSign_25
    exact si_zreturn (pc := 25) hE dX3_isSign_25
  have h24 : E (bX3_isSign_24 g.2.1 R) 24 := by
    unfold bX3_isSign_24
    refine si_iconst (pc := 24) hE dX3_isSign_24 (by decide) ?_
    exact h25
  have h0 : E (bX3_isSign_0 g.2.1 R) 0 := by
    unfold bX3_isSign_0
    refine si_aload_n (pc := 0) hE dX3_isSign_0 rfl ?_
    refine si_gI (pc := 1) hE dX3_isSign_1 (Or.inl q356) zfo_28 ?_
    refine si_iconst (pc := 4) hE dX3_isSign_4 (by decide) ?_
    refine si_icmp_ne (pc := 5) hE dX3_isSign_5 (by decide) h24 ?_
    refine si_aload_n (pc := 8) hE dX3_isSign_8 rfl ?_
    refine si_aload_n (pc := 9) hE dX3_isSign_9 rfl ?_
    refine si_gI (pc := 10) hE dX3_isSign_10 (Or.inl q357) zfo_29 ?_
    refine si_hv (pc := 13) (n := 1) hE dX3_isSign_13 ⟨cal_V (recvO cls2) (eX3_at g) (Or.inl ⟨rfl, rfl⟩) q394 q135 q391 q393 qs1 ⟨by decide +kernel, by decide +kernel⟩ nX3_at (by decide) (by decide), trivial⟩ (si_out hE rfl) ?_
    refine si_iload_n (pc := 16) hE dX3_isSign_16 rfl ?_
    refine si_icmp_ne (pc := 17) hE dX3_isSign_17 (by decide) h24 ?_
    refine si_iconst (pc := 20) hE dX3_isSign_20 (by decide) ?_
    exact si_goto (pc := 21) hE dX3_isSign_21 (by decide) h25
  exact h0
def bX3_sign_14 (κ : Nat → Option Nat) (R : Ret AH) : Cont AH :=
    o_al 0 <|
    o_call 1 (hvc [(3, pX3_next κ)]) (fun _ a σ => R (.inr a) σ) <|
    o_return R
def bX3_sign_0 (κ : Nat → Option Nat) (R : Ret AH) : Cont AH :=
    o_al 0 <|
    o_il 1 <|
    o_call 2 (hvc [(3, pX3_isSign κ)]) (fun _ a σ => R (.inr a) σ) <|
    o_if_ne (bX3_sign_14 κ R) <|
    o_al 0 <|
    o_ic 2 <|
    o_call 2 (hvc [(3, pX3_fault κ)]) (fun _ a σ => R (.inr a) σ) <|
    o_athrow (fun _ a σ => R (.inr a) σ)
def pX3_sign (κ : Nat → Option Nat) : PT AH := fun as σ Q => (lg_sl as).length ≤ 2 ∧ bX3_sign_0 κ Q (entP 2 as) [] σ
theorem nX3_sign : parN yX3_sign 1 := by unfold parN; decide +kernel
set_option maxHeartbeats 4000000 in
theorem eX3_sign (g : GC) : CT (wC g) yX3_sign (Cond.code yX3_sign cX3_sign 2 none) 6 135 (pX3_sign g.2.1) := by
  refine CT.of (wC_ok g) (cc := cX3_sign) (nL := 2) (ret := none) (ht := []) (by decide +kernel) (Or.inl ⟨rfl, rfl⟩) (B := bX3_sign_0 g.2.1) (fun R E X hE => ?_)
  have h14 : E (bX3_sign_14 g.2.1 R) 14 := by
    unfold bX3_sign_14
    refine si_aload_n (pc := 14) hE dX3_sign_14 rfl ?_
    refine si_hv (pc := 15) (n := 0) hE dX3_sign_15 ⟨cal_V (recvO cls2) (eX3_next g) (Or.inl ⟨rfl, rfl⟩) q390 q135 q387 q389 qs0 ⟨by decide +kernel, by decide +kernel⟩ nX3_next (by decide) (by decide), trivial⟩ (si_out hE rfl) ?_
    exact si_return (pc := 18) hE dX3_sign_18
  have h0 : E (bX3_sign_0 g.2.1 R) 0 := by
    unfold bX3_sign_0
    refine si_aload_n (pc := 0) hE dX3_sign_0 rfl ?_
    refine si_iload_n (pc := 1) hE dX3_sign_1 rfl ?_
    refine si_hv (pc := 2) (n := 1) hE dX3_sign_2 ⟨cal_V (recvO cls2) (eX3_isSign g) (Or.inl ⟨rfl, rfl⟩) q674 q135 q671 q673 qs13 ⟨by decide +kernel, by decide +kernel⟩ nX3_isSign (by decide) (by decide), trivial⟩ (si_out hE rfl) ?_
    refine si_if_ne (pc := 5) hE dX3_sign_5 (by decide) h14 ?_
    refine si_aload_n (pc := 8) hE dX3_sign_8 rfl ?_
    refine si_iconst (pc := 9) hE dX3_sign_9 (by decide) ?_
    refine si_hv (pc := 10) (n := 1) hE dX3_sign_10 ⟨cal_V (recvO cls2) (eX3_fault g) (Or.inl ⟨rfl, rfl⟩) q505 q135 q502 q504 qs6 ⟨by decide +kernel, by decide +kernel⟩ nX3_fault (by decide) (by decide), trivial⟩ (si_out hE rfl) ?_
    exact si_athrow (pc := 13) hE dX3_sign_13 (si_out hE rfl)
  exact h0
def bX3_isWord_24 (κ : Nat → Option Nat) (R : Ret AH) : Cont AH :=
    o_ic 0 <|
    o_zreturn R
def bX3_isWord_62 (κ : Nat → Option Nat) (R : Ret AH) : Cont AH :=
    o_ic 1 <|
    o_zreturn R
def bX3_isWord_56 (κ : Nat → Option Nat) (R : Ret AH) (J28 : Cont AH) : Cont AH :=
    o_iinc 2 1 <|
    J28
def bX3_isWord_28 (κ : Nat → Option Nat) (R : Ret AH) : Cont AH :=
    fixC fun J28 =>
    o_il 2 <|
    o_al 1 <|
    o_call 1 (hvc [(61, pJ3_length κ)]) (fun _ a σ => R (.inr a) σ) <|
    o_icmp_ge (bX3_isWord_62 κ R) <|
    o_al 0 <|
    o_al 0 <|
    o_gI 2 [3] <|
    o_il 2 <|
    o_iadd <|
    o_call 2 (hvc [(3, pX3_at κ)]) (fun _ a σ => R (.inr a) σ) <|
    o_al 1 <|
    o_il 2 <|
    o_call 2 (hvc [(61, pJ3_charAt κ)]) (fun _ a σ => R (.inr a) σ) <|
    o_icmp_eq (bX3_isWord_56 κ R J28) <|
    o_ic 0 <|
    o_zreturn R
def bX3_isWord_26 (κ : Nat → Option Nat) (R : Ret AH) : Cont AH :=
    o_ic 0 <|
    o_is 2 <|
    (bX3_isWord_28 κ R)
def bX3_isWord_0 (κ : Nat → Option Nat) (R : Ret AH) : Cont AH :=
    o_al 0 <|
    o_gI 1 [3] <|
    o_ic 2 <|
    o_icmp_ne (bX3_isWord_24 κ R) <|
    o_al 1 <|
    o_call 1 (hvc [(61, pJ3_length κ)]) (fun _ a σ => R (.inr a) σ) <|
    o_al 0 <|
    o_gI 3 [3] <|
    o_al 0 <|
    o_gI 2 [3] <|
    o_isub <|
    o_icmp_eq (bX3_isWord_26 κ R) <|
    (bX3_isWord_24 κ R)
def pX3_isWord (κ : Nat → Option Nat) : PT AH := fun as σ Q => (lg_sl as).length ≤ 3 ∧ bX3_isWord_0 κ Q (entP 3 as) [] σ
theorem nX3_isWord : parN yX3_isWord 1 := by unfold parN; decide +kernel
set_option maxHeartbeats 4000000 in
theorem eX3_isWord (g : GC) : CT (wC g) yX3_isWord (Cond.code yX3_isWord cX3_isWord 3 (some .boolean)) 4 85 (pX3_isWord g.2.1) := by
  refine CT.of (wC_ok g) (cc := cX3_isWord) (nL := 3) (ret := (some .boolean)) (ht := []) (by decide +kernel) (Or.inl ⟨rfl, rfl⟩) (B := bX3_isWord_0 g.2.1) (fun R E X hE => ?_)
  have h24 : E (bX3_isWord_24 g.2.1 R) 24 := by
    unfold bX3_isWord_24
    refine si_iconst (pc := 24) hE dX3_isWord_24 (by decide) ?_
    exact si_zreturn (pc := 25) hE dX3_isWord_25
  have h62 : E (bX3_isWord_62 g.2.1 R) 62 := by
    unfold bX3_isWord_62
    refine si_iconst (pc := 62) hE dX3_isWord_62 (by decide) ?_
    exact si_zreturn (pc := 63) hE dX3_isWord_63
  have h56 : ∀ (J28 : Cont AH) (hJ28 : E J28 28), E (bX3_isWord_56 g.2.1 R J28) 56 := by
    intro J28 hJ28
    unfold bX3_isWord_56
    refine si_iinc (pc := 56) hE dX3_isWord_56 (by decide) (by decide) ?_
    exact si_goto (pc := 59) hE dX3_isWord_59 (by decide) hJ28
  have h28 : E (bX3_isWord_28 g.2.1 R) 28 := by
    unfold bX3_isWord_28
    refine si_fix hE (fun J28 hJ28 => ?_)
    refine si_iload_n (pc := 28) hE dX3_isWord_28 rfl ?_
    refine si_aload_n (pc := 29) hE dX3_isWord_29 rfl ?_
    refine si_hv (pc := 30) (n := 0) hE dX3_isWord_30 ⟨cal_V recv61 (eJ3_length g) (Or.inl ⟨rfl, rfl⟩) q425 q140 q680 q423 q424 ⟨by decide +kernel, by decide +kernel⟩ nJ3_length (by decide) (by decide), trivial⟩ (si_out hE rfl) ?_
    refine si_icmp_ge (pc := 33) hE dX3_isWord_33 (by decide) h62 ?_
    refine si_aload_n (pc := 36) hE dX3_isWord_36 rfl ?_
    refine si_aload_n (pc := 37) hE dX3_isWord_37 rfl ?_
    refine si_gI (pc := 38) hE dX3_isWord_38 (Or.inl q357) zfo_29 ?_
    refine si_iload_n (pc := 41) hE dX3_isWord_41 rfl ?_
    refine si_iadd (pc := 42) hE dX3_isWord_42 ?_
    refine si_hv (pc := 43) (n := 1) hE dX3_isWord_43 ⟨cal_V (recvO cls2) (eX3_at g) (Or.inl ⟨rfl, rfl⟩) q394 q135 q391 q393 qs1 ⟨by decide +kernel, by decide +kernel⟩ nX3_at (by decide) (by decide), trivial⟩ (si_out hE rfl) ?_
    refine si_aload_n (pc := 46) hE dX3_isWord_46 rfl ?_
    refine si_iload_n (pc := 47) hE dX3_isWord_47 rfl ?_
    refine si_hv (pc := 48) (n := 1) hE dX3_isWord_48 ⟨cal_V recv61 (eJ3_charAt g) (Or.inl ⟨rfl, rfl⟩) q684 q140 q681 q682 q683 ⟨by decide +kernel, by decide +kernel⟩ nJ3_charAt (by decide) (by decide), trivial⟩ (si_out hE rfl) ?_
    refine si_icmp_eq (pc := 51) hE dX3_isWord_51 (by decide) (h56 J28 hJ28) ?_
    refine si_iconst (pc := 54) hE dX3_isWord_54 (by decide) ?_
    exact si_zreturn (pc := 55) hE dX3_isWord_55
  have h26 : E (bX3_isWord_26 g.2.1 R) 26 := by
    unfold bX3_isWord_26
    refine si_iconst (pc := 26) hE dX3_isWord_26 (by decide) ?_
    refine si_istore_n (pc := 27) hE dX3_isWord_27 rfl (by decide) ?_
    exact h28
  have h0 : E (bX3_isWord_0 g.2.1 R) 0 := by
    unfold bX3_isWord_0
    refine si_aload_n (pc := 0) hE dX3_isWord_0 rfl ?_
    refine si_gI (pc := 1) hE dX3_isWord_1 (Or.inl q356) zfo_28 ?_
    refine si_iconst (pc := 4) hE dX3_isWord_4 (by decide) ?_
    refine si_icmp_ne (pc := 5) hE dX3_isWord_5 (by decide) h24 ?_
    refine si_aload_n (pc := 8) hE dX3_isWord_8 rfl ?_
    refine si_hv (pc := 9) (n := 0) hE dX3_isWord_9 ⟨cal_V recv61 (eJ3_length g) (Or.inl ⟨rfl, rfl⟩) q425 q140 q680 q423 q424 ⟨by decide +kernel, by decide +kernel⟩ nJ3_length (by decide) (by decide), trivial⟩ (si_out hE rfl) ?_
    refine si_aload_n (pc := 12) hE dX3_isWord_12 rfl ?_
    refine si_gI (pc := 13) hE dX3_isWord_13 (Or.inl q358) zfo_26 ?_
    refine si_aload_n (pc := 16) hE dX3_isWord_16 rfl ?_
    refine si_gI (pc := 17) hE dX3_isWord_17 (Or.inl q357) zfo_29 ?_
    refine si_isub (pc := 20) hE dX3_isWord_20 ?_
    refine si_icmp_eq (pc := 21) hE dX3_isWord_21 (by decide) h26 ?_
    exact h24
  exact h0
def bX3_nameHere_40 (κ : Nat → Option Nat) (R : Ret AH) : Cont AH :=
    o_ireturn R
def bX3_nameHere_39 (κ : Nat → Option Nat) (R : Ret AH) : Cont AH :=
    o_ic (-1) <|
    (bX3_nameHere_40 κ R)
def bX3_nameHere_27 (κ : Nat → Option Nat) (R : Ret AH) : Cont AH :=
    o_il 2 <|
    o_ic (-1) <|
    o_icmp_eq (bX3_nameHere_39 κ R) <|
    o_ic 16 <|
    o_il 2 <|
    o_iadd <|
    (bX3_nameHere_40 κ R)
def bX3_nameHere_0 (κ : Nat → Option Nat) (R : Ret AH) : Cont AH :=
    o_al 0 <|
    o_ic 118 <|
    o_ic 15 <|
    o_call 3 (hvc [(3, pX3_numbered κ)]) (fun _ a σ => R (.inr a) σ) <|
    o_is 1 <|
    o_al 0 <|
    o_ic 116 <|
    o_ic 31 <|
    o_call 3 (hvc [(3, pX3_numbered κ)]) (fun _ a σ => R (.inr a) σ) <|
    o_is 2 <|
    o_il 1 <|
    o_ic (-1) <|
    o_icmp_eq (bX3_nameHere_27 κ R) <|
    o_il 1 <|
    (bX3_nameHere_40 κ R)
def pX3_nameHere (κ : Nat → Option Nat) : PT AH := fun as σ Q => (lg_sl as).length ≤ 3 ∧ bX3_nameHere_0 κ Q (entP 3 as) [] σ
theorem nX3_nameHere : parN yX3_nameHere 0 := by unfold parN; decide +kernel
set_option maxHeartbeats 4000000 in
theorem eX3_nameHere (g : GC) : CT (wC g) yX3_nameHere (Cond.code yX3_nameHere cX3_nameHere 3 (some .int)) 2 46 (pX3_nameHere g.2.1) := by
  refine CT.of (wC_ok g) (cc := cX3_nameHere) (nL := 3) (ret := (some .int)) (ht := []) (by decide +kernel) (Or.inl ⟨rfl, rfl⟩) (B := bX3_nameHere_0 g.2.1) (fun R E X hE => ?_)
  have h40 : E (bX3_nameHere_40 g.2.1 R) 40 := by
    unfold bX3_nameHere_40
    exact si_ireturn (pc := 40) hE dX3_nameHere_40
  have h39 : E (bX3_nameHere_39 g.2.1 R) 39 := by
    unfold bX3_nameHere_39
    refine si_iconst (pc := 39) hE dX3_nameHere_39 (by decide) ?_
    exact h40
  have h27 : E (bX3_nameHere_27 g.2.1 R) 27 := by
    unfold bX3_nameHere_27
    refine si_iload_n (pc := 27) hE dX3_nameHere_27 rfl ?_
    refine si_iconst (pc := 28) hE dX3_nameHere_28 (by decide) ?_
    refine si_icmp_eq (pc := 29) hE dX3_nameHere_29 (by decide) h39 ?_
    refine si_bipush (pc := 32) hE dX3_nameHere_32 (by decide) ?_
    refine si_iload_n (pc := 34) hE dX3_nameHere_34 rfl ?_
    refine si_iadd (pc := 35) hE dX3_nameHere_35 ?_
    exact si_goto (pc := 36) hE dX3_nameHere_36 (by decide) h40
  have h0 : E (bX3_nameHere_0 g.2.1 R) 0 := by
    unfold bX3_nameHere_0
    refine si_aload_n (pc := 0) hE dX3_nameHere_0 rfl ?_
    refine si_bipush (pc := 1) hE dX3_nameHere_1 (by decide) ?_
    refine si_bipush (pc := 3) hE dX3_nameHere_3 (by decide) ?_
    refine si_hv (pc := 5) (n := 2) hE dX3_nameHere_5 ⟨cal_V (recvO cls2) (eX3_numbered g) (Or.inl ⟨rfl, rfl⟩) q582 q135 q579 q581 qs8 ⟨by decide +kernel, by decide +kernel⟩ nX3_numbered (by decide) (by decide), trivial⟩ (si_out hE rfl) ?_
    refine si_istore_n (pc := 8) hE dX3_nameHere_8 rfl (by decide) ?_
    refine si_aload_n (pc := 9) hE dX3_nameHere_9 rfl ?_
    refine si_bipush (pc := 10) hE dX3_nameHere_10 (by decide) ?_
    refine si_bipush (pc := 12) hE dX3_nameHere_12 (by decide) ?_
    refine si_hv (pc := 14) (n := 2) hE dX3_nameHere_14 ⟨cal_V (recvO cls2) (eX3_numbered g) (Or.inl ⟨rfl, rfl⟩) q582 q135 q579 q581 qs8 ⟨by decide +kernel, by decide +kernel⟩ nX3_numbered (by decide) (by decide), trivial⟩ (si_out hE rfl) ?_
    refine si_istore_n (pc := 17) hE dX3_nameHere_17 rfl (by decide) ?_
    refine si_iload_n (pc := 18) hE dX3_nameHere_18 rfl ?_
    refine si_iconst (pc := 19) hE dX3_nameHere_19 (by decide) ?_
    refine si_icmp_eq (pc := 20) hE dX3_nameHere_20 (by decide) h27 ?_
    refine si_iload_n (pc := 23) hE dX3_nameHere_23 rfl ?_
    exact si_goto (pc := 24) hE dX3_nameHere_24 (by decide) h40
  exact h0
def bX8_init_0 (κ : Nat → Option Nat) (R : Ret AH) : Cont AH :=
    o_al 0 <|
    o_oi <|
    o_al 0 <|
    o_il 1 <|
    o_pN .boolean 0 [17] <|
    o_al 0 <|
    o_il 2 <|
    o_pI 1 [17] <|
    o_return R
def pX8_init (κ : Nat → Option Nat) : PT AH := fun as σ Q => (lg_sl as).length ≤ 3 ∧ bX8_init_0 κ Q (entP 3 as) [] σ
theorem nX8_init : parN yX8_init 2 := by unfold parN; decide +kernel
set_option maxHeartbeats 4000000 in
theorem eX8_init (g : GC) : CT (wC g) yX8_init (Cond.code yX8_init cX8_init 3 none) 1 20 (pX8_init g.2.1) := by
  refine CT.of (wC_ok g) (cc := cX8_init) (nL := 3) (ret := none) (ht := []) (by decide +kernel) (Or.inl ⟨rfl, rfl⟩) (B := bX8_init_0 g.2.1) (fun R E X hE => ?_)
  have h0 : E (bX8_init_0 g.2.1 R) 0 := by
    unfold bX8_init_0
    refine si_aload_n (pc := 0) hE dX8_init_0 rfl ?_
    refine si_oi (pc := 1) hE dX8_init_1 q723 q180 q181 (by decide) (by decide) ?_
    refine si_aload_n (pc := 4) hE dX8_init_4 rfl ?_
    refine si_iload_n (pc := 5) hE dX8_init_5 rfl ?_
    refine si_pNF (pc := 6) hE rfl dX8_init_6 q724 zfo_32 zfs_19 ?_
    refine si_aload_n (pc := 9) hE dX8_init_9 rfl ?_
    refine si_iload_n (pc := 10) hE dX8_init_10 rfl ?_
    refine si_pIF (pc := 11) hE rfl dX8_init_11 q728 zfo_33 zfs_20 ?_
    exact si_return (pc := 14) hE dX8_init_14
  exact h0
def bX3_operand_69 (κ : Nat → Option Nat) (R : Ret AH) : Cont AH :=
    o_is 3 <|
    o_al 0 <|
    o_call 1 (hvc [(3, pX3_next κ)]) (fun _ a σ => R (.inr a) σ) <|
    o_new 16 2 <|
    o_dup <|
    o_ic 0 <|
    o_il 3 <|
    o_call 3 (hvi (pX8_init κ)) (fun _ a σ => R (.inr a) σ) <|
    o_areturn R
def bX3_operand_65 (κ : Nat → Option Nat) (R : Ret AH) : Cont AH :=
    o_al 0 <|
    o_gI 4 [3] <|
    (bX3_operand_69 κ R)
def bX3_operand_53 (κ : Nat → Option Nat) (R : Ret AH) : Cont AH :=
    o_il 2 <|
    o_if_eq (bX3_operand_65 κ R) <|
    o_al 0 <|
    o_gI 4 [3] <|
    o_ineg <|
    (bX3_operand_69 κ R)
def bX3_operand_39 (κ : Nat → Option Nat) (R : Ret AH) : Cont AH :=
    o_al 0 <|
    o_gI 1 [3] <|
    o_ic 3 <|
    o_icmp_eq (bX3_operand_53 κ R) <|
    o_al 0 <|
    o_ic 2 <|
    o_call 2 (hvc [(3, pX3_fault κ)]) (fun _ a σ => R (.inr a) σ) <|
    o_athrow (fun _ a σ => R (.inr a) σ)
def bX3_operand_24 (κ : Nat → Option Nat) (R : Ret AH) : Cont AH :=
    o_al 0 <|
    o_ic 45 <|
    o_call 2 (hvc [(3, pX3_isSign κ)]) (fun _ a σ => R (.inr a) σ) <|
    o_is 2 <|
    o_il 2 <|
    o_if_eq (bX3_operand_39 κ R) <|
    o_al 0 <|
    o_call 1 (hvc [(3, pX3_next κ)]) (fun _ a σ => R (.inr a) σ) <|
    (bX3_operand_39 κ R)
def bX3_operand_0 (κ : Nat → Option Nat) (R : Ret AH) : Cont AH :=
    o_al 0 <|
    o_call 1 (hvc [(3, pX3_nameHere κ)]) (fun _ a σ => R (.inr a) σ) <|
    o_is 1 <|
    o_il 1 <|
    o_ic (-1) <|
    o_icmp_eq (bX3_operand_24 κ R) <|
    o_al 0 <|
    o_call 1 (hvc [(3, pX3_next κ)]) (fun _ a σ => R (.inr a) σ) <|
    o_new 16 2 <|
    o_dup <|
    o_ic 1 <|
    o_il 1 <|
    o_call 3 (hvi (pX8_init κ)) (fun _ a σ => R (.inr a) σ) <|
    o_areturn R
def pX3_operand (κ : Nat → Option Nat) : PT AH := fun as σ Q => (lg_sl as).length ≤ 4 ∧ bX3_operand_0 κ Q (entP 4 as) [] σ
theorem nX3_operand : parN yX3_operand 0 := by unfold parN; decide +kernel
set_option maxHeartbeats 4000000 in
theorem eX3_operand (g : GC) : CT (wC g) yX3_operand (Cond.code yX3_operand cX3_operand 4 (some (.object "LateAndEarly$Operand"))) 6 135 (pX3_operand g.2.1) := by
  refine CT.of (wC_ok g) (cc := cX3_operand) (nL := 4) (ret := (some (.object "LateAndEarly$Operand"))) (ht := []) (by decide +kernel) (Or.inl ⟨rfl, rfl⟩) (B := bX3_operand_0 g.2.1) (fun R E X hE => ?_)
  have h69 : E (bX3_operand_69 g.2.1 R) 69 := by
    unfold bX3_operand_69
    refine si_istore_n (pc := 69) hE dX3_operand_69 rfl (by decide) ?_
    refine si_aload_n (pc := 70) hE dX3_operand_70 rfl ?_
    refine si_hv (pc := 71) (n := 0) hE dX3_operand_71 ⟨cal_V (recvO cls2) (eX3_next g) (Or.inl ⟨rfl, rfl⟩) q390 q135 q387 q389 qs0 ⟨by decide +kernel, by decide +kernel⟩ nX3_next (by decide) (by decide), trivial⟩ (si_out hE rfl) ?_
    refine si_new (pc := 74) hE dX3_operand_74 cls16 q718 q719 q158 df_16 ?_
    refine si_dup (pc := 77) hE dX3_operand_77 ?_
    refine si_iconst (pc := 78) hE dX3_operand_78 (by decide) ?_
    refine si_iload_n (pc := 79) hE dX3_operand_79 rfl ?_
    refine si_hi (pc := 80) (n := 2) hE dX3_operand_80 (cal_I (eX8_init g) q722 q158 q720 q721 rfl ⟨by decide +kernel, by decide +kernel⟩ nX8_init (by decide) (by decide)) (si_out hE rfl) ?_
    exact si_areturn (pc := 83) hE (Or.inl ⟨_, rfl⟩) dX3_operand_83
  have h65 : E (bX3_operand_65 g.2.1 R) 65 := by
    unfold bX3_operand_65
    refine si_aload_n (pc := 65) hE dX3_operand_65 rfl ?_
    refine si_gI (pc := 66) hE dX3_operand_66 (Or.inl q359) zfo_27 ?_
    exact h69
  have h53 : E (bX3_operand_53 g.2.1 R) 53 := by
    unfold bX3_operand_53
    refine si_iload_n (pc := 53) hE dX3_operand_53 rfl ?_
    refine si_if_eq (pc := 54) hE dX3_operand_54 (by decide) h65 ?_
    refine si_aload_n (pc := 57) hE dX3_operand_57 rfl ?_
    refine si_gI (pc := 58) hE dX3_operand_58 (Or.inl q359) zfo_27 ?_
    refine si_ineg (pc := 61) hE dX3_operand_61 ?_
    exact si_goto (pc := 62) hE dX3_operand_62 (by decide) h69
  have h39 : E (bX3_operand_39 g.2.1 R) 39 := by
    unfold bX3_operand_39
    refine si_aload_n (pc := 39) hE dX3_operand_39 rfl ?_
    refine si_gI (pc := 40) hE dX3_operand_40 (Or.inl q356) zfo_28 ?_
    refine si_iconst (pc := 43) hE dX3_operand_43 (by decide) ?_
    refine si_icmp_eq (pc := 44) hE dX3_operand_44 (by decide) h53 ?_
    refine si_aload_n (pc := 47) hE dX3_operand_47 rfl ?_
    refine si_iconst (pc := 48) hE dX3_operand_48 (by decide) ?_
    refine si_hv (pc := 49) (n := 1) hE dX3_operand_49 ⟨cal_V (recvO cls2) (eX3_fault g) (Or.inl ⟨rfl, rfl⟩) q505 q135 q502 q504 qs6 ⟨by decide +kernel, by decide +kernel⟩ nX3_fault (by decide) (by decide), trivial⟩ (si_out hE rfl) ?_
    exact si_athrow (pc := 52) hE dX3_operand_52 (si_out hE rfl)
  have h24 : E (bX3_operand_24 g.2.1 R) 24 := by
    unfold bX3_operand_24
    refine si_aload_n (pc := 24) hE dX3_operand_24 rfl ?_
    refine si_bipush (pc := 25) hE dX3_operand_25 (by decide) ?_
    refine si_hv (pc := 27) (n := 1) hE dX3_operand_27 ⟨cal_V (recvO cls2) (eX3_isSign g) (Or.inl ⟨rfl, rfl⟩) q674 q135 q671 q673 qs13 ⟨by decide +kernel, by decide +kernel⟩ nX3_isSign (by decide) (by decide), trivial⟩ (si_out hE rfl) ?_
    refine si_istore_n (pc := 30) hE dX3_operand_30 rfl (by decide) ?_
    refine si_iload_n (pc := 31) hE dX3_operand_31 rfl ?_
    refine si_if_eq (pc := 32) hE dX3_operand_32 (by decide) h39 ?_
    refine si_aload_n (pc := 35) hE dX3_operand_35 rfl ?_
    refine si_hv (pc := 36) (n := 0) hE dX3_operand_36 ⟨cal_V (recvO cls2) (eX3_next g) (Or.inl ⟨rfl, rfl⟩) q390 q135 q387 q389 qs0 ⟨by decide +kernel, by decide +kernel⟩ nX3_next (by decide) (by decide), trivial⟩ (si_out hE rfl) ?_
    exact h39
  have h0 : E (bX3_operand_0 g.2.1 R) 0 := by
    unfold bX3_operand_0
    refine si_aload_n (pc := 0) hE dX3_operand_0 rfl ?_
    refine si_hv (pc := 1) (n := 0) hE dX3_operand_1 ⟨cal_V (recvO cls2) (eX3_nameHere g) (Or.inl ⟨rfl, rfl⟩) q707 q135 q704 q706 qs15 ⟨by decide +kernel, by decide +kernel⟩ nX3_nameHere (by decide) (by decide), trivial⟩ (si_out hE rfl) ?_
    refine si_istore_n (pc := 4) hE dX3_operand_4 rfl (by decide) ?_
    refine si_iload_n (pc := 5) hE dX3_operand_5 rfl ?_
    refine si_iconst (pc := 6) hE dX3_operand_6 (by decide) ?_
    refine si_icmp_eq (pc := 7) hE dX3_operand_7 (by decide) h24 ?_
    refine si_aload_n (pc := 10) hE dX3_operand_10 rfl ?_
    refine si_hv (pc := 11) (n := 0) hE dX3_operand_11 ⟨cal_V (recvO cls2) (eX3_next g) (Or.inl ⟨rfl, rfl⟩) q390 q135 q387 q389 qs0 ⟨by decide +kernel, by decide +kernel⟩ nX3_next (by decide) (by decide), trivial⟩ (si_out hE rfl) ?_
    refine si_new (pc := 14) hE dX3_operand_14 cls16 q718 q719 q158 df_16 ?_
    refine si_dup (pc := 17) hE dX3_operand_17 ?_
    refine si_iconst (pc := 18) hE dX3_operand_18 (by decide) ?_
    refine si_iload_n (pc := 19) hE dX3_operand_19 rfl ?_
    refine si_hi (pc := 20) (n := 2) hE dX3_operand_20 (cal_I (eX8_init g) q722 q158 q720 q721 rfl ⟨by decide +kernel, by decide +kernel⟩ nX8_init (by decide) (by decide)) (si_out hE rfl) ?_
    exact si_areturn (pc := 23) hE (Or.inl ⟨_, rfl⟩) dX3_operand_23
  exact h0
def bX6_init_0 (κ : Nat → Option Nat) (R : Ret AH) : Cont AH :=
    o_al 0 <|
    o_oi <|
    o_al 0 <|
    o_new 18 3 <|
    o_dup <|
    o_call 1 (hvi (pJ2_init κ)) (fun _ a σ => R (.inr a) σ) <|
    o_pR 2 [7, 8, 9, 10, 11, 12, 13, 14] <|
    o_al 0 <|
    o_new 18 3 <|
    o_dup <|
    o_call 1 (hvi (pJ2_init κ)) (fun _ a σ => R (.inr a) σ) <|
    o_pR 3 [7, 8, 9, 10, 11, 12, 13, 14] <|
    o_return R
def pX6_init (κ : Nat → Option Nat) : PT AH := fun as σ Q => (lg_sl as).length ≤ 1 ∧ bX6_init_0 κ Q (entP 1 as) [] σ
theorem nX6_init : parN yX6_init 0 := by unfold parN; decide +kernel
set_option maxHeartbeats 4000000 in
theorem eX6_init (g : GC) : CT (wC g) yX6_init (Cond.code yX6_init cX6_init 1 none) 4 80 (pX6_init g.2.1) := by
  refine CT.of (wC_ok g) (cc := cX6_init) (nL := 1) (ret := none) (ht := []) (by decide +kernel) (Or.inl ⟨rfl, rfl⟩) (B := bX6_init_0 g.2.1) (fun R E X hE => ?_)
  have h0 : E (bX6_init_0 g.2.1 R) 0 := by
    unfold bX6_init_0
    refine si_aload_n (pc := 0) hE dX6_init_0 rfl ?_
    refine si_oi (pc := 1) hE dX6_init_1 q743 q180 q181 (by decide) (by decide) ?_
    refine si_aload_n (pc := 4) hE dX6_init_4 rfl ?_
    refine si_new (pc := 5) hE dX6_init_5 cls18 q744 q264 q139 df_18 ?_
    refine si_dup (pc := 8) hE dX6_init_8 ?_
    refine si_hi (pc := 9) (n := 0) hE dX6_init_9 (cal_I (eJ2_init g) q267 q139 q745 q266 rfl ⟨by decide +kernel, by decide +kernel⟩ nJ2_init (by decide) (by decide)) (si_out hE rfl) ?_
    refine si_pRF (pc := 12) hE rfl dX6_init_12 q758 zfo_34 zfs_21 (Or.inl ⟨_, rfl⟩) ?_
    refine si_aload_n (pc := 15) hE dX6_init_15 rfl ?_
    refine si_new (pc := 16) hE dX6_init_16 cls18 q744 q264 q139 df_18 ?_
    refine si_dup (pc := 19) hE dX6_init_19 ?_
    refine si_hi (pc := 20) (n := 0) hE dX6_init_20 (cal_I (eJ2_init g) q267 q139 q745 q266 rfl ⟨by decide +kernel, by decide +kernel⟩ nJ2_init (by decide) (by decide)) (si_out hE rfl) ?_
    refine si_pRF (pc := 23) hE rfl dX6_init_23 q765 zfo_35 zfs_22 (Or.inl ⟨_, rfl⟩) ?_
    exact si_return (pc := 26) hE dX6_init_26
  exact h0
def bX7_init_0 (κ : Nat → Option Nat) (R : Ret AH) : Cont AH :=
    o_al 0 <|
    o_call 1 (hvi (pX6_init κ)) (fun _ a σ => R (.inr a) σ) <|
    o_al 0 <|
    o_al 1 <|
    o_pR 4 [10] <|
    o_return R
def pX7_init (κ : Nat → Option Nat) : PT AH := fun as σ Q => (lg_sl as).length ≤ 2 ∧ bX7_init_0 κ Q (entP 2 as) [] σ
theorem nX7_init : parN yX7_init 1 := by unfold parN; decide +kernel
set_option maxHeartbeats 4000000 in
theorem eX7_init (g : GC) : CT (wC g) yX7_init (Cond.code yX7_init cX7_init 2 none) 5 100 (pX7_init g.2.1) := by
  refine CT.of (wC_ok g) (cc := cX7_init) (nL := 2) (ret := none) (ht := []) (by decide +kernel) (Or.inl ⟨rfl, rfl⟩) (B := bX7_init_0 g.2.1) (fun R E X hE => ?_)
  have h0 : E (bX7_init_0 g.2.1 R) 0 := by
    unfold bX7_init_0
    refine si_aload_n (pc := 0) hE dX7_init_0 rfl ?_
    refine si_hi (pc := 1) (n := 0) hE dX7_init_1 (cal_IN (eX6_init g) q742 q156 q740 q741 rfl ⟨by decide +kernel, by decide +kernel⟩ nX6_init (by decide) (by decide)) (si_out hE rfl) ?_
    refine si_aload_n (pc := 4) hE dX7_init_4 rfl ?_
    refine si_aload_n (pc := 5) hE dX7_init_5 rfl ?_
    refine si_pRF (pc := 6) hE rfl dX7_init_6 q746 zfo_36 zfs_23 (Or.inl ⟨_, rfl⟩) ?_
    exact si_return (pc := 9) hE dX7_init_9
  exact h0
def bX9_init_0 (κ : Nat → Option Nat) (R : Ret AH) : Cont AH :=
    o_al 0 <|
    o_call 1 (hvi (pX6_init κ)) (fun _ a σ => R (.inr a) σ) <|
    o_return R
def pX9_init (κ : Nat → Option Nat) : PT AH := fun as σ Q => (lg_sl as).length ≤ 1 ∧ bX9_init_0 κ Q (entP 1 as) [] σ
theorem nX9_init : parN yX9_init 0 := by unfold parN; decide +kernel
set_option maxHeartbeats 4000000 in
theorem eX9_init (g : GC) : CT (wC g) yX9_init (Cond.code yX9_init cX9_init 1 none) 5 100 (pX9_init g.2.1) := by
  refine CT.of (wC_ok g) (cc := cX9_init) (nL := 1) (ret := none) (ht := []) (by decide +kernel) (Or.inl ⟨rfl, rfl⟩) (B := bX9_init_0 g.2.1) (fun R E X hE => ?_)
  have h0 : E (bX9_init_0 g.2.1 R) 0 := by
    unfold bX9_init_0
    refine si_aload_n (pc := 0) hE dX9_init_0 rfl ?_
    refine si_hi (pc := 1) (n := 0) hE dX9_init_1 (cal_IN (eX6_init g) q742 q156 q787 q741 rfl ⟨by decide +kernel, by decide +kernel⟩ nX6_init (by decide) (by decide)) (si_out hE rfl) ?_
    exact si_return (pc := 4) hE dX9_init_4
  exact h0
def bX10_init_0 (κ : Nat → Option Nat) (R : Ret AH) : Cont AH :=
    o_al 0 <|
    o_call 1 (hvi (pX9_init κ)) (fun _ a σ => R (.inr a) σ) <|
    o_return R
def pX10_init (κ : Nat → Option Nat) : PT AH := fun as σ Q => (lg_sl as).length ≤ 1 ∧ bX10_init_0 κ Q (entP 1 as) [] σ
theorem nX10_init : parN yX10_init 0 := by unfold parN; decide +kernel
set_option maxHeartbeats 4000000 in
theorem eX10_init (g : GC) : CT (wC g) yX10_init (Cond.code yX10_init cX10_init 1 none) 6 120 (pX10_init g.2.1) := by
  refine CT.of (wC_ok g) (cc := cX10_init) (nL := 1) (ret := none) (ht := []) (by decide +kernel) (Or.inl ⟨rfl, rfl⟩) (B := bX10_init_0 g.2.1) (fun R E X hE => ?_)
  have h0 : E (bX10_init_0 g.2.1 R) 0 := by
    unfold bX10_init_0
    refine si_aload_n (pc := 0) hE dX10_init_0 rfl ?_
    refine si_hi (pc := 1) (n := 0) hE dX10_init_1 (cal_IN (eX9_init g) q786 q159 q784 q785 rfl ⟨by decide +kernel, by decide +kernel⟩ nX9_init (by decide) (by decide)) (si_out hE rfl) ?_
    exact si_return (pc := 4) hE dX10_init_4
  exact h0
def bX3_target_20 (κ : Nat → Option Nat) (R : Ret AH) : Cont AH :=
    o_al 0 <|
    o_gR 5 [3] <|
    o_il 1 <|
    o_call 1 (pJ13_valueOf κ) (fun _ a σ => R (.inr a) σ) <|
    o_call 2 (hvc [(19, pJ2_add κ)]) (fun _ a σ => R (.inr a) σ) <|
    o_pop <|
    o_al 0 <|
    o_gR 6 [3] <|
    o_al 0 <|
    o_gI 2 [3] <|
    o_call 1 (pJ13_valueOf κ) (fun _ a σ => R (.inr a) σ) <|
    o_call 2 (hvc [(19, pJ2_add κ)]) (fun _ a σ => R (.inr a) σ) <|
    o_pop <|
    o_al 0 <|
    o_call 1 (hvc [(3, pX3_next κ)]) (fun _ a σ => R (.inr a) σ) <|
    o_il 1 <|
    o_ireturn R
def bX3_target_0 (κ : Nat → Option Nat) (R : Ret AH) : Cont AH :=
    o_al 0 <|
    o_ic 98 <|
    o_ic 39 <|
    o_call 3 (hvc [(3, pX3_numbered κ)]) (fun _ a σ => R (.inr a) σ) <|
    o_is 1 <|
    o_il 1 <|
    o_ic (-1) <|
    o_icmp_ne (bX3_target_20 κ R) <|
    o_al 0 <|
    o_ic 2 <|
    o_call 2 (hvc [(3, pX3_fault κ)]) (fun _ a σ => R (.inr a) σ) <|
    o_athrow (fun _ a σ => R (.inr a) σ)
def pX3_target (κ : Nat → Option Nat) : PT AH := fun as σ Q => (lg_sl as).length ≤ 2 ∧ bX3_target_0 κ Q (entP 2 as) [] σ
theorem nX3_target : parN yX3_target 0 := by unfold parN; decide +kernel
set_option maxHeartbeats 4000000 in
theorem eX3_target (g : GC) : CT (wC g) yX3_target (Cond.code yX3_target cX3_target 2 (some .int)) 7 191 (pX3_target g.2.1) := by
  refine CT.of (wC_ok g) (cc := cX3_target) (nL := 2) (ret := (some .int)) (ht := []) (by decide +kernel) (Or.inl ⟨rfl, rfl⟩) (B := bX3_target_0 g.2.1) (fun R E X hE => ?_)
  have h20 : E (bX3_target_20 g.2.1 R) 20 := by
    unfold bX3_target_20
    refine si_aload_n (pc := 20) hE dX3_target_20 rfl ?_
    refine si_gR (pc := 21) hE dX3_target_21 (Or.inl q360) zfo_23 ?_
    refine si_iload_n (pc := 24) hE dX3_target_24 rfl ?_
    refine si_hs (pc := 25) (n := 1) hE dX3_target_25 (cal_S (eJ13_valueOf g) (Or.inl ⟨rfl, rfl⟩) q585 q151 q583 q584 ⟨by decide +kernel, by decide +kernel⟩ nJ13_valueOf (by decide) (by decide)) (si_out hE rfl) ?_
    refine si_hv (pc := 28) (n := 1) hE dX3_target_28 ⟨cal_V (recvO cls18) (eJ2_add g) (Or.inl ⟨rfl, rfl⟩) q606 q139 q603 q604 q605 ⟨by decide +kernel, by decide +kernel⟩ nJ2_add (by decide) (by decide), trivial⟩ (si_out hE rfl) ?_
    refine si_pop (pc := 31) hE dX3_target_31 ?_
    refine si_aload_n (pc := 32) hE dX3_target_32 rfl ?_
    refine si_gR (pc := 33) hE dX3_target_33 (Or.inl q361) zfo_24 ?_
    refine si_aload_n (pc := 36) hE dX3_target_36 rfl ?_
    refine si_gI (pc := 37) hE dX3_target_37 (Or.inl q357) zfo_29 ?_
    refine si_hs (pc := 40) (n := 1) hE dX3_target_40 (cal_S (eJ13_valueOf g) (Or.inl ⟨rfl, rfl⟩) q585 q151 q583 q584 ⟨by decide +kernel, by decide +kernel⟩ nJ13_valueOf (by decide) (by decide)) (si_out hE rfl) ?_
    refine si_hv (pc := 43) (n := 1) hE dX3_target_43 ⟨cal_V (recvO cls18) (eJ2_add g) (Or.inl ⟨rfl, rfl⟩) q606 q139 q603 q604 q605 ⟨by decide +kernel, by decide +kernel⟩ nJ2_add (by decide) (by decide), trivial⟩ (si_out hE rfl) ?_
    refine si_pop (pc := 46) hE dX3_target_46 ?_
    refine si_aload_n (pc := 47) hE dX3_target_47 rfl ?_
    refine si_hv (pc := 48) (n := 0) hE dX3_target_48 ⟨cal_V (recvO cls2) (eX3_next g) (Or.inl ⟨rfl, rfl⟩) q390 q135 q387 q389 qs0 ⟨by decide +kernel, by decide +kernel⟩ nX3_next (by decide) (by decide), trivial⟩ (si_out hE rfl) ?_
    refine si_iload_n (pc := 51) hE dX3_target_51 rfl ?_
    exact si_ireturn (pc := 52) hE dX3_target_52
  have h0 : E (bX3_target_0 g.2.1 R) 0 := by
    unfold bX3_target_0
    refine si_aload_n (pc := 0) hE dX3_target_0 rfl ?_
    refine si_bipush (pc := 1) hE dX3_target_1 (by decide) ?_
    refine si_bipush (pc := 3) hE dX3_target_3 (by decide) ?_
    refine si_hv (pc := 5) (n := 2) hE dX3_target_5 ⟨cal_V (recvO cls2) (eX3_numbered g) (Or.inl ⟨rfl, rfl⟩) q582 q135 q579 q581 qs8 ⟨by decide +kernel, by decide +kernel⟩ nX3_numbered (by decide) (by decide), trivial⟩ (si_out hE rfl) ?_
    refine si_istore_n (pc := 8) hE dX3_target_8 rfl (by decide) ?_
    refine si_iload_n (pc := 9) hE dX3_target_9 rfl ?_
    refine si_iconst (pc := 10) hE dX3_target_10 (by decide) ?_
    refine si_icmp_ne (pc := 11) hE dX3_target_11 (by decide) h20 ?_
    refine si_aload_n (pc := 14) hE dX3_target_14 rfl ?_
    refine si_iconst (pc := 15) hE dX3_target_15 (by decide) ?_
    refine si_hv (pc := 16) (n := 1) hE dX3_target_16 ⟨cal_V (recvO cls2) (eX3_fault g) (Or.inl ⟨rfl, rfl⟩) q505 q135 q502 q504 qs6 ⟨by decide +kernel, by decide +kernel⟩ nX3_fault (by decide) (by decide), trivial⟩ (si_out hE rfl) ?_
    exact si_athrow (pc := 19) hE dX3_target_19 (si_out hE rfl)
  exact h0
def bX11_init_0 (κ : Nat → Option Nat) (R : Ret AH) : Cont AH :=
    o_al 0 <|
    o_call 1 (hvi (pX9_init κ)) (fun _ a σ => R (.inr a) σ) <|
    o_al 0 <|
    o_il 1 <|
    o_pI 4 [11] <|
    o_return R
def pX11_init (κ : Nat → Option Nat) : PT AH := fun as σ Q => (lg_sl as).length ≤ 2 ∧ bX11_init_0 κ Q (entP 2 as) [] σ
theorem nX11_init : parN yX11_init 1 := by unfold parN; decide +kernel
set_option maxHeartbeats 4000000 in
theorem eX11_init (g : GC) : CT (wC g) yX11_init (Cond.code yX11_init cX11_init 2 none) 6 120 (pX11_init g.2.1) := by
  refine CT.of (wC_ok g) (cc := cX11_init) (nL := 2) (ret := none) (ht := []) (by decide +kernel) (Or.inl ⟨rfl, rfl⟩) (B := bX11_init_0 g.2.1) (fun R E X hE => ?_)
  have h0 : E (bX11_init_0 g.2.1 R) 0 := by
    unfold bX11_init_0
    refine si_aload_n (pc := 0) hE dX11_init_0 rfl ?_
    refine si_hi (pc := 1) (n := 0) hE dX11_init_1 (cal_IN (eX9_init g) q786 q159 q802 q785 rfl ⟨by decide +kernel, by decide +kernel⟩ nX9_init (by decide) (by decide)) (si_out hE rfl) ?_
    refine si_aload_n (pc := 4) hE dX11_init_4 rfl ?_
    refine si_iload_n (pc := 5) hE dX11_init_5 rfl ?_
    refine si_pIF (pc := 6) hE rfl dX11_init_6 q803 zfo_37 zfs_24 ?_
    exact si_return (pc := 9) hE dX11_init_9
  exact h0
def bX12_init_0 (κ : Nat → Option Nat) (R : Ret AH) : Cont AH :=
    o_al 0 <|
    o_call 1 (hvi (pX9_init κ)) (fun _ a σ => R (.inr a) σ) <|
    o_al 0 <|
    o_al 1 <|
    o_pR 4 [12] <|
    o_al 0 <|
    o_al 2 <|
    o_pR 5 [12] <|
    o_al 0 <|
    o_il 3 <|
    o_pI 6 [12] <|
    o_al 0 <|
    o_il 4 <|
    o_pI 7 [12] <|
    o_return R
def pX12_init (κ : Nat → Option Nat) : PT AH := fun as σ Q => (lg_sl as).length ≤ 5 ∧ bX12_init_0 κ Q (entP 5 as) [] σ
theorem nX12_init : parN yX12_init 4 := by unfold parN; decide +kernel
set_option maxHeartbeats 4000000 in
theorem eX12_init (g : GC) : CT (wC g) yX12_init (Cond.code yX12_init cX12_init 5 none) 6 120 (pX12_init g.2.1) := by
  refine CT.of (wC_ok g) (cc := cX12_init) (nL := 5) (ret := none) (ht := []) (by decide +kernel) (Or.inl ⟨rfl, rfl⟩) (B := bX12_init_0 g.2.1) (fun R E X hE => ?_)
  have h0 : E (bX12_init_0 g.2.1 R) 0 := by
    unfold bX12_init_0
    refine si_aload_n (pc := 0) hE dX12_init_0 rfl ?_
    refine si_hi (pc := 1) (n := 0) hE dX12_init_1 (cal_IN (eX9_init g) q786 q159 q820 q785 rfl ⟨by decide +kernel, by decide +kernel⟩ nX9_init (by decide) (by decide)) (si_out hE rfl) ?_
    refine si_aload_n (pc := 4) hE dX12_init_4 rfl ?_
    refine si_aload_n (pc := 5) hE dX12_init_5 rfl ?_
    refine si_pRF (pc := 6) hE rfl dX12_init_6 q821 zfo_38 zfs_25 (Or.inl ⟨_, rfl⟩) ?_
    refine si_aload_n (pc := 9) hE dX12_init_9 rfl ?_
    refine si_aload_n (pc := 10) hE dX12_init_10 rfl ?_
    refine si_pRF (pc := 11) hE rfl dX12_init_11 q825 zfo_39 zfs_26 (Or.inl ⟨_, rfl⟩) ?_
    refine si_aload_n (pc := 14) hE dX12_init_14 rfl ?_
    refine si_iload_n (pc := 15) hE dX12_init_15 rfl ?_
    refine si_pIF (pc := 16) hE rfl dX12_init_16 q829 zfo_40 zfs_27 ?_
    refine si_aload_n (pc := 19) hE dX12_init_19 rfl ?_
    refine si_iload (pc := 20) hE dX12_init_20 ?_
    refine si_pIF (pc := 22) hE rfl dX12_init_22 q830 zfo_41 zfs_28 ?_
    exact si_return (pc := 25) hE dX12_init_25
  exact h0
def bX3_test_0 (κ : Nat → Option Nat) (R : Ret AH) : Cont AH :=
    o_al 0 <|
    o_call 1 (hvc [(3, pX3_next κ)]) (fun _ a σ => R (.inr a) σ) <|
    o_al 0 <|
    o_call 1 (hvc [(3, pX3_operand κ)]) (fun _ a σ => R (.inr a) σ) <|
    o_as 1 <|
    o_al 0 <|
    o_ic 60 <|
    o_call 2 (hvc [(3, pX3_sign κ)]) (fun _ a σ => R (.inr a) σ) <|
    o_al 0 <|
    o_call 1 (hvc [(3, pX3_operand κ)]) (fun _ a σ => R (.inr a) σ) <|
    o_as 2 <|
    o_al 0 <|
    o_call 1 (hvc [(3, pX3_target κ)]) (fun _ a σ => R (.inr a) σ) <|
    o_is 3 <|
    o_new 11 8 <|
    o_dup <|
    o_al 1 <|
    o_al 2 <|
    o_il 3 <|
    o_al 0 <|
    o_call 1 (hvc [(3, pX3_target κ)]) (fun _ a σ => R (.inr a) σ) <|
    o_call 5 (hvi (pX12_init κ)) (fun _ a σ => R (.inr a) σ) <|
    o_areturn R
def pX3_test (κ : Nat → Option Nat) : PT AH := fun as σ Q => (lg_sl as).length ≤ 4 ∧ bX3_test_0 κ Q (entP 4 as) [] σ
theorem nX3_test : parN yX3_test 0 := by unfold parN; decide +kernel
set_option maxHeartbeats 4000000 in
theorem eX3_test (g : GC) : CT (wC g) yX3_test (Cond.code yX3_test cX3_test 4 (some (.object "LateAndEarly$Node"))) 8 212 (pX3_test g.2.1) := by
  refine CT.of (wC_ok g) (cc := cX3_test) (nL := 4) (ret := (some (.object "LateAndEarly$Node"))) (ht := []) (by decide +kernel) (Or.inl ⟨rfl, rfl⟩) (B := bX3_test_0 g.2.1) (fun R E X hE => ?_)
  have h0 : E (bX3_test_0 g.2.1 R) 0 := by
    unfold bX3_test_0
    refine si_aload_n (pc := 0) hE dX3_test_0 rfl ?_
    refine si_hv (pc := 1) (n := 0) hE dX3_test_1 ⟨cal_V (recvO cls2) (eX3_next g) (Or.inl ⟨rfl, rfl⟩) q390 q135 q387 q389 qs0 ⟨by decide +kernel, by decide +kernel⟩ nX3_next (by decide) (by decide), trivial⟩ (si_out hE rfl) ?_
    refine si_aload_n (pc := 4) hE dX3_test_4 rfl ?_
    refine si_hv (pc := 5) (n := 0) hE dX3_test_5 ⟨cal_V (recvO cls2) (eX3_operand g) (Or.inl ⟨rfl, rfl⟩) q717 q135 q714 q716 qs17 ⟨by decide +kernel, by decide +kernel⟩ nX3_operand (by decide) (by decide), trivial⟩ (si_out hE rfl) ?_
    refine si_astore_n (pc := 8) hE dX3_test_8 rfl (by decide) ?_
    refine si_aload_n (pc := 9) hE dX3_test_9 rfl ?_
    refine si_bipush (pc := 10) hE dX3_test_10 (by decide) ?_
    refine si_hv (pc := 12) (n := 1) hE dX3_test_12 ⟨cal_V (recvO cls2) (eX3_sign g) (Or.inl ⟨rfl, rfl⟩) q670 q135 q667 q669 qs12 ⟨by decide +kernel, by decide +kernel⟩ nX3_sign (by decide) (by decide), trivial⟩ (si_out hE rfl) ?_
    refine si_aload_n (pc := 15) hE dX3_test_15 rfl ?_
    refine si_hv (pc := 16) (n := 0) hE dX3_test_16 ⟨cal_V (recvO cls2) (eX3_operand g) (Or.inl ⟨rfl, rfl⟩) q717 q135 q714 q716 qs17 ⟨by decide +kernel, by decide +kernel⟩ nX3_operand (by decide) (by decide), trivial⟩ (si_out hE rfl) ?_
    refine si_astore_n (pc := 19) hE dX3_test_19 rfl (by decide) ?_
    refine si_aload_n (pc := 20) hE dX3_test_20 rfl ?_
    refine si_hv (pc := 21) (n := 0) hE dX3_test_21 ⟨cal_V (recvO cls2) (eX3_target g) (Or.inl ⟨rfl, rfl⟩) q798 q135 q795 q797 qs18 ⟨by decide +kernel, by decide +kernel⟩ nX3_target (by decide) (by decide), trivial⟩ (si_out hE rfl) ?_
    refine si_istore_n (pc := 24) hE dX3_test_24 rfl (by decide) ?_
    refine si_new (pc := 25) hE dX3_test_25 cls11 q815 q816 q162 df_11 ?_
    refine si_dup (pc := 28) hE dX3_test_28 ?_
    refine si_aload_n (pc := 29) hE dX3_test_29 rfl ?_
    refine si_aload_n (pc := 30) hE dX3_test_30 rfl ?_
    refine si_iload_n (pc := 31) hE dX3_test_31 rfl ?_
    refine si_aload_n (pc := 32) hE dX3_test_32 rfl ?_
    refine si_hv (pc := 33) (n := 0) hE dX3_test_33 ⟨cal_V (recvO cls2) (eX3_target g) (Or.inl ⟨rfl, rfl⟩) q798 q135 q795 q797 qs18 ⟨by decide +kernel, by decide +kernel⟩ nX3_target (by decide) (by decide), trivial⟩ (si_out hE rfl) ?_
    refine si_hi (pc := 36) (n := 4) hE dX3_test_36 (cal_I (eX12_init g) q819 q162 q817 q818 rfl ⟨by decide +kernel, by decide +kernel⟩ nX12_init (by decide) (by decide)) (si_out hE rfl) ?_
    exact si_areturn (pc := 39) hE (Or.inl ⟨_, rfl⟩) dX3_test_39
  exact h0
def bX13_init_0 (κ : Nat → Option Nat) (R : Ret AH) : Cont AH :=
    o_al 0 <|
    o_call 1 (hvi (pX6_init κ)) (fun _ a σ => R (.inr a) σ) <|
    o_al 0 <|
    o_il 1 <|
    o_pI 4 [9] <|
    o_al 0 <|
    o_al 2 <|
    o_pR 5 [9] <|
    o_al 0 <|
    o_al 3 <|
    o_pR 6 [9] <|
    o_return R
def pX13_init (κ : Nat → Option Nat) : PT AH := fun as σ Q => (lg_sl as).length ≤ 4 ∧ bX13_init_0 κ Q (entP 4 as) [] σ
theorem nX13_init : parN yX13_init 3 := by unfold parN; decide +kernel
set_option maxHeartbeats 4000000 in
theorem eX13_init (g : GC) : CT (wC g) yX13_init (Cond.code yX13_init cX13_init 4 none) 5 100 (pX13_init g.2.1) := by
  refine CT.of (wC_ok g) (cc := cX13_init) (nL := 4) (ret := none) (ht := []) (by decide +kernel) (Or.inl ⟨rfl, rfl⟩) (B := bX13_init_0 g.2.1) (fun R E X hE => ?_)
  have h0 : E (bX13_init_0 g.2.1 R) 0 := by
    unfold bX13_init_0
    refine si_aload_n (pc := 0) hE dX13_init_0 rfl ?_
    refine si_hi (pc := 1) (n := 0) hE dX13_init_1 (cal_IN (eX6_init g) q742 q156 q853 q741 rfl ⟨by decide +kernel, by decide +kernel⟩ nX6_init (by decide) (by decide)) (si_out hE rfl) ?_
    refine si_aload_n (pc := 4) hE dX13_init_4 rfl ?_
    refine si_iload_n (pc := 5) hE dX13_init_5 rfl ?_
    refine si_pIF (pc := 6) hE rfl dX13_init_6 q854 zfo_42 zfs_29 ?_
    refine si_aload_n (pc := 9) hE dX13_init_9 rfl ?_
    refine si_aload_n (pc := 10) hE dX13_init_10 rfl ?_
    refine si_pRF (pc := 11) hE rfl dX13_init_11 q857 zfo_43 zfs_30 (Or.inl ⟨_, rfl⟩) ?_
    refine si_aload_n (pc := 14) hE dX13_init_14 rfl ?_
    refine si_aload_n (pc := 15) hE dX13_init_15 rfl ?_
    refine si_pRF (pc := 16) hE rfl dX13_init_16 q861 zfo_44 zfs_31 (Or.inl ⟨_, rfl⟩) ?_
    exact si_return (pc := 19) hE dX13_init_19
  exact h0
def bX3_write_0 (κ : Nat → Option Nat) (R : Ret AH) : Cont AH :=
    o_al 0 <|
    o_ic 114 <|
    o_ic 1 <|
    o_call 3 (hvc [(3, pX3_numbered κ)]) (fun _ a σ => R (.inr a) σ) <|
    o_is 1 <|
    o_al 0 <|
    o_call 1 (hvc [(3, pX3_next κ)]) (fun _ a σ => R (.inr a) σ) <|
    o_al 0 <|
    o_ic 91 <|
    o_call 2 (hvc [(3, pX3_sign κ)]) (fun _ a σ => R (.inr a) σ) <|
    o_al 0 <|
    o_call 1 (hvc [(3, pX3_operand κ)]) (fun _ a σ => R (.inr a) σ) <|
    o_as 2 <|
    o_al 0 <|
    o_ic 93 <|
    o_call 2 (hvc [(3, pX3_sign κ)]) (fun _ a σ => R (.inr a) σ) <|
    o_al 0 <|
    o_ic 61 <|
    o_call 2 (hvc [(3, pX3_sign κ)]) (fun _ a σ => R (.inr a) σ) <|
    o_new 8 7 <|
    o_dup <|
    o_il 1 <|
    o_al 2 <|
    o_al 0 <|
    o_call 1 (hvc [(3, pX3_operand κ)]) (fun _ a σ => R (.inr a) σ) <|
    o_call 4 (hvi (pX13_init κ)) (fun _ a σ => R (.inr a) σ) <|
    o_areturn R
def pX3_write (κ : Nat → Option Nat) : PT AH := fun as σ Q => (lg_sl as).length ≤ 3 ∧ bX3_write_0 κ Q (entP 3 as) [] σ
theorem nX3_write : parN yX3_write 0 := by unfold parN; decide +kernel
set_option maxHeartbeats 4000000 in
theorem eX3_write (g : GC) : CT (wC g) yX3_write (Cond.code yX3_write cX3_write 3 (some (.object "LateAndEarly$Node"))) 7 158 (pX3_write g.2.1) := by
  refine CT.of (wC_ok g) (cc := cX3_write) (nL := 3) (ret := (some (.object "LateAndEarly$Node"))) (ht := []) (by decide +kernel) (Or.inl ⟨rfl, rfl⟩) (B := bX3_write_0 g.2.1) (fun R E X hE => ?_)
  have h0 : E (bX3_write_0 g.2.1 R) 0 := by
    unfold bX3_write_0
    refine si_aload_n (pc := 0) hE dX3_write_0 rfl ?_
    refine si_bipush (pc := 1) hE dX3_write_1 (by decide) ?_
    refine si_iconst (pc := 3) hE dX3_write_3 (by decide) ?_
    refine si_hv (pc := 4) (n := 2) hE dX3_write_4 ⟨cal_V (recvO cls2) (eX3_numbered g) (Or.inl ⟨rfl, rfl⟩) q582 q135 q579 q581 qs8 ⟨by decide +kernel, by decide +kernel⟩ nX3_numbered (by decide) (by decide), trivial⟩ (si_out hE rfl) ?_
    refine si_istore_n (pc := 7) hE dX3_write_7 rfl (by decide) ?_
    refine si_aload_n (pc := 8) hE dX3_write_8 rfl ?_
    refine si_hv (pc := 9) (n := 0) hE dX3_write_9 ⟨cal_V (recvO cls2) (eX3_next g) (Or.inl ⟨rfl, rfl⟩) q390 q135 q387 q389 qs0 ⟨by decide +kernel, by decide +kernel⟩ nX3_next (by decide) (by decide), trivial⟩ (si_out hE rfl) ?_
    refine si_aload_n (pc := 12) hE dX3_write_12 rfl ?_
    refine si_bipush (pc := 13) hE dX3_write_13 (by decide) ?_
    refine si_hv (pc := 15) (n := 1) hE dX3_write_15 ⟨cal_V (recvO cls2) (eX3_sign g) (Or.inl ⟨rfl, rfl⟩) q670 q135 q667 q669 qs12 ⟨by decide +kernel, by decide +kernel⟩ nX3_sign (by decide) (by decide), trivial⟩ (si_out hE rfl) ?_
    refine si_aload_n (pc := 18) hE dX3_write_18 rfl ?_
    refine si_hv (pc := 19) (n := 0) hE dX3_write_19 ⟨cal_V (recvO cls2) (eX3_operand g) (Or.inl ⟨rfl, rfl⟩) q717 q135 q714 q716 qs17 ⟨by decide +kernel, by decide +kernel⟩ nX3_operand (by decide) (by decide), trivial⟩ (si_out hE rfl) ?_
    refine si_astore_n (pc := 22) hE dX3_write_22 rfl (by decide) ?_
    refine si_aload_n (pc := 23) hE dX3_write_23 rfl ?_
    refine si_bipush (pc := 24) hE dX3_write_24 (by decide) ?_
    refine si_hv (pc := 26) (n := 1) hE dX3_write_26 ⟨cal_V (recvO cls2) (eX3_sign g) (Or.inl ⟨rfl, rfl⟩) q670 q135 q667 q669 qs12 ⟨by decide +kernel, by decide +kernel⟩ nX3_sign (by decide) (by decide), trivial⟩ (si_out hE rfl) ?_
    refine si_aload_n (pc := 29) hE dX3_write_29 rfl ?_
    refine si_bipush (pc := 30) hE dX3_write_30 (by decide) ?_
    refine si_hv (pc := 32) (n := 1) hE dX3_write_32 ⟨cal_V (recvO cls2) (eX3_sign g) (Or.inl ⟨rfl, rfl⟩) q670 q135 q667 q669 qs12 ⟨by decide +kernel, by decide +kernel⟩ nX3_sign (by decide) (by decide), trivial⟩ (si_out hE rfl) ?_
    refine si_new (pc := 35) hE dX3_write_35 cls8 q848 q849 q163 df_8 ?_
    refine si_dup (pc := 38) hE dX3_write_38 ?_
    refine si_iload_n (pc := 39) hE dX3_write_39 rfl ?_
    refine si_aload_n (pc := 40) hE dX3_write_40 rfl ?_
    refine si_aload_n (pc := 41) hE dX3_write_41 rfl ?_
    refine si_hv (pc := 42) (n := 0) hE dX3_write_42 ⟨cal_V (recvO cls2) (eX3_operand g) (Or.inl ⟨rfl, rfl⟩) q717 q135 q714 q716 qs17 ⟨by decide +kernel, by decide +kernel⟩ nX3_operand (by decide) (by decide), trivial⟩ (si_out hE rfl) ?_
    refine si_hi (pc := 45) (n := 3) hE dX3_write_45 (cal_I (eX13_init g) q852 q163 q850 q851 rfl ⟨by decide +kernel, by decide +kernel⟩ nX13_init (by decide) (by decide)) (si_out hE rfl) ?_
    exact si_areturn (pc := 48) hE (Or.inl ⟨_, rfl⟩) dX3_write_48
  exact h0
def bX16_init_0 (κ : Nat → Option Nat) (R : Ret AH) : Cont AH :=
    o_al 0 <|
    o_oi <|
    o_al 0 <|
    o_ic (-1) <|
    o_pI 0 [15, 16] <|
    o_return R
def pX16_init (κ : Nat → Option Nat) : PT AH := fun as σ Q => (lg_sl as).length ≤ 1 ∧ bX16_init_0 κ Q (entP 1 as) [] σ
theorem nX16_init : parN yX16_init 0 := by unfold parN; decide +kernel
set_option maxHeartbeats 4000000 in
theorem eX16_init (g : GC) : CT (wC g) yX16_init (Cond.code yX16_init cX16_init 1 none) 1 20 (pX16_init g.2.1) := by
  refine CT.of (wC_ok g) (cc := cX16_init) (nL := 1) (ret := none) (ht := []) (by decide +kernel) (Or.inl ⟨rfl, rfl⟩) (B := bX16_init_0 g.2.1) (fun R E X hE => ?_)
  have h0 : E (bX16_init_0 g.2.1 R) 0 := by
    unfold bX16_init_0
    refine si_aload_n (pc := 0) hE dX16_init_0 rfl ?_
    refine si_oi (pc := 1) hE dX16_init_1 q890 q180 q181 (by decide) (by decide) ?_
    refine si_aload_n (pc := 4) hE dX16_init_4 rfl ?_
    refine si_iconst (pc := 5) hE dX16_init_5 (by decide) ?_
    refine si_pI (pc := 6) hE dX16_init_6 (Or.inl q897) zfo_45 ?_
    exact si_return (pc := 9) hE dX16_init_9
  exact h0
def bX17_init_0 (κ : Nat → Option Nat) (R : Ret AH) : Cont AH :=
    o_al 0 <|
    o_call 1 (hvi (pX16_init κ)) (fun _ a σ => R (.inr a) σ) <|
    o_al 0 <|
    o_il 1 <|
    o_pI 1 [16] <|
    o_al 0 <|
    o_al 2 <|
    o_pR 2 [16] <|
    o_return R
def pX17_init (κ : Nat → Option Nat) : PT AH := fun as σ Q => (lg_sl as).length ≤ 3 ∧ bX17_init_0 κ Q (entP 3 as) [] σ
theorem nX17_init : parN yX17_init 2 := by unfold parN; decide +kernel
set_option maxHeartbeats 4000000 in
theorem eX17_init (g : GC) : CT (wC g) yX17_init (Cond.code yX17_init cX17_init 3 none) 2 40 (pX17_init g.2.1) := by
  refine CT.of (wC_ok g) (cc := cX17_init) (nL := 3) (ret := none) (ht := []) (by decide +kernel) (Or.inl ⟨rfl, rfl⟩) (B := bX17_init_0 g.2.1) (fun R E X hE => ?_)
  have h0 : E (bX17_init_0 g.2.1 R) 0 := by
    unfold bX17_init_0
    refine si_aload_n (pc := 0) hE dX17_init_0 rfl ?_
    refine si_hi (pc := 1) (n := 0) hE dX17_init_1 (cal_IN (eX16_init g) q889 q166 q887 q888 rfl ⟨by decide +kernel, by decide +kernel⟩ nX16_init (by decide) (by decide)) (si_out hE rfl) ?_
    refine si_aload_n (pc := 4) hE dX17_init_4 rfl ?_
    refine si_iload_n (pc := 5) hE dX17_init_5 rfl ?_
    refine si_pIF (pc := 6) hE rfl dX17_init_6 q891 zfo_46 zfs_32 ?_
    refine si_aload_n (pc := 9) hE dX17_init_9 rfl ?_
    refine si_aload_n (pc := 10) hE dX17_init_10 rfl ?_
    refine si_pRF (pc := 11) hE rfl dX17_init_11 q894 zfo_47 zfs_33 (Or.inl ⟨_, rfl⟩) ?_
    exact si_return (pc := 14) hE dX17_init_14
  exact h0
def bX14_init_0 (κ : Nat → Option Nat) (R : Ret AH) : Cont AH :=
    o_al 0 <|
    o_call 1 (hvi (pX6_init κ)) (fun _ a σ => R (.inr a) σ) <|
    o_al 0 <|
    o_il 1 <|
    o_pI 4 [7, 8] <|
    o_return R
def pX14_init (κ : Nat → Option Nat) : PT AH := fun as σ Q => (lg_sl as).length ≤ 2 ∧ bX14_init_0 κ Q (entP 2 as) [] σ
theorem nX14_init : parN yX14_init 1 := by unfold parN; decide +kernel
set_option maxHeartbeats 4000000 in
theorem eX14_init (g : GC) : CT (wC g) yX14_init (Cond.code yX14_init cX14_init 2 none) 5 100 (pX14_init g.2.1) := by
  refine CT.of (wC_ok g) (cc := cX14_init) (nL := 2) (ret := none) (ht := []) (by decide +kernel) (Or.inl ⟨rfl, rfl⟩) (B := bX14_init_0 g.2.1) (fun R E X hE => ?_)
  have h0 : E (bX14_init_0 g.2.1 R) 0 := by
    unfold bX14_init_0
    refine si_aload_n (pc := 0) hE dX14_init_0 rfl ?_
    refine si_hi (pc := 1) (n := 0) hE dX14_init_1 (cal_IN (eX6_init g) q742 q156 q915 q741 rfl ⟨by decide +kernel, by decide +kernel⟩ nX6_init (by decide) (by decide)) (si_out hE rfl) ?_
    refine si_aload_n (pc := 4) hE dX14_init_4 rfl ?_
    refine si_iload_n (pc := 5) hE dX14_init_5 rfl ?_
    refine si_pIF (pc := 6) hE rfl dX14_init_6 q920 zfo_48 zfs_34 ?_
    exact si_return (pc := 9) hE dX14_init_9
  exact h0
def bX15_init_0 (κ : Nat → Option Nat) (R : Ret AH) : Cont AH :=
    o_al 0 <|
    o_il 1 <|
    o_call 2 (hvi (pX14_init κ)) (fun _ a σ => R (.inr a) σ) <|
    o_al 0 <|
    o_al 2 <|
    o_pR 5 [7] <|
    o_return R
def pX15_init (κ : Nat → Option Nat) : PT AH := fun as σ Q => (lg_sl as).length ≤ 3 ∧ bX15_init_0 κ Q (entP 3 as) [] σ
theorem nX15_init : parN yX15_init 2 := by unfold parN; decide +kernel
set_option maxHeartbeats 4000000 in
theorem eX15_init (g : GC) : CT (wC g) yX15_init (Cond.code yX15_init cX15_init 3 none) 6 121 (pX15_init g.2.1) := by
  refine CT.of (wC_ok g) (cc := cX15_init) (nL := 3) (ret := none) (ht := []) (by decide +kernel) (Or.inl ⟨rfl, rfl⟩) (B := bX15_init_0 g.2.1) (fun R E X hE => ?_)
  have h0 : E (bX15_init_0 g.2.1 R) 0 := by
    unfold bX15_init_0
    refine si_aload_n (pc := 0) hE dX15_init_0 rfl ?_
    refine si_iload_n (pc := 1) hE dX15_init_1 rfl ?_
    refine si_hi (pc := 2) (n := 1) hE dX15_init_2 (cal_I (eX14_init g) q914 q164 q912 q913 rfl ⟨by decide +kernel, by decide +kernel⟩ nX14_init (by decide) (by decide)) (si_out hE rfl) ?_
    refine si_aload_n (pc := 5) hE dX15_init_5 rfl ?_
    refine si_aload_n (pc := 6) hE dX15_init_6 rfl ?_
    refine si_pR (pc := 7) hE dX15_init_7 (Or.inl q916) zfo_49 (Or.inl ⟨_, rfl⟩) ?_
    exact si_return (pc := 10) hE dX15_init_10
  exact h0
def bX18_init_0 (κ : Nat → Option Nat) (R : Ret AH) : Cont AH :=
    o_al 0 <|
    o_il 1 <|
    o_call 2 (hvi (pX14_init κ)) (fun _ a σ => R (.inr a) σ) <|
    o_al 0 <|
    o_al 2 <|
    o_pR 5 [8] <|
    o_return R
def pX18_init (κ : Nat → Option Nat) : PT AH := fun as σ Q => (lg_sl as).length ≤ 3 ∧ bX18_init_0 κ Q (entP 3 as) [] σ
theorem nX18_init : parN yX18_init 2 := by unfold parN; decide +kernel
set_option maxHeartbeats 4000000 in
theorem eX18_init (g : GC) : CT (wC g) yX18_init (Cond.code yX18_init cX18_init 3 none) 6 121 (pX18_init g.2.1) := by
  refine CT.of (wC_ok g) (cc := cX18_init) (nL := 3) (ret := none) (ht := []) (by decide +kernel) (Or.inl ⟨rfl, rfl⟩) (B := bX18_init_0 g.2.1) (fun R E X hE => ?_)
  have h0 : E (bX18_init_0 g.2.1 R) 0 := by
    unfold bX18_init_0
    refine si_aload_n (pc := 0) hE dX18_init_0 rfl ?_
    refine si_iload_n (pc := 1) hE dX18_init_1 rfl ?_
    refine si_hi (pc := 2) (n := 1) hE dX18_init_2 (cal_I (eX14_init g) q914 q164 q942 q913 rfl ⟨by decide +kernel, by decide +kernel⟩ nX14_init (by decide) (by decide)) (si_out hE rfl) ?_
    refine si_aload_n (pc := 5) hE dX18_init_5 rfl ?_
    refine si_aload_n (pc := 6) hE dX18_init_6 rfl ?_
    refine si_pRF (pc := 7) hE rfl dX18_init_7 q943 zfo_50 zfs_35 (Or.inl ⟨_, rfl⟩) ?_
    exact si_return (pc := 10) hE dX18_init_10
  exact h0
def bX19_init_0 (κ : Nat → Option Nat) (R : Ret AH) : Cont AH :=
    o_al 0 <|
    o_call 1 (hvi (pX16_init κ)) (fun _ a σ => R (.inr a) σ) <|
    o_al 0 <|
    o_il 1 <|
    o_pN .char 1 [15] <|
    o_al 0 <|
    o_al 2 <|
    o_pR 2 [15] <|
    o_al 0 <|
    o_al 3 <|
    o_pR 3 [15] <|
    o_return R
def pX19_init (κ : Nat → Option Nat) : PT AH := fun as σ Q => (lg_sl as).length ≤ 4 ∧ bX19_init_0 κ Q (entP 4 as) [] σ
theorem nX19_init : parN yX19_init 3 := by unfold parN; decide +kernel
set_option maxHeartbeats 4000000 in
theorem eX19_init (g : GC) : CT (wC g) yX19_init (Cond.code yX19_init cX19_init 4 none) 2 40 (pX19_init g.2.1) := by
  refine CT.of (wC_ok g) (cc := cX19_init) (nL := 4) (ret := none) (ht := []) (by decide +kernel) (Or.inl ⟨rfl, rfl⟩) (B := bX19_init_0 g.2.1) (fun R E X hE => ?_)
  have h0 : E (bX19_init_0 g.2.1 R) 0 := by
    unfold bX19_init_0
    refine si_aload_n (pc := 0) hE dX19_init_0 rfl ?_
    refine si_hi (pc := 1) (n := 0) hE dX19_init_1 (cal_IN (eX16_init g) q889 q166 q960 q888 rfl ⟨by decide +kernel, by decide +kernel⟩ nX16_init (by decide) (by decide)) (si_out hE rfl) ?_
    refine si_aload_n (pc := 4) hE dX19_init_4 rfl ?_
    refine si_iload_n (pc := 5) hE dX19_init_5 rfl ?_
    refine si_pNF (pc := 6) hE rfl dX19_init_6 q961 zfo_51 zfs_36 ?_
    refine si_aload_n (pc := 9) hE dX19_init_9 rfl ?_
    refine si_aload_n (pc := 10) hE dX19_init_10 rfl ?_
    refine si_pRF (pc := 11) hE rfl dX19_init_11 q962 zfo_52 zfs_37 (Or.inl ⟨_, rfl⟩) ?_
    refine si_aload_n (pc := 14) hE dX19_init_14 rfl ?_
    refine si_aload_n (pc := 15) hE dX19_init_15 rfl ?_
    refine si_pRF (pc := 16) hE rfl dX19_init_16 q963 zfo_53 zfs_38 (Or.inl ⟨_, rfl⟩) ?_
    exact si_return (pc := 19) hE dX19_init_19
  exact h0
def bX3_value_81 (κ : Nat → Option Nat) (R : Ret AH) : Cont AH :=
    o_new 7 6 <|
    o_dup <|
    o_il 1 <|
    o_al 3 <|
    o_call 3 (hvi (pX18_init κ)) (fun _ a σ => R (.inr a) σ) <|
    o_areturn R
def bX3_value_91 (κ : Nat → Option Nat) (R : Ret AH) : Cont AH :=
    o_al 0 <|
    o_al 0 <|
    o_gI 2 [3] <|
    o_call 2 (hvc [(3, pX3_at κ)]) (fun _ a σ => R (.inr a) σ) <|
    o_i2c <|
    o_is 4 <|
    o_al 0 <|
    o_call 1 (hvc [(3, pX3_next κ)]) (fun _ a σ => R (.inr a) σ) <|
    o_new 6 6 <|
    o_dup <|
    o_il 1 <|
    o_new 14 4 <|
    o_dup <|
    o_il 4 <|
    o_al 3 <|
    o_al 0 <|
    o_call 1 (hvc [(3, pX3_operand κ)]) (fun _ a σ => R (.inr a) σ) <|
    o_call 4 (hvi (pX19_init κ)) (fun _ a σ => R (.inr a) σ) <|
    o_call 3 (hvi (pX15_init κ)) (fun _ a σ => R (.inr a) σ) <|
    o_areturn R
def bX3_value_52 (κ : Nat → Option Nat) (R : Ret AH) : Cont AH :=
    o_al 0 <|
    o_call 1 (hvc [(3, pX3_operand κ)]) (fun _ a σ => R (.inr a) σ) <|
    o_as 3 <|
    o_al 0 <|
    o_gI 1 [3] <|
    o_ic 4 <|
    o_icmp_ne (bX3_value_81 κ R) <|
    o_cst κ 5 <|
    o_al 0 <|
    o_al 0 <|
    o_gI 2 [3] <|
    o_call 2 (hvc [(3, pX3_at κ)]) (fun _ a σ => R (.inr a) σ) <|
    o_call 2 (hvc [(61, pJ3_indexOf κ)]) (fun _ a σ => R (.inr a) σ) <|
    o_if_ge (bX3_value_91 κ R) <|
    (bX3_value_81 κ R)
def bX3_value_0 (κ : Nat → Option Nat) (R : Ret AH) : Cont AH :=
    o_al 0 <|
    o_ic 114 <|
    o_ic 1 <|
    o_call 3 (hvc [(3, pX3_numbered κ)]) (fun _ a σ => R (.inr a) σ) <|
    o_is 2 <|
    o_il 2 <|
    o_ic (-1) <|
    o_icmp_eq (bX3_value_52 κ R) <|
    o_al 0 <|
    o_call 1 (hvc [(3, pX3_next κ)]) (fun _ a σ => R (.inr a) σ) <|
    o_al 0 <|
    o_ic 91 <|
    o_call 2 (hvc [(3, pX3_sign κ)]) (fun _ a σ => R (.inr a) σ) <|
    o_al 0 <|
    o_call 1 (hvc [(3, pX3_operand κ)]) (fun _ a σ => R (.inr a) σ) <|
    o_as 3 <|
    o_al 0 <|
    o_ic 93 <|
    o_call 2 (hvc [(3, pX3_sign κ)]) (fun _ a σ => R (.inr a) σ) <|
    o_new 6 6 <|
    o_dup <|
    o_il 1 <|
    o_new 15 3 <|
    o_dup <|
    o_il 2 <|
    o_al 3 <|
    o_call 3 (hvi (pX17_init κ)) (fun _ a σ => R (.inr a) σ) <|
    o_call 3 (hvi (pX15_init κ)) (fun _ a σ => R (.inr a) σ) <|
    o_areturn R
def pX3_value (κ : Nat → Option Nat) : PT AH := fun as σ Q => (lg_sl as).length ≤ 5 ∧ bX3_value_0 κ Q (entP 5 as) [] σ
theorem nX3_value : parN yX3_value 1 := by unfold parN; decide +kernel
set_option maxHeartbeats 4000000 in
theorem eX3_value (g : GC) : CT (wC g) yX3_value (Cond.code yX3_value cX3_value 5 (some (.object "LateAndEarly$Node"))) 7 158 (pX3_value g.2.1) := by
  refine CT.of (wC_ok g) (cc := cX3_value) (nL := 5) (ret := (some (.object "LateAndEarly$Node"))) (ht := []) (by decide +kernel) (Or.inl ⟨rfl, rfl⟩) (B := bX3_value_0 g.2.1) (fun R E X hE => ?_)
  have h81 : E (bX3_value_81 g.2.1 R) 81 := by
    unfold bX3_value_81
    refine si_new (pc := 81) hE dX3_value_81 cls7 q937 q938 q168 df_7 ?_
    refine si_dup (pc := 84) hE dX3_value_84 ?_
    refine si_iload_n (pc := 85) hE dX3_value_85 rfl ?_
    refine si_aload_n (pc := 86) hE dX3_value_86 rfl ?_
    refine si_hi (pc := 87) (n := 2) hE dX3_value_87 (cal_I (eX18_init g) q941 q168 q939 q940 rfl ⟨by decide +kernel, by decide +kernel⟩ nX18_init (by decide) (by decide)) (si_out hE rfl) ?_
    exact si_areturn (pc := 90) hE (Or.inl ⟨_, rfl⟩) dX3_value_90
  have h91 : E (bX3_value_91 g.2.1 R) 91 := by
    unfold bX3_value_91
    refine si_aload_n (pc := 91) hE dX3_value_91 rfl ?_
    refine si_aload_n (pc := 92) hE dX3_value_92 rfl ?_
    refine si_gI (pc := 93) hE dX3_value_93 (Or.inl q357) zfo_29 ?_
    refine si_hv (pc := 96) (n := 1) hE dX3_value_96 ⟨cal_V (recvO cls2) (eX3_at g) (Or.inl ⟨rfl, rfl⟩) q394 q135 q391 q393 qs1 ⟨by decide +kernel, by decide +kernel⟩ nX3_at (by decide) (by decide), trivial⟩ (si_out hE rfl) ?_
    refine si_i2c (pc := 99) hE dX3_value_99 ?_
    refine si_istore (pc := 100) hE dX3_value_100 (by decide) ?_
    refine si_aload_n (pc := 102) hE dX3_value_102 rfl ?_
    refine si_hv (pc := 103) (n := 0) hE dX3_value_103 ⟨cal_V (recvO cls2) (eX3_next g) (Or.inl ⟨rfl, rfl⟩) q390 q135 q387 q389 qs0 ⟨by decide +kernel, by decide +kernel⟩ nX3_next (by decide) (by decide), trivial⟩ (si_out hE rfl) ?_
    refine si_new (pc := 106) hE dX3_value_106 cls6 q880 q881 q165 df_6 ?_
    refine si_dup (pc := 109) hE dX3_value_109 ?_
    refine si_iload_n (pc := 110) hE dX3_value_110 rfl ?_
    refine si_new (pc := 111) hE dX3_value_111 cls14 q955 q956 q169 df_14 ?_
    refine si_dup (pc := 114) hE dX3_value_114 ?_
    refine si_iload (pc := 115) hE dX3_value_115 ?_
    refine si_aload_n (pc := 117) hE dX3_value_117 rfl ?_
    refine si_aload_n (pc := 118) hE dX3_value_118 rfl ?_
    refine si_hv (pc := 119) (n := 0) hE dX3_value_119 ⟨cal_V (recvO cls2) (eX3_operand g) (Or.inl ⟨rfl, rfl⟩) q717 q135 q714 q716 qs17 ⟨by decide +kernel, by decide +kernel⟩ nX3_operand (by decide) (by decide), trivial⟩ (si_out hE rfl) ?_
    refine si_hi (pc := 122) (n := 3) hE dX3_value_122 (cal_I (eX19_init g) q959 q169 q957 q958 rfl ⟨by decide +kernel, by decide +kernel⟩ nX19_init (by decide) (by decide)) (si_out hE rfl) ?_
    refine si_hi (pc := 125) (n := 2) hE dX3_value_125 (cal_I (eX15_init g) q911 q165 q909 q910 rfl ⟨by decide +kernel, by decide +kernel⟩ nX15_init (by decide) (by decide)) (si_out hE rfl) ?_
    exact si_areturn (pc := 128) hE (Or.inl ⟨_, rfl⟩) dX3_value_128
  have h52 : E (bX3_value_52 g.2.1 R) 52 := by
    unfold bX3_value_52
    refine si_aload_n (pc := 52) hE dX3_value_52 rfl ?_
    refine si_hv (pc := 53) (n := 0) hE dX3_value_53 ⟨cal_V (recvO cls2) (eX3_operand g) (Or.inl ⟨rfl, rfl⟩) q717 q135 q714 q716 qs17 ⟨by decide +kernel, by decide +kernel⟩ nX3_operand (by decide) (by decide), trivial⟩ (si_out hE rfl) ?_
    refine si_astore_n (pc := 56) hE dX3_value_56 rfl (by decide) ?_
    refine si_aload_n (pc := 57) hE dX3_value_57 rfl ?_
    refine si_gI (pc := 58) hE dX3_value_58 (Or.inl q356) zfo_28 ?_
    refine si_iconst (pc := 61) hE dX3_value_61 (by decide) ?_
    refine si_icmp_ne (pc := 62) hE dX3_value_62 (by decide) h81 ?_
    refine si_ldcS (pc := 65) (k := 5) hE dX3_value_65 rfl ?_
    refine si_aload_n (pc := 67) hE dX3_value_67 rfl ?_
    refine si_aload_n (pc := 68) hE dX3_value_68 rfl ?_
    refine si_gI (pc := 69) hE dX3_value_69 (Or.inl q357) zfo_29 ?_
    refine si_hv (pc := 72) (n := 1) hE dX3_value_72 ⟨cal_V (recvO cls2) (eX3_at g) (Or.inl ⟨rfl, rfl⟩) q394 q135 q391 q393 qs1 ⟨by decide +kernel, by decide +kernel⟩ nX3_at (by decide) (by decide), trivial⟩ (si_out hE rfl) ?_
    refine si_hv (pc := 75) (n := 1) hE dX3_value_75 ⟨cal_V recv61 (eJ3_indexOf g) (Or.inl ⟨rfl, rfl⟩) q411 q140 q408 q409 q410 ⟨by decide +kernel, by decide +kernel⟩ nJ3_indexOf (by decide) (by decide), trivial⟩ (si_out hE rfl) ?_
    refine si_if_ge (pc := 78) hE dX3_value_78 (by decide) h91 ?_
    exact h81
  have h0 : E (bX3_value_0 g.2.1 R) 0 := by
    unfold bX3_value_0
    refine si_aload_n (pc := 0) hE dX3_value_0 rfl ?_
    refine si_bipush (pc := 1) hE dX3_value_1 (by decide) ?_
    refine si_iconst (pc := 3) hE dX3_value_3 (by decide) ?_
    refine si_hv (pc := 4) (n := 2) hE dX3_value_4 ⟨cal_V (recvO cls2) (eX3_numbered g) (Or.inl ⟨rfl, rfl⟩) q582 q135 q579 q581 qs8 ⟨by decide +kernel, by decide +kernel⟩ nX3_numbered (by decide) (by decide), trivial⟩ (si_out hE rfl) ?_
    refine si_istore_n (pc := 7) hE dX3_value_7 rfl (by decide) ?_
    refine si_iload_n (pc := 8) hE dX3_value_8 rfl ?_
    refine si_iconst (pc := 9) hE dX3_value_9 (by decide) ?_
    refine si_icmp_eq (pc := 10) hE dX3_value_10 (by decide) h52 ?_
    refine si_aload_n (pc := 13) hE dX3_value_13 rfl ?_
    refine si_hv (pc := 14) (n := 0) hE dX3_value_14 ⟨cal_V (recvO cls2) (eX3_next g) (Or.inl ⟨rfl, rfl⟩) q390 q135 q387 q389 qs0 ⟨by decide +kernel, by decide +kernel⟩ nX3_next (by decide) (by decide), trivial⟩ (si_out hE rfl) ?_
    refine si_aload_n (pc := 17) hE dX3_value_17 rfl ?_
    refine si_bipush (pc := 18) hE dX3_value_18 (by decide) ?_
    refine si_hv (pc := 20) (n := 1) hE dX3_value_20 ⟨cal_V (recvO cls2) (eX3_sign g) (Or.inl ⟨rfl, rfl⟩) q670 q135 q667 q669 qs12 ⟨by decide +kernel, by decide +kernel⟩ nX3_sign (by decide) (by decide), trivial⟩ (si_out hE rfl) ?_
    refine si_aload_n (pc := 23) hE dX3_value_23 rfl ?_
    refine si_hv (pc := 24) (n := 0) hE dX3_value_24 ⟨cal_V (recvO cls2) (eX3_operand g) (Or.inl ⟨rfl, rfl⟩) q717 q135 q714 q716 qs17 ⟨by decide +kernel, by decide +kernel⟩ nX3_operand (by decide) (by decide), trivial⟩ (si_out hE rfl) ?_
    refine si_astore_n (pc := 27) hE dX3_value_27 rfl (by decide) ?_
    refine si_aload_n (pc := 28) hE dX3_value_28 rfl ?_
    refine si_bipush (pc := 29) hE dX3_value_29 (by decide) ?_
    refine si_hv (pc := 31) (n := 1) hE dX3_value_31 ⟨cal_V (recvO cls2) (eX3_sign g) (Or.inl ⟨rfl, rfl⟩) q670 q135 q667 q669 qs12 ⟨by decide +kernel, by decide +kernel⟩ nX3_sign (by decide) (by decide), trivial⟩ (si_out hE rfl) ?_
    refine si_new (pc := 34) hE dX3_value_34 cls6 q880 q881 q165 df_6 ?_
    refine si_dup (pc := 37) hE dX3_value_37 ?_
    refine si_iload_n (pc := 38) hE dX3_value_38 rfl ?_
    refine si_new (pc := 39) hE dX3_value_39 cls15 q882 q883 q167 df_15 ?_
    refine si_dup (pc := 42) hE dX3_value_42 ?_
    refine si_iload_n (pc := 43) hE dX3_value_43 rfl ?_
    refine si_aload_n (pc := 44) hE dX3_value_44 rfl ?_
    refine si_hi (pc := 45) (n := 2) hE dX3_value_45 (cal_I (eX17_init g) q886 q167 q884 q885 rfl ⟨by decide +kernel, by decide +kernel⟩ nX17_init (by decide) (by decide)) (si_out hE rfl) ?_
    refine si_hi (pc := 48) (n := 2) hE dX3_value_48 (cal_I (eX15_init g) q911 q165 q909 q910 rfl ⟨by decide +kernel, by decide +kernel⟩ nX15_init (by decide) (by decide)) (si_out hE rfl) ?_
    exact si_areturn (pc := 51) hE (Or.inl ⟨_, rfl⟩) dX3_value_51
  exact h0
