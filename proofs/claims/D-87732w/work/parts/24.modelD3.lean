/-! THE MODEL's METHODS, decompiled by program (gen/decomp.py) -/
set_option maxRecDepth 100000
def bX2_sets_47 (mo : Nat) (R : Ret MS) : Cont MS :=
    o_il 4 <|
    o_zreturn R
def bX2_sets_39 (mo : Nat) (R : Ret MS) (J6 : Cont MS) : Cont MS :=
    o_is 4 <|
    o_iinc 5 1 <|
    J6
def bX2_sets_34 (mo : Nat) (R : Ret MS) (J6 : Cont MS) : Cont MS :=
    o_ic 1 <|
    (bX2_sets_39 mo R J6)
def bX2_sets_38 (mo : Nat) (R : Ret MS) (J6 : Cont MS) : Cont MS :=
    o_ic 0 <|
    (bX2_sets_39 mo R J6)
def bX2_sets_6 (mo : Nat) (R : Ret MS) : Cont MS :=
    fixC fun J6 =>
    o_il 5 <|
    o_al 0 <|
    o_mga mo 12 <|
    o_il 1 <|
    o_mia mo 12 <|
    o_icmp_ge (bX2_sets_47 mo R) <|
    o_il 4 <|
    o_if_ne (bX2_sets_34 mo R J6) <|
    o_al 0 <|
    o_il 1 <|
    o_il 2 <|
    o_il 5 <|
    o_il 3 <|
    o_mc mo 5 (pX2_isSet mo) R <|
    o_if_eq (bX2_sets_38 mo R J6) <|
    (bX2_sets_34 mo R J6)
def bX2_sets_0 (mo : Nat) (R : Ret MS) : Cont MS :=
    o_ic 0 <|
    o_is 4 <|
    o_ic 0 <|
    o_is 5 <|
    (bX2_sets_6 mo R)
def pX2_sets (mo : Nat) : PT MS := fun as σ Q => (lg_sl as).length ≤ 6 ∧ bX2_sets_0 mo Q (entP 6 as) [] σ
theorem nX2_sets : parN yX2_sets 3 := by unfold parN; decide +kernel
set_option maxHeartbeats 4000000 in
theorem eX2_sets (g : GM) : CT (wM g) yX2_sets (Cond.code yX2_sets cX2_sets 6 (some .boolean)) 2 48 (pX2_sets g.1) := by
  refine CT.of (wM_ok g) (cc := cX2_sets) (nL := 6) (ret := (some .boolean)) (ht := []) (by decide +kernel) (Or.inl ⟨rfl, rfl⟩) (B := bX2_sets_0 g.1) (fun R E X hE => ?_)
  have h47 : E (bX2_sets_47 g.1 R) 47 := by
    unfold bX2_sets_47
    refine si_iload (pc := 47) hE dX2_sets_47 ?_
    exact si_zreturn (pc := 49) hE dX2_sets_49
  have h39 : ∀ (J6 : Cont MS) (hJ6 : E J6 6), E (bX2_sets_39 g.1 R J6) 39 := by
    intro J6 hJ6
    unfold bX2_sets_39
    refine si_istore (pc := 39) hE dX2_sets_39 (by decide) ?_
    refine si_iinc (pc := 41) hE dX2_sets_41 (by decide) (by decide) ?_
    exact si_goto (pc := 44) hE dX2_sets_44 (by decide) hJ6
  have h34 : ∀ (J6 : Cont MS) (hJ6 : E J6 6), E (bX2_sets_34 g.1 R J6) 34 := by
    intro J6 hJ6
    unfold bX2_sets_34
    refine si_iconst (pc := 34) hE dX2_sets_34 (by decide) ?_
    exact si_goto (pc := 35) hE dX2_sets_35 (by decide) (h39 J6 hJ6)
  have h38 : ∀ (J6 : Cont MS) (hJ6 : E J6 6), E (bX2_sets_38 g.1 R J6) 38 := by
    intro J6 hJ6
    unfold bX2_sets_38
    refine si_iconst (pc := 38) hE dX2_sets_38 (by decide) ?_
    exact (h39 J6 hJ6)
  have h6 : E (bX2_sets_6 g.1 R) 6 := by
    unfold bX2_sets_6
    refine si_fix hE (fun J6 hJ6 => ?_)
    refine si_iload (pc := 6) hE dX2_sets_6 ?_
    refine si_aload_n (pc := 8) hE dX2_sets_8 rfl ?_
    refine si_mga (pc := 9) (k := 12) hE rfl dX2_sets_9 q1671 (by decide) rfl (fun _ => rfl) ?_
    refine si_iload_n (pc := 12) hE dX2_sets_12 rfl ?_
    refine si_mia (pc := 13) (k := 12) hE dX2_sets_13 (by decide) rfl ?_
    refine si_icmp_ge (pc := 14) hE dX2_sets_14 (by decide) h47 ?_
    refine si_iload (pc := 17) hE dX2_sets_17 ?_
    refine si_if_ne (pc := 19) hE dX2_sets_19 (by decide) (h34 J6 hJ6) ?_
    refine si_aload_n (pc := 22) hE dX2_sets_22 rfl ?_
    refine si_iload_n (pc := 23) hE dX2_sets_23 rfl ?_
    refine si_iload_n (pc := 24) hE dX2_sets_24 rfl ?_
    refine si_iload (pc := 25) hE dX2_sets_25 ?_
    refine si_iload_n (pc := 27) hE dX2_sets_27 rfl ?_
    refine si_mc (pc := 28) (n := 4) hE rfl dX2_sets_28 (eX2_isSet g) rfl q2101 q2103 qs105 q2104 q134 nX2_isSet (by decide) (by decide) ?_
    refine si_if_eq (pc := 31) hE dX2_sets_31 (by decide) (h38 J6 hJ6) ?_
    exact (h34 J6 hJ6)
  have h0 : E (bX2_sets_0 g.1 R) 0 := by
    unfold bX2_sets_0
    refine si_iconst (pc := 0) hE dX2_sets_0 (by decide) ?_
    refine si_istore (pc := 1) hE dX2_sets_1 (by decide) ?_
    refine si_iconst (pc := 3) hE dX2_sets_3 (by decide) ?_
    refine si_istore (pc := 4) hE dX2_sets_4 (by decide) ?_
    exact h6
  exact h0
def bX2_say_0 (mo : Nat) (R : Ret MS) : Cont MS :=
    o_al 0 <|
    o_mga mo 59 <|
    o_al 0 <|
    o_mg mo 60 <|
    o_il 1 <|
    o_mis mo 59 <|
    o_al 0 <|
    o_dup <|
    o_mg mo 60 <|
    o_ic 1 <|
    o_iadd <|
    o_mp mo 60 <|
    o_return R
def pX2_say (mo : Nat) : PT MS := fun as σ Q => (lg_sl as).length ≤ 2 ∧ bX2_say_0 mo Q (entP 2 as) [] σ
theorem nX2_say : parN yX2_say 1 := by unfold parN; decide +kernel
set_option maxHeartbeats 4000000 in
theorem eX2_say (g : GM) : CT (wM g) yX2_say (Cond.code yX2_say cX2_say 2 none) 0 0 (pX2_say g.1) := by
  refine CT.of (wM_ok g) (cc := cX2_say) (nL := 2) (ret := none) (ht := []) (by decide +kernel) (Or.inl ⟨rfl, rfl⟩) (B := bX2_say_0 g.1) (fun R E X hE => ?_)
  have h0 : E (bX2_say_0 g.1 R) 0 := by
    unfold bX2_say_0
    refine si_aload_n (pc := 0) hE dX2_say_0 rfl ?_
    refine si_mga (pc := 1) (k := 59) hE rfl dX2_say_1 q1718 (by decide) rfl (fun _ => rfl) ?_
    refine si_aload_n (pc := 4) hE dX2_say_4 rfl ?_
    refine si_mg (pc := 5) (k := 60) hE rfl dX2_say_5 q1719 (by decide) rfl (fun _ => rfl) ?_
    refine si_iload_n (pc := 8) hE dX2_say_8 rfl ?_
    refine si_mis (pc := 9) (k := 59) hE dX2_say_9 (by decide) rfl ?_
    refine si_aload_n (pc := 10) hE dX2_say_10 rfl ?_
    refine si_dup (pc := 11) hE dX2_say_11 ?_
    refine si_mg (pc := 12) (k := 60) hE rfl dX2_say_12 q1719 (by decide) rfl (fun _ => rfl) ?_
    refine si_iconst (pc := 15) hE dX2_say_15 (by decide) ?_
    refine si_iadd (pc := 16) hE dX2_say_16 ?_
    refine si_mp (pc := 17) (k := 60) hE rfl dX2_say_17 q1719 (by decide) rfl rfl rfl rfl ?_
    exact si_return (pc := 20) hE dX2_say_20
  exact h0
def bX2_sayNumber_83 (mo : Nat) (R : Ret MS) : Cont MS :=
    o_return R
def bX2_sayNumber_48 (mo : Nat) (R : Ret MS) : Cont MS :=
    fixC fun J48 =>
    o_ll 4 <|
    o_lc 0 <|
    o_lcmp <|
    o_if_le (bX2_sayNumber_83 mo R) <|
    o_al 0 <|
    o_lc 48 <|
    o_ll 2 <|
    o_ll 4 <|
    o_ldiv <|
    o_lc 10 <|
    o_lrem <|
    o_ladd <|
    o_l2i <|
    o_mc mo 2 (pX2_say mo) R <|
    o_ll 4 <|
    o_lc 10 <|
    o_ldiv <|
    o_ls 4 <|
    (o_kill [1, 3, 5] J48)
def bX2_sayNumber_26 (mo : Nat) (R : Ret MS) : Cont MS :=
    fixC fun J26 =>
    o_ll 2 <|
    o_ll 4 <|
    o_ldiv <|
    o_lc 9 <|
    o_lcmp <|
    o_if_le (o_kill [1, 3, 5] (bX2_sayNumber_48 mo R)) <|
    o_ll 4 <|
    o_lc 10 <|
    o_lmul <|
    o_ls 4 <|
    (o_kill [1, 3, 5] J26)
def bX2_sayNumber_12 (mo : Nat) (R : Ret MS) : Cont MS :=
    o_ls 2 <|
    o_lc 1 <|
    o_ls 4 <|
    o_il 1 <|
    o_if_ge (o_kill [1, 3, 5] (bX2_sayNumber_26 mo R)) <|
    o_al 0 <|
    o_ic 45 <|
    o_mc mo 2 (pX2_say mo) R <|
    (o_kill [1, 3, 5] (bX2_sayNumber_26 mo R))
def bX2_sayNumber_10 (mo : Nat) (R : Ret MS) : Cont MS :=
    o_il 1 <|
    o_i2l <|
    (bX2_sayNumber_12 mo R)
def bX2_sayNumber_0 (mo : Nat) (R : Ret MS) : Cont MS :=
    o_il 1 <|
    o_if_ge (bX2_sayNumber_10 mo R) <|
    o_il 1 <|
    o_i2l <|
    o_lneg <|
    (bX2_sayNumber_12 mo R)
def pX2_sayNumber (mo : Nat) : PT MS := fun as σ Q => (lg_sl as).length ≤ 6 ∧ bX2_sayNumber_0 mo Q (entP 6 as) [] σ
theorem nX2_sayNumber : parN yX2_sayNumber 1 := by unfold parN; decide +kernel
set_option maxHeartbeats 4000000 in
theorem eX2_sayNumber (g : GM) : CT (wM g) yX2_sayNumber (Cond.code yX2_sayNumber cX2_sayNumber 6 none) 1 21 (pX2_sayNumber g.1) := by
  refine CT.of (wM_ok g) (cc := cX2_sayNumber) (nL := 6) (ret := none) (ht := []) (by decide +kernel) (Or.inl ⟨rfl, rfl⟩) (B := bX2_sayNumber_0 g.1) (fun R E X hE => ?_)
  have h83 : E (bX2_sayNumber_83 g.1 R) 83 := by
    unfold bX2_sayNumber_83
    exact si_return (pc := 83) hE dX2_sayNumber_83
  have h48 : E (bX2_sayNumber_48 g.1 R) 48 := by
    unfold bX2_sayNumber_48
    refine si_fix hE (fun J48 hJ48 => ?_)
    refine si_lload (pc := 48) hE dX2_sayNumber_48 ?_
    refine si_lconst (pc := 50) hE dX2_sayNumber_50 (by decide) ?_
    refine si_lcmp (pc := 51) hE dX2_sayNumber_51 ?_
    refine si_if_le (pc := 52) hE dX2_sayNumber_52 (by decide) h83 ?_
    refine si_aload_n (pc := 55) hE dX2_sayNumber_55 rfl ?_
    refine si_ldc2 (pc := 56) hE dX2_sayNumber_56 q1884 ?_
    refine si_lload_n (pc := 59) hE dX2_sayNumber_59 rfl ?_
    refine si_lload (pc := 60) hE dX2_sayNumber_60 ?_
    refine si_ldiv (pc := 62) hE dX2_sayNumber_62 ?_
    refine si_ldc2 (pc := 63) hE dX2_sayNumber_63 q1883 ?_
    refine si_lrem (pc := 66) hE dX2_sayNumber_66 ?_
    refine si_ladd (pc := 67) hE dX2_sayNumber_67 ?_
    refine si_l2i (pc := 68) hE dX2_sayNumber_68 ?_
    refine si_mc (pc := 69) (n := 1) hE rfl dX2_sayNumber_69 (eX2_say g) rfl q2205 q2207 qs118 q2208 q134 nX2_say (by decide) (by decide) ?_
    refine si_lload (pc := 72) hE dX2_sayNumber_72 ?_
    refine si_ldc2 (pc := 74) hE dX2_sayNumber_74 q1883 ?_
    refine si_ldiv (pc := 77) hE dX2_sayNumber_77 ?_
    refine si_lstore (pc := 78) hE dX2_sayNumber_78 (by decide) ?_
    exact si_goto (pc := 80) hE dX2_sayNumber_80 (by decide) (si_kill hE hJ48)
  have h26 : E (bX2_sayNumber_26 g.1 R) 26 := by
    unfold bX2_sayNumber_26
    refine si_fix hE (fun J26 hJ26 => ?_)
    refine si_lload_n (pc := 26) hE dX2_sayNumber_26 rfl ?_
    refine si_lload (pc := 27) hE dX2_sayNumber_27 ?_
    refine si_ldiv (pc := 29) hE dX2_sayNumber_29 ?_
    refine si_ldc2 (pc := 30) hE dX2_sayNumber_30 q2213 ?_
    refine si_lcmp (pc := 33) hE dX2_sayNumber_33 ?_
    refine si_if_le (pc := 34) hE dX2_sayNumber_34 (by decide) (si_kill hE h48) ?_
    refine si_lload (pc := 37) hE dX2_sayNumber_37 ?_
    refine si_ldc2 (pc := 39) hE dX2_sayNumber_39 q1883 ?_
    refine si_lmul (pc := 42) hE dX2_sayNumber_42 ?_
    refine si_lstore (pc := 43) hE dX2_sayNumber_43 (by decide) ?_
    exact si_goto (pc := 45) hE dX2_sayNumber_45 (by decide) (si_kill hE hJ26)
  have h12 : E (bX2_sayNumber_12 g.1 R) 12 := by
    unfold bX2_sayNumber_12
    refine si_lstore_n (pc := 12) hE dX2_sayNumber_12 rfl (by decide) ?_
    refine si_lconst (pc := 13) hE dX2_sayNumber_13 (by decide) ?_
    refine si_lstore (pc := 14) hE dX2_sayNumber_14 (by decide) ?_
    refine si_iload_n (pc := 16) hE dX2_sayNumber_16 rfl ?_
    refine si_if_ge (pc := 17) hE dX2_sayNumber_17 (by decide) (si_kill hE h26) ?_
    refine si_aload_n (pc := 20) hE dX2_sayNumber_20 rfl ?_
    refine si_bipush (pc := 21) hE dX2_sayNumber_21 (by decide) ?_
    refine si_mc (pc := 23) (n := 1) hE rfl dX2_sayNumber_23 (eX2_say g) rfl q2205 q2207 qs118 q2208 q134 nX2_say (by decide) (by decide) ?_
    exact (si_kill hE h26)
  have h10 : E (bX2_sayNumber_10 g.1 R) 10 := by
    unfold bX2_sayNumber_10
    refine si_iload_n (pc := 10) hE dX2_sayNumber_10 rfl ?_
    refine si_i2l (pc := 11) hE dX2_sayNumber_11 ?_
    exact h12
  have h0 : E (bX2_sayNumber_0 g.1 R) 0 := by
    unfold bX2_sayNumber_0
    refine si_iload_n (pc := 0) hE dX2_sayNumber_0 rfl ?_
    refine si_if_ge (pc := 1) hE dX2_sayNumber_1 (by decide) h10 ?_
    refine si_iload_n (pc := 4) hE dX2_sayNumber_4 rfl ?_
    refine si_i2l (pc := 5) hE dX2_sayNumber_5 ?_
    refine si_lneg (pc := 6) hE dX2_sayNumber_6 ?_
    exact si_goto (pc := 7) hE dX2_sayNumber_7 (by decide) h12
  exact h0
def bX2_sayBlock_0 (mo : Nat) (R : Ret MS) : Cont MS :=
    o_al 0 <|
    o_ic 98 <|
    o_mc mo 2 (pX2_say mo) R <|
    o_al 0 <|
    o_il 1 <|
    o_mc mo 2 (pX2_sayNumber mo) R <|
    o_return R
def pX2_sayBlock (mo : Nat) : PT MS := fun as σ Q => (lg_sl as).length ≤ 2 ∧ bX2_sayBlock_0 mo Q (entP 2 as) [] σ
theorem nX2_sayBlock : parN yX2_sayBlock 1 := by unfold parN; decide +kernel
set_option maxHeartbeats 4000000 in
theorem eX2_sayBlock (g : GM) : CT (wM g) yX2_sayBlock (Cond.code yX2_sayBlock cX2_sayBlock 2 none) 2 46 (pX2_sayBlock g.1) := by
  refine CT.of (wM_ok g) (cc := cX2_sayBlock) (nL := 2) (ret := none) (ht := []) (by decide +kernel) (Or.inl ⟨rfl, rfl⟩) (B := bX2_sayBlock_0 g.1) (fun R E X hE => ?_)
  have h0 : E (bX2_sayBlock_0 g.1 R) 0 := by
    unfold bX2_sayBlock_0
    refine si_aload_n (pc := 0) hE dX2_sayBlock_0 rfl ?_
    refine si_bipush (pc := 1) hE dX2_sayBlock_1 (by decide) ?_
    refine si_mc (pc := 3) (n := 1) hE rfl dX2_sayBlock_3 (eX2_say g) rfl q2205 q2207 qs118 q2208 q134 nX2_say (by decide) (by decide) ?_
    refine si_aload_n (pc := 6) hE dX2_sayBlock_6 rfl ?_
    refine si_iload_n (pc := 7) hE dX2_sayBlock_7 rfl ?_
    refine si_mc (pc := 8) (n := 1) hE rfl dX2_sayBlock_8 (eX2_sayNumber g) rfl q2209 q2211 qs119 q2212 q134 nX2_sayNumber (by decide) (by decide) ?_
    exact si_return (pc := 11) hE dX2_sayBlock_11
  exact h0
def bX2_head_0 (mo : Nat) (R : Ret MS) : Cont MS :=
    o_al 0 <|
    o_il 1 <|
    o_mc mo 2 (pX2_sayBlock mo) R <|
    o_al 0 <|
    o_ic 58 <|
    o_mc mo 2 (pX2_say mo) R <|
    o_al 0 <|
    o_ic 10 <|
    o_mc mo 2 (pX2_say mo) R <|
    o_return R
def pX2_head (mo : Nat) : PT MS := fun as σ Q => (lg_sl as).length ≤ 2 ∧ bX2_head_0 mo Q (entP 2 as) [] σ
theorem nX2_head : parN yX2_head 1 := by unfold parN; decide +kernel
set_option maxHeartbeats 4000000 in
theorem eX2_head (g : GM) : CT (wM g) yX2_head (Cond.code yX2_head cX2_head 2 none) 3 67 (pX2_head g.1) := by
  refine CT.of (wM_ok g) (cc := cX2_head) (nL := 2) (ret := none) (ht := []) (by decide +kernel) (Or.inl ⟨rfl, rfl⟩) (B := bX2_head_0 g.1) (fun R E X hE => ?_)
  have h0 : E (bX2_head_0 g.1 R) 0 := by
    unfold bX2_head_0
    refine si_aload_n (pc := 0) hE dX2_head_0 rfl ?_
    refine si_iload_n (pc := 1) hE dX2_head_1 rfl ?_
    refine si_mc (pc := 2) (n := 1) hE rfl dX2_head_2 (eX2_sayBlock g) rfl q2201 q2203 qs117 q2204 q134 nX2_sayBlock (by decide) (by decide) ?_
    refine si_aload_n (pc := 5) hE dX2_head_5 rfl ?_
    refine si_bipush (pc := 6) hE dX2_head_6 (by decide) ?_
    refine si_mc (pc := 8) (n := 1) hE rfl dX2_head_8 (eX2_say g) rfl q2205 q2207 qs118 q2208 q134 nX2_say (by decide) (by decide) ?_
    refine si_aload_n (pc := 11) hE dX2_head_11 rfl ?_
    refine si_bipush (pc := 12) hE dX2_head_12 (by decide) ?_
    refine si_mc (pc := 14) (n := 1) hE rfl dX2_head_14 (eX2_say g) rfl q2205 q2207 qs118 q2208 q134 nX2_say (by decide) (by decide) ?_
    exact si_return (pc := 17) hE dX2_head_17
  exact h0
def bX2_begin_0 (mo : Nat) (R : Ret MS) : Cont MS :=
    o_al 0 <|
    o_ic 32 <|
    o_mc mo 2 (pX2_say mo) R <|
    o_al 0 <|
    o_ic 32 <|
    o_mc mo 2 (pX2_say mo) R <|
    o_return R
def pX2_begin (mo : Nat) : PT MS := fun as σ Q => (lg_sl as).length ≤ 1 ∧ bX2_begin_0 mo Q (entP 1 as) [] σ
theorem nX2_begin : parN yX2_begin 0 := by unfold parN; decide +kernel
set_option maxHeartbeats 4000000 in
theorem eX2_begin (g : GM) : CT (wM g) yX2_begin (Cond.code yX2_begin cX2_begin 1 none) 1 21 (pX2_begin g.1) := by
  refine CT.of (wM_ok g) (cc := cX2_begin) (nL := 1) (ret := none) (ht := []) (by decide +kernel) (Or.inl ⟨rfl, rfl⟩) (B := bX2_begin_0 g.1) (fun R E X hE => ?_)
  have h0 : E (bX2_begin_0 g.1 R) 0 := by
    unfold bX2_begin_0
    refine si_aload_n (pc := 0) hE dX2_begin_0 rfl ?_
    refine si_bipush (pc := 1) hE dX2_begin_1 (by decide) ?_
    refine si_mc (pc := 3) (n := 1) hE rfl dX2_begin_3 (eX2_say g) rfl q2205 q2207 qs118 q2208 q134 nX2_say (by decide) (by decide) ?_
    refine si_aload_n (pc := 6) hE dX2_begin_6 rfl ?_
    refine si_bipush (pc := 7) hE dX2_begin_7 (by decide) ?_
    refine si_mc (pc := 9) (n := 1) hE rfl dX2_begin_9 (eX2_say g) rfl q2205 q2207 qs118 q2208 q134 nX2_say (by decide) (by decide) ?_
    exact si_return (pc := 12) hE dX2_begin_12
  exact h0
def bX2_sayT_0 (mo : Nat) (R : Ret MS) : Cont MS :=
    o_al 0 <|
    o_ic 116 <|
    o_mc mo 2 (pX2_say mo) R <|
    o_al 0 <|
    o_il 1 <|
    o_mc mo 2 (pX2_sayNumber mo) R <|
    o_return R
def pX2_sayT (mo : Nat) : PT MS := fun as σ Q => (lg_sl as).length ≤ 2 ∧ bX2_sayT_0 mo Q (entP 2 as) [] σ
theorem nX2_sayT : parN yX2_sayT 1 := by unfold parN; decide +kernel
set_option maxHeartbeats 4000000 in
theorem eX2_sayT (g : GM) : CT (wM g) yX2_sayT (Cond.code yX2_sayT cX2_sayT 2 none) 2 46 (pX2_sayT g.1) := by
  refine CT.of (wM_ok g) (cc := cX2_sayT) (nL := 2) (ret := none) (ht := []) (by decide +kernel) (Or.inl ⟨rfl, rfl⟩) (B := bX2_sayT_0 g.1) (fun R E X hE => ?_)
  have h0 : E (bX2_sayT_0 g.1 R) 0 := by
    unfold bX2_sayT_0
    refine si_aload_n (pc := 0) hE dX2_sayT_0 rfl ?_
    refine si_bipush (pc := 1) hE dX2_sayT_1 (by decide) ?_
    refine si_mc (pc := 3) (n := 1) hE rfl dX2_sayT_3 (eX2_say g) rfl q2205 q2207 qs118 q2208 q134 nX2_say (by decide) (by decide) ?_
    refine si_aload_n (pc := 6) hE dX2_sayT_6 rfl ?_
    refine si_iload_n (pc := 7) hE dX2_sayT_7 rfl ?_
    refine si_mc (pc := 8) (n := 1) hE rfl dX2_sayT_8 (eX2_sayNumber g) rfl q2209 q2211 qs119 q2212 q134 nX2_sayNumber (by decide) (by decide) ?_
    exact si_return (pc := 11) hE dX2_sayT_11
  exact h0
def bX2_is_2_0 (mo : Nat) (R : Ret MS) : Cont MS :=
    o_al 0 <|
    o_ic 32 <|
    o_mc mo 2 (pX2_say mo) R <|
    o_al 0 <|
    o_ic 61 <|
    o_mc mo 2 (pX2_say mo) R <|
    o_al 0 <|
    o_ic 32 <|
    o_mc mo 2 (pX2_say mo) R <|
    o_return R
def pX2_is_2 (mo : Nat) : PT MS := fun as σ Q => (lg_sl as).length ≤ 1 ∧ bX2_is_2_0 mo Q (entP 1 as) [] σ
theorem nX2_is_2 : parN yX2_is_2 0 := by unfold parN; decide +kernel
set_option maxHeartbeats 4000000 in
theorem eX2_is_2 (g : GM) : CT (wM g) yX2_is_2 (Cond.code yX2_is_2 cX2_is_2 1 none) 1 21 (pX2_is_2 g.1) := by
  refine CT.of (wM_ok g) (cc := cX2_is_2) (nL := 1) (ret := none) (ht := []) (by decide +kernel) (Or.inl ⟨rfl, rfl⟩) (B := bX2_is_2_0 g.1) (fun R E X hE => ?_)
  have h0 : E (bX2_is_2_0 g.1 R) 0 := by
    unfold bX2_is_2_0
    refine si_aload_n (pc := 0) hE dX2_is_2_0 rfl ?_
    refine si_bipush (pc := 1) hE dX2_is_2_1 (by decide) ?_
    refine si_mc (pc := 3) (n := 1) hE rfl dX2_is_2_3 (eX2_say g) rfl q2205 q2207 qs118 q2208 q134 nX2_say (by decide) (by decide) ?_
    refine si_aload_n (pc := 6) hE dX2_is_2_6 rfl ?_
    refine si_bipush (pc := 7) hE dX2_is_2_7 (by decide) ?_
    refine si_mc (pc := 9) (n := 1) hE rfl dX2_is_2_9 (eX2_say g) rfl q2205 q2207 qs118 q2208 q134 nX2_say (by decide) (by decide) ?_
    refine si_aload_n (pc := 12) hE dX2_is_2_12 rfl ?_
    refine si_bipush (pc := 13) hE dX2_is_2_13 (by decide) ?_
    refine si_mc (pc := 15) (n := 1) hE rfl dX2_is_2_15 (eX2_say g) rfl q2205 q2207 qs118 q2208 q134 nX2_say (by decide) (by decide) ?_
    exact si_return (pc := 18) hE dX2_is_2_18
  exact h0
def bX2_sayOperand_42 (mo : Nat) (R : Ret MS) : Cont MS :=
    o_mc mo 2 (pX2_sayNumber mo) R <|
    o_return R
def bX2_sayOperand_38 (mo : Nat) (R : Ret MS) : Cont MS :=
    o_il 1 <|
    o_ic 16 <|
    o_isub <|
    (bX2_sayOperand_42 mo R)
def bX2_sayOperand_24 (mo : Nat) (R : Ret MS) : Cont MS :=
    o_mc mo 2 (pX2_say mo) R <|
    o_al 0 <|
    o_il 1 <|
    o_ic 16 <|
    o_icmp_ge (bX2_sayOperand_38 mo R) <|
    o_il 1 <|
    (bX2_sayOperand_42 mo R)
def bX2_sayOperand_22 (mo : Nat) (R : Ret MS) : Cont MS :=
    o_ic 116 <|
    (bX2_sayOperand_24 mo R)
def bX2_sayOperand_10 (mo : Nat) (R : Ret MS) : Cont MS :=
    o_al 0 <|
    o_il 1 <|
    o_ic 16 <|
    o_icmp_ge (bX2_sayOperand_22 mo R) <|
    o_ic 118 <|
    (bX2_sayOperand_24 mo R)
def bX2_sayOperand_0 (mo : Nat) (R : Ret MS) : Cont MS :=
    o_il 1 <|
    o_if_ge (bX2_sayOperand_10 mo R) <|
    o_al 0 <|
    o_il 2 <|
    o_mc mo 2 (pX2_sayNumber mo) R <|
    o_return R
def pX2_sayOperand (mo : Nat) : PT MS := fun as σ Q => (lg_sl as).length ≤ 3 ∧ bX2_sayOperand_0 mo Q (entP 3 as) [] σ
theorem nX2_sayOperand : parN yX2_sayOperand 2 := by unfold parN; decide +kernel
set_option maxHeartbeats 4000000 in
theorem eX2_sayOperand (g : GM) : CT (wM g) yX2_sayOperand (Cond.code yX2_sayOperand cX2_sayOperand 3 none) 2 46 (pX2_sayOperand g.1) := by
  refine CT.of (wM_ok g) (cc := cX2_sayOperand) (nL := 3) (ret := none) (ht := []) (by decide +kernel) (Or.inl ⟨rfl, rfl⟩) (B := bX2_sayOperand_0 g.1) (fun R E X hE => ?_)
  have h42 : E (bX2_sayOperand_42 g.1 R) 42 := by
    unfold bX2_sayOperand_42
    refine si_mc (pc := 42) (n := 1) hE rfl dX2_sayOperand_42 (eX2_sayNumber g) rfl q2209 q2211 qs119 q2212 q134 nX2_sayNumber (by decide) (by decide) ?_
    exact si_return (pc := 45) hE dX2_sayOperand_45
  have h38 : E (bX2_sayOperand_38 g.1 R) 38 := by
    unfold bX2_sayOperand_38
    refine si_iload_n (pc := 38) hE dX2_sayOperand_38 rfl ?_
    refine si_bipush (pc := 39) hE dX2_sayOperand_39 (by decide) ?_
    refine si_isub (pc := 41) hE dX2_sayOperand_41 ?_
    exact h42
  have h24 : E (bX2_sayOperand_24 g.1 R) 24 := by
    unfold bX2_sayOperand_24
    refine si_mc (pc := 24) (n := 1) hE rfl dX2_sayOperand_24 (eX2_say g) rfl q2205 q2207 qs118 q2208 q134 nX2_say (by decide) (by decide) ?_
    refine si_aload_n (pc := 27) hE dX2_sayOperand_27 rfl ?_
    refine si_iload_n (pc := 28) hE dX2_sayOperand_28 rfl ?_
    refine si_bipush (pc := 29) hE dX2_sayOperand_29 (by decide) ?_
    refine si_icmp_ge (pc := 31) hE dX2_sayOperand_31 (by decide) h38 ?_
    refine si_iload_n (pc := 34) hE dX2_sayOperand_34 rfl ?_
    exact si_goto (pc := 35) hE dX2_sayOperand_35 (by decide) h42
  have h22 : E (bX2_sayOperand_22 g.1 R) 22 := by
    unfold bX2_sayOperand_22
    refine si_bipush (pc := 22) hE dX2_sayOperand_22 (by decide) ?_
    exact h24
  have h10 : E (bX2_sayOperand_10 g.1 R) 10 := by
    unfold bX2_sayOperand_10
    refine si_aload_n (pc := 10) hE dX2_sayOperand_10 rfl ?_
    refine si_iload_n (pc := 11) hE dX2_sayOperand_11 rfl ?_
    refine si_bipush (pc := 12) hE dX2_sayOperand_12 (by decide) ?_
    refine si_icmp_ge (pc := 14) hE dX2_sayOperand_14 (by decide) h22 ?_
    refine si_bipush (pc := 17) hE dX2_sayOperand_17 (by decide) ?_
    exact si_goto (pc := 19) hE dX2_sayOperand_19 (by decide) h24
  have h0 : E (bX2_sayOperand_0 g.1 R) 0 := by
    unfold bX2_sayOperand_0
    refine si_iload_n (pc := 0) hE dX2_sayOperand_0 rfl ?_
    refine si_if_ge (pc := 1) hE dX2_sayOperand_1 (by decide) h10 ?_
    refine si_aload_n (pc := 4) hE dX2_sayOperand_4 rfl ?_
    refine si_iload_n (pc := 5) hE dX2_sayOperand_5 rfl ?_
    refine si_mc (pc := 6) (n := 1) hE rfl dX2_sayOperand_6 (eX2_sayNumber g) rfl q2209 q2211 qs119 q2212 q134 nX2_sayNumber (by decide) (by decide) ?_
    exact si_return (pc := 9) hE dX2_sayOperand_9
  exact h0
def bX2_sayRow_0 (mo : Nat) (R : Ret MS) : Cont MS :=
    o_al 0 <|
    o_ic 114 <|
    o_mc mo 2 (pX2_say mo) R <|
    o_al 0 <|
    o_il 1 <|
    o_mc mo 2 (pX2_sayNumber mo) R <|
    o_al 0 <|
    o_ic 32 <|
    o_mc mo 2 (pX2_say mo) R <|
    o_al 0 <|
    o_ic 91 <|
    o_mc mo 2 (pX2_say mo) R <|
    o_al 0 <|
    o_ic 32 <|
    o_mc mo 2 (pX2_say mo) R <|
    o_al 0 <|
    o_il 2 <|
    o_il 3 <|
    o_mc mo 3 (pX2_sayOperand mo) R <|
    o_al 0 <|
    o_ic 32 <|
    o_mc mo 2 (pX2_say mo) R <|
    o_al 0 <|
    o_ic 93 <|
    o_mc mo 2 (pX2_say mo) R <|
    o_return R
def pX2_sayRow (mo : Nat) : PT MS := fun as σ Q => (lg_sl as).length ≤ 4 ∧ bX2_sayRow_0 mo Q (entP 4 as) [] σ
theorem nX2_sayRow : parN yX2_sayRow 3 := by unfold parN; decide +kernel
set_option maxHeartbeats 4000000 in
theorem eX2_sayRow (g : GM) : CT (wM g) yX2_sayRow (Cond.code yX2_sayRow cX2_sayRow 4 none) 3 68 (pX2_sayRow g.1) := by
  refine CT.of (wM_ok g) (cc := cX2_sayRow) (nL := 4) (ret := none) (ht := []) (by decide +kernel) (Or.inl ⟨rfl, rfl⟩) (B := bX2_sayRow_0 g.1) (fun R E X hE => ?_)
  have h0 : E (bX2_sayRow_0 g.1 R) 0 := by
    unfold bX2_sayRow_0
    refine si_aload_n (pc := 0) hE dX2_sayRow_0 rfl ?_
    refine si_bipush (pc := 1) hE dX2_sayRow_1 (by decide) ?_
    refine si_mc (pc := 3) (n := 1) hE rfl dX2_sayRow_3 (eX2_say g) rfl q2205 q2207 qs118 q2208 q134 nX2_say (by decide) (by decide) ?_
    refine si_aload_n (pc := 6) hE dX2_sayRow_6 rfl ?_
    refine si_iload_n (pc := 7) hE dX2_sayRow_7 rfl ?_
    refine si_mc (pc := 8) (n := 1) hE rfl dX2_sayRow_8 (eX2_sayNumber g) rfl q2209 q2211 qs119 q2212 q134 nX2_sayNumber (by decide) (by decide) ?_
    refine si_aload_n (pc := 11) hE dX2_sayRow_11 rfl ?_
    refine si_bipush (pc := 12) hE dX2_sayRow_12 (by decide) ?_
    refine si_mc (pc := 14) (n := 1) hE rfl dX2_sayRow_14 (eX2_say g) rfl q2205 q2207 qs118 q2208 q134 nX2_say (by decide) (by decide) ?_
    refine si_aload_n (pc := 17) hE dX2_sayRow_17 rfl ?_
    refine si_bipush (pc := 18) hE dX2_sayRow_18 (by decide) ?_
    refine si_mc (pc := 20) (n := 1) hE rfl dX2_sayRow_20 (eX2_say g) rfl q2205 q2207 qs118 q2208 q134 nX2_say (by decide) (by decide) ?_
    refine si_aload_n (pc := 23) hE dX2_sayRow_23 rfl ?_
    refine si_bipush (pc := 24) hE dX2_sayRow_24 (by decide) ?_
    refine si_mc (pc := 26) (n := 1) hE rfl dX2_sayRow_26 (eX2_say g) rfl q2205 q2207 qs118 q2208 q134 nX2_say (by decide) (by decide) ?_
    refine si_aload_n (pc := 29) hE dX2_sayRow_29 rfl ?_
    refine si_iload_n (pc := 30) hE dX2_sayRow_30 rfl ?_
    refine si_iload_n (pc := 31) hE dX2_sayRow_31 rfl ?_
    refine si_mc (pc := 32) (n := 2) hE rfl dX2_sayRow_32 (eX2_sayOperand g) rfl q2238 q2240 qs126 q2241 q134 nX2_sayOperand (by decide) (by decide) ?_
    refine si_aload_n (pc := 35) hE dX2_sayRow_35 rfl ?_
    refine si_bipush (pc := 36) hE dX2_sayRow_36 (by decide) ?_
    refine si_mc (pc := 38) (n := 1) hE rfl dX2_sayRow_38 (eX2_say g) rfl q2205 q2207 qs118 q2208 q134 nX2_say (by decide) (by decide) ?_
    refine si_aload_n (pc := 41) hE dX2_sayRow_41 rfl ?_
    refine si_bipush (pc := 42) hE dX2_sayRow_42 (by decide) ?_
    refine si_mc (pc := 44) (n := 1) hE rfl dX2_sayRow_44 (eX2_say g) rfl q2205 q2207 qs118 q2208 q134 nX2_say (by decide) (by decide) ?_
    exact si_return (pc := 47) hE dX2_sayRow_47
  exact h0
def bX2_saySum_41 (mo : Nat) (R : Ret MS) : Cont MS :=
    o_al 0 <|
    o_al 0 <|
    o_mga mo 27 <|
    o_il 3 <|
    o_mia mo 27 <|
    o_al 0 <|
    o_mga mo 28 <|
    o_il 3 <|
    o_mia mo 28 <|
    o_mc mo 3 (pX2_sayOperand mo) R <|
    o_al 0 <|
    o_ic 32 <|
    o_mc mo 2 (pX2_say mo) R <|
    o_al 0 <|
    o_al 0 <|
    o_mga mo 26 <|
    o_il 3 <|
    o_mia mo 26 <|
    o_mc mo 2 (pX2_say mo) R <|
    o_al 0 <|
    o_ic 32 <|
    o_mc mo 2 (pX2_say mo) R <|
    o_al 0 <|
    o_al 0 <|
    o_mga mo 29 <|
    o_il 3 <|
    o_mia mo 29 <|
    o_al 0 <|
    o_mga mo 30 <|
    o_il 3 <|
    o_mia mo 30 <|
    o_mc mo 3 (pX2_sayOperand mo) R <|
    o_return R
def bX2_saySum_0 (mo : Nat) (R : Ret MS) : Cont MS :=
    o_ic 32 <|
    o_il 1 <|
    o_imul <|
    o_il 2 <|
    o_iadd <|
    o_is 3 <|
    o_al 0 <|
    o_mga mo 26 <|
    o_il 3 <|
    o_mia mo 26 <|
    o_ic 114 <|
    o_icmp_ne (bX2_saySum_41 mo R) <|
    o_al 0 <|
    o_al 0 <|
    o_mga mo 28 <|
    o_il 3 <|
    o_mia mo 28 <|
    o_al 0 <|
    o_mga mo 29 <|
    o_il 3 <|
    o_mia mo 29 <|
    o_al 0 <|
    o_mga mo 30 <|
    o_il 3 <|
    o_mia mo 30 <|
    o_mc mo 4 (pX2_sayRow mo) R <|
    o_return R
def pX2_saySum (mo : Nat) : PT MS := fun as σ Q => (lg_sl as).length ≤ 4 ∧ bX2_saySum_0 mo Q (entP 4 as) [] σ
theorem nX2_saySum : parN yX2_saySum 2 := by unfold parN; decide +kernel
set_option maxHeartbeats 4000000 in
theorem eX2_saySum (g : GM) : CT (wM g) yX2_saySum (Cond.code yX2_saySum cX2_saySum 4 none) 4 91 (pX2_saySum g.1) := by
  refine CT.of (wM_ok g) (cc := cX2_saySum) (nL := 4) (ret := none) (ht := []) (by decide +kernel) (Or.inl ⟨rfl, rfl⟩) (B := bX2_saySum_0 g.1) (fun R E X hE => ?_)
  have h41 : E (bX2_saySum_41 g.1 R) 41 := by
    unfold bX2_saySum_41
    refine si_aload_n (pc := 41) hE dX2_saySum_41 rfl ?_
    refine si_aload_n (pc := 42) hE dX2_saySum_42 rfl ?_
    refine si_mga (pc := 43) (k := 27) hE rfl dX2_saySum_43 q1686 (by decide) rfl (fun _ => rfl) ?_
    refine si_iload_n (pc := 46) hE dX2_saySum_46 rfl ?_
    refine si_mia (pc := 47) (k := 27) hE dX2_saySum_47 (by decide) rfl ?_
    refine si_aload_n (pc := 48) hE dX2_saySum_48 rfl ?_
    refine si_mga (pc := 49) (k := 28) hE rfl dX2_saySum_49 q1687 (by decide) rfl (fun _ => rfl) ?_
    refine si_iload_n (pc := 52) hE dX2_saySum_52 rfl ?_
    refine si_mia (pc := 53) (k := 28) hE dX2_saySum_53 (by decide) rfl ?_
    refine si_mc (pc := 54) (n := 2) hE rfl dX2_saySum_54 (eX2_sayOperand g) rfl q2238 q2240 qs126 q2241 q134 nX2_sayOperand (by decide) (by decide) ?_
    refine si_aload_n (pc := 57) hE dX2_saySum_57 rfl ?_
    refine si_bipush (pc := 58) hE dX2_saySum_58 (by decide) ?_
    refine si_mc (pc := 60) (n := 1) hE rfl dX2_saySum_60 (eX2_say g) rfl q2205 q2207 qs118 q2208 q134 nX2_say (by decide) (by decide) ?_
    refine si_aload_n (pc := 63) hE dX2_saySum_63 rfl ?_
    refine si_aload_n (pc := 64) hE dX2_saySum_64 rfl ?_
    refine si_mga (pc := 65) (k := 26) hE rfl dX2_saySum_65 q1685 (by decide) rfl (fun _ => rfl) ?_
    refine si_iload_n (pc := 68) hE dX2_saySum_68 rfl ?_
    refine si_mia (pc := 69) (k := 26) hE dX2_saySum_69 (by decide) rfl ?_
    refine si_mc (pc := 70) (n := 1) hE rfl dX2_saySum_70 (eX2_say g) rfl q2205 q2207 qs118 q2208 q134 nX2_say (by decide) (by decide) ?_
    refine si_aload_n (pc := 73) hE dX2_saySum_73 rfl ?_
    refine si_bipush (pc := 74) hE dX2_saySum_74 (by decide) ?_
    refine si_mc (pc := 76) (n := 1) hE rfl dX2_saySum_76 (eX2_say g) rfl q2205 q2207 qs118 q2208 q134 nX2_say (by decide) (by decide) ?_
    refine si_aload_n (pc := 79) hE dX2_saySum_79 rfl ?_
    refine si_aload_n (pc := 80) hE dX2_saySum_80 rfl ?_
    refine si_mga (pc := 81) (k := 29) hE rfl dX2_saySum_81 q1688 (by decide) rfl (fun _ => rfl) ?_
    refine si_iload_n (pc := 84) hE dX2_saySum_84 rfl ?_
    refine si_mia (pc := 85) (k := 29) hE dX2_saySum_85 (by decide) rfl ?_
    refine si_aload_n (pc := 86) hE dX2_saySum_86 rfl ?_
    refine si_mga (pc := 87) (k := 30) hE rfl dX2_saySum_87 q1689 (by decide) rfl (fun _ => rfl) ?_
    refine si_iload_n (pc := 90) hE dX2_saySum_90 rfl ?_
    refine si_mia (pc := 91) (k := 30) hE dX2_saySum_91 (by decide) rfl ?_
    refine si_mc (pc := 92) (n := 2) hE rfl dX2_saySum_92 (eX2_sayOperand g) rfl q2238 q2240 qs126 q2241 q134 nX2_sayOperand (by decide) (by decide) ?_
    exact si_return (pc := 95) hE dX2_saySum_95
  have h0 : E (bX2_saySum_0 g.1 R) 0 := by
    unfold bX2_saySum_0
    refine si_bipush (pc := 0) hE dX2_saySum_0 (by decide) ?_
    refine si_iload_n (pc := 2) hE dX2_saySum_2 rfl ?_
    refine si_imul (pc := 3) hE dX2_saySum_3 ?_
    refine si_iload_n (pc := 4) hE dX2_saySum_4 rfl ?_
    refine si_iadd (pc := 5) hE dX2_saySum_5 ?_
    refine si_istore_n (pc := 6) hE dX2_saySum_6 rfl (by decide) ?_
    refine si_aload_n (pc := 7) hE dX2_saySum_7 rfl ?_
    refine si_mga (pc := 8) (k := 26) hE rfl dX2_saySum_8 q1685 (by decide) rfl (fun _ => rfl) ?_
    refine si_iload_n (pc := 11) hE dX2_saySum_11 rfl ?_
    refine si_mia (pc := 12) (k := 26) hE dX2_saySum_12 (by decide) rfl ?_
    refine si_bipush (pc := 13) hE dX2_saySum_13 (by decide) ?_
    refine si_icmp_ne (pc := 15) hE dX2_saySum_15 (by decide) h41 ?_
    refine si_aload_n (pc := 18) hE dX2_saySum_18 rfl ?_
    refine si_aload_n (pc := 19) hE dX2_saySum_19 rfl ?_
    refine si_mga (pc := 20) (k := 28) hE rfl dX2_saySum_20 q1687 (by decide) rfl (fun _ => rfl) ?_
    refine si_iload_n (pc := 23) hE dX2_saySum_23 rfl ?_
    refine si_mia (pc := 24) (k := 28) hE dX2_saySum_24 (by decide) rfl ?_
    refine si_aload_n (pc := 25) hE dX2_saySum_25 rfl ?_
    refine si_mga (pc := 26) (k := 29) hE rfl dX2_saySum_26 q1688 (by decide) rfl (fun _ => rfl) ?_
    refine si_iload_n (pc := 29) hE dX2_saySum_29 rfl ?_
    refine si_mia (pc := 30) (k := 29) hE dX2_saySum_30 (by decide) rfl ?_
    refine si_aload_n (pc := 31) hE dX2_saySum_31 rfl ?_
    refine si_mga (pc := 32) (k := 30) hE rfl dX2_saySum_32 q1689 (by decide) rfl (fun _ => rfl) ?_
    refine si_iload_n (pc := 35) hE dX2_saySum_35 rfl ?_
    refine si_mia (pc := 36) (k := 30) hE dX2_saySum_36 (by decide) rfl ?_
    refine si_mc (pc := 37) (n := 3) hE rfl dX2_saySum_37 (eX2_sayRow g) rfl q2234 q2236 qs125 q2237 q134 nX2_sayRow (by decide) (by decide) ?_
    exact si_return (pc := 40) hE dX2_saySum_40
  exact h0
def bX2_close_0 (mo : Nat) (R : Ret MS) : Cont MS :=
    o_al 0 <|
    o_ic 59 <|
    o_mc mo 2 (pX2_say mo) R <|
    o_al 0 <|
    o_ic 10 <|
    o_mc mo 2 (pX2_say mo) R <|
    o_return R
def pX2_close (mo : Nat) : PT MS := fun as σ Q => (lg_sl as).length ≤ 1 ∧ bX2_close_0 mo Q (entP 1 as) [] σ
theorem nX2_close : parN yX2_close 0 := by unfold parN; decide +kernel
set_option maxHeartbeats 4000000 in
theorem eX2_close (g : GM) : CT (wM g) yX2_close (Cond.code yX2_close cX2_close 1 none) 1 21 (pX2_close g.1) := by
  refine CT.of (wM_ok g) (cc := cX2_close) (nL := 1) (ret := none) (ht := []) (by decide +kernel) (Or.inl ⟨rfl, rfl⟩) (B := bX2_close_0 g.1) (fun R E X hE => ?_)
  have h0 : E (bX2_close_0 g.1 R) 0 := by
    unfold bX2_close_0
    refine si_aload_n (pc := 0) hE dX2_close_0 rfl ?_
    refine si_bipush (pc := 1) hE dX2_close_1 (by decide) ?_
    refine si_mc (pc := 3) (n := 1) hE rfl dX2_close_3 (eX2_say g) rfl q2205 q2207 qs118 q2208 q134 nX2_say (by decide) (by decide) ?_
    refine si_aload_n (pc := 6) hE dX2_close_6 rfl ?_
    refine si_bipush (pc := 7) hE dX2_close_7 (by decide) ?_
    refine si_mc (pc := 9) (n := 1) hE rfl dX2_close_9 (eX2_say g) rfl q2205 q2207 qs118 q2208 q134 nX2_say (by decide) (by decide) ?_
    exact si_return (pc := 12) hE dX2_close_12
  exact h0
def bX2_saySets_60 (mo : Nat) (R : Ret MS) : Cont MS :=
    o_return R
def bX2_saySets_54 (mo : Nat) (R : Ret MS) (J3 : Cont MS) : Cont MS :=
    o_iinc 4 1 <|
    J3
def bX2_saySets_29 (mo : Nat) (R : Ret MS) (J3 : Cont MS) : Cont MS :=
    o_al 0 <|
    o_mc mo 1 (pX2_begin mo) R <|
    o_al 0 <|
    o_il 4 <|
    o_mc mo 2 (pX2_sayT mo) R <|
    o_al 0 <|
    o_mc mo 1 (pX2_is_2 mo) R <|
    o_al 0 <|
    o_il 1 <|
    o_il 4 <|
    o_mc mo 3 (pX2_saySum mo) R <|
    o_al 0 <|
    o_mc mo 1 (pX2_close mo) R <|
    (bX2_saySets_54 mo R J3)
def bX2_saySets_3 (mo : Nat) (R : Ret MS) : Cont MS :=
    fixC fun J3 =>
    o_il 4 <|
    o_al 0 <|
    o_mga mo 12 <|
    o_il 1 <|
    o_mia mo 12 <|
    o_icmp_ge (bX2_saySets_60 mo R) <|
    o_al 0 <|
    o_il 1 <|
    o_il 2 <|
    o_il 4 <|
    o_il 3 <|
    o_mc mo 5 (pX2_isSet mo) R <|
    o_if_ne (bX2_saySets_29 mo R J3) <|
    (bX2_saySets_54 mo R J3)
def bX2_saySets_0 (mo : Nat) (R : Ret MS) : Cont MS :=
    o_ic 0 <|
    o_is 4 <|
    (bX2_saySets_3 mo R)
def pX2_saySets (mo : Nat) : PT MS := fun as σ Q => (lg_sl as).length ≤ 5 ∧ bX2_saySets_0 mo Q (entP 5 as) [] σ
theorem nX2_saySets : parN yX2_saySets 3 := by unfold parN; decide +kernel
set_option maxHeartbeats 4000000 in
theorem eX2_saySets (g : GM) : CT (wM g) yX2_saySets (Cond.code yX2_saySets cX2_saySets 5 none) 5 114 (pX2_saySets g.1) := by
  refine CT.of (wM_ok g) (cc := cX2_saySets) (nL := 5) (ret := none) (ht := []) (by decide +kernel) (Or.inl ⟨rfl, rfl⟩) (B := bX2_saySets_0 g.1) (fun R E X hE => ?_)
  have h60 : E (bX2_saySets_60 g.1 R) 60 := by
    unfold bX2_saySets_60
    exact si_return (pc := 60) hE dX2_saySets_60
  have h54 : ∀ (J3 : Cont MS) (hJ3 : E J3 3), E (bX2_saySets_54 g.1 R J3) 54 := by
    intro J3 hJ3
    unfold bX2_saySets_54
    refine si_iinc (pc := 54) hE dX2_saySets_54 (by decide) (by decide) ?_
    exact si_goto (pc := 57) hE dX2_saySets_57 (by decide) hJ3
  have h29 : ∀ (J3 : Cont MS) (hJ3 : E J3 3), E (bX2_saySets_29 g.1 R J3) 29 := by
    intro J3 hJ3
    unfold bX2_saySets_29
    refine si_aload_n (pc := 29) hE dX2_saySets_29 rfl ?_
    refine si_mc (pc := 30) (n := 0) hE rfl dX2_saySets_30 (eX2_begin g) rfl q2218 q2220 qs121 q2221 q134 nX2_begin (by decide) (by decide) ?_
    refine si_aload_n (pc := 33) hE dX2_saySets_33 rfl ?_
    refine si_iload (pc := 34) hE dX2_saySets_34 ?_
    refine si_mc (pc := 36) (n := 1) hE rfl dX2_saySets_36 (eX2_sayT g) rfl q2222 q2224 qs122 q2225 q134 nX2_sayT (by decide) (by decide) ?_
    refine si_aload_n (pc := 39) hE dX2_saySets_39 rfl ?_
    refine si_mc (pc := 40) (n := 0) hE rfl dX2_saySets_40 (eX2_is_2 g) rfl q2226 q2228 qs123 q2229 q134 nX2_is_2 (by decide) (by decide) ?_
    refine si_aload_n (pc := 43) hE dX2_saySets_43 rfl ?_
    refine si_iload_n (pc := 44) hE dX2_saySets_44 rfl ?_
    refine si_iload (pc := 45) hE dX2_saySets_45 ?_
    refine si_mc (pc := 47) (n := 2) hE rfl dX2_saySets_47 (eX2_saySum g) rfl q2230 q2232 qs124 q2233 q134 nX2_saySum (by decide) (by decide) ?_
    refine si_aload_n (pc := 50) hE dX2_saySets_50 rfl ?_
    refine si_mc (pc := 51) (n := 0) hE rfl dX2_saySets_51 (eX2_close g) rfl q2242 q2244 qs127 q2245 q134 nX2_close (by decide) (by decide) ?_
    exact (h54 J3 hJ3)
  have h3 : E (bX2_saySets_3 g.1 R) 3 := by
    unfold bX2_saySets_3
    refine si_fix hE (fun J3 hJ3 => ?_)
    refine si_iload (pc := 3) hE dX2_saySets_3 ?_
    refine si_aload_n (pc := 5) hE dX2_saySets_5 rfl ?_
    refine si_mga (pc := 6) (k := 12) hE rfl dX2_saySets_6 q1671 (by decide) rfl (fun _ => rfl) ?_
    refine si_iload_n (pc := 9) hE dX2_saySets_9 rfl ?_
    refine si_mia (pc := 10) (k := 12) hE dX2_saySets_10 (by decide) rfl ?_
    refine si_icmp_ge (pc := 11) hE dX2_saySets_11 (by decide) h60 ?_
    refine si_aload_n (pc := 14) hE dX2_saySets_14 rfl ?_
    refine si_iload_n (pc := 15) hE dX2_saySets_15 rfl ?_
    refine si_iload_n (pc := 16) hE dX2_saySets_16 rfl ?_
    refine si_iload (pc := 17) hE dX2_saySets_17 ?_
    refine si_iload_n (pc := 19) hE dX2_saySets_19 rfl ?_
    refine si_mc (pc := 20) (n := 4) hE rfl dX2_saySets_20 (eX2_isSet g) rfl q2101 q2103 qs105 q2104 q134 nX2_isSet (by decide) (by decide) ?_
    refine si_if_ne (pc := 23) hE dX2_saySets_23 (by decide) (h29 J3 hJ3) ?_
    exact si_goto (pc := 26) hE dX2_saySets_26 (by decide) (h54 J3 hJ3)
  have h0 : E (bX2_saySets_0 g.1 R) 0 := by
    unfold bX2_saySets_0
    refine si_iconst (pc := 0) hE dX2_saySets_0 (by decide) ?_
    refine si_istore (pc := 1) hE dX2_saySets_1 (by decide) ?_
    exact h3
  exact h0
def bX2_asBlock_62 (mo : Nat) (R : Ret MS) : Cont MS :=
    o_ireturn R
def bX2_asBlock_50 (mo : Nat) (R : Ret MS) : Cont MS :=
    o_al 0 <|
    o_mga mo 16 <|
    o_ic 240 <|
    o_il 1 <|
    o_imul <|
    o_il 2 <|
    o_iadd <|
    o_mia mo 16 <|
    (bX2_asBlock_62 mo R)
def bX2_asBlock_32 (mo : Nat) (R : Ret MS) : Cont MS :=
    o_al 0 <|
    o_mga mo 61 <|
    o_il 2 <|
    o_mia mo 61 <|
    o_if_lt (bX2_asBlock_50 mo R) <|
    o_al 0 <|
    o_mga mo 61 <|
    o_il 2 <|
    o_mia mo 61 <|
    (bX2_asBlock_62 mo R)
def bX2_asBlock_0 (mo : Nat) (R : Ret MS) : Cont MS :=
    o_al 0 <|
    o_mga mo 15 <|
    o_ic 240 <|
    o_il 1 <|
    o_imul <|
    o_il 2 <|
    o_iadd <|
    o_mia mo 15 <|
    o_ic 7 <|
    o_icmp_eq (bX2_asBlock_32 mo R) <|
    o_al 0 <|
    o_mga mo 16 <|
    o_ic 240 <|
    o_il 1 <|
    o_imul <|
    o_il 2 <|
    o_iadd <|
    o_mia mo 16 <|
    (bX2_asBlock_62 mo R)
def pX2_asBlock (mo : Nat) : PT MS := fun as σ Q => (lg_sl as).length ≤ 3 ∧ bX2_asBlock_0 mo Q (entP 3 as) [] σ
theorem nX2_asBlock : parN yX2_asBlock 2 := by unfold parN; decide +kernel
set_option maxHeartbeats 4000000 in
theorem eX2_asBlock (g : GM) : CT (wM g) yX2_asBlock (Cond.code yX2_asBlock cX2_asBlock 3 (some .int)) 0 0 (pX2_asBlock g.1) := by
  refine CT.of (wM_ok g) (cc := cX2_asBlock) (nL := 3) (ret := (some .int)) (ht := []) (by decide +kernel) (Or.inl ⟨rfl, rfl⟩) (B := bX2_asBlock_0 g.1) (fun R E X hE => ?_)
  have h62 : E (bX2_asBlock_62 g.1 R) 62 := by
    unfold bX2_asBlock_62
    exact si_ireturn (pc := 62) hE dX2_asBlock_62
  have h50 : E (bX2_asBlock_50 g.1 R) 50 := by
    unfold bX2_asBlock_50
    refine si_aload_n (pc := 50) hE dX2_asBlock_50 rfl ?_
    refine si_mga (pc := 51) (k := 16) hE rfl dX2_asBlock_51 q1675 (by decide) rfl (fun _ => rfl) ?_
    refine si_sipush (pc := 54) hE dX2_asBlock_54 (by decide) ?_
    refine si_iload_n (pc := 57) hE dX2_asBlock_57 rfl ?_
    refine si_imul (pc := 58) hE dX2_asBlock_58 ?_
    refine si_iload_n (pc := 59) hE dX2_asBlock_59 rfl ?_
    refine si_iadd (pc := 60) hE dX2_asBlock_60 ?_
    refine si_mia (pc := 61) (k := 16) hE dX2_asBlock_61 (by decide) rfl ?_
    exact h62
  have h32 : E (bX2_asBlock_32 g.1 R) 32 := by
    unfold bX2_asBlock_32
    refine si_aload_n (pc := 32) hE dX2_asBlock_32 rfl ?_
    refine si_mga (pc := 33) (k := 61) hE rfl dX2_asBlock_33 q1720 (by decide) rfl (fun _ => rfl) ?_
    refine si_iload_n (pc := 36) hE dX2_asBlock_36 rfl ?_
    refine si_mia (pc := 37) (k := 61) hE dX2_asBlock_37 (by decide) rfl ?_
    refine si_if_lt (pc := 38) hE dX2_asBlock_38 (by decide) h50 ?_
    refine si_aload_n (pc := 41) hE dX2_asBlock_41 rfl ?_
    refine si_mga (pc := 42) (k := 61) hE rfl dX2_asBlock_42 q1720 (by decide) rfl (fun _ => rfl) ?_
    refine si_iload_n (pc := 45) hE dX2_asBlock_45 rfl ?_
    refine si_mia (pc := 46) (k := 61) hE dX2_asBlock_46 (by decide) rfl ?_
    exact si_goto (pc := 47) hE dX2_asBlock_47 (by decide) h62
  have h0 : E (bX2_asBlock_0 g.1 R) 0 := by
    unfold bX2_asBlock_0
    refine si_aload_n (pc := 0) hE dX2_asBlock_0 rfl ?_
    refine si_mga (pc := 1) (k := 15) hE rfl dX2_asBlock_1 q1674 (by decide) rfl (fun _ => rfl) ?_
    refine si_sipush (pc := 4) hE dX2_asBlock_4 (by decide) ?_
    refine si_iload_n (pc := 7) hE dX2_asBlock_7 rfl ?_
    refine si_imul (pc := 8) hE dX2_asBlock_8 ?_
    refine si_iload_n (pc := 9) hE dX2_asBlock_9 rfl ?_
    refine si_iadd (pc := 10) hE dX2_asBlock_10 ?_
    refine si_mia (pc := 11) (k := 15) hE dX2_asBlock_11 (by decide) rfl ?_
    refine si_bipush (pc := 12) hE dX2_asBlock_12 (by decide) ?_
    refine si_icmp_eq (pc := 14) hE dX2_asBlock_14 (by decide) h32 ?_
    refine si_aload_n (pc := 17) hE dX2_asBlock_17 rfl ?_
    refine si_mga (pc := 18) (k := 16) hE rfl dX2_asBlock_18 q1675 (by decide) rfl (fun _ => rfl) ?_
    refine si_sipush (pc := 21) hE dX2_asBlock_21 (by decide) ?_
    refine si_iload_n (pc := 24) hE dX2_asBlock_24 rfl ?_
    refine si_imul (pc := 25) hE dX2_asBlock_25 ?_
    refine si_iload_n (pc := 26) hE dX2_asBlock_26 rfl ?_
    refine si_iadd (pc := 27) hE dX2_asBlock_27 ?_
    refine si_mia (pc := 28) (k := 16) hE dX2_asBlock_28 (by decide) rfl ?_
    exact si_goto (pc := 29) hE dX2_asBlock_29 (by decide) h62
  exact h0
def bX2_sayGo_0 (mo : Nat) (R : Ret MS) : Cont MS :=
    o_al 0 <|
    o_ic 103 <|
    o_mc mo 2 (pX2_say mo) R <|
    o_al 0 <|
    o_ic 111 <|
    o_mc mo 2 (pX2_say mo) R <|
    o_al 0 <|
    o_ic 32 <|
    o_mc mo 2 (pX2_say mo) R <|
    o_al 0 <|
    o_il 1 <|
    o_mc mo 2 (pX2_sayBlock mo) R <|
    o_return R
def pX2_sayGo (mo : Nat) : PT MS := fun as σ Q => (lg_sl as).length ≤ 2 ∧ bX2_sayGo_0 mo Q (entP 2 as) [] σ
theorem nX2_sayGo : parN yX2_sayGo 1 := by unfold parN; decide +kernel
set_option maxHeartbeats 4000000 in
theorem eX2_sayGo (g : GM) : CT (wM g) yX2_sayGo (Cond.code yX2_sayGo cX2_sayGo 2 none) 3 67 (pX2_sayGo g.1) := by
  refine CT.of (wM_ok g) (cc := cX2_sayGo) (nL := 2) (ret := none) (ht := []) (by decide +kernel) (Or.inl ⟨rfl, rfl⟩) (B := bX2_sayGo_0 g.1) (fun R E X hE => ?_)
  have h0 : E (bX2_sayGo_0 g.1 R) 0 := by
    unfold bX2_sayGo_0
    refine si_aload_n (pc := 0) hE dX2_sayGo_0 rfl ?_
    refine si_bipush (pc := 1) hE dX2_sayGo_1 (by decide) ?_
    refine si_mc (pc := 3) (n := 1) hE rfl dX2_sayGo_3 (eX2_say g) rfl q2205 q2207 qs118 q2208 q134 nX2_say (by decide) (by decide) ?_
    refine si_aload_n (pc := 6) hE dX2_sayGo_6 rfl ?_
    refine si_bipush (pc := 7) hE dX2_sayGo_7 (by decide) ?_
    refine si_mc (pc := 9) (n := 1) hE rfl dX2_sayGo_9 (eX2_say g) rfl q2205 q2207 qs118 q2208 q134 nX2_say (by decide) (by decide) ?_
    refine si_aload_n (pc := 12) hE dX2_sayGo_12 rfl ?_
    refine si_bipush (pc := 13) hE dX2_sayGo_13 (by decide) ?_
    refine si_mc (pc := 15) (n := 1) hE rfl dX2_sayGo_15 (eX2_say g) rfl q2205 q2207 qs118 q2208 q134 nX2_say (by decide) (by decide) ?_
    refine si_aload_n (pc := 18) hE dX2_sayGo_18 rfl ?_
    refine si_iload_n (pc := 19) hE dX2_sayGo_19 rfl ?_
    refine si_mc (pc := 20) (n := 1) hE rfl dX2_sayGo_20 (eX2_sayBlock g) rfl q2201 q2203 qs117 q2204 q134 nX2_sayBlock (by decide) (by decide) ?_
    exact si_return (pc := 23) hE dX2_sayGo_23
  exact h0
def bX2_sayNode_428 (mo : Nat) (R : Ret MS) : Cont MS :=
    o_al 0 <|
    o_mc mo 1 (pX2_close mo) R <|
    o_return R
def bX2_sayNode_107 (mo : Nat) (R : Ret MS) : Cont MS :=
    o_al 0 <|
    o_il 1 <|
    o_al 0 <|
    o_mga mo 18 <|
    o_il 4 <|
    o_mia mo 18 <|
    o_mc mo 3 (pX2_saySum mo) R <|
    (bX2_sayNode_428 mo R)
def bX2_sayNode_60 (mo : Nat) (R : Ret MS) : Cont MS :=
    o_al 0 <|
    o_al 0 <|
    o_mga mo 17 <|
    o_il 4 <|
    o_mia mo 17 <|
    o_ic 0 <|
    o_mc mo 3 (pX2_sayOperand mo) R <|
    o_al 0 <|
    o_mc mo 1 (pX2_is_2 mo) R <|
    o_al 0 <|
    o_il 1 <|
    o_il 2 <|
    o_al 0 <|
    o_mga mo 18 <|
    o_il 4 <|
    o_mia mo 18 <|
    o_il 3 <|
    o_mc mo 5 (pX2_isTaken mo) R <|
    o_if_eq (bX2_sayNode_107 mo R) <|
    o_al 0 <|
    o_al 0 <|
    o_mga mo 18 <|
    o_il 4 <|
    o_mia mo 18 <|
    o_mc mo 2 (pX2_sayT mo) R <|
    (bX2_sayNode_428 mo R)
def bX2_sayNode_122 (mo : Nat) (R : Ret MS) : Cont MS :=
    o_al 0 <|
    o_al 0 <|
    o_mga mo 17 <|
    o_il 4 <|
    o_mia mo 17 <|
    o_ic 0 <|
    o_mc mo 3 (pX2_sayOperand mo) R <|
    o_al 0 <|
    o_mc mo 1 (pX2_is_2 mo) R <|
    o_al 0 <|
    o_al 0 <|
    o_mga mo 21 <|
    o_il 4 <|
    o_mia mo 21 <|
    o_al 0 <|
    o_mga mo 22 <|
    o_il 4 <|
    o_mia mo 22 <|
    o_mc mo 3 (pX2_sayOperand mo) R <|
    (bX2_sayNode_428 mo R)
def bX2_sayNode_159 (mo : Nat) (R : Ret MS) : Cont MS :=
    o_al 0 <|
    o_al 0 <|
    o_mga mo 25 <|
    o_il 4 <|
    o_mia mo 25 <|
    o_al 0 <|
    o_mga mo 21 <|
    o_il 4 <|
    o_mia mo 21 <|
    o_al 0 <|
    o_mga mo 22 <|
    o_il 4 <|
    o_mia mo 22 <|
    o_mc mo 4 (pX2_sayRow mo) R <|
    o_al 0 <|
    o_mc mo 1 (pX2_is_2 mo) R <|
    o_al 0 <|
    o_al 0 <|
    o_mga mo 23 <|
    o_il 4 <|
    o_mia mo 23 <|
    o_al 0 <|
    o_mga mo 24 <|
    o_il 4 <|
    o_mia mo 24 <|
    o_mc mo 3 (pX2_sayOperand mo) R <|
    (bX2_sayNode_428 mo R)
def bX2_sayNode_209 (mo : Nat) (R : Ret MS) : Cont MS :=
    o_al 0 <|
    o_ic 116 <|
    o_mc mo 2 (pX2_say mo) R <|
    o_al 0 <|
    o_ic 101 <|
    o_mc mo 2 (pX2_say mo) R <|
    o_al 0 <|
    o_ic 108 <|
    o_mc mo 2 (pX2_say mo) R <|
    o_al 0 <|
    o_ic 108 <|
    o_mc mo 2 (pX2_say mo) R <|
    o_al 0 <|
    o_ic 32 <|
    o_mc mo 2 (pX2_say mo) R <|
    o_al 0 <|
    o_al 0 <|
    o_mga mo 21 <|
    o_il 4 <|
    o_mia mo 21 <|
    o_al 0 <|
    o_mga mo 22 <|
    o_il 4 <|
    o_mia mo 22 <|
    o_mc mo 3 (pX2_sayOperand mo) R <|
    (bX2_sayNode_428 mo R)
def bX2_sayNode_260 (mo : Nat) (R : Ret MS) : Cont MS :=
    o_al 0 <|
    o_al 0 <|
    o_il 1 <|
    o_al 0 <|
    o_mga mo 19 <|
    o_il 4 <|
    o_mia mo 19 <|
    o_mc mo 3 (pX2_asBlock mo) R <|
    o_mc mo 2 (pX2_sayGo mo) R <|
    (bX2_sayNode_428 mo R)
def bX2_sayNode_279 (mo : Nat) (R : Ret MS) : Cont MS :=
    o_al 0 <|
    o_ic 105 <|
    o_mc mo 2 (pX2_say mo) R <|
    o_al 0 <|
    o_ic 102 <|
    o_mc mo 2 (pX2_say mo) R <|
    o_al 0 <|
    o_ic 32 <|
    o_mc mo 2 (pX2_say mo) R <|
    o_al 0 <|
    o_al 0 <|
    o_mga mo 21 <|
    o_il 4 <|
    o_mia mo 21 <|
    o_al 0 <|
    o_mga mo 22 <|
    o_il 4 <|
    o_mia mo 22 <|
    o_mc mo 3 (pX2_sayOperand mo) R <|
    o_al 0 <|
    o_ic 32 <|
    o_mc mo 2 (pX2_say mo) R <|
    o_al 0 <|
    o_ic 60 <|
    o_mc mo 2 (pX2_say mo) R <|
    o_al 0 <|
    o_ic 32 <|
    o_mc mo 2 (pX2_say mo) R <|
    o_al 0 <|
    o_al 0 <|
    o_mga mo 23 <|
    o_il 4 <|
    o_mia mo 23 <|
    o_al 0 <|
    o_mga mo 24 <|
    o_il 4 <|
    o_mia mo 24 <|
    o_mc mo 3 (pX2_sayOperand mo) R <|
    o_al 0 <|
    o_ic 32 <|
    o_mc mo 2 (pX2_say mo) R <|
    o_al 0 <|
    o_al 0 <|
    o_il 1 <|
    o_al 0 <|
    o_mga mo 19 <|
    o_il 4 <|
    o_mia mo 19 <|
    o_mc mo 3 (pX2_asBlock mo) R <|
    o_mc mo 2 (pX2_sayBlock mo) R <|
    o_al 0 <|
    o_ic 32 <|
    o_mc mo 2 (pX2_say mo) R <|
    o_al 0 <|
    o_al 0 <|
    o_il 1 <|
    o_al 0 <|
    o_mga mo 20 <|
    o_il 4 <|
    o_mia mo 20 <|
    o_mc mo 3 (pX2_asBlock mo) R <|
    o_mc mo 2 (pX2_sayBlock mo) R <|
    (bX2_sayNode_428 mo R)
def bX2_sayNode_398 (mo : Nat) (R : Ret MS) : Cont MS :=
    o_al 0 <|
    o_ic 108 <|
    o_mc mo 2 (pX2_say mo) R <|
    o_al 0 <|
    o_ic 101 <|
    o_mc mo 2 (pX2_say mo) R <|
    o_al 0 <|
    o_ic 97 <|
    o_mc mo 2 (pX2_say mo) R <|
    o_al 0 <|
    o_ic 118 <|
    o_mc mo 2 (pX2_say mo) R <|
    o_al 0 <|
    o_ic 101 <|
    o_mc mo 2 (pX2_say mo) R <|
    (bX2_sayNode_428 mo R)
def bX2_sayNode_0 (mo : Nat) (R : Ret MS) : Cont MS :=
    o_ic 240 <|
    o_il 1 <|
    o_imul <|
    o_il 3 <|
    o_iadd <|
    o_is 4 <|
    o_al 0 <|
    o_mc mo 1 (pX2_begin mo) R <|
    o_al 0 <|
    o_mga mo 15 <|
    o_il 4 <|
    o_mia mo 15 <|
    o_sw [(0, (bX2_sayNode_60 mo R)), (1, (bX2_sayNode_122 mo R)), (2, (bX2_sayNode_159 mo R)), (3, (bX2_sayNode_209 mo R)), (4, (bX2_sayNode_260 mo R)), (5, (bX2_sayNode_279 mo R))] (bX2_sayNode_398 mo R)
def pX2_sayNode (mo : Nat) : PT MS := fun as σ Q => (lg_sl as).length ≤ 5 ∧ bX2_sayNode_0 mo Q (entP 5 as) [] σ
theorem nX2_sayNode : parN yX2_sayNode 3 := by unfold parN; decide +kernel
set_option maxHeartbeats 4000000 in
theorem eX2_sayNode (g : GM) : CT (wM g) yX2_sayNode (Cond.code yX2_sayNode cX2_sayNode 5 none) 5 114 (pX2_sayNode g.1) := by
  refine CT.of (wM_ok g) (cc := cX2_sayNode) (nL := 5) (ret := none) (ht := []) (by decide +kernel) (Or.inl ⟨rfl, rfl⟩) (B := bX2_sayNode_0 g.1) (fun R E X hE => ?_)
  have h428 : E (bX2_sayNode_428 g.1 R) 428 := by
    unfold bX2_sayNode_428
    refine si_aload_n (pc := 428) hE dX2_sayNode_428 rfl ?_
    refine si_mc (pc := 429) (n := 0) hE rfl dX2_sayNode_429 (eX2_close g) rfl q2242 q2244 qs127 q2245 q134 nX2_close (by decide) (by decide) ?_
    exact si_return (pc := 432) hE dX2_sayNode_432
  have h107 : E (bX2_sayNode_107 g.1 R) 107 := by
    unfold bX2_sayNode_107
    refine si_aload_n (pc := 107) hE dX2_sayNode_107 rfl ?_
    refine si_iload_n (pc := 108) hE dX2_sayNode_108 rfl ?_
    refine si_aload_n (pc := 109) hE dX2_sayNode_109 rfl ?_
    refine si_mga (pc := 110) (k := 18) hE rfl dX2_sayNode_110 q1677 (by decide) rfl (fun _ => rfl) ?_
    refine si_iload (pc := 113) hE dX2_sayNode_113 ?_
    refine si_mia (pc := 115) (k := 18) hE dX2_sayNode_115 (by decide) rfl ?_
    refine si_mc (pc := 116) (n := 2) hE rfl dX2_sayNode_116 (eX2_saySum g) rfl q2230 q2232 qs124 q2233 q134 nX2_saySum (by decide) (by decide) ?_
    exact si_goto (pc := 119) hE dX2_sayNode_119 (by decide) h428
  have h60 : E (bX2_sayNode_60 g.1 R) 60 := by
    unfold bX2_sayNode_60
    refine si_aload_n (pc := 60) hE dX2_sayNode_60 rfl ?_
    refine si_aload_n (pc := 61) hE dX2_sayNode_61 rfl ?_
    refine si_mga (pc := 62) (k := 17) hE rfl dX2_sayNode_62 q1676 (by decide) rfl (fun _ => rfl) ?_
    refine si_iload (pc := 65) hE dX2_sayNode_65 ?_
    refine si_mia (pc := 67) (k := 17) hE dX2_sayNode_67 (by decide) rfl ?_
    refine si_iconst (pc := 68) hE dX2_sayNode_68 (by decide) ?_
    refine si_mc (pc := 69) (n := 2) hE rfl dX2_sayNode_69 (eX2_sayOperand g) rfl q2238 q2240 qs126 q2241 q134 nX2_sayOperand (by decide) (by decide) ?_
    refine si_aload_n (pc := 72) hE dX2_sayNode_72 rfl ?_
    refine si_mc (pc := 73) (n := 0) hE rfl dX2_sayNode_73 (eX2_is_2 g) rfl q2226 q2228 qs123 q2229 q134 nX2_is_2 (by decide) (by decide) ?_
    refine si_aload_n (pc := 76) hE dX2_sayNode_76 rfl ?_
    refine si_iload_n (pc := 77) hE dX2_sayNode_77 rfl ?_
    refine si_iload_n (pc := 78) hE dX2_sayNode_78 rfl ?_
    refine si_aload_n (pc := 79) hE dX2_sayNode_79 rfl ?_
    refine si_mga (pc := 80) (k := 18) hE rfl dX2_sayNode_80 q1677 (by decide) rfl (fun _ => rfl) ?_
    refine si_iload (pc := 83) hE dX2_sayNode_83 ?_
    refine si_mia (pc := 85) (k := 18) hE dX2_sayNode_85 (by decide) rfl ?_
    refine si_iload_n (pc := 86) hE dX2_sayNode_86 rfl ?_
    refine si_mc (pc := 87) (n := 4) hE rfl dX2_sayNode_87 (eX2_isTaken g) rfl q2105 q2107 qs106 q2108 q134 nX2_isTaken (by decide) (by decide) ?_
    refine si_if_eq (pc := 90) hE dX2_sayNode_90 (by decide) h107 ?_
    refine si_aload_n (pc := 93) hE dX2_sayNode_93 rfl ?_
    refine si_aload_n (pc := 94) hE dX2_sayNode_94 rfl ?_
    refine si_mga (pc := 95) (k := 18) hE rfl dX2_sayNode_95 q1677 (by decide) rfl (fun _ => rfl) ?_
    refine si_iload (pc := 98) hE dX2_sayNode_98 ?_
    refine si_mia (pc := 100) (k := 18) hE dX2_sayNode_100 (by decide) rfl ?_
    refine si_mc (pc := 101) (n := 1) hE rfl dX2_sayNode_101 (eX2_sayT g) rfl q2222 q2224 qs122 q2225 q134 nX2_sayT (by decide) (by decide) ?_
    exact si_goto (pc := 104) hE dX2_sayNode_104 (by decide) h428
  have h122 : E (bX2_sayNode_122 g.1 R) 122 := by
    unfold bX2_sayNode_122
    refine si_aload_n (pc := 122) hE dX2_sayNode_122 rfl ?_
    refine si_aload_n (pc := 123) hE dX2_sayNode_123 rfl ?_
    refine si_mga (pc := 124) (k := 17) hE rfl dX2_sayNode_124 q1676 (by decide) rfl (fun _ => rfl) ?_
    refine si_iload (pc := 127) hE dX2_sayNode_127 ?_
    refine si_mia (pc := 129) (k := 17) hE dX2_sayNode_129 (by decide) rfl ?_
    refine si_iconst (pc := 130) hE dX2_sayNode_130 (by decide) ?_
    refine si_mc (pc := 131) (n := 2) hE rfl dX2_sayNode_131 (eX2_sayOperand g) rfl q2238 q2240 qs126 q2241 q134 nX2_sayOperand (by decide) (by decide) ?_
    refine si_aload_n (pc := 134) hE dX2_sayNode_134 rfl ?_
    refine si_mc (pc := 135) (n := 0) hE rfl dX2_sayNode_135 (eX2_is_2 g) rfl q2226 q2228 qs123 q2229 q134 nX2_is_2 (by decide) (by decide) ?_
    refine si_aload_n (pc := 138) hE dX2_sayNode_138 rfl ?_
    refine si_aload_n (pc := 139) hE dX2_sayNode_139 rfl ?_
    refine si_mga (pc := 140) (k := 21) hE rfl dX2_sayNode_140 q1680 (by decide) rfl (fun _ => rfl) ?_
    refine si_iload (pc := 143) hE dX2_sayNode_143 ?_
    refine si_mia (pc := 145) (k := 21) hE dX2_sayNode_145 (by decide) rfl ?_
    refine si_aload_n (pc := 146) hE dX2_sayNode_146 rfl ?_
    refine si_mga (pc := 147) (k := 22) hE rfl dX2_sayNode_147 q1681 (by decide) rfl (fun _ => rfl) ?_
    refine si_iload (pc := 150) hE dX2_sayNode_150 ?_
    refine si_mia (pc := 152) (k := 22) hE dX2_sayNode_152 (by decide) rfl ?_
    refine si_mc (pc := 153) (n := 2) hE rfl dX2_sayNode_153 (eX2_sayOperand g) rfl q2238 q2240 qs126 q2241 q134 nX2_sayOperand (by decide) (by decide) ?_
    exact si_goto (pc := 156) hE dX2_sayNode_156 (by decide) h428
  have h159 : E (bX2_sayNode_159 g.1 R) 159 := by
    unfold bX2_sayNode_159
    refine si_aload_n (pc := 159) hE dX2_sayNode_159 rfl ?_
    refine si_aload_n (pc := 160) hE dX2_sayNode_160 rfl ?_
    refine si_mga (pc := 161) (k := 25) hE rfl dX2_sayNode_161 q1684 (by decide) rfl (fun _ => rfl) ?_
    refine si_iload (pc := 164) hE dX2_sayNode_164 ?_
    refine si_mia (pc := 166) (k := 25) hE dX2_sayNode_166 (by decide) rfl ?_
    refine si_aload_n (pc := 167) hE dX2_sayNode_167 rfl ?_
    refine si_mga (pc := 168) (k := 21) hE rfl dX2_sayNode_168 q1680 (by decide) rfl (fun _ => rfl) ?_
    refine si_iload (pc := 171) hE dX2_sayNode_171 ?_
    refine si_mia (pc := 173) (k := 21) hE dX2_sayNode_173 (by decide) rfl ?_
    refine si_aload_n (pc := 174) hE dX2_sayNode_174 rfl ?_
    refine si_mga (pc := 175) (k := 22) hE rfl dX2_sayNode_175 q1681 (by decide) rfl (fun _ => rfl) ?_
    refine si_iload (pc := 178) hE dX2_sayNode_178 ?_
    refine si_mia (pc := 180) (k := 22) hE dX2_sayNode_180 (by decide) rfl ?_
    refine si_mc (pc := 181) (n := 3) hE rfl dX2_sayNode_181 (eX2_sayRow g) rfl q2234 q2236 qs125 q2237 q134 nX2_sayRow (by decide) (by decide) ?_
    refine si_aload_n (pc := 184) hE dX2_sayNode_184 rfl ?_
    refine si_mc (pc := 185) (n := 0) hE rfl dX2_sayNode_185 (eX2_is_2 g) rfl q2226 q2228 qs123 q2229 q134 nX2_is_2 (by decide) (by decide) ?_
    refine si_aload_n (pc := 188) hE dX2_sayNode_188 rfl ?_
    refine si_aload_n (pc := 189) hE dX2_sayNode_189 rfl ?_
    refine si_mga (pc := 190) (k := 23) hE rfl dX2_sayNode_190 q1682 (by decide) rfl (fun _ => rfl) ?_
    refine si_iload (pc := 193) hE dX2_sayNode_193 ?_
    refine si_mia (pc := 195) (k := 23) hE dX2_sayNode_195 (by decide) rfl ?_
    refine si_aload_n (pc := 196) hE dX2_sayNode_196 rfl ?_
    refine si_mga (pc := 197) (k := 24) hE rfl dX2_sayNode_197 q1683 (by decide) rfl (fun _ => rfl) ?_
    refine si_iload (pc := 200) hE dX2_sayNode_200 ?_
    refine si_mia (pc := 202) (k := 24) hE dX2_sayNode_202 (by decide) rfl ?_
    refine si_mc (pc := 203) (n := 2) hE rfl dX2_sayNode_203 (eX2_sayOperand g) rfl q2238 q2240 qs126 q2241 q134 nX2_sayOperand (by decide) (by decide) ?_
    exact si_goto (pc := 206) hE dX2_sayNode_206 (by decide) h428
  have h209 : E (bX2_sayNode_209 g.1 R) 209 := by
    unfold bX2_sayNode_209
    refine si_aload_n (pc := 209) hE dX2_sayNode_209 rfl ?_
    refine si_bipush (pc := 210) hE dX2_sayNode_210 (by decide) ?_
    refine si_mc (pc := 212) (n := 1) hE rfl dX2_sayNode_212 (eX2_say g) rfl q2205 q2207 qs118 q2208 q134 nX2_say (by decide) (by decide) ?_
    refine si_aload_n (pc := 215) hE dX2_sayNode_215 rfl ?_
    refine si_bipush (pc := 216) hE dX2_sayNode_216 (by decide) ?_
    refine si_mc (pc := 218) (n := 1) hE rfl dX2_sayNode_218 (eX2_say g) rfl q2205 q2207 qs118 q2208 q134 nX2_say (by decide) (by decide) ?_
    refine si_aload_n (pc := 221) hE dX2_sayNode_221 rfl ?_
    refine si_bipush (pc := 222) hE dX2_sayNode_222 (by decide) ?_
    refine si_mc (pc := 224) (n := 1) hE rfl dX2_sayNode_224 (eX2_say g) rfl q2205 q2207 qs118 q2208 q134 nX2_say (by decide) (by decide) ?_
    refine si_aload_n (pc := 227) hE dX2_sayNode_227 rfl ?_
    refine si_bipush (pc := 228) hE dX2_sayNode_228 (by decide) ?_
    refine si_mc (pc := 230) (n := 1) hE rfl dX2_sayNode_230 (eX2_say g) rfl q2205 q2207 qs118 q2208 q134 nX2_say (by decide) (by decide) ?_
    refine si_aload_n (pc := 233) hE dX2_sayNode_233 rfl ?_
    refine si_bipush (pc := 234) hE dX2_sayNode_234 (by decide) ?_
    refine si_mc (pc := 236) (n := 1) hE rfl dX2_sayNode_236 (eX2_say g) rfl q2205 q2207 qs118 q2208 q134 nX2_say (by decide) (by decide) ?_
    refine si_aload_n (pc := 239) hE dX2_sayNode_239 rfl ?_
    refine si_aload_n (pc := 240) hE dX2_sayNode_240 rfl ?_
    refine si_mga (pc := 241) (k := 21) hE rfl dX2_sayNode_241 q1680 (by decide) rfl (fun _ => rfl) ?_
    refine si_iload (pc := 244) hE dX2_sayNode_244 ?_
    refine si_mia (pc := 246) (k := 21) hE dX2_sayNode_246 (by decide) rfl ?_
    refine si_aload_n (pc := 247) hE dX2_sayNode_247 rfl ?_
    refine si_mga (pc := 248) (k := 22) hE rfl dX2_sayNode_248 q1681 (by decide) rfl (fun _ => rfl) ?_
    refine si_iload (pc := 251) hE dX2_sayNode_251 ?_
    refine si_mia (pc := 253) (k := 22) hE dX2_sayNode_253 (by decide) rfl ?_
    refine si_mc (pc := 254) (n := 2) hE rfl dX2_sayNode_254 (eX2_sayOperand g) rfl q2238 q2240 qs126 q2241 q134 nX2_sayOperand (by decide) (by decide) ?_
    exact si_goto (pc := 257) hE dX2_sayNode_257 (by decide) h428
  have h260 : E (bX2_sayNode_260 g.1 R) 260 := by
    unfold bX2_sayNode_260
    refine si_aload_n (pc := 260) hE dX2_sayNode_260 rfl ?_
    refine si_aload_n (pc := 261) hE dX2_sayNode_261 rfl ?_
    refine si_iload_n (pc := 262) hE dX2_sayNode_262 rfl ?_
    refine si_aload_n (pc := 263) hE dX2_sayNode_263 rfl ?_
    refine si_mga (pc := 264) (k := 19) hE rfl dX2_sayNode_264 q1678 (by decide) rfl (fun _ => rfl) ?_
    refine si_iload (pc := 267) hE dX2_sayNode_267 ?_
    refine si_mia (pc := 269) (k := 19) hE dX2_sayNode_269 (by decide) rfl ?_
    refine si_mc (pc := 270) (n := 2) hE rfl dX2_sayNode_270 (eX2_asBlock g) rfl q2250 q2252 qs129 q2253 q134 nX2_asBlock (by decide) (by decide) ?_
    refine si_mc (pc := 273) (n := 1) hE rfl dX2_sayNode_273 (eX2_sayGo g) rfl q2254 q2256 qs130 q2257 q134 nX2_sayGo (by decide) (by decide) ?_
    exact si_goto (pc := 276) hE dX2_sayNode_276 (by decide) h428
  have h279 : E (bX2_sayNode_279 g.1 R) 279 := by
    unfold bX2_sayNode_279
    refine si_aload_n (pc := 279) hE dX2_sayNode_279 rfl ?_
    refine si_bipush (pc := 280) hE dX2_sayNode_280 (by decide) ?_
    refine si_mc (pc := 282) (n := 1) hE rfl dX2_sayNode_282 (eX2_say g) rfl q2205 q2207 qs118 q2208 q134 nX2_say (by decide) (by decide) ?_
    refine si_aload_n (pc := 285) hE dX2_sayNode_285 rfl ?_
    refine si_bipush (pc := 286) hE dX2_sayNode_286 (by decide) ?_
    refine si_mc (pc := 288) (n := 1) hE rfl dX2_sayNode_288 (eX2_say g) rfl q2205 q2207 qs118 q2208 q134 nX2_say (by decide) (by decide) ?_
    refine si_aload_n (pc := 291) hE dX2_sayNode_291 rfl ?_
    refine si_bipush (pc := 292) hE dX2_sayNode_292 (by decide) ?_
    refine si_mc (pc := 294) (n := 1) hE rfl dX2_sayNode_294 (eX2_say g) rfl q2205 q2207 qs118 q2208 q134 nX2_say (by decide) (by decide) ?_
    refine si_aload_n (pc := 297) hE dX2_sayNode_297 rfl ?_
    refine si_aload_n (pc := 298) hE dX2_sayNode_298 rfl ?_
    refine si_mga (pc := 299) (k := 21) hE rfl dX2_sayNode_299 q1680 (by decide) rfl (fun _ => rfl) ?_
    refine si_iload (pc := 302) hE dX2_sayNode_302 ?_
    refine si_mia (pc := 304) (k := 21) hE dX2_sayNode_304 (by decide) rfl ?_
    refine si_aload_n (pc := 305) hE dX2_sayNode_305 rfl ?_
    refine si_mga (pc := 306) (k := 22) hE rfl dX2_sayNode_306 q1681 (by decide) rfl (fun _ => rfl) ?_
    refine si_iload (pc := 309) hE dX2_sayNode_309 ?_
    refine si_mia (pc := 311) (k := 22) hE dX2_sayNode_311 (by decide) rfl ?_
    refine si_mc (pc := 312) (n := 2) hE rfl dX2_sayNode_312 (eX2_sayOperand g) rfl q2238 q2240 qs126 q2241 q134 nX2_sayOperand (by decide) (by decide) ?_
    refine si_aload_n (pc := 315) hE dX2_sayNode_315 rfl ?_
    refine si_bipush (pc := 316) hE dX2_sayNode_316 (by decide) ?_
    refine si_mc (pc := 318) (n := 1) hE rfl dX2_sayNode_318 (eX2_say g) rfl q2205 q2207 qs118 q2208 q134 nX2_say (by decide) (by decide) ?_
    refine si_aload_n (pc := 321) hE dX2_sayNode_321 rfl ?_
    refine si_bipush (pc := 322) hE dX2_sayNode_322 (by decide) ?_
    refine si_mc (pc := 324) (n := 1) hE rfl dX2_sayNode_324 (eX2_say g) rfl q2205 q2207 qs118 q2208 q134 nX2_say (by decide) (by decide) ?_
    refine si_aload_n (pc := 327) hE dX2_sayNode_327 rfl ?_
    refine si_bipush (pc := 328) hE dX2_sayNode_328 (by decide) ?_
    refine si_mc (pc := 330) (n := 1) hE rfl dX2_sayNode_330 (eX2_say g) rfl q2205 q2207 qs118 q2208 q134 nX2_say (by decide) (by decide) ?_
    refine si_aload_n (pc := 333) hE dX2_sayNode_333 rfl ?_
    refine si_aload_n (pc := 334) hE dX2_sayNode_334 rfl ?_
    refine si_mga (pc := 335) (k := 23) hE rfl dX2_sayNode_335 q1682 (by decide) rfl (fun _ => rfl) ?_
    refine si_iload (pc := 338) hE dX2_sayNode_338 ?_
    refine si_mia (pc := 340) (k := 23) hE dX2_sayNode_340 (by decide) rfl ?_
    refine si_aload_n (pc := 341) hE dX2_sayNode_341 rfl ?_
    refine si_mga (pc := 342) (k := 24) hE rfl dX2_sayNode_342 q1683 (by decide) rfl (fun _ => rfl) ?_
    refine si_iload (pc := 345) hE dX2_sayNode_345 ?_
    refine si_mia (pc := 347) (k := 24) hE dX2_sayNode_347 (by decide) rfl ?_
    refine si_mc (pc := 348) (n := 2) hE rfl dX2_sayNode_348 (eX2_sayOperand g) rfl q2238 q2240 qs126 q2241 q134 nX2_sayOperand (by decide) (by decide) ?_
    refine si_aload_n (pc := 351) hE dX2_sayNode_351 rfl ?_
    refine si_bipush (pc := 352) hE dX2_sayNode_352 (by decide) ?_
    refine si_mc (pc := 354) (n := 1) hE rfl dX2_sayNode_354 (eX2_say g) rfl q2205 q2207 qs118 q2208 q134 nX2_say (by decide) (by decide) ?_
    refine si_aload_n (pc := 357) hE dX2_sayNode_357 rfl ?_
    refine si_aload_n (pc := 358) hE dX2_sayNode_358 rfl ?_
    refine si_iload_n (pc := 359) hE dX2_sayNode_359 rfl ?_
    refine si_aload_n (pc := 360) hE dX2_sayNode_360 rfl ?_
    refine si_mga (pc := 361) (k := 19) hE rfl dX2_sayNode_361 q1678 (by decide) rfl (fun _ => rfl) ?_
    refine si_iload (pc := 364) hE dX2_sayNode_364 ?_
    refine si_mia (pc := 366) (k := 19) hE dX2_sayNode_366 (by decide) rfl ?_
    refine si_mc (pc := 367) (n := 2) hE rfl dX2_sayNode_367 (eX2_asBlock g) rfl q2250 q2252 qs129 q2253 q134 nX2_asBlock (by decide) (by decide) ?_
    refine si_mc (pc := 370) (n := 1) hE rfl dX2_sayNode_370 (eX2_sayBlock g) rfl q2201 q2203 qs117 q2204 q134 nX2_sayBlock (by decide) (by decide) ?_
    refine si_aload_n (pc := 373) hE dX2_sayNode_373 rfl ?_
    refine si_bipush (pc := 374) hE dX2_sayNode_374 (by decide) ?_
    refine si_mc (pc := 376) (n := 1) hE rfl dX2_sayNode_376 (eX2_say g) rfl q2205 q2207 qs118 q2208 q134 nX2_say (by decide) (by decide) ?_
    refine si_aload_n (pc := 379) hE dX2_sayNode_379 rfl ?_
    refine si_aload_n (pc := 380) hE dX2_sayNode_380 rfl ?_
    refine si_iload_n (pc := 381) hE dX2_sayNode_381 rfl ?_
    refine si_aload_n (pc := 382) hE dX2_sayNode_382 rfl ?_
    refine si_mga (pc := 383) (k := 20) hE rfl dX2_sayNode_383 q1679 (by decide) rfl (fun _ => rfl) ?_
    refine si_iload (pc := 386) hE dX2_sayNode_386 ?_
    refine si_mia (pc := 388) (k := 20) hE dX2_sayNode_388 (by decide) rfl ?_
    refine si_mc (pc := 389) (n := 2) hE rfl dX2_sayNode_389 (eX2_asBlock g) rfl q2250 q2252 qs129 q2253 q134 nX2_asBlock (by decide) (by decide) ?_
    refine si_mc (pc := 392) (n := 1) hE rfl dX2_sayNode_392 (eX2_sayBlock g) rfl q2201 q2203 qs117 q2204 q134 nX2_sayBlock (by decide) (by decide) ?_
    exact si_goto (pc := 395) hE dX2_sayNode_395 (by decide) h428
  have h398 : E (bX2_sayNode_398 g.1 R) 398 := by
    unfold bX2_sayNode_398
    refine si_aload_n (pc := 398) hE dX2_sayNode_398 rfl ?_
    refine si_bipush (pc := 399) hE dX2_sayNode_399 (by decide) ?_
    refine si_mc (pc := 401) (n := 1) hE rfl dX2_sayNode_401 (eX2_say g) rfl q2205 q2207 qs118 q2208 q134 nX2_say (by decide) (by decide) ?_
    refine si_aload_n (pc := 404) hE dX2_sayNode_404 rfl ?_
    refine si_bipush (pc := 405) hE dX2_sayNode_405 (by decide) ?_
    refine si_mc (pc := 407) (n := 1) hE rfl dX2_sayNode_407 (eX2_say g) rfl q2205 q2207 qs118 q2208 q134 nX2_say (by decide) (by decide) ?_
    refine si_aload_n (pc := 410) hE dX2_sayNode_410 rfl ?_
    refine si_bipush (pc := 411) hE dX2_sayNode_411 (by decide) ?_
    refine si_mc (pc := 413) (n := 1) hE rfl dX2_sayNode_413 (eX2_say g) rfl q2205 q2207 qs118 q2208 q134 nX2_say (by decide) (by decide) ?_
    refine si_aload_n (pc := 416) hE dX2_sayNode_416 rfl ?_
    refine si_bipush (pc := 417) hE dX2_sayNode_417 (by decide) ?_
    refine si_mc (pc := 419) (n := 1) hE rfl dX2_sayNode_419 (eX2_say g) rfl q2205 q2207 qs118 q2208 q134 nX2_say (by decide) (by decide) ?_
    refine si_aload_n (pc := 422) hE dX2_sayNode_422 rfl ?_
    refine si_bipush (pc := 423) hE dX2_sayNode_423 (by decide) ?_
    refine si_mc (pc := 425) (n := 1) hE rfl dX2_sayNode_425 (eX2_say g) rfl q2205 q2207 qs118 q2208 q134 nX2_say (by decide) (by decide) ?_
    exact h428
  have h0 : E (bX2_sayNode_0 g.1 R) 0 := by
    unfold bX2_sayNode_0
    refine si_sipush (pc := 0) hE dX2_sayNode_0 (by decide) ?_
    refine si_iload_n (pc := 3) hE dX2_sayNode_3 rfl ?_
    refine si_imul (pc := 4) hE dX2_sayNode_4 ?_
    refine si_iload_n (pc := 5) hE dX2_sayNode_5 rfl ?_
    refine si_iadd (pc := 6) hE dX2_sayNode_6 ?_
    refine si_istore (pc := 7) hE dX2_sayNode_7 (by decide) ?_
    refine si_aload_n (pc := 9) hE dX2_sayNode_9 rfl ?_
    refine si_mc (pc := 10) (n := 0) hE rfl dX2_sayNode_10 (eX2_begin g) rfl q2218 q2220 qs121 q2221 q134 nX2_begin (by decide) (by decide) ?_
    refine si_aload_n (pc := 13) hE dX2_sayNode_13 rfl ?_
    refine si_mga (pc := 14) (k := 15) hE rfl dX2_sayNode_14 q1674 (by decide) rfl (fun _ => rfl) ?_
    refine si_iload (pc := 17) hE dX2_sayNode_17 ?_
    refine si_mia (pc := 19) (k := 15) hE dX2_sayNode_19 (by decide) rfl ?_
    exact si_tsw (pc := 20) hE dX2_sayNode_20 (by decide) (td := 398) (by decide) h398 ⟨⟨60, by decide, by decide, h60⟩, ⟨⟨122, by decide, by decide, h122⟩, ⟨⟨159, by decide, by decide, h159⟩, ⟨⟨209, by decide, by decide, h209⟩, ⟨⟨260, by decide, by decide, h260⟩, ⟨⟨279, by decide, by decide, h279⟩, trivial⟩⟩⟩⟩⟩⟩
  exact h0
def bX2_write_16 (mo : Nat) (R : Ret MS) : Cont MS :=
    o_ic (-1) <|
    o_ireturn R
def bX2_write_310 (mo : Nat) (R : Ret MS) : Cont MS :=
    o_al 0 <|
    o_al 0 <|
    o_mg mo 60 <|
    o_mp mo 1 <|
    o_al 0 <|
    o_mg mo 60 <|
    o_ireturn R
def bX2_write_281 (mo : Nat) (R : Ret MS) : Cont MS :=
    fixC fun J281 =>
    o_il 4 <|
    o_al 0 <|
    o_mg mo 60 <|
    o_icmp_ge (bX2_write_310 mo R) <|
    o_al 0 <|
    o_mga mo 0 <|
    o_il 4 <|
    o_al 0 <|
    o_mga mo 59 <|
    o_il 4 <|
    o_mia mo 59 <|
    o_mis mo 0 <|
    o_iinc 4 1 <|
    (o_kill [1, 2, 3, 5] J281)
def bX2_write_278 (mo : Nat) (R : Ret MS) : Cont MS :=
    o_ic 0 <|
    o_is 4 <|
    (o_kill [1, 2, 3, 5] (bX2_write_281 mo R))
def bX2_write_265 (mo : Nat) (R : Ret MS) : Cont MS :=
    o_al 0 <|
    o_mg mo 60 <|
    o_ic 3000 <|
    o_icmp_le (bX2_write_278 mo R) <|
    o_ic (-3) <|
    o_ireturn R
def bX2_write_259 (mo : Nat) (R : Ret MS) (J191 : Cont MS) : Cont MS :=
    o_iinc 4 1 <|
    (o_kill [3, 5] J191)
def bX2_write_215 (mo : Nat) (R : Ret MS) (J191 : Cont MS) : Cont MS :=
    o_al 0 <|
    o_al 0 <|
    o_mga mo 61 <|
    o_il 4 <|
    o_mia mo 61 <|
    o_mc mo 2 (pX2_head mo) R <|
    o_al 0 <|
    o_il 1 <|
    o_il 2 <|
    o_il 4 <|
    o_mc mo 4 (pX2_saySets mo) R <|
    o_al 0 <|
    o_mc mo 1 (pX2_begin mo) R <|
    o_al 0 <|
    o_al 0 <|
    o_mga mo 16 <|
    o_ic 240 <|
    o_il 1 <|
    o_imul <|
    o_il 4 <|
    o_iadd <|
    o_mia mo 16 <|
    o_mc mo 2 (pX2_sayGo mo) R <|
    o_al 0 <|
    o_mc mo 1 (pX2_close mo) R <|
    (bX2_write_259 mo R J191)
def bX2_write_191 (mo : Nat) (R : Ret MS) : Cont MS :=
    fixC fun J191 =>
    o_il 4 <|
    o_al 0 <|
    o_mga mo 10 <|
    o_il 1 <|
    o_mia mo 10 <|
    o_icmp_ge (bX2_write_265 mo R) <|
    o_al 0 <|
    o_mga mo 61 <|
    o_il 4 <|
    o_mia mo 61 <|
    o_if_ge (bX2_write_215 mo R J191) <|
    (bX2_write_259 mo R J191)
def bX2_write_183 (mo : Nat) (R : Ret MS) : Cont MS :=
    o_al 0 <|
    o_mga mo 11 <|
    o_il 1 <|
    o_mia mo 11 <|
    o_is 4 <|
    (o_kill [3, 5] (bX2_write_191 mo R))
def bX2_write_177 (mo : Nat) (R : Ret MS) (J106 : Cont MS) : Cont MS :=
    o_iinc 4 1 <|
    (o_kill [3, 5] J106)
def bX2_write_137 (mo : Nat) (R : Ret MS) (J106 : Cont MS) : Cont MS :=
    fixC fun J137 =>
    o_il 5 <|
    o_al 0 <|
    o_il 1 <|
    o_il 4 <|
    o_mc mo 3 (pX2_end mo) R <|
    o_ic 240 <|
    o_il 1 <|
    o_imul <|
    o_isub <|
    o_icmp_gt (bX2_write_177 mo R J106) <|
    o_al 0 <|
    o_il 1 <|
    o_il 2 <|
    o_il 5 <|
    o_mc mo 4 (pX2_saySets mo) R <|
    o_al 0 <|
    o_il 1 <|
    o_il 2 <|
    o_il 5 <|
    o_mc mo 4 (pX2_sayNode mo) R <|
    o_iinc 5 1 <|
    (o_kill [3] J137)
def bX2_write_106 (mo : Nat) (R : Ret MS) : Cont MS :=
    fixC fun J106 =>
    o_il 4 <|
    o_al 0 <|
    o_mga mo 9 <|
    o_il 1 <|
    o_mia mo 9 <|
    o_icmp_ge (bX2_write_183 mo R) <|
    o_al 0 <|
    o_il 4 <|
    o_mc mo 2 (pX2_head mo) R <|
    o_al 0 <|
    o_mga mo 13 <|
    o_ic 41 <|
    o_il 1 <|
    o_imul <|
    o_il 4 <|
    o_iadd <|
    o_mia mo 13 <|
    o_is 5 <|
    (o_kill [3] (bX2_write_137 mo R J106))
def bX2_write_103 (mo : Nat) (R : Ret MS) : Cont MS :=
    o_ic 0 <|
    o_is 4 <|
    (o_kill [3, 5] (bX2_write_106 mo R))
def bX2_write_97 (mo : Nat) (R : Ret MS) (J53 : Cont MS) : Cont MS :=
    o_iinc 4 1 <|
    (o_kill [5] J53)
def bX2_write_86 (mo : Nat) (R : Ret MS) (J53 : Cont MS) : Cont MS :=
    o_al 0 <|
    o_mga mo 61 <|
    o_il 4 <|
    o_il 3 <|
    o_mis mo 61 <|
    o_iinc 3 1 <|
    (bX2_write_97 mo R J53)
def bX2_write_53 (mo : Nat) (R : Ret MS) : Cont MS :=
    fixC fun J53 =>
    o_il 4 <|
    o_al 0 <|
    o_mga mo 10 <|
    o_il 1 <|
    o_mia mo 10 <|
    o_icmp_ge (bX2_write_103 mo R) <|
    o_al 0 <|
    o_mga mo 61 <|
    o_il 4 <|
    o_ic (-1) <|
    o_mis mo 61 <|
    o_al 0 <|
    o_il 1 <|
    o_il 2 <|
    o_il 4 <|
    o_mc mo 4 (pX2_sets mo) R <|
    o_if_ne (bX2_write_86 mo R J53) <|
    (bX2_write_97 mo R J53)
def bX2_write_33 (mo : Nat) (R : Ret MS) : Cont MS :=
    o_al 0 <|
    o_ic 0 <|
    o_mp mo 60 <|
    o_al 0 <|
    o_mga mo 9 <|
    o_il 1 <|
    o_mia mo 9 <|
    o_is 3 <|
    o_al 0 <|
    o_mga mo 11 <|
    o_il 1 <|
    o_mia mo 11 <|
    o_is 4 <|
    (o_kill [5] (bX2_write_53 mo R))
def bX2_write_18 (mo : Nat) (R : Ret MS) : Cont MS :=
    o_il 2 <|
    o_if_le (bX2_write_33 mo R) <|
    o_al 0 <|
    o_il 1 <|
    o_mc mo 2 (pX2_hasT mo) R <|
    o_if_eq (bX2_write_33 mo R) <|
    o_ic (-4) <|
    o_ireturn R
def bX2_write_0 (mo : Nat) (R : Ret MS) : Cont MS :=
    o_al 0 <|
    o_il 1 <|
    o_mc mo 2 (pX2_isThere mo) R <|
    o_if_eq (bX2_write_16 mo R) <|
    o_al 0 <|
    o_il 2 <|
    o_mc mo 2 (pX2_isPlacing mo) R <|
    o_if_ne (bX2_write_18 mo R) <|
    (bX2_write_16 mo R)
def pX2_write (mo : Nat) : PT MS := fun as σ Q => (lg_sl as).length ≤ 6 ∧ bX2_write_0 mo Q (entP 6 as) [] σ
theorem nX2_write : parN yX2_write 2 := by unfold parN; decide +kernel
set_option maxHeartbeats 4000000 in
theorem eX2_write (g : GM) : CT (wM g) yX2_write (Cond.code yX2_write cX2_write 6 (some .int)) 6 138 (pX2_write g.1) := by
  refine CT.of (wM_ok g) (cc := cX2_write) (nL := 6) (ret := (some .int)) (ht := []) (by decide +kernel) (Or.inl ⟨rfl, rfl⟩) (B := bX2_write_0 g.1) (fun R E X hE => ?_)
  have h16 : E (bX2_write_16 g.1 R) 16 := by
    unfold bX2_write_16
    refine si_iconst (pc := 16) hE dX2_write_16 (by decide) ?_
    exact si_ireturn (pc := 17) hE dX2_write_17
  have h310 : E (bX2_write_310 g.1 R) 310 := by
    unfold bX2_write_310
    refine si_aload_n (pc := 310) hE dX2_write_310 rfl ?_
    refine si_aload_n (pc := 311) hE dX2_write_311 rfl ?_
    refine si_mg (pc := 312) (k := 60) hE rfl dX2_write_312 q1719 (by decide) rfl (fun _ => rfl) ?_
    refine si_mp (pc := 315) (k := 1) hE rfl dX2_write_315 q1660 (by decide) rfl rfl rfl rfl ?_
    refine si_aload_n (pc := 318) hE dX2_write_318 rfl ?_
    refine si_mg (pc := 319) (k := 60) hE rfl dX2_write_319 q1719 (by decide) rfl (fun _ => rfl) ?_
    exact si_ireturn (pc := 322) hE dX2_write_322
  have h281 : E (bX2_write_281 g.1 R) 281 := by
    unfold bX2_write_281
    refine si_fix hE (fun J281 hJ281 => ?_)
    refine si_iload (pc := 281) hE dX2_write_281 ?_
    refine si_aload_n (pc := 283) hE dX2_write_283 rfl ?_
    refine si_mg (pc := 284) (k := 60) hE rfl dX2_write_284 q1719 (by decide) rfl (fun _ => rfl) ?_
    refine si_icmp_ge (pc := 287) hE dX2_write_287 (by decide) h310 ?_
    refine si_aload_n (pc := 290) hE dX2_write_290 rfl ?_
    refine si_mga (pc := 291) (k := 0) hE rfl dX2_write_291 q1659 (by decide) rfl (fun _ => rfl) ?_
    refine si_iload (pc := 294) hE dX2_write_294 ?_
    refine si_aload_n (pc := 296) hE dX2_write_296 rfl ?_
    refine si_mga (pc := 297) (k := 59) hE rfl dX2_write_297 q1718 (by decide) rfl (fun _ => rfl) ?_
    refine si_iload (pc := 300) hE dX2_write_300 ?_
    refine si_mia (pc := 302) (k := 59) hE dX2_write_302 (by decide) rfl ?_
    refine si_mis (pc := 303) (k := 0) hE dX2_write_303 (by decide) rfl ?_
    refine si_iinc (pc := 304) hE dX2_write_304 (by decide) (by decide) ?_
    exact si_goto (pc := 307) hE dX2_write_307 (by decide) (si_kill hE hJ281)
  have h278 : E (bX2_write_278 g.1 R) 278 := by
    unfold bX2_write_278
    refine si_iconst (pc := 278) hE dX2_write_278 (by decide) ?_
    refine si_istore (pc := 279) hE dX2_write_279 (by decide) ?_
    exact (si_kill hE h281)
  have h265 : E (bX2_write_265 g.1 R) 265 := by
    unfold bX2_write_265
    refine si_aload_n (pc := 265) hE dX2_write_265 rfl ?_
    refine si_mg (pc := 266) (k := 60) hE rfl dX2_write_266 q1719 (by decide) rfl (fun _ => rfl) ?_
    refine si_sipush (pc := 269) hE dX2_write_269 (by decide) ?_
    refine si_icmp_le (pc := 272) hE dX2_write_272 (by decide) h278 ?_
    refine si_bipush (pc := 275) hE dX2_write_275 (by decide) ?_
    exact si_ireturn (pc := 277) hE dX2_write_277
  have h259 : ∀ (J191 : Cont MS) (hJ191 : E J191 191), E (bX2_write_259 g.1 R J191) 259 := by
    intro J191 hJ191
    unfold bX2_write_259
    refine si_iinc (pc := 259) hE dX2_write_259 (by decide) (by decide) ?_
    exact si_goto (pc := 262) hE dX2_write_262 (by decide) (si_kill hE hJ191)
  have h215 : ∀ (J191 : Cont MS) (hJ191 : E J191 191), E (bX2_write_215 g.1 R J191) 215 := by
    intro J191 hJ191
    unfold bX2_write_215
    refine si_aload_n (pc := 215) hE dX2_write_215 rfl ?_
    refine si_aload_n (pc := 216) hE dX2_write_216 rfl ?_
    refine si_mga (pc := 217) (k := 61) hE rfl dX2_write_217 q1720 (by decide) rfl (fun _ => rfl) ?_
    refine si_iload (pc := 220) hE dX2_write_220 ?_
    refine si_mia (pc := 222) (k := 61) hE dX2_write_222 (by decide) rfl ?_
    refine si_mc (pc := 223) (n := 1) hE rfl dX2_write_223 (eX2_head g) rfl q2197 q2199 qs116 q2200 q134 nX2_head (by decide) (by decide) ?_
    refine si_aload_n (pc := 226) hE dX2_write_226 rfl ?_
    refine si_iload_n (pc := 227) hE dX2_write_227 rfl ?_
    refine si_iload_n (pc := 228) hE dX2_write_228 rfl ?_
    refine si_iload (pc := 229) hE dX2_write_229 ?_
    refine si_mc (pc := 231) (n := 3) hE rfl dX2_write_231 (eX2_saySets g) rfl q2214 q2216 qs120 q2217 q134 nX2_saySets (by decide) (by decide) ?_
    refine si_aload_n (pc := 234) hE dX2_write_234 rfl ?_
    refine si_mc (pc := 235) (n := 0) hE rfl dX2_write_235 (eX2_begin g) rfl q2218 q2220 qs121 q2221 q134 nX2_begin (by decide) (by decide) ?_
    refine si_aload_n (pc := 238) hE dX2_write_238 rfl ?_
    refine si_aload_n (pc := 239) hE dX2_write_239 rfl ?_
    refine si_mga (pc := 240) (k := 16) hE rfl dX2_write_240 q1675 (by decide) rfl (fun _ => rfl) ?_
    refine si_sipush (pc := 243) hE dX2_write_243 (by decide) ?_
    refine si_iload_n (pc := 246) hE dX2_write_246 rfl ?_
    refine si_imul (pc := 247) hE dX2_write_247 ?_
    refine si_iload (pc := 248) hE dX2_write_248 ?_
    refine si_iadd (pc := 250) hE dX2_write_250 ?_
    refine si_mia (pc := 251) (k := 16) hE dX2_write_251 (by decide) rfl ?_
    refine si_mc (pc := 252) (n := 1) hE rfl dX2_write_252 (eX2_sayGo g) rfl q2254 q2256 qs130 q2257 q134 nX2_sayGo (by decide) (by decide) ?_
    refine si_aload_n (pc := 255) hE dX2_write_255 rfl ?_
    refine si_mc (pc := 256) (n := 0) hE rfl dX2_write_256 (eX2_close g) rfl q2242 q2244 qs127 q2245 q134 nX2_close (by decide) (by decide) ?_
    exact (h259 J191 hJ191)
  have h191 : E (bX2_write_191 g.1 R) 191 := by
    unfold bX2_write_191
    refine si_fix hE (fun J191 hJ191 => ?_)
    refine si_iload (pc := 191) hE dX2_write_191 ?_
    refine si_aload_n (pc := 193) hE dX2_write_193 rfl ?_
    refine si_mga (pc := 194) (k := 10) hE rfl dX2_write_194 q1669 (by decide) rfl (fun _ => rfl) ?_
    refine si_iload_n (pc := 197) hE dX2_write_197 rfl ?_
    refine si_mia (pc := 198) (k := 10) hE dX2_write_198 (by decide) rfl ?_
    refine si_icmp_ge (pc := 199) hE dX2_write_199 (by decide) h265 ?_
    refine si_aload_n (pc := 202) hE dX2_write_202 rfl ?_
    refine si_mga (pc := 203) (k := 61) hE rfl dX2_write_203 q1720 (by decide) rfl (fun _ => rfl) ?_
    refine si_iload (pc := 206) hE dX2_write_206 ?_
    refine si_mia (pc := 208) (k := 61) hE dX2_write_208 (by decide) rfl ?_
    refine si_if_ge (pc := 209) hE dX2_write_209 (by decide) (h215 J191 hJ191) ?_
    exact si_goto (pc := 212) hE dX2_write_212 (by decide) (h259 J191 hJ191)
  have h183 : E (bX2_write_183 g.1 R) 183 := by
    unfold bX2_write_183
    refine si_aload_n (pc := 183) hE dX2_write_183 rfl ?_
    refine si_mga (pc := 184) (k := 11) hE rfl dX2_write_184 q1670 (by decide) rfl (fun _ => rfl) ?_
    refine si_iload_n (pc := 187) hE dX2_write_187 rfl ?_
    refine si_mia (pc := 188) (k := 11) hE dX2_write_188 (by decide) rfl ?_
    refine si_istore (pc := 189) hE dX2_write_189 (by decide) ?_
    exact (si_kill hE h191)
  have h177 : ∀ (J106 : Cont MS) (hJ106 : E J106 106), E (bX2_write_177 g.1 R J106) 177 := by
    intro J106 hJ106
    unfold bX2_write_177
    refine si_iinc (pc := 177) hE dX2_write_177 (by decide) (by decide) ?_
    exact si_goto (pc := 180) hE dX2_write_180 (by decide) (si_kill hE hJ106)
  have h137 : ∀ (J106 : Cont MS) (hJ106 : E J106 106), E (bX2_write_137 g.1 R J106) 137 := by
    intro J106 hJ106
    unfold bX2_write_137
    refine si_fix hE (fun J137 hJ137 => ?_)
    refine si_iload (pc := 137) hE dX2_write_137 ?_
    refine si_aload_n (pc := 139) hE dX2_write_139 rfl ?_
    refine si_iload_n (pc := 140) hE dX2_write_140 rfl ?_
    refine si_iload (pc := 141) hE dX2_write_141 ?_
    refine si_mc (pc := 143) (n := 2) hE rfl dX2_write_143 (eX2_end g) rfl q2165 q2167 qs111 q2168 q134 nX2_end (by decide) (by decide) ?_
    refine si_sipush (pc := 146) hE dX2_write_146 (by decide) ?_
    refine si_iload_n (pc := 149) hE dX2_write_149 rfl ?_
    refine si_imul (pc := 150) hE dX2_write_150 ?_
    refine si_isub (pc := 151) hE dX2_write_151 ?_
    refine si_icmp_gt (pc := 152) hE dX2_write_152 (by decide) (h177 J106 hJ106) ?_
    refine si_aload_n (pc := 155) hE dX2_write_155 rfl ?_
    refine si_iload_n (pc := 156) hE dX2_write_156 rfl ?_
    refine si_iload_n (pc := 157) hE dX2_write_157 rfl ?_
    refine si_iload (pc := 158) hE dX2_write_158 ?_
    refine si_mc (pc := 160) (n := 3) hE rfl dX2_write_160 (eX2_saySets g) rfl q2214 q2216 qs120 q2217 q134 nX2_saySets (by decide) (by decide) ?_
    refine si_aload_n (pc := 163) hE dX2_write_163 rfl ?_
    refine si_iload_n (pc := 164) hE dX2_write_164 rfl ?_
    refine si_iload_n (pc := 165) hE dX2_write_165 rfl ?_
    refine si_iload (pc := 166) hE dX2_write_166 ?_
    refine si_mc (pc := 168) (n := 3) hE rfl dX2_write_168 (eX2_sayNode g) rfl q2246 q2248 qs128 q2249 q134 nX2_sayNode (by decide) (by decide) ?_
    refine si_iinc (pc := 171) hE dX2_write_171 (by decide) (by decide) ?_
    exact si_goto (pc := 174) hE dX2_write_174 (by decide) (si_kill hE hJ137)
  have h106 : E (bX2_write_106 g.1 R) 106 := by
    unfold bX2_write_106
    refine si_fix hE (fun J106 hJ106 => ?_)
    refine si_iload (pc := 106) hE dX2_write_106 ?_
    refine si_aload_n (pc := 108) hE dX2_write_108 rfl ?_
    refine si_mga (pc := 109) (k := 9) hE rfl dX2_write_109 q1668 (by decide) rfl (fun _ => rfl) ?_
    refine si_iload_n (pc := 112) hE dX2_write_112 rfl ?_
    refine si_mia (pc := 113) (k := 9) hE dX2_write_113 (by decide) rfl ?_
    refine si_icmp_ge (pc := 114) hE dX2_write_114 (by decide) h183 ?_
    refine si_aload_n (pc := 117) hE dX2_write_117 rfl ?_
    refine si_iload (pc := 118) hE dX2_write_118 ?_
    refine si_mc (pc := 120) (n := 1) hE rfl dX2_write_120 (eX2_head g) rfl q2197 q2199 qs116 q2200 q134 nX2_head (by decide) (by decide) ?_
    refine si_aload_n (pc := 123) hE dX2_write_123 rfl ?_
    refine si_mga (pc := 124) (k := 13) hE rfl dX2_write_124 q1672 (by decide) rfl (fun _ => rfl) ?_
    refine si_bipush (pc := 127) hE dX2_write_127 (by decide) ?_
    refine si_iload_n (pc := 129) hE dX2_write_129 rfl ?_
    refine si_imul (pc := 130) hE dX2_write_130 ?_
    refine si_iload (pc := 131) hE dX2_write_131 ?_
    refine si_iadd (pc := 133) hE dX2_write_133 ?_
    refine si_mia (pc := 134) (k := 13) hE dX2_write_134 (by decide) rfl ?_
    refine si_istore (pc := 135) hE dX2_write_135 (by decide) ?_
    exact (si_kill hE (h137 J106 hJ106))
  have h103 : E (bX2_write_103 g.1 R) 103 := by
    unfold bX2_write_103
    refine si_iconst (pc := 103) hE dX2_write_103 (by decide) ?_
    refine si_istore (pc := 104) hE dX2_write_104 (by decide) ?_
    exact (si_kill hE h106)
  have h97 : ∀ (J53 : Cont MS) (hJ53 : E J53 53), E (bX2_write_97 g.1 R J53) 97 := by
    intro J53 hJ53
    unfold bX2_write_97
    refine si_iinc (pc := 97) hE dX2_write_97 (by decide) (by decide) ?_
    exact si_goto (pc := 100) hE dX2_write_100 (by decide) (si_kill hE hJ53)
  have h86 : ∀ (J53 : Cont MS) (hJ53 : E J53 53), E (bX2_write_86 g.1 R J53) 86 := by
    intro J53 hJ53
    unfold bX2_write_86
    refine si_aload_n (pc := 86) hE dX2_write_86 rfl ?_
    refine si_mga (pc := 87) (k := 61) hE rfl dX2_write_87 q1720 (by decide) rfl (fun _ => rfl) ?_
    refine si_iload (pc := 90) hE dX2_write_90 ?_
    refine si_iload_n (pc := 92) hE dX2_write_92 rfl ?_
    refine si_mis (pc := 93) (k := 61) hE dX2_write_93 (by decide) rfl ?_
    refine si_iinc (pc := 94) hE dX2_write_94 (by decide) (by decide) ?_
    exact (h97 J53 hJ53)
  have h53 : E (bX2_write_53 g.1 R) 53 := by
    unfold bX2_write_53
    refine si_fix hE (fun J53 hJ53 => ?_)
    refine si_iload (pc := 53) hE dX2_write_53 ?_
    refine si_aload_n (pc := 55) hE dX2_write_55 rfl ?_
    refine si_mga (pc := 56) (k := 10) hE rfl dX2_write_56 q1669 (by decide) rfl (fun _ => rfl) ?_
    refine si_iload_n (pc := 59) hE dX2_write_59 rfl ?_
    refine si_mia (pc := 60) (k := 10) hE dX2_write_60 (by decide) rfl ?_
    refine si_icmp_ge (pc := 61) hE dX2_write_61 (by decide) h103 ?_
    refine si_aload_n (pc := 64) hE dX2_write_64 rfl ?_
    refine si_mga (pc := 65) (k := 61) hE rfl dX2_write_65 q1720 (by decide) rfl (fun _ => rfl) ?_
    refine si_iload (pc := 68) hE dX2_write_68 ?_
    refine si_iconst (pc := 70) hE dX2_write_70 (by decide) ?_
    refine si_mis (pc := 71) (k := 61) hE dX2_write_71 (by decide) rfl ?_
    refine si_aload_n (pc := 72) hE dX2_write_72 rfl ?_
    refine si_iload_n (pc := 73) hE dX2_write_73 rfl ?_
    refine si_iload_n (pc := 74) hE dX2_write_74 rfl ?_
    refine si_iload (pc := 75) hE dX2_write_75 ?_
    refine si_mc (pc := 77) (n := 3) hE rfl dX2_write_77 (eX2_sets g) rfl q2193 q2195 qs115 q2196 q134 nX2_sets (by decide) (by decide) ?_
    refine si_if_ne (pc := 80) hE dX2_write_80 (by decide) (h86 J53 hJ53) ?_
    exact si_goto (pc := 83) hE dX2_write_83 (by decide) (h97 J53 hJ53)
  have h33 : E (bX2_write_33 g.1 R) 33 := by
    unfold bX2_write_33
    refine si_aload_n (pc := 33) hE dX2_write_33 rfl ?_
    refine si_iconst (pc := 34) hE dX2_write_34 (by decide) ?_
    refine si_mp (pc := 35) (k := 60) hE rfl dX2_write_35 q1719 (by decide) rfl rfl rfl rfl ?_
    refine si_aload_n (pc := 38) hE dX2_write_38 rfl ?_
    refine si_mga (pc := 39) (k := 9) hE rfl dX2_write_39 q1668 (by decide) rfl (fun _ => rfl) ?_
    refine si_iload_n (pc := 42) hE dX2_write_42 rfl ?_
    refine si_mia (pc := 43) (k := 9) hE dX2_write_43 (by decide) rfl ?_
    refine si_istore_n (pc := 44) hE dX2_write_44 rfl (by decide) ?_
    refine si_aload_n (pc := 45) hE dX2_write_45 rfl ?_
    refine si_mga (pc := 46) (k := 11) hE rfl dX2_write_46 q1670 (by decide) rfl (fun _ => rfl) ?_
    refine si_iload_n (pc := 49) hE dX2_write_49 rfl ?_
    refine si_mia (pc := 50) (k := 11) hE dX2_write_50 (by decide) rfl ?_
    refine si_istore (pc := 51) hE dX2_write_51 (by decide) ?_
    exact (si_kill hE h53)
  have h18 : E (bX2_write_18 g.1 R) 18 := by
    unfold bX2_write_18
    refine si_iload_n (pc := 18) hE dX2_write_18 rfl ?_
    refine si_if_le (pc := 19) hE dX2_write_19 (by decide) h33 ?_
    refine si_aload_n (pc := 22) hE dX2_write_22 rfl ?_
    refine si_iload_n (pc := 23) hE dX2_write_23 rfl ?_
    refine si_mc (pc := 24) (n := 1) hE rfl dX2_write_24 (eX2_hasT g) rfl q2189 q2191 qs114 q2192 q134 nX2_hasT (by decide) (by decide) ?_
    refine si_if_eq (pc := 27) hE dX2_write_27 (by decide) h33 ?_
    refine si_bipush (pc := 30) hE dX2_write_30 (by decide) ?_
    exact si_ireturn (pc := 32) hE dX2_write_32
  have h0 : E (bX2_write_0 g.1 R) 0 := by
    unfold bX2_write_0
    refine si_aload_n (pc := 0) hE dX2_write_0 rfl ?_
    refine si_iload_n (pc := 1) hE dX2_write_1 rfl ?_
    refine si_mc (pc := 2) (n := 1) hE rfl dX2_write_2 (eX2_isThere g) rfl q2069 q2071 qs101 q2072 q134 nX2_isThere (by decide) (by decide) ?_
    refine si_if_eq (pc := 5) hE dX2_write_5 (by decide) h16 ?_
    refine si_aload_n (pc := 8) hE dX2_write_8 rfl ?_
    refine si_iload_n (pc := 9) hE dX2_write_9 rfl ?_
    refine si_mc (pc := 10) (n := 1) hE rfl dX2_write_10 (eX2_isPlacing g) rfl q2097 q2099 qs104 q2100 q134 nX2_isPlacing (by decide) (by decide) ?_
    refine si_if_ne (pc := 13) hE dX2_write_13 (by decide) h18 ?_
    exact h16
  exact h0
