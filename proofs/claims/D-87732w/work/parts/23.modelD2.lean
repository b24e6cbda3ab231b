/-! THE MODEL's METHODS, decompiled by program (gen/decomp.py) -/
set_option maxRecDepth 100000
def bX2_at_2_35 (mo : Nat) (R : Ret MS) : Cont MS :=
    o_ic (-1) <|
    o_ireturn R
def bX2_at_2_37 (mo : Nat) (R : Ret MS) : Cont MS :=
    o_al 0 <|
    o_mga mo 31 <|
    o_al 0 <|
    o_il 1 <|
    o_il 2 <|
    o_mc mo 3 (pX2_base mo) R <|
    o_il 3 <|
    o_iadd <|
    o_mia mo 31 <|
    o_il 4 <|
    o_ishr <|
    o_ic 1 <|
    o_iand <|
    o_ireturn R
def bX2_at_2_0 (mo : Nat) (R : Ret MS) : Cont MS :=
    o_al 0 <|
    o_il 1 <|
    o_il 2 <|
    o_mc mo 3 (pX2_isSum mo) R <|
    o_if_eq (bX2_at_2_35 mo R) <|
    o_il 3 <|
    o_if_lt (bX2_at_2_35 mo R) <|
    o_il 3 <|
    o_al 0 <|
    o_mga mo 10 <|
    o_il 1 <|
    o_mia mo 10 <|
    o_icmp_ge (bX2_at_2_35 mo R) <|
    o_il 4 <|
    o_if_lt (bX2_at_2_35 mo R) <|
    o_il 4 <|
    o_ic 7 <|
    o_icmp_le (bX2_at_2_37 mo R) <|
    (bX2_at_2_35 mo R)
def pX2_at_2 (mo : Nat) : PT MS := fun as σ Q => (lg_sl as).length ≤ 5 ∧ bX2_at_2_0 mo Q (entP 5 as) [] σ
theorem nX2_at_2 : parN yX2_at_2 4 := by unfold parN; decide +kernel
set_option maxHeartbeats 4000000 in
theorem eX2_at_2 (g : GM) : CT (wM g) yX2_at_2 (Cond.code yX2_at_2 cX2_at_2 5 (some .int)) 2 43 (pX2_at_2 g.1) := by
  refine CT.of (wM_ok g) (cc := cX2_at_2) (nL := 5) (ret := (some .int)) (ht := []) (by decide +kernel) (Or.inl ⟨rfl, rfl⟩) (B := bX2_at_2_0 g.1) (fun R E X hE => ?_)
  have h35 : E (bX2_at_2_35 g.1 R) 35 := by
    unfold bX2_at_2_35
    refine si_iconst (pc := 35) hE dX2_at_2_35 (by decide) ?_
    exact si_ireturn (pc := 36) hE dX2_at_2_36
  have h37 : E (bX2_at_2_37 g.1 R) 37 := by
    unfold bX2_at_2_37
    refine si_aload_n (pc := 37) hE dX2_at_2_37 rfl ?_
    refine si_mga (pc := 38) (k := 31) hE rfl dX2_at_2_38 q1690 (by decide) rfl (fun _ => rfl) ?_
    refine si_aload_n (pc := 41) hE dX2_at_2_41 rfl ?_
    refine si_iload_n (pc := 42) hE dX2_at_2_42 rfl ?_
    refine si_iload_n (pc := 43) hE dX2_at_2_43 rfl ?_
    refine si_mc (pc := 44) (n := 2) hE rfl dX2_at_2_44 (eX2_base g) rfl q2009 q2011 qs88 q2012 q134 nX2_base (by decide) (by decide) ?_
    refine si_iload_n (pc := 47) hE dX2_at_2_47 rfl ?_
    refine si_iadd (pc := 48) hE dX2_at_2_48 ?_
    refine si_mia (pc := 49) (k := 31) hE dX2_at_2_49 (by decide) rfl ?_
    refine si_iload (pc := 50) hE dX2_at_2_50 ?_
    refine si_ishr (pc := 52) hE dX2_at_2_52 ?_
    refine si_iconst (pc := 53) hE dX2_at_2_53 (by decide) ?_
    refine si_iand (pc := 54) hE dX2_at_2_54 ?_
    exact si_ireturn (pc := 55) hE dX2_at_2_55
  have h0 : E (bX2_at_2_0 g.1 R) 0 := by
    unfold bX2_at_2_0
    refine si_aload_n (pc := 0) hE dX2_at_2_0 rfl ?_
    refine si_iload_n (pc := 1) hE dX2_at_2_1 rfl ?_
    refine si_iload_n (pc := 2) hE dX2_at_2_2 rfl ?_
    refine si_mc (pc := 3) (n := 2) hE rfl dX2_at_2_3 (eX2_isSum g) rfl q2081 q2083 qs102 q2084 q134 nX2_isSum (by decide) (by decide) ?_
    refine si_if_eq (pc := 6) hE dX2_at_2_6 (by decide) h35 ?_
    refine si_iload_n (pc := 9) hE dX2_at_2_9 rfl ?_
    refine si_if_lt (pc := 10) hE dX2_at_2_10 (by decide) h35 ?_
    refine si_iload_n (pc := 13) hE dX2_at_2_13 rfl ?_
    refine si_aload_n (pc := 14) hE dX2_at_2_14 rfl ?_
    refine si_mga (pc := 15) (k := 10) hE rfl dX2_at_2_15 q1669 (by decide) rfl (fun _ => rfl) ?_
    refine si_iload_n (pc := 18) hE dX2_at_2_18 rfl ?_
    refine si_mia (pc := 19) (k := 10) hE dX2_at_2_19 (by decide) rfl ?_
    refine si_icmp_ge (pc := 20) hE dX2_at_2_20 (by decide) h35 ?_
    refine si_iload (pc := 23) hE dX2_at_2_23 ?_
    refine si_if_lt (pc := 25) hE dX2_at_2_25 (by decide) h35 ?_
    refine si_iload (pc := 28) hE dX2_at_2_28 ?_
    refine si_bipush (pc := 30) hE dX2_at_2_30 (by decide) ?_
    refine si_icmp_le (pc := 32) hE dX2_at_2_32 (by decide) h37 ?_
    exact h35
  exact h0
def bX2_isPlacing_14 (mo : Nat) (R : Ret MS) : Cont MS :=
    o_zreturn R
def bX2_isPlacing_13 (mo : Nat) (R : Ret MS) : Cont MS :=
    o_ic 0 <|
    (bX2_isPlacing_14 mo R)
def bX2_isPlacing_0 (mo : Nat) (R : Ret MS) : Cont MS :=
    o_il 1 <|
    o_if_lt (bX2_isPlacing_13 mo R) <|
    o_il 1 <|
    o_ic 2 <|
    o_icmp_gt (bX2_isPlacing_13 mo R) <|
    o_ic 1 <|
    (bX2_isPlacing_14 mo R)
def pX2_isPlacing (mo : Nat) : PT MS := fun as σ Q => (lg_sl as).length ≤ 2 ∧ bX2_isPlacing_0 mo Q (entP 2 as) [] σ
theorem nX2_isPlacing : parN yX2_isPlacing 1 := by unfold parN; decide +kernel
set_option maxHeartbeats 4000000 in
theorem eX2_isPlacing (g : GM) : CT (wM g) yX2_isPlacing (Cond.code yX2_isPlacing cX2_isPlacing 2 (some .boolean)) 0 0 (pX2_isPlacing g.1) := by
  refine CT.of (wM_ok g) (cc := cX2_isPlacing) (nL := 2) (ret := (some .boolean)) (ht := []) (by decide +kernel) (Or.inl ⟨rfl, rfl⟩) (B := bX2_isPlacing_0 g.1) (fun R E X hE => ?_)
  have h14 : E (bX2_isPlacing_14 g.1 R) 14 := by
    unfold bX2_isPlacing_14
    exact si_zreturn (pc := 14) hE dX2_isPlacing_14
  have h13 : E (bX2_isPlacing_13 g.1 R) 13 := by
    unfold bX2_isPlacing_13
    refine si_iconst (pc := 13) hE dX2_isPlacing_13 (by decide) ?_
    exact h14
  have h0 : E (bX2_isPlacing_0 g.1 R) 0 := by
    unfold bX2_isPlacing_0
    refine si_iload_n (pc := 0) hE dX2_isPlacing_0 rfl ?_
    refine si_if_lt (pc := 1) hE dX2_isPlacing_1 (by decide) h13 ?_
    refine si_iload_n (pc := 4) hE dX2_isPlacing_4 rfl ?_
    refine si_iconst (pc := 5) hE dX2_isPlacing_5 (by decide) ?_
    refine si_icmp_gt (pc := 6) hE dX2_isPlacing_6 (by decide) h13 ?_
    refine si_iconst (pc := 9) hE dX2_isPlacing_9 (by decide) ?_
    exact si_goto (pc := 10) hE dX2_isPlacing_10 (by decide) h14
  exact h0
def bX2_isSet_63 (mo : Nat) (R : Ret MS) : Cont MS :=
    o_zreturn R
def bX2_isSet_62 (mo : Nat) (R : Ret MS) : Cont MS :=
    o_ic 0 <|
    (bX2_isSet_63 mo R)
def bX2_isSet_26 (mo : Nat) (R : Ret MS) : Cont MS :=
    o_il 2 <|
    o_ic 2 <|
    o_icmp_ne (bX2_isSet_62 mo R) <|
    o_al 0 <|
    o_il 5 <|
    o_il 4 <|
    o_ic 64 <|
    o_mc mo 4 (pX2_is mo) R <|
    o_if_eq (bX2_isSet_62 mo R) <|
    o_al 0 <|
    o_il 5 <|
    o_il 4 <|
    o_ic 128 <|
    o_mc mo 4 (pX2_is mo) R <|
    o_if_ne (bX2_isSet_62 mo R) <|
    o_ic 1 <|
    (bX2_isSet_63 mo R)
def bX2_isSet_0 (mo : Nat) (R : Ret MS) : Cont MS :=
    o_al 0 <|
    o_il 1 <|
    o_il 3 <|
    o_mc mo 3 (pX2_base mo) R <|
    o_is 5 <|
    o_il 2 <|
    o_ic 1 <|
    o_icmp_ne (bX2_isSet_26 mo R) <|
    o_al 0 <|
    o_il 5 <|
    o_il 4 <|
    o_ic 16 <|
    o_mc mo 4 (pX2_is mo) R <|
    (bX2_isSet_63 mo R)
def pX2_isSet (mo : Nat) : PT MS := fun as σ Q => (lg_sl as).length ≤ 6 ∧ bX2_isSet_0 mo Q (entP 6 as) [] σ
theorem nX2_isSet : parN yX2_isSet 4 := by unfold parN; decide +kernel
set_option maxHeartbeats 4000000 in
theorem eX2_isSet (g : GM) : CT (wM g) yX2_isSet (Cond.code yX2_isSet cX2_isSet 6 (some .boolean)) 1 23 (pX2_isSet g.1) := by
  refine CT.of (wM_ok g) (cc := cX2_isSet) (nL := 6) (ret := (some .boolean)) (ht := []) (by decide +kernel) (Or.inl ⟨rfl, rfl⟩) (B := bX2_isSet_0 g.1) (fun R E X hE => ?_)
  have h63 : E (bX2_isSet_63 g.1 R) 63 := by
    unfold bX2_isSet_63
    exact si_zreturn (pc := 63) hE dX2_isSet_63
  have h62 : E (bX2_isSet_62 g.1 R) 62 := by
    unfold bX2_isSet_62
    refine si_iconst (pc := 62) hE dX2_isSet_62 (by decide) ?_
    exact h63
  have h26 : E (bX2_isSet_26 g.1 R) 26 := by
    unfold bX2_isSet_26
    refine si_iload_n (pc := 26) hE dX2_isSet_26 rfl ?_
    refine si_iconst (pc := 27) hE dX2_isSet_27 (by decide) ?_
    refine si_icmp_ne (pc := 28) hE dX2_isSet_28 (by decide) h62 ?_
    refine si_aload_n (pc := 31) hE dX2_isSet_31 rfl ?_
    refine si_iload (pc := 32) hE dX2_isSet_32 ?_
    refine si_iload (pc := 34) hE dX2_isSet_34 ?_
    refine si_bipush (pc := 36) hE dX2_isSet_36 (by decide) ?_
    refine si_mc (pc := 38) (n := 3) hE rfl dX2_isSet_38 (eX2_is g) rfl q2021 q2023 qs91 q2024 q134 nX2_is (by decide) (by decide) ?_
    refine si_if_eq (pc := 41) hE dX2_isSet_41 (by decide) h62 ?_
    refine si_aload_n (pc := 44) hE dX2_isSet_44 rfl ?_
    refine si_iload (pc := 45) hE dX2_isSet_45 ?_
    refine si_iload (pc := 47) hE dX2_isSet_47 ?_
    refine si_sipush (pc := 49) hE dX2_isSet_49 (by decide) ?_
    refine si_mc (pc := 52) (n := 3) hE rfl dX2_isSet_52 (eX2_is g) rfl q2021 q2023 qs91 q2024 q134 nX2_is (by decide) (by decide) ?_
    refine si_if_ne (pc := 55) hE dX2_isSet_55 (by decide) h62 ?_
    refine si_iconst (pc := 58) hE dX2_isSet_58 (by decide) ?_
    exact si_goto (pc := 59) hE dX2_isSet_59 (by decide) h63
  have h0 : E (bX2_isSet_0 g.1 R) 0 := by
    unfold bX2_isSet_0
    refine si_aload_n (pc := 0) hE dX2_isSet_0 rfl ?_
    refine si_iload_n (pc := 1) hE dX2_isSet_1 rfl ?_
    refine si_iload_n (pc := 2) hE dX2_isSet_2 rfl ?_
    refine si_mc (pc := 3) (n := 2) hE rfl dX2_isSet_3 (eX2_base g) rfl q2009 q2011 qs88 q2012 q134 nX2_base (by decide) (by decide) ?_
    refine si_istore (pc := 6) hE dX2_isSet_6 (by decide) ?_
    refine si_iload_n (pc := 8) hE dX2_isSet_8 rfl ?_
    refine si_iconst (pc := 9) hE dX2_isSet_9 (by decide) ?_
    refine si_icmp_ne (pc := 10) hE dX2_isSet_10 (by decide) h26 ?_
    refine si_aload_n (pc := 13) hE dX2_isSet_13 rfl ?_
    refine si_iload (pc := 14) hE dX2_isSet_14 ?_
    refine si_iload (pc := 16) hE dX2_isSet_16 ?_
    refine si_bipush (pc := 18) hE dX2_isSet_18 (by decide) ?_
    refine si_mc (pc := 20) (n := 3) hE rfl dX2_isSet_20 (eX2_is g) rfl q2021 q2023 qs91 q2024 q134 nX2_is (by decide) (by decide) ?_
    exact si_goto (pc := 23) hE dX2_isSet_23 (by decide) h63
  exact h0
def bX2_isTaken_62 (mo : Nat) (R : Ret MS) : Cont MS :=
    o_zreturn R
def bX2_isTaken_61 (mo : Nat) (R : Ret MS) : Cont MS :=
    o_ic 0 <|
    (bX2_isTaken_62 mo R)
def bX2_isTaken_57 (mo : Nat) (R : Ret MS) : Cont MS :=
    o_ic 1 <|
    (bX2_isTaken_62 mo R)
def bX2_isTaken_0 (mo : Nat) (R : Ret MS) : Cont MS :=
    o_al 0 <|
    o_il 1 <|
    o_il 3 <|
    o_mc mo 3 (pX2_base mo) R <|
    o_is 5 <|
    o_al 0 <|
    o_il 5 <|
    o_il 4 <|
    o_ic 1 <|
    o_mc mo 4 (pX2_is mo) R <|
    o_if_eq (bX2_isTaken_61 mo R) <|
    o_il 2 <|
    o_ic 1 <|
    o_icmp_eq (bX2_isTaken_57 mo R) <|
    o_il 2 <|
    o_ic 2 <|
    o_icmp_ne (bX2_isTaken_61 mo R) <|
    o_al 0 <|
    o_il 5 <|
    o_il 4 <|
    o_ic 64 <|
    o_mc mo 4 (pX2_is mo) R <|
    o_if_eq (bX2_isTaken_57 mo R) <|
    o_al 0 <|
    o_il 5 <|
    o_il 4 <|
    o_ic 128 <|
    o_mc mo 4 (pX2_is mo) R <|
    o_if_ne (bX2_isTaken_61 mo R) <|
    (bX2_isTaken_57 mo R)
def pX2_isTaken (mo : Nat) : PT MS := fun as σ Q => (lg_sl as).length ≤ 6 ∧ bX2_isTaken_0 mo Q (entP 6 as) [] σ
theorem nX2_isTaken : parN yX2_isTaken 4 := by unfold parN; decide +kernel
set_option maxHeartbeats 4000000 in
theorem eX2_isTaken (g : GM) : CT (wM g) yX2_isTaken (Cond.code yX2_isTaken cX2_isTaken 6 (some .boolean)) 1 23 (pX2_isTaken g.1) := by
  refine CT.of (wM_ok g) (cc := cX2_isTaken) (nL := 6) (ret := (some .boolean)) (ht := []) (by decide +kernel) (Or.inl ⟨rfl, rfl⟩) (B := bX2_isTaken_0 g.1) (fun R E X hE => ?_)
  have h62 : E (bX2_isTaken_62 g.1 R) 62 := by
    unfold bX2_isTaken_62
    exact si_zreturn (pc := 62) hE dX2_isTaken_62
  have h61 : E (bX2_isTaken_61 g.1 R) 61 := by
    unfold bX2_isTaken_61
    refine si_iconst (pc := 61) hE dX2_isTaken_61 (by decide) ?_
    exact h62
  have h57 : E (bX2_isTaken_57 g.1 R) 57 := by
    unfold bX2_isTaken_57
    refine si_iconst (pc := 57) hE dX2_isTaken_57 (by decide) ?_
    exact si_goto (pc := 58) hE dX2_isTaken_58 (by decide) h62
  have h0 : E (bX2_isTaken_0 g.1 R) 0 := by
    unfold bX2_isTaken_0
    refine si_aload_n (pc := 0) hE dX2_isTaken_0 rfl ?_
    refine si_iload_n (pc := 1) hE dX2_isTaken_1 rfl ?_
    refine si_iload_n (pc := 2) hE dX2_isTaken_2 rfl ?_
    refine si_mc (pc := 3) (n := 2) hE rfl dX2_isTaken_3 (eX2_base g) rfl q2009 q2011 qs88 q2012 q134 nX2_base (by decide) (by decide) ?_
    refine si_istore (pc := 6) hE dX2_isTaken_6 (by decide) ?_
    refine si_aload_n (pc := 8) hE dX2_isTaken_8 rfl ?_
    refine si_iload (pc := 9) hE dX2_isTaken_9 ?_
    refine si_iload (pc := 11) hE dX2_isTaken_11 ?_
    refine si_iconst (pc := 13) hE dX2_isTaken_13 (by decide) ?_
    refine si_mc (pc := 14) (n := 3) hE rfl dX2_isTaken_14 (eX2_is g) rfl q2021 q2023 qs91 q2024 q134 nX2_is (by decide) (by decide) ?_
    refine si_if_eq (pc := 17) hE dX2_isTaken_17 (by decide) h61 ?_
    refine si_iload_n (pc := 20) hE dX2_isTaken_20 rfl ?_
    refine si_iconst (pc := 21) hE dX2_isTaken_21 (by decide) ?_
    refine si_icmp_eq (pc := 22) hE dX2_isTaken_22 (by decide) h57 ?_
    refine si_iload_n (pc := 25) hE dX2_isTaken_25 rfl ?_
    refine si_iconst (pc := 26) hE dX2_isTaken_26 (by decide) ?_
    refine si_icmp_ne (pc := 27) hE dX2_isTaken_27 (by decide) h61 ?_
    refine si_aload_n (pc := 30) hE dX2_isTaken_30 rfl ?_
    refine si_iload (pc := 31) hE dX2_isTaken_31 ?_
    refine si_iload (pc := 33) hE dX2_isTaken_33 ?_
    refine si_bipush (pc := 35) hE dX2_isTaken_35 (by decide) ?_
    refine si_mc (pc := 37) (n := 3) hE rfl dX2_isTaken_37 (eX2_is g) rfl q2021 q2023 qs91 q2024 q134 nX2_is (by decide) (by decide) ?_
    refine si_if_eq (pc := 40) hE dX2_isTaken_40 (by decide) h57 ?_
    refine si_aload_n (pc := 43) hE dX2_isTaken_43 rfl ?_
    refine si_iload (pc := 44) hE dX2_isTaken_44 ?_
    refine si_iload (pc := 46) hE dX2_isTaken_46 ?_
    refine si_sipush (pc := 48) hE dX2_isTaken_48 (by decide) ?_
    refine si_mc (pc := 51) (n := 3) hE rfl dX2_isTaken_51 (eX2_is g) rfl q2021 q2023 qs91 q2024 q134 nX2_is (by decide) (by decide) ?_
    refine si_if_ne (pc := 54) hE dX2_isTaken_54 (by decide) h61 ?_
    exact h57
  exact h0
def bX2_live_182 (mo : Nat) (R : Ret MS) : Cont MS :=
    o_return R
def bX2_live_179 (mo : Nat) (R : Ret MS) (J31 : Cont MS) : Cont MS :=
    (o_kill [5, 6, 7] J31)
def bX2_live_173 (mo : Nat) (R : Ret MS) (J31 : Cont MS) (J42 : Cont MS) : Cont MS :=
    o_iinc 5 1 <|
    (o_kill [6, 7] J42)
def bX2_live_162 (mo : Nat) (R : Ret MS) (J31 : Cont MS) (J42 : Cont MS) : Cont MS :=
    o_al 0 <|
    o_mga mo 44 <|
    o_il 5 <|
    o_ic 1 <|
    o_mbs mo 44 <|
    o_ic 1 <|
    o_is 4 <|
    (bX2_live_173 mo R J31 J42)
def bX2_live_118 (mo : Nat) (R : Ret MS) (J31 : Cont MS) (J42 : Cont MS) : Cont MS :=
    o_is 7 <|
    o_al 0 <|
    o_mga mo 44 <|
    o_il 5 <|
    o_mia mo 44 <|
    o_if_ne (bX2_live_173 mo R J31 J42) <|
    o_al 0 <|
    o_il 1 <|
    o_il 2 <|
    o_il 3 <|
    o_il 5 <|
    o_mc mo 5 (pX2_isSet mo) R <|
    o_if_ne (bX2_live_173 mo R J31 J42) <|
    o_al 0 <|
    o_il 1 <|
    o_il 2 <|
    o_il 3 <|
    o_il 5 <|
    o_mc mo 5 (pX2_isTaken mo) R <|
    o_if_ne (bX2_live_162 mo R J31 J42) <|
    o_il 7 <|
    o_if_ne (bX2_live_162 mo R J31 J42) <|
    (bX2_live_173 mo R J31 J42)
def bX2_live_117 (mo : Nat) (R : Ret MS) (J31 : Cont MS) (J42 : Cont MS) : Cont MS :=
    o_ic 0 <|
    (bX2_live_118 mo R J31 J42)
def bX2_live_113 (mo : Nat) (R : Ret MS) (J31 : Cont MS) (J42 : Cont MS) : Cont MS :=
    o_ic 1 <|
    (bX2_live_118 mo R J31 J42)
def bX2_live_88 (mo : Nat) (R : Ret MS) (J31 : Cont MS) (J42 : Cont MS) : Cont MS :=
    o_al 0 <|
    o_mga mo 20 <|
    o_il 6 <|
    o_mia mo 20 <|
    o_if_lt (bX2_live_117 mo R J31 J42) <|
    o_al 0 <|
    o_mga mo 44 <|
    o_al 0 <|
    o_mga mo 20 <|
    o_il 6 <|
    o_mia mo 20 <|
    o_mia mo 44 <|
    o_if_eq (bX2_live_117 mo R J31 J42) <|
    (bX2_live_113 mo R J31 J42)
def bX2_live_42 (mo : Nat) (R : Ret MS) (J31 : Cont MS) : Cont MS :=
    fixC fun J42 =>
    o_il 5 <|
    o_al 0 <|
    o_mga mo 10 <|
    o_il 1 <|
    o_mia mo 10 <|
    o_icmp_ge (bX2_live_179 mo R J31) <|
    o_ic 240 <|
    o_il 1 <|
    o_imul <|
    o_il 5 <|
    o_iadd <|
    o_is 6 <|
    o_al 0 <|
    o_mga mo 19 <|
    o_il 6 <|
    o_mia mo 19 <|
    o_if_lt (bX2_live_88 mo R J31 J42) <|
    o_al 0 <|
    o_mga mo 44 <|
    o_al 0 <|
    o_mga mo 19 <|
    o_il 6 <|
    o_mia mo 19 <|
    o_mia mo 44 <|
    o_if_ne (bX2_live_113 mo R J31 J42) <|
    (bX2_live_88 mo R J31 J42)
def bX2_live_31 (mo : Nat) (R : Ret MS) : Cont MS :=
    fixC fun J31 =>
    o_il 4 <|
    o_if_eq (bX2_live_182 mo R) <|
    o_ic 0 <|
    o_is 4 <|
    o_ic 0 <|
    o_is 5 <|
    (o_kill [6, 7] (bX2_live_42 mo R J31))
def bX2_live_28 (mo : Nat) (R : Ret MS) : Cont MS :=
    o_ic 1 <|
    o_is 4 <|
    (o_kill [5, 6, 7] (bX2_live_31 mo R))
def bX2_live_3 (mo : Nat) (R : Ret MS) : Cont MS :=
    fixC fun J3 =>
    o_il 4 <|
    o_al 0 <|
    o_mga mo 10 <|
    o_il 1 <|
    o_mia mo 10 <|
    o_icmp_ge (bX2_live_28 mo R) <|
    o_al 0 <|
    o_mga mo 44 <|
    o_il 4 <|
    o_ic 0 <|
    o_mbs mo 44 <|
    o_iinc 4 1 <|
    (o_kill [5, 6, 7] J3)
def bX2_live_0 (mo : Nat) (R : Ret MS) : Cont MS :=
    o_ic 0 <|
    o_is 4 <|
    (o_kill [5, 6, 7] (bX2_live_3 mo R))
def pX2_live (mo : Nat) : PT MS := fun as σ Q => (lg_sl as).length ≤ 8 ∧ bX2_live_0 mo Q (entP 8 as) [] σ
theorem nX2_live : parN yX2_live 3 := by unfold parN; decide +kernel
set_option maxHeartbeats 4000000 in
theorem eX2_live (g : GM) : CT (wM g) yX2_live (Cond.code yX2_live cX2_live 8 none) 2 48 (pX2_live g.1) := by
  refine CT.of (wM_ok g) (cc := cX2_live) (nL := 8) (ret := none) (ht := []) (by decide +kernel) (Or.inl ⟨rfl, rfl⟩) (B := bX2_live_0 g.1) (fun R E X hE => ?_)
  have h182 : E (bX2_live_182 g.1 R) 182 := by
    unfold bX2_live_182
    exact si_return (pc := 182) hE dX2_live_182
  have h179 : ∀ (J31 : Cont MS) (hJ31 : E J31 31), E (bX2_live_179 g.1 R J31) 179 := by
    intro J31 hJ31
    unfold bX2_live_179
    exact si_goto (pc := 179) hE dX2_live_179 (by decide) (si_kill hE hJ31)
  have h173 : ∀ (J31 : Cont MS) (hJ31 : E J31 31) (J42 : Cont MS) (hJ42 : E J42 42), E (bX2_live_173 g.1 R J31 J42) 173 := by
    intro J31 hJ31 J42 hJ42
    unfold bX2_live_173
    refine si_iinc (pc := 173) hE dX2_live_173 (by decide) (by decide) ?_
    exact si_goto (pc := 176) hE dX2_live_176 (by decide) (si_kill hE hJ42)
  have h162 : ∀ (J31 : Cont MS) (hJ31 : E J31 31) (J42 : Cont MS) (hJ42 : E J42 42), E (bX2_live_162 g.1 R J31 J42) 162 := by
    intro J31 hJ31 J42 hJ42
    unfold bX2_live_162
    refine si_aload_n (pc := 162) hE dX2_live_162 rfl ?_
    refine si_mga (pc := 163) (k := 44) hE rfl dX2_live_163 q1703 (by decide) rfl (fun _ => rfl) ?_
    refine si_iload (pc := 166) hE dX2_live_166 ?_
    refine si_iconst (pc := 168) hE dX2_live_168 (by decide) ?_
    refine si_mbs (pc := 169) (k := 44) hE dX2_live_169 (by decide) rfl ?_
    refine si_iconst (pc := 170) hE dX2_live_170 (by decide) ?_
    refine si_istore (pc := 171) hE dX2_live_171 (by decide) ?_
    exact (h173 J31 hJ31 J42 hJ42)
  have h118 : ∀ (J31 : Cont MS) (hJ31 : E J31 31) (J42 : Cont MS) (hJ42 : E J42 42), E (bX2_live_118 g.1 R J31 J42) 118 := by
    intro J31 hJ31 J42 hJ42
    unfold bX2_live_118
    refine si_istore (pc := 118) hE dX2_live_118 (by decide) ?_
    refine si_aload_n (pc := 120) hE dX2_live_120 rfl ?_
    refine si_mga (pc := 121) (k := 44) hE rfl dX2_live_121 q1703 (by decide) rfl (fun _ => rfl) ?_
    refine si_iload (pc := 124) hE dX2_live_124 ?_
    refine si_mza (pc := 126) (k := 44) hE dX2_live_126 (by decide) rfl ?_
    refine si_if_ne (pc := 127) hE dX2_live_127 (by decide) (h173 J31 hJ31 J42 hJ42) ?_
    refine si_aload_n (pc := 130) hE dX2_live_130 rfl ?_
    refine si_iload_n (pc := 131) hE dX2_live_131 rfl ?_
    refine si_iload_n (pc := 132) hE dX2_live_132 rfl ?_
    refine si_iload_n (pc := 133) hE dX2_live_133 rfl ?_
    refine si_iload (pc := 134) hE dX2_live_134 ?_
    refine si_mc (pc := 136) (n := 4) hE rfl dX2_live_136 (eX2_isSet g) rfl q2101 q2103 qs105 q2104 q134 nX2_isSet (by decide) (by decide) ?_
    refine si_if_ne (pc := 139) hE dX2_live_139 (by decide) (h173 J31 hJ31 J42 hJ42) ?_
    refine si_aload_n (pc := 142) hE dX2_live_142 rfl ?_
    refine si_iload_n (pc := 143) hE dX2_live_143 rfl ?_
    refine si_iload_n (pc := 144) hE dX2_live_144 rfl ?_
    refine si_iload_n (pc := 145) hE dX2_live_145 rfl ?_
    refine si_iload (pc := 146) hE dX2_live_146 ?_
    refine si_mc (pc := 148) (n := 4) hE rfl dX2_live_148 (eX2_isTaken g) rfl q2105 q2107 qs106 q2108 q134 nX2_isTaken (by decide) (by decide) ?_
    refine si_if_ne (pc := 151) hE dX2_live_151 (by decide) (h162 J31 hJ31 J42 hJ42) ?_
    refine si_iload (pc := 154) hE dX2_live_154 ?_
    refine si_if_ne (pc := 156) hE dX2_live_156 (by decide) (h162 J31 hJ31 J42 hJ42) ?_
    exact si_goto (pc := 159) hE dX2_live_159 (by decide) (h173 J31 hJ31 J42 hJ42)
  have h117 : ∀ (J31 : Cont MS) (hJ31 : E J31 31) (J42 : Cont MS) (hJ42 : E J42 42), E (bX2_live_117 g.1 R J31 J42) 117 := by
    intro J31 hJ31 J42 hJ42
    unfold bX2_live_117
    refine si_iconst (pc := 117) hE dX2_live_117 (by decide) ?_
    exact (h118 J31 hJ31 J42 hJ42)
  have h113 : ∀ (J31 : Cont MS) (hJ31 : E J31 31) (J42 : Cont MS) (hJ42 : E J42 42), E (bX2_live_113 g.1 R J31 J42) 113 := by
    intro J31 hJ31 J42 hJ42
    unfold bX2_live_113
    refine si_iconst (pc := 113) hE dX2_live_113 (by decide) ?_
    exact si_goto (pc := 114) hE dX2_live_114 (by decide) (h118 J31 hJ31 J42 hJ42)
  have h88 : ∀ (J31 : Cont MS) (hJ31 : E J31 31) (J42 : Cont MS) (hJ42 : E J42 42), E (bX2_live_88 g.1 R J31 J42) 88 := by
    intro J31 hJ31 J42 hJ42
    unfold bX2_live_88
    refine si_aload_n (pc := 88) hE dX2_live_88 rfl ?_
    refine si_mga (pc := 89) (k := 20) hE rfl dX2_live_89 q1679 (by decide) rfl (fun _ => rfl) ?_
    refine si_iload (pc := 92) hE dX2_live_92 ?_
    refine si_mia (pc := 94) (k := 20) hE dX2_live_94 (by decide) rfl ?_
    refine si_if_lt (pc := 95) hE dX2_live_95 (by decide) (h117 J31 hJ31 J42 hJ42) ?_
    refine si_aload_n (pc := 98) hE dX2_live_98 rfl ?_
    refine si_mga (pc := 99) (k := 44) hE rfl dX2_live_99 q1703 (by decide) rfl (fun _ => rfl) ?_
    refine si_aload_n (pc := 102) hE dX2_live_102 rfl ?_
    refine si_mga (pc := 103) (k := 20) hE rfl dX2_live_103 q1679 (by decide) rfl (fun _ => rfl) ?_
    refine si_iload (pc := 106) hE dX2_live_106 ?_
    refine si_mia (pc := 108) (k := 20) hE dX2_live_108 (by decide) rfl ?_
    refine si_mza (pc := 109) (k := 44) hE dX2_live_109 (by decide) rfl ?_
    refine si_if_eq (pc := 110) hE dX2_live_110 (by decide) (h117 J31 hJ31 J42 hJ42) ?_
    exact (h113 J31 hJ31 J42 hJ42)
  have h42 : ∀ (J31 : Cont MS) (hJ31 : E J31 31), E (bX2_live_42 g.1 R J31) 42 := by
    intro J31 hJ31
    unfold bX2_live_42
    refine si_fix hE (fun J42 hJ42 => ?_)
    refine si_iload (pc := 42) hE dX2_live_42 ?_
    refine si_aload_n (pc := 44) hE dX2_live_44 rfl ?_
    refine si_mga (pc := 45) (k := 10) hE rfl dX2_live_45 q1669 (by decide) rfl (fun _ => rfl) ?_
    refine si_iload_n (pc := 48) hE dX2_live_48 rfl ?_
    refine si_mia (pc := 49) (k := 10) hE dX2_live_49 (by decide) rfl ?_
    refine si_icmp_ge (pc := 50) hE dX2_live_50 (by decide) (h179 J31 hJ31) ?_
    refine si_sipush (pc := 53) hE dX2_live_53 (by decide) ?_
    refine si_iload_n (pc := 56) hE dX2_live_56 rfl ?_
    refine si_imul (pc := 57) hE dX2_live_57 ?_
    refine si_iload (pc := 58) hE dX2_live_58 ?_
    refine si_iadd (pc := 60) hE dX2_live_60 ?_
    refine si_istore (pc := 61) hE dX2_live_61 (by decide) ?_
    refine si_aload_n (pc := 63) hE dX2_live_63 rfl ?_
    refine si_mga (pc := 64) (k := 19) hE rfl dX2_live_64 q1678 (by decide) rfl (fun _ => rfl) ?_
    refine si_iload (pc := 67) hE dX2_live_67 ?_
    refine si_mia (pc := 69) (k := 19) hE dX2_live_69 (by decide) rfl ?_
    refine si_if_lt (pc := 70) hE dX2_live_70 (by decide) (h88 J31 hJ31 J42 hJ42) ?_
    refine si_aload_n (pc := 73) hE dX2_live_73 rfl ?_
    refine si_mga (pc := 74) (k := 44) hE rfl dX2_live_74 q1703 (by decide) rfl (fun _ => rfl) ?_
    refine si_aload_n (pc := 77) hE dX2_live_77 rfl ?_
    refine si_mga (pc := 78) (k := 19) hE rfl dX2_live_78 q1678 (by decide) rfl (fun _ => rfl) ?_
    refine si_iload (pc := 81) hE dX2_live_81 ?_
    refine si_mia (pc := 83) (k := 19) hE dX2_live_83 (by decide) rfl ?_
    refine si_mza (pc := 84) (k := 44) hE dX2_live_84 (by decide) rfl ?_
    refine si_if_ne (pc := 85) hE dX2_live_85 (by decide) (h113 J31 hJ31 J42 hJ42) ?_
    exact (h88 J31 hJ31 J42 hJ42)
  have h31 : E (bX2_live_31 g.1 R) 31 := by
    unfold bX2_live_31
    refine si_fix hE (fun J31 hJ31 => ?_)
    refine si_iload (pc := 31) hE dX2_live_31 ?_
    refine si_if_eq (pc := 33) hE dX2_live_33 (by decide) h182 ?_
    refine si_iconst (pc := 36) hE dX2_live_36 (by decide) ?_
    refine si_istore (pc := 37) hE dX2_live_37 (by decide) ?_
    refine si_iconst (pc := 39) hE dX2_live_39 (by decide) ?_
    refine si_istore (pc := 40) hE dX2_live_40 (by decide) ?_
    exact (si_kill hE (h42 J31 hJ31))
  have h28 : E (bX2_live_28 g.1 R) 28 := by
    unfold bX2_live_28
    refine si_iconst (pc := 28) hE dX2_live_28 (by decide) ?_
    refine si_istore (pc := 29) hE dX2_live_29 (by decide) ?_
    exact (si_kill hE h31)
  have h3 : E (bX2_live_3 g.1 R) 3 := by
    unfold bX2_live_3
    refine si_fix hE (fun J3 hJ3 => ?_)
    refine si_iload (pc := 3) hE dX2_live_3 ?_
    refine si_aload_n (pc := 5) hE dX2_live_5 rfl ?_
    refine si_mga (pc := 6) (k := 10) hE rfl dX2_live_6 q1669 (by decide) rfl (fun _ => rfl) ?_
    refine si_iload_n (pc := 9) hE dX2_live_9 rfl ?_
    refine si_mia (pc := 10) (k := 10) hE dX2_live_10 (by decide) rfl ?_
    refine si_icmp_ge (pc := 11) hE dX2_live_11 (by decide) h28 ?_
    refine si_aload_n (pc := 14) hE dX2_live_14 rfl ?_
    refine si_mga (pc := 15) (k := 44) hE rfl dX2_live_15 q1703 (by decide) rfl (fun _ => rfl) ?_
    refine si_iload (pc := 18) hE dX2_live_18 ?_
    refine si_iconst (pc := 20) hE dX2_live_20 (by decide) ?_
    refine si_mbs (pc := 21) (k := 44) hE dX2_live_21 (by decide) rfl ?_
    refine si_iinc (pc := 22) hE dX2_live_22 (by decide) (by decide) ?_
    exact si_goto (pc := 25) hE dX2_live_25 (by decide) (si_kill hE hJ3)
  have h0 : E (bX2_live_0 g.1 R) 0 := by
    unfold bX2_live_0
    refine si_iconst (pc := 0) hE dX2_live_0 (by decide) ?_
    refine si_istore (pc := 1) hE dX2_live_1 (by decide) ?_
    exact (si_kill hE h3)
  exact h0
def bX2_placed_44 (mo : Nat) (R : Ret MS) : Cont MS :=
    o_ic (-1) <|
    o_ireturn R
def bX2_placed_112 (mo : Nat) (R : Ret MS) : Cont MS :=
    o_ireturn R
def bX2_placed_111 (mo : Nat) (R : Ret MS) : Cont MS :=
    o_ic 0 <|
    (bX2_placed_112 mo R)
def bX2_placed_90 (mo : Nat) (R : Ret MS) : Cont MS :=
    o_al 0 <|
    o_il 1 <|
    o_il 2 <|
    o_il 3 <|
    o_mc mo 4 (pX2_live mo) R <|
    o_al 0 <|
    o_mga mo 44 <|
    o_il 4 <|
    o_mia mo 44 <|
    o_if_eq (bX2_placed_111 mo R) <|
    o_ic 1 <|
    (bX2_placed_112 mo R)
def bX2_placed_89 (mo : Nat) (R : Ret MS) : Cont MS :=
    o_ireturn R
def bX2_placed_88 (mo : Nat) (R : Ret MS) : Cont MS :=
    o_ic 0 <|
    (bX2_placed_89 mo R)
def bX2_placed_84 (mo : Nat) (R : Ret MS) : Cont MS :=
    o_ic 1 <|
    (bX2_placed_89 mo R)
def bX2_placed_72 (mo : Nat) (R : Ret MS) : Cont MS :=
    o_al 0 <|
    o_il 1 <|
    o_il 2 <|
    o_il 3 <|
    o_il 4 <|
    o_mc mo 5 (pX2_isTaken mo) R <|
    o_if_eq (bX2_placed_88 mo R) <|
    (bX2_placed_84 mo R)
def bX2_placed_46 (mo : Nat) (R : Ret MS) : Cont MS :=
    o_il 5 <|
    o_ic 2 <|
    o_icmp_ge (bX2_placed_90 mo R) <|
    o_il 5 <|
    o_if_ne (bX2_placed_72 mo R) <|
    o_al 0 <|
    o_il 1 <|
    o_il 2 <|
    o_il 3 <|
    o_il 4 <|
    o_mc mo 5 (pX2_isSet mo) R <|
    o_if_eq (bX2_placed_88 mo R) <|
    (bX2_placed_84 mo R)
def bX2_placed_0 (mo : Nat) (R : Ret MS) : Cont MS :=
    o_al 0 <|
    o_il 1 <|
    o_il 3 <|
    o_mc mo 3 (pX2_isSum mo) R <|
    o_if_eq (bX2_placed_44 mo R) <|
    o_al 0 <|
    o_il 2 <|
    o_mc mo 2 (pX2_isPlacing mo) R <|
    o_if_eq (bX2_placed_44 mo R) <|
    o_il 4 <|
    o_if_lt (bX2_placed_44 mo R) <|
    o_il 4 <|
    o_al 0 <|
    o_mga mo 10 <|
    o_il 1 <|
    o_mia mo 10 <|
    o_icmp_ge (bX2_placed_44 mo R) <|
    o_il 5 <|
    o_if_lt (bX2_placed_44 mo R) <|
    o_il 5 <|
    o_ic 2 <|
    o_icmp_le (bX2_placed_46 mo R) <|
    (bX2_placed_44 mo R)
def pX2_placed (mo : Nat) : PT MS := fun as σ Q => (lg_sl as).length ≤ 6 ∧ bX2_placed_0 mo Q (entP 6 as) [] σ
theorem nX2_placed : parN yX2_placed 5 := by unfold parN; decide +kernel
set_option maxHeartbeats 4000000 in
theorem eX2_placed (g : GM) : CT (wM g) yX2_placed (Cond.code yX2_placed cX2_placed 6 (some .int)) 3 75 (pX2_placed g.1) := by
  refine CT.of (wM_ok g) (cc := cX2_placed) (nL := 6) (ret := (some .int)) (ht := []) (by decide +kernel) (Or.inl ⟨rfl, rfl⟩) (B := bX2_placed_0 g.1) (fun R E X hE => ?_)
  have h44 : E (bX2_placed_44 g.1 R) 44 := by
    unfold bX2_placed_44
    refine si_iconst (pc := 44) hE dX2_placed_44 (by decide) ?_
    exact si_ireturn (pc := 45) hE dX2_placed_45
  have h112 : E (bX2_placed_112 g.1 R) 112 := by
    unfold bX2_placed_112
    exact si_ireturn (pc := 112) hE dX2_placed_112
  have h111 : E (bX2_placed_111 g.1 R) 111 := by
    unfold bX2_placed_111
    refine si_iconst (pc := 111) hE dX2_placed_111 (by decide) ?_
    exact h112
  have h90 : E (bX2_placed_90 g.1 R) 90 := by
    unfold bX2_placed_90
    refine si_aload_n (pc := 90) hE dX2_placed_90 rfl ?_
    refine si_iload_n (pc := 91) hE dX2_placed_91 rfl ?_
    refine si_iload_n (pc := 92) hE dX2_placed_92 rfl ?_
    refine si_iload_n (pc := 93) hE dX2_placed_93 rfl ?_
    refine si_mc (pc := 94) (n := 3) hE rfl dX2_placed_94 (eX2_live g) rfl q2109 q2111 qs107 q2112 q134 nX2_live (by decide) (by decide) ?_
    refine si_aload_n (pc := 97) hE dX2_placed_97 rfl ?_
    refine si_mga (pc := 98) (k := 44) hE rfl dX2_placed_98 q1703 (by decide) rfl (fun _ => rfl) ?_
    refine si_iload (pc := 101) hE dX2_placed_101 ?_
    refine si_mza (pc := 103) (k := 44) hE dX2_placed_103 (by decide) rfl ?_
    refine si_if_eq (pc := 104) hE dX2_placed_104 (by decide) h111 ?_
    refine si_iconst (pc := 107) hE dX2_placed_107 (by decide) ?_
    exact si_goto (pc := 108) hE dX2_placed_108 (by decide) h112
  have h89 : E (bX2_placed_89 g.1 R) 89 := by
    unfold bX2_placed_89
    exact si_ireturn (pc := 89) hE dX2_placed_89
  have h88 : E (bX2_placed_88 g.1 R) 88 := by
    unfold bX2_placed_88
    refine si_iconst (pc := 88) hE dX2_placed_88 (by decide) ?_
    exact h89
  have h84 : E (bX2_placed_84 g.1 R) 84 := by
    unfold bX2_placed_84
    refine si_iconst (pc := 84) hE dX2_placed_84 (by decide) ?_
    exact si_goto (pc := 85) hE dX2_placed_85 (by decide) h89
  have h72 : E (bX2_placed_72 g.1 R) 72 := by
    unfold bX2_placed_72
    refine si_aload_n (pc := 72) hE dX2_placed_72 rfl ?_
    refine si_iload_n (pc := 73) hE dX2_placed_73 rfl ?_
    refine si_iload_n (pc := 74) hE dX2_placed_74 rfl ?_
    refine si_iload_n (pc := 75) hE dX2_placed_75 rfl ?_
    refine si_iload (pc := 76) hE dX2_placed_76 ?_
    refine si_mc (pc := 78) (n := 4) hE rfl dX2_placed_78 (eX2_isTaken g) rfl q2105 q2107 qs106 q2108 q134 nX2_isTaken (by decide) (by decide) ?_
    refine si_if_eq (pc := 81) hE dX2_placed_81 (by decide) h88 ?_
    exact h84
  have h46 : E (bX2_placed_46 g.1 R) 46 := by
    unfold bX2_placed_46
    refine si_iload (pc := 46) hE dX2_placed_46 ?_
    refine si_iconst (pc := 48) hE dX2_placed_48 (by decide) ?_
    refine si_icmp_ge (pc := 49) hE dX2_placed_49 (by decide) h90 ?_
    refine si_iload (pc := 52) hE dX2_placed_52 ?_
    refine si_if_ne (pc := 54) hE dX2_placed_54 (by decide) h72 ?_
    refine si_aload_n (pc := 57) hE dX2_placed_57 rfl ?_
    refine si_iload_n (pc := 58) hE dX2_placed_58 rfl ?_
    refine si_iload_n (pc := 59) hE dX2_placed_59 rfl ?_
    refine si_iload_n (pc := 60) hE dX2_placed_60 rfl ?_
    refine si_iload (pc := 61) hE dX2_placed_61 ?_
    refine si_mc (pc := 63) (n := 4) hE rfl dX2_placed_63 (eX2_isSet g) rfl q2101 q2103 qs105 q2104 q134 nX2_isSet (by decide) (by decide) ?_
    refine si_if_eq (pc := 66) hE dX2_placed_66 (by decide) h88 ?_
    exact si_goto (pc := 69) hE dX2_placed_69 (by decide) h84
  have h0 : E (bX2_placed_0 g.1 R) 0 := by
    unfold bX2_placed_0
    refine si_aload_n (pc := 0) hE dX2_placed_0 rfl ?_
    refine si_iload_n (pc := 1) hE dX2_placed_1 rfl ?_
    refine si_iload_n (pc := 2) hE dX2_placed_2 rfl ?_
    refine si_mc (pc := 3) (n := 2) hE rfl dX2_placed_3 (eX2_isSum g) rfl q2081 q2083 qs102 q2084 q134 nX2_isSum (by decide) (by decide) ?_
    refine si_if_eq (pc := 6) hE dX2_placed_6 (by decide) h44 ?_
    refine si_aload_n (pc := 9) hE dX2_placed_9 rfl ?_
    refine si_iload_n (pc := 10) hE dX2_placed_10 rfl ?_
    refine si_mc (pc := 11) (n := 1) hE rfl dX2_placed_11 (eX2_isPlacing g) rfl q2097 q2099 qs104 q2100 q134 nX2_isPlacing (by decide) (by decide) ?_
    refine si_if_eq (pc := 14) hE dX2_placed_14 (by decide) h44 ?_
    refine si_iload (pc := 17) hE dX2_placed_17 ?_
    refine si_if_lt (pc := 19) hE dX2_placed_19 (by decide) h44 ?_
    refine si_iload (pc := 22) hE dX2_placed_22 ?_
    refine si_aload_n (pc := 24) hE dX2_placed_24 rfl ?_
    refine si_mga (pc := 25) (k := 10) hE rfl dX2_placed_25 q1669 (by decide) rfl (fun _ => rfl) ?_
    refine si_iload_n (pc := 28) hE dX2_placed_28 rfl ?_
    refine si_mia (pc := 29) (k := 10) hE dX2_placed_29 (by decide) rfl ?_
    refine si_icmp_ge (pc := 30) hE dX2_placed_30 (by decide) h44 ?_
    refine si_iload (pc := 33) hE dX2_placed_33 ?_
    refine si_if_lt (pc := 35) hE dX2_placed_35 (by decide) h44 ?_
    refine si_iload (pc := 38) hE dX2_placed_38 ?_
    refine si_iconst (pc := 40) hE dX2_placed_40 (by decide) ?_
    refine si_icmp_le (pc := 41) hE dX2_placed_41 (by decide) h46 ?_
    exact h44
  exact h0
def bX2_life_17 (mo : Nat) (R : Ret MS) : Cont MS :=
    o_ic (-1) <|
    o_ireturn R
def bX2_life_69 (mo : Nat) (R : Ret MS) : Cont MS :=
    o_il 4 <|
    o_ireturn R
def bX2_life_60 (mo : Nat) (R : Ret MS) (J32 : Cont MS) : Cont MS :=
    o_iadd <|
    o_is 4 <|
    o_iinc 5 1 <|
    (o_kill [2, 3] J32)
def bX2_life_59 (mo : Nat) (R : Ret MS) (J32 : Cont MS) : Cont MS :=
    o_ic 0 <|
    (bX2_life_60 mo R J32)
def bX2_life_32 (mo : Nat) (R : Ret MS) : Cont MS :=
    fixC fun J32 =>
    o_il 5 <|
    o_al 0 <|
    o_mga mo 10 <|
    o_il 1 <|
    o_mia mo 10 <|
    o_icmp_ge (bX2_life_69 mo R) <|
    o_il 4 <|
    o_al 0 <|
    o_mga mo 44 <|
    o_il 5 <|
    o_mia mo 44 <|
    o_if_eq (bX2_life_59 mo R J32) <|
    o_ic 1 <|
    (bX2_life_60 mo R J32)
def bX2_life_19 (mo : Nat) (R : Ret MS) : Cont MS :=
    o_al 0 <|
    o_il 1 <|
    o_il 2 <|
    o_il 3 <|
    o_mc mo 4 (pX2_live mo) R <|
    o_ic 0 <|
    o_is 4 <|
    o_ic 0 <|
    o_is 5 <|
    (o_kill [2, 3] (bX2_life_32 mo R))
def bX2_life_0 (mo : Nat) (R : Ret MS) : Cont MS :=
    o_al 0 <|
    o_il 1 <|
    o_il 3 <|
    o_mc mo 3 (pX2_isSum mo) R <|
    o_if_eq (bX2_life_17 mo R) <|
    o_al 0 <|
    o_il 2 <|
    o_mc mo 2 (pX2_isPlacing mo) R <|
    o_if_ne (bX2_life_19 mo R) <|
    (bX2_life_17 mo R)
def pX2_life (mo : Nat) : PT MS := fun as σ Q => (lg_sl as).length ≤ 6 ∧ bX2_life_0 mo Q (entP 6 as) [] σ
theorem nX2_life : parN yX2_life 3 := by unfold parN; decide +kernel
set_option maxHeartbeats 4000000 in
theorem eX2_life (g : GM) : CT (wM g) yX2_life (Cond.code yX2_life cX2_life 6 (some .int)) 3 75 (pX2_life g.1) := by
  refine CT.of (wM_ok g) (cc := cX2_life) (nL := 6) (ret := (some .int)) (ht := []) (by decide +kernel) (Or.inl ⟨rfl, rfl⟩) (B := bX2_life_0 g.1) (fun R E X hE => ?_)
  have h17 : E (bX2_life_17 g.1 R) 17 := by
    unfold bX2_life_17
    refine si_iconst (pc := 17) hE dX2_life_17 (by decide) ?_
    exact si_ireturn (pc := 18) hE dX2_life_18
  have h69 : E (bX2_life_69 g.1 R) 69 := by
    unfold bX2_life_69
    refine si_iload (pc := 69) hE dX2_life_69 ?_
    exact si_ireturn (pc := 71) hE dX2_life_71
  have h60 : ∀ (J32 : Cont MS) (hJ32 : E J32 32), E (bX2_life_60 g.1 R J32) 60 := by
    intro J32 hJ32
    unfold bX2_life_60
    refine si_iadd (pc := 60) hE dX2_life_60 ?_
    refine si_istore (pc := 61) hE dX2_life_61 (by decide) ?_
    refine si_iinc (pc := 63) hE dX2_life_63 (by decide) (by decide) ?_
    exact si_goto (pc := 66) hE dX2_life_66 (by decide) (si_kill hE hJ32)
  have h59 : ∀ (J32 : Cont MS) (hJ32 : E J32 32), E (bX2_life_59 g.1 R J32) 59 := by
    intro J32 hJ32
    unfold bX2_life_59
    refine si_iconst (pc := 59) hE dX2_life_59 (by decide) ?_
    exact (h60 J32 hJ32)
  have h32 : E (bX2_life_32 g.1 R) 32 := by
    unfold bX2_life_32
    refine si_fix hE (fun J32 hJ32 => ?_)
    refine si_iload (pc := 32) hE dX2_life_32 ?_
    refine si_aload_n (pc := 34) hE dX2_life_34 rfl ?_
    refine si_mga (pc := 35) (k := 10) hE rfl dX2_life_35 q1669 (by decide) rfl (fun _ => rfl) ?_
    refine si_iload_n (pc := 38) hE dX2_life_38 rfl ?_
    refine si_mia (pc := 39) (k := 10) hE dX2_life_39 (by decide) rfl ?_
    refine si_icmp_ge (pc := 40) hE dX2_life_40 (by decide) h69 ?_
    refine si_iload (pc := 43) hE dX2_life_43 ?_
    refine si_aload_n (pc := 45) hE dX2_life_45 rfl ?_
    refine si_mga (pc := 46) (k := 44) hE rfl dX2_life_46 q1703 (by decide) rfl (fun _ => rfl) ?_
    refine si_iload (pc := 49) hE dX2_life_49 ?_
    refine si_mza (pc := 51) (k := 44) hE dX2_life_51 (by decide) rfl ?_
    refine si_if_eq (pc := 52) hE dX2_life_52 (by decide) (h59 J32 hJ32) ?_
    refine si_iconst (pc := 55) hE dX2_life_55 (by decide) ?_
    exact si_goto (pc := 56) hE dX2_life_56 (by decide) (h60 J32 hJ32)
  have h19 : E (bX2_life_19 g.1 R) 19 := by
    unfold bX2_life_19
    refine si_aload_n (pc := 19) hE dX2_life_19 rfl ?_
    refine si_iload_n (pc := 20) hE dX2_life_20 rfl ?_
    refine si_iload_n (pc := 21) hE dX2_life_21 rfl ?_
    refine si_iload_n (pc := 22) hE dX2_life_22 rfl ?_
    refine si_mc (pc := 23) (n := 3) hE rfl dX2_life_23 (eX2_live g) rfl q2109 q2111 qs107 q2112 q134 nX2_live (by decide) (by decide) ?_
    refine si_iconst (pc := 26) hE dX2_life_26 (by decide) ?_
    refine si_istore (pc := 27) hE dX2_life_27 (by decide) ?_
    refine si_iconst (pc := 29) hE dX2_life_29 (by decide) ?_
    refine si_istore (pc := 30) hE dX2_life_30 (by decide) ?_
    exact (si_kill hE h32)
  have h0 : E (bX2_life_0 g.1 R) 0 := by
    unfold bX2_life_0
    refine si_aload_n (pc := 0) hE dX2_life_0 rfl ?_
    refine si_iload_n (pc := 1) hE dX2_life_1 rfl ?_
    refine si_iload_n (pc := 2) hE dX2_life_2 rfl ?_
    refine si_mc (pc := 3) (n := 2) hE rfl dX2_life_3 (eX2_isSum g) rfl q2081 q2083 qs102 q2084 q134 nX2_isSum (by decide) (by decide) ?_
    refine si_if_eq (pc := 6) hE dX2_life_6 (by decide) h17 ?_
    refine si_aload_n (pc := 9) hE dX2_life_9 rfl ?_
    refine si_iload_n (pc := 10) hE dX2_life_10 rfl ?_
    refine si_mc (pc := 11) (n := 1) hE rfl dX2_life_11 (eX2_isPlacing g) rfl q2097 q2099 qs104 q2100 q134 nX2_isPlacing (by decide) (by decide) ?_
    refine si_if_ne (pc := 14) hE dX2_life_14 (by decide) h19 ?_
    exact h17
  exact h0
def bX2_places_28 (mo : Nat) (R : Ret MS) : Cont MS :=
    o_ic (-1) <|
    o_ireturn R
def bX2_places_95 (mo : Nat) (R : Ret MS) : Cont MS :=
    o_il 5 <|
    o_ireturn R
def bX2_places_86 (mo : Nat) (R : Ret MS) (J36 : Cont MS) : Cont MS :=
    o_iadd <|
    o_is 5 <|
    o_iinc 6 1 <|
    J36
def bX2_places_85 (mo : Nat) (R : Ret MS) (J36 : Cont MS) : Cont MS :=
    o_ic 0 <|
    (bX2_places_86 mo R J36)
def bX2_places_81 (mo : Nat) (R : Ret MS) (J36 : Cont MS) : Cont MS :=
    o_ic 1 <|
    (bX2_places_86 mo R J36)
def bX2_places_69 (mo : Nat) (R : Ret MS) (J36 : Cont MS) : Cont MS :=
    o_al 0 <|
    o_il 1 <|
    o_il 2 <|
    o_il 3 <|
    o_il 6 <|
    o_mc mo 5 (pX2_isTaken mo) R <|
    o_if_eq (bX2_places_85 mo R J36) <|
    (bX2_places_81 mo R J36)
def bX2_places_36 (mo : Nat) (R : Ret MS) : Cont MS :=
    fixC fun J36 =>
    o_il 6 <|
    o_al 0 <|
    o_mga mo 10 <|
    o_il 1 <|
    o_mia mo 10 <|
    o_icmp_ge (bX2_places_95 mo R) <|
    o_il 5 <|
    o_il 4 <|
    o_if_ne (bX2_places_69 mo R J36) <|
    o_al 0 <|
    o_il 1 <|
    o_il 2 <|
    o_il 3 <|
    o_il 6 <|
    o_mc mo 5 (pX2_isSet mo) R <|
    o_if_eq (bX2_places_85 mo R J36) <|
    (bX2_places_81 mo R J36)
def bX2_places_30 (mo : Nat) (R : Ret MS) : Cont MS :=
    o_ic 0 <|
    o_is 5 <|
    o_ic 0 <|
    o_is 6 <|
    (bX2_places_36 mo R)
def bX2_places_0 (mo : Nat) (R : Ret MS) : Cont MS :=
    o_al 0 <|
    o_il 1 <|
    o_il 3 <|
    o_mc mo 3 (pX2_isSum mo) R <|
    o_if_eq (bX2_places_28 mo R) <|
    o_al 0 <|
    o_il 2 <|
    o_mc mo 2 (pX2_isPlacing mo) R <|
    o_if_eq (bX2_places_28 mo R) <|
    o_il 4 <|
    o_if_lt (bX2_places_28 mo R) <|
    o_il 4 <|
    o_ic 1 <|
    o_icmp_le (bX2_places_30 mo R) <|
    (bX2_places_28 mo R)
def pX2_places (mo : Nat) : PT MS := fun as σ Q => (lg_sl as).length ≤ 7 ∧ bX2_places_0 mo Q (entP 7 as) [] σ
theorem nX2_places : parN yX2_places 4 := by unfold parN; decide +kernel
set_option maxHeartbeats 4000000 in
theorem eX2_places (g : GM) : CT (wM g) yX2_places (Cond.code yX2_places cX2_places 7 (some .int)) 2 48 (pX2_places g.1) := by
  refine CT.of (wM_ok g) (cc := cX2_places) (nL := 7) (ret := (some .int)) (ht := []) (by decide +kernel) (Or.inl ⟨rfl, rfl⟩) (B := bX2_places_0 g.1) (fun R E X hE => ?_)
  have h28 : E (bX2_places_28 g.1 R) 28 := by
    unfold bX2_places_28
    refine si_iconst (pc := 28) hE dX2_places_28 (by decide) ?_
    exact si_ireturn (pc := 29) hE dX2_places_29
  have h95 : E (bX2_places_95 g.1 R) 95 := by
    unfold bX2_places_95
    refine si_iload (pc := 95) hE dX2_places_95 ?_
    exact si_ireturn (pc := 97) hE dX2_places_97
  have h86 : ∀ (J36 : Cont MS) (hJ36 : E J36 36), E (bX2_places_86 g.1 R J36) 86 := by
    intro J36 hJ36
    unfold bX2_places_86
    refine si_iadd (pc := 86) hE dX2_places_86 ?_
    refine si_istore (pc := 87) hE dX2_places_87 (by decide) ?_
    refine si_iinc (pc := 89) hE dX2_places_89 (by decide) (by decide) ?_
    exact si_goto (pc := 92) hE dX2_places_92 (by decide) hJ36
  have h85 : ∀ (J36 : Cont MS) (hJ36 : E J36 36), E (bX2_places_85 g.1 R J36) 85 := by
    intro J36 hJ36
    unfold bX2_places_85
    refine si_iconst (pc := 85) hE dX2_places_85 (by decide) ?_
    exact (h86 J36 hJ36)
  have h81 : ∀ (J36 : Cont MS) (hJ36 : E J36 36), E (bX2_places_81 g.1 R J36) 81 := by
    intro J36 hJ36
    unfold bX2_places_81
    refine si_iconst (pc := 81) hE dX2_places_81 (by decide) ?_
    exact si_goto (pc := 82) hE dX2_places_82 (by decide) (h86 J36 hJ36)
  have h69 : ∀ (J36 : Cont MS) (hJ36 : E J36 36), E (bX2_places_69 g.1 R J36) 69 := by
    intro J36 hJ36
    unfold bX2_places_69
    refine si_aload_n (pc := 69) hE dX2_places_69 rfl ?_
    refine si_iload_n (pc := 70) hE dX2_places_70 rfl ?_
    refine si_iload_n (pc := 71) hE dX2_places_71 rfl ?_
    refine si_iload_n (pc := 72) hE dX2_places_72 rfl ?_
    refine si_iload (pc := 73) hE dX2_places_73 ?_
    refine si_mc (pc := 75) (n := 4) hE rfl dX2_places_75 (eX2_isTaken g) rfl q2105 q2107 qs106 q2108 q134 nX2_isTaken (by decide) (by decide) ?_
    refine si_if_eq (pc := 78) hE dX2_places_78 (by decide) (h85 J36 hJ36) ?_
    exact (h81 J36 hJ36)
  have h36 : E (bX2_places_36 g.1 R) 36 := by
    unfold bX2_places_36
    refine si_fix hE (fun J36 hJ36 => ?_)
    refine si_iload (pc := 36) hE dX2_places_36 ?_
    refine si_aload_n (pc := 38) hE dX2_places_38 rfl ?_
    refine si_mga (pc := 39) (k := 10) hE rfl dX2_places_39 q1669 (by decide) rfl (fun _ => rfl) ?_
    refine si_iload_n (pc := 42) hE dX2_places_42 rfl ?_
    refine si_mia (pc := 43) (k := 10) hE dX2_places_43 (by decide) rfl ?_
    refine si_icmp_ge (pc := 44) hE dX2_places_44 (by decide) h95 ?_
    refine si_iload (pc := 47) hE dX2_places_47 ?_
    refine si_iload (pc := 49) hE dX2_places_49 ?_
    refine si_if_ne (pc := 51) hE dX2_places_51 (by decide) (h69 J36 hJ36) ?_
    refine si_aload_n (pc := 54) hE dX2_places_54 rfl ?_
    refine si_iload_n (pc := 55) hE dX2_places_55 rfl ?_
    refine si_iload_n (pc := 56) hE dX2_places_56 rfl ?_
    refine si_iload_n (pc := 57) hE dX2_places_57 rfl ?_
    refine si_iload (pc := 58) hE dX2_places_58 ?_
    refine si_mc (pc := 60) (n := 4) hE rfl dX2_places_60 (eX2_isSet g) rfl q2101 q2103 qs105 q2104 q134 nX2_isSet (by decide) (by decide) ?_
    refine si_if_eq (pc := 63) hE dX2_places_63 (by decide) (h85 J36 hJ36) ?_
    exact si_goto (pc := 66) hE dX2_places_66 (by decide) (h81 J36 hJ36)
  have h30 : E (bX2_places_30 g.1 R) 30 := by
    unfold bX2_places_30
    refine si_iconst (pc := 30) hE dX2_places_30 (by decide) ?_
    refine si_istore (pc := 31) hE dX2_places_31 (by decide) ?_
    refine si_iconst (pc := 33) hE dX2_places_33 (by decide) ?_
    refine si_istore (pc := 34) hE dX2_places_34 (by decide) ?_
    exact h36
  have h0 : E (bX2_places_0 g.1 R) 0 := by
    unfold bX2_places_0
    refine si_aload_n (pc := 0) hE dX2_places_0 rfl ?_
    refine si_iload_n (pc := 1) hE dX2_places_1 rfl ?_
    refine si_iload_n (pc := 2) hE dX2_places_2 rfl ?_
    refine si_mc (pc := 3) (n := 2) hE rfl dX2_places_3 (eX2_isSum g) rfl q2081 q2083 qs102 q2084 q134 nX2_isSum (by decide) (by decide) ?_
    refine si_if_eq (pc := 6) hE dX2_places_6 (by decide) h28 ?_
    refine si_aload_n (pc := 9) hE dX2_places_9 rfl ?_
    refine si_iload_n (pc := 10) hE dX2_places_10 rfl ?_
    refine si_mc (pc := 11) (n := 1) hE rfl dX2_places_11 (eX2_isPlacing g) rfl q2097 q2099 qs104 q2100 q134 nX2_isPlacing (by decide) (by decide) ?_
    refine si_if_eq (pc := 14) hE dX2_places_14 (by decide) h28 ?_
    refine si_iload (pc := 17) hE dX2_places_17 ?_
    refine si_if_lt (pc := 19) hE dX2_places_19 (by decide) h28 ?_
    refine si_iload (pc := 22) hE dX2_places_22 ?_
    refine si_iconst (pc := 24) hE dX2_places_24 (by decide) ?_
    refine si_icmp_le (pc := 25) hE dX2_places_25 (by decide) h30 ?_
    exact h28
  exact h0
def bX2_name_10 (mo : Nat) (R : Ret MS) : Cont MS :=
    o_ic 0 <|
    o_ireturn R
def bX2_name_12 (mo : Nat) (R : Ret MS) : Cont MS :=
    o_al 0 <|
    o_mga mo 45 <|
    o_il 1 <|
    o_mia mo 45 <|
    o_is 3 <|
    o_al 0 <|
    o_mga mo 45 <|
    o_il 1 <|
    o_il 2 <|
    o_mis mo 45 <|
    o_il 3 <|
    o_ireturn R
def bX2_name_0 (mo : Nat) (R : Ret MS) : Cont MS :=
    o_il 1 <|
    o_if_lt (bX2_name_10 mo R) <|
    o_il 1 <|
    o_ic 47 <|
    o_icmp_le (bX2_name_12 mo R) <|
    (bX2_name_10 mo R)
def pX2_name (mo : Nat) : PT MS := fun as σ Q => (lg_sl as).length ≤ 4 ∧ bX2_name_0 mo Q (entP 4 as) [] σ
theorem nX2_name : parN yX2_name 2 := by unfold parN; decide +kernel
set_option maxHeartbeats 4000000 in
theorem eX2_name (g : GM) : CT (wM g) yX2_name (Cond.code yX2_name cX2_name 4 (some .int)) 0 0 (pX2_name g.1) := by
  refine CT.of (wM_ok g) (cc := cX2_name) (nL := 4) (ret := (some .int)) (ht := []) (by decide +kernel) (Or.inl ⟨rfl, rfl⟩) (B := bX2_name_0 g.1) (fun R E X hE => ?_)
  have h10 : E (bX2_name_10 g.1 R) 10 := by
    unfold bX2_name_10
    refine si_iconst (pc := 10) hE dX2_name_10 (by decide) ?_
    exact si_ireturn (pc := 11) hE dX2_name_11
  have h12 : E (bX2_name_12 g.1 R) 12 := by
    unfold bX2_name_12
    refine si_aload_n (pc := 12) hE dX2_name_12 rfl ?_
    refine si_mga (pc := 13) (k := 45) hE rfl dX2_name_13 q1704 (by decide) rfl (fun _ => rfl) ?_
    refine si_iload_n (pc := 16) hE dX2_name_16 rfl ?_
    refine si_mia (pc := 17) (k := 45) hE dX2_name_17 (by decide) rfl ?_
    refine si_istore_n (pc := 18) hE dX2_name_18 rfl (by decide) ?_
    refine si_aload_n (pc := 19) hE dX2_name_19 rfl ?_
    refine si_mga (pc := 20) (k := 45) hE rfl dX2_name_20 q1704 (by decide) rfl (fun _ => rfl) ?_
    refine si_iload_n (pc := 23) hE dX2_name_23 rfl ?_
    refine si_iload_n (pc := 24) hE dX2_name_24 rfl ?_
    refine si_mis (pc := 25) (k := 45) hE dX2_name_25 (by decide) rfl ?_
    refine si_iload_n (pc := 26) hE dX2_name_26 rfl ?_
    exact si_ireturn (pc := 27) hE dX2_name_27
  have h0 : E (bX2_name_0 g.1 R) 0 := by
    unfold bX2_name_0
    refine si_iload_n (pc := 0) hE dX2_name_0 rfl ?_
    refine si_if_lt (pc := 1) hE dX2_name_1 (by decide) h10 ?_
    refine si_iload_n (pc := 4) hE dX2_name_4 rfl ?_
    refine si_bipush (pc := 5) hE dX2_name_5 (by decide) ?_
    refine si_icmp_le (pc := 7) hE dX2_name_7 (by decide) h12 ?_
    exact h10
  exact h0
def bX2_of_14 (mo : Nat) (R : Ret MS) : Cont MS :=
    o_ireturn R
def bX2_of_8 (mo : Nat) (R : Ret MS) : Cont MS :=
    o_al 0 <|
    o_mga mo 46 <|
    o_il 1 <|
    o_mia mo 46 <|
    (bX2_of_14 mo R)
def bX2_of_0 (mo : Nat) (R : Ret MS) : Cont MS :=
    o_il 1 <|
    o_if_ge (bX2_of_8 mo R) <|
    o_il 2 <|
    (bX2_of_14 mo R)
def pX2_of (mo : Nat) : PT MS := fun as σ Q => (lg_sl as).length ≤ 3 ∧ bX2_of_0 mo Q (entP 3 as) [] σ
theorem nX2_of : parN yX2_of 2 := by unfold parN; decide +kernel
set_option maxHeartbeats 4000000 in
theorem eX2_of (g : GM) : CT (wM g) yX2_of (Cond.code yX2_of cX2_of 3 (some .int)) 0 0 (pX2_of g.1) := by
  refine CT.of (wM_ok g) (cc := cX2_of) (nL := 3) (ret := (some .int)) (ht := []) (by decide +kernel) (Or.inl ⟨rfl, rfl⟩) (B := bX2_of_0 g.1) (fun R E X hE => ?_)
  have h14 : E (bX2_of_14 g.1 R) 14 := by
    unfold bX2_of_14
    exact si_ireturn (pc := 14) hE dX2_of_14
  have h8 : E (bX2_of_8 g.1 R) 8 := by
    unfold bX2_of_8
    refine si_aload_n (pc := 8) hE dX2_of_8 rfl ?_
    refine si_mga (pc := 9) (k := 46) hE rfl dX2_of_9 q1705 (by decide) rfl (fun _ => rfl) ?_
    refine si_iload_n (pc := 12) hE dX2_of_12 rfl ?_
    refine si_mia (pc := 13) (k := 46) hE dX2_of_13 (by decide) rfl ?_
    exact h14
  have h0 : E (bX2_of_0 g.1 R) 0 := by
    unfold bX2_of_0
    refine si_iload_n (pc := 0) hE dX2_of_0 rfl ?_
    refine si_if_ge (pc := 1) hE dX2_of_1 (by decide) h8 ?_
    refine si_iload_n (pc := 4) hE dX2_of_4 rfl ?_
    exact si_goto (pc := 5) hE dX2_of_5 (by decide) h14
  exact h0
def bX2_work_198 (mo : Nat) (R : Ret MS) : Cont MS :=
    o_il 5 <|
    o_il 4 <|
    o_iand <|
    o_ireturn R
def bX2_work_192 (mo : Nat) (R : Ret MS) : Cont MS :=
    o_il 5 <|
    o_il 4 <|
    o_imul <|
    o_ireturn R
def bX2_work_180 (mo : Nat) (R : Ret MS) : Cont MS :=
    o_il 5 <|
    o_il 4 <|
    o_iadd <|
    o_ireturn R
def bX2_work_186 (mo : Nat) (R : Ret MS) : Cont MS :=
    o_il 5 <|
    o_il 4 <|
    o_isub <|
    o_ireturn R
def bX2_work_204 (mo : Nat) (R : Ret MS) : Cont MS :=
    o_il 5 <|
    o_il 4 <|
    o_ixor <|
    o_ireturn R
def bX2_work_252 (mo : Nat) (R : Ret MS) : Cont MS :=
    o_ireturn R
def bX2_work_247 (mo : Nat) (R : Ret MS) : Cont MS :=
    o_il 5 <|
    o_il 4 <|
    o_idiv <|
    (bX2_work_252 mo R)
def bX2_work_235 (mo : Nat) (R : Ret MS) : Cont MS :=
    o_il 4 <|
    o_ic (-1) <|
    o_icmp_ne (bX2_work_247 mo R) <|
    o_il 5 <|
    o_ineg <|
    (bX2_work_252 mo R)
def bX2_work_221 (mo : Nat) (R : Ret MS) : Cont MS :=
    o_mpz mo 56 <|
    o_al 0 <|
    o_mg mo 56 <|
    o_if_eq (bX2_work_235 mo R) <|
    o_ic 0 <|
    (bX2_work_252 mo R)
def bX2_work_220 (mo : Nat) (R : Ret MS) : Cont MS :=
    o_ic 0 <|
    (bX2_work_221 mo R)
def bX2_work_210 (mo : Nat) (R : Ret MS) : Cont MS :=
    o_al 0 <|
    o_il 4 <|
    o_if_ne (bX2_work_220 mo R) <|
    o_ic 1 <|
    (bX2_work_221 mo R)
def bX2_work_106 (mo : Nat) (R : Ret MS) : Cont MS :=
    o_al 0 <|
    o_al 0 <|
    o_mga mo 27 <|
    o_il 3 <|
    o_mia mo 27 <|
    o_al 0 <|
    o_mga mo 28 <|
    o_il 3 <|
    o_mia mo 28 <|
    o_mc mo 3 (pX2_of mo) R <|
    o_is 5 <|
    o_al 0 <|
    o_mga mo 26 <|
    o_il 3 <|
    o_mia mo 26 <|
    o_sw [(38, (bX2_work_198 mo R)), (42, (bX2_work_192 mo R)), (43, (bX2_work_180 mo R)), (45, (bX2_work_186 mo R)), (94, (bX2_work_204 mo R))] (bX2_work_210 mo R)
def bX2_work_105 (mo : Nat) (R : Ret MS) : Cont MS :=
    o_ireturn R
def bX2_work_88 (mo : Nat) (R : Ret MS) : Cont MS :=
    o_al 0 <|
    o_mga mo 47 <|
    o_ic 8 <|
    o_al 0 <|
    o_mga mo 28 <|
    o_il 3 <|
    o_mia mo 28 <|
    o_imul <|
    o_il 4 <|
    o_iadd <|
    o_mia mo 47 <|
    (bX2_work_105 mo R)
def bX2_work_74 (mo : Nat) (R : Ret MS) : Cont MS :=
    o_mpz mo 56 <|
    o_al 0 <|
    o_mg mo 56 <|
    o_if_eq (bX2_work_88 mo R) <|
    o_ic 0 <|
    (bX2_work_105 mo R)
def bX2_work_69 (mo : Nat) (R : Ret MS) : Cont MS :=
    o_ic 1 <|
    (bX2_work_74 mo R)
def bX2_work_73 (mo : Nat) (R : Ret MS) : Cont MS :=
    o_ic 0 <|
    (bX2_work_74 mo R)
def bX2_work_0 (mo : Nat) (R : Ret MS) : Cont MS :=
    o_al 0 <|
    o_mga mo 49 <|
    o_il 2 <|
    o_dup2 <|
    o_mia mo 49 <|
    o_ic 1 <|
    o_iadd <|
    o_mis mo 49 <|
    o_al 0 <|
    o_dup <|
    o_mg mo 55 <|
    o_ic 1 <|
    o_iadd <|
    o_mp mo 55 <|
    o_ic 32 <|
    o_il 1 <|
    o_imul <|
    o_il 2 <|
    o_iadd <|
    o_is 3 <|
    o_al 0 <|
    o_al 0 <|
    o_mga mo 29 <|
    o_il 3 <|
    o_mia mo 29 <|
    o_al 0 <|
    o_mga mo 30 <|
    o_il 3 <|
    o_mia mo 30 <|
    o_mc mo 3 (pX2_of mo) R <|
    o_is 4 <|
    o_al 0 <|
    o_mga mo 26 <|
    o_il 3 <|
    o_mia mo 26 <|
    o_ic 114 <|
    o_icmp_ne (bX2_work_106 mo R) <|
    o_al 0 <|
    o_il 4 <|
    o_if_lt (bX2_work_69 mo R) <|
    o_il 4 <|
    o_ic 7 <|
    o_icmp_le (bX2_work_73 mo R) <|
    (bX2_work_69 mo R)
def pX2_work (mo : Nat) : PT MS := fun as σ Q => (lg_sl as).length ≤ 6 ∧ bX2_work_0 mo Q (entP 6 as) [] σ
theorem nX2_work : parN yX2_work 2 := by unfold parN; decide +kernel
set_option maxHeartbeats 4000000 in
theorem eX2_work (g : GM) : CT (wM g) yX2_work (Cond.code yX2_work cX2_work 6 (some .int)) 1 22 (pX2_work g.1) := by
  refine CT.of (wM_ok g) (cc := cX2_work) (nL := 6) (ret := (some .int)) (ht := []) (by decide +kernel) (Or.inl ⟨rfl, rfl⟩) (B := bX2_work_0 g.1) (fun R E X hE => ?_)
  have h198 : E (bX2_work_198 g.1 R) 198 := by
    unfold bX2_work_198
    refine si_iload (pc := 198) hE dX2_work_198 ?_
    refine si_iload (pc := 200) hE dX2_work_200 ?_
    refine si_iand (pc := 202) hE dX2_work_202 ?_
    exact si_ireturn (pc := 203) hE dX2_work_203
  have h192 : E (bX2_work_192 g.1 R) 192 := by
    unfold bX2_work_192
    refine si_iload (pc := 192) hE dX2_work_192 ?_
    refine si_iload (pc := 194) hE dX2_work_194 ?_
    refine si_imul (pc := 196) hE dX2_work_196 ?_
    exact si_ireturn (pc := 197) hE dX2_work_197
  have h180 : E (bX2_work_180 g.1 R) 180 := by
    unfold bX2_work_180
    refine si_iload (pc := 180) hE dX2_work_180 ?_
    refine si_iload (pc := 182) hE dX2_work_182 ?_
    refine si_iadd (pc := 184) hE dX2_work_184 ?_
    exact si_ireturn (pc := 185) hE dX2_work_185
  have h186 : E (bX2_work_186 g.1 R) 186 := by
    unfold bX2_work_186
    refine si_iload (pc := 186) hE dX2_work_186 ?_
    refine si_iload (pc := 188) hE dX2_work_188 ?_
    refine si_isub (pc := 190) hE dX2_work_190 ?_
    exact si_ireturn (pc := 191) hE dX2_work_191
  have h204 : E (bX2_work_204 g.1 R) 204 := by
    unfold bX2_work_204
    refine si_iload (pc := 204) hE dX2_work_204 ?_
    refine si_iload (pc := 206) hE dX2_work_206 ?_
    refine si_ixor (pc := 208) hE dX2_work_208 ?_
    exact si_ireturn (pc := 209) hE dX2_work_209
  have h252 : E (bX2_work_252 g.1 R) 252 := by
    unfold bX2_work_252
    exact si_ireturn (pc := 252) hE dX2_work_252
  have h247 : E (bX2_work_247 g.1 R) 247 := by
    unfold bX2_work_247
    refine si_iload (pc := 247) hE dX2_work_247 ?_
    refine si_iload (pc := 249) hE dX2_work_249 ?_
    refine si_idiv (pc := 251) hE dX2_work_251 ?_
    exact h252
  have h235 : E (bX2_work_235 g.1 R) 235 := by
    unfold bX2_work_235
    refine si_iload (pc := 235) hE dX2_work_235 ?_
    refine si_iconst (pc := 237) hE dX2_work_237 (by decide) ?_
    refine si_icmp_ne (pc := 238) hE dX2_work_238 (by decide) h247 ?_
    refine si_iload (pc := 241) hE dX2_work_241 ?_
    refine si_ineg (pc := 243) hE dX2_work_243 ?_
    exact si_goto (pc := 244) hE dX2_work_244 (by decide) h252
  have h221 : E (bX2_work_221 g.1 R) 221 := by
    unfold bX2_work_221
    refine si_mpz (pc := 221) (k := 56) hE rfl dX2_work_221 q1715 (by decide) rfl rfl rfl rfl ?_
    refine si_aload_n (pc := 224) hE dX2_work_224 rfl ?_
    refine si_mg (pc := 225) (k := 56) hE rfl dX2_work_225 q1715 (by decide) rfl (fun _ => rfl) ?_
    refine si_if_eq (pc := 228) hE dX2_work_228 (by decide) h235 ?_
    refine si_iconst (pc := 231) hE dX2_work_231 (by decide) ?_
    exact si_goto (pc := 232) hE dX2_work_232 (by decide) h252
  have h220 : E (bX2_work_220 g.1 R) 220 := by
    unfold bX2_work_220
    refine si_iconst (pc := 220) hE dX2_work_220 (by decide) ?_
    exact h221
  have h210 : E (bX2_work_210 g.1 R) 210 := by
    unfold bX2_work_210
    refine si_aload_n (pc := 210) hE dX2_work_210 rfl ?_
    refine si_iload (pc := 211) hE dX2_work_211 ?_
    refine si_if_ne (pc := 213) hE dX2_work_213 (by decide) h220 ?_
    refine si_iconst (pc := 216) hE dX2_work_216 (by decide) ?_
    exact si_goto (pc := 217) hE dX2_work_217 (by decide) h221
  have h106 : E (bX2_work_106 g.1 R) 106 := by
    unfold bX2_work_106
    refine si_aload_n (pc := 106) hE dX2_work_106 rfl ?_
    refine si_aload_n (pc := 107) hE dX2_work_107 rfl ?_
    refine si_mga (pc := 108) (k := 27) hE rfl dX2_work_108 q1686 (by decide) rfl (fun _ => rfl) ?_
    refine si_iload_n (pc := 111) hE dX2_work_111 rfl ?_
    refine si_mia (pc := 112) (k := 27) hE dX2_work_112 (by decide) rfl ?_
    refine si_aload_n (pc := 113) hE dX2_work_113 rfl ?_
    refine si_mga (pc := 114) (k := 28) hE rfl dX2_work_114 q1687 (by decide) rfl (fun _ => rfl) ?_
    refine si_iload_n (pc := 117) hE dX2_work_117 rfl ?_
    refine si_mia (pc := 118) (k := 28) hE dX2_work_118 (by decide) rfl ?_
    refine si_mc (pc := 119) (n := 2) hE rfl dX2_work_119 (eX2_of g) rfl q2137 q2139 qs110 q2140 q134 nX2_of (by decide) (by decide) ?_
    refine si_istore (pc := 122) hE dX2_work_122 (by decide) ?_
    refine si_aload_n (pc := 124) hE dX2_work_124 rfl ?_
    refine si_mga (pc := 125) (k := 26) hE rfl dX2_work_125 q1685 (by decide) rfl (fun _ => rfl) ?_
    refine si_iload_n (pc := 128) hE dX2_work_128 rfl ?_
    refine si_mia (pc := 129) (k := 26) hE dX2_work_129 (by decide) rfl ?_
    exact si_lsw (pc := 130) hE dX2_work_130 (by decide) (td := 210) (by decide) h210 ⟨⟨198, by decide, by decide, h198⟩, ⟨⟨192, by decide, by decide, h192⟩, ⟨⟨180, by decide, by decide, h180⟩, ⟨⟨186, by decide, by decide, h186⟩, ⟨⟨204, by decide, by decide, h204⟩, trivial⟩⟩⟩⟩⟩
  have h105 : E (bX2_work_105 g.1 R) 105 := by
    unfold bX2_work_105
    exact si_ireturn (pc := 105) hE dX2_work_105
  have h88 : E (bX2_work_88 g.1 R) 88 := by
    unfold bX2_work_88
    refine si_aload_n (pc := 88) hE dX2_work_88 rfl ?_
    refine si_mga (pc := 89) (k := 47) hE rfl dX2_work_89 q1706 (by decide) rfl (fun _ => rfl) ?_
    refine si_bipush (pc := 92) hE dX2_work_92 (by decide) ?_
    refine si_aload_n (pc := 94) hE dX2_work_94 rfl ?_
    refine si_mga (pc := 95) (k := 28) hE rfl dX2_work_95 q1687 (by decide) rfl (fun _ => rfl) ?_
    refine si_iload_n (pc := 98) hE dX2_work_98 rfl ?_
    refine si_mia (pc := 99) (k := 28) hE dX2_work_99 (by decide) rfl ?_
    refine si_imul (pc := 100) hE dX2_work_100 ?_
    refine si_iload (pc := 101) hE dX2_work_101 ?_
    refine si_iadd (pc := 103) hE dX2_work_103 ?_
    refine si_mia (pc := 104) (k := 47) hE dX2_work_104 (by decide) rfl ?_
    exact h105
  have h74 : E (bX2_work_74 g.1 R) 74 := by
    unfold bX2_work_74
    refine si_mpz (pc := 74) (k := 56) hE rfl dX2_work_74 q1715 (by decide) rfl rfl rfl rfl ?_
    refine si_aload_n (pc := 77) hE dX2_work_77 rfl ?_
    refine si_mg (pc := 78) (k := 56) hE rfl dX2_work_78 q1715 (by decide) rfl (fun _ => rfl) ?_
    refine si_if_eq (pc := 81) hE dX2_work_81 (by decide) h88 ?_
    refine si_iconst (pc := 84) hE dX2_work_84 (by decide) ?_
    exact si_goto (pc := 85) hE dX2_work_85 (by decide) h105
  have h69 : E (bX2_work_69 g.1 R) 69 := by
    unfold bX2_work_69
    refine si_iconst (pc := 69) hE dX2_work_69 (by decide) ?_
    exact si_goto (pc := 70) hE dX2_work_70 (by decide) h74
  have h73 : E (bX2_work_73 g.1 R) 73 := by
    unfold bX2_work_73
    refine si_iconst (pc := 73) hE dX2_work_73 (by decide) ?_
    exact h74
  have h0 : E (bX2_work_0 g.1 R) 0 := by
    unfold bX2_work_0
    refine si_aload_n (pc := 0) hE dX2_work_0 rfl ?_
    refine si_mga (pc := 1) (k := 49) hE rfl dX2_work_1 q1708 (by decide) rfl (fun _ => rfl) ?_
    refine si_iload_n (pc := 4) hE dX2_work_4 rfl ?_
    refine si_dup2 (pc := 5) hE dX2_work_5 ?_
    refine si_mia (pc := 6) (k := 49) hE dX2_work_6 (by decide) rfl ?_
    refine si_iconst (pc := 7) hE dX2_work_7 (by decide) ?_
    refine si_iadd (pc := 8) hE dX2_work_8 ?_
    refine si_mis (pc := 9) (k := 49) hE dX2_work_9 (by decide) rfl ?_
    refine si_aload_n (pc := 10) hE dX2_work_10 rfl ?_
    refine si_dup (pc := 11) hE dX2_work_11 ?_
    refine si_mg (pc := 12) (k := 55) hE rfl dX2_work_12 q1714 (by decide) rfl (fun _ => rfl) ?_
    refine si_iconst (pc := 15) hE dX2_work_15 (by decide) ?_
    refine si_iadd (pc := 16) hE dX2_work_16 ?_
    refine si_mp (pc := 17) (k := 55) hE rfl dX2_work_17 q1714 (by decide) rfl rfl rfl rfl ?_
    refine si_bipush (pc := 20) hE dX2_work_20 (by decide) ?_
    refine si_iload_n (pc := 22) hE dX2_work_22 rfl ?_
    refine si_imul (pc := 23) hE dX2_work_23 ?_
    refine si_iload_n (pc := 24) hE dX2_work_24 rfl ?_
    refine si_iadd (pc := 25) hE dX2_work_25 ?_
    refine si_istore_n (pc := 26) hE dX2_work_26 rfl (by decide) ?_
    refine si_aload_n (pc := 27) hE dX2_work_27 rfl ?_
    refine si_aload_n (pc := 28) hE dX2_work_28 rfl ?_
    refine si_mga (pc := 29) (k := 29) hE rfl dX2_work_29 q1688 (by decide) rfl (fun _ => rfl) ?_
    refine si_iload_n (pc := 32) hE dX2_work_32 rfl ?_
    refine si_mia (pc := 33) (k := 29) hE dX2_work_33 (by decide) rfl ?_
    refine si_aload_n (pc := 34) hE dX2_work_34 rfl ?_
    refine si_mga (pc := 35) (k := 30) hE rfl dX2_work_35 q1689 (by decide) rfl (fun _ => rfl) ?_
    refine si_iload_n (pc := 38) hE dX2_work_38 rfl ?_
    refine si_mia (pc := 39) (k := 30) hE dX2_work_39 (by decide) rfl ?_
    refine si_mc (pc := 40) (n := 2) hE rfl dX2_work_40 (eX2_of g) rfl q2137 q2139 qs110 q2140 q134 nX2_of (by decide) (by decide) ?_
    refine si_istore (pc := 43) hE dX2_work_43 (by decide) ?_
    refine si_aload_n (pc := 45) hE dX2_work_45 rfl ?_
    refine si_mga (pc := 46) (k := 26) hE rfl dX2_work_46 q1685 (by decide) rfl (fun _ => rfl) ?_
    refine si_iload_n (pc := 49) hE dX2_work_49 rfl ?_
    refine si_mia (pc := 50) (k := 26) hE dX2_work_50 (by decide) rfl ?_
    refine si_bipush (pc := 51) hE dX2_work_51 (by decide) ?_
    refine si_icmp_ne (pc := 53) hE dX2_work_53 (by decide) h106 ?_
    refine si_aload_n (pc := 56) hE dX2_work_56 rfl ?_
    refine si_iload (pc := 57) hE dX2_work_57 ?_
    refine si_if_lt (pc := 59) hE dX2_work_59 (by decide) h69 ?_
    refine si_iload (pc := 62) hE dX2_work_62 ?_
    refine si_bipush (pc := 64) hE dX2_work_64 (by decide) ?_
    refine si_icmp_le (pc := 66) hE dX2_work_66 (by decide) h73 ?_
    exact h69
  exact h0
def bX2_step_438 (mo : Nat) (R : Ret MS) : Cont MS :=
    o_al 0 <|
    o_mga mo 19 <|
    o_il 4 <|
    o_mia mo 19 <|
    o_ireturn R
def bX2_step_246 (mo : Nat) (R : Ret MS) : Cont MS :=
    o_is 7 <|
    o_al 0 <|
    o_mg mo 56 <|
    o_if_ne (bX2_step_438 mo R) <|
    o_al 0 <|
    o_mga mo 46 <|
    o_al 0 <|
    o_mga mo 17 <|
    o_il 4 <|
    o_mia mo 17 <|
    o_il 7 <|
    o_mis mo 46 <|
    (bX2_step_438 mo R)
def bX2_step_239 (mo : Nat) (R : Ret MS) : Cont MS :=
    o_al 0 <|
    o_il 1 <|
    o_il 6 <|
    o_mc mo 3 (pX2_work mo) R <|
    (bX2_step_246 mo R)
def bX2_step_208 (mo : Nat) (R : Ret MS) : Cont MS :=
    o_al 0 <|
    o_mga mo 18 <|
    o_il 4 <|
    o_mia mo 18 <|
    o_is 6 <|
    o_al 0 <|
    o_il 1 <|
    o_il 2 <|
    o_il 6 <|
    o_il 3 <|
    o_mc mo 5 (pX2_isTaken mo) R <|
    o_if_eq (bX2_step_239 mo R) <|
    o_al 0 <|
    o_mga mo 48 <|
    o_il 6 <|
    o_mia mo 48 <|
    (bX2_step_246 mo R)
def bX2_step_272 (mo : Nat) (R : Ret MS) : Cont MS :=
    o_al 0 <|
    o_mga mo 46 <|
    o_al 0 <|
    o_mga mo 17 <|
    o_il 4 <|
    o_mia mo 17 <|
    o_il 5 <|
    o_mis mo 46 <|
    (bX2_step_438 mo R)
def bX2_step_307 (mo : Nat) (R : Ret MS) : Cont MS :=
    o_mpz mo 56 <|
    o_al 0 <|
    o_mg mo 56 <|
    o_if_ne (bX2_step_438 mo R) <|
    o_al 0 <|
    o_mga mo 47 <|
    o_ic 8 <|
    o_al 0 <|
    o_mga mo 25 <|
    o_il 4 <|
    o_mia mo 25 <|
    o_imul <|
    o_il 5 <|
    o_iadd <|
    o_al 0 <|
    o_al 0 <|
    o_mga mo 23 <|
    o_il 4 <|
    o_mia mo 23 <|
    o_al 0 <|
    o_mga mo 24 <|
    o_il 4 <|
    o_mia mo 24 <|
    o_mc mo 3 (pX2_of mo) R <|
    o_mis mo 47 <|
    (bX2_step_438 mo R)
def bX2_step_302 (mo : Nat) (R : Ret MS) : Cont MS :=
    o_ic 1 <|
    (bX2_step_307 mo R)
def bX2_step_306 (mo : Nat) (R : Ret MS) : Cont MS :=
    o_ic 0 <|
    (bX2_step_307 mo R)
def bX2_step_289 (mo : Nat) (R : Ret MS) : Cont MS :=
    o_al 0 <|
    o_il 5 <|
    o_if_lt (bX2_step_302 mo R) <|
    o_il 5 <|
    o_ic 7 <|
    o_icmp_le (bX2_step_306 mo R) <|
    (bX2_step_302 mo R)
def bX2_step_376 (mo : Nat) (R : Ret MS) : Cont MS :=
    o_al 0 <|
    o_dup <|
    o_mg mo 53 <|
    o_ic 1 <|
    o_iadd <|
    o_mp mo 53 <|
    (bX2_step_438 mo R)
def bX2_step_356 (mo : Nat) (R : Ret MS) : Cont MS :=
    o_al 0 <|
    o_mg mo 53 <|
    o_ic 100 <|
    o_icmp_ge (bX2_step_376 mo R) <|
    o_al 0 <|
    o_mga mo 50 <|
    o_al 0 <|
    o_mg mo 53 <|
    o_il 5 <|
    o_mis mo 50 <|
    (bX2_step_376 mo R)
def bX2_step_429 (mo : Nat) (R : Ret MS) : Cont MS :=
    o_ireturn R
def bX2_step_422 (mo : Nat) (R : Ret MS) : Cont MS :=
    o_al 0 <|
    o_mga mo 20 <|
    o_il 4 <|
    o_mia mo 20 <|
    (bX2_step_429 mo R)
def bX2_step_389 (mo : Nat) (R : Ret MS) : Cont MS :=
    o_il 5 <|
    o_al 0 <|
    o_al 0 <|
    o_mga mo 23 <|
    o_il 4 <|
    o_mia mo 23 <|
    o_al 0 <|
    o_mga mo 24 <|
    o_il 4 <|
    o_mia mo 24 <|
    o_mc mo 3 (pX2_of mo) R <|
    o_icmp_ge (bX2_step_422 mo R) <|
    o_al 0 <|
    o_mga mo 19 <|
    o_il 4 <|
    o_mia mo 19 <|
    (bX2_step_429 mo R)
def bX2_step_430 (mo : Nat) (R : Ret MS) : Cont MS :=
    o_al 0 <|
    o_ic 0 <|
    o_mp mo 51 <|
    (bX2_step_438 mo R)
def bX2_step_155 (mo : Nat) (R : Ret MS) : Cont MS :=
    o_is 5 <|
    o_al 0 <|
    o_mga mo 15 <|
    o_il 4 <|
    o_mia mo 15 <|
    o_sw [(0, (bX2_step_208 mo R)), (1, (bX2_step_272 mo R)), (2, (bX2_step_289 mo R)), (3, (bX2_step_356 mo R)), (4, (bX2_step_438 mo R)), (5, (bX2_step_389 mo R)), (6, (bX2_step_430 mo R))] (bX2_step_438 mo R)
def bX2_step_133 (mo : Nat) (R : Ret MS) : Cont MS :=
    o_ic 0 <|
    (bX2_step_155 mo R)
def bX2_step_137 (mo : Nat) (R : Ret MS) : Cont MS :=
    o_al 0 <|
    o_al 0 <|
    o_mga mo 21 <|
    o_il 4 <|
    o_mia mo 21 <|
    o_al 0 <|
    o_mga mo 22 <|
    o_il 4 <|
    o_mia mo 22 <|
    o_mc mo 3 (pX2_of mo) R <|
    (bX2_step_155 mo R)
def bX2_step_88 (mo : Nat) (R : Ret MS) : Cont MS :=
    o_al 0 <|
    o_mga mo 15 <|
    o_il 4 <|
    o_mia mo 15 <|
    o_if_eq (bX2_step_133 mo R) <|
    o_al 0 <|
    o_mga mo 15 <|
    o_il 4 <|
    o_mia mo 15 <|
    o_ic 7 <|
    o_icmp_eq (bX2_step_133 mo R) <|
    o_al 0 <|
    o_mga mo 15 <|
    o_il 4 <|
    o_mia mo 15 <|
    o_ic 4 <|
    o_icmp_eq (bX2_step_133 mo R) <|
    o_al 0 <|
    o_mga mo 15 <|
    o_il 4 <|
    o_mia mo 15 <|
    o_ic 6 <|
    o_icmp_ne (bX2_step_137 mo R) <|
    (bX2_step_133 mo R)
def bX2_step_79 (mo : Nat) (R : Ret MS) : Cont MS :=
    o_al 0 <|
    o_mg mo 56 <|
    o_if_eq (bX2_step_88 mo R) <|
    o_il 3 <|
    o_ireturn R
def bX2_step_73 (mo : Nat) (R : Ret MS) (J29 : Cont MS) : Cont MS :=
    o_iinc 5 1 <|
    (o_kill [6, 7] J29)
def bX2_step_29 (mo : Nat) (R : Ret MS) : Cont MS :=
    fixC fun J29 =>
    o_il 5 <|
    o_al 0 <|
    o_mga mo 12 <|
    o_il 1 <|
    o_mia mo 12 <|
    o_icmp_ge (bX2_step_79 mo R) <|
    o_al 0 <|
    o_mg mo 56 <|
    o_if_ne (bX2_step_79 mo R) <|
    o_al 0 <|
    o_il 1 <|
    o_il 2 <|
    o_il 5 <|
    o_il 3 <|
    o_mc mo 5 (pX2_isSet mo) R <|
    o_if_eq (bX2_step_73 mo R J29) <|
    o_al 0 <|
    o_mga mo 48 <|
    o_il 5 <|
    o_al 0 <|
    o_il 1 <|
    o_il 5 <|
    o_mc mo 3 (pX2_work mo) R <|
    o_mis mo 48 <|
    (bX2_step_73 mo R J29)
def bX2_step_22 (mo : Nat) (R : Ret MS) : Cont MS :=
    o_iadd <|
    o_mp mo 52 <|
    o_ic 0 <|
    o_is 5 <|
    (o_kill [6, 7] (bX2_step_29 mo R))
def bX2_step_21 (mo : Nat) (R : Ret MS) : Cont MS :=
    o_ic 1 <|
    (bX2_step_22 mo R)
def bX2_step_0 (mo : Nat) (R : Ret MS) : Cont MS :=
    o_al 0 <|
    o_dup <|
    o_mg mo 52 <|
    o_al 0 <|
    o_mga mo 15 <|
    o_il 4 <|
    o_mia mo 15 <|
    o_ic 7 <|
    o_icmp_ne (bX2_step_21 mo R) <|
    o_ic 0 <|
    (bX2_step_22 mo R)
def pX2_step (mo : Nat) : PT MS := fun as σ Q => (lg_sl as).length ≤ 8 ∧ bX2_step_0 mo Q (entP 8 as) [] σ
theorem nX2_step : parN yX2_step 4 := by unfold parN; decide +kernel
set_option maxHeartbeats 4000000 in
theorem eX2_step (g : GM) : CT (wM g) yX2_step (Cond.code yX2_step cX2_step 8 (some .int)) 2 48 (pX2_step g.1) := by
  refine CT.of (wM_ok g) (cc := cX2_step) (nL := 8) (ret := (some .int)) (ht := []) (by decide +kernel) (Or.inl ⟨rfl, rfl⟩) (B := bX2_step_0 g.1) (fun R E X hE => ?_)
  have h438 : E (bX2_step_438 g.1 R) 438 := by
    unfold bX2_step_438
    refine si_aload_n (pc := 438) hE dX2_step_438 rfl ?_
    refine si_mga (pc := 439) (k := 19) hE rfl dX2_step_439 q1678 (by decide) rfl (fun _ => rfl) ?_
    refine si_iload (pc := 442) hE dX2_step_442 ?_
    refine si_mia (pc := 444) (k := 19) hE dX2_step_444 (by decide) rfl ?_
    exact si_ireturn (pc := 445) hE dX2_step_445
  have h246 : E (bX2_step_246 g.1 R) 246 := by
    unfold bX2_step_246
    refine si_istore (pc := 246) hE dX2_step_246 (by decide) ?_
    refine si_aload_n (pc := 248) hE dX2_step_248 rfl ?_
    refine si_mg (pc := 249) (k := 56) hE rfl dX2_step_249 q1715 (by decide) rfl (fun _ => rfl) ?_
    refine si_if_ne (pc := 252) hE dX2_step_252 (by decide) h438 ?_
    refine si_aload_n (pc := 255) hE dX2_step_255 rfl ?_
    refine si_mga (pc := 256) (k := 46) hE rfl dX2_step_256 q1705 (by decide) rfl (fun _ => rfl) ?_
    refine si_aload_n (pc := 259) hE dX2_step_259 rfl ?_
    refine si_mga (pc := 260) (k := 17) hE rfl dX2_step_260 q1676 (by decide) rfl (fun _ => rfl) ?_
    refine si_iload (pc := 263) hE dX2_step_263 ?_
    refine si_mia (pc := 265) (k := 17) hE dX2_step_265 (by decide) rfl ?_
    refine si_iload (pc := 266) hE dX2_step_266 ?_
    refine si_mis (pc := 268) (k := 46) hE dX2_step_268 (by decide) rfl ?_
    exact si_goto (pc := 269) hE dX2_step_269 (by decide) h438
  have h239 : E (bX2_step_239 g.1 R) 239 := by
    unfold bX2_step_239
    refine si_aload_n (pc := 239) hE dX2_step_239 rfl ?_
    refine si_iload_n (pc := 240) hE dX2_step_240 rfl ?_
    refine si_iload (pc := 241) hE dX2_step_241 ?_
    refine si_mc (pc := 243) (n := 2) hE rfl dX2_step_243 (eX2_work g) rfl q2133 q2135 qs109 q2136 q134 nX2_work (by decide) (by decide) ?_
    exact h246
  have h208 : E (bX2_step_208 g.1 R) 208 := by
    unfold bX2_step_208
    refine si_aload_n (pc := 208) hE dX2_step_208 rfl ?_
    refine si_mga (pc := 209) (k := 18) hE rfl dX2_step_209 q1677 (by decide) rfl (fun _ => rfl) ?_
    refine si_iload (pc := 212) hE dX2_step_212 ?_
    refine si_mia (pc := 214) (k := 18) hE dX2_step_214 (by decide) rfl ?_
    refine si_istore (pc := 215) hE dX2_step_215 (by decide) ?_
    refine si_aload_n (pc := 217) hE dX2_step_217 rfl ?_
    refine si_iload_n (pc := 218) hE dX2_step_218 rfl ?_
    refine si_iload_n (pc := 219) hE dX2_step_219 rfl ?_
    refine si_iload (pc := 220) hE dX2_step_220 ?_
    refine si_iload_n (pc := 222) hE dX2_step_222 rfl ?_
    refine si_mc (pc := 223) (n := 4) hE rfl dX2_step_223 (eX2_isTaken g) rfl q2105 q2107 qs106 q2108 q134 nX2_isTaken (by decide) (by decide) ?_
    refine si_if_eq (pc := 226) hE dX2_step_226 (by decide) h239 ?_
    refine si_aload_n (pc := 229) hE dX2_step_229 rfl ?_
    refine si_mga (pc := 230) (k := 48) hE rfl dX2_step_230 q1707 (by decide) rfl (fun _ => rfl) ?_
    refine si_iload (pc := 233) hE dX2_step_233 ?_
    refine si_mia (pc := 235) (k := 48) hE dX2_step_235 (by decide) rfl ?_
    exact si_goto (pc := 236) hE dX2_step_236 (by decide) h246
  have h272 : E (bX2_step_272 g.1 R) 272 := by
    unfold bX2_step_272
    refine si_aload_n (pc := 272) hE dX2_step_272 rfl ?_
    refine si_mga (pc := 273) (k := 46) hE rfl dX2_step_273 q1705 (by decide) rfl (fun _ => rfl) ?_
    refine si_aload_n (pc := 276) hE dX2_step_276 rfl ?_
    refine si_mga (pc := 277) (k := 17) hE rfl dX2_step_277 q1676 (by decide) rfl (fun _ => rfl) ?_
    refine si_iload (pc := 280) hE dX2_step_280 ?_
    refine si_mia (pc := 282) (k := 17) hE dX2_step_282 (by decide) rfl ?_
    refine si_iload (pc := 283) hE dX2_step_283 ?_
    refine si_mis (pc := 285) (k := 46) hE dX2_step_285 (by decide) rfl ?_
    exact si_goto (pc := 286) hE dX2_step_286 (by decide) h438
  have h307 : E (bX2_step_307 g.1 R) 307 := by
    unfold bX2_step_307
    refine si_mpz (pc := 307) (k := 56) hE rfl dX2_step_307 q1715 (by decide) rfl rfl rfl rfl ?_
    refine si_aload_n (pc := 310) hE dX2_step_310 rfl ?_
    refine si_mg (pc := 311) (k := 56) hE rfl dX2_step_311 q1715 (by decide) rfl (fun _ => rfl) ?_
    refine si_if_ne (pc := 314) hE dX2_step_314 (by decide) h438 ?_
    refine si_aload_n (pc := 317) hE dX2_step_317 rfl ?_
    refine si_mga (pc := 318) (k := 47) hE rfl dX2_step_318 q1706 (by decide) rfl (fun _ => rfl) ?_
    refine si_bipush (pc := 321) hE dX2_step_321 (by decide) ?_
    refine si_aload_n (pc := 323) hE dX2_step_323 rfl ?_
    refine si_mga (pc := 324) (k := 25) hE rfl dX2_step_324 q1684 (by decide) rfl (fun _ => rfl) ?_
    refine si_iload (pc := 327) hE dX2_step_327 ?_
    refine si_mia (pc := 329) (k := 25) hE dX2_step_329 (by decide) rfl ?_
    refine si_imul (pc := 330) hE dX2_step_330 ?_
    refine si_iload (pc := 331) hE dX2_step_331 ?_
    refine si_iadd (pc := 333) hE dX2_step_333 ?_
    refine si_aload_n (pc := 334) hE dX2_step_334 rfl ?_
    refine si_aload_n (pc := 335) hE dX2_step_335 rfl ?_
    refine si_mga (pc := 336) (k := 23) hE rfl dX2_step_336 q1682 (by decide) rfl (fun _ => rfl) ?_
    refine si_iload (pc := 339) hE dX2_step_339 ?_
    refine si_mia (pc := 341) (k := 23) hE dX2_step_341 (by decide) rfl ?_
    refine si_aload_n (pc := 342) hE dX2_step_342 rfl ?_
    refine si_mga (pc := 343) (k := 24) hE rfl dX2_step_343 q1683 (by decide) rfl (fun _ => rfl) ?_
    refine si_iload (pc := 346) hE dX2_step_346 ?_
    refine si_mia (pc := 348) (k := 24) hE dX2_step_348 (by decide) rfl ?_
    refine si_mc (pc := 349) (n := 2) hE rfl dX2_step_349 (eX2_of g) rfl q2137 q2139 qs110 q2140 q134 nX2_of (by decide) (by decide) ?_
    refine si_mis (pc := 352) (k := 47) hE dX2_step_352 (by decide) rfl ?_
    exact si_goto (pc := 353) hE dX2_step_353 (by decide) h438
  have h302 : E (bX2_step_302 g.1 R) 302 := by
    unfold bX2_step_302
    refine si_iconst (pc := 302) hE dX2_step_302 (by decide) ?_
    exact si_goto (pc := 303) hE dX2_step_303 (by decide) h307
  have h306 : E (bX2_step_306 g.1 R) 306 := by
    unfold bX2_step_306
    refine si_iconst (pc := 306) hE dX2_step_306 (by decide) ?_
    exact h307
  have h289 : E (bX2_step_289 g.1 R) 289 := by
    unfold bX2_step_289
    refine si_aload_n (pc := 289) hE dX2_step_289 rfl ?_
    refine si_iload (pc := 290) hE dX2_step_290 ?_
    refine si_if_lt (pc := 292) hE dX2_step_292 (by decide) h302 ?_
    refine si_iload (pc := 295) hE dX2_step_295 ?_
    refine si_bipush (pc := 297) hE dX2_step_297 (by decide) ?_
    refine si_icmp_le (pc := 299) hE dX2_step_299 (by decide) h306 ?_
    exact h302
  have h376 : E (bX2_step_376 g.1 R) 376 := by
    unfold bX2_step_376
    refine si_aload_n (pc := 376) hE dX2_step_376 rfl ?_
    refine si_dup (pc := 377) hE dX2_step_377 ?_
    refine si_mg (pc := 378) (k := 53) hE rfl dX2_step_378 q1712 (by decide) rfl (fun _ => rfl) ?_
    refine si_iconst (pc := 381) hE dX2_step_381 (by decide) ?_
    refine si_iadd (pc := 382) hE dX2_step_382 ?_
    refine si_mp (pc := 383) (k := 53) hE rfl dX2_step_383 q1712 (by decide) rfl rfl rfl rfl ?_
    exact si_goto (pc := 386) hE dX2_step_386 (by decide) h438
  have h356 : E (bX2_step_356 g.1 R) 356 := by
    unfold bX2_step_356
    refine si_aload_n (pc := 356) hE dX2_step_356 rfl ?_
    refine si_mg (pc := 357) (k := 53) hE rfl dX2_step_357 q1712 (by decide) rfl (fun _ => rfl) ?_
    refine si_bipush (pc := 360) hE dX2_step_360 (by decide) ?_
    refine si_icmp_ge (pc := 362) hE dX2_step_362 (by decide) h376 ?_
    refine si_aload_n (pc := 365) hE dX2_step_365 rfl ?_
    refine si_mga (pc := 366) (k := 50) hE rfl dX2_step_366 q1709 (by decide) rfl (fun _ => rfl) ?_
    refine si_aload_n (pc := 369) hE dX2_step_369 rfl ?_
    refine si_mg (pc := 370) (k := 53) hE rfl dX2_step_370 q1712 (by decide) rfl (fun _ => rfl) ?_
    refine si_iload (pc := 373) hE dX2_step_373 ?_
    refine si_mis (pc := 375) (k := 50) hE dX2_step_375 (by decide) rfl ?_
    exact h376
  have h429 : E (bX2_step_429 g.1 R) 429 := by
    unfold bX2_step_429
    exact si_ireturn (pc := 429) hE dX2_step_429
  have h422 : E (bX2_step_422 g.1 R) 422 := by
    unfold bX2_step_422
    refine si_aload_n (pc := 422) hE dX2_step_422 rfl ?_
    refine si_mga (pc := 423) (k := 20) hE rfl dX2_step_423 q1679 (by decide) rfl (fun _ => rfl) ?_
    refine si_iload (pc := 426) hE dX2_step_426 ?_
    refine si_mia (pc := 428) (k := 20) hE dX2_step_428 (by decide) rfl ?_
    exact h429
  have h389 : E (bX2_step_389 g.1 R) 389 := by
    unfold bX2_step_389
    refine si_iload (pc := 389) hE dX2_step_389 ?_
    refine si_aload_n (pc := 391) hE dX2_step_391 rfl ?_
    refine si_aload_n (pc := 392) hE dX2_step_392 rfl ?_
    refine si_mga (pc := 393) (k := 23) hE rfl dX2_step_393 q1682 (by decide) rfl (fun _ => rfl) ?_
    refine si_iload (pc := 396) hE dX2_step_396 ?_
    refine si_mia (pc := 398) (k := 23) hE dX2_step_398 (by decide) rfl ?_
    refine si_aload_n (pc := 399) hE dX2_step_399 rfl ?_
    refine si_mga (pc := 400) (k := 24) hE rfl dX2_step_400 q1683 (by decide) rfl (fun _ => rfl) ?_
    refine si_iload (pc := 403) hE dX2_step_403 ?_
    refine si_mia (pc := 405) (k := 24) hE dX2_step_405 (by decide) rfl ?_
    refine si_mc (pc := 406) (n := 2) hE rfl dX2_step_406 (eX2_of g) rfl q2137 q2139 qs110 q2140 q134 nX2_of (by decide) (by decide) ?_
    refine si_icmp_ge (pc := 409) hE dX2_step_409 (by decide) h422 ?_
    refine si_aload_n (pc := 412) hE dX2_step_412 rfl ?_
    refine si_mga (pc := 413) (k := 19) hE rfl dX2_step_413 q1678 (by decide) rfl (fun _ => rfl) ?_
    refine si_iload (pc := 416) hE dX2_step_416 ?_
    refine si_mia (pc := 418) (k := 19) hE dX2_step_418 (by decide) rfl ?_
    exact si_goto (pc := 419) hE dX2_step_419 (by decide) h429
  have h430 : E (bX2_step_430 g.1 R) 430 := by
    unfold bX2_step_430
    refine si_aload_n (pc := 430) hE dX2_step_430 rfl ?_
    refine si_iconst (pc := 431) hE dX2_step_431 (by decide) ?_
    refine si_mp (pc := 432) (k := 51) hE rfl dX2_step_432 q1710 (by decide) rfl rfl rfl rfl ?_
    exact si_goto (pc := 435) hE dX2_step_435 (by decide) h438
  have h155 : E (bX2_step_155 g.1 R) 155 := by
    unfold bX2_step_155
    refine si_istore (pc := 155) hE dX2_step_155 (by decide) ?_
    refine si_aload_n (pc := 157) hE dX2_step_157 rfl ?_
    refine si_mga (pc := 158) (k := 15) hE rfl dX2_step_158 q1674 (by decide) rfl (fun _ => rfl) ?_
    refine si_iload (pc := 161) hE dX2_step_161 ?_
    refine si_mia (pc := 163) (k := 15) hE dX2_step_163 (by decide) rfl ?_
    exact si_tsw (pc := 164) hE dX2_step_164 (by decide) (td := 438) (by decide) h438 ⟨⟨208, by decide, by decide, h208⟩, ⟨⟨272, by decide, by decide, h272⟩, ⟨⟨289, by decide, by decide, h289⟩, ⟨⟨356, by decide, by decide, h356⟩, ⟨⟨438, by decide, by decide, h438⟩, ⟨⟨389, by decide, by decide, h389⟩, ⟨⟨430, by decide, by decide, h430⟩, trivial⟩⟩⟩⟩⟩⟩⟩
  have h133 : E (bX2_step_133 g.1 R) 133 := by
    unfold bX2_step_133
    refine si_iconst (pc := 133) hE dX2_step_133 (by decide) ?_
    exact si_goto (pc := 134) hE dX2_step_134 (by decide) h155
  have h137 : E (bX2_step_137 g.1 R) 137 := by
    unfold bX2_step_137
    refine si_aload_n (pc := 137) hE dX2_step_137 rfl ?_
    refine si_aload_n (pc := 138) hE dX2_step_138 rfl ?_
    refine si_mga (pc := 139) (k := 21) hE rfl dX2_step_139 q1680 (by decide) rfl (fun _ => rfl) ?_
    refine si_iload (pc := 142) hE dX2_step_142 ?_
    refine si_mia (pc := 144) (k := 21) hE dX2_step_144 (by decide) rfl ?_
    refine si_aload_n (pc := 145) hE dX2_step_145 rfl ?_
    refine si_mga (pc := 146) (k := 22) hE rfl dX2_step_146 q1681 (by decide) rfl (fun _ => rfl) ?_
    refine si_iload (pc := 149) hE dX2_step_149 ?_
    refine si_mia (pc := 151) (k := 22) hE dX2_step_151 (by decide) rfl ?_
    refine si_mc (pc := 152) (n := 2) hE rfl dX2_step_152 (eX2_of g) rfl q2137 q2139 qs110 q2140 q134 nX2_of (by decide) (by decide) ?_
    exact h155
  have h88 : E (bX2_step_88 g.1 R) 88 := by
    unfold bX2_step_88
    refine si_aload_n (pc := 88) hE dX2_step_88 rfl ?_
    refine si_mga (pc := 89) (k := 15) hE rfl dX2_step_89 q1674 (by decide) rfl (fun _ => rfl) ?_
    refine si_iload (pc := 92) hE dX2_step_92 ?_
    refine si_mia (pc := 94) (k := 15) hE dX2_step_94 (by decide) rfl ?_
    refine si_if_eq (pc := 95) hE dX2_step_95 (by decide) h133 ?_
    refine si_aload_n (pc := 98) hE dX2_step_98 rfl ?_
    refine si_mga (pc := 99) (k := 15) hE rfl dX2_step_99 q1674 (by decide) rfl (fun _ => rfl) ?_
    refine si_iload (pc := 102) hE dX2_step_102 ?_
    refine si_mia (pc := 104) (k := 15) hE dX2_step_104 (by decide) rfl ?_
    refine si_bipush (pc := 105) hE dX2_step_105 (by decide) ?_
    refine si_icmp_eq (pc := 107) hE dX2_step_107 (by decide) h133 ?_
    refine si_aload_n (pc := 110) hE dX2_step_110 rfl ?_
    refine si_mga (pc := 111) (k := 15) hE rfl dX2_step_111 q1674 (by decide) rfl (fun _ => rfl) ?_
    refine si_iload (pc := 114) hE dX2_step_114 ?_
    refine si_mia (pc := 116) (k := 15) hE dX2_step_116 (by decide) rfl ?_
    refine si_iconst (pc := 117) hE dX2_step_117 (by decide) ?_
    refine si_icmp_eq (pc := 118) hE dX2_step_118 (by decide) h133 ?_
    refine si_aload_n (pc := 121) hE dX2_step_121 rfl ?_
    refine si_mga (pc := 122) (k := 15) hE rfl dX2_step_122 q1674 (by decide) rfl (fun _ => rfl) ?_
    refine si_iload (pc := 125) hE dX2_step_125 ?_
    refine si_mia (pc := 127) (k := 15) hE dX2_step_127 (by decide) rfl ?_
    refine si_bipush (pc := 128) hE dX2_step_128 (by decide) ?_
    refine si_icmp_ne (pc := 130) hE dX2_step_130 (by decide) h137 ?_
    exact h133
  have h79 : E (bX2_step_79 g.1 R) 79 := by
    unfold bX2_step_79
    refine si_aload_n (pc := 79) hE dX2_step_79 rfl ?_
    refine si_mg (pc := 80) (k := 56) hE rfl dX2_step_80 q1715 (by decide) rfl (fun _ => rfl) ?_
    refine si_if_eq (pc := 83) hE dX2_step_83 (by decide) h88 ?_
    refine si_iload_n (pc := 86) hE dX2_step_86 rfl ?_
    exact si_ireturn (pc := 87) hE dX2_step_87
  have h73 : ∀ (J29 : Cont MS) (hJ29 : E J29 29), E (bX2_step_73 g.1 R J29) 73 := by
    intro J29 hJ29
    unfold bX2_step_73
    refine si_iinc (pc := 73) hE dX2_step_73 (by decide) (by decide) ?_
    exact si_goto (pc := 76) hE dX2_step_76 (by decide) (si_kill hE hJ29)
  have h29 : E (bX2_step_29 g.1 R) 29 := by
    unfold bX2_step_29
    refine si_fix hE (fun J29 hJ29 => ?_)
    refine si_iload (pc := 29) hE dX2_step_29 ?_
    refine si_aload_n (pc := 31) hE dX2_step_31 rfl ?_
    refine si_mga (pc := 32) (k := 12) hE rfl dX2_step_32 q1671 (by decide) rfl (fun _ => rfl) ?_
    refine si_iload_n (pc := 35) hE dX2_step_35 rfl ?_
    refine si_mia (pc := 36) (k := 12) hE dX2_step_36 (by decide) rfl ?_
    refine si_icmp_ge (pc := 37) hE dX2_step_37 (by decide) h79 ?_
    refine si_aload_n (pc := 40) hE dX2_step_40 rfl ?_
    refine si_mg (pc := 41) (k := 56) hE rfl dX2_step_41 q1715 (by decide) rfl (fun _ => rfl) ?_
    refine si_if_ne (pc := 44) hE dX2_step_44 (by decide) h79 ?_
    refine si_aload_n (pc := 47) hE dX2_step_47 rfl ?_
    refine si_iload_n (pc := 48) hE dX2_step_48 rfl ?_
    refine si_iload_n (pc := 49) hE dX2_step_49 rfl ?_
    refine si_iload (pc := 50) hE dX2_step_50 ?_
    refine si_iload_n (pc := 52) hE dX2_step_52 rfl ?_
    refine si_mc (pc := 53) (n := 4) hE rfl dX2_step_53 (eX2_isSet g) rfl q2101 q2103 qs105 q2104 q134 nX2_isSet (by decide) (by decide) ?_
    refine si_if_eq (pc := 56) hE dX2_step_56 (by decide) (h73 J29 hJ29) ?_
    refine si_aload_n (pc := 59) hE dX2_step_59 rfl ?_
    refine si_mga (pc := 60) (k := 48) hE rfl dX2_step_60 q1707 (by decide) rfl (fun _ => rfl) ?_
    refine si_iload (pc := 63) hE dX2_step_63 ?_
    refine si_aload_n (pc := 65) hE dX2_step_65 rfl ?_
    refine si_iload_n (pc := 66) hE dX2_step_66 rfl ?_
    refine si_iload (pc := 67) hE dX2_step_67 ?_
    refine si_mc (pc := 69) (n := 2) hE rfl dX2_step_69 (eX2_work g) rfl q2133 q2135 qs109 q2136 q134 nX2_work (by decide) (by decide) ?_
    refine si_mis (pc := 72) (k := 48) hE dX2_step_72 (by decide) rfl ?_
    exact (h73 J29 hJ29)
  have h22 : E (bX2_step_22 g.1 R) 22 := by
    unfold bX2_step_22
    refine si_iadd (pc := 22) hE dX2_step_22 ?_
    refine si_mp (pc := 23) (k := 52) hE rfl dX2_step_23 q1711 (by decide) rfl rfl rfl rfl ?_
    refine si_iconst (pc := 26) hE dX2_step_26 (by decide) ?_
    refine si_istore (pc := 27) hE dX2_step_27 (by decide) ?_
    exact (si_kill hE h29)
  have h21 : E (bX2_step_21 g.1 R) 21 := by
    unfold bX2_step_21
    refine si_iconst (pc := 21) hE dX2_step_21 (by decide) ?_
    exact h22
  have h0 : E (bX2_step_0 g.1 R) 0 := by
    unfold bX2_step_0
    refine si_aload_n (pc := 0) hE dX2_step_0 rfl ?_
    refine si_dup (pc := 1) hE dX2_step_1 ?_
    refine si_mg (pc := 2) (k := 52) hE rfl dX2_step_2 q1711 (by decide) rfl (fun _ => rfl) ?_
    refine si_aload_n (pc := 5) hE dX2_step_5 rfl ?_
    refine si_mga (pc := 6) (k := 15) hE rfl dX2_step_6 q1674 (by decide) rfl (fun _ => rfl) ?_
    refine si_iload (pc := 9) hE dX2_step_9 ?_
    refine si_mia (pc := 11) (k := 15) hE dX2_step_11 (by decide) rfl ?_
    refine si_bipush (pc := 12) hE dX2_step_12 (by decide) ?_
    refine si_icmp_ne (pc := 14) hE dX2_step_14 (by decide) h21 ?_
    refine si_iconst (pc := 17) hE dX2_step_17 (by decide) ?_
    exact si_goto (pc := 18) hE dX2_step_18 (by decide) h22
  exact h0
def bX2_run_16 (mo : Nat) (R : Ret MS) : Cont MS :=
    o_ic (-1) <|
    o_ireturn R
def bX2_run_211 (mo : Nat) (R : Ret MS) : Cont MS :=
    o_al 0 <|
    o_mg mo 51 <|
    o_ireturn R
def bX2_run_205 (mo : Nat) (R : Ret MS) (J118 : Cont MS) : Cont MS :=
    o_il 4 <|
    o_is 3 <|
    (o_kill [4] J118)
def bX2_run_161 (mo : Nat) (R : Ret MS) (J118 : Cont MS) : Cont MS :=
    o_al 0 <|
    o_il 1 <|
    o_il 2 <|
    o_il 3 <|
    o_ic 240 <|
    o_il 1 <|
    o_imul <|
    o_il 3 <|
    o_iadd <|
    o_mc mo 5 (pX2_step mo) R <|
    o_is 4 <|
    o_al 0 <|
    o_mg mo 56 <|
    o_if_eq (bX2_run_205 mo R J118) <|
    o_al 0 <|
    o_ic 1 <|
    o_mp mo 51 <|
    o_al 0 <|
    o_al 0 <|
    o_mga mo 16 <|
    o_ic 240 <|
    o_il 1 <|
    o_imul <|
    o_il 3 <|
    o_iadd <|
    o_mia mo 16 <|
    o_mp mo 54 <|
    (bX2_run_205 mo R J118)
def bX2_run_118 (mo : Nat) (R : Ret MS) : Cont MS :=
    fixC fun J118 =>
    o_al 0 <|
    o_mg mo 51 <|
    o_ic (-1) <|
    o_icmp_ne (bX2_run_211 mo R) <|
    o_al 0 <|
    o_mga mo 15 <|
    o_ic 240 <|
    o_il 1 <|
    o_imul <|
    o_il 3 <|
    o_iadd <|
    o_mia mo 15 <|
    o_ic 7 <|
    o_icmp_eq (bX2_run_161 mo R J118) <|
    o_al 0 <|
    o_mg mo 52 <|
    o_ic 1000 <|
    o_icmp_ne (bX2_run_161 mo R J118) <|
    o_al 0 <|
    o_ic 2 <|
    o_mp mo 51 <|
    (o_kill [4] J118)
def bX2_run_86 (mo : Nat) (R : Ret MS) : Cont MS :=
    o_al 0 <|
    o_ic 0 <|
    o_mp mo 52 <|
    o_al 0 <|
    o_ic 0 <|
    o_mp mo 53 <|
    o_al 0 <|
    o_ic (-1) <|
    o_mp mo 54 <|
    o_al 0 <|
    o_ic 0 <|
    o_mp mo 55 <|
    o_al 0 <|
    o_ic 0 <|
    o_mpz mo 56 <|
    o_al 0 <|
    o_ic (-1) <|
    o_mp mo 51 <|
    o_ic 0 <|
    o_is 3 <|
    (o_kill [4] (bX2_run_118 mo R))
def bX2_run_67 (mo : Nat) (R : Ret MS) : Cont MS :=
    fixC fun J67 =>
    o_il 3 <|
    o_ic 32 <|
    o_icmp_ge (bX2_run_86 mo R) <|
    o_al 0 <|
    o_mga mo 49 <|
    o_il 3 <|
    o_ic 0 <|
    o_mis mo 49 <|
    o_iinc 3 1 <|
    (o_kill [4] J67)
def bX2_run_65 (mo : Nat) (R : Ret MS) : Cont MS :=
    o_ic 0 <|
    o_is 3 <|
    (o_kill [4] (bX2_run_67 mo R))
def bX2_run_46 (mo : Nat) (R : Ret MS) : Cont MS :=
    fixC fun J46 =>
    o_il 3 <|
    o_ic 16 <|
    o_icmp_ge (bX2_run_65 mo R) <|
    o_al 0 <|
    o_mga mo 47 <|
    o_il 3 <|
    o_ic 0 <|
    o_mis mo 47 <|
    o_iinc 3 1 <|
    (o_kill [4] J46)
def bX2_run_44 (mo : Nat) (R : Ret MS) : Cont MS :=
    o_ic 0 <|
    o_is 3 <|
    (o_kill [4] (bX2_run_46 mo R))
def bX2_run_20 (mo : Nat) (R : Ret MS) : Cont MS :=
    fixC fun J20 =>
    o_il 3 <|
    o_ic 48 <|
    o_icmp_ge (bX2_run_44 mo R) <|
    o_al 0 <|
    o_mga mo 46 <|
    o_il 3 <|
    o_al 0 <|
    o_mga mo 45 <|
    o_il 3 <|
    o_mia mo 45 <|
    o_mis mo 46 <|
    o_iinc 3 1 <|
    (o_kill [4] J20)
def bX2_run_18 (mo : Nat) (R : Ret MS) : Cont MS :=
    o_ic 0 <|
    o_is 3 <|
    (o_kill [4] (bX2_run_20 mo R))
def bX2_run_0 (mo : Nat) (R : Ret MS) : Cont MS :=
    o_al 0 <|
    o_il 1 <|
    o_mc mo 2 (pX2_isThere mo) R <|
    o_if_eq (bX2_run_16 mo R) <|
    o_al 0 <|
    o_il 2 <|
    o_mc mo 2 (pX2_isPlacing mo) R <|
    o_if_ne (bX2_run_18 mo R) <|
    (bX2_run_16 mo R)
def pX2_run (mo : Nat) : PT MS := fun as σ Q => (lg_sl as).length ≤ 5 ∧ bX2_run_0 mo Q (entP 5 as) [] σ
theorem nX2_run : parN yX2_run 2 := by unfold parN; decide +kernel
set_option maxHeartbeats 4000000 in
theorem eX2_run (g : GM) : CT (wM g) yX2_run (Cond.code yX2_run cX2_run 5 (some .int)) 3 75 (pX2_run g.1) := by
  refine CT.of (wM_ok g) (cc := cX2_run) (nL := 5) (ret := (some .int)) (ht := []) (by decide +kernel) (Or.inl ⟨rfl, rfl⟩) (B := bX2_run_0 g.1) (fun R E X hE => ?_)
  have h16 : E (bX2_run_16 g.1 R) 16 := by
    unfold bX2_run_16
    refine si_iconst (pc := 16) hE dX2_run_16 (by decide) ?_
    exact si_ireturn (pc := 17) hE dX2_run_17
  have h211 : E (bX2_run_211 g.1 R) 211 := by
    unfold bX2_run_211
    refine si_aload_n (pc := 211) hE dX2_run_211 rfl ?_
    refine si_mg (pc := 212) (k := 51) hE rfl dX2_run_212 q1710 (by decide) rfl (fun _ => rfl) ?_
    exact si_ireturn (pc := 215) hE dX2_run_215
  have h205 : ∀ (J118 : Cont MS) (hJ118 : E J118 118), E (bX2_run_205 g.1 R J118) 205 := by
    intro J118 hJ118
    unfold bX2_run_205
    refine si_iload (pc := 205) hE dX2_run_205 ?_
    refine si_istore_n (pc := 207) hE dX2_run_207 rfl (by decide) ?_
    exact si_goto (pc := 208) hE dX2_run_208 (by decide) (si_kill hE hJ118)
  have h161 : ∀ (J118 : Cont MS) (hJ118 : E J118 118), E (bX2_run_161 g.1 R J118) 161 := by
    intro J118 hJ118
    unfold bX2_run_161
    refine si_aload_n (pc := 161) hE dX2_run_161 rfl ?_
    refine si_iload_n (pc := 162) hE dX2_run_162 rfl ?_
    refine si_iload_n (pc := 163) hE dX2_run_163 rfl ?_
    refine si_iload_n (pc := 164) hE dX2_run_164 rfl ?_
    refine si_sipush (pc := 165) hE dX2_run_165 (by decide) ?_
    refine si_iload_n (pc := 168) hE dX2_run_168 rfl ?_
    refine si_imul (pc := 169) hE dX2_run_169 ?_
    refine si_iload_n (pc := 170) hE dX2_run_170 rfl ?_
    refine si_iadd (pc := 171) hE dX2_run_171 ?_
    refine si_mc (pc := 172) (n := 4) hE rfl dX2_run_172 (eX2_step g) rfl q2129 q2131 qs108 q2132 q134 nX2_step (by decide) (by decide) ?_
    refine si_istore (pc := 175) hE dX2_run_175 (by decide) ?_
    refine si_aload_n (pc := 177) hE dX2_run_177 rfl ?_
    refine si_mg (pc := 178) (k := 56) hE rfl dX2_run_178 q1715 (by decide) rfl (fun _ => rfl) ?_
    refine si_if_eq (pc := 181) hE dX2_run_181 (by decide) (h205 J118 hJ118) ?_
    refine si_aload_n (pc := 184) hE dX2_run_184 rfl ?_
    refine si_iconst (pc := 185) hE dX2_run_185 (by decide) ?_
    refine si_mp (pc := 186) (k := 51) hE rfl dX2_run_186 q1710 (by decide) rfl rfl rfl rfl ?_
    refine si_aload_n (pc := 189) hE dX2_run_189 rfl ?_
    refine si_aload_n (pc := 190) hE dX2_run_190 rfl ?_
    refine si_mga (pc := 191) (k := 16) hE rfl dX2_run_191 q1675 (by decide) rfl (fun _ => rfl) ?_
    refine si_sipush (pc := 194) hE dX2_run_194 (by decide) ?_
    refine si_iload_n (pc := 197) hE dX2_run_197 rfl ?_
    refine si_imul (pc := 198) hE dX2_run_198 ?_
    refine si_iload_n (pc := 199) hE dX2_run_199 rfl ?_
    refine si_iadd (pc := 200) hE dX2_run_200 ?_
    refine si_mia (pc := 201) (k := 16) hE dX2_run_201 (by decide) rfl ?_
    refine si_mp (pc := 202) (k := 54) hE rfl dX2_run_202 q1713 (by decide) rfl rfl rfl rfl ?_
    exact (h205 J118 hJ118)
  have h118 : E (bX2_run_118 g.1 R) 118 := by
    unfold bX2_run_118
    refine si_fix hE (fun J118 hJ118 => ?_)
    refine si_aload_n (pc := 118) hE dX2_run_118 rfl ?_
    refine si_mg (pc := 119) (k := 51) hE rfl dX2_run_119 q1710 (by decide) rfl (fun _ => rfl) ?_
    refine si_iconst (pc := 122) hE dX2_run_122 (by decide) ?_
    refine si_icmp_ne (pc := 123) hE dX2_run_123 (by decide) h211 ?_
    refine si_aload_n (pc := 126) hE dX2_run_126 rfl ?_
    refine si_mga (pc := 127) (k := 15) hE rfl dX2_run_127 q1674 (by decide) rfl (fun _ => rfl) ?_
    refine si_sipush (pc := 130) hE dX2_run_130 (by decide) ?_
    refine si_iload_n (pc := 133) hE dX2_run_133 rfl ?_
    refine si_imul (pc := 134) hE dX2_run_134 ?_
    refine si_iload_n (pc := 135) hE dX2_run_135 rfl ?_
    refine si_iadd (pc := 136) hE dX2_run_136 ?_
    refine si_mia (pc := 137) (k := 15) hE dX2_run_137 (by decide) rfl ?_
    refine si_bipush (pc := 138) hE dX2_run_138 (by decide) ?_
    refine si_icmp_eq (pc := 140) hE dX2_run_140 (by decide) (h161 J118 hJ118) ?_
    refine si_aload_n (pc := 143) hE dX2_run_143 rfl ?_
    refine si_mg (pc := 144) (k := 52) hE rfl dX2_run_144 q1711 (by decide) rfl (fun _ => rfl) ?_
    refine si_sipush (pc := 147) hE dX2_run_147 (by decide) ?_
    refine si_icmp_ne (pc := 150) hE dX2_run_150 (by decide) (h161 J118 hJ118) ?_
    refine si_aload_n (pc := 153) hE dX2_run_153 rfl ?_
    refine si_iconst (pc := 154) hE dX2_run_154 (by decide) ?_
    refine si_mp (pc := 155) (k := 51) hE rfl dX2_run_155 q1710 (by decide) rfl rfl rfl rfl ?_
    exact si_goto (pc := 158) hE dX2_run_158 (by decide) (si_kill hE hJ118)
  have h86 : E (bX2_run_86 g.1 R) 86 := by
    unfold bX2_run_86
    refine si_aload_n (pc := 86) hE dX2_run_86 rfl ?_
    refine si_iconst (pc := 87) hE dX2_run_87 (by decide) ?_
    refine si_mp (pc := 88) (k := 52) hE rfl dX2_run_88 q1711 (by decide) rfl rfl rfl rfl ?_
    refine si_aload_n (pc := 91) hE dX2_run_91 rfl ?_
    refine si_iconst (pc := 92) hE dX2_run_92 (by decide) ?_
    refine si_mp (pc := 93) (k := 53) hE rfl dX2_run_93 q1712 (by decide) rfl rfl rfl rfl ?_
    refine si_aload_n (pc := 96) hE dX2_run_96 rfl ?_
    refine si_iconst (pc := 97) hE dX2_run_97 (by decide) ?_
    refine si_mp (pc := 98) (k := 54) hE rfl dX2_run_98 q1713 (by decide) rfl rfl rfl rfl ?_
    refine si_aload_n (pc := 101) hE dX2_run_101 rfl ?_
    refine si_iconst (pc := 102) hE dX2_run_102 (by decide) ?_
    refine si_mp (pc := 103) (k := 55) hE rfl dX2_run_103 q1714 (by decide) rfl rfl rfl rfl ?_
    refine si_aload_n (pc := 106) hE dX2_run_106 rfl ?_
    refine si_iconst (pc := 107) hE dX2_run_107 (by decide) ?_
    refine si_mpz (pc := 108) (k := 56) hE rfl dX2_run_108 q1715 (by decide) rfl rfl rfl rfl ?_
    refine si_aload_n (pc := 111) hE dX2_run_111 rfl ?_
    refine si_iconst (pc := 112) hE dX2_run_112 (by decide) ?_
    refine si_mp (pc := 113) (k := 51) hE rfl dX2_run_113 q1710 (by decide) rfl rfl rfl rfl ?_
    refine si_iconst (pc := 116) hE dX2_run_116 (by decide) ?_
    refine si_istore_n (pc := 117) hE dX2_run_117 rfl (by decide) ?_
    exact (si_kill hE h118)
  have h67 : E (bX2_run_67 g.1 R) 67 := by
    unfold bX2_run_67
    refine si_fix hE (fun J67 hJ67 => ?_)
    refine si_iload_n (pc := 67) hE dX2_run_67 rfl ?_
    refine si_bipush (pc := 68) hE dX2_run_68 (by decide) ?_
    refine si_icmp_ge (pc := 70) hE dX2_run_70 (by decide) h86 ?_
    refine si_aload_n (pc := 73) hE dX2_run_73 rfl ?_
    refine si_mga (pc := 74) (k := 49) hE rfl dX2_run_74 q1708 (by decide) rfl (fun _ => rfl) ?_
    refine si_iload_n (pc := 77) hE dX2_run_77 rfl ?_
    refine si_iconst (pc := 78) hE dX2_run_78 (by decide) ?_
    refine si_mis (pc := 79) (k := 49) hE dX2_run_79 (by decide) rfl ?_
    refine si_iinc (pc := 80) hE dX2_run_80 (by decide) (by decide) ?_
    exact si_goto (pc := 83) hE dX2_run_83 (by decide) (si_kill hE hJ67)
  have h65 : E (bX2_run_65 g.1 R) 65 := by
    unfold bX2_run_65
    refine si_iconst (pc := 65) hE dX2_run_65 (by decide) ?_
    refine si_istore_n (pc := 66) hE dX2_run_66 rfl (by decide) ?_
    exact (si_kill hE h67)
  have h46 : E (bX2_run_46 g.1 R) 46 := by
    unfold bX2_run_46
    refine si_fix hE (fun J46 hJ46 => ?_)
    refine si_iload_n (pc := 46) hE dX2_run_46 rfl ?_
    refine si_bipush (pc := 47) hE dX2_run_47 (by decide) ?_
    refine si_icmp_ge (pc := 49) hE dX2_run_49 (by decide) h65 ?_
    refine si_aload_n (pc := 52) hE dX2_run_52 rfl ?_
    refine si_mga (pc := 53) (k := 47) hE rfl dX2_run_53 q1706 (by decide) rfl (fun _ => rfl) ?_
    refine si_iload_n (pc := 56) hE dX2_run_56 rfl ?_
    refine si_iconst (pc := 57) hE dX2_run_57 (by decide) ?_
    refine si_mis (pc := 58) (k := 47) hE dX2_run_58 (by decide) rfl ?_
    refine si_iinc (pc := 59) hE dX2_run_59 (by decide) (by decide) ?_
    exact si_goto (pc := 62) hE dX2_run_62 (by decide) (si_kill hE hJ46)
  have h44 : E (bX2_run_44 g.1 R) 44 := by
    unfold bX2_run_44
    refine si_iconst (pc := 44) hE dX2_run_44 (by decide) ?_
    refine si_istore_n (pc := 45) hE dX2_run_45 rfl (by decide) ?_
    exact (si_kill hE h46)
  have h20 : E (bX2_run_20 g.1 R) 20 := by
    unfold bX2_run_20
    refine si_fix hE (fun J20 hJ20 => ?_)
    refine si_iload_n (pc := 20) hE dX2_run_20 rfl ?_
    refine si_bipush (pc := 21) hE dX2_run_21 (by decide) ?_
    refine si_icmp_ge (pc := 23) hE dX2_run_23 (by decide) h44 ?_
    refine si_aload_n (pc := 26) hE dX2_run_26 rfl ?_
    refine si_mga (pc := 27) (k := 46) hE rfl dX2_run_27 q1705 (by decide) rfl (fun _ => rfl) ?_
    refine si_iload_n (pc := 30) hE dX2_run_30 rfl ?_
    refine si_aload_n (pc := 31) hE dX2_run_31 rfl ?_
    refine si_mga (pc := 32) (k := 45) hE rfl dX2_run_32 q1704 (by decide) rfl (fun _ => rfl) ?_
    refine si_iload_n (pc := 35) hE dX2_run_35 rfl ?_
    refine si_mia (pc := 36) (k := 45) hE dX2_run_36 (by decide) rfl ?_
    refine si_mis (pc := 37) (k := 46) hE dX2_run_37 (by decide) rfl ?_
    refine si_iinc (pc := 38) hE dX2_run_38 (by decide) (by decide) ?_
    exact si_goto (pc := 41) hE dX2_run_41 (by decide) (si_kill hE hJ20)
  have h18 : E (bX2_run_18 g.1 R) 18 := by
    unfold bX2_run_18
    refine si_iconst (pc := 18) hE dX2_run_18 (by decide) ?_
    refine si_istore_n (pc := 19) hE dX2_run_19 rfl (by decide) ?_
    exact (si_kill hE h20)
  have h0 : E (bX2_run_0 g.1 R) 0 := by
    unfold bX2_run_0
    refine si_aload_n (pc := 0) hE dX2_run_0 rfl ?_
    refine si_iload_n (pc := 1) hE dX2_run_1 rfl ?_
    refine si_mc (pc := 2) (n := 1) hE rfl dX2_run_2 (eX2_isThere g) rfl q2069 q2071 qs101 q2072 q134 nX2_isThere (by decide) (by decide) ?_
    refine si_if_eq (pc := 5) hE dX2_run_5 (by decide) h16 ?_
    refine si_aload_n (pc := 8) hE dX2_run_8 rfl ?_
    refine si_iload_n (pc := 9) hE dX2_run_9 rfl ?_
    refine si_mc (pc := 10) (n := 1) hE rfl dX2_run_10 (eX2_isPlacing g) rfl q2097 q2099 qs104 q2100 q134 nX2_isPlacing (by decide) (by decide) ?_
    refine si_if_ne (pc := 13) hE dX2_run_13 (by decide) h18 ?_
    exact h16
  exact h0
def bX2_ran_36 (mo : Nat) (R : Ret MS) : Cont MS :=
    o_al 0 <|
    o_mg mo 51 <|
    o_ireturn R
def bX2_ran_41 (mo : Nat) (R : Ret MS) : Cont MS :=
    o_al 0 <|
    o_mg mo 52 <|
    o_ireturn R
def bX2_ran_46 (mo : Nat) (R : Ret MS) : Cont MS :=
    o_al 0 <|
    o_mg mo 53 <|
    o_ireturn R
def bX2_ran_51 (mo : Nat) (R : Ret MS) : Cont MS :=
    o_al 0 <|
    o_mg mo 54 <|
    o_ireturn R
def bX2_ran_56 (mo : Nat) (R : Ret MS) : Cont MS :=
    o_al 0 <|
    o_mg mo 55 <|
    o_ireturn R
def bX2_ran_61 (mo : Nat) (R : Ret MS) : Cont MS :=
    o_ic (-1) <|
    o_ireturn R
def bX2_ran_0 (mo : Nat) (R : Ret MS) : Cont MS :=
    o_il 1 <|
    o_sw [(0, (bX2_ran_36 mo R)), (1, (bX2_ran_41 mo R)), (2, (bX2_ran_46 mo R)), (3, (bX2_ran_51 mo R)), (4, (bX2_ran_56 mo R))] (bX2_ran_61 mo R)
def pX2_ran (mo : Nat) : PT MS := fun as σ Q => (lg_sl as).length ≤ 2 ∧ bX2_ran_0 mo Q (entP 2 as) [] σ
theorem nX2_ran : parN yX2_ran 1 := by unfold parN; decide +kernel
set_option maxHeartbeats 4000000 in
theorem eX2_ran (g : GM) : CT (wM g) yX2_ran (Cond.code yX2_ran cX2_ran 2 (some .int)) 0 0 (pX2_ran g.1) := by
  refine CT.of (wM_ok g) (cc := cX2_ran) (nL := 2) (ret := (some .int)) (ht := []) (by decide +kernel) (Or.inl ⟨rfl, rfl⟩) (B := bX2_ran_0 g.1) (fun R E X hE => ?_)
  have h36 : E (bX2_ran_36 g.1 R) 36 := by
    unfold bX2_ran_36
    refine si_aload_n (pc := 36) hE dX2_ran_36 rfl ?_
    refine si_mg (pc := 37) (k := 51) hE rfl dX2_ran_37 q1710 (by decide) rfl (fun _ => rfl) ?_
    exact si_ireturn (pc := 40) hE dX2_ran_40
  have h41 : E (bX2_ran_41 g.1 R) 41 := by
    unfold bX2_ran_41
    refine si_aload_n (pc := 41) hE dX2_ran_41 rfl ?_
    refine si_mg (pc := 42) (k := 52) hE rfl dX2_ran_42 q1711 (by decide) rfl (fun _ => rfl) ?_
    exact si_ireturn (pc := 45) hE dX2_ran_45
  have h46 : E (bX2_ran_46 g.1 R) 46 := by
    unfold bX2_ran_46
    refine si_aload_n (pc := 46) hE dX2_ran_46 rfl ?_
    refine si_mg (pc := 47) (k := 53) hE rfl dX2_ran_47 q1712 (by decide) rfl (fun _ => rfl) ?_
    exact si_ireturn (pc := 50) hE dX2_ran_50
  have h51 : E (bX2_ran_51 g.1 R) 51 := by
    unfold bX2_ran_51
    refine si_aload_n (pc := 51) hE dX2_ran_51 rfl ?_
    refine si_mg (pc := 52) (k := 54) hE rfl dX2_ran_52 q1713 (by decide) rfl (fun _ => rfl) ?_
    exact si_ireturn (pc := 55) hE dX2_ran_55
  have h56 : E (bX2_ran_56 g.1 R) 56 := by
    unfold bX2_ran_56
    refine si_aload_n (pc := 56) hE dX2_ran_56 rfl ?_
    refine si_mg (pc := 57) (k := 55) hE rfl dX2_ran_57 q1714 (by decide) rfl (fun _ => rfl) ?_
    exact si_ireturn (pc := 60) hE dX2_ran_60
  have h61 : E (bX2_ran_61 g.1 R) 61 := by
    unfold bX2_ran_61
    refine si_iconst (pc := 61) hE dX2_ran_61 (by decide) ?_
    exact si_ireturn (pc := 62) hE dX2_ran_62
  have h0 : E (bX2_ran_0 g.1 R) 0 := by
    unfold bX2_ran_0
    refine si_iload_n (pc := 0) hE dX2_ran_0 rfl ?_
    exact si_tsw (pc := 1) hE dX2_ran_1 (by decide) (td := 61) (by decide) h61 ⟨⟨36, by decide, by decide, h36⟩, ⟨⟨41, by decide, by decide, h41⟩, ⟨⟨46, by decide, by decide, h46⟩, ⟨⟨51, by decide, by decide, h51⟩, ⟨⟨56, by decide, by decide, h56⟩, trivial⟩⟩⟩⟩⟩
  exact h0
def bX2_told_28 (mo : Nat) (R : Ret MS) : Cont MS :=
    o_ireturn R
def bX2_told_18 (mo : Nat) (R : Ret MS) : Cont MS :=
    o_ic 0 <|
    (bX2_told_28 mo R)
def bX2_told_22 (mo : Nat) (R : Ret MS) : Cont MS :=
    o_al 0 <|
    o_mga mo 50 <|
    o_il 1 <|
    o_mia mo 50 <|
    (bX2_told_28 mo R)
def bX2_told_0 (mo : Nat) (R : Ret MS) : Cont MS :=
    o_il 1 <|
    o_if_lt (bX2_told_18 mo R) <|
    o_il 1 <|
    o_al 0 <|
    o_mg mo 53 <|
    o_icmp_ge (bX2_told_18 mo R) <|
    o_il 1 <|
    o_ic 100 <|
    o_icmp_lt (bX2_told_22 mo R) <|
    (bX2_told_18 mo R)
def pX2_told (mo : Nat) : PT MS := fun as σ Q => (lg_sl as).length ≤ 2 ∧ bX2_told_0 mo Q (entP 2 as) [] σ
theorem nX2_told : parN yX2_told 1 := by unfold parN; decide +kernel
set_option maxHeartbeats 4000000 in
theorem eX2_told (g : GM) : CT (wM g) yX2_told (Cond.code yX2_told cX2_told 2 (some .int)) 0 0 (pX2_told g.1) := by
  refine CT.of (wM_ok g) (cc := cX2_told) (nL := 2) (ret := (some .int)) (ht := []) (by decide +kernel) (Or.inl ⟨rfl, rfl⟩) (B := bX2_told_0 g.1) (fun R E X hE => ?_)
  have h28 : E (bX2_told_28 g.1 R) 28 := by
    unfold bX2_told_28
    exact si_ireturn (pc := 28) hE dX2_told_28
  have h18 : E (bX2_told_18 g.1 R) 18 := by
    unfold bX2_told_18
    refine si_iconst (pc := 18) hE dX2_told_18 (by decide) ?_
    exact si_goto (pc := 19) hE dX2_told_19 (by decide) h28
  have h22 : E (bX2_told_22 g.1 R) 22 := by
    unfold bX2_told_22
    refine si_aload_n (pc := 22) hE dX2_told_22 rfl ?_
    refine si_mga (pc := 23) (k := 50) hE rfl dX2_told_23 q1709 (by decide) rfl (fun _ => rfl) ?_
    refine si_iload_n (pc := 26) hE dX2_told_26 rfl ?_
    refine si_mia (pc := 27) (k := 50) hE dX2_told_27 (by decide) rfl ?_
    exact h28
  have h0 : E (bX2_told_0 g.1 R) 0 := by
    unfold bX2_told_0
    refine si_iload_n (pc := 0) hE dX2_told_0 rfl ?_
    refine si_if_lt (pc := 1) hE dX2_told_1 (by decide) h18 ?_
    refine si_iload_n (pc := 4) hE dX2_told_4 rfl ?_
    refine si_aload_n (pc := 5) hE dX2_told_5 rfl ?_
    refine si_mg (pc := 6) (k := 53) hE rfl dX2_told_6 q1712 (by decide) rfl (fun _ => rfl) ?_
    refine si_icmp_ge (pc := 9) hE dX2_told_9 (by decide) h18 ?_
    refine si_iload_n (pc := 12) hE dX2_told_12 rfl ?_
    refine si_bipush (pc := 13) hE dX2_told_13 (by decide) ?_
    refine si_icmp_lt (pc := 15) hE dX2_told_15 (by decide) h22 ?_
    exact h18
  exact h0
def bX2_value_20 (mo : Nat) (R : Ret MS) : Cont MS :=
    o_ireturn R
def bX2_value_10 (mo : Nat) (R : Ret MS) : Cont MS :=
    o_ic 0 <|
    (bX2_value_20 mo R)
def bX2_value_14 (mo : Nat) (R : Ret MS) : Cont MS :=
    o_al 0 <|
    o_mga mo 46 <|
    o_il 1 <|
    o_mia mo 46 <|
    (bX2_value_20 mo R)
def bX2_value_0 (mo : Nat) (R : Ret MS) : Cont MS :=
    o_il 1 <|
    o_if_lt (bX2_value_10 mo R) <|
    o_il 1 <|
    o_ic 47 <|
    o_icmp_le (bX2_value_14 mo R) <|
    (bX2_value_10 mo R)
def pX2_value (mo : Nat) : PT MS := fun as σ Q => (lg_sl as).length ≤ 2 ∧ bX2_value_0 mo Q (entP 2 as) [] σ
theorem nX2_value : parN yX2_value 1 := by unfold parN; decide +kernel
set_option maxHeartbeats 4000000 in
theorem eX2_value (g : GM) : CT (wM g) yX2_value (Cond.code yX2_value cX2_value 2 (some .int)) 0 0 (pX2_value g.1) := by
  refine CT.of (wM_ok g) (cc := cX2_value) (nL := 2) (ret := (some .int)) (ht := []) (by decide +kernel) (Or.inl ⟨rfl, rfl⟩) (B := bX2_value_0 g.1) (fun R E X hE => ?_)
  have h20 : E (bX2_value_20 g.1 R) 20 := by
    unfold bX2_value_20
    exact si_ireturn (pc := 20) hE dX2_value_20
  have h10 : E (bX2_value_10 g.1 R) 10 := by
    unfold bX2_value_10
    refine si_iconst (pc := 10) hE dX2_value_10 (by decide) ?_
    exact si_goto (pc := 11) hE dX2_value_11 (by decide) h20
  have h14 : E (bX2_value_14 g.1 R) 14 := by
    unfold bX2_value_14
    refine si_aload_n (pc := 14) hE dX2_value_14 rfl ?_
    refine si_mga (pc := 15) (k := 46) hE rfl dX2_value_15 q1705 (by decide) rfl (fun _ => rfl) ?_
    refine si_iload_n (pc := 18) hE dX2_value_18 rfl ?_
    refine si_mia (pc := 19) (k := 46) hE dX2_value_19 (by decide) rfl ?_
    exact h20
  have h0 : E (bX2_value_0 g.1 R) 0 := by
    unfold bX2_value_0
    refine si_iload_n (pc := 0) hE dX2_value_0 rfl ?_
    refine si_if_lt (pc := 1) hE dX2_value_1 (by decide) h10 ?_
    refine si_iload_n (pc := 4) hE dX2_value_4 rfl ?_
    refine si_bipush (pc := 5) hE dX2_value_5 (by decide) ?_
    refine si_icmp_le (pc := 7) hE dX2_value_7 (by decide) h14 ?_
    exact h10
  exact h0
def bX2_row_34 (mo : Nat) (R : Ret MS) : Cont MS :=
    o_ireturn R
def bX2_row_19 (mo : Nat) (R : Ret MS) : Cont MS :=
    o_ic 0 <|
    (bX2_row_34 mo R)
def bX2_row_23 (mo : Nat) (R : Ret MS) : Cont MS :=
    o_al 0 <|
    o_mga mo 47 <|
    o_ic 8 <|
    o_il 1 <|
    o_imul <|
    o_il 2 <|
    o_iadd <|
    o_mia mo 47 <|
    (bX2_row_34 mo R)
def bX2_row_0 (mo : Nat) (R : Ret MS) : Cont MS :=
    o_il 1 <|
    o_if_lt (bX2_row_19 mo R) <|
    o_il 1 <|
    o_ic 1 <|
    o_icmp_gt (bX2_row_19 mo R) <|
    o_il 2 <|
    o_if_lt (bX2_row_19 mo R) <|
    o_il 2 <|
    o_ic 7 <|
    o_icmp_le (bX2_row_23 mo R) <|
    (bX2_row_19 mo R)
def pX2_row (mo : Nat) : PT MS := fun as σ Q => (lg_sl as).length ≤ 3 ∧ bX2_row_0 mo Q (entP 3 as) [] σ
theorem nX2_row : parN yX2_row 2 := by unfold parN; decide +kernel
set_option maxHeartbeats 4000000 in
theorem eX2_row (g : GM) : CT (wM g) yX2_row (Cond.code yX2_row cX2_row 3 (some .int)) 0 0 (pX2_row g.1) := by
  refine CT.of (wM_ok g) (cc := cX2_row) (nL := 3) (ret := (some .int)) (ht := []) (by decide +kernel) (Or.inl ⟨rfl, rfl⟩) (B := bX2_row_0 g.1) (fun R E X hE => ?_)
  have h34 : E (bX2_row_34 g.1 R) 34 := by
    unfold bX2_row_34
    exact si_ireturn (pc := 34) hE dX2_row_34
  have h19 : E (bX2_row_19 g.1 R) 19 := by
    unfold bX2_row_19
    refine si_iconst (pc := 19) hE dX2_row_19 (by decide) ?_
    exact si_goto (pc := 20) hE dX2_row_20 (by decide) h34
  have h23 : E (bX2_row_23 g.1 R) 23 := by
    unfold bX2_row_23
    refine si_aload_n (pc := 23) hE dX2_row_23 rfl ?_
    refine si_mga (pc := 24) (k := 47) hE rfl dX2_row_24 q1706 (by decide) rfl (fun _ => rfl) ?_
    refine si_bipush (pc := 27) hE dX2_row_27 (by decide) ?_
    refine si_iload_n (pc := 29) hE dX2_row_29 rfl ?_
    refine si_imul (pc := 30) hE dX2_row_30 ?_
    refine si_iload_n (pc := 31) hE dX2_row_31 rfl ?_
    refine si_iadd (pc := 32) hE dX2_row_32 ?_
    refine si_mia (pc := 33) (k := 47) hE dX2_row_33 (by decide) rfl ?_
    exact h34
  have h0 : E (bX2_row_0 g.1 R) 0 := by
    unfold bX2_row_0
    refine si_iload_n (pc := 0) hE dX2_row_0 rfl ?_
    refine si_if_lt (pc := 1) hE dX2_row_1 (by decide) h19 ?_
    refine si_iload_n (pc := 4) hE dX2_row_4 rfl ?_
    refine si_iconst (pc := 5) hE dX2_row_5 (by decide) ?_
    refine si_icmp_gt (pc := 6) hE dX2_row_6 (by decide) h19 ?_
    refine si_iload_n (pc := 9) hE dX2_row_9 rfl ?_
    refine si_if_lt (pc := 10) hE dX2_row_10 (by decide) h19 ?_
    refine si_iload_n (pc := 13) hE dX2_row_13 rfl ?_
    refine si_bipush (pc := 14) hE dX2_row_14 (by decide) ?_
    refine si_icmp_le (pc := 16) hE dX2_row_16 (by decide) h23 ?_
    exact h19
  exact h0
def bX2_worked_20 (mo : Nat) (R : Ret MS) : Cont MS :=
    o_ireturn R
def bX2_worked_10 (mo : Nat) (R : Ret MS) : Cont MS :=
    o_ic (-1) <|
    (bX2_worked_20 mo R)
def bX2_worked_14 (mo : Nat) (R : Ret MS) : Cont MS :=
    o_al 0 <|
    o_mga mo 49 <|
    o_il 1 <|
    o_mia mo 49 <|
    (bX2_worked_20 mo R)
def bX2_worked_0 (mo : Nat) (R : Ret MS) : Cont MS :=
    o_il 1 <|
    o_if_lt (bX2_worked_10 mo R) <|
    o_il 1 <|
    o_ic 31 <|
    o_icmp_le (bX2_worked_14 mo R) <|
    (bX2_worked_10 mo R)
def pX2_worked (mo : Nat) : PT MS := fun as σ Q => (lg_sl as).length ≤ 2 ∧ bX2_worked_0 mo Q (entP 2 as) [] σ
theorem nX2_worked : parN yX2_worked 1 := by unfold parN; decide +kernel
set_option maxHeartbeats 4000000 in
theorem eX2_worked (g : GM) : CT (wM g) yX2_worked (Cond.code yX2_worked cX2_worked 2 (some .int)) 0 0 (pX2_worked g.1) := by
  refine CT.of (wM_ok g) (cc := cX2_worked) (nL := 2) (ret := (some .int)) (ht := []) (by decide +kernel) (Or.inl ⟨rfl, rfl⟩) (B := bX2_worked_0 g.1) (fun R E X hE => ?_)
  have h20 : E (bX2_worked_20 g.1 R) 20 := by
    unfold bX2_worked_20
    exact si_ireturn (pc := 20) hE dX2_worked_20
  have h10 : E (bX2_worked_10 g.1 R) 10 := by
    unfold bX2_worked_10
    refine si_iconst (pc := 10) hE dX2_worked_10 (by decide) ?_
    exact si_goto (pc := 11) hE dX2_worked_11 (by decide) h20
  have h14 : E (bX2_worked_14 g.1 R) 14 := by
    unfold bX2_worked_14
    refine si_aload_n (pc := 14) hE dX2_worked_14 rfl ?_
    refine si_mga (pc := 15) (k := 49) hE rfl dX2_worked_15 q1708 (by decide) rfl (fun _ => rfl) ?_
    refine si_iload_n (pc := 18) hE dX2_worked_18 rfl ?_
    refine si_mia (pc := 19) (k := 49) hE dX2_worked_19 (by decide) rfl ?_
    exact h20
  have h0 : E (bX2_worked_0 g.1 R) 0 := by
    unfold bX2_worked_0
    refine si_iload_n (pc := 0) hE dX2_worked_0 rfl ?_
    refine si_if_lt (pc := 1) hE dX2_worked_1 (by decide) h10 ?_
    refine si_iload_n (pc := 4) hE dX2_worked_4 rfl ?_
    refine si_bipush (pc := 5) hE dX2_worked_5 (by decide) ?_
    refine si_icmp_le (pc := 7) hE dX2_worked_7 (by decide) h14 ?_
    exact h10
  exact h0
def bX2_end_39 (mo : Nat) (R : Ret MS) : Cont MS :=
    o_iadd <|
    o_ic 1 <|
    o_isub <|
    o_ireturn R
def bX2_end_33 (mo : Nat) (R : Ret MS) : Cont MS :=
    o_al 0 <|
    o_mga mo 11 <|
    o_il 1 <|
    o_mia mo 11 <|
    (bX2_end_39 mo R)
def bX2_end_0 (mo : Nat) (R : Ret MS) : Cont MS :=
    o_ic 240 <|
    o_il 1 <|
    o_imul <|
    o_il 2 <|
    o_ic 1 <|
    o_iadd <|
    o_al 0 <|
    o_mga mo 9 <|
    o_il 1 <|
    o_mia mo 9 <|
    o_icmp_ge (bX2_end_33 mo R) <|
    o_al 0 <|
    o_mga mo 13 <|
    o_ic 41 <|
    o_il 1 <|
    o_imul <|
    o_il 2 <|
    o_iadd <|
    o_ic 1 <|
    o_iadd <|
    o_mia mo 13 <|
    (bX2_end_39 mo R)
def pX2_end (mo : Nat) : PT MS := fun as σ Q => (lg_sl as).length ≤ 3 ∧ bX2_end_0 mo Q (entP 3 as) [] σ
theorem nX2_end : parN yX2_end 2 := by unfold parN; decide +kernel
set_option maxHeartbeats 4000000 in
theorem eX2_end (g : GM) : CT (wM g) yX2_end (Cond.code yX2_end cX2_end 3 (some .int)) 0 0 (pX2_end g.1) := by
  refine CT.of (wM_ok g) (cc := cX2_end) (nL := 3) (ret := (some .int)) (ht := []) (by decide +kernel) (Or.inl ⟨rfl, rfl⟩) (B := bX2_end_0 g.1) (fun R E X hE => ?_)
  have h39 : E (bX2_end_39 g.1 R) 39 := by
    unfold bX2_end_39
    refine si_iadd (pc := 39) hE dX2_end_39 ?_
    refine si_iconst (pc := 40) hE dX2_end_40 (by decide) ?_
    refine si_isub (pc := 41) hE dX2_end_41 ?_
    exact si_ireturn (pc := 42) hE dX2_end_42
  have h33 : E (bX2_end_33 g.1 R) 33 := by
    unfold bX2_end_33
    refine si_aload_n (pc := 33) hE dX2_end_33 rfl ?_
    refine si_mga (pc := 34) (k := 11) hE rfl dX2_end_34 q1670 (by decide) rfl (fun _ => rfl) ?_
    refine si_iload_n (pc := 37) hE dX2_end_37 rfl ?_
    refine si_mia (pc := 38) (k := 11) hE dX2_end_38 (by decide) rfl ?_
    exact h39
  have h0 : E (bX2_end_0 g.1 R) 0 := by
    unfold bX2_end_0
    refine si_sipush (pc := 0) hE dX2_end_0 (by decide) ?_
    refine si_iload_n (pc := 3) hE dX2_end_3 rfl ?_
    refine si_imul (pc := 4) hE dX2_end_4 ?_
    refine si_iload_n (pc := 5) hE dX2_end_5 rfl ?_
    refine si_iconst (pc := 6) hE dX2_end_6 (by decide) ?_
    refine si_iadd (pc := 7) hE dX2_end_7 ?_
    refine si_aload_n (pc := 8) hE dX2_end_8 rfl ?_
    refine si_mga (pc := 9) (k := 9) hE rfl dX2_end_9 q1668 (by decide) rfl (fun _ => rfl) ?_
    refine si_iload_n (pc := 12) hE dX2_end_12 rfl ?_
    refine si_mia (pc := 13) (k := 9) hE dX2_end_13 (by decide) rfl ?_
    refine si_icmp_ge (pc := 14) hE dX2_end_14 (by decide) h33 ?_
    refine si_aload_n (pc := 17) hE dX2_end_17 rfl ?_
    refine si_mga (pc := 18) (k := 13) hE rfl dX2_end_18 q1672 (by decide) rfl (fun _ => rfl) ?_
    refine si_bipush (pc := 21) hE dX2_end_21 (by decide) ?_
    refine si_iload_n (pc := 23) hE dX2_end_23 rfl ?_
    refine si_imul (pc := 24) hE dX2_end_24 ?_
    refine si_iload_n (pc := 25) hE dX2_end_25 rfl ?_
    refine si_iadd (pc := 26) hE dX2_end_26 ?_
    refine si_iconst (pc := 27) hE dX2_end_27 (by decide) ?_
    refine si_iadd (pc := 28) hE dX2_end_28 ?_
    refine si_mia (pc := 29) (k := 13) hE dX2_end_29 (by decide) rfl ?_
    exact si_goto (pc := 30) hE dX2_end_30 (by decide) h39
  exact h0
def bX2_passes_131 (mo : Nat) (R : Ret MS) : Cont MS :=
    o_ic (-1) <|
    o_ireturn R
def bX2_passes_128 (mo : Nat) (R : Ret MS) : Cont MS :=
    o_il 5 <|
    o_ireturn R
def bX2_passes_72 (mo : Nat) (R : Ret MS) : Cont MS :=
    o_al 0 <|
    o_mga mo 20 <|
    o_il 2 <|
    o_mia mo 20 <|
    o_is 5 <|
    o_il 5 <|
    o_if_lt (bX2_passes_131 mo R) <|
    o_il 5 <|
    o_il 4 <|
    o_icmp_eq (bX2_passes_128 mo R) <|
    o_al 0 <|
    o_mga mo 15 <|
    o_ic 240 <|
    o_il 1 <|
    o_imul <|
    o_il 5 <|
    o_iadd <|
    o_mia mo 15 <|
    o_ic 7 <|
    o_icmp_ne (bX2_passes_131 mo R) <|
    o_al 0 <|
    o_mga mo 19 <|
    o_ic 240 <|
    o_il 1 <|
    o_imul <|
    o_il 5 <|
    o_iadd <|
    o_mia mo 19 <|
    o_il 4 <|
    o_icmp_ne (bX2_passes_131 mo R) <|
    (bX2_passes_128 mo R)
def bX2_passes_69 (mo : Nat) (R : Ret MS) : Cont MS :=
    o_il 5 <|
    o_ireturn R
def bX2_passes_0 (mo : Nat) (R : Ret MS) : Cont MS :=
    o_al 0 <|
    o_mga mo 13 <|
    o_ic 41 <|
    o_il 1 <|
    o_imul <|
    o_il 3 <|
    o_iadd <|
    o_mia mo 13 <|
    o_is 4 <|
    o_al 0 <|
    o_mga mo 19 <|
    o_il 2 <|
    o_mia mo 19 <|
    o_is 5 <|
    o_il 5 <|
    o_if_lt (bX2_passes_72 mo R) <|
    o_il 5 <|
    o_il 4 <|
    o_icmp_eq (bX2_passes_69 mo R) <|
    o_al 0 <|
    o_mga mo 15 <|
    o_ic 240 <|
    o_il 1 <|
    o_imul <|
    o_il 5 <|
    o_iadd <|
    o_mia mo 15 <|
    o_ic 7 <|
    o_icmp_ne (bX2_passes_72 mo R) <|
    o_al 0 <|
    o_mga mo 19 <|
    o_ic 240 <|
    o_il 1 <|
    o_imul <|
    o_il 5 <|
    o_iadd <|
    o_mia mo 19 <|
    o_il 4 <|
    o_icmp_ne (bX2_passes_72 mo R) <|
    (bX2_passes_69 mo R)
def pX2_passes (mo : Nat) : PT MS := fun as σ Q => (lg_sl as).length ≤ 6 ∧ bX2_passes_0 mo Q (entP 6 as) [] σ
theorem nX2_passes : parN yX2_passes 3 := by unfold parN; decide +kernel
set_option maxHeartbeats 4000000 in
theorem eX2_passes (g : GM) : CT (wM g) yX2_passes (Cond.code yX2_passes cX2_passes 6 (some .int)) 0 0 (pX2_passes g.1) := by
  refine CT.of (wM_ok g) (cc := cX2_passes) (nL := 6) (ret := (some .int)) (ht := []) (by decide +kernel) (Or.inl ⟨rfl, rfl⟩) (B := bX2_passes_0 g.1) (fun R E X hE => ?_)
  have h131 : E (bX2_passes_131 g.1 R) 131 := by
    unfold bX2_passes_131
    refine si_iconst (pc := 131) hE dX2_passes_131 (by decide) ?_
    exact si_ireturn (pc := 132) hE dX2_passes_132
  have h128 : E (bX2_passes_128 g.1 R) 128 := by
    unfold bX2_passes_128
    refine si_iload (pc := 128) hE dX2_passes_128 ?_
    exact si_ireturn (pc := 130) hE dX2_passes_130
  have h72 : E (bX2_passes_72 g.1 R) 72 := by
    unfold bX2_passes_72
    refine si_aload_n (pc := 72) hE dX2_passes_72 rfl ?_
    refine si_mga (pc := 73) (k := 20) hE rfl dX2_passes_73 q1679 (by decide) rfl (fun _ => rfl) ?_
    refine si_iload_n (pc := 76) hE dX2_passes_76 rfl ?_
    refine si_mia (pc := 77) (k := 20) hE dX2_passes_77 (by decide) rfl ?_
    refine si_istore (pc := 78) hE dX2_passes_78 (by decide) ?_
    refine si_iload (pc := 80) hE dX2_passes_80 ?_
    refine si_if_lt (pc := 82) hE dX2_passes_82 (by decide) h131 ?_
    refine si_iload (pc := 85) hE dX2_passes_85 ?_
    refine si_iload (pc := 87) hE dX2_passes_87 ?_
    refine si_icmp_eq (pc := 89) hE dX2_passes_89 (by decide) h128 ?_
    refine si_aload_n (pc := 92) hE dX2_passes_92 rfl ?_
    refine si_mga (pc := 93) (k := 15) hE rfl dX2_passes_93 q1674 (by decide) rfl (fun _ => rfl) ?_
    refine si_sipush (pc := 96) hE dX2_passes_96 (by decide) ?_
    refine si_iload_n (pc := 99) hE dX2_passes_99 rfl ?_
    refine si_imul (pc := 100) hE dX2_passes_100 ?_
    refine si_iload (pc := 101) hE dX2_passes_101 ?_
    refine si_iadd (pc := 103) hE dX2_passes_103 ?_
    refine si_mia (pc := 104) (k := 15) hE dX2_passes_104 (by decide) rfl ?_
    refine si_bipush (pc := 105) hE dX2_passes_105 (by decide) ?_
    refine si_icmp_ne (pc := 107) hE dX2_passes_107 (by decide) h131 ?_
    refine si_aload_n (pc := 110) hE dX2_passes_110 rfl ?_
    refine si_mga (pc := 111) (k := 19) hE rfl dX2_passes_111 q1678 (by decide) rfl (fun _ => rfl) ?_
    refine si_sipush (pc := 114) hE dX2_passes_114 (by decide) ?_
    refine si_iload_n (pc := 117) hE dX2_passes_117 rfl ?_
    refine si_imul (pc := 118) hE dX2_passes_118 ?_
    refine si_iload (pc := 119) hE dX2_passes_119 ?_
    refine si_iadd (pc := 121) hE dX2_passes_121 ?_
    refine si_mia (pc := 122) (k := 19) hE dX2_passes_122 (by decide) rfl ?_
    refine si_iload (pc := 123) hE dX2_passes_123 ?_
    refine si_icmp_ne (pc := 125) hE dX2_passes_125 (by decide) h131 ?_
    exact h128
  have h69 : E (bX2_passes_69 g.1 R) 69 := by
    unfold bX2_passes_69
    refine si_iload (pc := 69) hE dX2_passes_69 ?_
    exact si_ireturn (pc := 71) hE dX2_passes_71
  have h0 : E (bX2_passes_0 g.1 R) 0 := by
    unfold bX2_passes_0
    refine si_aload_n (pc := 0) hE dX2_passes_0 rfl ?_
    refine si_mga (pc := 1) (k := 13) hE rfl dX2_passes_1 q1672 (by decide) rfl (fun _ => rfl) ?_
    refine si_bipush (pc := 4) hE dX2_passes_4 (by decide) ?_
    refine si_iload_n (pc := 6) hE dX2_passes_6 rfl ?_
    refine si_imul (pc := 7) hE dX2_passes_7 ?_
    refine si_iload_n (pc := 8) hE dX2_passes_8 rfl ?_
    refine si_iadd (pc := 9) hE dX2_passes_9 ?_
    refine si_mia (pc := 10) (k := 13) hE dX2_passes_10 (by decide) rfl ?_
    refine si_istore (pc := 11) hE dX2_passes_11 (by decide) ?_
    refine si_aload_n (pc := 13) hE dX2_passes_13 rfl ?_
    refine si_mga (pc := 14) (k := 19) hE rfl dX2_passes_14 q1678 (by decide) rfl (fun _ => rfl) ?_
    refine si_iload_n (pc := 17) hE dX2_passes_17 rfl ?_
    refine si_mia (pc := 18) (k := 19) hE dX2_passes_18 (by decide) rfl ?_
    refine si_istore (pc := 19) hE dX2_passes_19 (by decide) ?_
    refine si_iload (pc := 21) hE dX2_passes_21 ?_
    refine si_if_lt (pc := 23) hE dX2_passes_23 (by decide) h72 ?_
    refine si_iload (pc := 26) hE dX2_passes_26 ?_
    refine si_iload (pc := 28) hE dX2_passes_28 ?_
    refine si_icmp_eq (pc := 30) hE dX2_passes_30 (by decide) h69 ?_
    refine si_aload_n (pc := 33) hE dX2_passes_33 rfl ?_
    refine si_mga (pc := 34) (k := 15) hE rfl dX2_passes_34 q1674 (by decide) rfl (fun _ => rfl) ?_
    refine si_sipush (pc := 37) hE dX2_passes_37 (by decide) ?_
    refine si_iload_n (pc := 40) hE dX2_passes_40 rfl ?_
    refine si_imul (pc := 41) hE dX2_passes_41 ?_
    refine si_iload (pc := 42) hE dX2_passes_42 ?_
    refine si_iadd (pc := 44) hE dX2_passes_44 ?_
    refine si_mia (pc := 45) (k := 15) hE dX2_passes_45 (by decide) rfl ?_
    refine si_bipush (pc := 46) hE dX2_passes_46 (by decide) ?_
    refine si_icmp_ne (pc := 48) hE dX2_passes_48 (by decide) h72 ?_
    refine si_aload_n (pc := 51) hE dX2_passes_51 rfl ?_
    refine si_mga (pc := 52) (k := 19) hE rfl dX2_passes_52 q1678 (by decide) rfl (fun _ => rfl) ?_
    refine si_sipush (pc := 55) hE dX2_passes_55 (by decide) ?_
    refine si_iload_n (pc := 58) hE dX2_passes_58 rfl ?_
    refine si_imul (pc := 59) hE dX2_passes_59 ?_
    refine si_iload (pc := 60) hE dX2_passes_60 ?_
    refine si_iadd (pc := 62) hE dX2_passes_62 ?_
    refine si_mia (pc := 63) (k := 19) hE dX2_passes_63 (by decide) rfl ?_
    refine si_iload (pc := 64) hE dX2_passes_64 ?_
    refine si_icmp_ne (pc := 66) hE dX2_passes_66 (by decide) h72 ?_
    exact h69
  exact h0
def bX2_step_2_22 (mo : Nat) (R : Ret MS) : Cont MS :=
    o_ic (-1) <|
    o_ireturn R
def bX2_step_2_98 (mo : Nat) (R : Ret MS) : Cont MS :=
    o_al 0 <|
    o_mga mo 58 <|
    o_ic 60 <|
    o_il 1 <|
    o_imul <|
    o_il 3 <|
    o_iadd <|
    o_il 2 <|
    o_mis mo 58 <|
    o_al 0 <|
    o_mga mo 57 <|
    o_il 1 <|
    o_dup2 <|
    o_mia mo 57 <|
    o_ic 1 <|
    o_iadd <|
    o_mis mo 57 <|
    o_al 0 <|
    o_mga mo 57 <|
    o_il 1 <|
    o_mia mo 57 <|
    o_ireturn R
def bX2_step_2_89 (mo : Nat) (R : Ret MS) : Cont MS :=
    o_il 3 <|
    o_ic 60 <|
    o_icmp_ne (bX2_step_2_98 mo R) <|
    o_ic (-3) <|
    o_ireturn R
def bX2_step_2_79 (mo : Nat) (R : Ret MS) : Cont MS :=
    o_is 4 <|
    o_il 4 <|
    o_if_ne (bX2_step_2_89 mo R) <|
    o_ic (-2) <|
    o_ireturn R
def bX2_step_2_78 (mo : Nat) (R : Ret MS) : Cont MS :=
    o_ic 0 <|
    (bX2_step_2_79 mo R)
def bX2_step_2_47 (mo : Nat) (R : Ret MS) : Cont MS :=
    o_al 0 <|
    o_il 1 <|
    o_al 0 <|
    o_il 1 <|
    o_al 0 <|
    o_mga mo 58 <|
    o_ic 60 <|
    o_il 1 <|
    o_imul <|
    o_il 3 <|
    o_iadd <|
    o_ic 1 <|
    o_isub <|
    o_mia mo 58 <|
    o_mc mo 3 (pX2_end mo) R <|
    o_il 2 <|
    o_mc mo 4 (pX2_passes mo) R <|
    o_if_lt (bX2_step_2_78 mo R) <|
    o_ic 1 <|
    (bX2_step_2_79 mo R)
def bX2_step_2_43 (mo : Nat) (R : Ret MS) : Cont MS :=
    o_ic 0 <|
    (bX2_step_2_79 mo R)
def bX2_step_2_24 (mo : Nat) (R : Ret MS) : Cont MS :=
    o_al 0 <|
    o_mga mo 57 <|
    o_il 1 <|
    o_mia mo 57 <|
    o_is 3 <|
    o_il 3 <|
    o_if_ne (bX2_step_2_47 mo R) <|
    o_il 2 <|
    o_if_ne (bX2_step_2_43 mo R) <|
    o_ic 1 <|
    (bX2_step_2_79 mo R)
def bX2_step_2_0 (mo : Nat) (R : Ret MS) : Cont MS :=
    o_al 0 <|
    o_il 1 <|
    o_mc mo 2 (pX2_isThere mo) R <|
    o_if_eq (bX2_step_2_22 mo R) <|
    o_il 2 <|
    o_if_lt (bX2_step_2_22 mo R) <|
    o_il 2 <|
    o_al 0 <|
    o_mga mo 9 <|
    o_il 1 <|
    o_mia mo 9 <|
    o_icmp_lt (bX2_step_2_24 mo R) <|
    (bX2_step_2_22 mo R)
def pX2_step_2 (mo : Nat) : PT MS := fun as σ Q => (lg_sl as).length ≤ 5 ∧ bX2_step_2_0 mo Q (entP 5 as) [] σ
theorem nX2_step_2 : parN yX2_step_2 2 := by unfold parN; decide +kernel
set_option maxHeartbeats 4000000 in
theorem eX2_step_2 (g : GM) : CT (wM g) yX2_step_2 (Cond.code yX2_step_2 cX2_step_2 5 (some .int)) 1 25 (pX2_step_2 g.1) := by
  refine CT.of (wM_ok g) (cc := cX2_step_2) (nL := 5) (ret := (some .int)) (ht := []) (by decide +kernel) (Or.inl ⟨rfl, rfl⟩) (B := bX2_step_2_0 g.1) (fun R E X hE => ?_)
  have h22 : E (bX2_step_2_22 g.1 R) 22 := by
    unfold bX2_step_2_22
    refine si_iconst (pc := 22) hE dX2_step_2_22 (by decide) ?_
    exact si_ireturn (pc := 23) hE dX2_step_2_23
  have h98 : E (bX2_step_2_98 g.1 R) 98 := by
    unfold bX2_step_2_98
    refine si_aload_n (pc := 98) hE dX2_step_2_98 rfl ?_
    refine si_mga (pc := 99) (k := 58) hE rfl dX2_step_2_99 q1717 (by decide) rfl (fun _ => rfl) ?_
    refine si_bipush (pc := 102) hE dX2_step_2_102 (by decide) ?_
    refine si_iload_n (pc := 104) hE dX2_step_2_104 rfl ?_
    refine si_imul (pc := 105) hE dX2_step_2_105 ?_
    refine si_iload_n (pc := 106) hE dX2_step_2_106 rfl ?_
    refine si_iadd (pc := 107) hE dX2_step_2_107 ?_
    refine si_iload_n (pc := 108) hE dX2_step_2_108 rfl ?_
    refine si_mis (pc := 109) (k := 58) hE dX2_step_2_109 (by decide) rfl ?_
    refine si_aload_n (pc := 110) hE dX2_step_2_110 rfl ?_
    refine si_mga (pc := 111) (k := 57) hE rfl dX2_step_2_111 q1716 (by decide) rfl (fun _ => rfl) ?_
    refine si_iload_n (pc := 114) hE dX2_step_2_114 rfl ?_
    refine si_dup2 (pc := 115) hE dX2_step_2_115 ?_
    refine si_mia (pc := 116) (k := 57) hE dX2_step_2_116 (by decide) rfl ?_
    refine si_iconst (pc := 117) hE dX2_step_2_117 (by decide) ?_
    refine si_iadd (pc := 118) hE dX2_step_2_118 ?_
    refine si_mis (pc := 119) (k := 57) hE dX2_step_2_119 (by decide) rfl ?_
    refine si_aload_n (pc := 120) hE dX2_step_2_120 rfl ?_
    refine si_mga (pc := 121) (k := 57) hE rfl dX2_step_2_121 q1716 (by decide) rfl (fun _ => rfl) ?_
    refine si_iload_n (pc := 124) hE dX2_step_2_124 rfl ?_
    refine si_mia (pc := 125) (k := 57) hE dX2_step_2_125 (by decide) rfl ?_
    exact si_ireturn (pc := 126) hE dX2_step_2_126
  have h89 : E (bX2_step_2_89 g.1 R) 89 := by
    unfold bX2_step_2_89
    refine si_iload_n (pc := 89) hE dX2_step_2_89 rfl ?_
    refine si_bipush (pc := 90) hE dX2_step_2_90 (by decide) ?_
    refine si_icmp_ne (pc := 92) hE dX2_step_2_92 (by decide) h98 ?_
    refine si_bipush (pc := 95) hE dX2_step_2_95 (by decide) ?_
    exact si_ireturn (pc := 97) hE dX2_step_2_97
  have h79 : E (bX2_step_2_79 g.1 R) 79 := by
    unfold bX2_step_2_79
    refine si_istore (pc := 79) hE dX2_step_2_79 (by decide) ?_
    refine si_iload (pc := 81) hE dX2_step_2_81 ?_
    refine si_if_ne (pc := 83) hE dX2_step_2_83 (by decide) h89 ?_
    refine si_bipush (pc := 86) hE dX2_step_2_86 (by decide) ?_
    exact si_ireturn (pc := 88) hE dX2_step_2_88
  have h78 : E (bX2_step_2_78 g.1 R) 78 := by
    unfold bX2_step_2_78
    refine si_iconst (pc := 78) hE dX2_step_2_78 (by decide) ?_
    exact h79
  have h47 : E (bX2_step_2_47 g.1 R) 47 := by
    unfold bX2_step_2_47
    refine si_aload_n (pc := 47) hE dX2_step_2_47 rfl ?_
    refine si_iload_n (pc := 48) hE dX2_step_2_48 rfl ?_
    refine si_aload_n (pc := 49) hE dX2_step_2_49 rfl ?_
    refine si_iload_n (pc := 50) hE dX2_step_2_50 rfl ?_
    refine si_aload_n (pc := 51) hE dX2_step_2_51 rfl ?_
    refine si_mga (pc := 52) (k := 58) hE rfl dX2_step_2_52 q1717 (by decide) rfl (fun _ => rfl) ?_
    refine si_bipush (pc := 55) hE dX2_step_2_55 (by decide) ?_
    refine si_iload_n (pc := 57) hE dX2_step_2_57 rfl ?_
    refine si_imul (pc := 58) hE dX2_step_2_58 ?_
    refine si_iload_n (pc := 59) hE dX2_step_2_59 rfl ?_
    refine si_iadd (pc := 60) hE dX2_step_2_60 ?_
    refine si_iconst (pc := 61) hE dX2_step_2_61 (by decide) ?_
    refine si_isub (pc := 62) hE dX2_step_2_62 ?_
    refine si_mia (pc := 63) (k := 58) hE dX2_step_2_63 (by decide) rfl ?_
    refine si_mc (pc := 64) (n := 2) hE rfl dX2_step_2_64 (eX2_end g) rfl q2165 q2167 qs111 q2168 q134 nX2_end (by decide) (by decide) ?_
    refine si_iload_n (pc := 67) hE dX2_step_2_67 rfl ?_
    refine si_mc (pc := 68) (n := 3) hE rfl dX2_step_2_68 (eX2_passes g) rfl q2169 q2171 qs112 q2172 q134 nX2_passes (by decide) (by decide) ?_
    refine si_if_lt (pc := 71) hE dX2_step_2_71 (by decide) h78 ?_
    refine si_iconst (pc := 74) hE dX2_step_2_74 (by decide) ?_
    exact si_goto (pc := 75) hE dX2_step_2_75 (by decide) h79
  have h43 : E (bX2_step_2_43 g.1 R) 43 := by
    unfold bX2_step_2_43
    refine si_iconst (pc := 43) hE dX2_step_2_43 (by decide) ?_
    exact si_goto (pc := 44) hE dX2_step_2_44 (by decide) h79
  have h24 : E (bX2_step_2_24 g.1 R) 24 := by
    unfold bX2_step_2_24
    refine si_aload_n (pc := 24) hE dX2_step_2_24 rfl ?_
    refine si_mga (pc := 25) (k := 57) hE rfl dX2_step_2_25 q1716 (by decide) rfl (fun _ => rfl) ?_
    refine si_iload_n (pc := 28) hE dX2_step_2_28 rfl ?_
    refine si_mia (pc := 29) (k := 57) hE dX2_step_2_29 (by decide) rfl ?_
    refine si_istore_n (pc := 30) hE dX2_step_2_30 rfl (by decide) ?_
    refine si_iload_n (pc := 31) hE dX2_step_2_31 rfl ?_
    refine si_if_ne (pc := 32) hE dX2_step_2_32 (by decide) h47 ?_
    refine si_iload_n (pc := 35) hE dX2_step_2_35 rfl ?_
    refine si_if_ne (pc := 36) hE dX2_step_2_36 (by decide) h43 ?_
    refine si_iconst (pc := 39) hE dX2_step_2_39 (by decide) ?_
    exact si_goto (pc := 40) hE dX2_step_2_40 (by decide) h79
  have h0 : E (bX2_step_2_0 g.1 R) 0 := by
    unfold bX2_step_2_0
    refine si_aload_n (pc := 0) hE dX2_step_2_0 rfl ?_
    refine si_iload_n (pc := 1) hE dX2_step_2_1 rfl ?_
    refine si_mc (pc := 2) (n := 1) hE rfl dX2_step_2_2 (eX2_isThere g) rfl q2069 q2071 qs101 q2072 q134 nX2_isThere (by decide) (by decide) ?_
    refine si_if_eq (pc := 5) hE dX2_step_2_5 (by decide) h22 ?_
    refine si_iload_n (pc := 8) hE dX2_step_2_8 rfl ?_
    refine si_if_lt (pc := 9) hE dX2_step_2_9 (by decide) h22 ?_
    refine si_iload_n (pc := 12) hE dX2_step_2_12 rfl ?_
    refine si_aload_n (pc := 13) hE dX2_step_2_13 rfl ?_
    refine si_mga (pc := 14) (k := 9) hE rfl dX2_step_2_14 q1668 (by decide) rfl (fun _ => rfl) ?_
    refine si_iload_n (pc := 17) hE dX2_step_2_17 rfl ?_
    refine si_mia (pc := 18) (k := 9) hE dX2_step_2_18 (by decide) rfl ?_
    refine si_icmp_lt (pc := 19) hE dX2_step_2_19 (by decide) h24 ?_
    exact h22
  exact h0
def bX2_home_10 (mo : Nat) (R : Ret MS) : Cont MS :=
    o_al 0 <|
    o_mga mo 57 <|
    o_il 1 <|
    o_mia mo 57 <|
    o_is 2 <|
    o_al 0 <|
    o_mga mo 57 <|
    o_il 1 <|
    o_ic 0 <|
    o_mis mo 57 <|
    o_il 2 <|
    o_ireturn R
def bX2_home_0 (mo : Nat) (R : Ret MS) : Cont MS :=
    o_al 0 <|
    o_il 1 <|
    o_mc mo 2 (pX2_isThere mo) R <|
    o_if_ne (bX2_home_10 mo R) <|
    o_ic (-1) <|
    o_ireturn R
def pX2_home (mo : Nat) : PT MS := fun as σ Q => (lg_sl as).length ≤ 3 ∧ bX2_home_0 mo Q (entP 3 as) [] σ
theorem nX2_home : parN yX2_home 1 := by unfold parN; decide +kernel
set_option maxHeartbeats 4000000 in
theorem eX2_home (g : GM) : CT (wM g) yX2_home (Cond.code yX2_home cX2_home 3 (some .int)) 1 21 (pX2_home g.1) := by
  refine CT.of (wM_ok g) (cc := cX2_home) (nL := 3) (ret := (some .int)) (ht := []) (by decide +kernel) (Or.inl ⟨rfl, rfl⟩) (B := bX2_home_0 g.1) (fun R E X hE => ?_)
  have h10 : E (bX2_home_10 g.1 R) 10 := by
    unfold bX2_home_10
    refine si_aload_n (pc := 10) hE dX2_home_10 rfl ?_
    refine si_mga (pc := 11) (k := 57) hE rfl dX2_home_11 q1716 (by decide) rfl (fun _ => rfl) ?_
    refine si_iload_n (pc := 14) hE dX2_home_14 rfl ?_
    refine si_mia (pc := 15) (k := 57) hE dX2_home_15 (by decide) rfl ?_
    refine si_istore_n (pc := 16) hE dX2_home_16 rfl (by decide) ?_
    refine si_aload_n (pc := 17) hE dX2_home_17 rfl ?_
    refine si_mga (pc := 18) (k := 57) hE rfl dX2_home_18 q1716 (by decide) rfl (fun _ => rfl) ?_
    refine si_iload_n (pc := 21) hE dX2_home_21 rfl ?_
    refine si_iconst (pc := 22) hE dX2_home_22 (by decide) ?_
    refine si_mis (pc := 23) (k := 57) hE dX2_home_23 (by decide) rfl ?_
    refine si_iload_n (pc := 24) hE dX2_home_24 rfl ?_
    exact si_ireturn (pc := 25) hE dX2_home_25
  have h0 : E (bX2_home_0 g.1 R) 0 := by
    unfold bX2_home_0
    refine si_aload_n (pc := 0) hE dX2_home_0 rfl ?_
    refine si_iload_n (pc := 1) hE dX2_home_1 rfl ?_
    refine si_mc (pc := 2) (n := 1) hE rfl dX2_home_2 (eX2_isThere g) rfl q2069 q2071 qs101 q2072 q134 nX2_isThere (by decide) (by decide) ?_
    refine si_if_ne (pc := 5) hE dX2_home_5 (by decide) h10 ?_
    refine si_iconst (pc := 8) hE dX2_home_8 (by decide) ?_
    exact si_ireturn (pc := 9) hE dX2_home_9
  exact h0
def bX2_worksAt_51 (mo : Nat) (R : Ret MS) : Cont MS :=
    o_iadd <|
    o_ireturn R
def bX2_worksAt_50 (mo : Nat) (R : Ret MS) : Cont MS :=
    o_ic 0 <|
    (bX2_worksAt_51 mo R)
def bX2_worksAt_17 (mo : Nat) (R : Ret MS) : Cont MS :=
    o_al 0 <|
    o_mga mo 18 <|
    o_ic 240 <|
    o_il 1 <|
    o_imul <|
    o_il 4 <|
    o_iadd <|
    o_mia mo 18 <|
    o_il 3 <|
    o_icmp_ne (bX2_worksAt_50 mo R) <|
    o_al 0 <|
    o_il 1 <|
    o_il 2 <|
    o_il 3 <|
    o_il 4 <|
    o_mc mo 5 (pX2_isTaken mo) R <|
    o_if_ne (bX2_worksAt_50 mo R) <|
    o_ic 1 <|
    (bX2_worksAt_51 mo R)
def bX2_worksAt_16 (mo : Nat) (R : Ret MS) : Cont MS :=
    o_ic 0 <|
    (bX2_worksAt_17 mo R)
def bX2_worksAt_0 (mo : Nat) (R : Ret MS) : Cont MS :=
    o_al 0 <|
    o_il 1 <|
    o_il 2 <|
    o_il 3 <|
    o_il 4 <|
    o_mc mo 5 (pX2_isSet mo) R <|
    o_if_eq (bX2_worksAt_16 mo R) <|
    o_ic 1 <|
    (bX2_worksAt_17 mo R)
def pX2_worksAt (mo : Nat) : PT MS := fun as σ Q => (lg_sl as).length ≤ 5 ∧ bX2_worksAt_0 mo Q (entP 5 as) [] σ
theorem nX2_worksAt : parN yX2_worksAt 4 := by unfold parN; decide +kernel
set_option maxHeartbeats 4000000 in
theorem eX2_worksAt (g : GM) : CT (wM g) yX2_worksAt (Cond.code yX2_worksAt cX2_worksAt 5 (some .int)) 2 48 (pX2_worksAt g.1) := by
  refine CT.of (wM_ok g) (cc := cX2_worksAt) (nL := 5) (ret := (some .int)) (ht := []) (by decide +kernel) (Or.inl ⟨rfl, rfl⟩) (B := bX2_worksAt_0 g.1) (fun R E X hE => ?_)
  have h51 : E (bX2_worksAt_51 g.1 R) 51 := by
    unfold bX2_worksAt_51
    refine si_iadd (pc := 51) hE dX2_worksAt_51 ?_
    exact si_ireturn (pc := 52) hE dX2_worksAt_52
  have h50 : E (bX2_worksAt_50 g.1 R) 50 := by
    unfold bX2_worksAt_50
    refine si_iconst (pc := 50) hE dX2_worksAt_50 (by decide) ?_
    exact h51
  have h17 : E (bX2_worksAt_17 g.1 R) 17 := by
    unfold bX2_worksAt_17
    refine si_aload_n (pc := 17) hE dX2_worksAt_17 rfl ?_
    refine si_mga (pc := 18) (k := 18) hE rfl dX2_worksAt_18 q1677 (by decide) rfl (fun _ => rfl) ?_
    refine si_sipush (pc := 21) hE dX2_worksAt_21 (by decide) ?_
    refine si_iload_n (pc := 24) hE dX2_worksAt_24 rfl ?_
    refine si_imul (pc := 25) hE dX2_worksAt_25 ?_
    refine si_iload (pc := 26) hE dX2_worksAt_26 ?_
    refine si_iadd (pc := 28) hE dX2_worksAt_28 ?_
    refine si_mia (pc := 29) (k := 18) hE dX2_worksAt_29 (by decide) rfl ?_
    refine si_iload_n (pc := 30) hE dX2_worksAt_30 rfl ?_
    refine si_icmp_ne (pc := 31) hE dX2_worksAt_31 (by decide) h50 ?_
    refine si_aload_n (pc := 34) hE dX2_worksAt_34 rfl ?_
    refine si_iload_n (pc := 35) hE dX2_worksAt_35 rfl ?_
    refine si_iload_n (pc := 36) hE dX2_worksAt_36 rfl ?_
    refine si_iload_n (pc := 37) hE dX2_worksAt_37 rfl ?_
    refine si_iload (pc := 38) hE dX2_worksAt_38 ?_
    refine si_mc (pc := 40) (n := 4) hE rfl dX2_worksAt_40 (eX2_isTaken g) rfl q2105 q2107 qs106 q2108 q134 nX2_isTaken (by decide) (by decide) ?_
    refine si_if_ne (pc := 43) hE dX2_worksAt_43 (by decide) h50 ?_
    refine si_iconst (pc := 46) hE dX2_worksAt_46 (by decide) ?_
    exact si_goto (pc := 47) hE dX2_worksAt_47 (by decide) h51
  have h16 : E (bX2_worksAt_16 g.1 R) 16 := by
    unfold bX2_worksAt_16
    refine si_iconst (pc := 16) hE dX2_worksAt_16 (by decide) ?_
    exact h17
  have h0 : E (bX2_worksAt_0 g.1 R) 0 := by
    unfold bX2_worksAt_0
    refine si_aload_n (pc := 0) hE dX2_worksAt_0 rfl ?_
    refine si_iload_n (pc := 1) hE dX2_worksAt_1 rfl ?_
    refine si_iload_n (pc := 2) hE dX2_worksAt_2 rfl ?_
    refine si_iload_n (pc := 3) hE dX2_worksAt_3 rfl ?_
    refine si_iload (pc := 4) hE dX2_worksAt_4 ?_
    refine si_mc (pc := 6) (n := 4) hE rfl dX2_worksAt_6 (eX2_isSet g) rfl q2101 q2103 qs105 q2104 q134 nX2_isSet (by decide) (by decide) ?_
    refine si_if_eq (pc := 9) hE dX2_worksAt_9 (by decide) h16 ?_
    refine si_iconst (pc := 12) hE dX2_worksAt_12 (by decide) ?_
    exact si_goto (pc := 13) hE dX2_worksAt_13 (by decide) h17
  exact h0
def bX2_works_17 (mo : Nat) (R : Ret MS) : Cont MS :=
    o_ic (-1) <|
    o_ireturn R
def bX2_works_189 (mo : Nat) (R : Ret MS) : Cont MS :=
    o_il 4 <|
    o_ireturn R
def bX2_works_183 (mo : Nat) (R : Ret MS) (J25 : Cont MS) : Cont MS :=
    o_iinc 5 1 <|
    (o_kill [6, 7, 8] J25)
def bX2_works_122 (mo : Nat) (R : Ret MS) (J25 : Cont MS) : Cont MS :=
    o_al 0 <|
    o_il 1 <|
    o_ic 240 <|
    o_il 1 <|
    o_imul <|
    o_il 7 <|
    o_iadd <|
    o_al 0 <|
    o_mga mo 58 <|
    o_ic 60 <|
    o_il 1 <|
    o_imul <|
    o_il 5 <|
    o_iadd <|
    o_ic 1 <|
    o_iadd <|
    o_mia mo 58 <|
    o_mc mo 4 (pX2_passes mo) R <|
    o_is 8 <|
    o_al 0 <|
    o_mga mo 15 <|
    o_ic 240 <|
    o_il 1 <|
    o_imul <|
    o_il 8 <|
    o_iadd <|
    o_mia mo 15 <|
    o_ic 7 <|
    o_icmp_ne (bX2_works_183 mo R J25) <|
    o_il 4 <|
    o_al 0 <|
    o_il 1 <|
    o_il 2 <|
    o_il 3 <|
    o_il 8 <|
    o_mc mo 5 (pX2_worksAt mo) R <|
    o_iadd <|
    o_is 4 <|
    (bX2_works_183 mo R J25)
def bX2_works_106 (mo : Nat) (R : Ret MS) (J25 : Cont MS) : Cont MS :=
    o_il 5 <|
    o_ic 1 <|
    o_iadd <|
    o_al 0 <|
    o_mga mo 57 <|
    o_il 1 <|
    o_mia mo 57 <|
    o_icmp_ne (bX2_works_122 mo R J25) <|
    (bX2_works_183 mo R J25)
def bX2_works_79 (mo : Nat) (R : Ret MS) (J25 : Cont MS) : Cont MS :=
    fixC fun J79 =>
    o_il 8 <|
    o_il 7 <|
    o_icmp_gt (bX2_works_106 mo R J25) <|
    o_il 4 <|
    o_al 0 <|
    o_il 1 <|
    o_il 2 <|
    o_il 3 <|
    o_il 8 <|
    o_mc mo 5 (pX2_worksAt mo) R <|
    o_iadd <|
    o_is 4 <|
    o_iinc 8 1 <|
    (o_kill [6] J79)
def bX2_works_25 (mo : Nat) (R : Ret MS) : Cont MS :=
    fixC fun J25 =>
    o_il 5 <|
    o_al 0 <|
    o_mga mo 57 <|
    o_il 1 <|
    o_mia mo 57 <|
    o_icmp_ge (bX2_works_189 mo R) <|
    o_al 0 <|
    o_mga mo 58 <|
    o_ic 60 <|
    o_il 1 <|
    o_imul <|
    o_il 5 <|
    o_iadd <|
    o_mia mo 58 <|
    o_is 6 <|
    o_al 0 <|
    o_il 1 <|
    o_il 6 <|
    o_mc mo 3 (pX2_end mo) R <|
    o_ic 240 <|
    o_il 1 <|
    o_imul <|
    o_isub <|
    o_is 7 <|
    o_al 0 <|
    o_mga mo 13 <|
    o_ic 41 <|
    o_il 1 <|
    o_imul <|
    o_il 6 <|
    o_iadd <|
    o_mia mo 13 <|
    o_is 8 <|
    (o_kill [6] (bX2_works_79 mo R J25))
def bX2_works_19 (mo : Nat) (R : Ret MS) : Cont MS :=
    o_ic 0 <|
    o_is 4 <|
    o_ic 0 <|
    o_is 5 <|
    (o_kill [6, 7, 8] (bX2_works_25 mo R))
def bX2_works_0 (mo : Nat) (R : Ret MS) : Cont MS :=
    o_al 0 <|
    o_il 1 <|
    o_il 3 <|
    o_mc mo 3 (pX2_isSum mo) R <|
    o_if_eq (bX2_works_17 mo R) <|
    o_al 0 <|
    o_il 2 <|
    o_mc mo 2 (pX2_isPlacing mo) R <|
    o_if_ne (bX2_works_19 mo R) <|
    (bX2_works_17 mo R)
def pX2_works (mo : Nat) : PT MS := fun as σ Q => (lg_sl as).length ≤ 9 ∧ bX2_works_0 mo Q (entP 9 as) [] σ
theorem nX2_works : parN yX2_works 3 := by unfold parN; decide +kernel
set_option maxHeartbeats 4000000 in
theorem eX2_works (g : GM) : CT (wM g) yX2_works (Cond.code yX2_works cX2_works 9 (some .int)) 3 72 (pX2_works g.1) := by
  refine CT.of (wM_ok g) (cc := cX2_works) (nL := 9) (ret := (some .int)) (ht := []) (by decide +kernel) (Or.inl ⟨rfl, rfl⟩) (B := bX2_works_0 g.1) (fun R E X hE => ?_)
  have h17 : E (bX2_works_17 g.1 R) 17 := by
    unfold bX2_works_17
    refine si_iconst (pc := 17) hE dX2_works_17 (by decide) ?_
    exact si_ireturn (pc := 18) hE dX2_works_18
  have h189 : E (bX2_works_189 g.1 R) 189 := by
    unfold bX2_works_189
    refine si_iload (pc := 189) hE dX2_works_189 ?_
    exact si_ireturn (pc := 191) hE dX2_works_191
  have h183 : ∀ (J25 : Cont MS) (hJ25 : E J25 25), E (bX2_works_183 g.1 R J25) 183 := by
    intro J25 hJ25
    unfold bX2_works_183
    refine si_iinc (pc := 183) hE dX2_works_183 (by decide) (by decide) ?_
    exact si_goto (pc := 186) hE dX2_works_186 (by decide) (si_kill hE hJ25)
  have h122 : ∀ (J25 : Cont MS) (hJ25 : E J25 25), E (bX2_works_122 g.1 R J25) 122 := by
    intro J25 hJ25
    unfold bX2_works_122
    refine si_aload_n (pc := 122) hE dX2_works_122 rfl ?_
    refine si_iload_n (pc := 123) hE dX2_works_123 rfl ?_
    refine si_sipush (pc := 124) hE dX2_works_124 (by decide) ?_
    refine si_iload_n (pc := 127) hE dX2_works_127 rfl ?_
    refine si_imul (pc := 128) hE dX2_works_128 ?_
    refine si_iload (pc := 129) hE dX2_works_129 ?_
    refine si_iadd (pc := 131) hE dX2_works_131 ?_
    refine si_aload_n (pc := 132) hE dX2_works_132 rfl ?_
    refine si_mga (pc := 133) (k := 58) hE rfl dX2_works_133 q1717 (by decide) rfl (fun _ => rfl) ?_
    refine si_bipush (pc := 136) hE dX2_works_136 (by decide) ?_
    refine si_iload_n (pc := 138) hE dX2_works_138 rfl ?_
    refine si_imul (pc := 139) hE dX2_works_139 ?_
    refine si_iload (pc := 140) hE dX2_works_140 ?_
    refine si_iadd (pc := 142) hE dX2_works_142 ?_
    refine si_iconst (pc := 143) hE dX2_works_143 (by decide) ?_
    refine si_iadd (pc := 144) hE dX2_works_144 ?_
    refine si_mia (pc := 145) (k := 58) hE dX2_works_145 (by decide) rfl ?_
    refine si_mc (pc := 146) (n := 3) hE rfl dX2_works_146 (eX2_passes g) rfl q2169 q2171 qs112 q2172 q134 nX2_passes (by decide) (by decide) ?_
    refine si_istore (pc := 149) hE dX2_works_149 (by decide) ?_
    refine si_aload_n (pc := 151) hE dX2_works_151 rfl ?_
    refine si_mga (pc := 152) (k := 15) hE rfl dX2_works_152 q1674 (by decide) rfl (fun _ => rfl) ?_
    refine si_sipush (pc := 155) hE dX2_works_155 (by decide) ?_
    refine si_iload_n (pc := 158) hE dX2_works_158 rfl ?_
    refine si_imul (pc := 159) hE dX2_works_159 ?_
    refine si_iload (pc := 160) hE dX2_works_160 ?_
    refine si_iadd (pc := 162) hE dX2_works_162 ?_
    refine si_mia (pc := 163) (k := 15) hE dX2_works_163 (by decide) rfl ?_
    refine si_bipush (pc := 164) hE dX2_works_164 (by decide) ?_
    refine si_icmp_ne (pc := 166) hE dX2_works_166 (by decide) (h183 J25 hJ25) ?_
    refine si_iload (pc := 169) hE dX2_works_169 ?_
    refine si_aload_n (pc := 171) hE dX2_works_171 rfl ?_
    refine si_iload_n (pc := 172) hE dX2_works_172 rfl ?_
    refine si_iload_n (pc := 173) hE dX2_works_173 rfl ?_
    refine si_iload_n (pc := 174) hE dX2_works_174 rfl ?_
    refine si_iload (pc := 175) hE dX2_works_175 ?_
    refine si_mc (pc := 177) (n := 4) hE rfl dX2_works_177 (eX2_worksAt g) rfl q2181 q2183 qs113 q2184 q134 nX2_worksAt (by decide) (by decide) ?_
    refine si_iadd (pc := 180) hE dX2_works_180 ?_
    refine si_istore (pc := 181) hE dX2_works_181 (by decide) ?_
    exact (h183 J25 hJ25)
  have h106 : ∀ (J25 : Cont MS) (hJ25 : E J25 25), E (bX2_works_106 g.1 R J25) 106 := by
    intro J25 hJ25
    unfold bX2_works_106
    refine si_iload (pc := 106) hE dX2_works_106 ?_
    refine si_iconst (pc := 108) hE dX2_works_108 (by decide) ?_
    refine si_iadd (pc := 109) hE dX2_works_109 ?_
    refine si_aload_n (pc := 110) hE dX2_works_110 rfl ?_
    refine si_mga (pc := 111) (k := 57) hE rfl dX2_works_111 q1716 (by decide) rfl (fun _ => rfl) ?_
    refine si_iload_n (pc := 114) hE dX2_works_114 rfl ?_
    refine si_mia (pc := 115) (k := 57) hE dX2_works_115 (by decide) rfl ?_
    refine si_icmp_ne (pc := 116) hE dX2_works_116 (by decide) (h122 J25 hJ25) ?_
    exact si_goto (pc := 119) hE dX2_works_119 (by decide) (h183 J25 hJ25)
  have h79 : ∀ (J25 : Cont MS) (hJ25 : E J25 25), E (bX2_works_79 g.1 R J25) 79 := by
    intro J25 hJ25
    unfold bX2_works_79
    refine si_fix hE (fun J79 hJ79 => ?_)
    refine si_iload (pc := 79) hE dX2_works_79 ?_
    refine si_iload (pc := 81) hE dX2_works_81 ?_
    refine si_icmp_gt (pc := 83) hE dX2_works_83 (by decide) (h106 J25 hJ25) ?_
    refine si_iload (pc := 86) hE dX2_works_86 ?_
    refine si_aload_n (pc := 88) hE dX2_works_88 rfl ?_
    refine si_iload_n (pc := 89) hE dX2_works_89 rfl ?_
    refine si_iload_n (pc := 90) hE dX2_works_90 rfl ?_
    refine si_iload_n (pc := 91) hE dX2_works_91 rfl ?_
    refine si_iload (pc := 92) hE dX2_works_92 ?_
    refine si_mc (pc := 94) (n := 4) hE rfl dX2_works_94 (eX2_worksAt g) rfl q2181 q2183 qs113 q2184 q134 nX2_worksAt (by decide) (by decide) ?_
    refine si_iadd (pc := 97) hE dX2_works_97 ?_
    refine si_istore (pc := 98) hE dX2_works_98 (by decide) ?_
    refine si_iinc (pc := 100) hE dX2_works_100 (by decide) (by decide) ?_
    exact si_goto (pc := 103) hE dX2_works_103 (by decide) (si_kill hE hJ79)
  have h25 : E (bX2_works_25 g.1 R) 25 := by
    unfold bX2_works_25
    refine si_fix hE (fun J25 hJ25 => ?_)
    refine si_iload (pc := 25) hE dX2_works_25 ?_
    refine si_aload_n (pc := 27) hE dX2_works_27 rfl ?_
    refine si_mga (pc := 28) (k := 57) hE rfl dX2_works_28 q1716 (by decide) rfl (fun _ => rfl) ?_
    refine si_iload_n (pc := 31) hE dX2_works_31 rfl ?_
    refine si_mia (pc := 32) (k := 57) hE dX2_works_32 (by decide) rfl ?_
    refine si_icmp_ge (pc := 33) hE dX2_works_33 (by decide) h189 ?_
    refine si_aload_n (pc := 36) hE dX2_works_36 rfl ?_
    refine si_mga (pc := 37) (k := 58) hE rfl dX2_works_37 q1717 (by decide) rfl (fun _ => rfl) ?_
    refine si_bipush (pc := 40) hE dX2_works_40 (by decide) ?_
    refine si_iload_n (pc := 42) hE dX2_works_42 rfl ?_
    refine si_imul (pc := 43) hE dX2_works_43 ?_
    refine si_iload (pc := 44) hE dX2_works_44 ?_
    refine si_iadd (pc := 46) hE dX2_works_46 ?_
    refine si_mia (pc := 47) (k := 58) hE dX2_works_47 (by decide) rfl ?_
    refine si_istore (pc := 48) hE dX2_works_48 (by decide) ?_
    refine si_aload_n (pc := 50) hE dX2_works_50 rfl ?_
    refine si_iload_n (pc := 51) hE dX2_works_51 rfl ?_
    refine si_iload (pc := 52) hE dX2_works_52 ?_
    refine si_mc (pc := 54) (n := 2) hE rfl dX2_works_54 (eX2_end g) rfl q2165 q2167 qs111 q2168 q134 nX2_end (by decide) (by decide) ?_
    refine si_sipush (pc := 57) hE dX2_works_57 (by decide) ?_
    refine si_iload_n (pc := 60) hE dX2_works_60 rfl ?_
    refine si_imul (pc := 61) hE dX2_works_61 ?_
    refine si_isub (pc := 62) hE dX2_works_62 ?_
    refine si_istore (pc := 63) hE dX2_works_63 (by decide) ?_
    refine si_aload_n (pc := 65) hE dX2_works_65 rfl ?_
    refine si_mga (pc := 66) (k := 13) hE rfl dX2_works_66 q1672 (by decide) rfl (fun _ => rfl) ?_
    refine si_bipush (pc := 69) hE dX2_works_69 (by decide) ?_
    refine si_iload_n (pc := 71) hE dX2_works_71 rfl ?_
    refine si_imul (pc := 72) hE dX2_works_72 ?_
    refine si_iload (pc := 73) hE dX2_works_73 ?_
    refine si_iadd (pc := 75) hE dX2_works_75 ?_
    refine si_mia (pc := 76) (k := 13) hE dX2_works_76 (by decide) rfl ?_
    refine si_istore (pc := 77) hE dX2_works_77 (by decide) ?_
    exact (si_kill hE (h79 J25 hJ25))
  have h19 : E (bX2_works_19 g.1 R) 19 := by
    unfold bX2_works_19
    refine si_iconst (pc := 19) hE dX2_works_19 (by decide) ?_
    refine si_istore (pc := 20) hE dX2_works_20 (by decide) ?_
    refine si_iconst (pc := 22) hE dX2_works_22 (by decide) ?_
    refine si_istore (pc := 23) hE dX2_works_23 (by decide) ?_
    exact (si_kill hE h25)
  have h0 : E (bX2_works_0 g.1 R) 0 := by
    unfold bX2_works_0
    refine si_aload_n (pc := 0) hE dX2_works_0 rfl ?_
    refine si_iload_n (pc := 1) hE dX2_works_1 rfl ?_
    refine si_iload_n (pc := 2) hE dX2_works_2 rfl ?_
    refine si_mc (pc := 3) (n := 2) hE rfl dX2_works_3 (eX2_isSum g) rfl q2081 q2083 qs102 q2084 q134 nX2_isSum (by decide) (by decide) ?_
    refine si_if_eq (pc := 6) hE dX2_works_6 (by decide) h17 ?_
    refine si_aload_n (pc := 9) hE dX2_works_9 rfl ?_
    refine si_iload_n (pc := 10) hE dX2_works_10 rfl ?_
    refine si_mc (pc := 11) (n := 1) hE rfl dX2_works_11 (eX2_isPlacing g) rfl q2097 q2099 qs104 q2100 q134 nX2_isPlacing (by decide) (by decide) ?_
    refine si_if_ne (pc := 14) hE dX2_works_14 (by decide) h19 ?_
    exact h17
  exact h0
def bX2_hasT_215 (mo : Nat) (R : Ret MS) : Cont MS :=
    o_il 2 <|
    o_zreturn R
def bX2_hasT_208 (mo : Nat) (R : Ret MS) (J162 : Cont MS) : Cont MS :=
    o_is 2 <|
    o_iinc 3 1 <|
    (o_kill [4, 5] J162)
def bX2_hasT_203 (mo : Nat) (R : Ret MS) (J162 : Cont MS) : Cont MS :=
    o_ic 1 <|
    (bX2_hasT_208 mo R J162)
def bX2_hasT_207 (mo : Nat) (R : Ret MS) (J162 : Cont MS) : Cont MS :=
    o_ic 0 <|
    (bX2_hasT_208 mo R J162)
def bX2_hasT_162 (mo : Nat) (R : Ret MS) : Cont MS :=
    fixC fun J162 =>
    o_il 3 <|
    o_ic 32 <|
    o_il 1 <|
    o_imul <|
    o_al 0 <|
    o_mga mo 12 <|
    o_il 1 <|
    o_mia mo 12 <|
    o_iadd <|
    o_icmp_ge (bX2_hasT_215 mo R) <|
    o_il 2 <|
    o_if_ne (bX2_hasT_203 mo R J162) <|
    o_al 0 <|
    o_mga mo 27 <|
    o_il 3 <|
    o_mia mo 27 <|
    o_ic 16 <|
    o_icmp_ge (bX2_hasT_203 mo R J162) <|
    o_al 0 <|
    o_mga mo 29 <|
    o_il 3 <|
    o_mia mo 29 <|
    o_ic 16 <|
    o_icmp_lt (bX2_hasT_207 mo R J162) <|
    (bX2_hasT_203 mo R J162)
def bX2_hasT_157 (mo : Nat) (R : Ret MS) : Cont MS :=
    o_ic 32 <|
    o_il 1 <|
    o_imul <|
    o_is 3 <|
    (o_kill [4, 5] (bX2_hasT_162 mo R))
def bX2_hasT_150 (mo : Nat) (R : Ret MS) (J8 : Cont MS) : Cont MS :=
    o_is 2 <|
    o_iinc 3 1 <|
    (o_kill [4, 5] J8)
def bX2_hasT_145 (mo : Nat) (R : Ret MS) (J8 : Cont MS) : Cont MS :=
    o_ic 1 <|
    (bX2_hasT_150 mo R J8)
def bX2_hasT_149 (mo : Nat) (R : Ret MS) (J8 : Cont MS) : Cont MS :=
    o_ic 0 <|
    (bX2_hasT_150 mo R J8)
def bX2_hasT_129 (mo : Nat) (R : Ret MS) (J8 : Cont MS) : Cont MS :=
    o_il 5 <|
    o_if_eq (bX2_hasT_149 mo R J8) <|
    o_al 0 <|
    o_mga mo 23 <|
    o_il 3 <|
    o_mia mo 23 <|
    o_ic 16 <|
    o_icmp_lt (bX2_hasT_149 mo R J8) <|
    (bX2_hasT_145 mo R J8)
def bX2_hasT_96 (mo : Nat) (R : Ret MS) (J8 : Cont MS) : Cont MS :=
    o_is 5 <|
    o_il 2 <|
    o_if_ne (bX2_hasT_145 mo R J8) <|
    o_al 0 <|
    o_mga mo 17 <|
    o_il 3 <|
    o_mia mo 17 <|
    o_ic 16 <|
    o_icmp_ge (bX2_hasT_145 mo R J8) <|
    o_il 4 <|
    o_if_eq (bX2_hasT_129 mo R J8) <|
    o_al 0 <|
    o_mga mo 21 <|
    o_il 3 <|
    o_mia mo 21 <|
    o_ic 16 <|
    o_icmp_ge (bX2_hasT_145 mo R J8) <|
    (bX2_hasT_129 mo R J8)
def bX2_hasT_91 (mo : Nat) (R : Ret MS) (J8 : Cont MS) : Cont MS :=
    o_ic 1 <|
    (bX2_hasT_96 mo R J8)
def bX2_hasT_95 (mo : Nat) (R : Ret MS) (J8 : Cont MS) : Cont MS :=
    o_ic 0 <|
    (bX2_hasT_96 mo R J8)
def bX2_hasT_69 (mo : Nat) (R : Ret MS) (J8 : Cont MS) : Cont MS :=
    o_is 4 <|
    o_al 0 <|
    o_mga mo 15 <|
    o_il 3 <|
    o_mia mo 15 <|
    o_ic 2 <|
    o_icmp_eq (bX2_hasT_91 mo R J8) <|
    o_al 0 <|
    o_mga mo 15 <|
    o_il 3 <|
    o_mia mo 15 <|
    o_ic 5 <|
    o_icmp_ne (bX2_hasT_95 mo R J8) <|
    (bX2_hasT_91 mo R J8)
def bX2_hasT_64 (mo : Nat) (R : Ret MS) (J8 : Cont MS) : Cont MS :=
    o_ic 1 <|
    (bX2_hasT_69 mo R J8)
def bX2_hasT_68 (mo : Nat) (R : Ret MS) (J8 : Cont MS) : Cont MS :=
    o_ic 0 <|
    (bX2_hasT_69 mo R J8)
def bX2_hasT_8 (mo : Nat) (R : Ret MS) : Cont MS :=
    fixC fun J8 =>
    o_il 3 <|
    o_ic 240 <|
    o_il 1 <|
    o_imul <|
    o_al 0 <|
    o_mga mo 11 <|
    o_il 1 <|
    o_mia mo 11 <|
    o_iadd <|
    o_icmp_ge (bX2_hasT_157 mo R) <|
    o_al 0 <|
    o_mga mo 15 <|
    o_il 3 <|
    o_mia mo 15 <|
    o_ic 1 <|
    o_icmp_eq (bX2_hasT_64 mo R J8) <|
    o_al 0 <|
    o_mga mo 15 <|
    o_il 3 <|
    o_mia mo 15 <|
    o_ic 2 <|
    o_icmp_eq (bX2_hasT_64 mo R J8) <|
    o_al 0 <|
    o_mga mo 15 <|
    o_il 3 <|
    o_mia mo 15 <|
    o_ic 3 <|
    o_icmp_eq (bX2_hasT_64 mo R J8) <|
    o_al 0 <|
    o_mga mo 15 <|
    o_il 3 <|
    o_mia mo 15 <|
    o_ic 5 <|
    o_icmp_ne (bX2_hasT_68 mo R J8) <|
    (bX2_hasT_64 mo R J8)
def bX2_hasT_0 (mo : Nat) (R : Ret MS) : Cont MS :=
    o_ic 0 <|
    o_is 2 <|
    o_ic 240 <|
    o_il 1 <|
    o_imul <|
    o_is 3 <|
    (o_kill [4, 5] (bX2_hasT_8 mo R))
def pX2_hasT (mo : Nat) : PT MS := fun as σ Q => (lg_sl as).length ≤ 6 ∧ bX2_hasT_0 mo Q (entP 6 as) [] σ
theorem nX2_hasT : parN yX2_hasT 1 := by unfold parN; decide +kernel
set_option maxHeartbeats 4000000 in
theorem eX2_hasT (g : GM) : CT (wM g) yX2_hasT (Cond.code yX2_hasT cX2_hasT 6 (some .boolean)) 0 0 (pX2_hasT g.1) := by
  refine CT.of (wM_ok g) (cc := cX2_hasT) (nL := 6) (ret := (some .boolean)) (ht := []) (by decide +kernel) (Or.inl ⟨rfl, rfl⟩) (B := bX2_hasT_0 g.1) (fun R E X hE => ?_)
  have h215 : E (bX2_hasT_215 g.1 R) 215 := by
    unfold bX2_hasT_215
    refine si_iload_n (pc := 215) hE dX2_hasT_215 rfl ?_
    exact si_zreturn (pc := 216) hE dX2_hasT_216
  have h208 : ∀ (J162 : Cont MS) (hJ162 : E J162 162), E (bX2_hasT_208 g.1 R J162) 208 := by
    intro J162 hJ162
    unfold bX2_hasT_208
    refine si_istore_n (pc := 208) hE dX2_hasT_208 rfl (by decide) ?_
    refine si_iinc (pc := 209) hE dX2_hasT_209 (by decide) (by decide) ?_
    exact si_goto (pc := 212) hE dX2_hasT_212 (by decide) (si_kill hE hJ162)
  have h203 : ∀ (J162 : Cont MS) (hJ162 : E J162 162), E (bX2_hasT_203 g.1 R J162) 203 := by
    intro J162 hJ162
    unfold bX2_hasT_203
    refine si_iconst (pc := 203) hE dX2_hasT_203 (by decide) ?_
    exact si_goto (pc := 204) hE dX2_hasT_204 (by decide) (h208 J162 hJ162)
  have h207 : ∀ (J162 : Cont MS) (hJ162 : E J162 162), E (bX2_hasT_207 g.1 R J162) 207 := by
    intro J162 hJ162
    unfold bX2_hasT_207
    refine si_iconst (pc := 207) hE dX2_hasT_207 (by decide) ?_
    exact (h208 J162 hJ162)
  have h162 : E (bX2_hasT_162 g.1 R) 162 := by
    unfold bX2_hasT_162
    refine si_fix hE (fun J162 hJ162 => ?_)
    refine si_iload_n (pc := 162) hE dX2_hasT_162 rfl ?_
    refine si_bipush (pc := 163) hE dX2_hasT_163 (by decide) ?_
    refine si_iload_n (pc := 165) hE dX2_hasT_165 rfl ?_
    refine si_imul (pc := 166) hE dX2_hasT_166 ?_
    refine si_aload_n (pc := 167) hE dX2_hasT_167 rfl ?_
    refine si_mga (pc := 168) (k := 12) hE rfl dX2_hasT_168 q1671 (by decide) rfl (fun _ => rfl) ?_
    refine si_iload_n (pc := 171) hE dX2_hasT_171 rfl ?_
    refine si_mia (pc := 172) (k := 12) hE dX2_hasT_172 (by decide) rfl ?_
    refine si_iadd (pc := 173) hE dX2_hasT_173 ?_
    refine si_icmp_ge (pc := 174) hE dX2_hasT_174 (by decide) h215 ?_
    refine si_iload_n (pc := 177) hE dX2_hasT_177 rfl ?_
    refine si_if_ne (pc := 178) hE dX2_hasT_178 (by decide) (h203 J162 hJ162) ?_
    refine si_aload_n (pc := 181) hE dX2_hasT_181 rfl ?_
    refine si_mga (pc := 182) (k := 27) hE rfl dX2_hasT_182 q1686 (by decide) rfl (fun _ => rfl) ?_
    refine si_iload_n (pc := 185) hE dX2_hasT_185 rfl ?_
    refine si_mia (pc := 186) (k := 27) hE dX2_hasT_186 (by decide) rfl ?_
    refine si_bipush (pc := 187) hE dX2_hasT_187 (by decide) ?_
    refine si_icmp_ge (pc := 189) hE dX2_hasT_189 (by decide) (h203 J162 hJ162) ?_
    refine si_aload_n (pc := 192) hE dX2_hasT_192 rfl ?_
    refine si_mga (pc := 193) (k := 29) hE rfl dX2_hasT_193 q1688 (by decide) rfl (fun _ => rfl) ?_
    refine si_iload_n (pc := 196) hE dX2_hasT_196 rfl ?_
    refine si_mia (pc := 197) (k := 29) hE dX2_hasT_197 (by decide) rfl ?_
    refine si_bipush (pc := 198) hE dX2_hasT_198 (by decide) ?_
    refine si_icmp_lt (pc := 200) hE dX2_hasT_200 (by decide) (h207 J162 hJ162) ?_
    exact (h203 J162 hJ162)
  have h157 : E (bX2_hasT_157 g.1 R) 157 := by
    unfold bX2_hasT_157
    refine si_bipush (pc := 157) hE dX2_hasT_157 (by decide) ?_
    refine si_iload_n (pc := 159) hE dX2_hasT_159 rfl ?_
    refine si_imul (pc := 160) hE dX2_hasT_160 ?_
    refine si_istore_n (pc := 161) hE dX2_hasT_161 rfl (by decide) ?_
    exact (si_kill hE h162)
  have h150 : ∀ (J8 : Cont MS) (hJ8 : E J8 8), E (bX2_hasT_150 g.1 R J8) 150 := by
    intro J8 hJ8
    unfold bX2_hasT_150
    refine si_istore_n (pc := 150) hE dX2_hasT_150 rfl (by decide) ?_
    refine si_iinc (pc := 151) hE dX2_hasT_151 (by decide) (by decide) ?_
    exact si_goto (pc := 154) hE dX2_hasT_154 (by decide) (si_kill hE hJ8)
  have h145 : ∀ (J8 : Cont MS) (hJ8 : E J8 8), E (bX2_hasT_145 g.1 R J8) 145 := by
    intro J8 hJ8
    unfold bX2_hasT_145
    refine si_iconst (pc := 145) hE dX2_hasT_145 (by decide) ?_
    exact si_goto (pc := 146) hE dX2_hasT_146 (by decide) (h150 J8 hJ8)
  have h149 : ∀ (J8 : Cont MS) (hJ8 : E J8 8), E (bX2_hasT_149 g.1 R J8) 149 := by
    intro J8 hJ8
    unfold bX2_hasT_149
    refine si_iconst (pc := 149) hE dX2_hasT_149 (by decide) ?_
    exact (h150 J8 hJ8)
  have h129 : ∀ (J8 : Cont MS) (hJ8 : E J8 8), E (bX2_hasT_129 g.1 R J8) 129 := by
    intro J8 hJ8
    unfold bX2_hasT_129
    refine si_iload (pc := 129) hE dX2_hasT_129 ?_
    refine si_if_eq (pc := 131) hE dX2_hasT_131 (by decide) (h149 J8 hJ8) ?_
    refine si_aload_n (pc := 134) hE dX2_hasT_134 rfl ?_
    refine si_mga (pc := 135) (k := 23) hE rfl dX2_hasT_135 q1682 (by decide) rfl (fun _ => rfl) ?_
    refine si_iload_n (pc := 138) hE dX2_hasT_138 rfl ?_
    refine si_mia (pc := 139) (k := 23) hE dX2_hasT_139 (by decide) rfl ?_
    refine si_bipush (pc := 140) hE dX2_hasT_140 (by decide) ?_
    refine si_icmp_lt (pc := 142) hE dX2_hasT_142 (by decide) (h149 J8 hJ8) ?_
    exact (h145 J8 hJ8)
  have h96 : ∀ (J8 : Cont MS) (hJ8 : E J8 8), E (bX2_hasT_96 g.1 R J8) 96 := by
    intro J8 hJ8
    unfold bX2_hasT_96
    refine si_istore (pc := 96) hE dX2_hasT_96 (by decide) ?_
    refine si_iload_n (pc := 98) hE dX2_hasT_98 rfl ?_
    refine si_if_ne (pc := 99) hE dX2_hasT_99 (by decide) (h145 J8 hJ8) ?_
    refine si_aload_n (pc := 102) hE dX2_hasT_102 rfl ?_
    refine si_mga (pc := 103) (k := 17) hE rfl dX2_hasT_103 q1676 (by decide) rfl (fun _ => rfl) ?_
    refine si_iload_n (pc := 106) hE dX2_hasT_106 rfl ?_
    refine si_mia (pc := 107) (k := 17) hE dX2_hasT_107 (by decide) rfl ?_
    refine si_bipush (pc := 108) hE dX2_hasT_108 (by decide) ?_
    refine si_icmp_ge (pc := 110) hE dX2_hasT_110 (by decide) (h145 J8 hJ8) ?_
    refine si_iload (pc := 113) hE dX2_hasT_113 ?_
    refine si_if_eq (pc := 115) hE dX2_hasT_115 (by decide) (h129 J8 hJ8) ?_
    refine si_aload_n (pc := 118) hE dX2_hasT_118 rfl ?_
    refine si_mga (pc := 119) (k := 21) hE rfl dX2_hasT_119 q1680 (by decide) rfl (fun _ => rfl) ?_
    refine si_iload_n (pc := 122) hE dX2_hasT_122 rfl ?_
    refine si_mia (pc := 123) (k := 21) hE dX2_hasT_123 (by decide) rfl ?_
    refine si_bipush (pc := 124) hE dX2_hasT_124 (by decide) ?_
    refine si_icmp_ge (pc := 126) hE dX2_hasT_126 (by decide) (h145 J8 hJ8) ?_
    exact (h129 J8 hJ8)
  have h91 : ∀ (J8 : Cont MS) (hJ8 : E J8 8), E (bX2_hasT_91 g.1 R J8) 91 := by
    intro J8 hJ8
    unfold bX2_hasT_91
    refine si_iconst (pc := 91) hE dX2_hasT_91 (by decide) ?_
    exact si_goto (pc := 92) hE dX2_hasT_92 (by decide) (h96 J8 hJ8)
  have h95 : ∀ (J8 : Cont MS) (hJ8 : E J8 8), E (bX2_hasT_95 g.1 R J8) 95 := by
    intro J8 hJ8
    unfold bX2_hasT_95
    refine si_iconst (pc := 95) hE dX2_hasT_95 (by decide) ?_
    exact (h96 J8 hJ8)
  have h69 : ∀ (J8 : Cont MS) (hJ8 : E J8 8), E (bX2_hasT_69 g.1 R J8) 69 := by
    intro J8 hJ8
    unfold bX2_hasT_69
    refine si_istore (pc := 69) hE dX2_hasT_69 (by decide) ?_
    refine si_aload_n (pc := 71) hE dX2_hasT_71 rfl ?_
    refine si_mga (pc := 72) (k := 15) hE rfl dX2_hasT_72 q1674 (by decide) rfl (fun _ => rfl) ?_
    refine si_iload_n (pc := 75) hE dX2_hasT_75 rfl ?_
    refine si_mia (pc := 76) (k := 15) hE dX2_hasT_76 (by decide) rfl ?_
    refine si_iconst (pc := 77) hE dX2_hasT_77 (by decide) ?_
    refine si_icmp_eq (pc := 78) hE dX2_hasT_78 (by decide) (h91 J8 hJ8) ?_
    refine si_aload_n (pc := 81) hE dX2_hasT_81 rfl ?_
    refine si_mga (pc := 82) (k := 15) hE rfl dX2_hasT_82 q1674 (by decide) rfl (fun _ => rfl) ?_
    refine si_iload_n (pc := 85) hE dX2_hasT_85 rfl ?_
    refine si_mia (pc := 86) (k := 15) hE dX2_hasT_86 (by decide) rfl ?_
    refine si_iconst (pc := 87) hE dX2_hasT_87 (by decide) ?_
    refine si_icmp_ne (pc := 88) hE dX2_hasT_88 (by decide) (h95 J8 hJ8) ?_
    exact (h91 J8 hJ8)
  have h64 : ∀ (J8 : Cont MS) (hJ8 : E J8 8), E (bX2_hasT_64 g.1 R J8) 64 := by
    intro J8 hJ8
    unfold bX2_hasT_64
    refine si_iconst (pc := 64) hE dX2_hasT_64 (by decide) ?_
    exact si_goto (pc := 65) hE dX2_hasT_65 (by decide) (h69 J8 hJ8)
  have h68 : ∀ (J8 : Cont MS) (hJ8 : E J8 8), E (bX2_hasT_68 g.1 R J8) 68 := by
    intro J8 hJ8
    unfold bX2_hasT_68
    refine si_iconst (pc := 68) hE dX2_hasT_68 (by decide) ?_
    exact (h69 J8 hJ8)
  have h8 : E (bX2_hasT_8 g.1 R) 8 := by
    unfold bX2_hasT_8
    refine si_fix hE (fun J8 hJ8 => ?_)
    refine si_iload_n (pc := 8) hE dX2_hasT_8 rfl ?_
    refine si_sipush (pc := 9) hE dX2_hasT_9 (by decide) ?_
    refine si_iload_n (pc := 12) hE dX2_hasT_12 rfl ?_
    refine si_imul (pc := 13) hE dX2_hasT_13 ?_
    refine si_aload_n (pc := 14) hE dX2_hasT_14 rfl ?_
    refine si_mga (pc := 15) (k := 11) hE rfl dX2_hasT_15 q1670 (by decide) rfl (fun _ => rfl) ?_
    refine si_iload_n (pc := 18) hE dX2_hasT_18 rfl ?_
    refine si_mia (pc := 19) (k := 11) hE dX2_hasT_19 (by decide) rfl ?_
    refine si_iadd (pc := 20) hE dX2_hasT_20 ?_
    refine si_icmp_ge (pc := 21) hE dX2_hasT_21 (by decide) h157 ?_
    refine si_aload_n (pc := 24) hE dX2_hasT_24 rfl ?_
    refine si_mga (pc := 25) (k := 15) hE rfl dX2_hasT_25 q1674 (by decide) rfl (fun _ => rfl) ?_
    refine si_iload_n (pc := 28) hE dX2_hasT_28 rfl ?_
    refine si_mia (pc := 29) (k := 15) hE dX2_hasT_29 (by decide) rfl ?_
    refine si_iconst (pc := 30) hE dX2_hasT_30 (by decide) ?_
    refine si_icmp_eq (pc := 31) hE dX2_hasT_31 (by decide) (h64 J8 hJ8) ?_
    refine si_aload_n (pc := 34) hE dX2_hasT_34 rfl ?_
    refine si_mga (pc := 35) (k := 15) hE rfl dX2_hasT_35 q1674 (by decide) rfl (fun _ => rfl) ?_
    refine si_iload_n (pc := 38) hE dX2_hasT_38 rfl ?_
    refine si_mia (pc := 39) (k := 15) hE dX2_hasT_39 (by decide) rfl ?_
    refine si_iconst (pc := 40) hE dX2_hasT_40 (by decide) ?_
    refine si_icmp_eq (pc := 41) hE dX2_hasT_41 (by decide) (h64 J8 hJ8) ?_
    refine si_aload_n (pc := 44) hE dX2_hasT_44 rfl ?_
    refine si_mga (pc := 45) (k := 15) hE rfl dX2_hasT_45 q1674 (by decide) rfl (fun _ => rfl) ?_
    refine si_iload_n (pc := 48) hE dX2_hasT_48 rfl ?_
    refine si_mia (pc := 49) (k := 15) hE dX2_hasT_49 (by decide) rfl ?_
    refine si_iconst (pc := 50) hE dX2_hasT_50 (by decide) ?_
    refine si_icmp_eq (pc := 51) hE dX2_hasT_51 (by decide) (h64 J8 hJ8) ?_
    refine si_aload_n (pc := 54) hE dX2_hasT_54 rfl ?_
    refine si_mga (pc := 55) (k := 15) hE rfl dX2_hasT_55 q1674 (by decide) rfl (fun _ => rfl) ?_
    refine si_iload_n (pc := 58) hE dX2_hasT_58 rfl ?_
    refine si_mia (pc := 59) (k := 15) hE dX2_hasT_59 (by decide) rfl ?_
    refine si_iconst (pc := 60) hE dX2_hasT_60 (by decide) ?_
    refine si_icmp_ne (pc := 61) hE dX2_hasT_61 (by decide) (h68 J8 hJ8) ?_
    exact (h64 J8 hJ8)
  have h0 : E (bX2_hasT_0 g.1 R) 0 := by
    unfold bX2_hasT_0
    refine si_iconst (pc := 0) hE dX2_hasT_0 (by decide) ?_
    refine si_istore_n (pc := 1) hE dX2_hasT_1 rfl (by decide) ?_
    refine si_sipush (pc := 2) hE dX2_hasT_2 (by decide) ?_
    refine si_iload_n (pc := 5) hE dX2_hasT_5 rfl ?_
    refine si_imul (pc := 6) hE dX2_hasT_6 ?_
    refine si_istore_n (pc := 7) hE dX2_hasT_7 rfl (by decide) ?_
    exact (si_kill hE h8)
  exact h0
