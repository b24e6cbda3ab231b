/-! THE MODEL's METHODS, decompiled by program (gen/decomp.py) -/
set_option maxRecDepth 100000
def bX2_waysTo_63 (mo : Nat) (R : Ret MS) : Cont MS :=
    o_il 2 <|
    o_ireturn R
def bX2_waysTo_54 (mo : Nat) (R : Ret MS) (J4 : Cont MS) : Cont MS :=
    o_iadd <|
    o_iadd <|
    o_is 2 <|
    o_iinc 3 1 <|
    (o_kill [4] J4)
def bX2_waysTo_53 (mo : Nat) (R : Ret MS) (J4 : Cont MS) : Cont MS :=
    o_ic 0 <|
    (bX2_waysTo_54 mo R J4)
def bX2_waysTo_38 (mo : Nat) (R : Ret MS) (J4 : Cont MS) : Cont MS :=
    o_al 0 <|
    o_mga mo 20 <|
    o_il 4 <|
    o_mia mo 20 <|
    o_il 1 <|
    o_icmp_ne (bX2_waysTo_53 mo R J4) <|
    o_ic 1 <|
    (bX2_waysTo_54 mo R J4)
def bX2_waysTo_37 (mo : Nat) (R : Ret MS) (J4 : Cont MS) : Cont MS :=
    o_ic 0 <|
    (bX2_waysTo_38 mo R J4)
def bX2_waysTo_4 (mo : Nat) (R : Ret MS) : Cont MS :=
    fixC fun J4 =>
    o_il 3 <|
    o_al 0 <|
    o_mga mo 9 <|
    o_ic 4 <|
    o_mia mo 9 <|
    o_icmp_ge (bX2_waysTo_63 mo R) <|
    o_al 0 <|
    o_il 3 <|
    o_mc mo 2 (pX2_lastNode mo) R <|
    o_is 4 <|
    o_il 2 <|
    o_al 0 <|
    o_mga mo 19 <|
    o_il 4 <|
    o_mia mo 19 <|
    o_il 1 <|
    o_icmp_ne (bX2_waysTo_37 mo R J4) <|
    o_ic 1 <|
    (bX2_waysTo_38 mo R J4)
def bX2_waysTo_0 (mo : Nat) (R : Ret MS) : Cont MS :=
    o_ic 0 <|
    o_is 2 <|
    o_ic 0 <|
    o_is 3 <|
    (o_kill [4] (bX2_waysTo_4 mo R))
def pX2_waysTo (mo : Nat) : PT MS := fun as σ Q => (lg_sl as).length ≤ 5 ∧ bX2_waysTo_0 mo Q (entP 5 as) [] σ
theorem nX2_waysTo : parN yX2_waysTo 1 := by unfold parN; decide +kernel
set_option maxHeartbeats 4000000 in
theorem eX2_waysTo (g : GM) : CT (wM g) yX2_waysTo (Cond.code yX2_waysTo cX2_waysTo 5 (some .int)) 1 21 (pX2_waysTo g.1) := by
  refine CT.of (wM_ok g) (cc := cX2_waysTo) (nL := 5) (ret := (some .int)) (ht := []) (by decide +kernel) (Or.inl ⟨rfl, rfl⟩) (B := bX2_waysTo_0 g.1) (fun R E X hE => ?_)
  have h63 : E (bX2_waysTo_63 g.1 R) 63 := by
    unfold bX2_waysTo_63
    refine si_iload_n (pc := 63) hE dX2_waysTo_63 rfl ?_
    exact si_ireturn (pc := 64) hE dX2_waysTo_64
  have h54 : ∀ (J4 : Cont MS) (hJ4 : E J4 4), E (bX2_waysTo_54 g.1 R J4) 54 := by
    intro J4 hJ4
    unfold bX2_waysTo_54
    refine si_iadd (pc := 54) hE dX2_waysTo_54 ?_
    refine si_iadd (pc := 55) hE dX2_waysTo_55 ?_
    refine si_istore_n (pc := 56) hE dX2_waysTo_56 rfl (by decide) ?_
    refine si_iinc (pc := 57) hE dX2_waysTo_57 (by decide) (by decide) ?_
    exact si_goto (pc := 60) hE dX2_waysTo_60 (by decide) (si_kill hE hJ4)
  have h53 : ∀ (J4 : Cont MS) (hJ4 : E J4 4), E (bX2_waysTo_53 g.1 R J4) 53 := by
    intro J4 hJ4
    unfold bX2_waysTo_53
    refine si_iconst (pc := 53) hE dX2_waysTo_53 (by decide) ?_
    exact (h54 J4 hJ4)
  have h38 : ∀ (J4 : Cont MS) (hJ4 : E J4 4), E (bX2_waysTo_38 g.1 R J4) 38 := by
    intro J4 hJ4
    unfold bX2_waysTo_38
    refine si_aload_n (pc := 38) hE dX2_waysTo_38 rfl ?_
    refine si_mga (pc := 39) (k := 20) hE rfl dX2_waysTo_39 q1679 (by decide) rfl (fun _ => rfl) ?_
    refine si_iload (pc := 42) hE dX2_waysTo_42 ?_
    refine si_mia (pc := 44) (k := 20) hE dX2_waysTo_44 (by decide) rfl ?_
    refine si_iload_n (pc := 45) hE dX2_waysTo_45 rfl ?_
    refine si_icmp_ne (pc := 46) hE dX2_waysTo_46 (by decide) (h53 J4 hJ4) ?_
    refine si_iconst (pc := 49) hE dX2_waysTo_49 (by decide) ?_
    exact si_goto (pc := 50) hE dX2_waysTo_50 (by decide) (h54 J4 hJ4)
  have h37 : ∀ (J4 : Cont MS) (hJ4 : E J4 4), E (bX2_waysTo_37 g.1 R J4) 37 := by
    intro J4 hJ4
    unfold bX2_waysTo_37
    refine si_iconst (pc := 37) hE dX2_waysTo_37 (by decide) ?_
    exact (h38 J4 hJ4)
  have h4 : E (bX2_waysTo_4 g.1 R) 4 := by
    unfold bX2_waysTo_4
    refine si_fix hE (fun J4 hJ4 => ?_)
    refine si_iload_n (pc := 4) hE dX2_waysTo_4 rfl ?_
    refine si_aload_n (pc := 5) hE dX2_waysTo_5 rfl ?_
    refine si_mga (pc := 6) (k := 9) hE rfl dX2_waysTo_6 q1668 (by decide) rfl (fun _ => rfl) ?_
    refine si_iconst (pc := 9) hE dX2_waysTo_9 (by decide) ?_
    refine si_mia (pc := 10) (k := 9) hE dX2_waysTo_10 (by decide) rfl ?_
    refine si_icmp_ge (pc := 11) hE dX2_waysTo_11 (by decide) h63 ?_
    refine si_aload_n (pc := 14) hE dX2_waysTo_14 rfl ?_
    refine si_iload_n (pc := 15) hE dX2_waysTo_15 rfl ?_
    refine si_mc (pc := 16) (n := 1) hE rfl dX2_waysTo_16 (eX2_lastNode g) rfl q1985 q1987 qs82 q1988 q134 nX2_lastNode (by decide) (by decide) ?_
    refine si_istore (pc := 19) hE dX2_waysTo_19 (by decide) ?_
    refine si_iload_n (pc := 21) hE dX2_waysTo_21 rfl ?_
    refine si_aload_n (pc := 22) hE dX2_waysTo_22 rfl ?_
    refine si_mga (pc := 23) (k := 19) hE rfl dX2_waysTo_23 q1678 (by decide) rfl (fun _ => rfl) ?_
    refine si_iload (pc := 26) hE dX2_waysTo_26 ?_
    refine si_mia (pc := 28) (k := 19) hE dX2_waysTo_28 (by decide) rfl ?_
    refine si_iload_n (pc := 29) hE dX2_waysTo_29 rfl ?_
    refine si_icmp_ne (pc := 30) hE dX2_waysTo_30 (by decide) (h37 J4 hJ4) ?_
    refine si_iconst (pc := 33) hE dX2_waysTo_33 (by decide) ?_
    exact si_goto (pc := 34) hE dX2_waysTo_34 (by decide) (h38 J4 hJ4)
  have h0 : E (bX2_waysTo_0 g.1 R) 0 := by
    unfold bX2_waysTo_0
    refine si_iconst (pc := 0) hE dX2_waysTo_0 (by decide) ?_
    refine si_istore_n (pc := 1) hE dX2_waysTo_1 rfl (by decide) ?_
    refine si_iconst (pc := 2) hE dX2_waysTo_2 (by decide) ?_
    refine si_istore_n (pc := 3) hE dX2_waysTo_3 rfl (by decide) ?_
    exact (si_kill hE h4)
  exact h0
def bX2_through_23 (mo : Nat) (R : Ret MS) : Cont MS :=
    o_ic 960 <|
    o_al 0 <|
    o_mga mo 10 <|
    o_ic 4 <|
    o_mia mo 10 <|
    o_iadd <|
    o_is 3 <|
    o_al 0 <|
    o_mga mo 15 <|
    o_il 3 <|
    o_ic 7 <|
    o_mis mo 15 <|
    o_al 0 <|
    o_mga mo 16 <|
    o_il 3 <|
    o_il 1 <|
    o_mis mo 16 <|
    o_al 0 <|
    o_mga mo 17 <|
    o_il 3 <|
    o_ic (-1) <|
    o_mis mo 17 <|
    o_al 0 <|
    o_mga mo 18 <|
    o_il 3 <|
    o_ic (-1) <|
    o_mis mo 18 <|
    o_al 0 <|
    o_mga mo 19 <|
    o_il 3 <|
    o_il 2 <|
    o_mis mo 19 <|
    o_al 0 <|
    o_mga mo 20 <|
    o_il 3 <|
    o_ic (-1) <|
    o_mis mo 20 <|
    o_al 0 <|
    o_mga mo 10 <|
    o_ic 4 <|
    o_dup2 <|
    o_mia mo 10 <|
    o_ic 1 <|
    o_iadd <|
    o_mis mo 10 <|
    o_al 0 <|
    o_mga mo 10 <|
    o_ic 4 <|
    o_mia mo 10 <|
    o_ic 1 <|
    o_isub <|
    o_ireturn R
def bX2_through_0 (mo : Nat) (R : Ret MS) : Cont MS :=
    o_al 0 <|
    o_mga mo 13 <|
    o_ic 164 <|
    o_il 1 <|
    o_iadd <|
    o_mia mo 13 <|
    o_is 2 <|
    o_al 0 <|
    o_mga mo 43 <|
    o_il 1 <|
    o_mia mo 43 <|
    o_ic 2 <|
    o_icmp_ge (bX2_through_23 mo R) <|
    o_il 2 <|
    o_ireturn R
def pX2_through (mo : Nat) : PT MS := fun as σ Q => (lg_sl as).length ≤ 4 ∧ bX2_through_0 mo Q (entP 4 as) [] σ
theorem nX2_through : parN yX2_through 1 := by unfold parN; decide +kernel
set_option maxHeartbeats 4000000 in
theorem eX2_through (g : GM) : CT (wM g) yX2_through (Cond.code yX2_through cX2_through 4 (some .int)) 0 0 (pX2_through g.1) := by
  refine CT.of (wM_ok g) (cc := cX2_through) (nL := 4) (ret := (some .int)) (ht := []) (by decide +kernel) (Or.inl ⟨rfl, rfl⟩) (B := bX2_through_0 g.1) (fun R E X hE => ?_)
  have h23 : E (bX2_through_23 g.1 R) 23 := by
    unfold bX2_through_23
    refine si_sipush (pc := 23) hE dX2_through_23 (by decide) ?_
    refine si_aload_n (pc := 26) hE dX2_through_26 rfl ?_
    refine si_mga (pc := 27) (k := 10) hE rfl dX2_through_27 q1669 (by decide) rfl (fun _ => rfl) ?_
    refine si_iconst (pc := 30) hE dX2_through_30 (by decide) ?_
    refine si_mia (pc := 31) (k := 10) hE dX2_through_31 (by decide) rfl ?_
    refine si_iadd (pc := 32) hE dX2_through_32 ?_
    refine si_istore_n (pc := 33) hE dX2_through_33 rfl (by decide) ?_
    refine si_aload_n (pc := 34) hE dX2_through_34 rfl ?_
    refine si_mga (pc := 35) (k := 15) hE rfl dX2_through_35 q1674 (by decide) rfl (fun _ => rfl) ?_
    refine si_iload_n (pc := 38) hE dX2_through_38 rfl ?_
    refine si_bipush (pc := 39) hE dX2_through_39 (by decide) ?_
    refine si_mis (pc := 41) (k := 15) hE dX2_through_41 (by decide) rfl ?_
    refine si_aload_n (pc := 42) hE dX2_through_42 rfl ?_
    refine si_mga (pc := 43) (k := 16) hE rfl dX2_through_43 q1675 (by decide) rfl (fun _ => rfl) ?_
    refine si_iload_n (pc := 46) hE dX2_through_46 rfl ?_
    refine si_iload_n (pc := 47) hE dX2_through_47 rfl ?_
    refine si_mis (pc := 48) (k := 16) hE dX2_through_48 (by decide) rfl ?_
    refine si_aload_n (pc := 49) hE dX2_through_49 rfl ?_
    refine si_mga (pc := 50) (k := 17) hE rfl dX2_through_50 q1676 (by decide) rfl (fun _ => rfl) ?_
    refine si_iload_n (pc := 53) hE dX2_through_53 rfl ?_
    refine si_iconst (pc := 54) hE dX2_through_54 (by decide) ?_
    refine si_mis (pc := 55) (k := 17) hE dX2_through_55 (by decide) rfl ?_
    refine si_aload_n (pc := 56) hE dX2_through_56 rfl ?_
    refine si_mga (pc := 57) (k := 18) hE rfl dX2_through_57 q1677 (by decide) rfl (fun _ => rfl) ?_
    refine si_iload_n (pc := 60) hE dX2_through_60 rfl ?_
    refine si_iconst (pc := 61) hE dX2_through_61 (by decide) ?_
    refine si_mis (pc := 62) (k := 18) hE dX2_through_62 (by decide) rfl ?_
    refine si_aload_n (pc := 63) hE dX2_through_63 rfl ?_
    refine si_mga (pc := 64) (k := 19) hE rfl dX2_through_64 q1678 (by decide) rfl (fun _ => rfl) ?_
    refine si_iload_n (pc := 67) hE dX2_through_67 rfl ?_
    refine si_iload_n (pc := 68) hE dX2_through_68 rfl ?_
    refine si_mis (pc := 69) (k := 19) hE dX2_through_69 (by decide) rfl ?_
    refine si_aload_n (pc := 70) hE dX2_through_70 rfl ?_
    refine si_mga (pc := 71) (k := 20) hE rfl dX2_through_71 q1679 (by decide) rfl (fun _ => rfl) ?_
    refine si_iload_n (pc := 74) hE dX2_through_74 rfl ?_
    refine si_iconst (pc := 75) hE dX2_through_75 (by decide) ?_
    refine si_mis (pc := 76) (k := 20) hE dX2_through_76 (by decide) rfl ?_
    refine si_aload_n (pc := 77) hE dX2_through_77 rfl ?_
    refine si_mga (pc := 78) (k := 10) hE rfl dX2_through_78 q1669 (by decide) rfl (fun _ => rfl) ?_
    refine si_iconst (pc := 81) hE dX2_through_81 (by decide) ?_
    refine si_dup2 (pc := 82) hE dX2_through_82 ?_
    refine si_mia (pc := 83) (k := 10) hE dX2_through_83 (by decide) rfl ?_
    refine si_iconst (pc := 84) hE dX2_through_84 (by decide) ?_
    refine si_iadd (pc := 85) hE dX2_through_85 ?_
    refine si_mis (pc := 86) (k := 10) hE dX2_through_86 (by decide) rfl ?_
    refine si_aload_n (pc := 87) hE dX2_through_87 rfl ?_
    refine si_mga (pc := 88) (k := 10) hE rfl dX2_through_88 q1669 (by decide) rfl (fun _ => rfl) ?_
    refine si_iconst (pc := 91) hE dX2_through_91 (by decide) ?_
    refine si_mia (pc := 92) (k := 10) hE dX2_through_92 (by decide) rfl ?_
    refine si_iconst (pc := 93) hE dX2_through_93 (by decide) ?_
    refine si_isub (pc := 94) hE dX2_through_94 ?_
    exact si_ireturn (pc := 95) hE dX2_through_95
  have h0 : E (bX2_through_0 g.1 R) 0 := by
    unfold bX2_through_0
    refine si_aload_n (pc := 0) hE dX2_through_0 rfl ?_
    refine si_mga (pc := 1) (k := 13) hE rfl dX2_through_1 q1672 (by decide) rfl (fun _ => rfl) ?_
    refine si_sipush (pc := 4) hE dX2_through_4 (by decide) ?_
    refine si_iload_n (pc := 7) hE dX2_through_7 rfl ?_
    refine si_iadd (pc := 8) hE dX2_through_8 ?_
    refine si_mia (pc := 9) (k := 13) hE dX2_through_9 (by decide) rfl ?_
    refine si_istore_n (pc := 10) hE dX2_through_10 rfl (by decide) ?_
    refine si_aload_n (pc := 11) hE dX2_through_11 rfl ?_
    refine si_mga (pc := 12) (k := 43) hE rfl dX2_through_12 q1702 (by decide) rfl (fun _ => rfl) ?_
    refine si_iload_n (pc := 15) hE dX2_through_15 rfl ?_
    refine si_mia (pc := 16) (k := 43) hE dX2_through_16 (by decide) rfl ?_
    refine si_iconst (pc := 17) hE dX2_through_17 (by decide) ?_
    refine si_icmp_ge (pc := 18) hE dX2_through_18 (by decide) h23 ?_
    refine si_iload_n (pc := 21) hE dX2_through_21 rfl ?_
    exact si_ireturn (pc := 22) hE dX2_through_22
  exact h0
def bX2_lead_165 (mo : Nat) (R : Ret MS) : Cont MS :=
    o_return R
def bX2_lead_159 (mo : Nat) (R : Ret MS) (J50 : Cont MS) : Cont MS :=
    o_iinc 2 1 <|
    (o_kill [3] J50)
def bX2_lead_117 (mo : Nat) (R : Ret MS) (J50 : Cont MS) : Cont MS :=
    o_al 0 <|
    o_mga mo 15 <|
    o_il 3 <|
    o_mia mo 15 <|
    o_ic 5 <|
    o_icmp_ne (bX2_lead_159 mo R J50) <|
    o_al 0 <|
    o_mga mo 19 <|
    o_il 3 <|
    o_al 0 <|
    o_al 0 <|
    o_mga mo 19 <|
    o_il 3 <|
    o_mia mo 19 <|
    o_mc mo 2 (pX2_through mo) R <|
    o_mis mo 19 <|
    o_al 0 <|
    o_mga mo 20 <|
    o_il 3 <|
    o_al 0 <|
    o_al 0 <|
    o_mga mo 20 <|
    o_il 3 <|
    o_mia mo 20 <|
    o_mc mo 2 (pX2_through mo) R <|
    o_mis mo 20 <|
    (bX2_lead_159 mo R J50)
def bX2_lead_83 (mo : Nat) (R : Ret MS) (J50 : Cont MS) : Cont MS :=
    o_al 0 <|
    o_mga mo 15 <|
    o_il 3 <|
    o_mia mo 15 <|
    o_ic 4 <|
    o_icmp_ne (bX2_lead_117 mo R J50) <|
    o_al 0 <|
    o_mga mo 19 <|
    o_il 3 <|
    o_al 0 <|
    o_mga mo 13 <|
    o_ic 164 <|
    o_al 0 <|
    o_mga mo 19 <|
    o_il 3 <|
    o_mia mo 19 <|
    o_iadd <|
    o_mia mo 13 <|
    o_mis mo 19 <|
    (bX2_lead_159 mo R J50)
def bX2_lead_50 (mo : Nat) (R : Ret MS) : Cont MS :=
    fixC fun J50 =>
    o_il 2 <|
    o_il 1 <|
    o_icmp_ge (bX2_lead_165 mo R) <|
    o_ic 960 <|
    o_il 2 <|
    o_iadd <|
    o_is 3 <|
    o_al 0 <|
    o_mga mo 15 <|
    o_il 3 <|
    o_mia mo 15 <|
    o_ic 4 <|
    o_icmp_ge (bX2_lead_83 mo R J50) <|
    o_al 0 <|
    o_mga mo 19 <|
    o_il 3 <|
    o_il 2 <|
    o_ic 1 <|
    o_iadd <|
    o_mis mo 19 <|
    (bX2_lead_159 mo R J50)
def bX2_lead_41 (mo : Nat) (R : Ret MS) : Cont MS :=
    o_al 0 <|
    o_mga mo 10 <|
    o_ic 4 <|
    o_mia mo 10 <|
    o_is 1 <|
    o_ic 0 <|
    o_is 2 <|
    (o_kill [3] (bX2_lead_50 mo R))
def bX2_lead_14 (mo : Nat) (R : Ret MS) : Cont MS :=
    fixC fun J14 =>
    o_il 1 <|
    o_al 0 <|
    o_mga mo 9 <|
    o_ic 4 <|
    o_mia mo 9 <|
    o_icmp_ge (bX2_lead_41 mo R) <|
    o_al 0 <|
    o_mga mo 43 <|
    o_il 1 <|
    o_al 0 <|
    o_il 1 <|
    o_mc mo 2 (pX2_waysTo mo) R <|
    o_mis mo 43 <|
    o_iinc 1 1 <|
    (o_kill [2, 3] J14)
def bX2_lead_0 (mo : Nat) (R : Ret MS) : Cont MS :=
    o_al 0 <|
    o_mga mo 11 <|
    o_ic 4 <|
    o_al 0 <|
    o_mga mo 10 <|
    o_ic 4 <|
    o_mia mo 10 <|
    o_mis mo 11 <|
    o_ic 0 <|
    o_is 1 <|
    (o_kill [2, 3] (bX2_lead_14 mo R))
def pX2_lead (mo : Nat) : PT MS := fun as σ Q => (lg_sl as).length ≤ 4 ∧ bX2_lead_0 mo Q (entP 4 as) [] σ
theorem nX2_lead : parN yX2_lead 0 := by unfold parN; decide +kernel
set_option maxHeartbeats 4000000 in
theorem eX2_lead (g : GM) : CT (wM g) yX2_lead (Cond.code yX2_lead cX2_lead 4 none) 2 45 (pX2_lead g.1) := by
  refine CT.of (wM_ok g) (cc := cX2_lead) (nL := 4) (ret := none) (ht := []) (by decide +kernel) (Or.inl ⟨rfl, rfl⟩) (B := bX2_lead_0 g.1) (fun R E X hE => ?_)
  have h165 : E (bX2_lead_165 g.1 R) 165 := by
    unfold bX2_lead_165
    exact si_return (pc := 165) hE dX2_lead_165
  have h159 : ∀ (J50 : Cont MS) (hJ50 : E J50 50), E (bX2_lead_159 g.1 R J50) 159 := by
    intro J50 hJ50
    unfold bX2_lead_159
    refine si_iinc (pc := 159) hE dX2_lead_159 (by decide) (by decide) ?_
    exact si_goto (pc := 162) hE dX2_lead_162 (by decide) (si_kill hE hJ50)
  have h117 : ∀ (J50 : Cont MS) (hJ50 : E J50 50), E (bX2_lead_117 g.1 R J50) 117 := by
    intro J50 hJ50
    unfold bX2_lead_117
    refine si_aload_n (pc := 117) hE dX2_lead_117 rfl ?_
    refine si_mga (pc := 118) (k := 15) hE rfl dX2_lead_118 q1674 (by decide) rfl (fun _ => rfl) ?_
    refine si_iload_n (pc := 121) hE dX2_lead_121 rfl ?_
    refine si_mia (pc := 122) (k := 15) hE dX2_lead_122 (by decide) rfl ?_
    refine si_iconst (pc := 123) hE dX2_lead_123 (by decide) ?_
    refine si_icmp_ne (pc := 124) hE dX2_lead_124 (by decide) (h159 J50 hJ50) ?_
    refine si_aload_n (pc := 127) hE dX2_lead_127 rfl ?_
    refine si_mga (pc := 128) (k := 19) hE rfl dX2_lead_128 q1678 (by decide) rfl (fun _ => rfl) ?_
    refine si_iload_n (pc := 131) hE dX2_lead_131 rfl ?_
    refine si_aload_n (pc := 132) hE dX2_lead_132 rfl ?_
    refine si_aload_n (pc := 133) hE dX2_lead_133 rfl ?_
    refine si_mga (pc := 134) (k := 19) hE rfl dX2_lead_134 q1678 (by decide) rfl (fun _ => rfl) ?_
    refine si_iload_n (pc := 137) hE dX2_lead_137 rfl ?_
    refine si_mia (pc := 138) (k := 19) hE dX2_lead_138 (by decide) rfl ?_
    refine si_mc (pc := 139) (n := 1) hE rfl dX2_lead_139 (eX2_through g) rfl q2001 q2003 qs86 q2004 q134 nX2_through (by decide) (by decide) ?_
    refine si_mis (pc := 142) (k := 19) hE dX2_lead_142 (by decide) rfl ?_
    refine si_aload_n (pc := 143) hE dX2_lead_143 rfl ?_
    refine si_mga (pc := 144) (k := 20) hE rfl dX2_lead_144 q1679 (by decide) rfl (fun _ => rfl) ?_
    refine si_iload_n (pc := 147) hE dX2_lead_147 rfl ?_
    refine si_aload_n (pc := 148) hE dX2_lead_148 rfl ?_
    refine si_aload_n (pc := 149) hE dX2_lead_149 rfl ?_
    refine si_mga (pc := 150) (k := 20) hE rfl dX2_lead_150 q1679 (by decide) rfl (fun _ => rfl) ?_
    refine si_iload_n (pc := 153) hE dX2_lead_153 rfl ?_
    refine si_mia (pc := 154) (k := 20) hE dX2_lead_154 (by decide) rfl ?_
    refine si_mc (pc := 155) (n := 1) hE rfl dX2_lead_155 (eX2_through g) rfl q2001 q2003 qs86 q2004 q134 nX2_through (by decide) (by decide) ?_
    refine si_mis (pc := 158) (k := 20) hE dX2_lead_158 (by decide) rfl ?_
    exact (h159 J50 hJ50)
  have h83 : ∀ (J50 : Cont MS) (hJ50 : E J50 50), E (bX2_lead_83 g.1 R J50) 83 := by
    intro J50 hJ50
    unfold bX2_lead_83
    refine si_aload_n (pc := 83) hE dX2_lead_83 rfl ?_
    refine si_mga (pc := 84) (k := 15) hE rfl dX2_lead_84 q1674 (by decide) rfl (fun _ => rfl) ?_
    refine si_iload_n (pc := 87) hE dX2_lead_87 rfl ?_
    refine si_mia (pc := 88) (k := 15) hE dX2_lead_88 (by decide) rfl ?_
    refine si_iconst (pc := 89) hE dX2_lead_89 (by decide) ?_
    refine si_icmp_ne (pc := 90) hE dX2_lead_90 (by decide) (h117 J50 hJ50) ?_
    refine si_aload_n (pc := 93) hE dX2_lead_93 rfl ?_
    refine si_mga (pc := 94) (k := 19) hE rfl dX2_lead_94 q1678 (by decide) rfl (fun _ => rfl) ?_
    refine si_iload_n (pc := 97) hE dX2_lead_97 rfl ?_
    refine si_aload_n (pc := 98) hE dX2_lead_98 rfl ?_
    refine si_mga (pc := 99) (k := 13) hE rfl dX2_lead_99 q1672 (by decide) rfl (fun _ => rfl) ?_
    refine si_sipush (pc := 102) hE dX2_lead_102 (by decide) ?_
    refine si_aload_n (pc := 105) hE dX2_lead_105 rfl ?_
    refine si_mga (pc := 106) (k := 19) hE rfl dX2_lead_106 q1678 (by decide) rfl (fun _ => rfl) ?_
    refine si_iload_n (pc := 109) hE dX2_lead_109 rfl ?_
    refine si_mia (pc := 110) (k := 19) hE dX2_lead_110 (by decide) rfl ?_
    refine si_iadd (pc := 111) hE dX2_lead_111 ?_
    refine si_mia (pc := 112) (k := 13) hE dX2_lead_112 (by decide) rfl ?_
    refine si_mis (pc := 113) (k := 19) hE dX2_lead_113 (by decide) rfl ?_
    exact si_goto (pc := 114) hE dX2_lead_114 (by decide) (h159 J50 hJ50)
  have h50 : E (bX2_lead_50 g.1 R) 50 := by
    unfold bX2_lead_50
    refine si_fix hE (fun J50 hJ50 => ?_)
    refine si_iload_n (pc := 50) hE dX2_lead_50 rfl ?_
    refine si_iload_n (pc := 51) hE dX2_lead_51 rfl ?_
    refine si_icmp_ge (pc := 52) hE dX2_lead_52 (by decide) h165 ?_
    refine si_sipush (pc := 55) hE dX2_lead_55 (by decide) ?_
    refine si_iload_n (pc := 58) hE dX2_lead_58 rfl ?_
    refine si_iadd (pc := 59) hE dX2_lead_59 ?_
    refine si_istore_n (pc := 60) hE dX2_lead_60 rfl (by decide) ?_
    refine si_aload_n (pc := 61) hE dX2_lead_61 rfl ?_
    refine si_mga (pc := 62) (k := 15) hE rfl dX2_lead_62 q1674 (by decide) rfl (fun _ => rfl) ?_
    refine si_iload_n (pc := 65) hE dX2_lead_65 rfl ?_
    refine si_mia (pc := 66) (k := 15) hE dX2_lead_66 (by decide) rfl ?_
    refine si_iconst (pc := 67) hE dX2_lead_67 (by decide) ?_
    refine si_icmp_ge (pc := 68) hE dX2_lead_68 (by decide) (h83 J50 hJ50) ?_
    refine si_aload_n (pc := 71) hE dX2_lead_71 rfl ?_
    refine si_mga (pc := 72) (k := 19) hE rfl dX2_lead_72 q1678 (by decide) rfl (fun _ => rfl) ?_
    refine si_iload_n (pc := 75) hE dX2_lead_75 rfl ?_
    refine si_iload_n (pc := 76) hE dX2_lead_76 rfl ?_
    refine si_iconst (pc := 77) hE dX2_lead_77 (by decide) ?_
    refine si_iadd (pc := 78) hE dX2_lead_78 ?_
    refine si_mis (pc := 79) (k := 19) hE dX2_lead_79 (by decide) rfl ?_
    exact si_goto (pc := 80) hE dX2_lead_80 (by decide) (h159 J50 hJ50)
  have h41 : E (bX2_lead_41 g.1 R) 41 := by
    unfold bX2_lead_41
    refine si_aload_n (pc := 41) hE dX2_lead_41 rfl ?_
    refine si_mga (pc := 42) (k := 10) hE rfl dX2_lead_42 q1669 (by decide) rfl (fun _ => rfl) ?_
    refine si_iconst (pc := 45) hE dX2_lead_45 (by decide) ?_
    refine si_mia (pc := 46) (k := 10) hE dX2_lead_46 (by decide) rfl ?_
    refine si_istore_n (pc := 47) hE dX2_lead_47 rfl (by decide) ?_
    refine si_iconst (pc := 48) hE dX2_lead_48 (by decide) ?_
    refine si_istore_n (pc := 49) hE dX2_lead_49 rfl (by decide) ?_
    exact (si_kill hE h50)
  have h14 : E (bX2_lead_14 g.1 R) 14 := by
    unfold bX2_lead_14
    refine si_fix hE (fun J14 hJ14 => ?_)
    refine si_iload_n (pc := 14) hE dX2_lead_14 rfl ?_
    refine si_aload_n (pc := 15) hE dX2_lead_15 rfl ?_
    refine si_mga (pc := 16) (k := 9) hE rfl dX2_lead_16 q1668 (by decide) rfl (fun _ => rfl) ?_
    refine si_iconst (pc := 19) hE dX2_lead_19 (by decide) ?_
    refine si_mia (pc := 20) (k := 9) hE dX2_lead_20 (by decide) rfl ?_
    refine si_icmp_ge (pc := 21) hE dX2_lead_21 (by decide) h41 ?_
    refine si_aload_n (pc := 24) hE dX2_lead_24 rfl ?_
    refine si_mga (pc := 25) (k := 43) hE rfl dX2_lead_25 q1702 (by decide) rfl (fun _ => rfl) ?_
    refine si_iload_n (pc := 28) hE dX2_lead_28 rfl ?_
    refine si_aload_n (pc := 29) hE dX2_lead_29 rfl ?_
    refine si_iload_n (pc := 30) hE dX2_lead_30 rfl ?_
    refine si_mc (pc := 31) (n := 1) hE rfl dX2_lead_31 (eX2_waysTo g) rfl q1997 q1999 qs85 q2000 q134 nX2_waysTo (by decide) (by decide) ?_
    refine si_mis (pc := 34) (k := 43) hE dX2_lead_34 (by decide) rfl ?_
    refine si_iinc (pc := 35) hE dX2_lead_35 (by decide) (by decide) ?_
    exact si_goto (pc := 38) hE dX2_lead_38 (by decide) (si_kill hE hJ14)
  have h0 : E (bX2_lead_0 g.1 R) 0 := by
    unfold bX2_lead_0
    refine si_aload_n (pc := 0) hE dX2_lead_0 rfl ?_
    refine si_mga (pc := 1) (k := 11) hE rfl dX2_lead_1 q1670 (by decide) rfl (fun _ => rfl) ?_
    refine si_iconst (pc := 4) hE dX2_lead_4 (by decide) ?_
    refine si_aload_n (pc := 5) hE dX2_lead_5 rfl ?_
    refine si_mga (pc := 6) (k := 10) hE rfl dX2_lead_6 q1669 (by decide) rfl (fun _ => rfl) ?_
    refine si_iconst (pc := 9) hE dX2_lead_9 (by decide) ?_
    refine si_mia (pc := 10) (k := 10) hE dX2_lead_10 (by decide) rfl ?_
    refine si_mis (pc := 11) (k := 11) hE dX2_lead_11 (by decide) rfl ?_
    refine si_iconst (pc := 12) hE dX2_lead_12 (by decide) ?_
    refine si_istore_n (pc := 13) hE dX2_lead_13 rfl (by decide) ?_
    exact (si_kill hE h14)
  exact h0
def bX2_base_0 (mo : Nat) (R : Ret MS) : Cont MS :=
    o_ic 32 <|
    o_il 1 <|
    o_imul <|
    o_il 2 <|
    o_iadd <|
    o_ic 240 <|
    o_imul <|
    o_ireturn R
def pX2_base (mo : Nat) : PT MS := fun as σ Q => (lg_sl as).length ≤ 3 ∧ bX2_base_0 mo Q (entP 3 as) [] σ
theorem nX2_base : parN yX2_base 2 := by unfold parN; decide +kernel
set_option maxHeartbeats 4000000 in
theorem eX2_base (g : GM) : CT (wM g) yX2_base (Cond.code yX2_base cX2_base 3 (some .int)) 0 0 (pX2_base g.1) := by
  refine CT.of (wM_ok g) (cc := cX2_base) (nL := 3) (ret := (some .int)) (ht := []) (by decide +kernel) (Or.inl ⟨rfl, rfl⟩) (B := bX2_base_0 g.1) (fun R E X hE => ?_)
  have h0 : E (bX2_base_0 g.1 R) 0 := by
    unfold bX2_base_0
    refine si_bipush (pc := 0) hE dX2_base_0 (by decide) ?_
    refine si_iload_n (pc := 2) hE dX2_base_2 rfl ?_
    refine si_imul (pc := 3) hE dX2_base_3 ?_
    refine si_iload_n (pc := 4) hE dX2_base_4 rfl ?_
    refine si_iadd (pc := 5) hE dX2_base_5 ?_
    refine si_sipush (pc := 6) hE dX2_base_6 (by decide) ?_
    refine si_imul (pc := 9) hE dX2_base_9 ?_
    exact si_ireturn (pc := 10) hE dX2_base_10
  exact h0
def bX2_kills_92 (mo : Nat) (R : Ret MS) : Cont MS :=
    o_zreturn R
def bX2_kills_91 (mo : Nat) (R : Ret MS) : Cont MS :=
    o_ic 0 <|
    (bX2_kills_92 mo R)
def bX2_kills_87 (mo : Nat) (R : Ret MS) : Cont MS :=
    o_ic 1 <|
    (bX2_kills_92 mo R)
def bX2_kills_48 (mo : Nat) (R : Ret MS) : Cont MS :=
    o_al 0 <|
    o_mga mo 17 <|
    o_il 1 <|
    o_mia mo 17 <|
    o_if_lt (bX2_kills_91 mo R) <|
    o_al 0 <|
    o_mga mo 27 <|
    o_il 3 <|
    o_mia mo 27 <|
    o_al 0 <|
    o_mga mo 17 <|
    o_il 1 <|
    o_mia mo 17 <|
    o_icmp_eq (bX2_kills_87 mo R) <|
    o_al 0 <|
    o_mga mo 29 <|
    o_il 3 <|
    o_mia mo 29 <|
    o_al 0 <|
    o_mga mo 17 <|
    o_il 1 <|
    o_mia mo 17 <|
    o_icmp_ne (bX2_kills_91 mo R) <|
    (bX2_kills_87 mo R)
def bX2_kills_47 (mo : Nat) (R : Ret MS) : Cont MS :=
    o_zreturn R
def bX2_kills_46 (mo : Nat) (R : Ret MS) : Cont MS :=
    o_ic 0 <|
    (bX2_kills_47 mo R)
def bX2_kills_0 (mo : Nat) (R : Ret MS) : Cont MS :=
    o_ic 128 <|
    o_il 2 <|
    o_iadd <|
    o_is 3 <|
    o_al 0 <|
    o_mga mo 15 <|
    o_il 1 <|
    o_mia mo 15 <|
    o_ic 2 <|
    o_icmp_ne (bX2_kills_48 mo R) <|
    o_al 0 <|
    o_mga mo 26 <|
    o_il 3 <|
    o_mia mo 26 <|
    o_ic 114 <|
    o_icmp_ne (bX2_kills_46 mo R) <|
    o_al 0 <|
    o_mga mo 28 <|
    o_il 3 <|
    o_mia mo 28 <|
    o_al 0 <|
    o_mga mo 25 <|
    o_il 1 <|
    o_mia mo 25 <|
    o_icmp_ne (bX2_kills_46 mo R) <|
    o_ic 1 <|
    (bX2_kills_47 mo R)
def pX2_kills (mo : Nat) : PT MS := fun as σ Q => (lg_sl as).length ≤ 4 ∧ bX2_kills_0 mo Q (entP 4 as) [] σ
theorem nX2_kills : parN yX2_kills 2 := by unfold parN; decide +kernel
set_option maxHeartbeats 4000000 in
theorem eX2_kills (g : GM) : CT (wM g) yX2_kills (Cond.code yX2_kills cX2_kills 4 (some .boolean)) 0 0 (pX2_kills g.1) := by
  refine CT.of (wM_ok g) (cc := cX2_kills) (nL := 4) (ret := (some .boolean)) (ht := []) (by decide +kernel) (Or.inl ⟨rfl, rfl⟩) (B := bX2_kills_0 g.1) (fun R E X hE => ?_)
  have h92 : E (bX2_kills_92 g.1 R) 92 := by
    unfold bX2_kills_92
    exact si_zreturn (pc := 92) hE dX2_kills_92
  have h91 : E (bX2_kills_91 g.1 R) 91 := by
    unfold bX2_kills_91
    refine si_iconst (pc := 91) hE dX2_kills_91 (by decide) ?_
    exact h92
  have h87 : E (bX2_kills_87 g.1 R) 87 := by
    unfold bX2_kills_87
    refine si_iconst (pc := 87) hE dX2_kills_87 (by decide) ?_
    exact si_goto (pc := 88) hE dX2_kills_88 (by decide) h92
  have h48 : E (bX2_kills_48 g.1 R) 48 := by
    unfold bX2_kills_48
    refine si_aload_n (pc := 48) hE dX2_kills_48 rfl ?_
    refine si_mga (pc := 49) (k := 17) hE rfl dX2_kills_49 q1676 (by decide) rfl (fun _ => rfl) ?_
    refine si_iload_n (pc := 52) hE dX2_kills_52 rfl ?_
    refine si_mia (pc := 53) (k := 17) hE dX2_kills_53 (by decide) rfl ?_
    refine si_if_lt (pc := 54) hE dX2_kills_54 (by decide) h91 ?_
    refine si_aload_n (pc := 57) hE dX2_kills_57 rfl ?_
    refine si_mga (pc := 58) (k := 27) hE rfl dX2_kills_58 q1686 (by decide) rfl (fun _ => rfl) ?_
    refine si_iload_n (pc := 61) hE dX2_kills_61 rfl ?_
    refine si_mia (pc := 62) (k := 27) hE dX2_kills_62 (by decide) rfl ?_
    refine si_aload_n (pc := 63) hE dX2_kills_63 rfl ?_
    refine si_mga (pc := 64) (k := 17) hE rfl dX2_kills_64 q1676 (by decide) rfl (fun _ => rfl) ?_
    refine si_iload_n (pc := 67) hE dX2_kills_67 rfl ?_
    refine si_mia (pc := 68) (k := 17) hE dX2_kills_68 (by decide) rfl ?_
    refine si_icmp_eq (pc := 69) hE dX2_kills_69 (by decide) h87 ?_
    refine si_aload_n (pc := 72) hE dX2_kills_72 rfl ?_
    refine si_mga (pc := 73) (k := 29) hE rfl dX2_kills_73 q1688 (by decide) rfl (fun _ => rfl) ?_
    refine si_iload_n (pc := 76) hE dX2_kills_76 rfl ?_
    refine si_mia (pc := 77) (k := 29) hE dX2_kills_77 (by decide) rfl ?_
    refine si_aload_n (pc := 78) hE dX2_kills_78 rfl ?_
    refine si_mga (pc := 79) (k := 17) hE rfl dX2_kills_79 q1676 (by decide) rfl (fun _ => rfl) ?_
    refine si_iload_n (pc := 82) hE dX2_kills_82 rfl ?_
    refine si_mia (pc := 83) (k := 17) hE dX2_kills_83 (by decide) rfl ?_
    refine si_icmp_ne (pc := 84) hE dX2_kills_84 (by decide) h91 ?_
    exact h87
  have h47 : E (bX2_kills_47 g.1 R) 47 := by
    unfold bX2_kills_47
    exact si_zreturn (pc := 47) hE dX2_kills_47
  have h46 : E (bX2_kills_46 g.1 R) 46 := by
    unfold bX2_kills_46
    refine si_iconst (pc := 46) hE dX2_kills_46 (by decide) ?_
    exact h47
  have h0 : E (bX2_kills_0 g.1 R) 0 := by
    unfold bX2_kills_0
    refine si_sipush (pc := 0) hE dX2_kills_0 (by decide) ?_
    refine si_iload_n (pc := 3) hE dX2_kills_3 rfl ?_
    refine si_iadd (pc := 4) hE dX2_kills_4 ?_
    refine si_istore_n (pc := 5) hE dX2_kills_5 rfl (by decide) ?_
    refine si_aload_n (pc := 6) hE dX2_kills_6 rfl ?_
    refine si_mga (pc := 7) (k := 15) hE rfl dX2_kills_7 q1674 (by decide) rfl (fun _ => rfl) ?_
    refine si_iload_n (pc := 10) hE dX2_kills_10 rfl ?_
    refine si_mia (pc := 11) (k := 15) hE dX2_kills_11 (by decide) rfl ?_
    refine si_iconst (pc := 12) hE dX2_kills_12 (by decide) ?_
    refine si_icmp_ne (pc := 13) hE dX2_kills_13 (by decide) h48 ?_
    refine si_aload_n (pc := 16) hE dX2_kills_16 rfl ?_
    refine si_mga (pc := 17) (k := 26) hE rfl dX2_kills_17 q1685 (by decide) rfl (fun _ => rfl) ?_
    refine si_iload_n (pc := 20) hE dX2_kills_20 rfl ?_
    refine si_mia (pc := 21) (k := 26) hE dX2_kills_21 (by decide) rfl ?_
    refine si_bipush (pc := 22) hE dX2_kills_22 (by decide) ?_
    refine si_icmp_ne (pc := 24) hE dX2_kills_24 (by decide) h46 ?_
    refine si_aload_n (pc := 27) hE dX2_kills_27 rfl ?_
    refine si_mga (pc := 28) (k := 28) hE rfl dX2_kills_28 q1687 (by decide) rfl (fun _ => rfl) ?_
    refine si_iload_n (pc := 31) hE dX2_kills_31 rfl ?_
    refine si_mia (pc := 32) (k := 28) hE dX2_kills_32 (by decide) rfl ?_
    refine si_aload_n (pc := 33) hE dX2_kills_33 rfl ?_
    refine si_mga (pc := 34) (k := 25) hE rfl dX2_kills_34 q1684 (by decide) rfl (fun _ => rfl) ?_
    refine si_iload_n (pc := 37) hE dX2_kills_37 rfl ?_
    refine si_mia (pc := 38) (k := 25) hE dX2_kills_38 (by decide) rfl ?_
    refine si_icmp_ne (pc := 39) hE dX2_kills_39 (by decide) h46 ?_
    refine si_iconst (pc := 42) hE dX2_kills_42 (by decide) ?_
    exact si_goto (pc := 43) hE dX2_kills_43 (by decide) h47
  exact h0
def bX2_is_18 (mo : Nat) (R : Ret MS) : Cont MS :=
    o_zreturn R
def bX2_is_17 (mo : Nat) (R : Ret MS) : Cont MS :=
    o_ic 0 <|
    (bX2_is_18 mo R)
def bX2_is_0 (mo : Nat) (R : Ret MS) : Cont MS :=
    o_al 0 <|
    o_mga mo 31 <|
    o_il 1 <|
    o_il 2 <|
    o_iadd <|
    o_mia mo 31 <|
    o_il 3 <|
    o_iand <|
    o_if_eq (bX2_is_17 mo R) <|
    o_ic 1 <|
    (bX2_is_18 mo R)
def pX2_is (mo : Nat) : PT MS := fun as σ Q => (lg_sl as).length ≤ 4 ∧ bX2_is_0 mo Q (entP 4 as) [] σ
theorem nX2_is : parN yX2_is 3 := by unfold parN; decide +kernel
set_option maxHeartbeats 4000000 in
theorem eX2_is (g : GM) : CT (wM g) yX2_is (Cond.code yX2_is cX2_is 4 (some .boolean)) 0 0 (pX2_is g.1) := by
  refine CT.of (wM_ok g) (cc := cX2_is) (nL := 4) (ret := (some .boolean)) (ht := []) (by decide +kernel) (Or.inl ⟨rfl, rfl⟩) (B := bX2_is_0 g.1) (fun R E X hE => ?_)
  have h18 : E (bX2_is_18 g.1 R) 18 := by
    unfold bX2_is_18
    exact si_zreturn (pc := 18) hE dX2_is_18
  have h17 : E (bX2_is_17 g.1 R) 17 := by
    unfold bX2_is_17
    refine si_iconst (pc := 17) hE dX2_is_17 (by decide) ?_
    exact h18
  have h0 : E (bX2_is_0 g.1 R) 0 := by
    unfold bX2_is_0
    refine si_aload_n (pc := 0) hE dX2_is_0 rfl ?_
    refine si_mga (pc := 1) (k := 31) hE rfl dX2_is_1 q1690 (by decide) rfl (fun _ => rfl) ?_
    refine si_iload_n (pc := 4) hE dX2_is_4 rfl ?_
    refine si_iload_n (pc := 5) hE dX2_is_5 rfl ?_
    refine si_iadd (pc := 6) hE dX2_is_6 ?_
    refine si_mia (pc := 7) (k := 31) hE dX2_is_7 (by decide) rfl ?_
    refine si_iload_n (pc := 8) hE dX2_is_8 rfl ?_
    refine si_iand (pc := 9) hE dX2_is_9 ?_
    refine si_if_eq (pc := 10) hE dX2_is_10 (by decide) h17 ?_
    refine si_iconst (pc := 13) hE dX2_is_13 (by decide) ?_
    exact si_goto (pc := 14) hE dX2_is_14 (by decide) h18
  exact h0
def bX2_allNext_64 (mo : Nat) (R : Ret MS) : Cont MS :=
    o_zreturn R
def bX2_allNext_63 (mo : Nat) (R : Ret MS) : Cont MS :=
    o_ic 0 <|
    (bX2_allNext_64 mo R)
def bX2_allNext_59 (mo : Nat) (R : Ret MS) : Cont MS :=
    o_ic 1 <|
    (bX2_allNext_64 mo R)
def bX2_allNext_0 (mo : Nat) (R : Ret MS) : Cont MS :=
    o_ic 960 <|
    o_il 2 <|
    o_iadd <|
    o_is 4 <|
    o_al 0 <|
    o_mga mo 19 <|
    o_il 4 <|
    o_mia mo 19 <|
    o_if_lt (bX2_allNext_63 mo R) <|
    o_al 0 <|
    o_il 1 <|
    o_al 0 <|
    o_mga mo 19 <|
    o_il 4 <|
    o_mia mo 19 <|
    o_il 3 <|
    o_mc mo 4 (pX2_is mo) R <|
    o_if_eq (bX2_allNext_63 mo R) <|
    o_al 0 <|
    o_mga mo 20 <|
    o_il 4 <|
    o_mia mo 20 <|
    o_if_lt (bX2_allNext_59 mo R) <|
    o_al 0 <|
    o_il 1 <|
    o_al 0 <|
    o_mga mo 20 <|
    o_il 4 <|
    o_mia mo 20 <|
    o_il 3 <|
    o_mc mo 4 (pX2_is mo) R <|
    o_if_eq (bX2_allNext_63 mo R) <|
    (bX2_allNext_59 mo R)
def pX2_allNext (mo : Nat) : PT MS := fun as σ Q => (lg_sl as).length ≤ 5 ∧ bX2_allNext_0 mo Q (entP 5 as) [] σ
theorem nX2_allNext : parN yX2_allNext 3 := by unfold parN; decide +kernel
set_option maxHeartbeats 4000000 in
theorem eX2_allNext (g : GM) : CT (wM g) yX2_allNext (Cond.code yX2_allNext cX2_allNext 5 (some .boolean)) 1 23 (pX2_allNext g.1) := by
  refine CT.of (wM_ok g) (cc := cX2_allNext) (nL := 5) (ret := (some .boolean)) (ht := []) (by decide +kernel) (Or.inl ⟨rfl, rfl⟩) (B := bX2_allNext_0 g.1) (fun R E X hE => ?_)
  have h64 : E (bX2_allNext_64 g.1 R) 64 := by
    unfold bX2_allNext_64
    exact si_zreturn (pc := 64) hE dX2_allNext_64
  have h63 : E (bX2_allNext_63 g.1 R) 63 := by
    unfold bX2_allNext_63
    refine si_iconst (pc := 63) hE dX2_allNext_63 (by decide) ?_
    exact h64
  have h59 : E (bX2_allNext_59 g.1 R) 59 := by
    unfold bX2_allNext_59
    refine si_iconst (pc := 59) hE dX2_allNext_59 (by decide) ?_
    exact si_goto (pc := 60) hE dX2_allNext_60 (by decide) h64
  have h0 : E (bX2_allNext_0 g.1 R) 0 := by
    unfold bX2_allNext_0
    refine si_sipush (pc := 0) hE dX2_allNext_0 (by decide) ?_
    refine si_iload_n (pc := 3) hE dX2_allNext_3 rfl ?_
    refine si_iadd (pc := 4) hE dX2_allNext_4 ?_
    refine si_istore (pc := 5) hE dX2_allNext_5 (by decide) ?_
    refine si_aload_n (pc := 7) hE dX2_allNext_7 rfl ?_
    refine si_mga (pc := 8) (k := 19) hE rfl dX2_allNext_8 q1678 (by decide) rfl (fun _ => rfl) ?_
    refine si_iload (pc := 11) hE dX2_allNext_11 ?_
    refine si_mia (pc := 13) (k := 19) hE dX2_allNext_13 (by decide) rfl ?_
    refine si_if_lt (pc := 14) hE dX2_allNext_14 (by decide) h63 ?_
    refine si_aload_n (pc := 17) hE dX2_allNext_17 rfl ?_
    refine si_iload_n (pc := 18) hE dX2_allNext_18 rfl ?_
    refine si_aload_n (pc := 19) hE dX2_allNext_19 rfl ?_
    refine si_mga (pc := 20) (k := 19) hE rfl dX2_allNext_20 q1678 (by decide) rfl (fun _ => rfl) ?_
    refine si_iload (pc := 23) hE dX2_allNext_23 ?_
    refine si_mia (pc := 25) (k := 19) hE dX2_allNext_25 (by decide) rfl ?_
    refine si_iload_n (pc := 26) hE dX2_allNext_26 rfl ?_
    refine si_mc (pc := 27) (n := 3) hE rfl dX2_allNext_27 (eX2_is g) rfl q2021 q2023 qs91 q2024 q134 nX2_is (by decide) (by decide) ?_
    refine si_if_eq (pc := 30) hE dX2_allNext_30 (by decide) h63 ?_
    refine si_aload_n (pc := 33) hE dX2_allNext_33 rfl ?_
    refine si_mga (pc := 34) (k := 20) hE rfl dX2_allNext_34 q1679 (by decide) rfl (fun _ => rfl) ?_
    refine si_iload (pc := 37) hE dX2_allNext_37 ?_
    refine si_mia (pc := 39) (k := 20) hE dX2_allNext_39 (by decide) rfl ?_
    refine si_if_lt (pc := 40) hE dX2_allNext_40 (by decide) h59 ?_
    refine si_aload_n (pc := 43) hE dX2_allNext_43 rfl ?_
    refine si_iload_n (pc := 44) hE dX2_allNext_44 rfl ?_
    refine si_aload_n (pc := 45) hE dX2_allNext_45 rfl ?_
    refine si_mga (pc := 46) (k := 20) hE rfl dX2_allNext_46 q1679 (by decide) rfl (fun _ => rfl) ?_
    refine si_iload (pc := 49) hE dX2_allNext_49 ?_
    refine si_mia (pc := 51) (k := 20) hE dX2_allNext_51 (by decide) rfl ?_
    refine si_iload_n (pc := 52) hE dX2_allNext_52 rfl ?_
    refine si_mc (pc := 53) (n := 3) hE rfl dX2_allNext_53 (eX2_is g) rfl q2021 q2023 qs91 q2024 q134 nX2_is (by decide) (by decide) ?_
    refine si_if_eq (pc := 56) hE dX2_allNext_56 (by decide) h63 ?_
    exact h59
  exact h0
def bX2_isBold_37 (mo : Nat) (R : Ret MS) : Cont MS :=
    o_zreturn R
def bX2_isBold_32 (mo : Nat) (R : Ret MS) : Cont MS :=
    o_ic 1 <|
    (bX2_isBold_37 mo R)
def bX2_isBold_36 (mo : Nat) (R : Ret MS) : Cont MS :=
    o_ic 0 <|
    (bX2_isBold_37 mo R)
def bX2_isBold_0 (mo : Nat) (R : Ret MS) : Cont MS :=
    o_al 0 <|
    o_mga mo 26 <|
    o_ic 32 <|
    o_il 1 <|
    o_imul <|
    o_il 2 <|
    o_iadd <|
    o_mia mo 26 <|
    o_ic 47 <|
    o_icmp_eq (bX2_isBold_32 mo R) <|
    o_al 0 <|
    o_mga mo 26 <|
    o_ic 32 <|
    o_il 1 <|
    o_imul <|
    o_il 2 <|
    o_iadd <|
    o_mia mo 26 <|
    o_ic 114 <|
    o_icmp_ne (bX2_isBold_36 mo R) <|
    (bX2_isBold_32 mo R)
def pX2_isBold (mo : Nat) : PT MS := fun as σ Q => (lg_sl as).length ≤ 3 ∧ bX2_isBold_0 mo Q (entP 3 as) [] σ
theorem nX2_isBold : parN yX2_isBold 2 := by unfold parN; decide +kernel
set_option maxHeartbeats 4000000 in
theorem eX2_isBold (g : GM) : CT (wM g) yX2_isBold (Cond.code yX2_isBold cX2_isBold 3 (some .boolean)) 0 0 (pX2_isBold g.1) := by
  refine CT.of (wM_ok g) (cc := cX2_isBold) (nL := 3) (ret := (some .boolean)) (ht := []) (by decide +kernel) (Or.inl ⟨rfl, rfl⟩) (B := bX2_isBold_0 g.1) (fun R E X hE => ?_)
  have h37 : E (bX2_isBold_37 g.1 R) 37 := by
    unfold bX2_isBold_37
    exact si_zreturn (pc := 37) hE dX2_isBold_37
  have h32 : E (bX2_isBold_32 g.1 R) 32 := by
    unfold bX2_isBold_32
    refine si_iconst (pc := 32) hE dX2_isBold_32 (by decide) ?_
    exact si_goto (pc := 33) hE dX2_isBold_33 (by decide) h37
  have h36 : E (bX2_isBold_36 g.1 R) 36 := by
    unfold bX2_isBold_36
    refine si_iconst (pc := 36) hE dX2_isBold_36 (by decide) ?_
    exact h37
  have h0 : E (bX2_isBold_0 g.1 R) 0 := by
    unfold bX2_isBold_0
    refine si_aload_n (pc := 0) hE dX2_isBold_0 rfl ?_
    refine si_mga (pc := 1) (k := 26) hE rfl dX2_isBold_1 q1685 (by decide) rfl (fun _ => rfl) ?_
    refine si_bipush (pc := 4) hE dX2_isBold_4 (by decide) ?_
    refine si_iload_n (pc := 6) hE dX2_isBold_6 rfl ?_
    refine si_imul (pc := 7) hE dX2_isBold_7 ?_
    refine si_iload_n (pc := 8) hE dX2_isBold_8 rfl ?_
    refine si_iadd (pc := 9) hE dX2_isBold_9 ?_
    refine si_mia (pc := 10) (k := 26) hE dX2_isBold_10 (by decide) rfl ?_
    refine si_bipush (pc := 11) hE dX2_isBold_11 (by decide) ?_
    refine si_icmp_eq (pc := 13) hE dX2_isBold_13 (by decide) h32 ?_
    refine si_aload_n (pc := 16) hE dX2_isBold_16 rfl ?_
    refine si_mga (pc := 17) (k := 26) hE rfl dX2_isBold_17 q1685 (by decide) rfl (fun _ => rfl) ?_
    refine si_bipush (pc := 20) hE dX2_isBold_20 (by decide) ?_
    refine si_iload_n (pc := 22) hE dX2_isBold_22 rfl ?_
    refine si_imul (pc := 23) hE dX2_isBold_23 ?_
    refine si_iload_n (pc := 24) hE dX2_isBold_24 rfl ?_
    refine si_iadd (pc := 25) hE dX2_isBold_25 ?_
    refine si_mia (pc := 26) (k := 26) hE dX2_isBold_26 (by decide) rfl ?_
    refine si_bipush (pc := 27) hE dX2_isBold_27 (by decide) ?_
    refine si_icmp_ne (pc := 29) hE dX2_isBold_29 (by decide) h36 ?_
    exact h32
  exact h0
def bX2_isSeen_48 (mo : Nat) (R : Ret MS) : Cont MS :=
    o_zreturn R
def bX2_isSeen_43 (mo : Nat) (R : Ret MS) : Cont MS :=
    o_ic 1 <|
    (bX2_isSeen_48 mo R)
def bX2_isSeen_47 (mo : Nat) (R : Ret MS) : Cont MS :=
    o_ic 0 <|
    (bX2_isSeen_48 mo R)
def bX2_isSeen_0 (mo : Nat) (R : Ret MS) : Cont MS :=
    o_al 0 <|
    o_mga mo 15 <|
    o_il 1 <|
    o_mia mo 15 <|
    o_ic 3 <|
    o_icmp_eq (bX2_isSeen_43 mo R) <|
    o_al 0 <|
    o_mga mo 15 <|
    o_il 1 <|
    o_mia mo 15 <|
    o_ic 2 <|
    o_icmp_eq (bX2_isSeen_43 mo R) <|
    o_al 0 <|
    o_mga mo 15 <|
    o_il 1 <|
    o_mia mo 15 <|
    o_if_ne (bX2_isSeen_47 mo R) <|
    o_al 0 <|
    o_ic 4 <|
    o_al 0 <|
    o_mga mo 18 <|
    o_il 1 <|
    o_mia mo 18 <|
    o_mc mo 3 (pX2_isBold mo) R <|
    o_if_eq (bX2_isSeen_47 mo R) <|
    (bX2_isSeen_43 mo R)
def pX2_isSeen (mo : Nat) : PT MS := fun as σ Q => (lg_sl as).length ≤ 2 ∧ bX2_isSeen_0 mo Q (entP 2 as) [] σ
theorem nX2_isSeen : parN yX2_isSeen 1 := by unfold parN; decide +kernel
set_option maxHeartbeats 4000000 in
theorem eX2_isSeen (g : GM) : CT (wM g) yX2_isSeen (Cond.code yX2_isSeen cX2_isSeen 2 (some .boolean)) 1 22 (pX2_isSeen g.1) := by
  refine CT.of (wM_ok g) (cc := cX2_isSeen) (nL := 2) (ret := (some .boolean)) (ht := []) (by decide +kernel) (Or.inl ⟨rfl, rfl⟩) (B := bX2_isSeen_0 g.1) (fun R E X hE => ?_)
  have h48 : E (bX2_isSeen_48 g.1 R) 48 := by
    unfold bX2_isSeen_48
    exact si_zreturn (pc := 48) hE dX2_isSeen_48
  have h43 : E (bX2_isSeen_43 g.1 R) 43 := by
    unfold bX2_isSeen_43
    refine si_iconst (pc := 43) hE dX2_isSeen_43 (by decide) ?_
    exact si_goto (pc := 44) hE dX2_isSeen_44 (by decide) h48
  have h47 : E (bX2_isSeen_47 g.1 R) 47 := by
    unfold bX2_isSeen_47
    refine si_iconst (pc := 47) hE dX2_isSeen_47 (by decide) ?_
    exact h48
  have h0 : E (bX2_isSeen_0 g.1 R) 0 := by
    unfold bX2_isSeen_0
    refine si_aload_n (pc := 0) hE dX2_isSeen_0 rfl ?_
    refine si_mga (pc := 1) (k := 15) hE rfl dX2_isSeen_1 q1674 (by decide) rfl (fun _ => rfl) ?_
    refine si_iload_n (pc := 4) hE dX2_isSeen_4 rfl ?_
    refine si_mia (pc := 5) (k := 15) hE dX2_isSeen_5 (by decide) rfl ?_
    refine si_iconst (pc := 6) hE dX2_isSeen_6 (by decide) ?_
    refine si_icmp_eq (pc := 7) hE dX2_isSeen_7 (by decide) h43 ?_
    refine si_aload_n (pc := 10) hE dX2_isSeen_10 rfl ?_
    refine si_mga (pc := 11) (k := 15) hE rfl dX2_isSeen_11 q1674 (by decide) rfl (fun _ => rfl) ?_
    refine si_iload_n (pc := 14) hE dX2_isSeen_14 rfl ?_
    refine si_mia (pc := 15) (k := 15) hE dX2_isSeen_15 (by decide) rfl ?_
    refine si_iconst (pc := 16) hE dX2_isSeen_16 (by decide) ?_
    refine si_icmp_eq (pc := 17) hE dX2_isSeen_17 (by decide) h43 ?_
    refine si_aload_n (pc := 20) hE dX2_isSeen_20 rfl ?_
    refine si_mga (pc := 21) (k := 15) hE rfl dX2_isSeen_21 q1674 (by decide) rfl (fun _ => rfl) ?_
    refine si_iload_n (pc := 24) hE dX2_isSeen_24 rfl ?_
    refine si_mia (pc := 25) (k := 15) hE dX2_isSeen_25 (by decide) rfl ?_
    refine si_if_ne (pc := 26) hE dX2_isSeen_26 (by decide) h47 ?_
    refine si_aload_n (pc := 29) hE dX2_isSeen_29 rfl ?_
    refine si_iconst (pc := 30) hE dX2_isSeen_30 (by decide) ?_
    refine si_aload_n (pc := 31) hE dX2_isSeen_31 rfl ?_
    refine si_mga (pc := 32) (k := 18) hE rfl dX2_isSeen_32 q1677 (by decide) rfl (fun _ => rfl) ?_
    refine si_iload_n (pc := 35) hE dX2_isSeen_35 rfl ?_
    refine si_mia (pc := 36) (k := 18) hE dX2_isSeen_36 (by decide) rfl ?_
    refine si_mc (pc := 37) (n := 2) hE rfl dX2_isSeen_37 (eX2_isBold g) rfl q2033 q2035 qs94 q2036 q134 nX2_isBold (by decide) (by decide) ?_
    refine si_if_eq (pc := 40) hE dX2_isSeen_40 (by decide) h47 ?_
    exact h43
  exact h0
def bX2_leads_33 (mo : Nat) (R : Ret MS) : Cont MS :=
    o_zreturn R
def bX2_leads_28 (mo : Nat) (R : Ret MS) : Cont MS :=
    o_ic 1 <|
    (bX2_leads_33 mo R)
def bX2_leads_32 (mo : Nat) (R : Ret MS) : Cont MS :=
    o_ic 0 <|
    (bX2_leads_33 mo R)
def bX2_leads_0 (mo : Nat) (R : Ret MS) : Cont MS :=
    o_al 0 <|
    o_mga mo 19 <|
    o_ic 960 <|
    o_il 1 <|
    o_iadd <|
    o_mia mo 19 <|
    o_il 2 <|
    o_icmp_eq (bX2_leads_28 mo R) <|
    o_al 0 <|
    o_mga mo 20 <|
    o_ic 960 <|
    o_il 1 <|
    o_iadd <|
    o_mia mo 20 <|
    o_il 2 <|
    o_icmp_ne (bX2_leads_32 mo R) <|
    (bX2_leads_28 mo R)
def pX2_leads (mo : Nat) : PT MS := fun as σ Q => (lg_sl as).length ≤ 3 ∧ bX2_leads_0 mo Q (entP 3 as) [] σ
theorem nX2_leads : parN yX2_leads 2 := by unfold parN; decide +kernel
set_option maxHeartbeats 4000000 in
theorem eX2_leads (g : GM) : CT (wM g) yX2_leads (Cond.code yX2_leads cX2_leads 3 (some .boolean)) 0 0 (pX2_leads g.1) := by
  refine CT.of (wM_ok g) (cc := cX2_leads) (nL := 3) (ret := (some .boolean)) (ht := []) (by decide +kernel) (Or.inl ⟨rfl, rfl⟩) (B := bX2_leads_0 g.1) (fun R E X hE => ?_)
  have h33 : E (bX2_leads_33 g.1 R) 33 := by
    unfold bX2_leads_33
    exact si_zreturn (pc := 33) hE dX2_leads_33
  have h28 : E (bX2_leads_28 g.1 R) 28 := by
    unfold bX2_leads_28
    refine si_iconst (pc := 28) hE dX2_leads_28 (by decide) ?_
    exact si_goto (pc := 29) hE dX2_leads_29 (by decide) h33
  have h32 : E (bX2_leads_32 g.1 R) 32 := by
    unfold bX2_leads_32
    refine si_iconst (pc := 32) hE dX2_leads_32 (by decide) ?_
    exact h33
  have h0 : E (bX2_leads_0 g.1 R) 0 := by
    unfold bX2_leads_0
    refine si_aload_n (pc := 0) hE dX2_leads_0 rfl ?_
    refine si_mga (pc := 1) (k := 19) hE rfl dX2_leads_1 q1678 (by decide) rfl (fun _ => rfl) ?_
    refine si_sipush (pc := 4) hE dX2_leads_4 (by decide) ?_
    refine si_iload_n (pc := 7) hE dX2_leads_7 rfl ?_
    refine si_iadd (pc := 8) hE dX2_leads_8 ?_
    refine si_mia (pc := 9) (k := 19) hE dX2_leads_9 (by decide) rfl ?_
    refine si_iload_n (pc := 10) hE dX2_leads_10 rfl ?_
    refine si_icmp_eq (pc := 11) hE dX2_leads_11 (by decide) h28 ?_
    refine si_aload_n (pc := 14) hE dX2_leads_14 rfl ?_
    refine si_mga (pc := 15) (k := 20) hE rfl dX2_leads_15 q1679 (by decide) rfl (fun _ => rfl) ?_
    refine si_sipush (pc := 18) hE dX2_leads_18 (by decide) ?_
    refine si_iload_n (pc := 21) hE dX2_leads_21 rfl ?_
    refine si_iadd (pc := 22) hE dX2_leads_22 ?_
    refine si_mia (pc := 23) (k := 20) hE dX2_leads_23 (by decide) rfl ?_
    refine si_iload_n (pc := 24) hE dX2_leads_24 rfl ?_
    refine si_icmp_ne (pc := 25) hE dX2_leads_25 (by decide) h32 ?_
    exact h28
  exact h0
def bX2_allAhead_118 (mo : Nat) (R : Ret MS) : Cont MS :=
    o_ic 1 <|
    o_zreturn R
def bX2_allAhead_112 (mo : Nat) (R : Ret MS) (J3 : Cont MS) : Cont MS :=
    o_iinc 4 1 <|
    (o_kill [5] J3)
def bX2_allAhead_103 (mo : Nat) (R : Ret MS) (J3 : Cont MS) : Cont MS :=
    o_is 5 <|
    o_il 5 <|
    o_if_ne (bX2_allAhead_112 mo R J3) <|
    o_ic 0 <|
    o_zreturn R
def bX2_allAhead_102 (mo : Nat) (R : Ret MS) (J3 : Cont MS) : Cont MS :=
    o_ic 0 <|
    (bX2_allAhead_103 mo R J3)
def bX2_allAhead_75 (mo : Nat) (R : Ret MS) (J3 : Cont MS) : Cont MS :=
    o_al 0 <|
    o_il 1 <|
    o_il 4 <|
    o_ic 32 <|
    o_mc mo 4 (pX2_is mo) R <|
    o_if_eq (bX2_allAhead_102 mo R J3) <|
    o_al 0 <|
    o_il 1 <|
    o_il 4 <|
    o_ic 1 <|
    o_mc mo 4 (pX2_is mo) R <|
    o_if_ne (bX2_allAhead_102 mo R J3) <|
    o_ic 1 <|
    (bX2_allAhead_103 mo R J3)
def bX2_allAhead_71 (mo : Nat) (R : Ret MS) (J3 : Cont MS) : Cont MS :=
    o_ic 0 <|
    (bX2_allAhead_103 mo R J3)
def bX2_allAhead_67 (mo : Nat) (R : Ret MS) (J3 : Cont MS) : Cont MS :=
    o_ic 1 <|
    (bX2_allAhead_103 mo R J3)
def bX2_allAhead_27 (mo : Nat) (R : Ret MS) (J3 : Cont MS) : Cont MS :=
    o_il 3 <|
    o_ic 8 <|
    o_icmp_ne (bX2_allAhead_75 mo R J3) <|
    o_al 0 <|
    o_il 1 <|
    o_il 4 <|
    o_ic 2 <|
    o_mc mo 4 (pX2_is mo) R <|
    o_if_ne (bX2_allAhead_71 mo R J3) <|
    o_al 0 <|
    o_il 1 <|
    o_il 4 <|
    o_ic 1 <|
    o_mc mo 4 (pX2_is mo) R <|
    o_if_ne (bX2_allAhead_67 mo R J3) <|
    o_al 0 <|
    o_il 1 <|
    o_il 4 <|
    o_ic 8 <|
    o_mc mo 4 (pX2_is mo) R <|
    o_if_eq (bX2_allAhead_71 mo R J3) <|
    (bX2_allAhead_67 mo R J3)
def bX2_allAhead_3 (mo : Nat) (R : Ret MS) : Cont MS :=
    fixC fun J3 =>
    o_il 4 <|
    o_al 0 <|
    o_mga mo 10 <|
    o_ic 4 <|
    o_mia mo 10 <|
    o_icmp_ge (bX2_allAhead_118 mo R) <|
    o_al 0 <|
    o_il 4 <|
    o_il 2 <|
    o_mc mo 3 (pX2_leads mo) R <|
    o_if_ne (bX2_allAhead_27 mo R J3) <|
    (bX2_allAhead_112 mo R J3)
def bX2_allAhead_0 (mo : Nat) (R : Ret MS) : Cont MS :=
    o_ic 0 <|
    o_is 4 <|
    (o_kill [5] (bX2_allAhead_3 mo R))
def pX2_allAhead (mo : Nat) : PT MS := fun as σ Q => (lg_sl as).length ≤ 6 ∧ bX2_allAhead_0 mo Q (entP 6 as) [] σ
theorem nX2_allAhead : parN yX2_allAhead 3 := by unfold parN; decide +kernel
set_option maxHeartbeats 4000000 in
theorem eX2_allAhead (g : GM) : CT (wM g) yX2_allAhead (Cond.code yX2_allAhead cX2_allAhead 6 (some .boolean)) 1 23 (pX2_allAhead g.1) := by
  refine CT.of (wM_ok g) (cc := cX2_allAhead) (nL := 6) (ret := (some .boolean)) (ht := []) (by decide +kernel) (Or.inl ⟨rfl, rfl⟩) (B := bX2_allAhead_0 g.1) (fun R E X hE => ?_)
  have h118 : E (bX2_allAhead_118 g.1 R) 118 := by
    unfold bX2_allAhead_118
    refine si_iconst (pc := 118) hE dX2_allAhead_118 (by decide) ?_
    exact si_zreturn (pc := 119) hE dX2_allAhead_119
  have h112 : ∀ (J3 : Cont MS) (hJ3 : E J3 3), E (bX2_allAhead_112 g.1 R J3) 112 := by
    intro J3 hJ3
    unfold bX2_allAhead_112
    refine si_iinc (pc := 112) hE dX2_allAhead_112 (by decide) (by decide) ?_
    exact si_goto (pc := 115) hE dX2_allAhead_115 (by decide) (si_kill hE hJ3)
  have h103 : ∀ (J3 : Cont MS) (hJ3 : E J3 3), E (bX2_allAhead_103 g.1 R J3) 103 := by
    intro J3 hJ3
    unfold bX2_allAhead_103
    refine si_istore (pc := 103) hE dX2_allAhead_103 (by decide) ?_
    refine si_iload (pc := 105) hE dX2_allAhead_105 ?_
    refine si_if_ne (pc := 107) hE dX2_allAhead_107 (by decide) (h112 J3 hJ3) ?_
    refine si_iconst (pc := 110) hE dX2_allAhead_110 (by decide) ?_
    exact si_zreturn (pc := 111) hE dX2_allAhead_111
  have h102 : ∀ (J3 : Cont MS) (hJ3 : E J3 3), E (bX2_allAhead_102 g.1 R J3) 102 := by
    intro J3 hJ3
    unfold bX2_allAhead_102
    refine si_iconst (pc := 102) hE dX2_allAhead_102 (by decide) ?_
    exact (h103 J3 hJ3)
  have h75 : ∀ (J3 : Cont MS) (hJ3 : E J3 3), E (bX2_allAhead_75 g.1 R J3) 75 := by
    intro J3 hJ3
    unfold bX2_allAhead_75
    refine si_aload_n (pc := 75) hE dX2_allAhead_75 rfl ?_
    refine si_iload_n (pc := 76) hE dX2_allAhead_76 rfl ?_
    refine si_iload (pc := 77) hE dX2_allAhead_77 ?_
    refine si_bipush (pc := 79) hE dX2_allAhead_79 (by decide) ?_
    refine si_mc (pc := 81) (n := 3) hE rfl dX2_allAhead_81 (eX2_is g) rfl q2021 q2023 qs91 q2024 q134 nX2_is (by decide) (by decide) ?_
    refine si_if_eq (pc := 84) hE dX2_allAhead_84 (by decide) (h102 J3 hJ3) ?_
    refine si_aload_n (pc := 87) hE dX2_allAhead_87 rfl ?_
    refine si_iload_n (pc := 88) hE dX2_allAhead_88 rfl ?_
    refine si_iload (pc := 89) hE dX2_allAhead_89 ?_
    refine si_iconst (pc := 91) hE dX2_allAhead_91 (by decide) ?_
    refine si_mc (pc := 92) (n := 3) hE rfl dX2_allAhead_92 (eX2_is g) rfl q2021 q2023 qs91 q2024 q134 nX2_is (by decide) (by decide) ?_
    refine si_if_ne (pc := 95) hE dX2_allAhead_95 (by decide) (h102 J3 hJ3) ?_
    refine si_iconst (pc := 98) hE dX2_allAhead_98 (by decide) ?_
    exact si_goto (pc := 99) hE dX2_allAhead_99 (by decide) (h103 J3 hJ3)
  have h71 : ∀ (J3 : Cont MS) (hJ3 : E J3 3), E (bX2_allAhead_71 g.1 R J3) 71 := by
    intro J3 hJ3
    unfold bX2_allAhead_71
    refine si_iconst (pc := 71) hE dX2_allAhead_71 (by decide) ?_
    exact si_goto (pc := 72) hE dX2_allAhead_72 (by decide) (h103 J3 hJ3)
  have h67 : ∀ (J3 : Cont MS) (hJ3 : E J3 3), E (bX2_allAhead_67 g.1 R J3) 67 := by
    intro J3 hJ3
    unfold bX2_allAhead_67
    refine si_iconst (pc := 67) hE dX2_allAhead_67 (by decide) ?_
    exact si_goto (pc := 68) hE dX2_allAhead_68 (by decide) (h103 J3 hJ3)
  have h27 : ∀ (J3 : Cont MS) (hJ3 : E J3 3), E (bX2_allAhead_27 g.1 R J3) 27 := by
    intro J3 hJ3
    unfold bX2_allAhead_27
    refine si_iload_n (pc := 27) hE dX2_allAhead_27 rfl ?_
    refine si_bipush (pc := 28) hE dX2_allAhead_28 (by decide) ?_
    refine si_icmp_ne (pc := 30) hE dX2_allAhead_30 (by decide) (h75 J3 hJ3) ?_
    refine si_aload_n (pc := 33) hE dX2_allAhead_33 rfl ?_
    refine si_iload_n (pc := 34) hE dX2_allAhead_34 rfl ?_
    refine si_iload (pc := 35) hE dX2_allAhead_35 ?_
    refine si_iconst (pc := 37) hE dX2_allAhead_37 (by decide) ?_
    refine si_mc (pc := 38) (n := 3) hE rfl dX2_allAhead_38 (eX2_is g) rfl q2021 q2023 qs91 q2024 q134 nX2_is (by decide) (by decide) ?_
    refine si_if_ne (pc := 41) hE dX2_allAhead_41 (by decide) (h71 J3 hJ3) ?_
    refine si_aload_n (pc := 44) hE dX2_allAhead_44 rfl ?_
    refine si_iload_n (pc := 45) hE dX2_allAhead_45 rfl ?_
    refine si_iload (pc := 46) hE dX2_allAhead_46 ?_
    refine si_iconst (pc := 48) hE dX2_allAhead_48 (by decide) ?_
    refine si_mc (pc := 49) (n := 3) hE rfl dX2_allAhead_49 (eX2_is g) rfl q2021 q2023 qs91 q2024 q134 nX2_is (by decide) (by decide) ?_
    refine si_if_ne (pc := 52) hE dX2_allAhead_52 (by decide) (h67 J3 hJ3) ?_
    refine si_aload_n (pc := 55) hE dX2_allAhead_55 rfl ?_
    refine si_iload_n (pc := 56) hE dX2_allAhead_56 rfl ?_
    refine si_iload (pc := 57) hE dX2_allAhead_57 ?_
    refine si_bipush (pc := 59) hE dX2_allAhead_59 (by decide) ?_
    refine si_mc (pc := 61) (n := 3) hE rfl dX2_allAhead_61 (eX2_is g) rfl q2021 q2023 qs91 q2024 q134 nX2_is (by decide) (by decide) ?_
    refine si_if_eq (pc := 64) hE dX2_allAhead_64 (by decide) (h71 J3 hJ3) ?_
    exact (h67 J3 hJ3)
  have h3 : E (bX2_allAhead_3 g.1 R) 3 := by
    unfold bX2_allAhead_3
    refine si_fix hE (fun J3 hJ3 => ?_)
    refine si_iload (pc := 3) hE dX2_allAhead_3 ?_
    refine si_aload_n (pc := 5) hE dX2_allAhead_5 rfl ?_
    refine si_mga (pc := 6) (k := 10) hE rfl dX2_allAhead_6 q1669 (by decide) rfl (fun _ => rfl) ?_
    refine si_iconst (pc := 9) hE dX2_allAhead_9 (by decide) ?_
    refine si_mia (pc := 10) (k := 10) hE dX2_allAhead_10 (by decide) rfl ?_
    refine si_icmp_ge (pc := 11) hE dX2_allAhead_11 (by decide) h118 ?_
    refine si_aload_n (pc := 14) hE dX2_allAhead_14 rfl ?_
    refine si_iload (pc := 15) hE dX2_allAhead_15 ?_
    refine si_iload_n (pc := 17) hE dX2_allAhead_17 rfl ?_
    refine si_mc (pc := 18) (n := 2) hE rfl dX2_allAhead_18 (eX2_leads g) rfl q2045 q2047 qs97 q2048 q134 nX2_leads (by decide) (by decide) ?_
    refine si_if_ne (pc := 21) hE dX2_allAhead_21 (by decide) (h27 J3 hJ3) ?_
    exact si_goto (pc := 24) hE dX2_allAhead_24 (by decide) (h112 J3 hJ3)
  have h0 : E (bX2_allAhead_0 g.1 R) 0 := by
    unfold bX2_allAhead_0
    refine si_iconst (pc := 0) hE dX2_allAhead_0 (by decide) ?_
    refine si_istore (pc := 1) hE dX2_allAhead_1 (by decide) ?_
    exact (si_kill hE h3)
  exact h0
def bX2_isAloneNext_38 (mo : Nat) (R : Ret MS) : Cont MS :=
    o_zreturn R
def bX2_isAloneNext_33 (mo : Nat) (R : Ret MS) : Cont MS :=
    o_ic 1 <|
    (bX2_isAloneNext_38 mo R)
def bX2_isAloneNext_37 (mo : Nat) (R : Ret MS) : Cont MS :=
    o_ic 0 <|
    (bX2_isAloneNext_38 mo R)
def bX2_isAloneNext_0 (mo : Nat) (R : Ret MS) : Cont MS :=
    o_al 0 <|
    o_il 1 <|
    o_il 2 <|
    o_ic 64 <|
    o_mc mo 4 (pX2_is mo) R <|
    o_if_ne (bX2_isAloneNext_33 mo R) <|
    o_al 0 <|
    o_il 1 <|
    o_il 2 <|
    o_ic 1 <|
    o_mc mo 4 (pX2_is mo) R <|
    o_if_ne (bX2_isAloneNext_37 mo R) <|
    o_al 0 <|
    o_il 1 <|
    o_il 2 <|
    o_ic 128 <|
    o_mc mo 4 (pX2_is mo) R <|
    o_if_eq (bX2_isAloneNext_37 mo R) <|
    (bX2_isAloneNext_33 mo R)
def pX2_isAloneNext (mo : Nat) : PT MS := fun as σ Q => (lg_sl as).length ≤ 3 ∧ bX2_isAloneNext_0 mo Q (entP 3 as) [] σ
theorem nX2_isAloneNext : parN yX2_isAloneNext 2 := by unfold parN; decide +kernel
set_option maxHeartbeats 4000000 in
theorem eX2_isAloneNext (g : GM) : CT (wM g) yX2_isAloneNext (Cond.code yX2_isAloneNext cX2_isAloneNext 3 (some .boolean)) 1 23 (pX2_isAloneNext g.1) := by
  refine CT.of (wM_ok g) (cc := cX2_isAloneNext) (nL := 3) (ret := (some .boolean)) (ht := []) (by decide +kernel) (Or.inl ⟨rfl, rfl⟩) (B := bX2_isAloneNext_0 g.1) (fun R E X hE => ?_)
  have h38 : E (bX2_isAloneNext_38 g.1 R) 38 := by
    unfold bX2_isAloneNext_38
    exact si_zreturn (pc := 38) hE dX2_isAloneNext_38
  have h33 : E (bX2_isAloneNext_33 g.1 R) 33 := by
    unfold bX2_isAloneNext_33
    refine si_iconst (pc := 33) hE dX2_isAloneNext_33 (by decide) ?_
    exact si_goto (pc := 34) hE dX2_isAloneNext_34 (by decide) h38
  have h37 : E (bX2_isAloneNext_37 g.1 R) 37 := by
    unfold bX2_isAloneNext_37
    refine si_iconst (pc := 37) hE dX2_isAloneNext_37 (by decide) ?_
    exact h38
  have h0 : E (bX2_isAloneNext_0 g.1 R) 0 := by
    unfold bX2_isAloneNext_0
    refine si_aload_n (pc := 0) hE dX2_isAloneNext_0 rfl ?_
    refine si_iload_n (pc := 1) hE dX2_isAloneNext_1 rfl ?_
    refine si_iload_n (pc := 2) hE dX2_isAloneNext_2 rfl ?_
    refine si_bipush (pc := 3) hE dX2_isAloneNext_3 (by decide) ?_
    refine si_mc (pc := 5) (n := 3) hE rfl dX2_isAloneNext_5 (eX2_is g) rfl q2021 q2023 qs91 q2024 q134 nX2_is (by decide) (by decide) ?_
    refine si_if_ne (pc := 8) hE dX2_isAloneNext_8 (by decide) h33 ?_
    refine si_aload_n (pc := 11) hE dX2_isAloneNext_11 rfl ?_
    refine si_iload_n (pc := 12) hE dX2_isAloneNext_12 rfl ?_
    refine si_iload_n (pc := 13) hE dX2_isAloneNext_13 rfl ?_
    refine si_iconst (pc := 14) hE dX2_isAloneNext_14 (by decide) ?_
    refine si_mc (pc := 15) (n := 3) hE rfl dX2_isAloneNext_15 (eX2_is g) rfl q2021 q2023 qs91 q2024 q134 nX2_is (by decide) (by decide) ?_
    refine si_if_ne (pc := 18) hE dX2_isAloneNext_18 (by decide) h37 ?_
    refine si_aload_n (pc := 21) hE dX2_isAloneNext_21 rfl ?_
    refine si_iload_n (pc := 22) hE dX2_isAloneNext_22 rfl ?_
    refine si_iload_n (pc := 23) hE dX2_isAloneNext_23 rfl ?_
    refine si_sipush (pc := 24) hE dX2_isAloneNext_24 (by decide) ?_
    refine si_mc (pc := 27) (n := 3) hE rfl dX2_isAloneNext_27 (eX2_is g) rfl q2021 q2023 qs91 q2024 q134 nX2_is (by decide) (by decide) ?_
    refine si_if_eq (pc := 30) hE dX2_isAloneNext_30 (by decide) h37 ?_
    exact h33
  exact h0
def bX2_holds_201 (mo : Nat) (R : Ret MS) : Cont MS :=
    o_zreturn R
def bX2_holds_196 (mo : Nat) (R : Ret MS) : Cont MS :=
    o_ic 1 <|
    (bX2_holds_201 mo R)
def bX2_holds_200 (mo : Nat) (R : Ret MS) : Cont MS :=
    o_ic 0 <|
    (bX2_holds_201 mo R)
def bX2_holds_171 (mo : Nat) (R : Ret MS) : Cont MS :=
    o_al 0 <|
    o_mga mo 20 <|
    o_il 5 <|
    o_mia mo 20 <|
    o_if_lt (bX2_holds_196 mo R) <|
    o_al 0 <|
    o_il 2 <|
    o_al 0 <|
    o_mga mo 20 <|
    o_il 5 <|
    o_mia mo 20 <|
    o_mc mo 3 (pX2_isAloneNext mo) R <|
    o_if_eq (bX2_holds_200 mo R) <|
    (bX2_holds_196 mo R)
def bX2_holds_146 (mo : Nat) (R : Ret MS) : Cont MS :=
    o_al 0 <|
    o_mga mo 19 <|
    o_il 5 <|
    o_mia mo 19 <|
    o_if_lt (bX2_holds_171 mo R) <|
    o_al 0 <|
    o_il 2 <|
    o_al 0 <|
    o_mga mo 19 <|
    o_il 5 <|
    o_mia mo 19 <|
    o_mc mo 3 (pX2_isAloneNext mo) R <|
    o_if_eq (bX2_holds_200 mo R) <|
    (bX2_holds_171 mo R)
def bX2_holds_145 (mo : Nat) (R : Ret MS) : Cont MS :=
    o_zreturn R
def bX2_holds_140 (mo : Nat) (R : Ret MS) : Cont MS :=
    o_ic 1 <|
    (bX2_holds_145 mo R)
def bX2_holds_144 (mo : Nat) (R : Ret MS) : Cont MS :=
    o_ic 0 <|
    (bX2_holds_145 mo R)
def bX2_holds_107 (mo : Nat) (R : Ret MS) : Cont MS :=
    o_il 4 <|
    o_ic 32 <|
    o_icmp_ne (bX2_holds_146 mo R) <|
    o_al 0 <|
    o_il 2 <|
    o_il 3 <|
    o_ic 16 <|
    o_mc mo 4 (pX2_is mo) R <|
    o_if_ne (bX2_holds_140 mo R) <|
    o_il 3 <|
    o_if_le (bX2_holds_144 mo R) <|
    o_al 0 <|
    o_il 2 <|
    o_il 3 <|
    o_ic 32 <|
    o_mc mo 4 (pX2_allAhead mo) R <|
    o_if_eq (bX2_holds_144 mo R) <|
    (bX2_holds_140 mo R)
def bX2_holds_106 (mo : Nat) (R : Ret MS) : Cont MS :=
    o_zreturn R
def bX2_holds_105 (mo : Nat) (R : Ret MS) : Cont MS :=
    o_ic 0 <|
    (bX2_holds_106 mo R)
def bX2_holds_79 (mo : Nat) (R : Ret MS) : Cont MS :=
    o_il 4 <|
    o_ic 8 <|
    o_icmp_ne (bX2_holds_107 mo R) <|
    o_il 3 <|
    o_if_le (bX2_holds_105 mo R) <|
    o_al 0 <|
    o_il 2 <|
    o_il 3 <|
    o_ic 8 <|
    o_mc mo 4 (pX2_allAhead mo) R <|
    o_if_eq (bX2_holds_105 mo R) <|
    o_ic 1 <|
    (bX2_holds_106 mo R)
def bX2_holds_78 (mo : Nat) (R : Ret MS) : Cont MS :=
    o_zreturn R
def bX2_holds_73 (mo : Nat) (R : Ret MS) : Cont MS :=
    o_ic 1 <|
    (bX2_holds_78 mo R)
def bX2_holds_77 (mo : Nat) (R : Ret MS) : Cont MS :=
    o_ic 0 <|
    (bX2_holds_78 mo R)
def bX2_holds_0 (mo : Nat) (R : Ret MS) : Cont MS :=
    o_ic 960 <|
    o_il 3 <|
    o_iadd <|
    o_is 5 <|
    o_il 4 <|
    o_ic 4 <|
    o_icmp_ne (bX2_holds_79 mo R) <|
    o_al 0 <|
    o_il 2 <|
    o_il 3 <|
    o_ic 1 <|
    o_mc mo 4 (pX2_is mo) R <|
    o_if_ne (bX2_holds_73 mo R) <|
    o_al 0 <|
    o_il 2 <|
    o_il 3 <|
    o_ic 2 <|
    o_mc mo 4 (pX2_is mo) R <|
    o_if_ne (bX2_holds_77 mo R) <|
    o_al 0 <|
    o_mga mo 15 <|
    o_il 5 <|
    o_mia mo 15 <|
    o_ic 6 <|
    o_icmp_eq (bX2_holds_77 mo R) <|
    o_al 0 <|
    o_il 2 <|
    o_il 3 <|
    o_ic 4 <|
    o_mc mo 4 (pX2_allNext mo) R <|
    o_if_eq (bX2_holds_77 mo R) <|
    o_al 0 <|
    o_ic 4 <|
    o_il 1 <|
    o_mc mo 3 (pX2_isBold mo) R <|
    o_if_eq (bX2_holds_73 mo R) <|
    o_al 0 <|
    o_il 5 <|
    o_mc mo 2 (pX2_isSeen mo) R <|
    o_if_ne (bX2_holds_77 mo R) <|
    (bX2_holds_73 mo R)
def pX2_holds (mo : Nat) : PT MS := fun as σ Q => (lg_sl as).length ≤ 6 ∧ bX2_holds_0 mo Q (entP 6 as) [] σ
theorem nX2_holds : parN yX2_holds 4 := by unfold parN; decide +kernel
set_option maxHeartbeats 4000000 in
theorem eX2_holds (g : GM) : CT (wM g) yX2_holds (Cond.code yX2_holds cX2_holds 6 (some .boolean)) 2 48 (pX2_holds g.1) := by
  refine CT.of (wM_ok g) (cc := cX2_holds) (nL := 6) (ret := (some .boolean)) (ht := []) (by decide +kernel) (Or.inl ⟨rfl, rfl⟩) (B := bX2_holds_0 g.1) (fun R E X hE => ?_)
  have h201 : E (bX2_holds_201 g.1 R) 201 := by
    unfold bX2_holds_201
    exact si_zreturn (pc := 201) hE dX2_holds_201
  have h196 : E (bX2_holds_196 g.1 R) 196 := by
    unfold bX2_holds_196
    refine si_iconst (pc := 196) hE dX2_holds_196 (by decide) ?_
    exact si_goto (pc := 197) hE dX2_holds_197 (by decide) h201
  have h200 : E (bX2_holds_200 g.1 R) 200 := by
    unfold bX2_holds_200
    refine si_iconst (pc := 200) hE dX2_holds_200 (by decide) ?_
    exact h201
  have h171 : E (bX2_holds_171 g.1 R) 171 := by
    unfold bX2_holds_171
    refine si_aload_n (pc := 171) hE dX2_holds_171 rfl ?_
    refine si_mga (pc := 172) (k := 20) hE rfl dX2_holds_172 q1679 (by decide) rfl (fun _ => rfl) ?_
    refine si_iload (pc := 175) hE dX2_holds_175 ?_
    refine si_mia (pc := 177) (k := 20) hE dX2_holds_177 (by decide) rfl ?_
    refine si_if_lt (pc := 178) hE dX2_holds_178 (by decide) h196 ?_
    refine si_aload_n (pc := 181) hE dX2_holds_181 rfl ?_
    refine si_iload_n (pc := 182) hE dX2_holds_182 rfl ?_
    refine si_aload_n (pc := 183) hE dX2_holds_183 rfl ?_
    refine si_mga (pc := 184) (k := 20) hE rfl dX2_holds_184 q1679 (by decide) rfl (fun _ => rfl) ?_
    refine si_iload (pc := 187) hE dX2_holds_187 ?_
    refine si_mia (pc := 189) (k := 20) hE dX2_holds_189 (by decide) rfl ?_
    refine si_mc (pc := 190) (n := 2) hE rfl dX2_holds_190 (eX2_isAloneNext g) rfl q2049 q2051 qs98 q2052 q134 nX2_isAloneNext (by decide) (by decide) ?_
    refine si_if_eq (pc := 193) hE dX2_holds_193 (by decide) h200 ?_
    exact h196
  have h146 : E (bX2_holds_146 g.1 R) 146 := by
    unfold bX2_holds_146
    refine si_aload_n (pc := 146) hE dX2_holds_146 rfl ?_
    refine si_mga (pc := 147) (k := 19) hE rfl dX2_holds_147 q1678 (by decide) rfl (fun _ => rfl) ?_
    refine si_iload (pc := 150) hE dX2_holds_150 ?_
    refine si_mia (pc := 152) (k := 19) hE dX2_holds_152 (by decide) rfl ?_
    refine si_if_lt (pc := 153) hE dX2_holds_153 (by decide) h171 ?_
    refine si_aload_n (pc := 156) hE dX2_holds_156 rfl ?_
    refine si_iload_n (pc := 157) hE dX2_holds_157 rfl ?_
    refine si_aload_n (pc := 158) hE dX2_holds_158 rfl ?_
    refine si_mga (pc := 159) (k := 19) hE rfl dX2_holds_159 q1678 (by decide) rfl (fun _ => rfl) ?_
    refine si_iload (pc := 162) hE dX2_holds_162 ?_
    refine si_mia (pc := 164) (k := 19) hE dX2_holds_164 (by decide) rfl ?_
    refine si_mc (pc := 165) (n := 2) hE rfl dX2_holds_165 (eX2_isAloneNext g) rfl q2049 q2051 qs98 q2052 q134 nX2_isAloneNext (by decide) (by decide) ?_
    refine si_if_eq (pc := 168) hE dX2_holds_168 (by decide) h200 ?_
    exact h171
  have h145 : E (bX2_holds_145 g.1 R) 145 := by
    unfold bX2_holds_145
    exact si_zreturn (pc := 145) hE dX2_holds_145
  have h140 : E (bX2_holds_140 g.1 R) 140 := by
    unfold bX2_holds_140
    refine si_iconst (pc := 140) hE dX2_holds_140 (by decide) ?_
    exact si_goto (pc := 141) hE dX2_holds_141 (by decide) h145
  have h144 : E (bX2_holds_144 g.1 R) 144 := by
    unfold bX2_holds_144
    refine si_iconst (pc := 144) hE dX2_holds_144 (by decide) ?_
    exact h145
  have h107 : E (bX2_holds_107 g.1 R) 107 := by
    unfold bX2_holds_107
    refine si_iload (pc := 107) hE dX2_holds_107 ?_
    refine si_bipush (pc := 109) hE dX2_holds_109 (by decide) ?_
    refine si_icmp_ne (pc := 111) hE dX2_holds_111 (by decide) h146 ?_
    refine si_aload_n (pc := 114) hE dX2_holds_114 rfl ?_
    refine si_iload_n (pc := 115) hE dX2_holds_115 rfl ?_
    refine si_iload_n (pc := 116) hE dX2_holds_116 rfl ?_
    refine si_bipush (pc := 117) hE dX2_holds_117 (by decide) ?_
    refine si_mc (pc := 119) (n := 3) hE rfl dX2_holds_119 (eX2_is g) rfl q2021 q2023 qs91 q2024 q134 nX2_is (by decide) (by decide) ?_
    refine si_if_ne (pc := 122) hE dX2_holds_122 (by decide) h140 ?_
    refine si_iload_n (pc := 125) hE dX2_holds_125 rfl ?_
    refine si_if_le (pc := 126) hE dX2_holds_126 (by decide) h144 ?_
    refine si_aload_n (pc := 129) hE dX2_holds_129 rfl ?_
    refine si_iload_n (pc := 130) hE dX2_holds_130 rfl ?_
    refine si_iload_n (pc := 131) hE dX2_holds_131 rfl ?_
    refine si_bipush (pc := 132) hE dX2_holds_132 (by decide) ?_
    refine si_mc (pc := 134) (n := 3) hE rfl dX2_holds_134 (eX2_allAhead g) rfl q2041 q2043 qs96 q2044 q134 nX2_allAhead (by decide) (by decide) ?_
    refine si_if_eq (pc := 137) hE dX2_holds_137 (by decide) h144 ?_
    exact h140
  have h106 : E (bX2_holds_106 g.1 R) 106 := by
    unfold bX2_holds_106
    exact si_zreturn (pc := 106) hE dX2_holds_106
  have h105 : E (bX2_holds_105 g.1 R) 105 := by
    unfold bX2_holds_105
    refine si_iconst (pc := 105) hE dX2_holds_105 (by decide) ?_
    exact h106
  have h79 : E (bX2_holds_79 g.1 R) 79 := by
    unfold bX2_holds_79
    refine si_iload (pc := 79) hE dX2_holds_79 ?_
    refine si_bipush (pc := 81) hE dX2_holds_81 (by decide) ?_
    refine si_icmp_ne (pc := 83) hE dX2_holds_83 (by decide) h107 ?_
    refine si_iload_n (pc := 86) hE dX2_holds_86 rfl ?_
    refine si_if_le (pc := 87) hE dX2_holds_87 (by decide) h105 ?_
    refine si_aload_n (pc := 90) hE dX2_holds_90 rfl ?_
    refine si_iload_n (pc := 91) hE dX2_holds_91 rfl ?_
    refine si_iload_n (pc := 92) hE dX2_holds_92 rfl ?_
    refine si_bipush (pc := 93) hE dX2_holds_93 (by decide) ?_
    refine si_mc (pc := 95) (n := 3) hE rfl dX2_holds_95 (eX2_allAhead g) rfl q2041 q2043 qs96 q2044 q134 nX2_allAhead (by decide) (by decide) ?_
    refine si_if_eq (pc := 98) hE dX2_holds_98 (by decide) h105 ?_
    refine si_iconst (pc := 101) hE dX2_holds_101 (by decide) ?_
    exact si_goto (pc := 102) hE dX2_holds_102 (by decide) h106
  have h78 : E (bX2_holds_78 g.1 R) 78 := by
    unfold bX2_holds_78
    exact si_zreturn (pc := 78) hE dX2_holds_78
  have h73 : E (bX2_holds_73 g.1 R) 73 := by
    unfold bX2_holds_73
    refine si_iconst (pc := 73) hE dX2_holds_73 (by decide) ?_
    exact si_goto (pc := 74) hE dX2_holds_74 (by decide) h78
  have h77 : E (bX2_holds_77 g.1 R) 77 := by
    unfold bX2_holds_77
    refine si_iconst (pc := 77) hE dX2_holds_77 (by decide) ?_
    exact h78
  have h0 : E (bX2_holds_0 g.1 R) 0 := by
    unfold bX2_holds_0
    refine si_sipush (pc := 0) hE dX2_holds_0 (by decide) ?_
    refine si_iload_n (pc := 3) hE dX2_holds_3 rfl ?_
    refine si_iadd (pc := 4) hE dX2_holds_4 ?_
    refine si_istore (pc := 5) hE dX2_holds_5 (by decide) ?_
    refine si_iload (pc := 7) hE dX2_holds_7 ?_
    refine si_iconst (pc := 9) hE dX2_holds_9 (by decide) ?_
    refine si_icmp_ne (pc := 10) hE dX2_holds_10 (by decide) h79 ?_
    refine si_aload_n (pc := 13) hE dX2_holds_13 rfl ?_
    refine si_iload_n (pc := 14) hE dX2_holds_14 rfl ?_
    refine si_iload_n (pc := 15) hE dX2_holds_15 rfl ?_
    refine si_iconst (pc := 16) hE dX2_holds_16 (by decide) ?_
    refine si_mc (pc := 17) (n := 3) hE rfl dX2_holds_17 (eX2_is g) rfl q2021 q2023 qs91 q2024 q134 nX2_is (by decide) (by decide) ?_
    refine si_if_ne (pc := 20) hE dX2_holds_20 (by decide) h73 ?_
    refine si_aload_n (pc := 23) hE dX2_holds_23 rfl ?_
    refine si_iload_n (pc := 24) hE dX2_holds_24 rfl ?_
    refine si_iload_n (pc := 25) hE dX2_holds_25 rfl ?_
    refine si_iconst (pc := 26) hE dX2_holds_26 (by decide) ?_
    refine si_mc (pc := 27) (n := 3) hE rfl dX2_holds_27 (eX2_is g) rfl q2021 q2023 qs91 q2024 q134 nX2_is (by decide) (by decide) ?_
    refine si_if_ne (pc := 30) hE dX2_holds_30 (by decide) h77 ?_
    refine si_aload_n (pc := 33) hE dX2_holds_33 rfl ?_
    refine si_mga (pc := 34) (k := 15) hE rfl dX2_holds_34 q1674 (by decide) rfl (fun _ => rfl) ?_
    refine si_iload (pc := 37) hE dX2_holds_37 ?_
    refine si_mia (pc := 39) (k := 15) hE dX2_holds_39 (by decide) rfl ?_
    refine si_bipush (pc := 40) hE dX2_holds_40 (by decide) ?_
    refine si_icmp_eq (pc := 42) hE dX2_holds_42 (by decide) h77 ?_
    refine si_aload_n (pc := 45) hE dX2_holds_45 rfl ?_
    refine si_iload_n (pc := 46) hE dX2_holds_46 rfl ?_
    refine si_iload_n (pc := 47) hE dX2_holds_47 rfl ?_
    refine si_iconst (pc := 48) hE dX2_holds_48 (by decide) ?_
    refine si_mc (pc := 49) (n := 3) hE rfl dX2_holds_49 (eX2_allNext g) rfl q2029 q2031 qs93 q2032 q134 nX2_allNext (by decide) (by decide) ?_
    refine si_if_eq (pc := 52) hE dX2_holds_52 (by decide) h77 ?_
    refine si_aload_n (pc := 55) hE dX2_holds_55 rfl ?_
    refine si_iconst (pc := 56) hE dX2_holds_56 (by decide) ?_
    refine si_iload_n (pc := 57) hE dX2_holds_57 rfl ?_
    refine si_mc (pc := 58) (n := 2) hE rfl dX2_holds_58 (eX2_isBold g) rfl q2033 q2035 qs94 q2036 q134 nX2_isBold (by decide) (by decide) ?_
    refine si_if_eq (pc := 61) hE dX2_holds_61 (by decide) h73 ?_
    refine si_aload_n (pc := 64) hE dX2_holds_64 rfl ?_
    refine si_iload (pc := 65) hE dX2_holds_65 ?_
    refine si_mc (pc := 67) (n := 1) hE rfl dX2_holds_67 (eX2_isSeen g) rfl q2037 q2039 qs95 q2040 q134 nX2_isSeen (by decide) (by decide) ?_
    refine si_if_ne (pc := 70) hE dX2_holds_70 (by decide) h77 ?_
    exact h73
  exact h0
def bX2_narrow_85 (mo : Nat) (R : Ret MS) : Cont MS :=
    o_return R
def bX2_narrow_82 (mo : Nat) (R : Ret MS) (J10 : Cont MS) : Cont MS :=
    (o_kill [5] J10)
def bX2_narrow_76 (mo : Nat) (R : Ret MS) (J10 : Cont MS) (J21 : Cont MS) : Cont MS :=
    o_iinc 5 1 <|
    J21
def bX2_narrow_58 (mo : Nat) (R : Ret MS) (J10 : Cont MS) (J21 : Cont MS) : Cont MS :=
    o_al 0 <|
    o_mga mo 31 <|
    o_il 3 <|
    o_il 5 <|
    o_iadd <|
    o_dup2 <|
    o_mia mo 31 <|
    o_il 2 <|
    o_ic (-1) <|
    o_ixor <|
    o_iand <|
    o_mis mo 31 <|
    o_ic 1 <|
    o_is 4 <|
    (bX2_narrow_76 mo R J10 J21)
def bX2_narrow_21 (mo : Nat) (R : Ret MS) (J10 : Cont MS) : Cont MS :=
    fixC fun J21 =>
    o_il 5 <|
    o_al 0 <|
    o_mga mo 10 <|
    o_ic 4 <|
    o_mia mo 10 <|
    o_icmp_ge (bX2_narrow_82 mo R J10) <|
    o_al 0 <|
    o_il 3 <|
    o_il 5 <|
    o_il 2 <|
    o_mc mo 4 (pX2_is mo) R <|
    o_if_eq (bX2_narrow_76 mo R J10 J21) <|
    o_al 0 <|
    o_il 1 <|
    o_il 3 <|
    o_il 5 <|
    o_il 2 <|
    o_mc mo 5 (pX2_holds mo) R <|
    o_if_eq (bX2_narrow_58 mo R J10 J21) <|
    (bX2_narrow_76 mo R J10 J21)
def bX2_narrow_10 (mo : Nat) (R : Ret MS) : Cont MS :=
    fixC fun J10 =>
    o_il 4 <|
    o_if_eq (bX2_narrow_85 mo R) <|
    o_ic 0 <|
    o_is 4 <|
    o_ic 0 <|
    o_is 5 <|
    (bX2_narrow_21 mo R J10)
def bX2_narrow_0 (mo : Nat) (R : Ret MS) : Cont MS :=
    o_al 0 <|
    o_ic 4 <|
    o_il 1 <|
    o_mc mo 3 (pX2_base mo) R <|
    o_is 3 <|
    o_ic 1 <|
    o_is 4 <|
    (o_kill [5] (bX2_narrow_10 mo R))
def pX2_narrow (mo : Nat) : PT MS := fun as σ Q => (lg_sl as).length ≤ 6 ∧ bX2_narrow_0 mo Q (entP 6 as) [] σ
theorem nX2_narrow : parN yX2_narrow 2 := by unfold parN; decide +kernel
set_option maxHeartbeats 4000000 in
theorem eX2_narrow (g : GM) : CT (wM g) yX2_narrow (Cond.code yX2_narrow cX2_narrow 6 none) 3 73 (pX2_narrow g.1) := by
  refine CT.of (wM_ok g) (cc := cX2_narrow) (nL := 6) (ret := none) (ht := []) (by decide +kernel) (Or.inl ⟨rfl, rfl⟩) (B := bX2_narrow_0 g.1) (fun R E X hE => ?_)
  have h85 : E (bX2_narrow_85 g.1 R) 85 := by
    unfold bX2_narrow_85
    exact si_return (pc := 85) hE dX2_narrow_85
  have h82 : ∀ (J10 : Cont MS) (hJ10 : E J10 10), E (bX2_narrow_82 g.1 R J10) 82 := by
    intro J10 hJ10
    unfold bX2_narrow_82
    exact si_goto (pc := 82) hE dX2_narrow_82 (by decide) (si_kill hE hJ10)
  have h76 : ∀ (J10 : Cont MS) (hJ10 : E J10 10) (J21 : Cont MS) (hJ21 : E J21 21), E (bX2_narrow_76 g.1 R J10 J21) 76 := by
    intro J10 hJ10 J21 hJ21
    unfold bX2_narrow_76
    refine si_iinc (pc := 76) hE dX2_narrow_76 (by decide) (by decide) ?_
    exact si_goto (pc := 79) hE dX2_narrow_79 (by decide) hJ21
  have h58 : ∀ (J10 : Cont MS) (hJ10 : E J10 10) (J21 : Cont MS) (hJ21 : E J21 21), E (bX2_narrow_58 g.1 R J10 J21) 58 := by
    intro J10 hJ10 J21 hJ21
    unfold bX2_narrow_58
    refine si_aload_n (pc := 58) hE dX2_narrow_58 rfl ?_
    refine si_mga (pc := 59) (k := 31) hE rfl dX2_narrow_59 q1690 (by decide) rfl (fun _ => rfl) ?_
    refine si_iload_n (pc := 62) hE dX2_narrow_62 rfl ?_
    refine si_iload (pc := 63) hE dX2_narrow_63 ?_
    refine si_iadd (pc := 65) hE dX2_narrow_65 ?_
    refine si_dup2 (pc := 66) hE dX2_narrow_66 ?_
    refine si_mia (pc := 67) (k := 31) hE dX2_narrow_67 (by decide) rfl ?_
    refine si_iload_n (pc := 68) hE dX2_narrow_68 rfl ?_
    refine si_iconst (pc := 69) hE dX2_narrow_69 (by decide) ?_
    refine si_ixor (pc := 70) hE dX2_narrow_70 ?_
    refine si_iand (pc := 71) hE dX2_narrow_71 ?_
    refine si_mis (pc := 72) (k := 31) hE dX2_narrow_72 (by decide) rfl ?_
    refine si_iconst (pc := 73) hE dX2_narrow_73 (by decide) ?_
    refine si_istore (pc := 74) hE dX2_narrow_74 (by decide) ?_
    exact (h76 J10 hJ10 J21 hJ21)
  have h21 : ∀ (J10 : Cont MS) (hJ10 : E J10 10), E (bX2_narrow_21 g.1 R J10) 21 := by
    intro J10 hJ10
    unfold bX2_narrow_21
    refine si_fix hE (fun J21 hJ21 => ?_)
    refine si_iload (pc := 21) hE dX2_narrow_21 ?_
    refine si_aload_n (pc := 23) hE dX2_narrow_23 rfl ?_
    refine si_mga (pc := 24) (k := 10) hE rfl dX2_narrow_24 q1669 (by decide) rfl (fun _ => rfl) ?_
    refine si_iconst (pc := 27) hE dX2_narrow_27 (by decide) ?_
    refine si_mia (pc := 28) (k := 10) hE dX2_narrow_28 (by decide) rfl ?_
    refine si_icmp_ge (pc := 29) hE dX2_narrow_29 (by decide) (h82 J10 hJ10) ?_
    refine si_aload_n (pc := 32) hE dX2_narrow_32 rfl ?_
    refine si_iload_n (pc := 33) hE dX2_narrow_33 rfl ?_
    refine si_iload (pc := 34) hE dX2_narrow_34 ?_
    refine si_iload_n (pc := 36) hE dX2_narrow_36 rfl ?_
    refine si_mc (pc := 37) (n := 3) hE rfl dX2_narrow_37 (eX2_is g) rfl q2021 q2023 qs91 q2024 q134 nX2_is (by decide) (by decide) ?_
    refine si_if_eq (pc := 40) hE dX2_narrow_40 (by decide) (h76 J10 hJ10 J21 hJ21) ?_
    refine si_aload_n (pc := 43) hE dX2_narrow_43 rfl ?_
    refine si_iload_n (pc := 44) hE dX2_narrow_44 rfl ?_
    refine si_iload_n (pc := 45) hE dX2_narrow_45 rfl ?_
    refine si_iload (pc := 46) hE dX2_narrow_46 ?_
    refine si_iload_n (pc := 48) hE dX2_narrow_48 rfl ?_
    refine si_mc (pc := 49) (n := 4) hE rfl dX2_narrow_49 (eX2_holds g) rfl q2025 q2027 qs92 q2028 q134 nX2_holds (by decide) (by decide) ?_
    refine si_if_eq (pc := 52) hE dX2_narrow_52 (by decide) (h58 J10 hJ10 J21 hJ21) ?_
    exact si_goto (pc := 55) hE dX2_narrow_55 (by decide) (h76 J10 hJ10 J21 hJ21)
  have h10 : E (bX2_narrow_10 g.1 R) 10 := by
    unfold bX2_narrow_10
    refine si_fix hE (fun J10 hJ10 => ?_)
    refine si_iload (pc := 10) hE dX2_narrow_10 ?_
    refine si_if_eq (pc := 12) hE dX2_narrow_12 (by decide) h85 ?_
    refine si_iconst (pc := 15) hE dX2_narrow_15 (by decide) ?_
    refine si_istore (pc := 16) hE dX2_narrow_16 (by decide) ?_
    refine si_iconst (pc := 18) hE dX2_narrow_18 (by decide) ?_
    refine si_istore (pc := 19) hE dX2_narrow_19 (by decide) ?_
    exact (h21 J10 hJ10)
  have h0 : E (bX2_narrow_0 g.1 R) 0 := by
    unfold bX2_narrow_0
    refine si_aload_n (pc := 0) hE dX2_narrow_0 rfl ?_
    refine si_iconst (pc := 1) hE dX2_narrow_1 (by decide) ?_
    refine si_iload_n (pc := 2) hE dX2_narrow_2 rfl ?_
    refine si_mc (pc := 3) (n := 2) hE rfl dX2_narrow_3 (eX2_base g) rfl q2009 q2011 qs88 q2012 q134 nX2_base (by decide) (by decide) ?_
    refine si_istore_n (pc := 6) hE dX2_narrow_6 rfl (by decide) ?_
    refine si_iconst (pc := 7) hE dX2_narrow_7 (by decide) ?_
    refine si_istore (pc := 8) hE dX2_narrow_8 (by decide) ?_
    exact (si_kill hE h10)
  exact h0
def bX2_anyAhead_60 (mo : Nat) (R : Ret MS) : Cont MS :=
    o_ic 0 <|
    o_zreturn R
def bX2_anyAhead_54 (mo : Nat) (R : Ret MS) (J2 : Cont MS) : Cont MS :=
    o_iinc 3 1 <|
    J2
def bX2_anyAhead_52 (mo : Nat) (R : Ret MS) : Cont MS :=
    o_ic 1 <|
    o_zreturn R
def bX2_anyAhead_2 (mo : Nat) (R : Ret MS) : Cont MS :=
    fixC fun J2 =>
    o_il 3 <|
    o_al 0 <|
    o_mga mo 10 <|
    o_ic 4 <|
    o_mia mo 10 <|
    o_icmp_ge (bX2_anyAhead_60 mo R) <|
    o_al 0 <|
    o_il 3 <|
    o_il 2 <|
    o_mc mo 3 (pX2_leads mo) R <|
    o_if_eq (bX2_anyAhead_54 mo R J2) <|
    o_al 0 <|
    o_il 1 <|
    o_il 3 <|
    o_ic 2 <|
    o_mc mo 4 (pX2_is mo) R <|
    o_if_ne (bX2_anyAhead_52 mo R) <|
    o_al 0 <|
    o_il 1 <|
    o_il 3 <|
    o_ic 8 <|
    o_mc mo 4 (pX2_is mo) R <|
    o_if_ne (bX2_anyAhead_54 mo R J2) <|
    o_al 0 <|
    o_il 1 <|
    o_il 3 <|
    o_ic 4 <|
    o_mc mo 4 (pX2_is mo) R <|
    o_if_ne (bX2_anyAhead_54 mo R J2) <|
    (bX2_anyAhead_52 mo R)
def bX2_anyAhead_0 (mo : Nat) (R : Ret MS) : Cont MS :=
    o_ic 0 <|
    o_is 3 <|
    (bX2_anyAhead_2 mo R)
def pX2_anyAhead (mo : Nat) : PT MS := fun as σ Q => (lg_sl as).length ≤ 4 ∧ bX2_anyAhead_0 mo Q (entP 4 as) [] σ
theorem nX2_anyAhead : parN yX2_anyAhead 2 := by unfold parN; decide +kernel
set_option maxHeartbeats 4000000 in
theorem eX2_anyAhead (g : GM) : CT (wM g) yX2_anyAhead (Cond.code yX2_anyAhead cX2_anyAhead 4 (some .boolean)) 1 23 (pX2_anyAhead g.1) := by
  refine CT.of (wM_ok g) (cc := cX2_anyAhead) (nL := 4) (ret := (some .boolean)) (ht := []) (by decide +kernel) (Or.inl ⟨rfl, rfl⟩) (B := bX2_anyAhead_0 g.1) (fun R E X hE => ?_)
  have h60 : E (bX2_anyAhead_60 g.1 R) 60 := by
    unfold bX2_anyAhead_60
    refine si_iconst (pc := 60) hE dX2_anyAhead_60 (by decide) ?_
    exact si_zreturn (pc := 61) hE dX2_anyAhead_61
  have h54 : ∀ (J2 : Cont MS) (hJ2 : E J2 2), E (bX2_anyAhead_54 g.1 R J2) 54 := by
    intro J2 hJ2
    unfold bX2_anyAhead_54
    refine si_iinc (pc := 54) hE dX2_anyAhead_54 (by decide) (by decide) ?_
    exact si_goto (pc := 57) hE dX2_anyAhead_57 (by decide) hJ2
  have h52 : E (bX2_anyAhead_52 g.1 R) 52 := by
    unfold bX2_anyAhead_52
    refine si_iconst (pc := 52) hE dX2_anyAhead_52 (by decide) ?_
    exact si_zreturn (pc := 53) hE dX2_anyAhead_53
  have h2 : E (bX2_anyAhead_2 g.1 R) 2 := by
    unfold bX2_anyAhead_2
    refine si_fix hE (fun J2 hJ2 => ?_)
    refine si_iload_n (pc := 2) hE dX2_anyAhead_2 rfl ?_
    refine si_aload_n (pc := 3) hE dX2_anyAhead_3 rfl ?_
    refine si_mga (pc := 4) (k := 10) hE rfl dX2_anyAhead_4 q1669 (by decide) rfl (fun _ => rfl) ?_
    refine si_iconst (pc := 7) hE dX2_anyAhead_7 (by decide) ?_
    refine si_mia (pc := 8) (k := 10) hE dX2_anyAhead_8 (by decide) rfl ?_
    refine si_icmp_ge (pc := 9) hE dX2_anyAhead_9 (by decide) h60 ?_
    refine si_aload_n (pc := 12) hE dX2_anyAhead_12 rfl ?_
    refine si_iload_n (pc := 13) hE dX2_anyAhead_13 rfl ?_
    refine si_iload_n (pc := 14) hE dX2_anyAhead_14 rfl ?_
    refine si_mc (pc := 15) (n := 2) hE rfl dX2_anyAhead_15 (eX2_leads g) rfl q2045 q2047 qs97 q2048 q134 nX2_leads (by decide) (by decide) ?_
    refine si_if_eq (pc := 18) hE dX2_anyAhead_18 (by decide) (h54 J2 hJ2) ?_
    refine si_aload_n (pc := 21) hE dX2_anyAhead_21 rfl ?_
    refine si_iload_n (pc := 22) hE dX2_anyAhead_22 rfl ?_
    refine si_iload_n (pc := 23) hE dX2_anyAhead_23 rfl ?_
    refine si_iconst (pc := 24) hE dX2_anyAhead_24 (by decide) ?_
    refine si_mc (pc := 25) (n := 3) hE rfl dX2_anyAhead_25 (eX2_is g) rfl q2021 q2023 qs91 q2024 q134 nX2_is (by decide) (by decide) ?_
    refine si_if_ne (pc := 28) hE dX2_anyAhead_28 (by decide) h52 ?_
    refine si_aload_n (pc := 31) hE dX2_anyAhead_31 rfl ?_
    refine si_iload_n (pc := 32) hE dX2_anyAhead_32 rfl ?_
    refine si_iload_n (pc := 33) hE dX2_anyAhead_33 rfl ?_
    refine si_bipush (pc := 34) hE dX2_anyAhead_34 (by decide) ?_
    refine si_mc (pc := 36) (n := 3) hE rfl dX2_anyAhead_36 (eX2_is g) rfl q2021 q2023 qs91 q2024 q134 nX2_is (by decide) (by decide) ?_
    refine si_if_ne (pc := 39) hE dX2_anyAhead_39 (by decide) (h54 J2 hJ2) ?_
    refine si_aload_n (pc := 42) hE dX2_anyAhead_42 rfl ?_
    refine si_iload_n (pc := 43) hE dX2_anyAhead_43 rfl ?_
    refine si_iload_n (pc := 44) hE dX2_anyAhead_44 rfl ?_
    refine si_iconst (pc := 45) hE dX2_anyAhead_45 (by decide) ?_
    refine si_mc (pc := 46) (n := 3) hE rfl dX2_anyAhead_46 (eX2_is g) rfl q2021 q2023 qs91 q2024 q134 nX2_is (by decide) (by decide) ?_
    refine si_if_ne (pc := 49) hE dX2_anyAhead_49 (by decide) (h54 J2 hJ2) ?_
    exact h52
  have h0 : E (bX2_anyAhead_0 g.1 R) 0 := by
    unfold bX2_anyAhead_0
    refine si_iconst (pc := 0) hE dX2_anyAhead_0 (by decide) ?_
    refine si_istore_n (pc := 1) hE dX2_anyAhead_1 rfl (by decide) ?_
    exact h2
  exact h0
def bX2_settle_221 (mo : Nat) (R : Ret MS) : Cont MS :=
    o_al 0 <|
    o_il 1 <|
    o_ic 128 <|
    o_mc mo 3 (pX2_narrow mo) R <|
    o_return R
def bX2_settle_215 (mo : Nat) (R : Ret MS) (J160 : Cont MS) : Cont MS :=
    o_iinc 3 1 <|
    (o_kill [4] J160)
def bX2_settle_202 (mo : Nat) (R : Ret MS) (J160 : Cont MS) : Cont MS :=
    o_al 0 <|
    o_mga mo 31 <|
    o_il 2 <|
    o_il 3 <|
    o_iadd <|
    o_dup2 <|
    o_mia mo 31 <|
    o_ic 64 <|
    o_ior <|
    o_mis mo 31 <|
    (bX2_settle_215 mo R J160)
def bX2_settle_160 (mo : Nat) (R : Ret MS) : Cont MS :=
    fixC fun J160 =>
    o_il 3 <|
    o_al 0 <|
    o_mga mo 10 <|
    o_ic 4 <|
    o_mia mo 10 <|
    o_icmp_ge (bX2_settle_221 mo R) <|
    o_al 0 <|
    o_il 2 <|
    o_il 3 <|
    o_ic 32 <|
    o_mc mo 4 (pX2_is mo) R <|
    o_if_eq (bX2_settle_215 mo R J160) <|
    o_al 0 <|
    o_il 2 <|
    o_il 3 <|
    o_ic 1 <|
    o_mc mo 4 (pX2_is mo) R <|
    o_if_ne (bX2_settle_202 mo R J160) <|
    o_al 0 <|
    o_il 2 <|
    o_il 3 <|
    o_ic 32 <|
    o_mc mo 4 (pX2_allNext mo) R <|
    o_if_ne (bX2_settle_215 mo R J160) <|
    (bX2_settle_202 mo R J160)
def bX2_settle_151 (mo : Nat) (R : Ret MS) : Cont MS :=
    o_al 0 <|
    o_il 1 <|
    o_ic 32 <|
    o_mc mo 3 (pX2_narrow mo) R <|
    o_ic 0 <|
    o_is 3 <|
    (o_kill [4] (bX2_settle_160 mo R))
def bX2_settle_145 (mo : Nat) (R : Ret MS) (J99 : Cont MS) : Cont MS :=
    o_iinc 3 1 <|
    (o_kill [4] J99)
def bX2_settle_132 (mo : Nat) (R : Ret MS) (J99 : Cont MS) : Cont MS :=
    o_al 0 <|
    o_mga mo 31 <|
    o_il 2 <|
    o_il 3 <|
    o_iadd <|
    o_dup2 <|
    o_mia mo 31 <|
    o_ic 16 <|
    o_ior <|
    o_mis mo 31 <|
    (bX2_settle_145 mo R J99)
def bX2_settle_99 (mo : Nat) (R : Ret MS) : Cont MS :=
    fixC fun J99 =>
    o_il 3 <|
    o_al 0 <|
    o_mga mo 10 <|
    o_ic 4 <|
    o_mia mo 10 <|
    o_icmp_ge (bX2_settle_151 mo R) <|
    o_al 0 <|
    o_il 2 <|
    o_il 3 <|
    o_ic 4 <|
    o_mc mo 4 (pX2_is mo) R <|
    o_if_eq (bX2_settle_145 mo R J99) <|
    o_il 3 <|
    o_if_eq (bX2_settle_132 mo R J99) <|
    o_al 0 <|
    o_il 2 <|
    o_il 3 <|
    o_mc mo 3 (pX2_anyAhead mo) R <|
    o_if_eq (bX2_settle_145 mo R J99) <|
    (bX2_settle_132 mo R J99)
def bX2_settle_84 (mo : Nat) (R : Ret MS) : Cont MS :=
    o_al 0 <|
    o_il 1 <|
    o_ic 4 <|
    o_mc mo 3 (pX2_narrow mo) R <|
    o_al 0 <|
    o_il 1 <|
    o_ic 8 <|
    o_mc mo 3 (pX2_narrow mo) R <|
    o_ic 0 <|
    o_is 3 <|
    (o_kill [4] (bX2_settle_99 mo R))
def bX2_settle_64 (mo : Nat) (R : Ret MS) (J9 : Cont MS) : Cont MS :=
    o_ior <|
    o_ic 4 <|
    o_ior <|
    o_ic 8 <|
    o_ior <|
    o_ic 32 <|
    o_ior <|
    o_ic 128 <|
    o_ior <|
    o_mis mo 31 <|
    o_iinc 3 1 <|
    (o_kill [4] J9)
def bX2_settle_63 (mo : Nat) (R : Ret MS) (J9 : Cont MS) : Cont MS :=
    o_ic 0 <|
    (bX2_settle_64 mo R J9)
def bX2_settle_49 (mo : Nat) (R : Ret MS) (J9 : Cont MS) : Cont MS :=
    o_al 0 <|
    o_il 4 <|
    o_il 1 <|
    o_mc mo 3 (pX2_kills mo) R <|
    o_if_eq (bX2_settle_63 mo R J9) <|
    o_ic 2 <|
    (bX2_settle_64 mo R J9)
def bX2_settle_48 (mo : Nat) (R : Ret MS) (J9 : Cont MS) : Cont MS :=
    o_ic 0 <|
    (bX2_settle_49 mo R J9)
def bX2_settle_9 (mo : Nat) (R : Ret MS) : Cont MS :=
    fixC fun J9 =>
    o_il 3 <|
    o_al 0 <|
    o_mga mo 10 <|
    o_ic 4 <|
    o_mia mo 10 <|
    o_icmp_ge (bX2_settle_84 mo R) <|
    o_ic 960 <|
    o_il 3 <|
    o_iadd <|
    o_is 4 <|
    o_al 0 <|
    o_mga mo 31 <|
    o_il 2 <|
    o_il 3 <|
    o_iadd <|
    o_al 0 <|
    o_mga mo 18 <|
    o_il 4 <|
    o_mia mo 18 <|
    o_il 1 <|
    o_icmp_ne (bX2_settle_48 mo R J9) <|
    o_ic 1 <|
    (bX2_settle_49 mo R J9)
def bX2_settle_0 (mo : Nat) (R : Ret MS) : Cont MS :=
    o_al 0 <|
    o_ic 4 <|
    o_il 1 <|
    o_mc mo 3 (pX2_base mo) R <|
    o_is 2 <|
    o_ic 0 <|
    o_is 3 <|
    (o_kill [4] (bX2_settle_9 mo R))
def pX2_settle (mo : Nat) : PT MS := fun as σ Q => (lg_sl as).length ≤ 5 ∧ bX2_settle_0 mo Q (entP 5 as) [] σ
theorem nX2_settle : parN yX2_settle 1 := by unfold parN; decide +kernel
set_option maxHeartbeats 4000000 in
theorem eX2_settle (g : GM) : CT (wM g) yX2_settle (Cond.code yX2_settle cX2_settle 5 none) 4 98 (pX2_settle g.1) := by
  refine CT.of (wM_ok g) (cc := cX2_settle) (nL := 5) (ret := none) (ht := []) (by decide +kernel) (Or.inl ⟨rfl, rfl⟩) (B := bX2_settle_0 g.1) (fun R E X hE => ?_)
  have h221 : E (bX2_settle_221 g.1 R) 221 := by
    unfold bX2_settle_221
    refine si_aload_n (pc := 221) hE dX2_settle_221 rfl ?_
    refine si_iload_n (pc := 222) hE dX2_settle_222 rfl ?_
    refine si_sipush (pc := 223) hE dX2_settle_223 (by decide) ?_
    refine si_mc (pc := 226) (n := 2) hE rfl dX2_settle_226 (eX2_narrow g) rfl q2017 q2019 qs90 q2020 q134 nX2_narrow (by decide) (by decide) ?_
    exact si_return (pc := 229) hE dX2_settle_229
  have h215 : ∀ (J160 : Cont MS) (hJ160 : E J160 160), E (bX2_settle_215 g.1 R J160) 215 := by
    intro J160 hJ160
    unfold bX2_settle_215
    refine si_iinc (pc := 215) hE dX2_settle_215 (by decide) (by decide) ?_
    exact si_goto (pc := 218) hE dX2_settle_218 (by decide) (si_kill hE hJ160)
  have h202 : ∀ (J160 : Cont MS) (hJ160 : E J160 160), E (bX2_settle_202 g.1 R J160) 202 := by
    intro J160 hJ160
    unfold bX2_settle_202
    refine si_aload_n (pc := 202) hE dX2_settle_202 rfl ?_
    refine si_mga (pc := 203) (k := 31) hE rfl dX2_settle_203 q1690 (by decide) rfl (fun _ => rfl) ?_
    refine si_iload_n (pc := 206) hE dX2_settle_206 rfl ?_
    refine si_iload_n (pc := 207) hE dX2_settle_207 rfl ?_
    refine si_iadd (pc := 208) hE dX2_settle_208 ?_
    refine si_dup2 (pc := 209) hE dX2_settle_209 ?_
    refine si_mia (pc := 210) (k := 31) hE dX2_settle_210 (by decide) rfl ?_
    refine si_bipush (pc := 211) hE dX2_settle_211 (by decide) ?_
    refine si_ior (pc := 213) hE dX2_settle_213 ?_
    refine si_mis (pc := 214) (k := 31) hE dX2_settle_214 (by decide) rfl ?_
    exact (h215 J160 hJ160)
  have h160 : E (bX2_settle_160 g.1 R) 160 := by
    unfold bX2_settle_160
    refine si_fix hE (fun J160 hJ160 => ?_)
    refine si_iload_n (pc := 160) hE dX2_settle_160 rfl ?_
    refine si_aload_n (pc := 161) hE dX2_settle_161 rfl ?_
    refine si_mga (pc := 162) (k := 10) hE rfl dX2_settle_162 q1669 (by decide) rfl (fun _ => rfl) ?_
    refine si_iconst (pc := 165) hE dX2_settle_165 (by decide) ?_
    refine si_mia (pc := 166) (k := 10) hE dX2_settle_166 (by decide) rfl ?_
    refine si_icmp_ge (pc := 167) hE dX2_settle_167 (by decide) h221 ?_
    refine si_aload_n (pc := 170) hE dX2_settle_170 rfl ?_
    refine si_iload_n (pc := 171) hE dX2_settle_171 rfl ?_
    refine si_iload_n (pc := 172) hE dX2_settle_172 rfl ?_
    refine si_bipush (pc := 173) hE dX2_settle_173 (by decide) ?_
    refine si_mc (pc := 175) (n := 3) hE rfl dX2_settle_175 (eX2_is g) rfl q2021 q2023 qs91 q2024 q134 nX2_is (by decide) (by decide) ?_
    refine si_if_eq (pc := 178) hE dX2_settle_178 (by decide) (h215 J160 hJ160) ?_
    refine si_aload_n (pc := 181) hE dX2_settle_181 rfl ?_
    refine si_iload_n (pc := 182) hE dX2_settle_182 rfl ?_
    refine si_iload_n (pc := 183) hE dX2_settle_183 rfl ?_
    refine si_iconst (pc := 184) hE dX2_settle_184 (by decide) ?_
    refine si_mc (pc := 185) (n := 3) hE rfl dX2_settle_185 (eX2_is g) rfl q2021 q2023 qs91 q2024 q134 nX2_is (by decide) (by decide) ?_
    refine si_if_ne (pc := 188) hE dX2_settle_188 (by decide) (h202 J160 hJ160) ?_
    refine si_aload_n (pc := 191) hE dX2_settle_191 rfl ?_
    refine si_iload_n (pc := 192) hE dX2_settle_192 rfl ?_
    refine si_iload_n (pc := 193) hE dX2_settle_193 rfl ?_
    refine si_bipush (pc := 194) hE dX2_settle_194 (by decide) ?_
    refine si_mc (pc := 196) (n := 3) hE rfl dX2_settle_196 (eX2_allNext g) rfl q2029 q2031 qs93 q2032 q134 nX2_allNext (by decide) (by decide) ?_
    refine si_if_ne (pc := 199) hE dX2_settle_199 (by decide) (h215 J160 hJ160) ?_
    exact (h202 J160 hJ160)
  have h151 : E (bX2_settle_151 g.1 R) 151 := by
    unfold bX2_settle_151
    refine si_aload_n (pc := 151) hE dX2_settle_151 rfl ?_
    refine si_iload_n (pc := 152) hE dX2_settle_152 rfl ?_
    refine si_bipush (pc := 153) hE dX2_settle_153 (by decide) ?_
    refine si_mc (pc := 155) (n := 2) hE rfl dX2_settle_155 (eX2_narrow g) rfl q2017 q2019 qs90 q2020 q134 nX2_narrow (by decide) (by decide) ?_
    refine si_iconst (pc := 158) hE dX2_settle_158 (by decide) ?_
    refine si_istore_n (pc := 159) hE dX2_settle_159 rfl (by decide) ?_
    exact (si_kill hE h160)
  have h145 : ∀ (J99 : Cont MS) (hJ99 : E J99 99), E (bX2_settle_145 g.1 R J99) 145 := by
    intro J99 hJ99
    unfold bX2_settle_145
    refine si_iinc (pc := 145) hE dX2_settle_145 (by decide) (by decide) ?_
    exact si_goto (pc := 148) hE dX2_settle_148 (by decide) (si_kill hE hJ99)
  have h132 : ∀ (J99 : Cont MS) (hJ99 : E J99 99), E (bX2_settle_132 g.1 R J99) 132 := by
    intro J99 hJ99
    unfold bX2_settle_132
    refine si_aload_n (pc := 132) hE dX2_settle_132 rfl ?_
    refine si_mga (pc := 133) (k := 31) hE rfl dX2_settle_133 q1690 (by decide) rfl (fun _ => rfl) ?_
    refine si_iload_n (pc := 136) hE dX2_settle_136 rfl ?_
    refine si_iload_n (pc := 137) hE dX2_settle_137 rfl ?_
    refine si_iadd (pc := 138) hE dX2_settle_138 ?_
    refine si_dup2 (pc := 139) hE dX2_settle_139 ?_
    refine si_mia (pc := 140) (k := 31) hE dX2_settle_140 (by decide) rfl ?_
    refine si_bipush (pc := 141) hE dX2_settle_141 (by decide) ?_
    refine si_ior (pc := 143) hE dX2_settle_143 ?_
    refine si_mis (pc := 144) (k := 31) hE dX2_settle_144 (by decide) rfl ?_
    exact (h145 J99 hJ99)
  have h99 : E (bX2_settle_99 g.1 R) 99 := by
    unfold bX2_settle_99
    refine si_fix hE (fun J99 hJ99 => ?_)
    refine si_iload_n (pc := 99) hE dX2_settle_99 rfl ?_
    refine si_aload_n (pc := 100) hE dX2_settle_100 rfl ?_
    refine si_mga (pc := 101) (k := 10) hE rfl dX2_settle_101 q1669 (by decide) rfl (fun _ => rfl) ?_
    refine si_iconst (pc := 104) hE dX2_settle_104 (by decide) ?_
    refine si_mia (pc := 105) (k := 10) hE dX2_settle_105 (by decide) rfl ?_
    refine si_icmp_ge (pc := 106) hE dX2_settle_106 (by decide) h151 ?_
    refine si_aload_n (pc := 109) hE dX2_settle_109 rfl ?_
    refine si_iload_n (pc := 110) hE dX2_settle_110 rfl ?_
    refine si_iload_n (pc := 111) hE dX2_settle_111 rfl ?_
    refine si_iconst (pc := 112) hE dX2_settle_112 (by decide) ?_
    refine si_mc (pc := 113) (n := 3) hE rfl dX2_settle_113 (eX2_is g) rfl q2021 q2023 qs91 q2024 q134 nX2_is (by decide) (by decide) ?_
    refine si_if_eq (pc := 116) hE dX2_settle_116 (by decide) (h145 J99 hJ99) ?_
    refine si_iload_n (pc := 119) hE dX2_settle_119 rfl ?_
    refine si_if_eq (pc := 120) hE dX2_settle_120 (by decide) (h132 J99 hJ99) ?_
    refine si_aload_n (pc := 123) hE dX2_settle_123 rfl ?_
    refine si_iload_n (pc := 124) hE dX2_settle_124 rfl ?_
    refine si_iload_n (pc := 125) hE dX2_settle_125 rfl ?_
    refine si_mc (pc := 126) (n := 2) hE rfl dX2_settle_126 (eX2_anyAhead g) rfl q2053 q2055 qs99 q2056 q134 nX2_anyAhead (by decide) (by decide) ?_
    refine si_if_eq (pc := 129) hE dX2_settle_129 (by decide) (h145 J99 hJ99) ?_
    exact (h132 J99 hJ99)
  have h84 : E (bX2_settle_84 g.1 R) 84 := by
    unfold bX2_settle_84
    refine si_aload_n (pc := 84) hE dX2_settle_84 rfl ?_
    refine si_iload_n (pc := 85) hE dX2_settle_85 rfl ?_
    refine si_iconst (pc := 86) hE dX2_settle_86 (by decide) ?_
    refine si_mc (pc := 87) (n := 2) hE rfl dX2_settle_87 (eX2_narrow g) rfl q2017 q2019 qs90 q2020 q134 nX2_narrow (by decide) (by decide) ?_
    refine si_aload_n (pc := 90) hE dX2_settle_90 rfl ?_
    refine si_iload_n (pc := 91) hE dX2_settle_91 rfl ?_
    refine si_bipush (pc := 92) hE dX2_settle_92 (by decide) ?_
    refine si_mc (pc := 94) (n := 2) hE rfl dX2_settle_94 (eX2_narrow g) rfl q2017 q2019 qs90 q2020 q134 nX2_narrow (by decide) (by decide) ?_
    refine si_iconst (pc := 97) hE dX2_settle_97 (by decide) ?_
    refine si_istore_n (pc := 98) hE dX2_settle_98 rfl (by decide) ?_
    exact (si_kill hE h99)
  have h64 : ∀ (J9 : Cont MS) (hJ9 : E J9 9), E (bX2_settle_64 g.1 R J9) 64 := by
    intro J9 hJ9
    unfold bX2_settle_64
    refine si_ior (pc := 64) hE dX2_settle_64 ?_
    refine si_iconst (pc := 65) hE dX2_settle_65 (by decide) ?_
    refine si_ior (pc := 66) hE dX2_settle_66 ?_
    refine si_bipush (pc := 67) hE dX2_settle_67 (by decide) ?_
    refine si_ior (pc := 69) hE dX2_settle_69 ?_
    refine si_bipush (pc := 70) hE dX2_settle_70 (by decide) ?_
    refine si_ior (pc := 72) hE dX2_settle_72 ?_
    refine si_sipush (pc := 73) hE dX2_settle_73 (by decide) ?_
    refine si_ior (pc := 76) hE dX2_settle_76 ?_
    refine si_mis (pc := 77) (k := 31) hE dX2_settle_77 (by decide) rfl ?_
    refine si_iinc (pc := 78) hE dX2_settle_78 (by decide) (by decide) ?_
    exact si_goto (pc := 81) hE dX2_settle_81 (by decide) (si_kill hE hJ9)
  have h63 : ∀ (J9 : Cont MS) (hJ9 : E J9 9), E (bX2_settle_63 g.1 R J9) 63 := by
    intro J9 hJ9
    unfold bX2_settle_63
    refine si_iconst (pc := 63) hE dX2_settle_63 (by decide) ?_
    exact (h64 J9 hJ9)
  have h49 : ∀ (J9 : Cont MS) (hJ9 : E J9 9), E (bX2_settle_49 g.1 R J9) 49 := by
    intro J9 hJ9
    unfold bX2_settle_49
    refine si_aload_n (pc := 49) hE dX2_settle_49 rfl ?_
    refine si_iload (pc := 50) hE dX2_settle_50 ?_
    refine si_iload_n (pc := 52) hE dX2_settle_52 rfl ?_
    refine si_mc (pc := 53) (n := 2) hE rfl dX2_settle_53 (eX2_kills g) rfl q2013 q2015 qs89 q2016 q134 nX2_kills (by decide) (by decide) ?_
    refine si_if_eq (pc := 56) hE dX2_settle_56 (by decide) (h63 J9 hJ9) ?_
    refine si_iconst (pc := 59) hE dX2_settle_59 (by decide) ?_
    exact si_goto (pc := 60) hE dX2_settle_60 (by decide) (h64 J9 hJ9)
  have h48 : ∀ (J9 : Cont MS) (hJ9 : E J9 9), E (bX2_settle_48 g.1 R J9) 48 := by
    intro J9 hJ9
    unfold bX2_settle_48
    refine si_iconst (pc := 48) hE dX2_settle_48 (by decide) ?_
    exact (h49 J9 hJ9)
  have h9 : E (bX2_settle_9 g.1 R) 9 := by
    unfold bX2_settle_9
    refine si_fix hE (fun J9 hJ9 => ?_)
    refine si_iload_n (pc := 9) hE dX2_settle_9 rfl ?_
    refine si_aload_n (pc := 10) hE dX2_settle_10 rfl ?_
    refine si_mga (pc := 11) (k := 10) hE rfl dX2_settle_11 q1669 (by decide) rfl (fun _ => rfl) ?_
    refine si_iconst (pc := 14) hE dX2_settle_14 (by decide) ?_
    refine si_mia (pc := 15) (k := 10) hE dX2_settle_15 (by decide) rfl ?_
    refine si_icmp_ge (pc := 16) hE dX2_settle_16 (by decide) h84 ?_
    refine si_sipush (pc := 19) hE dX2_settle_19 (by decide) ?_
    refine si_iload_n (pc := 22) hE dX2_settle_22 rfl ?_
    refine si_iadd (pc := 23) hE dX2_settle_23 ?_
    refine si_istore (pc := 24) hE dX2_settle_24 (by decide) ?_
    refine si_aload_n (pc := 26) hE dX2_settle_26 rfl ?_
    refine si_mga (pc := 27) (k := 31) hE rfl dX2_settle_27 q1690 (by decide) rfl (fun _ => rfl) ?_
    refine si_iload_n (pc := 30) hE dX2_settle_30 rfl ?_
    refine si_iload_n (pc := 31) hE dX2_settle_31 rfl ?_
    refine si_iadd (pc := 32) hE dX2_settle_32 ?_
    refine si_aload_n (pc := 33) hE dX2_settle_33 rfl ?_
    refine si_mga (pc := 34) (k := 18) hE rfl dX2_settle_34 q1677 (by decide) rfl (fun _ => rfl) ?_
    refine si_iload (pc := 37) hE dX2_settle_37 ?_
    refine si_mia (pc := 39) (k := 18) hE dX2_settle_39 (by decide) rfl ?_
    refine si_iload_n (pc := 40) hE dX2_settle_40 rfl ?_
    refine si_icmp_ne (pc := 41) hE dX2_settle_41 (by decide) (h48 J9 hJ9) ?_
    refine si_iconst (pc := 44) hE dX2_settle_44 (by decide) ?_
    exact si_goto (pc := 45) hE dX2_settle_45 (by decide) (h49 J9 hJ9)
  have h0 : E (bX2_settle_0 g.1 R) 0 := by
    unfold bX2_settle_0
    refine si_aload_n (pc := 0) hE dX2_settle_0 rfl ?_
    refine si_iconst (pc := 1) hE dX2_settle_1 (by decide) ?_
    refine si_iload_n (pc := 2) hE dX2_settle_2 rfl ?_
    refine si_mc (pc := 3) (n := 2) hE rfl dX2_settle_3 (eX2_base g) rfl q2009 q2011 qs88 q2012 q134 nX2_base (by decide) (by decide) ?_
    refine si_istore_n (pc := 6) hE dX2_settle_6 rfl (by decide) ?_
    refine si_iconst (pc := 7) hE dX2_settle_7 (by decide) ?_
    refine si_istore_n (pc := 8) hE dX2_settle_8 rfl (by decide) ?_
    exact (si_kill hE h9)
  exact h0
def bX2_copy_444 (mo : Nat) (R : Ret MS) : Cont MS :=
    o_return R
def bX2_copy_438 (mo : Nat) (R : Ret MS) (J279 : Cont MS) : Cont MS :=
    o_iinc 2 1 <|
    (o_kill [3, 4] J279)
def bX2_copy_396 (mo : Nat) (R : Ret MS) (J279 : Cont MS) : Cont MS :=
    fixC fun J396 =>
    o_il 3 <|
    o_al 0 <|
    o_mga mo 10 <|
    o_il 1 <|
    o_mia mo 10 <|
    o_icmp_ge (bX2_copy_438 mo R J279) <|
    o_al 0 <|
    o_mga mo 31 <|
    o_al 0 <|
    o_il 1 <|
    o_il 2 <|
    o_mc mo 3 (pX2_base mo) R <|
    o_il 3 <|
    o_iadd <|
    o_al 0 <|
    o_mga mo 31 <|
    o_al 0 <|
    o_ic 4 <|
    o_il 2 <|
    o_mc mo 3 (pX2_base mo) R <|
    o_il 3 <|
    o_iadd <|
    o_mia mo 31 <|
    o_mis mo 31 <|
    o_iinc 3 1 <|
    (o_kill [4] J396)
def bX2_copy_279 (mo : Nat) (R : Ret MS) : Cont MS :=
    fixC fun J279 =>
    o_il 2 <|
    o_al 0 <|
    o_mga mo 12 <|
    o_il 1 <|
    o_mia mo 12 <|
    o_icmp_ge (bX2_copy_444 mo R) <|
    o_al 0 <|
    o_mga mo 26 <|
    o_ic 32 <|
    o_il 1 <|
    o_imul <|
    o_il 2 <|
    o_iadd <|
    o_al 0 <|
    o_mga mo 26 <|
    o_ic 128 <|
    o_il 2 <|
    o_iadd <|
    o_mia mo 26 <|
    o_mis mo 26 <|
    o_al 0 <|
    o_mga mo 27 <|
    o_ic 32 <|
    o_il 1 <|
    o_imul <|
    o_il 2 <|
    o_iadd <|
    o_al 0 <|
    o_mga mo 27 <|
    o_ic 128 <|
    o_il 2 <|
    o_iadd <|
    o_mia mo 27 <|
    o_mis mo 27 <|
    o_al 0 <|
    o_mga mo 28 <|
    o_ic 32 <|
    o_il 1 <|
    o_imul <|
    o_il 2 <|
    o_iadd <|
    o_al 0 <|
    o_mga mo 28 <|
    o_ic 128 <|
    o_il 2 <|
    o_iadd <|
    o_mia mo 28 <|
    o_mis mo 28 <|
    o_al 0 <|
    o_mga mo 29 <|
    o_ic 32 <|
    o_il 1 <|
    o_imul <|
    o_il 2 <|
    o_iadd <|
    o_al 0 <|
    o_mga mo 29 <|
    o_ic 128 <|
    o_il 2 <|
    o_iadd <|
    o_mia mo 29 <|
    o_mis mo 29 <|
    o_al 0 <|
    o_mga mo 30 <|
    o_ic 32 <|
    o_il 1 <|
    o_imul <|
    o_il 2 <|
    o_iadd <|
    o_al 0 <|
    o_mga mo 30 <|
    o_ic 128 <|
    o_il 2 <|
    o_iadd <|
    o_mia mo 30 <|
    o_mis mo 30 <|
    o_ic 0 <|
    o_is 3 <|
    (o_kill [4] (bX2_copy_396 mo R J279))
def bX2_copy_277 (mo : Nat) (R : Ret MS) : Cont MS :=
    o_ic 0 <|
    o_is 2 <|
    (o_kill [3, 4] (bX2_copy_279 mo R))
def bX2_copy_103 (mo : Nat) (R : Ret MS) : Cont MS :=
    fixC fun J103 =>
    o_il 2 <|
    o_al 0 <|
    o_mga mo 10 <|
    o_il 1 <|
    o_mia mo 10 <|
    o_icmp_ge (bX2_copy_277 mo R) <|
    o_ic 240 <|
    o_il 1 <|
    o_imul <|
    o_il 2 <|
    o_iadd <|
    o_is 3 <|
    o_ic 960 <|
    o_il 2 <|
    o_iadd <|
    o_is 4 <|
    o_al 0 <|
    o_mga mo 15 <|
    o_il 3 <|
    o_al 0 <|
    o_mga mo 15 <|
    o_il 4 <|
    o_mia mo 15 <|
    o_mis mo 15 <|
    o_al 0 <|
    o_mga mo 16 <|
    o_il 3 <|
    o_al 0 <|
    o_mga mo 16 <|
    o_il 4 <|
    o_mia mo 16 <|
    o_mis mo 16 <|
    o_al 0 <|
    o_mga mo 17 <|
    o_il 3 <|
    o_al 0 <|
    o_mga mo 17 <|
    o_il 4 <|
    o_mia mo 17 <|
    o_mis mo 17 <|
    o_al 0 <|
    o_mga mo 18 <|
    o_il 3 <|
    o_al 0 <|
    o_mga mo 18 <|
    o_il 4 <|
    o_mia mo 18 <|
    o_mis mo 18 <|
    o_al 0 <|
    o_mga mo 19 <|
    o_il 3 <|
    o_al 0 <|
    o_mga mo 19 <|
    o_il 4 <|
    o_mia mo 19 <|
    o_mis mo 19 <|
    o_al 0 <|
    o_mga mo 20 <|
    o_il 3 <|
    o_al 0 <|
    o_mga mo 20 <|
    o_il 4 <|
    o_mia mo 20 <|
    o_mis mo 20 <|
    o_al 0 <|
    o_mga mo 21 <|
    o_il 3 <|
    o_al 0 <|
    o_mga mo 21 <|
    o_il 4 <|
    o_mia mo 21 <|
    o_mis mo 21 <|
    o_al 0 <|
    o_mga mo 22 <|
    o_il 3 <|
    o_al 0 <|
    o_mga mo 22 <|
    o_il 4 <|
    o_mia mo 22 <|
    o_mis mo 22 <|
    o_al 0 <|
    o_mga mo 23 <|
    o_il 3 <|
    o_al 0 <|
    o_mga mo 23 <|
    o_il 4 <|
    o_mia mo 23 <|
    o_mis mo 23 <|
    o_al 0 <|
    o_mga mo 24 <|
    o_il 3 <|
    o_al 0 <|
    o_mga mo 24 <|
    o_il 4 <|
    o_mia mo 24 <|
    o_mis mo 24 <|
    o_al 0 <|
    o_mga mo 25 <|
    o_il 3 <|
    o_al 0 <|
    o_mga mo 25 <|
    o_il 4 <|
    o_mia mo 25 <|
    o_mis mo 25 <|
    o_iinc 2 1 <|
    (o_kill [3, 4] J103)
def bX2_copy_101 (mo : Nat) (R : Ret MS) : Cont MS :=
    o_ic 0 <|
    o_is 2 <|
    (o_kill [3, 4] (bX2_copy_103 mo R))
def bX2_copy_64 (mo : Nat) (R : Ret MS) : Cont MS :=
    fixC fun J64 =>
    o_il 2 <|
    o_al 0 <|
    o_mga mo 9 <|
    o_il 1 <|
    o_mia mo 9 <|
    o_icmp_ge (bX2_copy_101 mo R) <|
    o_al 0 <|
    o_mga mo 13 <|
    o_ic 41 <|
    o_il 1 <|
    o_imul <|
    o_il 2 <|
    o_iadd <|
    o_al 0 <|
    o_mga mo 13 <|
    o_ic 164 <|
    o_il 2 <|
    o_iadd <|
    o_mia mo 13 <|
    o_mis mo 13 <|
    o_iinc 2 1 <|
    (o_kill [3, 4] J64)
def bX2_copy_0 (mo : Nat) (R : Ret MS) : Cont MS :=
    o_al 0 <|
    o_mga mo 8 <|
    o_il 1 <|
    o_ic 1 <|
    o_mbs mo 8 <|
    o_al 0 <|
    o_mga mo 9 <|
    o_il 1 <|
    o_al 0 <|
    o_mga mo 9 <|
    o_ic 4 <|
    o_mia mo 9 <|
    o_mis mo 9 <|
    o_al 0 <|
    o_mga mo 10 <|
    o_il 1 <|
    o_al 0 <|
    o_mga mo 10 <|
    o_ic 4 <|
    o_mia mo 10 <|
    o_mis mo 10 <|
    o_al 0 <|
    o_mga mo 11 <|
    o_il 1 <|
    o_al 0 <|
    o_mga mo 11 <|
    o_ic 4 <|
    o_mia mo 11 <|
    o_mis mo 11 <|
    o_al 0 <|
    o_mga mo 12 <|
    o_il 1 <|
    o_al 0 <|
    o_mga mo 12 <|
    o_ic 4 <|
    o_mia mo 12 <|
    o_mis mo 12 <|
    o_al 0 <|
    o_mga mo 57 <|
    o_il 1 <|
    o_ic 0 <|
    o_mis mo 57 <|
    o_ic 0 <|
    o_is 2 <|
    (o_kill [3, 4] (bX2_copy_64 mo R))
def pX2_copy (mo : Nat) : PT MS := fun as σ Q => (lg_sl as).length ≤ 5 ∧ bX2_copy_0 mo Q (entP 5 as) [] σ
theorem nX2_copy : parN yX2_copy 1 := by unfold parN; decide +kernel
set_option maxHeartbeats 4000000 in
theorem eX2_copy (g : GM) : CT (wM g) yX2_copy (Cond.code yX2_copy cX2_copy 5 none) 1 22 (pX2_copy g.1) := by
  refine CT.of (wM_ok g) (cc := cX2_copy) (nL := 5) (ret := none) (ht := []) (by decide +kernel) (Or.inl ⟨rfl, rfl⟩) (B := bX2_copy_0 g.1) (fun R E X hE => ?_)
  have h444 : E (bX2_copy_444 g.1 R) 444 := by
    unfold bX2_copy_444
    exact si_return (pc := 444) hE dX2_copy_444
  have h438 : ∀ (J279 : Cont MS) (hJ279 : E J279 279), E (bX2_copy_438 g.1 R J279) 438 := by
    intro J279 hJ279
    unfold bX2_copy_438
    refine si_iinc (pc := 438) hE dX2_copy_438 (by decide) (by decide) ?_
    exact si_goto (pc := 441) hE dX2_copy_441 (by decide) (si_kill hE hJ279)
  have h396 : ∀ (J279 : Cont MS) (hJ279 : E J279 279), E (bX2_copy_396 g.1 R J279) 396 := by
    intro J279 hJ279
    unfold bX2_copy_396
    refine si_fix hE (fun J396 hJ396 => ?_)
    refine si_iload_n (pc := 396) hE dX2_copy_396 rfl ?_
    refine si_aload_n (pc := 397) hE dX2_copy_397 rfl ?_
    refine si_mga (pc := 398) (k := 10) hE rfl dX2_copy_398 q1669 (by decide) rfl (fun _ => rfl) ?_
    refine si_iload_n (pc := 401) hE dX2_copy_401 rfl ?_
    refine si_mia (pc := 402) (k := 10) hE dX2_copy_402 (by decide) rfl ?_
    refine si_icmp_ge (pc := 403) hE dX2_copy_403 (by decide) (h438 J279 hJ279) ?_
    refine si_aload_n (pc := 406) hE dX2_copy_406 rfl ?_
    refine si_mga (pc := 407) (k := 31) hE rfl dX2_copy_407 q1690 (by decide) rfl (fun _ => rfl) ?_
    refine si_aload_n (pc := 410) hE dX2_copy_410 rfl ?_
    refine si_iload_n (pc := 411) hE dX2_copy_411 rfl ?_
    refine si_iload_n (pc := 412) hE dX2_copy_412 rfl ?_
    refine si_mc (pc := 413) (n := 2) hE rfl dX2_copy_413 (eX2_base g) rfl q2009 q2011 qs88 q2012 q134 nX2_base (by decide) (by decide) ?_
    refine si_iload_n (pc := 416) hE dX2_copy_416 rfl ?_
    refine si_iadd (pc := 417) hE dX2_copy_417 ?_
    refine si_aload_n (pc := 418) hE dX2_copy_418 rfl ?_
    refine si_mga (pc := 419) (k := 31) hE rfl dX2_copy_419 q1690 (by decide) rfl (fun _ => rfl) ?_
    refine si_aload_n (pc := 422) hE dX2_copy_422 rfl ?_
    refine si_iconst (pc := 423) hE dX2_copy_423 (by decide) ?_
    refine si_iload_n (pc := 424) hE dX2_copy_424 rfl ?_
    refine si_mc (pc := 425) (n := 2) hE rfl dX2_copy_425 (eX2_base g) rfl q2009 q2011 qs88 q2012 q134 nX2_base (by decide) (by decide) ?_
    refine si_iload_n (pc := 428) hE dX2_copy_428 rfl ?_
    refine si_iadd (pc := 429) hE dX2_copy_429 ?_
    refine si_mia (pc := 430) (k := 31) hE dX2_copy_430 (by decide) rfl ?_
    refine si_mis (pc := 431) (k := 31) hE dX2_copy_431 (by decide) rfl ?_
    refine si_iinc (pc := 432) hE dX2_copy_432 (by decide) (by decide) ?_
    exact si_goto (pc := 435) hE dX2_copy_435 (by decide) (si_kill hE hJ396)
  have h279 : E (bX2_copy_279 g.1 R) 279 := by
    unfold bX2_copy_279
    refine si_fix hE (fun J279 hJ279 => ?_)
    refine si_iload_n (pc := 279) hE dX2_copy_279 rfl ?_
    refine si_aload_n (pc := 280) hE dX2_copy_280 rfl ?_
    refine si_mga (pc := 281) (k := 12) hE rfl dX2_copy_281 q1671 (by decide) rfl (fun _ => rfl) ?_
    refine si_iload_n (pc := 284) hE dX2_copy_284 rfl ?_
    refine si_mia (pc := 285) (k := 12) hE dX2_copy_285 (by decide) rfl ?_
    refine si_icmp_ge (pc := 286) hE dX2_copy_286 (by decide) h444 ?_
    refine si_aload_n (pc := 289) hE dX2_copy_289 rfl ?_
    refine si_mga (pc := 290) (k := 26) hE rfl dX2_copy_290 q1685 (by decide) rfl (fun _ => rfl) ?_
    refine si_bipush (pc := 293) hE dX2_copy_293 (by decide) ?_
    refine si_iload_n (pc := 295) hE dX2_copy_295 rfl ?_
    refine si_imul (pc := 296) hE dX2_copy_296 ?_
    refine si_iload_n (pc := 297) hE dX2_copy_297 rfl ?_
    refine si_iadd (pc := 298) hE dX2_copy_298 ?_
    refine si_aload_n (pc := 299) hE dX2_copy_299 rfl ?_
    refine si_mga (pc := 300) (k := 26) hE rfl dX2_copy_300 q1685 (by decide) rfl (fun _ => rfl) ?_
    refine si_sipush (pc := 303) hE dX2_copy_303 (by decide) ?_
    refine si_iload_n (pc := 306) hE dX2_copy_306 rfl ?_
    refine si_iadd (pc := 307) hE dX2_copy_307 ?_
    refine si_mia (pc := 308) (k := 26) hE dX2_copy_308 (by decide) rfl ?_
    refine si_mis (pc := 309) (k := 26) hE dX2_copy_309 (by decide) rfl ?_
    refine si_aload_n (pc := 310) hE dX2_copy_310 rfl ?_
    refine si_mga (pc := 311) (k := 27) hE rfl dX2_copy_311 q1686 (by decide) rfl (fun _ => rfl) ?_
    refine si_bipush (pc := 314) hE dX2_copy_314 (by decide) ?_
    refine si_iload_n (pc := 316) hE dX2_copy_316 rfl ?_
    refine si_imul (pc := 317) hE dX2_copy_317 ?_
    refine si_iload_n (pc := 318) hE dX2_copy_318 rfl ?_
    refine si_iadd (pc := 319) hE dX2_copy_319 ?_
    refine si_aload_n (pc := 320) hE dX2_copy_320 rfl ?_
    refine si_mga (pc := 321) (k := 27) hE rfl dX2_copy_321 q1686 (by decide) rfl (fun _ => rfl) ?_
    refine si_sipush (pc := 324) hE dX2_copy_324 (by decide) ?_
    refine si_iload_n (pc := 327) hE dX2_copy_327 rfl ?_
    refine si_iadd (pc := 328) hE dX2_copy_328 ?_
    refine si_mia (pc := 329) (k := 27) hE dX2_copy_329 (by decide) rfl ?_
    refine si_mis (pc := 330) (k := 27) hE dX2_copy_330 (by decide) rfl ?_
    refine si_aload_n (pc := 331) hE dX2_copy_331 rfl ?_
    refine si_mga (pc := 332) (k := 28) hE rfl dX2_copy_332 q1687 (by decide) rfl (fun _ => rfl) ?_
    refine si_bipush (pc := 335) hE dX2_copy_335 (by decide) ?_
    refine si_iload_n (pc := 337) hE dX2_copy_337 rfl ?_
    refine si_imul (pc := 338) hE dX2_copy_338 ?_
    refine si_iload_n (pc := 339) hE dX2_copy_339 rfl ?_
    refine si_iadd (pc := 340) hE dX2_copy_340 ?_
    refine si_aload_n (pc := 341) hE dX2_copy_341 rfl ?_
    refine si_mga (pc := 342) (k := 28) hE rfl dX2_copy_342 q1687 (by decide) rfl (fun _ => rfl) ?_
    refine si_sipush (pc := 345) hE dX2_copy_345 (by decide) ?_
    refine si_iload_n (pc := 348) hE dX2_copy_348 rfl ?_
    refine si_iadd (pc := 349) hE dX2_copy_349 ?_
    refine si_mia (pc := 350) (k := 28) hE dX2_copy_350 (by decide) rfl ?_
    refine si_mis (pc := 351) (k := 28) hE dX2_copy_351 (by decide) rfl ?_
    refine si_aload_n (pc := 352) hE dX2_copy_352 rfl ?_
    refine si_mga (pc := 353) (k := 29) hE rfl dX2_copy_353 q1688 (by decide) rfl (fun _ => rfl) ?_
    refine si_bipush (pc := 356) hE dX2_copy_356 (by decide) ?_
    refine si_iload_n (pc := 358) hE dX2_copy_358 rfl ?_
    refine si_imul (pc := 359) hE dX2_copy_359 ?_
    refine si_iload_n (pc := 360) hE dX2_copy_360 rfl ?_
    refine si_iadd (pc := 361) hE dX2_copy_361 ?_
    refine si_aload_n (pc := 362) hE dX2_copy_362 rfl ?_
    refine si_mga (pc := 363) (k := 29) hE rfl dX2_copy_363 q1688 (by decide) rfl (fun _ => rfl) ?_
    refine si_sipush (pc := 366) hE dX2_copy_366 (by decide) ?_
    refine si_iload_n (pc := 369) hE dX2_copy_369 rfl ?_
    refine si_iadd (pc := 370) hE dX2_copy_370 ?_
    refine si_mia (pc := 371) (k := 29) hE dX2_copy_371 (by decide) rfl ?_
    refine si_mis (pc := 372) (k := 29) hE dX2_copy_372 (by decide) rfl ?_
    refine si_aload_n (pc := 373) hE dX2_copy_373 rfl ?_
    refine si_mga (pc := 374) (k := 30) hE rfl dX2_copy_374 q1689 (by decide) rfl (fun _ => rfl) ?_
    refine si_bipush (pc := 377) hE dX2_copy_377 (by decide) ?_
    refine si_iload_n (pc := 379) hE dX2_copy_379 rfl ?_
    refine si_imul (pc := 380) hE dX2_copy_380 ?_
    refine si_iload_n (pc := 381) hE dX2_copy_381 rfl ?_
    refine si_iadd (pc := 382) hE dX2_copy_382 ?_
    refine si_aload_n (pc := 383) hE dX2_copy_383 rfl ?_
    refine si_mga (pc := 384) (k := 30) hE rfl dX2_copy_384 q1689 (by decide) rfl (fun _ => rfl) ?_
    refine si_sipush (pc := 387) hE dX2_copy_387 (by decide) ?_
    refine si_iload_n (pc := 390) hE dX2_copy_390 rfl ?_
    refine si_iadd (pc := 391) hE dX2_copy_391 ?_
    refine si_mia (pc := 392) (k := 30) hE dX2_copy_392 (by decide) rfl ?_
    refine si_mis (pc := 393) (k := 30) hE dX2_copy_393 (by decide) rfl ?_
    refine si_iconst (pc := 394) hE dX2_copy_394 (by decide) ?_
    refine si_istore_n (pc := 395) hE dX2_copy_395 rfl (by decide) ?_
    exact (si_kill hE (h396 J279 hJ279))
  have h277 : E (bX2_copy_277 g.1 R) 277 := by
    unfold bX2_copy_277
    refine si_iconst (pc := 277) hE dX2_copy_277 (by decide) ?_
    refine si_istore_n (pc := 278) hE dX2_copy_278 rfl (by decide) ?_
    exact (si_kill hE h279)
  have h103 : E (bX2_copy_103 g.1 R) 103 := by
    unfold bX2_copy_103
    refine si_fix hE (fun J103 hJ103 => ?_)
    refine si_iload_n (pc := 103) hE dX2_copy_103 rfl ?_
    refine si_aload_n (pc := 104) hE dX2_copy_104 rfl ?_
    refine si_mga (pc := 105) (k := 10) hE rfl dX2_copy_105 q1669 (by decide) rfl (fun _ => rfl) ?_
    refine si_iload_n (pc := 108) hE dX2_copy_108 rfl ?_
    refine si_mia (pc := 109) (k := 10) hE dX2_copy_109 (by decide) rfl ?_
    refine si_icmp_ge (pc := 110) hE dX2_copy_110 (by decide) h277 ?_
    refine si_sipush (pc := 113) hE dX2_copy_113 (by decide) ?_
    refine si_iload_n (pc := 116) hE dX2_copy_116 rfl ?_
    refine si_imul (pc := 117) hE dX2_copy_117 ?_
    refine si_iload_n (pc := 118) hE dX2_copy_118 rfl ?_
    refine si_iadd (pc := 119) hE dX2_copy_119 ?_
    refine si_istore_n (pc := 120) hE dX2_copy_120 rfl (by decide) ?_
    refine si_sipush (pc := 121) hE dX2_copy_121 (by decide) ?_
    refine si_iload_n (pc := 124) hE dX2_copy_124 rfl ?_
    refine si_iadd (pc := 125) hE dX2_copy_125 ?_
    refine si_istore (pc := 126) hE dX2_copy_126 (by decide) ?_
    refine si_aload_n (pc := 128) hE dX2_copy_128 rfl ?_
    refine si_mga (pc := 129) (k := 15) hE rfl dX2_copy_129 q1674 (by decide) rfl (fun _ => rfl) ?_
    refine si_iload_n (pc := 132) hE dX2_copy_132 rfl ?_
    refine si_aload_n (pc := 133) hE dX2_copy_133 rfl ?_
    refine si_mga (pc := 134) (k := 15) hE rfl dX2_copy_134 q1674 (by decide) rfl (fun _ => rfl) ?_
    refine si_iload (pc := 137) hE dX2_copy_137 ?_
    refine si_mia (pc := 139) (k := 15) hE dX2_copy_139 (by decide) rfl ?_
    refine si_mis (pc := 140) (k := 15) hE dX2_copy_140 (by decide) rfl ?_
    refine si_aload_n (pc := 141) hE dX2_copy_141 rfl ?_
    refine si_mga (pc := 142) (k := 16) hE rfl dX2_copy_142 q1675 (by decide) rfl (fun _ => rfl) ?_
    refine si_iload_n (pc := 145) hE dX2_copy_145 rfl ?_
    refine si_aload_n (pc := 146) hE dX2_copy_146 rfl ?_
    refine si_mga (pc := 147) (k := 16) hE rfl dX2_copy_147 q1675 (by decide) rfl (fun _ => rfl) ?_
    refine si_iload (pc := 150) hE dX2_copy_150 ?_
    refine si_mia (pc := 152) (k := 16) hE dX2_copy_152 (by decide) rfl ?_
    refine si_mis (pc := 153) (k := 16) hE dX2_copy_153 (by decide) rfl ?_
    refine si_aload_n (pc := 154) hE dX2_copy_154 rfl ?_
    refine si_mga (pc := 155) (k := 17) hE rfl dX2_copy_155 q1676 (by decide) rfl (fun _ => rfl) ?_
    refine si_iload_n (pc := 158) hE dX2_copy_158 rfl ?_
    refine si_aload_n (pc := 159) hE dX2_copy_159 rfl ?_
    refine si_mga (pc := 160) (k := 17) hE rfl dX2_copy_160 q1676 (by decide) rfl (fun _ => rfl) ?_
    refine si_iload (pc := 163) hE dX2_copy_163 ?_
    refine si_mia (pc := 165) (k := 17) hE dX2_copy_165 (by decide) rfl ?_
    refine si_mis (pc := 166) (k := 17) hE dX2_copy_166 (by decide) rfl ?_
    refine si_aload_n (pc := 167) hE dX2_copy_167 rfl ?_
    refine si_mga (pc := 168) (k := 18) hE rfl dX2_copy_168 q1677 (by decide) rfl (fun _ => rfl) ?_
    refine si_iload_n (pc := 171) hE dX2_copy_171 rfl ?_
    refine si_aload_n (pc := 172) hE dX2_copy_172 rfl ?_
    refine si_mga (pc := 173) (k := 18) hE rfl dX2_copy_173 q1677 (by decide) rfl (fun _ => rfl) ?_
    refine si_iload (pc := 176) hE dX2_copy_176 ?_
    refine si_mia (pc := 178) (k := 18) hE dX2_copy_178 (by decide) rfl ?_
    refine si_mis (pc := 179) (k := 18) hE dX2_copy_179 (by decide) rfl ?_
    refine si_aload_n (pc := 180) hE dX2_copy_180 rfl ?_
    refine si_mga (pc := 181) (k := 19) hE rfl dX2_copy_181 q1678 (by decide) rfl (fun _ => rfl) ?_
    refine si_iload_n (pc := 184) hE dX2_copy_184 rfl ?_
    refine si_aload_n (pc := 185) hE dX2_copy_185 rfl ?_
    refine si_mga (pc := 186) (k := 19) hE rfl dX2_copy_186 q1678 (by decide) rfl (fun _ => rfl) ?_
    refine si_iload (pc := 189) hE dX2_copy_189 ?_
    refine si_mia (pc := 191) (k := 19) hE dX2_copy_191 (by decide) rfl ?_
    refine si_mis (pc := 192) (k := 19) hE dX2_copy_192 (by decide) rfl ?_
    refine si_aload_n (pc := 193) hE dX2_copy_193 rfl ?_
    refine si_mga (pc := 194) (k := 20) hE rfl dX2_copy_194 q1679 (by decide) rfl (fun _ => rfl) ?_
    refine si_iload_n (pc := 197) hE dX2_copy_197 rfl ?_
    refine si_aload_n (pc := 198) hE dX2_copy_198 rfl ?_
    refine si_mga (pc := 199) (k := 20) hE rfl dX2_copy_199 q1679 (by decide) rfl (fun _ => rfl) ?_
    refine si_iload (pc := 202) hE dX2_copy_202 ?_
    refine si_mia (pc := 204) (k := 20) hE dX2_copy_204 (by decide) rfl ?_
    refine si_mis (pc := 205) (k := 20) hE dX2_copy_205 (by decide) rfl ?_
    refine si_aload_n (pc := 206) hE dX2_copy_206 rfl ?_
    refine si_mga (pc := 207) (k := 21) hE rfl dX2_copy_207 q1680 (by decide) rfl (fun _ => rfl) ?_
    refine si_iload_n (pc := 210) hE dX2_copy_210 rfl ?_
    refine si_aload_n (pc := 211) hE dX2_copy_211 rfl ?_
    refine si_mga (pc := 212) (k := 21) hE rfl dX2_copy_212 q1680 (by decide) rfl (fun _ => rfl) ?_
    refine si_iload (pc := 215) hE dX2_copy_215 ?_
    refine si_mia (pc := 217) (k := 21) hE dX2_copy_217 (by decide) rfl ?_
    refine si_mis (pc := 218) (k := 21) hE dX2_copy_218 (by decide) rfl ?_
    refine si_aload_n (pc := 219) hE dX2_copy_219 rfl ?_
    refine si_mga (pc := 220) (k := 22) hE rfl dX2_copy_220 q1681 (by decide) rfl (fun _ => rfl) ?_
    refine si_iload_n (pc := 223) hE dX2_copy_223 rfl ?_
    refine si_aload_n (pc := 224) hE dX2_copy_224 rfl ?_
    refine si_mga (pc := 225) (k := 22) hE rfl dX2_copy_225 q1681 (by decide) rfl (fun _ => rfl) ?_
    refine si_iload (pc := 228) hE dX2_copy_228 ?_
    refine si_mia (pc := 230) (k := 22) hE dX2_copy_230 (by decide) rfl ?_
    refine si_mis (pc := 231) (k := 22) hE dX2_copy_231 (by decide) rfl ?_
    refine si_aload_n (pc := 232) hE dX2_copy_232 rfl ?_
    refine si_mga (pc := 233) (k := 23) hE rfl dX2_copy_233 q1682 (by decide) rfl (fun _ => rfl) ?_
    refine si_iload_n (pc := 236) hE dX2_copy_236 rfl ?_
    refine si_aload_n (pc := 237) hE dX2_copy_237 rfl ?_
    refine si_mga (pc := 238) (k := 23) hE rfl dX2_copy_238 q1682 (by decide) rfl (fun _ => rfl) ?_
    refine si_iload (pc := 241) hE dX2_copy_241 ?_
    refine si_mia (pc := 243) (k := 23) hE dX2_copy_243 (by decide) rfl ?_
    refine si_mis (pc := 244) (k := 23) hE dX2_copy_244 (by decide) rfl ?_
    refine si_aload_n (pc := 245) hE dX2_copy_245 rfl ?_
    refine si_mga (pc := 246) (k := 24) hE rfl dX2_copy_246 q1683 (by decide) rfl (fun _ => rfl) ?_
    refine si_iload_n (pc := 249) hE dX2_copy_249 rfl ?_
    refine si_aload_n (pc := 250) hE dX2_copy_250 rfl ?_
    refine si_mga (pc := 251) (k := 24) hE rfl dX2_copy_251 q1683 (by decide) rfl (fun _ => rfl) ?_
    refine si_iload (pc := 254) hE dX2_copy_254 ?_
    refine si_mia (pc := 256) (k := 24) hE dX2_copy_256 (by decide) rfl ?_
    refine si_mis (pc := 257) (k := 24) hE dX2_copy_257 (by decide) rfl ?_
    refine si_aload_n (pc := 258) hE dX2_copy_258 rfl ?_
    refine si_mga (pc := 259) (k := 25) hE rfl dX2_copy_259 q1684 (by decide) rfl (fun _ => rfl) ?_
    refine si_iload_n (pc := 262) hE dX2_copy_262 rfl ?_
    refine si_aload_n (pc := 263) hE dX2_copy_263 rfl ?_
    refine si_mga (pc := 264) (k := 25) hE rfl dX2_copy_264 q1684 (by decide) rfl (fun _ => rfl) ?_
    refine si_iload (pc := 267) hE dX2_copy_267 ?_
    refine si_mia (pc := 269) (k := 25) hE dX2_copy_269 (by decide) rfl ?_
    refine si_mis (pc := 270) (k := 25) hE dX2_copy_270 (by decide) rfl ?_
    refine si_iinc (pc := 271) hE dX2_copy_271 (by decide) (by decide) ?_
    exact si_goto (pc := 274) hE dX2_copy_274 (by decide) (si_kill hE hJ103)
  have h101 : E (bX2_copy_101 g.1 R) 101 := by
    unfold bX2_copy_101
    refine si_iconst (pc := 101) hE dX2_copy_101 (by decide) ?_
    refine si_istore_n (pc := 102) hE dX2_copy_102 rfl (by decide) ?_
    exact (si_kill hE h103)
  have h64 : E (bX2_copy_64 g.1 R) 64 := by
    unfold bX2_copy_64
    refine si_fix hE (fun J64 hJ64 => ?_)
    refine si_iload_n (pc := 64) hE dX2_copy_64 rfl ?_
    refine si_aload_n (pc := 65) hE dX2_copy_65 rfl ?_
    refine si_mga (pc := 66) (k := 9) hE rfl dX2_copy_66 q1668 (by decide) rfl (fun _ => rfl) ?_
    refine si_iload_n (pc := 69) hE dX2_copy_69 rfl ?_
    refine si_mia (pc := 70) (k := 9) hE dX2_copy_70 (by decide) rfl ?_
    refine si_icmp_ge (pc := 71) hE dX2_copy_71 (by decide) h101 ?_
    refine si_aload_n (pc := 74) hE dX2_copy_74 rfl ?_
    refine si_mga (pc := 75) (k := 13) hE rfl dX2_copy_75 q1672 (by decide) rfl (fun _ => rfl) ?_
    refine si_bipush (pc := 78) hE dX2_copy_78 (by decide) ?_
    refine si_iload_n (pc := 80) hE dX2_copy_80 rfl ?_
    refine si_imul (pc := 81) hE dX2_copy_81 ?_
    refine si_iload_n (pc := 82) hE dX2_copy_82 rfl ?_
    refine si_iadd (pc := 83) hE dX2_copy_83 ?_
    refine si_aload_n (pc := 84) hE dX2_copy_84 rfl ?_
    refine si_mga (pc := 85) (k := 13) hE rfl dX2_copy_85 q1672 (by decide) rfl (fun _ => rfl) ?_
    refine si_sipush (pc := 88) hE dX2_copy_88 (by decide) ?_
    refine si_iload_n (pc := 91) hE dX2_copy_91 rfl ?_
    refine si_iadd (pc := 92) hE dX2_copy_92 ?_
    refine si_mia (pc := 93) (k := 13) hE dX2_copy_93 (by decide) rfl ?_
    refine si_mis (pc := 94) (k := 13) hE dX2_copy_94 (by decide) rfl ?_
    refine si_iinc (pc := 95) hE dX2_copy_95 (by decide) (by decide) ?_
    exact si_goto (pc := 98) hE dX2_copy_98 (by decide) (si_kill hE hJ64)
  have h0 : E (bX2_copy_0 g.1 R) 0 := by
    unfold bX2_copy_0
    refine si_aload_n (pc := 0) hE dX2_copy_0 rfl ?_
    refine si_mga (pc := 1) (k := 8) hE rfl dX2_copy_1 q1667 (by decide) rfl (fun _ => rfl) ?_
    refine si_iload_n (pc := 4) hE dX2_copy_4 rfl ?_
    refine si_iconst (pc := 5) hE dX2_copy_5 (by decide) ?_
    refine si_mbs (pc := 6) (k := 8) hE dX2_copy_6 (by decide) rfl ?_
    refine si_aload_n (pc := 7) hE dX2_copy_7 rfl ?_
    refine si_mga (pc := 8) (k := 9) hE rfl dX2_copy_8 q1668 (by decide) rfl (fun _ => rfl) ?_
    refine si_iload_n (pc := 11) hE dX2_copy_11 rfl ?_
    refine si_aload_n (pc := 12) hE dX2_copy_12 rfl ?_
    refine si_mga (pc := 13) (k := 9) hE rfl dX2_copy_13 q1668 (by decide) rfl (fun _ => rfl) ?_
    refine si_iconst (pc := 16) hE dX2_copy_16 (by decide) ?_
    refine si_mia (pc := 17) (k := 9) hE dX2_copy_17 (by decide) rfl ?_
    refine si_mis (pc := 18) (k := 9) hE dX2_copy_18 (by decide) rfl ?_
    refine si_aload_n (pc := 19) hE dX2_copy_19 rfl ?_
    refine si_mga (pc := 20) (k := 10) hE rfl dX2_copy_20 q1669 (by decide) rfl (fun _ => rfl) ?_
    refine si_iload_n (pc := 23) hE dX2_copy_23 rfl ?_
    refine si_aload_n (pc := 24) hE dX2_copy_24 rfl ?_
    refine si_mga (pc := 25) (k := 10) hE rfl dX2_copy_25 q1669 (by decide) rfl (fun _ => rfl) ?_
    refine si_iconst (pc := 28) hE dX2_copy_28 (by decide) ?_
    refine si_mia (pc := 29) (k := 10) hE dX2_copy_29 (by decide) rfl ?_
    refine si_mis (pc := 30) (k := 10) hE dX2_copy_30 (by decide) rfl ?_
    refine si_aload_n (pc := 31) hE dX2_copy_31 rfl ?_
    refine si_mga (pc := 32) (k := 11) hE rfl dX2_copy_32 q1670 (by decide) rfl (fun _ => rfl) ?_
    refine si_iload_n (pc := 35) hE dX2_copy_35 rfl ?_
    refine si_aload_n (pc := 36) hE dX2_copy_36 rfl ?_
    refine si_mga (pc := 37) (k := 11) hE rfl dX2_copy_37 q1670 (by decide) rfl (fun _ => rfl) ?_
    refine si_iconst (pc := 40) hE dX2_copy_40 (by decide) ?_
    refine si_mia (pc := 41) (k := 11) hE dX2_copy_41 (by decide) rfl ?_
    refine si_mis (pc := 42) (k := 11) hE dX2_copy_42 (by decide) rfl ?_
    refine si_aload_n (pc := 43) hE dX2_copy_43 rfl ?_
    refine si_mga (pc := 44) (k := 12) hE rfl dX2_copy_44 q1671 (by decide) rfl (fun _ => rfl) ?_
    refine si_iload_n (pc := 47) hE dX2_copy_47 rfl ?_
    refine si_aload_n (pc := 48) hE dX2_copy_48 rfl ?_
    refine si_mga (pc := 49) (k := 12) hE rfl dX2_copy_49 q1671 (by decide) rfl (fun _ => rfl) ?_
    refine si_iconst (pc := 52) hE dX2_copy_52 (by decide) ?_
    refine si_mia (pc := 53) (k := 12) hE dX2_copy_53 (by decide) rfl ?_
    refine si_mis (pc := 54) (k := 12) hE dX2_copy_54 (by decide) rfl ?_
    refine si_aload_n (pc := 55) hE dX2_copy_55 rfl ?_
    refine si_mga (pc := 56) (k := 57) hE rfl dX2_copy_56 q1716 (by decide) rfl (fun _ => rfl) ?_
    refine si_iload_n (pc := 59) hE dX2_copy_59 rfl ?_
    refine si_iconst (pc := 60) hE dX2_copy_60 (by decide) ?_
    refine si_mis (pc := 61) (k := 57) hE dX2_copy_61 (by decide) rfl ?_
    refine si_iconst (pc := 62) hE dX2_copy_62 (by decide) ?_
    refine si_istore_n (pc := 63) hE dX2_copy_63 rfl (by decide) ?_
    exact (si_kill hE h64)
  exact h0
def bX2_parse_9 (mo : Nat) (R : Ret MS) : Cont MS :=
    o_ic (-1) <|
    o_ireturn R
def bX2_parse_171 (mo : Nat) (R : Ret MS) : Cont MS :=
    o_al 0 <|
    o_il 1 <|
    o_mc mo 2 (pX2_copy mo) R <|
    o_al 0 <|
    o_mga mo 10 <|
    o_il 1 <|
    o_mia mo 10 <|
    o_ireturn R
def bX2_parse_150 (mo : Nat) (R : Ret MS) : Cont MS :=
    fixC fun J150 =>
    o_il 2 <|
    o_al 0 <|
    o_mga mo 12 <|
    o_ic 4 <|
    o_mia mo 12 <|
    o_icmp_ge (bX2_parse_171 mo R) <|
    o_al 0 <|
    o_il 2 <|
    o_mc mo 2 (pX2_settle mo) R <|
    o_iinc 2 1 <|
    J150
def bX2_parse_144 (mo : Nat) (R : Ret MS) : Cont MS :=
    o_al 0 <|
    o_mc mo 1 (pX2_lead mo) R <|
    o_ic 0 <|
    o_is 2 <|
    (bX2_parse_150 mo R)
def bX2_parse_134 (mo : Nat) (R : Ret MS) : Cont MS :=
    o_al 0 <|
    o_mg mo 38 <|
    o_if_eq (bX2_parse_144 mo R) <|
    o_ic (-3) <|
    o_ireturn R
def bX2_parse_106 (mo : Nat) (R : Ret MS) : Cont MS :=
    o_al 0 <|
    o_ic 0 <|
    o_mp mo 1 <|
    o_al 0 <|
    o_al 0 <|
    o_mg mo 32 <|
    o_mp mo 34 <|
    o_al 0 <|
    o_mg mo 32 <|
    o_if_le (bX2_parse_134 mo R) <|
    o_ic (-10) <|
    o_al 0 <|
    o_mg mo 33 <|
    o_isub <|
    o_ireturn R
def bX2_parse_95 (mo : Nat) (R : Ret MS) : Cont MS :=
    o_al 0 <|
    o_mg mo 32 <|
    o_if_ne (bX2_parse_106 mo R) <|
    o_al 0 <|
    o_mc mo 1 (pX2_ends mo) R <|
    (bX2_parse_106 mo R)
def bX2_parse_74 (mo : Nat) (R : Ret MS) : Cont MS :=
    fixC fun J74 =>
    o_al 0 <|
    o_mg mo 32 <|
    o_if_ne (bX2_parse_95 mo R) <|
    o_al 0 <|
    o_mg mo 2 <|
    o_if_eq (bX2_parse_95 mo R) <|
    o_al 0 <|
    o_mc mo 1 (pX2_readBlock mo) R <|
    (o_kill [2] J74)
def bX2_parse_69 (mo : Nat) (R : Ret MS) : Cont MS :=
    o_ic 2 <|
    o_mc mo 3 (pX2_must mo) R <|
    o_pop <|
    (o_kill [2] (bX2_parse_74 mo R))
def bX2_parse_68 (mo : Nat) (R : Ret MS) : Cont MS :=
    o_ic 0 <|
    (bX2_parse_69 mo R)
def bX2_parse_11 (mo : Nat) (R : Ret MS) : Cont MS :=
    o_al 0 <|
    o_mga mo 9 <|
    o_ic 4 <|
    o_ic 0 <|
    o_mis mo 9 <|
    o_al 0 <|
    o_mga mo 10 <|
    o_ic 4 <|
    o_ic 0 <|
    o_mis mo 10 <|
    o_al 0 <|
    o_mga mo 12 <|
    o_ic 4 <|
    o_ic 0 <|
    o_mis mo 12 <|
    o_al 0 <|
    o_ic 0 <|
    o_mp mo 41 <|
    o_al 0 <|
    o_ic 0 <|
    o_mp mo 32 <|
    o_al 0 <|
    o_ic 0 <|
    o_mpz mo 38 <|
    o_al 0 <|
    o_ic 0 <|
    o_mp mo 4 <|
    o_al 0 <|
    o_mc mo 1 (pX2_next mo) R <|
    o_al 0 <|
    o_al 0 <|
    o_mg mo 2 <|
    o_if_eq (bX2_parse_68 mo R) <|
    o_ic 1 <|
    (bX2_parse_69 mo R)
def bX2_parse_0 (mo : Nat) (R : Ret MS) : Cont MS :=
    o_il 1 <|
    o_if_lt (bX2_parse_9 mo R) <|
    o_il 1 <|
    o_ic 3 <|
    o_icmp_le (bX2_parse_11 mo R) <|
    (bX2_parse_9 mo R)
def pX2_parse (mo : Nat) : PT MS := fun as σ Q => (lg_sl as).length ≤ 3 ∧ bX2_parse_0 mo Q (entP 3 as) [] σ
theorem nX2_parse : parN yX2_parse 1 := by unfold parN; decide +kernel
set_option maxHeartbeats 4000000 in
theorem eX2_parse (g : GM) : CT (wM g) yX2_parse (Cond.code yX2_parse cX2_parse 3 (some .int)) 8 181 (pX2_parse g.1) := by
  refine CT.of (wM_ok g) (cc := cX2_parse) (nL := 3) (ret := (some .int)) (ht := []) (by decide +kernel) (Or.inl ⟨rfl, rfl⟩) (B := bX2_parse_0 g.1) (fun R E X hE => ?_)
  have h9 : E (bX2_parse_9 g.1 R) 9 := by
    unfold bX2_parse_9
    refine si_iconst (pc := 9) hE dX2_parse_9 (by decide) ?_
    exact si_ireturn (pc := 10) hE dX2_parse_10
  have h171 : E (bX2_parse_171 g.1 R) 171 := by
    unfold bX2_parse_171
    refine si_aload_n (pc := 171) hE dX2_parse_171 rfl ?_
    refine si_iload_n (pc := 172) hE dX2_parse_172 rfl ?_
    refine si_mc (pc := 173) (n := 1) hE rfl dX2_parse_173 (eX2_copy g) rfl q2057 q2059 qs100 q2060 q134 nX2_copy (by decide) (by decide) ?_
    refine si_aload_n (pc := 176) hE dX2_parse_176 rfl ?_
    refine si_mga (pc := 177) (k := 10) hE rfl dX2_parse_177 q1669 (by decide) rfl (fun _ => rfl) ?_
    refine si_iload_n (pc := 180) hE dX2_parse_180 rfl ?_
    refine si_mia (pc := 181) (k := 10) hE dX2_parse_181 (by decide) rfl ?_
    exact si_ireturn (pc := 182) hE dX2_parse_182
  have h150 : E (bX2_parse_150 g.1 R) 150 := by
    unfold bX2_parse_150
    refine si_fix hE (fun J150 hJ150 => ?_)
    refine si_iload_n (pc := 150) hE dX2_parse_150 rfl ?_
    refine si_aload_n (pc := 151) hE dX2_parse_151 rfl ?_
    refine si_mga (pc := 152) (k := 12) hE rfl dX2_parse_152 q1671 (by decide) rfl (fun _ => rfl) ?_
    refine si_iconst (pc := 155) hE dX2_parse_155 (by decide) ?_
    refine si_mia (pc := 156) (k := 12) hE dX2_parse_156 (by decide) rfl ?_
    refine si_icmp_ge (pc := 157) hE dX2_parse_157 (by decide) h171 ?_
    refine si_aload_n (pc := 160) hE dX2_parse_160 rfl ?_
    refine si_iload_n (pc := 161) hE dX2_parse_161 rfl ?_
    refine si_mc (pc := 162) (n := 1) hE rfl dX2_parse_162 (eX2_settle g) rfl q2005 q2007 qs87 q2008 q134 nX2_settle (by decide) (by decide) ?_
    refine si_iinc (pc := 165) hE dX2_parse_165 (by decide) (by decide) ?_
    exact si_goto (pc := 168) hE dX2_parse_168 (by decide) hJ150
  have h144 : E (bX2_parse_144 g.1 R) 144 := by
    unfold bX2_parse_144
    refine si_aload_n (pc := 144) hE dX2_parse_144 rfl ?_
    refine si_mc (pc := 145) (n := 0) hE rfl dX2_parse_145 (eX2_lead g) rfl q1993 q1995 qs84 q1996 q134 nX2_lead (by decide) (by decide) ?_
    refine si_iconst (pc := 148) hE dX2_parse_148 (by decide) ?_
    refine si_istore_n (pc := 149) hE dX2_parse_149 rfl (by decide) ?_
    exact h150
  have h134 : E (bX2_parse_134 g.1 R) 134 := by
    unfold bX2_parse_134
    refine si_aload_n (pc := 134) hE dX2_parse_134 rfl ?_
    refine si_mg (pc := 135) (k := 38) hE rfl dX2_parse_135 q1697 (by decide) rfl (fun _ => rfl) ?_
    refine si_if_eq (pc := 138) hE dX2_parse_138 (by decide) h144 ?_
    refine si_bipush (pc := 141) hE dX2_parse_141 (by decide) ?_
    exact si_ireturn (pc := 143) hE dX2_parse_143
  have h106 : E (bX2_parse_106 g.1 R) 106 := by
    unfold bX2_parse_106
    refine si_aload_n (pc := 106) hE dX2_parse_106 rfl ?_
    refine si_iconst (pc := 107) hE dX2_parse_107 (by decide) ?_
    refine si_mp (pc := 108) (k := 1) hE rfl dX2_parse_108 q1660 (by decide) rfl rfl rfl rfl ?_
    refine si_aload_n (pc := 111) hE dX2_parse_111 rfl ?_
    refine si_aload_n (pc := 112) hE dX2_parse_112 rfl ?_
    refine si_mg (pc := 113) (k := 32) hE rfl dX2_parse_113 q1691 (by decide) rfl (fun _ => rfl) ?_
    refine si_mp (pc := 116) (k := 34) hE rfl dX2_parse_116 q1693 (by decide) rfl rfl rfl rfl ?_
    refine si_aload_n (pc := 119) hE dX2_parse_119 rfl ?_
    refine si_mg (pc := 120) (k := 32) hE rfl dX2_parse_120 q1691 (by decide) rfl (fun _ => rfl) ?_
    refine si_if_le (pc := 123) hE dX2_parse_123 (by decide) h134 ?_
    refine si_bipush (pc := 126) hE dX2_parse_126 (by decide) ?_
    refine si_aload_n (pc := 128) hE dX2_parse_128 rfl ?_
    refine si_mg (pc := 129) (k := 33) hE rfl dX2_parse_129 q1692 (by decide) rfl (fun _ => rfl) ?_
    refine si_isub (pc := 132) hE dX2_parse_132 ?_
    exact si_ireturn (pc := 133) hE dX2_parse_133
  have h95 : E (bX2_parse_95 g.1 R) 95 := by
    unfold bX2_parse_95
    refine si_aload_n (pc := 95) hE dX2_parse_95 rfl ?_
    refine si_mg (pc := 96) (k := 32) hE rfl dX2_parse_96 q1691 (by decide) rfl (fun _ => rfl) ?_
    refine si_if_ne (pc := 99) hE dX2_parse_99 (by decide) h106 ?_
    refine si_aload_n (pc := 102) hE dX2_parse_102 rfl ?_
    refine si_mc (pc := 103) (n := 0) hE rfl dX2_parse_103 (eX2_ends g) rfl q1977 q1979 qs80 q1980 q134 nX2_ends (by decide) (by decide) ?_
    exact h106
  have h74 : E (bX2_parse_74 g.1 R) 74 := by
    unfold bX2_parse_74
    refine si_fix hE (fun J74 hJ74 => ?_)
    refine si_aload_n (pc := 74) hE dX2_parse_74 rfl ?_
    refine si_mg (pc := 75) (k := 32) hE rfl dX2_parse_75 q1691 (by decide) rfl (fun _ => rfl) ?_
    refine si_if_ne (pc := 78) hE dX2_parse_78 (by decide) h95 ?_
    refine si_aload_n (pc := 81) hE dX2_parse_81 rfl ?_
    refine si_mg (pc := 82) (k := 2) hE rfl dX2_parse_82 q1661 (by decide) rfl (fun _ => rfl) ?_
    refine si_if_eq (pc := 85) hE dX2_parse_85 (by decide) h95 ?_
    refine si_aload_n (pc := 88) hE dX2_parse_88 rfl ?_
    refine si_mc (pc := 89) (n := 0) hE rfl dX2_parse_89 (eX2_readBlock g) rfl q1893 q1895 qs60 q1896 q134 nX2_readBlock (by decide) (by decide) ?_
    exact si_goto (pc := 92) hE dX2_parse_92 (by decide) (si_kill hE hJ74)
  have h69 : E (bX2_parse_69 g.1 R) 69 := by
    unfold bX2_parse_69
    refine si_iconst (pc := 69) hE dX2_parse_69 (by decide) ?_
    refine si_mc (pc := 70) (n := 2) hE rfl dX2_parse_70 (eX2_must g) rfl q1889 q1891 qs59 q1892 q134 nX2_must (by decide) (by decide) ?_
    refine si_pop (pc := 73) hE dX2_parse_73 ?_
    exact (si_kill hE h74)
  have h68 : E (bX2_parse_68 g.1 R) 68 := by
    unfold bX2_parse_68
    refine si_iconst (pc := 68) hE dX2_parse_68 (by decide) ?_
    exact h69
  have h11 : E (bX2_parse_11 g.1 R) 11 := by
    unfold bX2_parse_11
    refine si_aload_n (pc := 11) hE dX2_parse_11 rfl ?_
    refine si_mga (pc := 12) (k := 9) hE rfl dX2_parse_12 q1668 (by decide) rfl (fun _ => rfl) ?_
    refine si_iconst (pc := 15) hE dX2_parse_15 (by decide) ?_
    refine si_iconst (pc := 16) hE dX2_parse_16 (by decide) ?_
    refine si_mis (pc := 17) (k := 9) hE dX2_parse_17 (by decide) rfl ?_
    refine si_aload_n (pc := 18) hE dX2_parse_18 rfl ?_
    refine si_mga (pc := 19) (k := 10) hE rfl dX2_parse_19 q1669 (by decide) rfl (fun _ => rfl) ?_
    refine si_iconst (pc := 22) hE dX2_parse_22 (by decide) ?_
    refine si_iconst (pc := 23) hE dX2_parse_23 (by decide) ?_
    refine si_mis (pc := 24) (k := 10) hE dX2_parse_24 (by decide) rfl ?_
    refine si_aload_n (pc := 25) hE dX2_parse_25 rfl ?_
    refine si_mga (pc := 26) (k := 12) hE rfl dX2_parse_26 q1671 (by decide) rfl (fun _ => rfl) ?_
    refine si_iconst (pc := 29) hE dX2_parse_29 (by decide) ?_
    refine si_iconst (pc := 30) hE dX2_parse_30 (by decide) ?_
    refine si_mis (pc := 31) (k := 12) hE dX2_parse_31 (by decide) rfl ?_
    refine si_aload_n (pc := 32) hE dX2_parse_32 rfl ?_
    refine si_iconst (pc := 33) hE dX2_parse_33 (by decide) ?_
    refine si_mp (pc := 34) (k := 41) hE rfl dX2_parse_34 q1700 (by decide) rfl rfl rfl rfl ?_
    refine si_aload_n (pc := 37) hE dX2_parse_37 rfl ?_
    refine si_iconst (pc := 38) hE dX2_parse_38 (by decide) ?_
    refine si_mp (pc := 39) (k := 32) hE rfl dX2_parse_39 q1691 (by decide) rfl rfl rfl rfl ?_
    refine si_aload_n (pc := 42) hE dX2_parse_42 rfl ?_
    refine si_iconst (pc := 43) hE dX2_parse_43 (by decide) ?_
    refine si_mpz (pc := 44) (k := 38) hE rfl dX2_parse_44 q1697 (by decide) rfl rfl rfl rfl ?_
    refine si_aload_n (pc := 47) hE dX2_parse_47 rfl ?_
    refine si_iconst (pc := 48) hE dX2_parse_48 (by decide) ?_
    refine si_mp (pc := 49) (k := 4) hE rfl dX2_parse_49 q1663 (by decide) rfl rfl rfl rfl ?_
    refine si_aload_n (pc := 52) hE dX2_parse_52 rfl ?_
    refine si_mc (pc := 53) (n := 0) hE rfl dX2_parse_53 (eX2_next g) rfl q1863 q1865 qs53 q1866 q134 nX2_next (by decide) (by decide) ?_
    refine si_aload_n (pc := 56) hE dX2_parse_56 rfl ?_
    refine si_aload_n (pc := 57) hE dX2_parse_57 rfl ?_
    refine si_mg (pc := 58) (k := 2) hE rfl dX2_parse_58 q1661 (by decide) rfl (fun _ => rfl) ?_
    refine si_if_eq (pc := 61) hE dX2_parse_61 (by decide) h68 ?_
    refine si_iconst (pc := 64) hE dX2_parse_64 (by decide) ?_
    exact si_goto (pc := 65) hE dX2_parse_65 (by decide) h69
  have h0 : E (bX2_parse_0 g.1 R) 0 := by
    unfold bX2_parse_0
    refine si_iload_n (pc := 0) hE dX2_parse_0 rfl ?_
    refine si_if_lt (pc := 1) hE dX2_parse_1 (by decide) h9 ?_
    refine si_iload_n (pc := 4) hE dX2_parse_4 rfl ?_
    refine si_iconst (pc := 5) hE dX2_parse_5 (by decide) ?_
    refine si_icmp_le (pc := 6) hE dX2_parse_6 (by decide) h11 ?_
    exact h9
  exact h0
def bX2_wrong_0 (mo : Nat) (R : Ret MS) : Cont MS :=
    o_al 0 <|
    o_mg mo 34 <|
    o_ireturn R
def pX2_wrong (mo : Nat) : PT MS := fun as σ Q => (lg_sl as).length ≤ 1 ∧ bX2_wrong_0 mo Q (entP 1 as) [] σ
theorem nX2_wrong : parN yX2_wrong 0 := by unfold parN; decide +kernel
set_option maxHeartbeats 4000000 in
theorem eX2_wrong (g : GM) : CT (wM g) yX2_wrong (Cond.code yX2_wrong cX2_wrong 1 (some .int)) 0 0 (pX2_wrong g.1) := by
  refine CT.of (wM_ok g) (cc := cX2_wrong) (nL := 1) (ret := (some .int)) (ht := []) (by decide +kernel) (Or.inl ⟨rfl, rfl⟩) (B := bX2_wrong_0 g.1) (fun R E X hE => ?_)
  have h0 : E (bX2_wrong_0 g.1 R) 0 := by
    unfold bX2_wrong_0
    refine si_aload_n (pc := 0) hE dX2_wrong_0 rfl ?_
    refine si_mg (pc := 1) (k := 34) hE rfl dX2_wrong_1 q1693 (by decide) rfl (fun _ => rfl) ?_
    exact si_ireturn (pc := 4) hE dX2_wrong_4
  exact h0
def bX2_isThere_23 (mo : Nat) (R : Ret MS) : Cont MS :=
    o_zreturn R
def bX2_isThere_22 (mo : Nat) (R : Ret MS) : Cont MS :=
    o_ic 0 <|
    (bX2_isThere_23 mo R)
def bX2_isThere_0 (mo : Nat) (R : Ret MS) : Cont MS :=
    o_il 1 <|
    o_if_lt (bX2_isThere_22 mo R) <|
    o_il 1 <|
    o_ic 3 <|
    o_icmp_gt (bX2_isThere_22 mo R) <|
    o_al 0 <|
    o_mga mo 8 <|
    o_il 1 <|
    o_mia mo 8 <|
    o_if_eq (bX2_isThere_22 mo R) <|
    o_ic 1 <|
    (bX2_isThere_23 mo R)
def pX2_isThere (mo : Nat) : PT MS := fun as σ Q => (lg_sl as).length ≤ 2 ∧ bX2_isThere_0 mo Q (entP 2 as) [] σ
theorem nX2_isThere : parN yX2_isThere 1 := by unfold parN; decide +kernel
set_option maxHeartbeats 4000000 in
theorem eX2_isThere (g : GM) : CT (wM g) yX2_isThere (Cond.code yX2_isThere cX2_isThere 2 (some .boolean)) 0 0 (pX2_isThere g.1) := by
  refine CT.of (wM_ok g) (cc := cX2_isThere) (nL := 2) (ret := (some .boolean)) (ht := []) (by decide +kernel) (Or.inl ⟨rfl, rfl⟩) (B := bX2_isThere_0 g.1) (fun R E X hE => ?_)
  have h23 : E (bX2_isThere_23 g.1 R) 23 := by
    unfold bX2_isThere_23
    exact si_zreturn (pc := 23) hE dX2_isThere_23
  have h22 : E (bX2_isThere_22 g.1 R) 22 := by
    unfold bX2_isThere_22
    refine si_iconst (pc := 22) hE dX2_isThere_22 (by decide) ?_
    exact h23
  have h0 : E (bX2_isThere_0 g.1 R) 0 := by
    unfold bX2_isThere_0
    refine si_iload_n (pc := 0) hE dX2_isThere_0 rfl ?_
    refine si_if_lt (pc := 1) hE dX2_isThere_1 (by decide) h22 ?_
    refine si_iload_n (pc := 4) hE dX2_isThere_4 rfl ?_
    refine si_iconst (pc := 5) hE dX2_isThere_5 (by decide) ?_
    refine si_icmp_gt (pc := 6) hE dX2_isThere_6 (by decide) h22 ?_
    refine si_aload_n (pc := 9) hE dX2_isThere_9 rfl ?_
    refine si_mga (pc := 10) (k := 8) hE rfl dX2_isThere_10 q1667 (by decide) rfl (fun _ => rfl) ?_
    refine si_iload_n (pc := 13) hE dX2_isThere_13 rfl ?_
    refine si_mza (pc := 14) (k := 8) hE dX2_isThere_14 (by decide) rfl ?_
    refine si_if_eq (pc := 15) hE dX2_isThere_15 (by decide) h22 ?_
    refine si_iconst (pc := 18) hE dX2_isThere_18 (by decide) ?_
    exact si_goto (pc := 19) hE dX2_isThere_19 (by decide) h23
  exact h0
def bX2_about_44 (mo : Nat) (R : Ret MS) : Cont MS :=
    o_al 0 <|
    o_mga mo 9 <|
    o_il 1 <|
    o_mia mo 9 <|
    o_ireturn R
def bX2_about_51 (mo : Nat) (R : Ret MS) : Cont MS :=
    o_al 0 <|
    o_mga mo 10 <|
    o_il 1 <|
    o_mia mo 10 <|
    o_ireturn R
def bX2_about_58 (mo : Nat) (R : Ret MS) : Cont MS :=
    o_al 0 <|
    o_mga mo 12 <|
    o_il 1 <|
    o_mia mo 12 <|
    o_ireturn R
def bX2_about_65 (mo : Nat) (R : Ret MS) : Cont MS :=
    o_al 0 <|
    o_mga mo 10 <|
    o_il 1 <|
    o_mia mo 10 <|
    o_al 0 <|
    o_mga mo 11 <|
    o_il 1 <|
    o_mia mo 11 <|
    o_isub <|
    o_ireturn R
def bX2_about_79 (mo : Nat) (R : Ret MS) : Cont MS :=
    o_al 0 <|
    o_mga mo 11 <|
    o_il 1 <|
    o_mia mo 11 <|
    o_ireturn R
def bX2_about_86 (mo : Nat) (R : Ret MS) : Cont MS :=
    o_ic (-1) <|
    o_ireturn R
def bX2_about_10 (mo : Nat) (R : Ret MS) : Cont MS :=
    o_il 2 <|
    o_sw [(0, (bX2_about_44 mo R)), (1, (bX2_about_51 mo R)), (2, (bX2_about_58 mo R)), (3, (bX2_about_65 mo R)), (4, (bX2_about_79 mo R))] (bX2_about_86 mo R)
def bX2_about_0 (mo : Nat) (R : Ret MS) : Cont MS :=
    o_al 0 <|
    o_il 1 <|
    o_mc mo 2 (pX2_isThere mo) R <|
    o_if_ne (bX2_about_10 mo R) <|
    o_ic (-1) <|
    o_ireturn R
def pX2_about (mo : Nat) : PT MS := fun as σ Q => (lg_sl as).length ≤ 3 ∧ bX2_about_0 mo Q (entP 3 as) [] σ
theorem nX2_about : parN yX2_about 2 := by unfold parN; decide +kernel
set_option maxHeartbeats 4000000 in
theorem eX2_about (g : GM) : CT (wM g) yX2_about (Cond.code yX2_about cX2_about 3 (some .int)) 1 21 (pX2_about g.1) := by
  refine CT.of (wM_ok g) (cc := cX2_about) (nL := 3) (ret := (some .int)) (ht := []) (by decide +kernel) (Or.inl ⟨rfl, rfl⟩) (B := bX2_about_0 g.1) (fun R E X hE => ?_)
  have h44 : E (bX2_about_44 g.1 R) 44 := by
    unfold bX2_about_44
    refine si_aload_n (pc := 44) hE dX2_about_44 rfl ?_
    refine si_mga (pc := 45) (k := 9) hE rfl dX2_about_45 q1668 (by decide) rfl (fun _ => rfl) ?_
    refine si_iload_n (pc := 48) hE dX2_about_48 rfl ?_
    refine si_mia (pc := 49) (k := 9) hE dX2_about_49 (by decide) rfl ?_
    exact si_ireturn (pc := 50) hE dX2_about_50
  have h51 : E (bX2_about_51 g.1 R) 51 := by
    unfold bX2_about_51
    refine si_aload_n (pc := 51) hE dX2_about_51 rfl ?_
    refine si_mga (pc := 52) (k := 10) hE rfl dX2_about_52 q1669 (by decide) rfl (fun _ => rfl) ?_
    refine si_iload_n (pc := 55) hE dX2_about_55 rfl ?_
    refine si_mia (pc := 56) (k := 10) hE dX2_about_56 (by decide) rfl ?_
    exact si_ireturn (pc := 57) hE dX2_about_57
  have h58 : E (bX2_about_58 g.1 R) 58 := by
    unfold bX2_about_58
    refine si_aload_n (pc := 58) hE dX2_about_58 rfl ?_
    refine si_mga (pc := 59) (k := 12) hE rfl dX2_about_59 q1671 (by decide) rfl (fun _ => rfl) ?_
    refine si_iload_n (pc := 62) hE dX2_about_62 rfl ?_
    refine si_mia (pc := 63) (k := 12) hE dX2_about_63 (by decide) rfl ?_
    exact si_ireturn (pc := 64) hE dX2_about_64
  have h65 : E (bX2_about_65 g.1 R) 65 := by
    unfold bX2_about_65
    refine si_aload_n (pc := 65) hE dX2_about_65 rfl ?_
    refine si_mga (pc := 66) (k := 10) hE rfl dX2_about_66 q1669 (by decide) rfl (fun _ => rfl) ?_
    refine si_iload_n (pc := 69) hE dX2_about_69 rfl ?_
    refine si_mia (pc := 70) (k := 10) hE dX2_about_70 (by decide) rfl ?_
    refine si_aload_n (pc := 71) hE dX2_about_71 rfl ?_
    refine si_mga (pc := 72) (k := 11) hE rfl dX2_about_72 q1670 (by decide) rfl (fun _ => rfl) ?_
    refine si_iload_n (pc := 75) hE dX2_about_75 rfl ?_
    refine si_mia (pc := 76) (k := 11) hE dX2_about_76 (by decide) rfl ?_
    refine si_isub (pc := 77) hE dX2_about_77 ?_
    exact si_ireturn (pc := 78) hE dX2_about_78
  have h79 : E (bX2_about_79 g.1 R) 79 := by
    unfold bX2_about_79
    refine si_aload_n (pc := 79) hE dX2_about_79 rfl ?_
    refine si_mga (pc := 80) (k := 11) hE rfl dX2_about_80 q1670 (by decide) rfl (fun _ => rfl) ?_
    refine si_iload_n (pc := 83) hE dX2_about_83 rfl ?_
    refine si_mia (pc := 84) (k := 11) hE dX2_about_84 (by decide) rfl ?_
    exact si_ireturn (pc := 85) hE dX2_about_85
  have h86 : E (bX2_about_86 g.1 R) 86 := by
    unfold bX2_about_86
    refine si_iconst (pc := 86) hE dX2_about_86 (by decide) ?_
    exact si_ireturn (pc := 87) hE dX2_about_87
  have h10 : E (bX2_about_10 g.1 R) 10 := by
    unfold bX2_about_10
    refine si_iload_n (pc := 10) hE dX2_about_10 rfl ?_
    exact si_tsw (pc := 11) hE dX2_about_11 (by decide) (td := 86) (by decide) h86 ⟨⟨44, by decide, by decide, h44⟩, ⟨⟨51, by decide, by decide, h51⟩, ⟨⟨58, by decide, by decide, h58⟩, ⟨⟨65, by decide, by decide, h65⟩, ⟨⟨79, by decide, by decide, h79⟩, trivial⟩⟩⟩⟩⟩
  have h0 : E (bX2_about_0 g.1 R) 0 := by
    unfold bX2_about_0
    refine si_aload_n (pc := 0) hE dX2_about_0 rfl ?_
    refine si_iload_n (pc := 1) hE dX2_about_1 rfl ?_
    refine si_mc (pc := 2) (n := 1) hE rfl dX2_about_2 (eX2_isThere g) rfl q2069 q2071 qs101 q2072 q134 nX2_isThere (by decide) (by decide) ?_
    refine si_if_ne (pc := 5) hE dX2_about_5 (by decide) h10 ?_
    refine si_iconst (pc := 8) hE dX2_about_8 (by decide) ?_
    exact si_ireturn (pc := 9) hE dX2_about_9
  exact h0
def bX2_node_22 (mo : Nat) (R : Ret MS) : Cont MS :=
    o_ic (-1) <|
    o_ireturn R
def bX2_node_72 (mo : Nat) (R : Ret MS) : Cont MS :=
    o_al 0 <|
    o_mga mo 15 <|
    o_il 4 <|
    o_mia mo 15 <|
    o_ireturn R
def bX2_node_80 (mo : Nat) (R : Ret MS) : Cont MS :=
    o_al 0 <|
    o_mga mo 16 <|
    o_il 4 <|
    o_mia mo 16 <|
    o_ireturn R
def bX2_node_88 (mo : Nat) (R : Ret MS) : Cont MS :=
    o_al 0 <|
    o_mga mo 18 <|
    o_il 4 <|
    o_mia mo 18 <|
    o_ireturn R
def bX2_node_96 (mo : Nat) (R : Ret MS) : Cont MS :=
    o_al 0 <|
    o_mga mo 19 <|
    o_il 4 <|
    o_mia mo 19 <|
    o_ireturn R
def bX2_node_104 (mo : Nat) (R : Ret MS) : Cont MS :=
    o_al 0 <|
    o_mga mo 20 <|
    o_il 4 <|
    o_mia mo 20 <|
    o_ireturn R
def bX2_node_177 (mo : Nat) (R : Ret MS) : Cont MS :=
    o_il 5 <|
    o_ireturn R
def bX2_node_168 (mo : Nat) (R : Ret MS) (J122 : Cont MS) : Cont MS :=
    o_iadd <|
    o_is 5 <|
    o_iinc 6 1 <|
    (o_kill [3, 4] J122)
def bX2_node_163 (mo : Nat) (R : Ret MS) (J122 : Cont MS) : Cont MS :=
    o_ic 1 <|
    (bX2_node_168 mo R J122)
def bX2_node_167 (mo : Nat) (R : Ret MS) (J122 : Cont MS) : Cont MS :=
    o_ic 0 <|
    (bX2_node_168 mo R J122)
def bX2_node_122 (mo : Nat) (R : Ret MS) : Cont MS :=
    fixC fun J122 =>
    o_il 6 <|
    o_ic 240 <|
    o_il 1 <|
    o_imul <|
    o_al 0 <|
    o_mga mo 10 <|
    o_il 1 <|
    o_mia mo 10 <|
    o_iadd <|
    o_icmp_ge (bX2_node_177 mo R) <|
    o_il 5 <|
    o_al 0 <|
    o_mga mo 19 <|
    o_il 6 <|
    o_mia mo 19 <|
    o_il 2 <|
    o_icmp_eq (bX2_node_163 mo R J122) <|
    o_al 0 <|
    o_mga mo 20 <|
    o_il 6 <|
    o_mia mo 20 <|
    o_il 2 <|
    o_icmp_ne (bX2_node_167 mo R J122) <|
    (bX2_node_163 mo R J122)
def bX2_node_112 (mo : Nat) (R : Ret MS) : Cont MS :=
    o_ic 0 <|
    o_is 5 <|
    o_ic 240 <|
    o_il 1 <|
    o_imul <|
    o_is 6 <|
    (o_kill [3, 4] (bX2_node_122 mo R))
def bX2_node_180 (mo : Nat) (R : Ret MS) : Cont MS :=
    o_ic (-1) <|
    o_ireturn R
def bX2_node_24 (mo : Nat) (R : Ret MS) : Cont MS :=
    o_ic 240 <|
    o_il 1 <|
    o_imul <|
    o_il 2 <|
    o_iadd <|
    o_is 4 <|
    o_il 3 <|
    o_sw [(0, (bX2_node_72 mo R)), (1, (bX2_node_80 mo R)), (2, (bX2_node_88 mo R)), (3, (bX2_node_96 mo R)), (4, (bX2_node_104 mo R)), (5, (bX2_node_112 mo R))] (bX2_node_180 mo R)
def bX2_node_0 (mo : Nat) (R : Ret MS) : Cont MS :=
    o_al 0 <|
    o_il 1 <|
    o_mc mo 2 (pX2_isThere mo) R <|
    o_if_eq (bX2_node_22 mo R) <|
    o_il 2 <|
    o_if_lt (bX2_node_22 mo R) <|
    o_il 2 <|
    o_al 0 <|
    o_mga mo 10 <|
    o_il 1 <|
    o_mia mo 10 <|
    o_icmp_lt (bX2_node_24 mo R) <|
    (bX2_node_22 mo R)
def pX2_node (mo : Nat) : PT MS := fun as σ Q => (lg_sl as).length ≤ 7 ∧ bX2_node_0 mo Q (entP 7 as) [] σ
theorem nX2_node : parN yX2_node 3 := by unfold parN; decide +kernel
set_option maxHeartbeats 4000000 in
theorem eX2_node (g : GM) : CT (wM g) yX2_node (Cond.code yX2_node cX2_node 7 (some .int)) 1 21 (pX2_node g.1) := by
  refine CT.of (wM_ok g) (cc := cX2_node) (nL := 7) (ret := (some .int)) (ht := []) (by decide +kernel) (Or.inl ⟨rfl, rfl⟩) (B := bX2_node_0 g.1) (fun R E X hE => ?_)
  have h22 : E (bX2_node_22 g.1 R) 22 := by
    unfold bX2_node_22
    refine si_iconst (pc := 22) hE dX2_node_22 (by decide) ?_
    exact si_ireturn (pc := 23) hE dX2_node_23
  have h72 : E (bX2_node_72 g.1 R) 72 := by
    unfold bX2_node_72
    refine si_aload_n (pc := 72) hE dX2_node_72 rfl ?_
    refine si_mga (pc := 73) (k := 15) hE rfl dX2_node_73 q1674 (by decide) rfl (fun _ => rfl) ?_
    refine si_iload (pc := 76) hE dX2_node_76 ?_
    refine si_mia (pc := 78) (k := 15) hE dX2_node_78 (by decide) rfl ?_
    exact si_ireturn (pc := 79) hE dX2_node_79
  have h80 : E (bX2_node_80 g.1 R) 80 := by
    unfold bX2_node_80
    refine si_aload_n (pc := 80) hE dX2_node_80 rfl ?_
    refine si_mga (pc := 81) (k := 16) hE rfl dX2_node_81 q1675 (by decide) rfl (fun _ => rfl) ?_
    refine si_iload (pc := 84) hE dX2_node_84 ?_
    refine si_mia (pc := 86) (k := 16) hE dX2_node_86 (by decide) rfl ?_
    exact si_ireturn (pc := 87) hE dX2_node_87
  have h88 : E (bX2_node_88 g.1 R) 88 := by
    unfold bX2_node_88
    refine si_aload_n (pc := 88) hE dX2_node_88 rfl ?_
    refine si_mga (pc := 89) (k := 18) hE rfl dX2_node_89 q1677 (by decide) rfl (fun _ => rfl) ?_
    refine si_iload (pc := 92) hE dX2_node_92 ?_
    refine si_mia (pc := 94) (k := 18) hE dX2_node_94 (by decide) rfl ?_
    exact si_ireturn (pc := 95) hE dX2_node_95
  have h96 : E (bX2_node_96 g.1 R) 96 := by
    unfold bX2_node_96
    refine si_aload_n (pc := 96) hE dX2_node_96 rfl ?_
    refine si_mga (pc := 97) (k := 19) hE rfl dX2_node_97 q1678 (by decide) rfl (fun _ => rfl) ?_
    refine si_iload (pc := 100) hE dX2_node_100 ?_
    refine si_mia (pc := 102) (k := 19) hE dX2_node_102 (by decide) rfl ?_
    exact si_ireturn (pc := 103) hE dX2_node_103
  have h104 : E (bX2_node_104 g.1 R) 104 := by
    unfold bX2_node_104
    refine si_aload_n (pc := 104) hE dX2_node_104 rfl ?_
    refine si_mga (pc := 105) (k := 20) hE rfl dX2_node_105 q1679 (by decide) rfl (fun _ => rfl) ?_
    refine si_iload (pc := 108) hE dX2_node_108 ?_
    refine si_mia (pc := 110) (k := 20) hE dX2_node_110 (by decide) rfl ?_
    exact si_ireturn (pc := 111) hE dX2_node_111
  have h177 : E (bX2_node_177 g.1 R) 177 := by
    unfold bX2_node_177
    refine si_iload (pc := 177) hE dX2_node_177 ?_
    exact si_ireturn (pc := 179) hE dX2_node_179
  have h168 : ∀ (J122 : Cont MS) (hJ122 : E J122 122), E (bX2_node_168 g.1 R J122) 168 := by
    intro J122 hJ122
    unfold bX2_node_168
    refine si_iadd (pc := 168) hE dX2_node_168 ?_
    refine si_istore (pc := 169) hE dX2_node_169 (by decide) ?_
    refine si_iinc (pc := 171) hE dX2_node_171 (by decide) (by decide) ?_
    exact si_goto (pc := 174) hE dX2_node_174 (by decide) (si_kill hE hJ122)
  have h163 : ∀ (J122 : Cont MS) (hJ122 : E J122 122), E (bX2_node_163 g.1 R J122) 163 := by
    intro J122 hJ122
    unfold bX2_node_163
    refine si_iconst (pc := 163) hE dX2_node_163 (by decide) ?_
    exact si_goto (pc := 164) hE dX2_node_164 (by decide) (h168 J122 hJ122)
  have h167 : ∀ (J122 : Cont MS) (hJ122 : E J122 122), E (bX2_node_167 g.1 R J122) 167 := by
    intro J122 hJ122
    unfold bX2_node_167
    refine si_iconst (pc := 167) hE dX2_node_167 (by decide) ?_
    exact (h168 J122 hJ122)
  have h122 : E (bX2_node_122 g.1 R) 122 := by
    unfold bX2_node_122
    refine si_fix hE (fun J122 hJ122 => ?_)
    refine si_iload (pc := 122) hE dX2_node_122 ?_
    refine si_sipush (pc := 124) hE dX2_node_124 (by decide) ?_
    refine si_iload_n (pc := 127) hE dX2_node_127 rfl ?_
    refine si_imul (pc := 128) hE dX2_node_128 ?_
    refine si_aload_n (pc := 129) hE dX2_node_129 rfl ?_
    refine si_mga (pc := 130) (k := 10) hE rfl dX2_node_130 q1669 (by decide) rfl (fun _ => rfl) ?_
    refine si_iload_n (pc := 133) hE dX2_node_133 rfl ?_
    refine si_mia (pc := 134) (k := 10) hE dX2_node_134 (by decide) rfl ?_
    refine si_iadd (pc := 135) hE dX2_node_135 ?_
    refine si_icmp_ge (pc := 136) hE dX2_node_136 (by decide) h177 ?_
    refine si_iload (pc := 139) hE dX2_node_139 ?_
    refine si_aload_n (pc := 141) hE dX2_node_141 rfl ?_
    refine si_mga (pc := 142) (k := 19) hE rfl dX2_node_142 q1678 (by decide) rfl (fun _ => rfl) ?_
    refine si_iload (pc := 145) hE dX2_node_145 ?_
    refine si_mia (pc := 147) (k := 19) hE dX2_node_147 (by decide) rfl ?_
    refine si_iload_n (pc := 148) hE dX2_node_148 rfl ?_
    refine si_icmp_eq (pc := 149) hE dX2_node_149 (by decide) (h163 J122 hJ122) ?_
    refine si_aload_n (pc := 152) hE dX2_node_152 rfl ?_
    refine si_mga (pc := 153) (k := 20) hE rfl dX2_node_153 q1679 (by decide) rfl (fun _ => rfl) ?_
    refine si_iload (pc := 156) hE dX2_node_156 ?_
    refine si_mia (pc := 158) (k := 20) hE dX2_node_158 (by decide) rfl ?_
    refine si_iload_n (pc := 159) hE dX2_node_159 rfl ?_
    refine si_icmp_ne (pc := 160) hE dX2_node_160 (by decide) (h167 J122 hJ122) ?_
    exact (h163 J122 hJ122)
  have h112 : E (bX2_node_112 g.1 R) 112 := by
    unfold bX2_node_112
    refine si_iconst (pc := 112) hE dX2_node_112 (by decide) ?_
    refine si_istore (pc := 113) hE dX2_node_113 (by decide) ?_
    refine si_sipush (pc := 115) hE dX2_node_115 (by decide) ?_
    refine si_iload_n (pc := 118) hE dX2_node_118 rfl ?_
    refine si_imul (pc := 119) hE dX2_node_119 ?_
    refine si_istore (pc := 120) hE dX2_node_120 (by decide) ?_
    exact (si_kill hE h122)
  have h180 : E (bX2_node_180 g.1 R) 180 := by
    unfold bX2_node_180
    refine si_iconst (pc := 180) hE dX2_node_180 (by decide) ?_
    exact si_ireturn (pc := 181) hE dX2_node_181
  have h24 : E (bX2_node_24 g.1 R) 24 := by
    unfold bX2_node_24
    refine si_sipush (pc := 24) hE dX2_node_24 (by decide) ?_
    refine si_iload_n (pc := 27) hE dX2_node_27 rfl ?_
    refine si_imul (pc := 28) hE dX2_node_28 ?_
    refine si_iload_n (pc := 29) hE dX2_node_29 rfl ?_
    refine si_iadd (pc := 30) hE dX2_node_30 ?_
    refine si_istore (pc := 31) hE dX2_node_31 (by decide) ?_
    refine si_iload_n (pc := 33) hE dX2_node_33 rfl ?_
    exact si_tsw (pc := 34) hE dX2_node_34 (by decide) (td := 180) (by decide) h180 ⟨⟨72, by decide, by decide, h72⟩, ⟨⟨80, by decide, by decide, h80⟩, ⟨⟨88, by decide, by decide, h88⟩, ⟨⟨96, by decide, by decide, h96⟩, ⟨⟨104, by decide, by decide, h104⟩, ⟨⟨112, by decide, by decide, h112⟩, trivial⟩⟩⟩⟩⟩⟩
  have h0 : E (bX2_node_0 g.1 R) 0 := by
    unfold bX2_node_0
    refine si_aload_n (pc := 0) hE dX2_node_0 rfl ?_
    refine si_iload_n (pc := 1) hE dX2_node_1 rfl ?_
    refine si_mc (pc := 2) (n := 1) hE rfl dX2_node_2 (eX2_isThere g) rfl q2069 q2071 qs101 q2072 q134 nX2_isThere (by decide) (by decide) ?_
    refine si_if_eq (pc := 5) hE dX2_node_5 (by decide) h22 ?_
    refine si_iload_n (pc := 8) hE dX2_node_8 rfl ?_
    refine si_if_lt (pc := 9) hE dX2_node_9 (by decide) h22 ?_
    refine si_iload_n (pc := 12) hE dX2_node_12 rfl ?_
    refine si_aload_n (pc := 13) hE dX2_node_13 rfl ?_
    refine si_mga (pc := 14) (k := 10) hE rfl dX2_node_14 q1669 (by decide) rfl (fun _ => rfl) ?_
    refine si_iload_n (pc := 17) hE dX2_node_17 rfl ?_
    refine si_mia (pc := 18) (k := 10) hE dX2_node_18 (by decide) rfl ?_
    refine si_icmp_lt (pc := 19) hE dX2_node_19 (by decide) h24 ?_
    exact h22
  exact h0
def bX2_isSum_27 (mo : Nat) (R : Ret MS) : Cont MS :=
    o_zreturn R
def bX2_isSum_26 (mo : Nat) (R : Ret MS) : Cont MS :=
    o_ic 0 <|
    (bX2_isSum_27 mo R)
def bX2_isSum_0 (mo : Nat) (R : Ret MS) : Cont MS :=
    o_al 0 <|
    o_il 1 <|
    o_mc mo 2 (pX2_isThere mo) R <|
    o_if_eq (bX2_isSum_26 mo R) <|
    o_il 2 <|
    o_if_lt (bX2_isSum_26 mo R) <|
    o_il 2 <|
    o_al 0 <|
    o_mga mo 12 <|
    o_il 1 <|
    o_mia mo 12 <|
    o_icmp_ge (bX2_isSum_26 mo R) <|
    o_ic 1 <|
    (bX2_isSum_27 mo R)
def pX2_isSum (mo : Nat) : PT MS := fun as σ Q => (lg_sl as).length ≤ 3 ∧ bX2_isSum_0 mo Q (entP 3 as) [] σ
theorem nX2_isSum : parN yX2_isSum 2 := by unfold parN; decide +kernel
set_option maxHeartbeats 4000000 in
theorem eX2_isSum (g : GM) : CT (wM g) yX2_isSum (Cond.code yX2_isSum cX2_isSum 3 (some .boolean)) 1 21 (pX2_isSum g.1) := by
  refine CT.of (wM_ok g) (cc := cX2_isSum) (nL := 3) (ret := (some .boolean)) (ht := []) (by decide +kernel) (Or.inl ⟨rfl, rfl⟩) (B := bX2_isSum_0 g.1) (fun R E X hE => ?_)
  have h27 : E (bX2_isSum_27 g.1 R) 27 := by
    unfold bX2_isSum_27
    exact si_zreturn (pc := 27) hE dX2_isSum_27
  have h26 : E (bX2_isSum_26 g.1 R) 26 := by
    unfold bX2_isSum_26
    refine si_iconst (pc := 26) hE dX2_isSum_26 (by decide) ?_
    exact h27
  have h0 : E (bX2_isSum_0 g.1 R) 0 := by
    unfold bX2_isSum_0
    refine si_aload_n (pc := 0) hE dX2_isSum_0 rfl ?_
    refine si_iload_n (pc := 1) hE dX2_isSum_1 rfl ?_
    refine si_mc (pc := 2) (n := 1) hE rfl dX2_isSum_2 (eX2_isThere g) rfl q2069 q2071 qs101 q2072 q134 nX2_isThere (by decide) (by decide) ?_
    refine si_if_eq (pc := 5) hE dX2_isSum_5 (by decide) h26 ?_
    refine si_iload_n (pc := 8) hE dX2_isSum_8 rfl ?_
    refine si_if_lt (pc := 9) hE dX2_isSum_9 (by decide) h26 ?_
    refine si_iload_n (pc := 12) hE dX2_isSum_12 rfl ?_
    refine si_aload_n (pc := 13) hE dX2_isSum_13 rfl ?_
    refine si_mga (pc := 14) (k := 12) hE rfl dX2_isSum_14 q1671 (by decide) rfl (fun _ => rfl) ?_
    refine si_iload_n (pc := 17) hE dX2_isSum_17 rfl ?_
    refine si_mia (pc := 18) (k := 12) hE dX2_isSum_18 (by decide) rfl ?_
    refine si_icmp_ge (pc := 19) hE dX2_isSum_19 (by decide) h26 ?_
    refine si_iconst (pc := 22) hE dX2_isSum_22 (by decide) ?_
    exact si_goto (pc := 23) hE dX2_isSum_23 (by decide) h27
  exact h0
def bX2_coded_54 (mo : Nat) (R : Ret MS) : Cont MS :=
    o_ireturn R
def bX2_coded_53 (mo : Nat) (R : Ret MS) : Cont MS :=
    o_il 2 <|
    (bX2_coded_54 mo R)
def bX2_coded_40 (mo : Nat) (R : Ret MS) : Cont MS :=
    o_il 2 <|
    o_ic (-999) <|
    o_icmp_ge (bX2_coded_53 mo R) <|
    o_ic (-999) <|
    (bX2_coded_54 mo R)
def bX2_coded_27 (mo : Nat) (R : Ret MS) : Cont MS :=
    o_il 2 <|
    o_ic 999 <|
    o_icmp_le (bX2_coded_40 mo R) <|
    o_ic 999 <|
    (bX2_coded_54 mo R)
def bX2_coded_26 (mo : Nat) (R : Ret MS) : Cont MS :=
    o_ireturn R
def bX2_coded_18 (mo : Nat) (R : Ret MS) : Cont MS :=
    o_ic 2000 <|
    o_il 1 <|
    o_iadd <|
    o_ic 16 <|
    o_isub <|
    (bX2_coded_26 mo R)
def bX2_coded_0 (mo : Nat) (R : Ret MS) : Cont MS :=
    o_il 1 <|
    o_if_lt (bX2_coded_27 mo R) <|
    o_il 1 <|
    o_ic 16 <|
    o_icmp_ge (bX2_coded_18 mo R) <|
    o_ic 1000 <|
    o_il 1 <|
    o_iadd <|
    (bX2_coded_26 mo R)
def pX2_coded (mo : Nat) : PT MS := fun as σ Q => (lg_sl as).length ≤ 3 ∧ bX2_coded_0 mo Q (entP 3 as) [] σ
theorem nX2_coded : parN yX2_coded 2 := by unfold parN; decide +kernel
set_option maxHeartbeats 4000000 in
theorem eX2_coded (g : GM) : CT (wM g) yX2_coded (Cond.code yX2_coded cX2_coded 3 (some .int)) 0 0 (pX2_coded g.1) := by
  refine CT.of (wM_ok g) (cc := cX2_coded) (nL := 3) (ret := (some .int)) (ht := []) (by decide +kernel) (Or.inl ⟨rfl, rfl⟩) (B := bX2_coded_0 g.1) (fun R E X hE => ?_)
  have h54 : E (bX2_coded_54 g.1 R) 54 := by
    unfold bX2_coded_54
    exact si_ireturn (pc := 54) hE dX2_coded_54
  have h53 : E (bX2_coded_53 g.1 R) 53 := by
    unfold bX2_coded_53
    refine si_iload_n (pc := 53) hE dX2_coded_53 rfl ?_
    exact h54
  have h40 : E (bX2_coded_40 g.1 R) 40 := by
    unfold bX2_coded_40
    refine si_iload_n (pc := 40) hE dX2_coded_40 rfl ?_
    refine si_sipush (pc := 41) hE dX2_coded_41 (by decide) ?_
    refine si_icmp_ge (pc := 44) hE dX2_coded_44 (by decide) h53 ?_
    refine si_sipush (pc := 47) hE dX2_coded_47 (by decide) ?_
    exact si_goto (pc := 50) hE dX2_coded_50 (by decide) h54
  have h27 : E (bX2_coded_27 g.1 R) 27 := by
    unfold bX2_coded_27
    refine si_iload_n (pc := 27) hE dX2_coded_27 rfl ?_
    refine si_sipush (pc := 28) hE dX2_coded_28 (by decide) ?_
    refine si_icmp_le (pc := 31) hE dX2_coded_31 (by decide) h40 ?_
    refine si_sipush (pc := 34) hE dX2_coded_34 (by decide) ?_
    exact si_goto (pc := 37) hE dX2_coded_37 (by decide) h54
  have h26 : E (bX2_coded_26 g.1 R) 26 := by
    unfold bX2_coded_26
    exact si_ireturn (pc := 26) hE dX2_coded_26
  have h18 : E (bX2_coded_18 g.1 R) 18 := by
    unfold bX2_coded_18
    refine si_sipush (pc := 18) hE dX2_coded_18 (by decide) ?_
    refine si_iload_n (pc := 21) hE dX2_coded_21 rfl ?_
    refine si_iadd (pc := 22) hE dX2_coded_22 ?_
    refine si_bipush (pc := 23) hE dX2_coded_23 (by decide) ?_
    refine si_isub (pc := 25) hE dX2_coded_25 ?_
    exact h26
  have h0 : E (bX2_coded_0 g.1 R) 0 := by
    unfold bX2_coded_0
    refine si_iload_n (pc := 0) hE dX2_coded_0 rfl ?_
    refine si_if_lt (pc := 1) hE dX2_coded_1 (by decide) h27 ?_
    refine si_iload_n (pc := 4) hE dX2_coded_4 rfl ?_
    refine si_bipush (pc := 5) hE dX2_coded_5 (by decide) ?_
    refine si_icmp_ge (pc := 7) hE dX2_coded_7 (by decide) h18 ?_
    refine si_sipush (pc := 10) hE dX2_coded_10 (by decide) ?_
    refine si_iload_n (pc := 13) hE dX2_coded_13 rfl ?_
    refine si_iadd (pc := 14) hE dX2_coded_14 ?_
    exact si_goto (pc := 15) hE dX2_coded_15 (by decide) h26
  exact h0
def bX2_sum_56 (mo : Nat) (R : Ret MS) : Cont MS :=
    o_al 0 <|
    o_mga mo 26 <|
    o_il 4 <|
    o_mia mo 26 <|
    o_ireturn R
def bX2_sum_64 (mo : Nat) (R : Ret MS) : Cont MS :=
    o_al 0 <|
    o_al 0 <|
    o_mga mo 27 <|
    o_il 4 <|
    o_mia mo 27 <|
    o_al 0 <|
    o_mga mo 28 <|
    o_il 4 <|
    o_mia mo 28 <|
    o_mc mo 3 (pX2_coded mo) R <|
    o_ireturn R
def bX2_sum_83 (mo : Nat) (R : Ret MS) : Cont MS :=
    o_al 0 <|
    o_al 0 <|
    o_mga mo 29 <|
    o_il 4 <|
    o_mia mo 29 <|
    o_al 0 <|
    o_mga mo 30 <|
    o_il 4 <|
    o_mia mo 30 <|
    o_mc mo 3 (pX2_coded mo) R <|
    o_ireturn R
def bX2_sum_116 (mo : Nat) (R : Ret MS) : Cont MS :=
    o_ireturn R
def bX2_sum_115 (mo : Nat) (R : Ret MS) : Cont MS :=
    o_ic 0 <|
    (bX2_sum_116 mo R)
def bX2_sum_102 (mo : Nat) (R : Ret MS) : Cont MS :=
    o_al 0 <|
    o_il 1 <|
    o_il 2 <|
    o_mc mo 3 (pX2_isBold mo) R <|
    o_if_eq (bX2_sum_115 mo R) <|
    o_ic 1 <|
    (bX2_sum_116 mo R)
def bX2_sum_167 (mo : Nat) (R : Ret MS) : Cont MS :=
    o_il 5 <|
    o_ireturn R
def bX2_sum_158 (mo : Nat) (R : Ret MS) (J123 : Cont MS) : Cont MS :=
    o_iadd <|
    o_is 5 <|
    o_iinc 6 1 <|
    (o_kill [3, 4] J123)
def bX2_sum_157 (mo : Nat) (R : Ret MS) (J123 : Cont MS) : Cont MS :=
    o_ic 0 <|
    (bX2_sum_158 mo R J123)
def bX2_sum_123 (mo : Nat) (R : Ret MS) : Cont MS :=
    fixC fun J123 =>
    o_il 6 <|
    o_al 0 <|
    o_mga mo 10 <|
    o_il 1 <|
    o_mia mo 10 <|
    o_icmp_ge (bX2_sum_167 mo R) <|
    o_il 5 <|
    o_al 0 <|
    o_mga mo 18 <|
    o_ic 240 <|
    o_il 1 <|
    o_imul <|
    o_il 6 <|
    o_iadd <|
    o_mia mo 18 <|
    o_il 2 <|
    o_icmp_ne (bX2_sum_157 mo R J123) <|
    o_ic 1 <|
    (bX2_sum_158 mo R J123)
def bX2_sum_117 (mo : Nat) (R : Ret MS) : Cont MS :=
    o_ic 0 <|
    o_is 5 <|
    o_ic 0 <|
    o_is 6 <|
    (o_kill [3, 4] (bX2_sum_123 mo R))
def bX2_sum_170 (mo : Nat) (R : Ret MS) : Cont MS :=
    o_ic (-1) <|
    o_ireturn R
def bX2_sum_11 (mo : Nat) (R : Ret MS) : Cont MS :=
    o_ic 32 <|
    o_il 1 <|
    o_imul <|
    o_il 2 <|
    o_iadd <|
    o_is 4 <|
    o_il 3 <|
    o_sw [(0, (bX2_sum_56 mo R)), (1, (bX2_sum_64 mo R)), (2, (bX2_sum_83 mo R)), (3, (bX2_sum_102 mo R)), (4, (bX2_sum_117 mo R))] (bX2_sum_170 mo R)
def bX2_sum_0 (mo : Nat) (R : Ret MS) : Cont MS :=
    o_al 0 <|
    o_il 1 <|
    o_il 2 <|
    o_mc mo 3 (pX2_isSum mo) R <|
    o_if_ne (bX2_sum_11 mo R) <|
    o_ic (-1) <|
    o_ireturn R
def pX2_sum (mo : Nat) : PT MS := fun as σ Q => (lg_sl as).length ≤ 7 ∧ bX2_sum_0 mo Q (entP 7 as) [] σ
theorem nX2_sum : parN yX2_sum 3 := by unfold parN; decide +kernel
set_option maxHeartbeats 4000000 in
theorem eX2_sum (g : GM) : CT (wM g) yX2_sum (Cond.code yX2_sum cX2_sum 7 (some .int)) 2 43 (pX2_sum g.1) := by
  refine CT.of (wM_ok g) (cc := cX2_sum) (nL := 7) (ret := (some .int)) (ht := []) (by decide +kernel) (Or.inl ⟨rfl, rfl⟩) (B := bX2_sum_0 g.1) (fun R E X hE => ?_)
  have h56 : E (bX2_sum_56 g.1 R) 56 := by
    unfold bX2_sum_56
    refine si_aload_n (pc := 56) hE dX2_sum_56 rfl ?_
    refine si_mga (pc := 57) (k := 26) hE rfl dX2_sum_57 q1685 (by decide) rfl (fun _ => rfl) ?_
    refine si_iload (pc := 60) hE dX2_sum_60 ?_
    refine si_mia (pc := 62) (k := 26) hE dX2_sum_62 (by decide) rfl ?_
    exact si_ireturn (pc := 63) hE dX2_sum_63
  have h64 : E (bX2_sum_64 g.1 R) 64 := by
    unfold bX2_sum_64
    refine si_aload_n (pc := 64) hE dX2_sum_64 rfl ?_
    refine si_aload_n (pc := 65) hE dX2_sum_65 rfl ?_
    refine si_mga (pc := 66) (k := 27) hE rfl dX2_sum_66 q1686 (by decide) rfl (fun _ => rfl) ?_
    refine si_iload (pc := 69) hE dX2_sum_69 ?_
    refine si_mia (pc := 71) (k := 27) hE dX2_sum_71 (by decide) rfl ?_
    refine si_aload_n (pc := 72) hE dX2_sum_72 rfl ?_
    refine si_mga (pc := 73) (k := 28) hE rfl dX2_sum_73 q1687 (by decide) rfl (fun _ => rfl) ?_
    refine si_iload (pc := 76) hE dX2_sum_76 ?_
    refine si_mia (pc := 78) (k := 28) hE dX2_sum_78 (by decide) rfl ?_
    refine si_mc (pc := 79) (n := 2) hE rfl dX2_sum_79 (eX2_coded g) rfl q2085 q2087 qs103 q2088 q134 nX2_coded (by decide) (by decide) ?_
    exact si_ireturn (pc := 82) hE dX2_sum_82
  have h83 : E (bX2_sum_83 g.1 R) 83 := by
    unfold bX2_sum_83
    refine si_aload_n (pc := 83) hE dX2_sum_83 rfl ?_
    refine si_aload_n (pc := 84) hE dX2_sum_84 rfl ?_
    refine si_mga (pc := 85) (k := 29) hE rfl dX2_sum_85 q1688 (by decide) rfl (fun _ => rfl) ?_
    refine si_iload (pc := 88) hE dX2_sum_88 ?_
    refine si_mia (pc := 90) (k := 29) hE dX2_sum_90 (by decide) rfl ?_
    refine si_aload_n (pc := 91) hE dX2_sum_91 rfl ?_
    refine si_mga (pc := 92) (k := 30) hE rfl dX2_sum_92 q1689 (by decide) rfl (fun _ => rfl) ?_
    refine si_iload (pc := 95) hE dX2_sum_95 ?_
    refine si_mia (pc := 97) (k := 30) hE dX2_sum_97 (by decide) rfl ?_
    refine si_mc (pc := 98) (n := 2) hE rfl dX2_sum_98 (eX2_coded g) rfl q2085 q2087 qs103 q2088 q134 nX2_coded (by decide) (by decide) ?_
    exact si_ireturn (pc := 101) hE dX2_sum_101
  have h116 : E (bX2_sum_116 g.1 R) 116 := by
    unfold bX2_sum_116
    exact si_ireturn (pc := 116) hE dX2_sum_116
  have h115 : E (bX2_sum_115 g.1 R) 115 := by
    unfold bX2_sum_115
    refine si_iconst (pc := 115) hE dX2_sum_115 (by decide) ?_
    exact h116
  have h102 : E (bX2_sum_102 g.1 R) 102 := by
    unfold bX2_sum_102
    refine si_aload_n (pc := 102) hE dX2_sum_102 rfl ?_
    refine si_iload_n (pc := 103) hE dX2_sum_103 rfl ?_
    refine si_iload_n (pc := 104) hE dX2_sum_104 rfl ?_
    refine si_mc (pc := 105) (n := 2) hE rfl dX2_sum_105 (eX2_isBold g) rfl q2033 q2035 qs94 q2036 q134 nX2_isBold (by decide) (by decide) ?_
    refine si_if_eq (pc := 108) hE dX2_sum_108 (by decide) h115 ?_
    refine si_iconst (pc := 111) hE dX2_sum_111 (by decide) ?_
    exact si_goto (pc := 112) hE dX2_sum_112 (by decide) h116
  have h167 : E (bX2_sum_167 g.1 R) 167 := by
    unfold bX2_sum_167
    refine si_iload (pc := 167) hE dX2_sum_167 ?_
    exact si_ireturn (pc := 169) hE dX2_sum_169
  have h158 : ∀ (J123 : Cont MS) (hJ123 : E J123 123), E (bX2_sum_158 g.1 R J123) 158 := by
    intro J123 hJ123
    unfold bX2_sum_158
    refine si_iadd (pc := 158) hE dX2_sum_158 ?_
    refine si_istore (pc := 159) hE dX2_sum_159 (by decide) ?_
    refine si_iinc (pc := 161) hE dX2_sum_161 (by decide) (by decide) ?_
    exact si_goto (pc := 164) hE dX2_sum_164 (by decide) (si_kill hE hJ123)
  have h157 : ∀ (J123 : Cont MS) (hJ123 : E J123 123), E (bX2_sum_157 g.1 R J123) 157 := by
    intro J123 hJ123
    unfold bX2_sum_157
    refine si_iconst (pc := 157) hE dX2_sum_157 (by decide) ?_
    exact (h158 J123 hJ123)
  have h123 : E (bX2_sum_123 g.1 R) 123 := by
    unfold bX2_sum_123
    refine si_fix hE (fun J123 hJ123 => ?_)
    refine si_iload (pc := 123) hE dX2_sum_123 ?_
    refine si_aload_n (pc := 125) hE dX2_sum_125 rfl ?_
    refine si_mga (pc := 126) (k := 10) hE rfl dX2_sum_126 q1669 (by decide) rfl (fun _ => rfl) ?_
    refine si_iload_n (pc := 129) hE dX2_sum_129 rfl ?_
    refine si_mia (pc := 130) (k := 10) hE dX2_sum_130 (by decide) rfl ?_
    refine si_icmp_ge (pc := 131) hE dX2_sum_131 (by decide) h167 ?_
    refine si_iload (pc := 134) hE dX2_sum_134 ?_
    refine si_aload_n (pc := 136) hE dX2_sum_136 rfl ?_
    refine si_mga (pc := 137) (k := 18) hE rfl dX2_sum_137 q1677 (by decide) rfl (fun _ => rfl) ?_
    refine si_sipush (pc := 140) hE dX2_sum_140 (by decide) ?_
    refine si_iload_n (pc := 143) hE dX2_sum_143 rfl ?_
    refine si_imul (pc := 144) hE dX2_sum_144 ?_
    refine si_iload (pc := 145) hE dX2_sum_145 ?_
    refine si_iadd (pc := 147) hE dX2_sum_147 ?_
    refine si_mia (pc := 148) (k := 18) hE dX2_sum_148 (by decide) rfl ?_
    refine si_iload_n (pc := 149) hE dX2_sum_149 rfl ?_
    refine si_icmp_ne (pc := 150) hE dX2_sum_150 (by decide) (h157 J123 hJ123) ?_
    refine si_iconst (pc := 153) hE dX2_sum_153 (by decide) ?_
    exact si_goto (pc := 154) hE dX2_sum_154 (by decide) (h158 J123 hJ123)
  have h117 : E (bX2_sum_117 g.1 R) 117 := by
    unfold bX2_sum_117
    refine si_iconst (pc := 117) hE dX2_sum_117 (by decide) ?_
    refine si_istore (pc := 118) hE dX2_sum_118 (by decide) ?_
    refine si_iconst (pc := 120) hE dX2_sum_120 (by decide) ?_
    refine si_istore (pc := 121) hE dX2_sum_121 (by decide) ?_
    exact (si_kill hE h123)
  have h170 : E (bX2_sum_170 g.1 R) 170 := by
    unfold bX2_sum_170
    refine si_iconst (pc := 170) hE dX2_sum_170 (by decide) ?_
    exact si_ireturn (pc := 171) hE dX2_sum_171
  have h11 : E (bX2_sum_11 g.1 R) 11 := by
    unfold bX2_sum_11
    refine si_bipush (pc := 11) hE dX2_sum_11 (by decide) ?_
    refine si_iload_n (pc := 13) hE dX2_sum_13 rfl ?_
    refine si_imul (pc := 14) hE dX2_sum_14 ?_
    refine si_iload_n (pc := 15) hE dX2_sum_15 rfl ?_
    refine si_iadd (pc := 16) hE dX2_sum_16 ?_
    refine si_istore (pc := 17) hE dX2_sum_17 (by decide) ?_
    refine si_iload_n (pc := 19) hE dX2_sum_19 rfl ?_
    exact si_tsw (pc := 20) hE dX2_sum_20 (by decide) (td := 170) (by decide) h170 ⟨⟨56, by decide, by decide, h56⟩, ⟨⟨64, by decide, by decide, h64⟩, ⟨⟨83, by decide, by decide, h83⟩, ⟨⟨102, by decide, by decide, h102⟩, ⟨⟨117, by decide, by decide, h117⟩, trivial⟩⟩⟩⟩⟩
  have h0 : E (bX2_sum_0 g.1 R) 0 := by
    unfold bX2_sum_0
    refine si_aload_n (pc := 0) hE dX2_sum_0 rfl ?_
    refine si_iload_n (pc := 1) hE dX2_sum_1 rfl ?_
    refine si_iload_n (pc := 2) hE dX2_sum_2 rfl ?_
    refine si_mc (pc := 3) (n := 2) hE rfl dX2_sum_3 (eX2_isSum g) rfl q2081 q2083 qs102 q2084 q134 nX2_isSum (by decide) (by decide) ?_
    refine si_if_ne (pc := 6) hE dX2_sum_6 (by decide) h11 ?_
    refine si_iconst (pc := 9) hE dX2_sum_9 (by decide) ?_
    exact si_ireturn (pc := 10) hE dX2_sum_10
  exact h0
