/-! THE COMPONENT's METHODS, decompiled by program (gen/cdecomp.py) -/
set_option maxRecDepth 100000
def bX3_line_100 (κ : Nat → Option Nat) (R : Ret AH) : Cont AH :=
    o_al 0 <|
    o_call 1 (hvc [(3, pX3_next κ)]) (fun _ a σ => R (.inr a) σ) <|
    o_al 0 <|
    o_ic 61 <|
    o_call 2 (hvc [(3, pX3_sign κ)]) (fun _ a σ => R (.inr a) σ) <|
    o_al 0 <|
    o_il 1 <|
    o_call 2 (hvc [(3, pX3_value κ)]) (fun _ a σ => R (.inr a) σ) <|
    o_areturn R
def bX3_line_85 (κ : Nat → Option Nat) (R : Ret AH) : Cont AH :=
    o_al 0 <|
    o_call 1 (hvc [(3, pX3_nameHere κ)]) (fun _ a σ => R (.inr a) σ) <|
    o_is 1 <|
    o_il 1 <|
    o_ic (-1) <|
    o_icmp_ne (bX3_line_100 κ R) <|
    o_al 0 <|
    o_call 1 (hvc [(3, pX3_write κ)]) (fun _ a σ => R (.inr a) σ) <|
    o_areturn R
def bX3_line_71 (κ : Nat → Option Nat) (R : Ret AH) : Cont AH :=
    o_al 0 <|
    o_cst κ 3 <|
    o_call 2 (hvc [(3, pX3_isWord κ)]) (fun _ a σ => R (.inr a) σ) <|
    o_if_eq (bX3_line_85 κ R) <|
    o_al 0 <|
    o_call 1 (hvc [(3, pX3_test κ)]) (fun _ a σ => R (.inr a) σ) <|
    o_areturn R
def bX3_line_46 (κ : Nat → Option Nat) (R : Ret AH) : Cont AH :=
    o_al 0 <|
    o_cst κ 2 <|
    o_call 2 (hvc [(3, pX3_isWord κ)]) (fun _ a σ => R (.inr a) σ) <|
    o_if_eq (bX3_line_71 κ R) <|
    o_al 0 <|
    o_call 1 (hvc [(3, pX3_next κ)]) (fun _ a σ => R (.inr a) σ) <|
    o_new 10 5 <|
    o_dup <|
    o_al 0 <|
    o_call 1 (hvc [(3, pX3_target κ)]) (fun _ a σ => R (.inr a) σ) <|
    o_call 2 (hvi (pX11_init κ)) (fun _ a σ => R (.inr a) σ) <|
    o_areturn R
def bX3_line_25 (κ : Nat → Option Nat) (R : Ret AH) : Cont AH :=
    o_al 0 <|
    o_cst κ 4 <|
    o_call 2 (hvc [(3, pX3_isWord κ)]) (fun _ a σ => R (.inr a) σ) <|
    o_if_eq (bX3_line_46 κ R) <|
    o_al 0 <|
    o_call 1 (hvc [(3, pX3_next κ)]) (fun _ a σ => R (.inr a) σ) <|
    o_new 12 4 <|
    o_dup <|
    o_call 1 (hvi (pX10_init κ)) (fun _ a σ => R (.inr a) σ) <|
    o_areturn R
def bX3_line_0 (κ : Nat → Option Nat) (R : Ret AH) : Cont AH :=
    o_al 0 <|
    o_cst κ 1 <|
    o_call 2 (hvc [(3, pX3_isWord κ)]) (fun _ a σ => R (.inr a) σ) <|
    o_if_eq (bX3_line_25 κ R) <|
    o_al 0 <|
    o_call 1 (hvc [(3, pX3_next κ)]) (fun _ a σ => R (.inr a) σ) <|
    o_new 9 5 <|
    o_dup <|
    o_al 0 <|
    o_call 1 (hvc [(3, pX3_operand κ)]) (fun _ a σ => R (.inr a) σ) <|
    o_call 2 (hvi (pX7_init κ)) (fun _ a σ => R (.inr a) σ) <|
    o_areturn R
def pX3_line (κ : Nat → Option Nat) : PT AH := fun as σ Q => (lg_sl as).length ≤ 2 ∧ bX3_line_0 κ Q (entP 2 as) [] σ
theorem nX3_line : parN yX3_line 0 := by unfold parN; decide +kernel
set_option maxHeartbeats 4000000 in
theorem eX3_line (g : GC) : CT (wC g) yX3_line (Cond.code yX3_line cX3_line 2 (some (.object "LateAndEarly$Node"))) 9 235 (pX3_line g.2.1) := by
  refine CT.of (wC_ok g) (cc := cX3_line) (nL := 2) (ret := (some (.object "LateAndEarly$Node"))) (ht := []) (by decide +kernel) (Or.inl ⟨rfl, rfl⟩) (B := bX3_line_0 g.2.1) (fun R E X hE => ?_)
  have h100 : E (bX3_line_100 g.2.1 R) 100 := by
    unfold bX3_line_100
    refine si_aload_n (pc := 100) hE dX3_line_100 rfl ?_
    refine si_hv (pc := 101) (n := 0) hE dX3_line_101 ⟨cal_V (recvO cls2) (eX3_next g) (Or.inl ⟨rfl, rfl⟩) q390 q135 q387 q389 qs0 ⟨by decide +kernel, by decide +kernel⟩ nX3_next (by decide) (by decide), trivial⟩ (si_out hE rfl) ?_
    refine si_aload_n (pc := 104) hE dX3_line_104 rfl ?_
    refine si_bipush (pc := 105) hE dX3_line_105 (by decide) ?_
    refine si_hv (pc := 107) (n := 1) hE dX3_line_107 ⟨cal_V (recvO cls2) (eX3_sign g) (Or.inl ⟨rfl, rfl⟩) q670 q135 q667 q669 qs12 ⟨by decide +kernel, by decide +kernel⟩ nX3_sign (by decide) (by decide), trivial⟩ (si_out hE rfl) ?_
    refine si_aload_n (pc := 110) hE dX3_line_110 rfl ?_
    refine si_iload_n (pc := 111) hE dX3_line_111 rfl ?_
    refine si_hv (pc := 112) (n := 1) hE dX3_line_112 ⟨cal_V (recvO cls2) (eX3_value g) (Or.inl ⟨rfl, rfl⟩) q879 q135 q876 q878 qs21 ⟨by decide +kernel, by decide +kernel⟩ nX3_value (by decide) (by decide), trivial⟩ (si_out hE rfl) ?_
    exact si_areturn (pc := 115) hE (Or.inl ⟨_, rfl⟩) dX3_line_115
  have h85 : E (bX3_line_85 g.2.1 R) 85 := by
    unfold bX3_line_85
    refine si_aload_n (pc := 85) hE dX3_line_85 rfl ?_
    refine si_hv (pc := 86) (n := 0) hE dX3_line_86 ⟨cal_V (recvO cls2) (eX3_nameHere g) (Or.inl ⟨rfl, rfl⟩) q707 q135 q704 q706 qs15 ⟨by decide +kernel, by decide +kernel⟩ nX3_nameHere (by decide) (by decide), trivial⟩ (si_out hE rfl) ?_
    refine si_istore_n (pc := 89) hE dX3_line_89 rfl (by decide) ?_
    refine si_iload_n (pc := 90) hE dX3_line_90 rfl ?_
    refine si_iconst (pc := 91) hE dX3_line_91 (by decide) ?_
    refine si_icmp_ne (pc := 92) hE dX3_line_92 (by decide) h100 ?_
    refine si_aload_n (pc := 95) hE dX3_line_95 rfl ?_
    refine si_hv (pc := 96) (n := 0) hE dX3_line_96 ⟨cal_V (recvO cls2) (eX3_write g) (Or.inl ⟨rfl, rfl⟩) q847 q135 q844 q846 qs20 ⟨by decide +kernel, by decide +kernel⟩ nX3_write (by decide) (by decide), trivial⟩ (si_out hE rfl) ?_
    exact si_areturn (pc := 99) hE (Or.inl ⟨_, rfl⟩) dX3_line_99
  have h71 : E (bX3_line_71 g.2.1 R) 71 := by
    unfold bX3_line_71
    refine si_aload_n (pc := 71) hE dX3_line_71 rfl ?_
    refine si_ldcS (pc := 72) (k := 3) hE dX3_line_72 rfl ?_
    refine si_hv (pc := 74) (n := 1) hE dX3_line_74 ⟨cal_V (recvO cls2) (eX3_isWord g) (Or.inl ⟨rfl, rfl⟩) q679 q135 q676 q678 qs14 ⟨by decide +kernel, by decide +kernel⟩ nX3_isWord (by decide) (by decide), trivial⟩ (si_out hE rfl) ?_
    refine si_if_eq (pc := 77) hE dX3_line_77 (by decide) h85 ?_
    refine si_aload_n (pc := 80) hE dX3_line_80 rfl ?_
    refine si_hv (pc := 81) (n := 0) hE dX3_line_81 ⟨cal_V (recvO cls2) (eX3_test g) (Or.inl ⟨rfl, rfl⟩) q814 q135 q811 q813 qs19 ⟨by decide +kernel, by decide +kernel⟩ nX3_test (by decide) (by decide), trivial⟩ (si_out hE rfl) ?_
    exact si_areturn (pc := 84) hE (Or.inl ⟨_, rfl⟩) dX3_line_84
  have h46 : E (bX3_line_46 g.2.1 R) 46 := by
    unfold bX3_line_46
    refine si_aload_n (pc := 46) hE dX3_line_46 rfl ?_
    refine si_ldcS (pc := 47) (k := 2) hE dX3_line_47 rfl ?_
    refine si_hv (pc := 49) (n := 1) hE dX3_line_49 ⟨cal_V (recvO cls2) (eX3_isWord g) (Or.inl ⟨rfl, rfl⟩) q679 q135 q676 q678 qs14 ⟨by decide +kernel, by decide +kernel⟩ nX3_isWord (by decide) (by decide), trivial⟩ (si_out hE rfl) ?_
    refine si_if_eq (pc := 52) hE dX3_line_52 (by decide) h71 ?_
    refine si_aload_n (pc := 55) hE dX3_line_55 rfl ?_
    refine si_hv (pc := 56) (n := 0) hE dX3_line_56 ⟨cal_V (recvO cls2) (eX3_next g) (Or.inl ⟨rfl, rfl⟩) q390 q135 q387 q389 qs0 ⟨by decide +kernel, by decide +kernel⟩ nX3_next (by decide) (by decide), trivial⟩ (si_out hE rfl) ?_
    refine si_new (pc := 59) hE dX3_line_59 cls10 q793 q794 q161 df_10 ?_
    refine si_dup (pc := 62) hE dX3_line_62 ?_
    refine si_aload_n (pc := 63) hE dX3_line_63 rfl ?_
    refine si_hv (pc := 64) (n := 0) hE dX3_line_64 ⟨cal_V (recvO cls2) (eX3_target g) (Or.inl ⟨rfl, rfl⟩) q798 q135 q795 q797 qs18 ⟨by decide +kernel, by decide +kernel⟩ nX3_target (by decide) (by decide), trivial⟩ (si_out hE rfl) ?_
    refine si_hi (pc := 67) (n := 1) hE dX3_line_67 (cal_I (eX11_init g) q801 q161 q799 q800 rfl ⟨by decide +kernel, by decide +kernel⟩ nX11_init (by decide) (by decide)) (si_out hE rfl) ?_
    exact si_areturn (pc := 70) hE (Or.inl ⟨_, rfl⟩) dX3_line_70
  have h25 : E (bX3_line_25 g.2.1 R) 25 := by
    unfold bX3_line_25
    refine si_aload_n (pc := 25) hE dX3_line_25 rfl ?_
    refine si_ldcS (pc := 26) (k := 4) hE dX3_line_26 rfl ?_
    refine si_hv (pc := 28) (n := 1) hE dX3_line_28 ⟨cal_V (recvO cls2) (eX3_isWord g) (Or.inl ⟨rfl, rfl⟩) q679 q135 q676 q678 qs14 ⟨by decide +kernel, by decide +kernel⟩ nX3_isWord (by decide) (by decide), trivial⟩ (si_out hE rfl) ?_
    refine si_if_eq (pc := 31) hE dX3_line_31 (by decide) h46 ?_
    refine si_aload_n (pc := 34) hE dX3_line_34 rfl ?_
    refine si_hv (pc := 35) (n := 0) hE dX3_line_35 ⟨cal_V (recvO cls2) (eX3_next g) (Or.inl ⟨rfl, rfl⟩) q390 q135 q387 q389 qs0 ⟨by decide +kernel, by decide +kernel⟩ nX3_next (by decide) (by decide), trivial⟩ (si_out hE rfl) ?_
    refine si_new (pc := 38) hE dX3_line_38 cls12 q779 q780 q160 df_12 ?_
    refine si_dup (pc := 41) hE dX3_line_41 ?_
    refine si_hi (pc := 42) (n := 0) hE dX3_line_42 (cal_IN (eX10_init g) q783 q160 q781 q782 rfl ⟨by decide +kernel, by decide +kernel⟩ nX10_init (by decide) (by decide)) (si_out hE rfl) ?_
    exact si_areturn (pc := 45) hE (Or.inl ⟨_, rfl⟩) dX3_line_45
  have h0 : E (bX3_line_0 g.2.1 R) 0 := by
    unfold bX3_line_0
    refine si_aload_n (pc := 0) hE dX3_line_0 rfl ?_
    refine si_ldcS (pc := 1) (k := 1) hE dX3_line_1 rfl ?_
    refine si_hv (pc := 3) (n := 1) hE dX3_line_3 ⟨cal_V (recvO cls2) (eX3_isWord g) (Or.inl ⟨rfl, rfl⟩) q679 q135 q676 q678 qs14 ⟨by decide +kernel, by decide +kernel⟩ nX3_isWord (by decide) (by decide), trivial⟩ (si_out hE rfl) ?_
    refine si_if_eq (pc := 6) hE dX3_line_6 (by decide) h25 ?_
    refine si_aload_n (pc := 9) hE dX3_line_9 rfl ?_
    refine si_hv (pc := 10) (n := 0) hE dX3_line_10 ⟨cal_V (recvO cls2) (eX3_next g) (Or.inl ⟨rfl, rfl⟩) q390 q135 q387 q389 qs0 ⟨by decide +kernel, by decide +kernel⟩ nX3_next (by decide) (by decide), trivial⟩ (si_out hE rfl) ?_
    refine si_new (pc := 13) hE dX3_line_13 cls9 q712 q713 q157 df_9 ?_
    refine si_dup (pc := 16) hE dX3_line_16 ?_
    refine si_aload_n (pc := 17) hE dX3_line_17 rfl ?_
    refine si_hv (pc := 18) (n := 0) hE dX3_line_18 ⟨cal_V (recvO cls2) (eX3_operand g) (Or.inl ⟨rfl, rfl⟩) q717 q135 q714 q716 qs17 ⟨by decide +kernel, by decide +kernel⟩ nX3_operand (by decide) (by decide), trivial⟩ (si_out hE rfl) ?_
    refine si_hi (pc := 21) (n := 1) hE dX3_line_21 (cal_I (eX7_init g) q739 q157 q737 q738 rfl ⟨by decide +kernel, by decide +kernel⟩ nX7_init (by decide) (by decide)) (si_out hE rfl) ?_
    exact si_areturn (pc := 24) hE (Or.inl ⟨_, rfl⟩) dX3_line_24
  exact h0
def bX3_block_225 (κ : Nat → Option Nat) (R : Ret AH) : Cont AH :=
    o_return R
def bX3_block_184 (κ : Nat → Option Nat) (R : Ret AH) (J88 : Cont AH) : Cont AH :=
    o_al 0 <|
    o_gR 0 [3] <|
    o_dup <|
    o_gI 4 [4] <|
    o_ic 1 <|
    o_iadd <|
    o_pI 4 [4] <|
    o_al 0 <|
    o_call 1 (hvc [(3, pX3_line κ)]) (fun _ a σ => R (.inr a) σ) <|
    o_as 5 <|
    o_al 0 <|
    o_ic 59 <|
    o_call 2 (hvc [(3, pX3_sign κ)]) (fun _ a σ => R (.inr a) σ) <|
    o_al 2 <|
    o_al 5 <|
    o_call 2 (hvc [(19, pJ2_add κ)]) (fun _ a σ => R (.inr a) σ) <|
    o_pop <|
    o_al 5 <|
    o_inst [11, 12, 13] [7, 8, 9, 10, 14] <|
    o_is 3 <|
    (o_kill [1, 4, 5] J88)
def bX3_block_165 (κ : Nat → Option Nat) (R : Ret AH) (J88 : Cont AH) : Cont AH :=
    o_al 0 <|
    o_gR 0 [3] <|
    o_gI 4 [4] <|
    o_ic 160 <|
    o_icmp_ne (bX3_block_184 κ R J88) <|
    o_al 0 <|
    o_ic 3 <|
    o_call 2 (hvc [(3, pX3_fault κ)]) (fun _ a σ => R (.inr a) σ) <|
    o_athrow (fun _ a σ => R (.inr a) σ)
def bX3_block_152 (κ : Nat → Option Nat) (R : Ret AH) (J88 : Cont AH) : Cont AH :=
    o_is 4 <|
    o_il 4 <|
    o_if_ne (bX3_block_165 κ R J88) <|
    o_al 0 <|
    o_ic 2 <|
    o_call 2 (hvc [(3, pX3_fault κ)]) (fun _ a σ => R (.inr a) σ) <|
    o_athrow (fun _ a σ => R (.inr a) σ)
def bX3_block_147 (κ : Nat → Option Nat) (R : Ret AH) (J88 : Cont AH) : Cont AH :=
    o_ic 1 <|
    (bX3_block_152 κ R J88)
def bX3_block_151 (κ : Nat → Option Nat) (R : Ret AH) (J88 : Cont AH) : Cont AH :=
    o_ic 0 <|
    (bX3_block_152 κ R J88)
def bX3_block_88 (κ : Nat → Option Nat) (R : Ret AH) : Cont AH :=
    fixC fun J88 =>
    o_il 3 <|
    o_if_ne (bX3_block_225 κ R) <|
    o_al 0 <|
    o_cst κ 1 <|
    o_call 2 (hvc [(3, pX3_isWord κ)]) (fun _ a σ => R (.inr a) σ) <|
    o_if_ne (bX3_block_147 κ R J88) <|
    o_al 0 <|
    o_cst κ 2 <|
    o_call 2 (hvc [(3, pX3_isWord κ)]) (fun _ a σ => R (.inr a) σ) <|
    o_if_ne (bX3_block_147 κ R J88) <|
    o_al 0 <|
    o_cst κ 3 <|
    o_call 2 (hvc [(3, pX3_isWord κ)]) (fun _ a σ => R (.inr a) σ) <|
    o_if_ne (bX3_block_147 κ R J88) <|
    o_al 0 <|
    o_cst κ 4 <|
    o_call 2 (hvc [(3, pX3_isWord κ)]) (fun _ a σ => R (.inr a) σ) <|
    o_if_ne (bX3_block_147 κ R J88) <|
    o_al 0 <|
    o_call 1 (hvc [(3, pX3_nameHere κ)]) (fun _ a σ => R (.inr a) σ) <|
    o_ic (-1) <|
    o_icmp_ne (bX3_block_147 κ R J88) <|
    o_al 0 <|
    o_ic 114 <|
    o_ic 1 <|
    o_call 3 (hvc [(3, pX3_numbered κ)]) (fun _ a σ => R (.inr a) σ) <|
    o_ic (-1) <|
    o_icmp_eq (bX3_block_151 κ R J88) <|
    (bX3_block_147 κ R J88)
def bX3_block_41 (κ : Nat → Option Nat) (R : Ret AH) : Cont AH :=
    o_al 0 <|
    o_gR 7 [3] <|
    o_al 0 <|
    o_gI 2 [3] <|
    o_call 1 (pJ13_valueOf κ) (fun _ a σ => R (.inr a) σ) <|
    o_call 2 (hvc [(19, pJ2_add κ)]) (fun _ a σ => R (.inr a) σ) <|
    o_pop <|
    o_al 0 <|
    o_call 1 (hvc [(3, pX3_next κ)]) (fun _ a σ => R (.inr a) σ) <|
    o_al 0 <|
    o_ic 58 <|
    o_call 2 (hvc [(3, pX3_sign κ)]) (fun _ a σ => R (.inr a) σ) <|
    o_new 18 3 <|
    o_dup <|
    o_call 1 (hvi (pJ2_init κ)) (fun _ a σ => R (.inr a) σ) <|
    o_as 2 <|
    o_al 0 <|
    o_gR 0 [3] <|
    o_gR 0 [4] <|
    o_al 2 <|
    o_call 2 (hvc [(19, pJ2_add κ)]) (fun _ a σ => R (.inr a) σ) <|
    o_pop <|
    o_ic 0 <|
    o_is 3 <|
    (o_kill [1, 4, 5] (bX3_block_88 κ R))
def bX3_block_23 (κ : Nat → Option Nat) (R : Ret AH) : Cont AH :=
    o_il 1 <|
    o_al 0 <|
    o_ic 98 <|
    o_ic 39 <|
    o_call 3 (hvc [(3, pX3_numbered κ)]) (fun _ a σ => R (.inr a) σ) <|
    o_icmp_eq (bX3_block_41 κ R) <|
    o_al 0 <|
    o_ic 2 <|
    o_call 2 (hvc [(3, pX3_fault κ)]) (fun _ a σ => R (.inr a) σ) <|
    o_athrow (fun _ a σ => R (.inr a) σ)
def bX3_block_0 (κ : Nat → Option Nat) (R : Ret AH) : Cont AH :=
    o_al 0 <|
    o_gR 0 [3] <|
    o_gR 0 [4] <|
    o_call 1 (hvc [(19, pJ2_size κ)]) (fun _ a σ => R (.inr a) σ) <|
    o_is 1 <|
    o_il 1 <|
    o_ic 40 <|
    o_icmp_ne (bX3_block_23 κ R) <|
    o_al 0 <|
    o_ic 3 <|
    o_call 2 (hvc [(3, pX3_fault κ)]) (fun _ a σ => R (.inr a) σ) <|
    o_athrow (fun _ a σ => R (.inr a) σ)
def pX3_block (κ : Nat → Option Nat) : PT AH := fun as σ Q => (lg_sl as).length ≤ 6 ∧ bX3_block_0 κ Q (entP 6 as) [] σ
theorem nX3_block : parN yX3_block 0 := by unfold parN; decide +kernel
set_option maxHeartbeats 4000000 in
theorem eX3_block (g : GC) : CT (wC g) yX3_block (Cond.code yX3_block cX3_block 6 none) 10 256 (pX3_block g.2.1) := by
  refine CT.of (wC_ok g) (cc := cX3_block) (nL := 6) (ret := none) (ht := []) (by decide +kernel) (Or.inl ⟨rfl, rfl⟩) (B := bX3_block_0 g.2.1) (fun R E X hE => ?_)
  have h225 : E (bX3_block_225 g.2.1 R) 225 := by
    unfold bX3_block_225
    exact si_return (pc := 225) hE dX3_block_225
  have h184 : ∀ (J88 : Cont AH) (hJ88 : E J88 88), E (bX3_block_184 g.2.1 R J88) 184 := by
    intro J88 hJ88
    unfold bX3_block_184
    refine si_aload_n (pc := 184) hE dX3_block_184 rfl ?_
    refine si_gR (pc := 185) hE dX3_block_185 (Or.inl q355) zfo_22 ?_
    refine si_dup (pc := 188) hE dX3_block_188 ?_
    refine si_gI (pc := 189) hE dX3_block_189 (Or.inr ⟨_, q305⟩) zfo_54 ?_
    refine si_iconst (pc := 192) hE dX3_block_192 (by decide) ?_
    refine si_iadd (pc := 193) hE dX3_block_193 ?_
    refine si_pI (pc := 194) hE dX3_block_194 (Or.inr ⟨_, q305⟩) zfo_54 ?_
    refine si_aload_n (pc := 197) hE dX3_block_197 rfl ?_
    refine si_hv (pc := 198) (n := 0) hE dX3_block_198 ⟨cal_V (recvO cls2) (eX3_line g) (Or.inl ⟨rfl, rfl⟩) q711 q135 q708 q710 qs16 ⟨by decide +kernel, by decide +kernel⟩ nX3_line (by decide) (by decide), trivial⟩ (si_out hE rfl) ?_
    refine si_astore (pc := 201) hE dX3_block_201 (by decide) ?_
    refine si_aload_n (pc := 203) hE dX3_block_203 rfl ?_
    refine si_bipush (pc := 204) hE dX3_block_204 (by decide) ?_
    refine si_hv (pc := 206) (n := 1) hE dX3_block_206 ⟨cal_V (recvO cls2) (eX3_sign g) (Or.inl ⟨rfl, rfl⟩) q670 q135 q667 q669 qs12 ⟨by decide +kernel, by decide +kernel⟩ nX3_sign (by decide) (by decide), trivial⟩ (si_out hE rfl) ?_
    refine si_aload_n (pc := 209) hE dX3_block_209 rfl ?_
    refine si_aload (pc := 210) hE dX3_block_210 ?_
    refine si_hv (pc := 212) (n := 1) hE dX3_block_212 ⟨cal_V (recvO cls18) (eJ2_add g) (Or.inl ⟨rfl, rfl⟩) q606 q139 q603 q604 q605 ⟨by decide +kernel, by decide +kernel⟩ nJ2_add (by decide) (by decide), trivial⟩ (si_out hE rfl) ?_
    refine si_pop (pc := 215) hE dX3_block_215 ?_
    refine si_aload (pc := 216) hE dX3_block_216 ?_
    refine si_inst (pc := 218) hE dX3_block_218 q972 zco_0 zno_0 ?_
    refine si_istore_n (pc := 221) hE dX3_block_221 rfl (by decide) ?_
    exact si_goto (pc := 222) hE dX3_block_222 (by decide) (si_kill hE hJ88)
  have h165 : ∀ (J88 : Cont AH) (hJ88 : E J88 88), E (bX3_block_165 g.2.1 R J88) 165 := by
    intro J88 hJ88
    unfold bX3_block_165
    refine si_aload_n (pc := 165) hE dX3_block_165 rfl ?_
    refine si_gR (pc := 166) hE dX3_block_166 (Or.inl q355) zfo_22 ?_
    refine si_gI (pc := 169) hE dX3_block_169 (Or.inr ⟨_, q305⟩) zfo_54 ?_
    refine si_sipush (pc := 172) hE dX3_block_172 (by decide) ?_
    refine si_icmp_ne (pc := 175) hE dX3_block_175 (by decide) (h184 J88 hJ88) ?_
    refine si_aload_n (pc := 178) hE dX3_block_178 rfl ?_
    refine si_iconst (pc := 179) hE dX3_block_179 (by decide) ?_
    refine si_hv (pc := 180) (n := 1) hE dX3_block_180 ⟨cal_V (recvO cls2) (eX3_fault g) (Or.inl ⟨rfl, rfl⟩) q505 q135 q502 q504 qs6 ⟨by decide +kernel, by decide +kernel⟩ nX3_fault (by decide) (by decide), trivial⟩ (si_out hE rfl) ?_
    exact si_athrow (pc := 183) hE dX3_block_183 (si_out hE rfl)
  have h152 : ∀ (J88 : Cont AH) (hJ88 : E J88 88), E (bX3_block_152 g.2.1 R J88) 152 := by
    intro J88 hJ88
    unfold bX3_block_152
    refine si_istore (pc := 152) hE dX3_block_152 (by decide) ?_
    refine si_iload (pc := 154) hE dX3_block_154 ?_
    refine si_if_ne (pc := 156) hE dX3_block_156 (by decide) (h165 J88 hJ88) ?_
    refine si_aload_n (pc := 159) hE dX3_block_159 rfl ?_
    refine si_iconst (pc := 160) hE dX3_block_160 (by decide) ?_
    refine si_hv (pc := 161) (n := 1) hE dX3_block_161 ⟨cal_V (recvO cls2) (eX3_fault g) (Or.inl ⟨rfl, rfl⟩) q505 q135 q502 q504 qs6 ⟨by decide +kernel, by decide +kernel⟩ nX3_fault (by decide) (by decide), trivial⟩ (si_out hE rfl) ?_
    exact si_athrow (pc := 164) hE dX3_block_164 (si_out hE rfl)
  have h147 : ∀ (J88 : Cont AH) (hJ88 : E J88 88), E (bX3_block_147 g.2.1 R J88) 147 := by
    intro J88 hJ88
    unfold bX3_block_147
    refine si_iconst (pc := 147) hE dX3_block_147 (by decide) ?_
    exact si_goto (pc := 148) hE dX3_block_148 (by decide) (h152 J88 hJ88)
  have h151 : ∀ (J88 : Cont AH) (hJ88 : E J88 88), E (bX3_block_151 g.2.1 R J88) 151 := by
    intro J88 hJ88
    unfold bX3_block_151
    refine si_iconst (pc := 151) hE dX3_block_151 (by decide) ?_
    exact (h152 J88 hJ88)
  have h88 : E (bX3_block_88 g.2.1 R) 88 := by
    unfold bX3_block_88
    refine si_fix hE (fun J88 hJ88 => ?_)
    refine si_iload_n (pc := 88) hE dX3_block_88 rfl ?_
    refine si_if_ne (pc := 89) hE dX3_block_89 (by decide) h225 ?_
    refine si_aload_n (pc := 92) hE dX3_block_92 rfl ?_
    refine si_ldcS (pc := 93) (k := 1) hE dX3_block_93 rfl ?_
    refine si_hv (pc := 95) (n := 1) hE dX3_block_95 ⟨cal_V (recvO cls2) (eX3_isWord g) (Or.inl ⟨rfl, rfl⟩) q679 q135 q676 q678 qs14 ⟨by decide +kernel, by decide +kernel⟩ nX3_isWord (by decide) (by decide), trivial⟩ (si_out hE rfl) ?_
    refine si_if_ne (pc := 98) hE dX3_block_98 (by decide) (h147 J88 hJ88) ?_
    refine si_aload_n (pc := 101) hE dX3_block_101 rfl ?_
    refine si_ldcS (pc := 102) (k := 2) hE dX3_block_102 rfl ?_
    refine si_hv (pc := 104) (n := 1) hE dX3_block_104 ⟨cal_V (recvO cls2) (eX3_isWord g) (Or.inl ⟨rfl, rfl⟩) q679 q135 q676 q678 qs14 ⟨by decide +kernel, by decide +kernel⟩ nX3_isWord (by decide) (by decide), trivial⟩ (si_out hE rfl) ?_
    refine si_if_ne (pc := 107) hE dX3_block_107 (by decide) (h147 J88 hJ88) ?_
    refine si_aload_n (pc := 110) hE dX3_block_110 rfl ?_
    refine si_ldcS (pc := 111) (k := 3) hE dX3_block_111 rfl ?_
    refine si_hv (pc := 113) (n := 1) hE dX3_block_113 ⟨cal_V (recvO cls2) (eX3_isWord g) (Or.inl ⟨rfl, rfl⟩) q679 q135 q676 q678 qs14 ⟨by decide +kernel, by decide +kernel⟩ nX3_isWord (by decide) (by decide), trivial⟩ (si_out hE rfl) ?_
    refine si_if_ne (pc := 116) hE dX3_block_116 (by decide) (h147 J88 hJ88) ?_
    refine si_aload_n (pc := 119) hE dX3_block_119 rfl ?_
    refine si_ldcS (pc := 120) (k := 4) hE dX3_block_120 rfl ?_
    refine si_hv (pc := 122) (n := 1) hE dX3_block_122 ⟨cal_V (recvO cls2) (eX3_isWord g) (Or.inl ⟨rfl, rfl⟩) q679 q135 q676 q678 qs14 ⟨by decide +kernel, by decide +kernel⟩ nX3_isWord (by decide) (by decide), trivial⟩ (si_out hE rfl) ?_
    refine si_if_ne (pc := 125) hE dX3_block_125 (by decide) (h147 J88 hJ88) ?_
    refine si_aload_n (pc := 128) hE dX3_block_128 rfl ?_
    refine si_hv (pc := 129) (n := 0) hE dX3_block_129 ⟨cal_V (recvO cls2) (eX3_nameHere g) (Or.inl ⟨rfl, rfl⟩) q707 q135 q704 q706 qs15 ⟨by decide +kernel, by decide +kernel⟩ nX3_nameHere (by decide) (by decide), trivial⟩ (si_out hE rfl) ?_
    refine si_iconst (pc := 132) hE dX3_block_132 (by decide) ?_
    refine si_icmp_ne (pc := 133) hE dX3_block_133 (by decide) (h147 J88 hJ88) ?_
    refine si_aload_n (pc := 136) hE dX3_block_136 rfl ?_
    refine si_bipush (pc := 137) hE dX3_block_137 (by decide) ?_
    refine si_iconst (pc := 139) hE dX3_block_139 (by decide) ?_
    refine si_hv (pc := 140) (n := 2) hE dX3_block_140 ⟨cal_V (recvO cls2) (eX3_numbered g) (Or.inl ⟨rfl, rfl⟩) q582 q135 q579 q581 qs8 ⟨by decide +kernel, by decide +kernel⟩ nX3_numbered (by decide) (by decide), trivial⟩ (si_out hE rfl) ?_
    refine si_iconst (pc := 143) hE dX3_block_143 (by decide) ?_
    refine si_icmp_eq (pc := 144) hE dX3_block_144 (by decide) (h151 J88 hJ88) ?_
    exact (h147 J88 hJ88)
  have h41 : E (bX3_block_41 g.2.1 R) 41 := by
    unfold bX3_block_41
    refine si_aload_n (pc := 41) hE dX3_block_41 rfl ?_
    refine si_gR (pc := 42) hE dX3_block_42 (Or.inl q362) zfo_25 ?_
    refine si_aload_n (pc := 45) hE dX3_block_45 rfl ?_
    refine si_gI (pc := 46) hE dX3_block_46 (Or.inl q357) zfo_29 ?_
    refine si_hs (pc := 49) (n := 1) hE dX3_block_49 (cal_S (eJ13_valueOf g) (Or.inl ⟨rfl, rfl⟩) q585 q151 q583 q584 ⟨by decide +kernel, by decide +kernel⟩ nJ13_valueOf (by decide) (by decide)) (si_out hE rfl) ?_
    refine si_hv (pc := 52) (n := 1) hE dX3_block_52 ⟨cal_V (recvO cls18) (eJ2_add g) (Or.inl ⟨rfl, rfl⟩) q606 q139 q603 q604 q605 ⟨by decide +kernel, by decide +kernel⟩ nJ2_add (by decide) (by decide), trivial⟩ (si_out hE rfl) ?_
    refine si_pop (pc := 55) hE dX3_block_55 ?_
    refine si_aload_n (pc := 56) hE dX3_block_56 rfl ?_
    refine si_hv (pc := 57) (n := 0) hE dX3_block_57 ⟨cal_V (recvO cls2) (eX3_next g) (Or.inl ⟨rfl, rfl⟩) q390 q135 q387 q389 qs0 ⟨by decide +kernel, by decide +kernel⟩ nX3_next (by decide) (by decide), trivial⟩ (si_out hE rfl) ?_
    refine si_aload_n (pc := 60) hE dX3_block_60 rfl ?_
    refine si_bipush (pc := 61) hE dX3_block_61 (by decide) ?_
    refine si_hv (pc := 63) (n := 1) hE dX3_block_63 ⟨cal_V (recvO cls2) (eX3_sign g) (Or.inl ⟨rfl, rfl⟩) q670 q135 q667 q669 qs12 ⟨by decide +kernel, by decide +kernel⟩ nX3_sign (by decide) (by decide), trivial⟩ (si_out hE rfl) ?_
    refine si_new (pc := 66) hE dX3_block_66 cls18 q353 q264 q139 df_18 ?_
    refine si_dup (pc := 69) hE dX3_block_69 ?_
    refine si_hi (pc := 70) (n := 0) hE dX3_block_70 (cal_I (eJ2_init g) q267 q139 q354 q266 rfl ⟨by decide +kernel, by decide +kernel⟩ nJ2_init (by decide) (by decide)) (si_out hE rfl) ?_
    refine si_astore_n (pc := 73) hE dX3_block_73 rfl (by decide) ?_
    refine si_aload_n (pc := 74) hE dX3_block_74 rfl ?_
    refine si_gR (pc := 75) hE dX3_block_75 (Or.inl q355) zfo_22 ?_
    refine si_gR (pc := 78) hE dX3_block_78 (Or.inr ⟨_, q292⟩) zfo_17 ?_
    refine si_aload_n (pc := 81) hE dX3_block_81 rfl ?_
    refine si_hv (pc := 82) (n := 1) hE dX3_block_82 ⟨cal_V (recvO cls18) (eJ2_add g) (Or.inl ⟨rfl, rfl⟩) q606 q139 q603 q604 q605 ⟨by decide +kernel, by decide +kernel⟩ nJ2_add (by decide) (by decide), trivial⟩ (si_out hE rfl) ?_
    refine si_pop (pc := 85) hE dX3_block_85 ?_
    refine si_iconst (pc := 86) hE dX3_block_86 (by decide) ?_
    refine si_istore_n (pc := 87) hE dX3_block_87 rfl (by decide) ?_
    exact (si_kill hE h88)
  have h23 : E (bX3_block_23 g.2.1 R) 23 := by
    unfold bX3_block_23
    refine si_iload_n (pc := 23) hE dX3_block_23 rfl ?_
    refine si_aload_n (pc := 24) hE dX3_block_24 rfl ?_
    refine si_bipush (pc := 25) hE dX3_block_25 (by decide) ?_
    refine si_bipush (pc := 27) hE dX3_block_27 (by decide) ?_
    refine si_hv (pc := 29) (n := 2) hE dX3_block_29 ⟨cal_V (recvO cls2) (eX3_numbered g) (Or.inl ⟨rfl, rfl⟩) q582 q135 q579 q581 qs8 ⟨by decide +kernel, by decide +kernel⟩ nX3_numbered (by decide) (by decide), trivial⟩ (si_out hE rfl) ?_
    refine si_icmp_eq (pc := 32) hE dX3_block_32 (by decide) h41 ?_
    refine si_aload_n (pc := 35) hE dX3_block_35 rfl ?_
    refine si_iconst (pc := 36) hE dX3_block_36 (by decide) ?_
    refine si_hv (pc := 37) (n := 1) hE dX3_block_37 ⟨cal_V (recvO cls2) (eX3_fault g) (Or.inl ⟨rfl, rfl⟩) q505 q135 q502 q504 qs6 ⟨by decide +kernel, by decide +kernel⟩ nX3_fault (by decide) (by decide), trivial⟩ (si_out hE rfl) ?_
    exact si_athrow (pc := 40) hE dX3_block_40 (si_out hE rfl)
  have h0 : E (bX3_block_0 g.2.1 R) 0 := by
    unfold bX3_block_0
    refine si_aload_n (pc := 0) hE dX3_block_0 rfl ?_
    refine si_gR (pc := 1) hE dX3_block_1 (Or.inl q355) zfo_22 ?_
    refine si_gR (pc := 4) hE dX3_block_4 (Or.inr ⟨_, q292⟩) zfo_17 ?_
    refine si_hv (pc := 7) (n := 0) hE dX3_block_7 ⟨cal_V (recvO cls18) (eJ2_size g) (Or.inl ⟨rfl, rfl⟩) q501 q139 q498 q499 q500 ⟨by decide +kernel, by decide +kernel⟩ nJ2_size (by decide) (by decide), trivial⟩ (si_out hE rfl) ?_
    refine si_istore_n (pc := 10) hE dX3_block_10 rfl (by decide) ?_
    refine si_iload_n (pc := 11) hE dX3_block_11 rfl ?_
    refine si_bipush (pc := 12) hE dX3_block_12 (by decide) ?_
    refine si_icmp_ne (pc := 14) hE dX3_block_14 (by decide) h23 ?_
    refine si_aload_n (pc := 17) hE dX3_block_17 rfl ?_
    refine si_iconst (pc := 18) hE dX3_block_18 (by decide) ?_
    refine si_hv (pc := 19) (n := 1) hE dX3_block_19 ⟨cal_V (recvO cls2) (eX3_fault g) (Or.inl ⟨rfl, rfl⟩) q505 q135 q502 q504 qs6 ⟨by decide +kernel, by decide +kernel⟩ nX3_fault (by decide) (by decide), trivial⟩ (si_out hE rfl) ?_
    exact si_athrow (pc := 22) hE dX3_block_22 (si_out hE rfl)
  exact h0
def bX4_end_0 (κ : Nat → Option Nat) (R : Ret AH) : Cont AH :=
    o_al 0 <|
    o_gR 0 [4] <|
    o_il 1 <|
    o_call 2 (hvc [(19, pJ2_get κ)]) (fun _ a σ => R (.inr a) σ) <|
    o_cast [19] <|
    o_al 0 <|
    o_gR 0 [4] <|
    o_il 1 <|
    o_call 2 (hvc [(19, pJ2_get κ)]) (fun _ a σ => R (.inr a) σ) <|
    o_cast [19] <|
    o_call 1 (hvc [(19, pJ2_size κ)]) (fun _ a σ => R (.inr a) σ) <|
    o_ic 1 <|
    o_isub <|
    o_call 2 (hvc [(19, pJ2_get κ)]) (fun _ a σ => R (.inr a) σ) <|
    o_cast [11, 12, 13] <|
    o_areturn R
def pX4_end (κ : Nat → Option Nat) : PT AH := fun as σ Q => (lg_sl as).length ≤ 2 ∧ bX4_end_0 κ Q (entP 2 as) [] σ
theorem nX4_end : parN yX4_end 1 := by unfold parN; decide +kernel
set_option maxHeartbeats 4000000 in
theorem eX4_end (g : GC) : CT (wC g) yX4_end (Cond.code yX4_end cX4_end 2 (some (.object "LateAndEarly$End"))) 3 64 (pX4_end g.2.1) := by
  refine CT.of (wC_ok g) (cc := cX4_end) (nL := 2) (ret := (some (.object "LateAndEarly$End"))) (ht := []) (by decide +kernel) (Or.inl ⟨rfl, rfl⟩) (B := bX4_end_0 g.2.1) (fun R E X hE => ?_)
  have h0 : E (bX4_end_0 g.2.1 R) 0 := by
    unfold bX4_end_0
    refine si_aload_n (pc := 0) hE dX4_end_0 rfl ?_
    refine si_gR (pc := 1) hE dX4_end_1 (Or.inl q289) zfo_17 ?_
    refine si_iload_n (pc := 4) hE dX4_end_4 rfl ?_
    refine si_hv (pc := 5) (n := 1) hE dX4_end_5 ⟨cal_V (recvO cls18) (eJ2_get g) (Or.inl ⟨rfl, rfl⟩) q980 q139 q998 q978 q979 ⟨by decide +kernel, by decide +kernel⟩ nJ2_get (by decide) (by decide), trivial⟩ (si_out hE rfl) ?_
    refine si_cast (pc := 8) hE dX4_end_8 q263 zco_1 ?_
    refine si_aload_n (pc := 11) hE dX4_end_11 rfl ?_
    refine si_gR (pc := 12) hE dX4_end_12 (Or.inl q289) zfo_17 ?_
    refine si_iload_n (pc := 15) hE dX4_end_15 rfl ?_
    refine si_hv (pc := 16) (n := 1) hE dX4_end_16 ⟨cal_V (recvO cls18) (eJ2_get g) (Or.inl ⟨rfl, rfl⟩) q980 q139 q998 q978 q979 ⟨by decide +kernel, by decide +kernel⟩ nJ2_get (by decide) (by decide), trivial⟩ (si_out hE rfl) ?_
    refine si_cast (pc := 19) hE dX4_end_19 q263 zco_1 ?_
    refine si_hv (pc := 22) (n := 0) hE dX4_end_22 ⟨cal_V (recvO cls18) (eJ2_size g) (Or.inl ⟨rfl, rfl⟩) q501 q139 q999 q499 q500 ⟨by decide +kernel, by decide +kernel⟩ nJ2_size (by decide) (by decide), trivial⟩ (si_out hE rfl) ?_
    refine si_iconst (pc := 25) hE dX4_end_25 (by decide) ?_
    refine si_isub (pc := 26) hE dX4_end_26 ?_
    refine si_hv (pc := 27) (n := 1) hE dX4_end_27 ⟨cal_V (recvO cls18) (eJ2_get g) (Or.inl ⟨rfl, rfl⟩) q980 q139 q998 q978 q979 ⟨by decide +kernel, by decide +kernel⟩ nJ2_get (by decide) (by decide), trivial⟩ (si_out hE rfl) ?_
    refine si_cast (pc := 30) hE dX4_end_30 q1000 zco_0 ?_
    exact si_areturn (pc := 33) hE (Or.inl ⟨_, rfl⟩) dX4_end_33
  exact h0
def bX11_ways_0 (κ : Nat → Option Nat) (R : Ret AH) : Cont AH :=
    o_ic 1 <|
    o_ireturn R
def pX11_ways (κ : Nat → Option Nat) : PT AH := fun as σ Q => (lg_sl as).length ≤ 1 ∧ bX11_ways_0 κ Q (entP 1 as) [] σ
theorem nX11_ways : parN yX11_ways 0 := by unfold parN; decide +kernel
set_option maxHeartbeats 4000000 in
theorem eX11_ways (g : GC) : CT (wC g) yX11_ways (Cond.code yX11_ways cX11_ways 1 (some .int)) 0 0 (pX11_ways g.2.1) := by
  refine CT.of (wC_ok g) (cc := cX11_ways) (nL := 1) (ret := (some .int)) (ht := []) (by decide +kernel) (Or.inl ⟨rfl, rfl⟩) (B := bX11_ways_0 g.2.1) (fun R E X hE => ?_)
  have h0 : E (bX11_ways_0 g.2.1 R) 0 := by
    unfold bX11_ways_0
    refine si_iconst (pc := 0) hE dX11_ways_0 (by decide) ?_
    exact si_ireturn (pc := 1) hE dX11_ways_1
  exact h0
def bX12_ways_0 (κ : Nat → Option Nat) (R : Ret AH) : Cont AH :=
    o_ic 2 <|
    o_ireturn R
def pX12_ways (κ : Nat → Option Nat) : PT AH := fun as σ Q => (lg_sl as).length ≤ 1 ∧ bX12_ways_0 κ Q (entP 1 as) [] σ
theorem nX12_ways : parN yX12_ways 0 := by unfold parN; decide +kernel
set_option maxHeartbeats 4000000 in
theorem eX12_ways (g : GC) : CT (wC g) yX12_ways (Cond.code yX12_ways cX12_ways 1 (some .int)) 0 0 (pX12_ways g.2.1) := by
  refine CT.of (wC_ok g) (cc := cX12_ways) (nL := 1) (ret := (some .int)) (ht := []) (by decide +kernel) (Or.inl ⟨rfl, rfl⟩) (B := bX12_ways_0 g.2.1) (fun R E X hE => ?_)
  have h0 : E (bX12_ways_0 g.2.1 R) 0 := by
    unfold bX12_ways_0
    refine si_iconst (pc := 0) hE dX12_ways_0 (by decide) ?_
    exact si_ireturn (pc := 1) hE dX12_ways_1
  exact h0
def bX10_ways_0 (κ : Nat → Option Nat) (R : Ret AH) : Cont AH :=
    o_ic 0 <|
    o_ireturn R
def pX10_ways (κ : Nat → Option Nat) : PT AH := fun as σ Q => (lg_sl as).length ≤ 1 ∧ bX10_ways_0 κ Q (entP 1 as) [] σ
theorem nX10_ways : parN yX10_ways 0 := by unfold parN; decide +kernel
set_option maxHeartbeats 4000000 in
theorem eX10_ways (g : GC) : CT (wC g) yX10_ways (Cond.code yX10_ways cX10_ways 1 (some .int)) 0 0 (pX10_ways g.2.1) := by
  refine CT.of (wC_ok g) (cc := cX10_ways) (nL := 1) (ret := (some .int)) (ht := []) (by decide +kernel) (Or.inl ⟨rfl, rfl⟩) (B := bX10_ways_0 g.2.1) (fun R E X hE => ?_)
  have h0 : E (bX10_ways_0 g.2.1 R) 0 := by
    unfold bX10_ways_0
    refine si_iconst (pc := 0) hE dX10_ways_0 (by decide) ?_
    exact si_ireturn (pc := 1) hE dX10_ways_1
  exact h0
def bX11_way_0 (κ : Nat → Option Nat) (R : Ret AH) : Cont AH :=
    o_al 0 <|
    o_gI 4 [11] <|
    o_ireturn R
def pX11_way (κ : Nat → Option Nat) : PT AH := fun as σ Q => (lg_sl as).length ≤ 2 ∧ bX11_way_0 κ Q (entP 2 as) [] σ
theorem nX11_way : parN yX11_way 1 := by unfold parN; decide +kernel
set_option maxHeartbeats 4000000 in
theorem eX11_way (g : GC) : CT (wC g) yX11_way (Cond.code yX11_way cX11_way 2 (some .int)) 0 0 (pX11_way g.2.1) := by
  refine CT.of (wC_ok g) (cc := cX11_way) (nL := 2) (ret := (some .int)) (ht := []) (by decide +kernel) (Or.inl ⟨rfl, rfl⟩) (B := bX11_way_0 g.2.1) (fun R E X hE => ?_)
  have h0 : E (bX11_way_0 g.2.1 R) 0 := by
    unfold bX11_way_0
    refine si_aload_n (pc := 0) hE dX11_way_0 rfl ?_
    refine si_gI (pc := 1) hE dX11_way_1 (Or.inl q803) zfo_37 ?_
    exact si_ireturn (pc := 4) hE dX11_way_4
  exact h0
def bX12_way_15 (κ : Nat → Option Nat) (R : Ret AH) : Cont AH :=
    o_ireturn R
def bX12_way_11 (κ : Nat → Option Nat) (R : Ret AH) : Cont AH :=
    o_al 0 <|
    o_gI 7 [12] <|
    (bX12_way_15 κ R)
def bX12_way_0 (κ : Nat → Option Nat) (R : Ret AH) : Cont AH :=
    o_il 1 <|
    o_if_ne (bX12_way_11 κ R) <|
    o_al 0 <|
    o_gI 6 [12] <|
    (bX12_way_15 κ R)
def pX12_way (κ : Nat → Option Nat) : PT AH := fun as σ Q => (lg_sl as).length ≤ 2 ∧ bX12_way_0 κ Q (entP 2 as) [] σ
theorem nX12_way : parN yX12_way 1 := by unfold parN; decide +kernel
set_option maxHeartbeats 4000000 in
theorem eX12_way (g : GC) : CT (wC g) yX12_way (Cond.code yX12_way cX12_way 2 (some .int)) 0 0 (pX12_way g.2.1) := by
  refine CT.of (wC_ok g) (cc := cX12_way) (nL := 2) (ret := (some .int)) (ht := []) (by decide +kernel) (Or.inl ⟨rfl, rfl⟩) (B := bX12_way_0 g.2.1) (fun R E X hE => ?_)
  have h15 : E (bX12_way_15 g.2.1 R) 15 := by
    unfold bX12_way_15
    exact si_ireturn (pc := 15) hE dX12_way_15
  have h11 : E (bX12_way_11 g.2.1 R) 11 := by
    unfold bX12_way_11
    refine si_aload_n (pc := 11) hE dX12_way_11 rfl ?_
    refine si_gI (pc := 12) hE dX12_way_12 (Or.inl q830) zfo_41 ?_
    exact h15
  have h0 : E (bX12_way_0 g.2.1 R) 0 := by
    unfold bX12_way_0
    refine si_iload_n (pc := 0) hE dX12_way_0 rfl ?_
    refine si_if_ne (pc := 1) hE dX12_way_1 (by decide) h11 ?_
    refine si_aload_n (pc := 4) hE dX12_way_4 rfl ?_
    refine si_gI (pc := 5) hE dX12_way_5 (Or.inl q829) zfo_40 ?_
    exact si_goto (pc := 8) hE dX12_way_8 (by decide) h15
  exact h0
def bX10_way_0 (κ : Nat → Option Nat) (R : Ret AH) : Cont AH :=
    o_ic (-1) <|
    o_ireturn R
def pX10_way (κ : Nat → Option Nat) : PT AH := fun as σ Q => (lg_sl as).length ≤ 2 ∧ bX10_way_0 κ Q (entP 2 as) [] σ
theorem nX10_way : parN yX10_way 1 := by unfold parN; decide +kernel
set_option maxHeartbeats 4000000 in
theorem eX10_way (g : GC) : CT (wC g) yX10_way (Cond.code yX10_way cX10_way 2 (some .int)) 0 0 (pX10_way g.2.1) := by
  refine CT.of (wC_ok g) (cc := cX10_way) (nL := 2) (ret := (some .int)) (ht := []) (by decide +kernel) (Or.inl ⟨rfl, rfl⟩) (B := bX10_way_0 g.2.1) (fun R E X hE => ?_)
  have h0 : E (bX10_way_0 g.2.1 R) 0 := by
    unfold bX10_way_0
    refine si_iconst (pc := 0) hE dX10_way_0 (by decide) ?_
    exact si_ireturn (pc := 1) hE dX10_way_1
  exact h0
def bX3_check_323 (κ : Nat → Option Nat) (R : Ret AH) : Cont AH :=
    o_return R
def bX3_check_317 (κ : Nat → Option Nat) (R : Ret AH) (J273 : Cont AH) : Cont AH :=
    o_iinc 3 1 <|
    (o_kill [1, 4, 5, 6] J273)
def bX3_check_273 (κ : Nat → Option Nat) (R : Ret AH) : Cont AH :=
    fixC fun J273 =>
    o_il 3 <|
    o_al 0 <|
    o_gR 0 [3] <|
    o_gR 0 [4] <|
    o_call 1 (hvc [(19, pJ2_size κ)]) (fun _ a σ => R (.inr a) σ) <|
    o_icmp_ge (bX3_check_323 κ R) <|
    o_al 2 <|
    o_il 3 <|
    o_aI 103 <|
    o_if_ne (bX3_check_317 κ R J273) <|
    o_new 4 8 <|
    o_dup <|
    o_ic 6 <|
    o_al 0 <|
    o_gR 7 [3] <|
    o_il 3 <|
    o_call 2 (hvc [(19, pJ2_get κ)]) (fun _ a σ => R (.inr a) σ) <|
    o_castI <|
    o_call 1 (hvc [(20, pJ13_intValue κ), (60, pJ13_intValue κ)]) (fun _ a σ => R (.inr a) σ) <|
    o_call 3 (hvi (pX5_init κ)) (fun _ a σ => R (.inr a) σ) <|
    o_athrow (fun _ a σ => R (.inr a) σ)
def bX3_check_271 (κ : Nat → Option Nat) (R : Ret AH) : Cont AH :=
    o_ic 0 <|
    o_is 3 <|
    (o_kill [1, 4, 5, 6] (bX3_check_273 κ R))
def bX3_check_265 (κ : Nat → Option Nat) (R : Ret AH) (J222 : Cont AH) : Cont AH :=
    o_iinc 3 1 <|
    (o_kill [4, 5, 6] J222)
def bX3_check_222 (κ : Nat → Option Nat) (R : Ret AH) : Cont AH :=
    fixC fun J222 =>
    o_il 3 <|
    o_al 0 <|
    o_gR 0 [3] <|
    o_gR 0 [4] <|
    o_call 1 (hvc [(19, pJ2_size κ)]) (fun _ a σ => R (.inr a) σ) <|
    o_icmp_ge (bX3_check_271 κ R) <|
    o_al 1 <|
    o_il 3 <|
    o_aI 103 <|
    o_if_ne (bX3_check_265 κ R J222) <|
    o_new 4 8 <|
    o_dup <|
    o_ic 5 <|
    o_al 0 <|
    o_gR 7 [3] <|
    o_il 3 <|
    o_call 2 (hvc [(19, pJ2_get κ)]) (fun _ a σ => R (.inr a) σ) <|
    o_castI <|
    o_call 1 (hvc [(20, pJ13_intValue κ), (60, pJ13_intValue κ)]) (fun _ a σ => R (.inr a) σ) <|
    o_call 3 (hvi (pX5_init κ)) (fun _ a σ => R (.inr a) σ) <|
    o_athrow (fun _ a σ => R (.inr a) σ)
def bX3_check_220 (κ : Nat → Option Nat) (R : Ret AH) : Cont AH :=
    o_ic 0 <|
    o_is 3 <|
    (o_kill [4, 5, 6] (bX3_check_222 κ R))
def bX3_check_214 (κ : Nat → Option Nat) (R : Ret AH) (J102 : Cont AH) : Cont AH :=
    o_iinc 3 1 <|
    (o_kill [4, 5, 6] J102)
def bX3_check_208 (κ : Nat → Option Nat) (R : Ret AH) (J102 : Cont AH) (J111 : Cont AH) : Cont AH :=
    o_iinc 4 1 <|
    (o_kill [5, 6] J111)
def bX3_check_160 (κ : Nat → Option Nat) (R : Ret AH) (J102 : Cont AH) (J111 : Cont AH) : Cont AH :=
    fixC fun J160 =>
    o_il 6 <|
    o_al 5 <|
    o_call 1 (hvc [(11, pX11_ways κ), (12, pX12_ways κ), (13, pX10_ways κ)]) (fun _ a σ => R (.inr a) σ) <|
    o_icmp_ge (bX3_check_208 κ R J102 J111) <|
    o_al 1 <|
    o_al 5 <|
    o_il 6 <|
    o_call 2 (hvc [(11, pX11_way κ), (12, pX12_way κ), (13, pX10_way κ)]) (fun _ a σ => R (.inr a) σ) <|
    o_dup2 <|
    o_aI 103 <|
    o_al 1 <|
    o_il 4 <|
    o_aI 103 <|
    o_ior <|
    o_sZ <|
    o_al 2 <|
    o_il 4 <|
    o_dup2 <|
    o_aI 103 <|
    o_al 2 <|
    o_al 5 <|
    o_il 6 <|
    o_call 2 (hvc [(11, pX11_way κ), (12, pX12_way κ), (13, pX10_way κ)]) (fun _ a σ => R (.inr a) σ) <|
    o_aI 103 <|
    o_ior <|
    o_sZ <|
    o_iinc 6 1 <|
    J160
def bX3_check_155 (κ : Nat → Option Nat) (R : Ret AH) (J102 : Cont AH) (J111 : Cont AH) : Cont AH :=
    o_ior <|
    o_sZ <|
    o_ic 0 <|
    o_is 6 <|
    (bX3_check_160 κ R J102 J111)
def bX3_check_154 (κ : Nat → Option Nat) (R : Ret AH) (J102 : Cont AH) (J111 : Cont AH) : Cont AH :=
    o_ic 0 <|
    (bX3_check_155 κ R J102 J111)
def bX3_check_111 (κ : Nat → Option Nat) (R : Ret AH) (J102 : Cont AH) : Cont AH :=
    fixC fun J111 =>
    o_il 4 <|
    o_al 0 <|
    o_gR 0 [3] <|
    o_gR 0 [4] <|
    o_call 1 (hvc [(19, pJ2_size κ)]) (fun _ a σ => R (.inr a) σ) <|
    o_icmp_ge (bX3_check_214 κ R J102) <|
    o_al 0 <|
    o_gR 0 [3] <|
    o_il 4 <|
    o_call 2 (hvc [(4, pX4_end κ)]) (fun _ a σ => R (.inr a) σ) <|
    o_as 5 <|
    o_al 2 <|
    o_il 4 <|
    o_dup2 <|
    o_aI 103 <|
    o_al 5 <|
    o_call 1 (hvc [(11, pX11_ways κ), (12, pX12_ways κ), (13, pX10_ways κ)]) (fun _ a σ => R (.inr a) σ) <|
    o_if_ne (bX3_check_154 κ R J102 J111) <|
    o_ic 1 <|
    (bX3_check_155 κ R J102 J111)
def bX3_check_102 (κ : Nat → Option Nat) (R : Ret AH) : Cont AH :=
    fixC fun J102 =>
    o_il 3 <|
    o_ic 40 <|
    o_icmp_ge (bX3_check_220 κ R) <|
    o_ic 0 <|
    o_is 4 <|
    (o_kill [5, 6] (bX3_check_111 κ R J102))
def bX3_check_86 (κ : Nat → Option Nat) (R : Ret AH) : Cont AH :=
    o_ic 40 <|
    o_newA 103 <|
    o_as 1 <|
    o_al 1 <|
    o_ic 0 <|
    o_ic 1 <|
    o_sZ <|
    o_ic 40 <|
    o_newA 103 <|
    o_as 2 <|
    o_ic 0 <|
    o_is 3 <|
    (o_kill [4, 5, 6] (bX3_check_102 κ R))
def bX3_check_57 (κ : Nat → Option Nat) (R : Ret AH) : Cont AH :=
    o_new 4 8 <|
    o_dup <|
    o_ic 4 <|
    o_al 0 <|
    o_gR 6 [3] <|
    o_il 1 <|
    o_call 2 (hvc [(19, pJ2_get κ)]) (fun _ a σ => R (.inr a) σ) <|
    o_castI <|
    o_call 1 (hvc [(20, pJ13_intValue κ), (60, pJ13_intValue κ)]) (fun _ a σ => R (.inr a) σ) <|
    o_call 3 (hvi (pX5_init κ)) (fun _ a σ => R (.inr a) σ) <|
    o_athrow (fun _ a σ => R (.inr a) σ)
def bX3_check_80 (κ : Nat → Option Nat) (R : Ret AH) (J2 : Cont AH) : Cont AH :=
    o_iinc 1 1 <|
    (o_kill [2, 3, 4, 5, 6] J2)
def bX3_check_2 (κ : Nat → Option Nat) (R : Ret AH) : Cont AH :=
    fixC fun J2 =>
    o_il 1 <|
    o_al 0 <|
    o_gR 5 [3] <|
    o_call 1 (hvc [(19, pJ2_size κ)]) (fun _ a σ => R (.inr a) σ) <|
    o_icmp_ge (bX3_check_86 κ R) <|
    o_al 0 <|
    o_gR 5 [3] <|
    o_il 1 <|
    o_call 2 (hvc [(19, pJ2_get κ)]) (fun _ a σ => R (.inr a) σ) <|
    o_castI <|
    o_call 1 (hvc [(20, pJ13_intValue κ), (60, pJ13_intValue κ)]) (fun _ a σ => R (.inr a) σ) <|
    o_if_eq (bX3_check_57 κ R) <|
    o_al 0 <|
    o_gR 5 [3] <|
    o_il 1 <|
    o_call 2 (hvc [(19, pJ2_get κ)]) (fun _ a σ => R (.inr a) σ) <|
    o_castI <|
    o_call 1 (hvc [(20, pJ13_intValue κ), (60, pJ13_intValue κ)]) (fun _ a σ => R (.inr a) σ) <|
    o_al 0 <|
    o_gR 0 [3] <|
    o_gR 0 [4] <|
    o_call 1 (hvc [(19, pJ2_size κ)]) (fun _ a σ => R (.inr a) σ) <|
    o_icmp_lt (bX3_check_80 κ R J2) <|
    (bX3_check_57 κ R)
def bX3_check_0 (κ : Nat → Option Nat) (R : Ret AH) : Cont AH :=
    o_ic 0 <|
    o_is 1 <|
    (o_kill [2, 3, 4, 5, 6] (bX3_check_2 κ R))
def pX3_check (κ : Nat → Option Nat) : PT AH := fun as σ Q => (lg_sl as).length ≤ 7 ∧ bX3_check_0 κ Q (entP 7 as) [] σ
theorem nX3_check : parN yX3_check 0 := by unfold parN; decide +kernel
set_option maxHeartbeats 4000000 in
theorem eX3_check (g : GC) : CT (wC g) yX3_check (Cond.code yX3_check cX3_check 7 none) 5 114 (pX3_check g.2.1) := by
  refine CT.of (wC_ok g) (cc := cX3_check) (nL := 7) (ret := none) (ht := []) (by decide +kernel) (Or.inl ⟨rfl, rfl⟩) (B := bX3_check_0 g.2.1) (fun R E X hE => ?_)
  have h323 : E (bX3_check_323 g.2.1 R) 323 := by
    unfold bX3_check_323
    exact si_return (pc := 323) hE dX3_check_323
  have h317 : ∀ (J273 : Cont AH) (hJ273 : E J273 273), E (bX3_check_317 g.2.1 R J273) 317 := by
    intro J273 hJ273
    unfold bX3_check_317
    refine si_iinc (pc := 317) hE dX3_check_317 (by decide) (by decide) ?_
    exact si_goto (pc := 320) hE dX3_check_320 (by decide) (si_kill hE hJ273)
  have h273 : E (bX3_check_273 g.2.1 R) 273 := by
    unfold bX3_check_273
    refine si_fix hE (fun J273 hJ273 => ?_)
    refine si_iload_n (pc := 273) hE dX3_check_273 rfl ?_
    refine si_aload_n (pc := 274) hE dX3_check_274 rfl ?_
    refine si_gR (pc := 275) hE dX3_check_275 (Or.inl q355) zfo_22 ?_
    refine si_gR (pc := 278) hE dX3_check_278 (Or.inr ⟨_, q292⟩) zfo_17 ?_
    refine si_hv (pc := 281) (n := 0) hE dX3_check_281 ⟨cal_V (recvO cls18) (eJ2_size g) (Or.inl ⟨rfl, rfl⟩) q501 q139 q498 q499 q500 ⟨by decide +kernel, by decide +kernel⟩ nJ2_size (by decide) (by decide), trivial⟩ (si_out hE rfl) ?_
    refine si_icmp_ge (pc := 284) hE dX3_check_284 (by decide) h323 ?_
    refine si_aload_n (pc := 287) hE dX3_check_287 rfl ?_
    refine si_iload_n (pc := 288) hE dX3_check_288 rfl ?_
    refine si_zaload (pc := 289) hE dX3_check_289 ?_
    refine si_if_ne (pc := 290) hE dX3_check_290 (by decide) (h317 J273 hJ273) ?_
    refine si_new (pc := 293) hE dX3_check_293 cls4 q506 q507 q149 df_4 ?_
    refine si_dup (pc := 296) hE dX3_check_296 ?_
    refine si_bipush (pc := 297) hE dX3_check_297 (by decide) ?_
    refine si_aload_n (pc := 299) hE dX3_check_299 rfl ?_
    refine si_gR (pc := 300) hE dX3_check_300 (Or.inl q362) zfo_25 ?_
    refine si_iload_n (pc := 303) hE dX3_check_303 rfl ?_
    refine si_hv (pc := 304) (n := 1) hE dX3_check_304 ⟨cal_V (recvO cls18) (eJ2_get g) (Or.inl ⟨rfl, rfl⟩) q980 q139 q977 q978 q979 ⟨by decide +kernel, by decide +kernel⟩ nJ2_get (by decide) (by decide), trivial⟩ (si_out hE rfl) ?_
    refine si_castI (pc := 307) hE dX3_check_307 q989 ?_
    refine si_hv (pc := 310) (n := 0) hE dX3_check_310 ⟨cal_V (recvO cls19) (eJ13_intValue g) (Or.inl ⟨rfl, rfl⟩) q993 q151 q990 q991 q992 ⟨by decide +kernel, by decide +kernel⟩ nJ13_intValue (by decide) (by decide), ⟨cal_V recv60 (eJ13_intValue g) (Or.inl ⟨rfl, rfl⟩) q993 q151 q990 q991 q992 ⟨by decide +kernel, by decide +kernel⟩ nJ13_intValue (by decide) (by decide), trivial⟩⟩ (si_out hE rfl) ?_
    refine si_hi (pc := 313) (n := 2) hE dX3_check_313 (cal_I (eX5_init g) q548 q149 q546 q547 rfl ⟨by decide +kernel, by decide +kernel⟩ nX5_init (by decide) (by decide)) (si_out hE rfl) ?_
    exact si_athrow (pc := 316) hE dX3_check_316 (si_out hE rfl)
  have h271 : E (bX3_check_271 g.2.1 R) 271 := by
    unfold bX3_check_271
    refine si_iconst (pc := 271) hE dX3_check_271 (by decide) ?_
    refine si_istore_n (pc := 272) hE dX3_check_272 rfl (by decide) ?_
    exact (si_kill hE h273)
  have h265 : ∀ (J222 : Cont AH) (hJ222 : E J222 222), E (bX3_check_265 g.2.1 R J222) 265 := by
    intro J222 hJ222
    unfold bX3_check_265
    refine si_iinc (pc := 265) hE dX3_check_265 (by decide) (by decide) ?_
    exact si_goto (pc := 268) hE dX3_check_268 (by decide) (si_kill hE hJ222)
  have h222 : E (bX3_check_222 g.2.1 R) 222 := by
    unfold bX3_check_222
    refine si_fix hE (fun J222 hJ222 => ?_)
    refine si_iload_n (pc := 222) hE dX3_check_222 rfl ?_
    refine si_aload_n (pc := 223) hE dX3_check_223 rfl ?_
    refine si_gR (pc := 224) hE dX3_check_224 (Or.inl q355) zfo_22 ?_
    refine si_gR (pc := 227) hE dX3_check_227 (Or.inr ⟨_, q292⟩) zfo_17 ?_
    refine si_hv (pc := 230) (n := 0) hE dX3_check_230 ⟨cal_V (recvO cls18) (eJ2_size g) (Or.inl ⟨rfl, rfl⟩) q501 q139 q498 q499 q500 ⟨by decide +kernel, by decide +kernel⟩ nJ2_size (by decide) (by decide), trivial⟩ (si_out hE rfl) ?_
    refine si_icmp_ge (pc := 233) hE dX3_check_233 (by decide) h271 ?_
    refine si_aload_n (pc := 236) hE dX3_check_236 rfl ?_
    refine si_iload_n (pc := 237) hE dX3_check_237 rfl ?_
    refine si_zaload (pc := 238) hE dX3_check_238 ?_
    refine si_if_ne (pc := 239) hE dX3_check_239 (by decide) (h265 J222 hJ222) ?_
    refine si_new (pc := 242) hE dX3_check_242 cls4 q506 q507 q149 df_4 ?_
    refine si_dup (pc := 245) hE dX3_check_245 ?_
    refine si_iconst (pc := 246) hE dX3_check_246 (by decide) ?_
    refine si_aload_n (pc := 247) hE dX3_check_247 rfl ?_
    refine si_gR (pc := 248) hE dX3_check_248 (Or.inl q362) zfo_25 ?_
    refine si_iload_n (pc := 251) hE dX3_check_251 rfl ?_
    refine si_hv (pc := 252) (n := 1) hE dX3_check_252 ⟨cal_V (recvO cls18) (eJ2_get g) (Or.inl ⟨rfl, rfl⟩) q980 q139 q977 q978 q979 ⟨by decide +kernel, by decide +kernel⟩ nJ2_get (by decide) (by decide), trivial⟩ (si_out hE rfl) ?_
    refine si_castI (pc := 255) hE dX3_check_255 q989 ?_
    refine si_hv (pc := 258) (n := 0) hE dX3_check_258 ⟨cal_V (recvO cls19) (eJ13_intValue g) (Or.inl ⟨rfl, rfl⟩) q993 q151 q990 q991 q992 ⟨by decide +kernel, by decide +kernel⟩ nJ13_intValue (by decide) (by decide), ⟨cal_V recv60 (eJ13_intValue g) (Or.inl ⟨rfl, rfl⟩) q993 q151 q990 q991 q992 ⟨by decide +kernel, by decide +kernel⟩ nJ13_intValue (by decide) (by decide), trivial⟩⟩ (si_out hE rfl) ?_
    refine si_hi (pc := 261) (n := 2) hE dX3_check_261 (cal_I (eX5_init g) q548 q149 q546 q547 rfl ⟨by decide +kernel, by decide +kernel⟩ nX5_init (by decide) (by decide)) (si_out hE rfl) ?_
    exact si_athrow (pc := 264) hE dX3_check_264 (si_out hE rfl)
  have h220 : E (bX3_check_220 g.2.1 R) 220 := by
    unfold bX3_check_220
    refine si_iconst (pc := 220) hE dX3_check_220 (by decide) ?_
    refine si_istore_n (pc := 221) hE dX3_check_221 rfl (by decide) ?_
    exact (si_kill hE h222)
  have h214 : ∀ (J102 : Cont AH) (hJ102 : E J102 102), E (bX3_check_214 g.2.1 R J102) 214 := by
    intro J102 hJ102
    unfold bX3_check_214
    refine si_iinc (pc := 214) hE dX3_check_214 (by decide) (by decide) ?_
    exact si_goto (pc := 217) hE dX3_check_217 (by decide) (si_kill hE hJ102)
  have h208 : ∀ (J102 : Cont AH) (hJ102 : E J102 102) (J111 : Cont AH) (hJ111 : E J111 111), E (bX3_check_208 g.2.1 R J102 J111) 208 := by
    intro J102 hJ102 J111 hJ111
    unfold bX3_check_208
    refine si_iinc (pc := 208) hE dX3_check_208 (by decide) (by decide) ?_
    exact si_goto (pc := 211) hE dX3_check_211 (by decide) (si_kill hE hJ111)
  have h160 : ∀ (J102 : Cont AH) (hJ102 : E J102 102) (J111 : Cont AH) (hJ111 : E J111 111), E (bX3_check_160 g.2.1 R J102 J111) 160 := by
    intro J102 hJ102 J111 hJ111
    unfold bX3_check_160
    refine si_fix hE (fun J160 hJ160 => ?_)
    refine si_iload (pc := 160) hE dX3_check_160 ?_
    refine si_aload (pc := 162) hE dX3_check_162 ?_
    refine si_hv (pc := 164) (n := 0) hE dX3_check_164 ⟨cal_U (x := xm_0) (recvO cls10) (eX11_ways g) (Or.inl ⟨rfl, rfl⟩) q1006 q161 q1001 q1003 (Or.inl q1002) ⟨by decide +kernel, by decide +kernel⟩ q1004 q1005 xp_0 (by decide) (by decide), ⟨cal_U (x := xm_0) (recvO cls11) (eX12_ways g) (Or.inl ⟨rfl, rfl⟩) q1009 q162 q1001 q1003 (Or.inl q1002) ⟨by decide +kernel, by decide +kernel⟩ q1007 q1008 xp_0 (by decide) (by decide), ⟨cal_U (x := xm_0) (recvO cls12) (eX10_ways g) (Or.inl ⟨rfl, rfl⟩) q1012 q160 q1001 q1003 (Or.inl q1002) ⟨by decide +kernel, by decide +kernel⟩ q1010 q1011 xp_0 (by decide) (by decide), trivial⟩⟩⟩ (si_out hE rfl) ?_
    refine si_icmp_ge (pc := 167) hE dX3_check_167 (by decide) (h208 J102 hJ102 J111 hJ111) ?_
    refine si_aload_n (pc := 170) hE dX3_check_170 rfl ?_
    refine si_aload (pc := 171) hE dX3_check_171 ?_
    refine si_iload (pc := 173) hE dX3_check_173 ?_
    refine si_hv (pc := 175) (n := 1) hE dX3_check_175 ⟨cal_U (x := xm_1) (recvO cls10) (eX11_way g) (Or.inl ⟨rfl, rfl⟩) q1018 q161 q1013 q1015 (Or.inl q1014) ⟨by decide +kernel, by decide +kernel⟩ q1016 q1017 xp_1 (by decide) (by decide), ⟨cal_U (x := xm_1) (recvO cls11) (eX12_way g) (Or.inl ⟨rfl, rfl⟩) q1021 q162 q1013 q1015 (Or.inl q1014) ⟨by decide +kernel, by decide +kernel⟩ q1019 q1020 xp_1 (by decide) (by decide), ⟨cal_U (x := xm_1) (recvO cls12) (eX10_way g) (Or.inl ⟨rfl, rfl⟩) q1024 q160 q1013 q1015 (Or.inl q1014) ⟨by decide +kernel, by decide +kernel⟩ q1022 q1023 xp_1 (by decide) (by decide), trivial⟩⟩⟩ (si_out hE rfl) ?_
    refine si_dup2 (pc := 178) hE dX3_check_178 ?_
    refine si_zaload (pc := 179) hE dX3_check_179 ?_
    refine si_aload_n (pc := 180) hE dX3_check_180 rfl ?_
    refine si_iload (pc := 181) hE dX3_check_181 ?_
    refine si_zaload (pc := 183) hE dX3_check_183 ?_
    refine si_ior (pc := 184) hE dX3_check_184 ?_
    refine si_zastore (pc := 185) hE dX3_check_185 ?_
    refine si_aload_n (pc := 186) hE dX3_check_186 rfl ?_
    refine si_iload (pc := 187) hE dX3_check_187 ?_
    refine si_dup2 (pc := 189) hE dX3_check_189 ?_
    refine si_zaload (pc := 190) hE dX3_check_190 ?_
    refine si_aload_n (pc := 191) hE dX3_check_191 rfl ?_
    refine si_aload (pc := 192) hE dX3_check_192 ?_
    refine si_iload (pc := 194) hE dX3_check_194 ?_
    refine si_hv (pc := 196) (n := 1) hE dX3_check_196 ⟨cal_U (x := xm_1) (recvO cls10) (eX11_way g) (Or.inl ⟨rfl, rfl⟩) q1018 q161 q1013 q1015 (Or.inl q1014) ⟨by decide +kernel, by decide +kernel⟩ q1016 q1017 xp_1 (by decide) (by decide), ⟨cal_U (x := xm_1) (recvO cls11) (eX12_way g) (Or.inl ⟨rfl, rfl⟩) q1021 q162 q1013 q1015 (Or.inl q1014) ⟨by decide +kernel, by decide +kernel⟩ q1019 q1020 xp_1 (by decide) (by decide), ⟨cal_U (x := xm_1) (recvO cls12) (eX10_way g) (Or.inl ⟨rfl, rfl⟩) q1024 q160 q1013 q1015 (Or.inl q1014) ⟨by decide +kernel, by decide +kernel⟩ q1022 q1023 xp_1 (by decide) (by decide), trivial⟩⟩⟩ (si_out hE rfl) ?_
    refine si_zaload (pc := 199) hE dX3_check_199 ?_
    refine si_ior (pc := 200) hE dX3_check_200 ?_
    refine si_zastore (pc := 201) hE dX3_check_201 ?_
    refine si_iinc (pc := 202) hE dX3_check_202 (by decide) (by decide) ?_
    exact si_goto (pc := 205) hE dX3_check_205 (by decide) hJ160
  have h155 : ∀ (J102 : Cont AH) (hJ102 : E J102 102) (J111 : Cont AH) (hJ111 : E J111 111), E (bX3_check_155 g.2.1 R J102 J111) 155 := by
    intro J102 hJ102 J111 hJ111
    unfold bX3_check_155
    refine si_ior (pc := 155) hE dX3_check_155 ?_
    refine si_zastore (pc := 156) hE dX3_check_156 ?_
    refine si_iconst (pc := 157) hE dX3_check_157 (by decide) ?_
    refine si_istore (pc := 158) hE dX3_check_158 (by decide) ?_
    exact (h160 J102 hJ102 J111 hJ111)
  have h154 : ∀ (J102 : Cont AH) (hJ102 : E J102 102) (J111 : Cont AH) (hJ111 : E J111 111), E (bX3_check_154 g.2.1 R J102 J111) 154 := by
    intro J102 hJ102 J111 hJ111
    unfold bX3_check_154
    refine si_iconst (pc := 154) hE dX3_check_154 (by decide) ?_
    exact (h155 J102 hJ102 J111 hJ111)
  have h111 : ∀ (J102 : Cont AH) (hJ102 : E J102 102), E (bX3_check_111 g.2.1 R J102) 111 := by
    intro J102 hJ102
    unfold bX3_check_111
    refine si_fix hE (fun J111 hJ111 => ?_)
    refine si_iload (pc := 111) hE dX3_check_111 ?_
    refine si_aload_n (pc := 113) hE dX3_check_113 rfl ?_
    refine si_gR (pc := 114) hE dX3_check_114 (Or.inl q355) zfo_22 ?_
    refine si_gR (pc := 117) hE dX3_check_117 (Or.inr ⟨_, q292⟩) zfo_17 ?_
    refine si_hv (pc := 120) (n := 0) hE dX3_check_120 ⟨cal_V (recvO cls18) (eJ2_size g) (Or.inl ⟨rfl, rfl⟩) q501 q139 q498 q499 q500 ⟨by decide +kernel, by decide +kernel⟩ nJ2_size (by decide) (by decide), trivial⟩ (si_out hE rfl) ?_
    refine si_icmp_ge (pc := 123) hE dX3_check_123 (by decide) (h214 J102 hJ102) ?_
    refine si_aload_n (pc := 126) hE dX3_check_126 rfl ?_
    refine si_gR (pc := 127) hE dX3_check_127 (Or.inl q355) zfo_22 ?_
    refine si_iload (pc := 130) hE dX3_check_130 ?_
    refine si_hv (pc := 132) (n := 1) hE dX3_check_132 ⟨cal_V (recvO cls3) (eX4_end g) (Or.inl ⟨rfl, rfl⟩) q997 q136 q994 q995 q996 ⟨by decide +kernel, by decide +kernel⟩ nX4_end (by decide) (by decide), trivial⟩ (si_out hE rfl) ?_
    refine si_astore (pc := 135) hE dX3_check_135 (by decide) ?_
    refine si_aload_n (pc := 137) hE dX3_check_137 rfl ?_
    refine si_iload (pc := 138) hE dX3_check_138 ?_
    refine si_dup2 (pc := 140) hE dX3_check_140 ?_
    refine si_zaload (pc := 141) hE dX3_check_141 ?_
    refine si_aload (pc := 142) hE dX3_check_142 ?_
    refine si_hv (pc := 144) (n := 0) hE dX3_check_144 ⟨cal_U (x := xm_0) (recvO cls10) (eX11_ways g) (Or.inl ⟨rfl, rfl⟩) q1006 q161 q1001 q1003 (Or.inl q1002) ⟨by decide +kernel, by decide +kernel⟩ q1004 q1005 xp_0 (by decide) (by decide), ⟨cal_U (x := xm_0) (recvO cls11) (eX12_ways g) (Or.inl ⟨rfl, rfl⟩) q1009 q162 q1001 q1003 (Or.inl q1002) ⟨by decide +kernel, by decide +kernel⟩ q1007 q1008 xp_0 (by decide) (by decide), ⟨cal_U (x := xm_0) (recvO cls12) (eX10_ways g) (Or.inl ⟨rfl, rfl⟩) q1012 q160 q1001 q1003 (Or.inl q1002) ⟨by decide +kernel, by decide +kernel⟩ q1010 q1011 xp_0 (by decide) (by decide), trivial⟩⟩⟩ (si_out hE rfl) ?_
    refine si_if_ne (pc := 147) hE dX3_check_147 (by decide) (h154 J102 hJ102 J111 hJ111) ?_
    refine si_iconst (pc := 150) hE dX3_check_150 (by decide) ?_
    exact si_goto (pc := 151) hE dX3_check_151 (by decide) (h155 J102 hJ102 J111 hJ111)
  have h102 : E (bX3_check_102 g.2.1 R) 102 := by
    unfold bX3_check_102
    refine si_fix hE (fun J102 hJ102 => ?_)
    refine si_iload_n (pc := 102) hE dX3_check_102 rfl ?_
    refine si_bipush (pc := 103) hE dX3_check_103 (by decide) ?_
    refine si_icmp_ge (pc := 105) hE dX3_check_105 (by decide) h220 ?_
    refine si_iconst (pc := 108) hE dX3_check_108 (by decide) ?_
    refine si_istore (pc := 109) hE dX3_check_109 (by decide) ?_
    exact (si_kill hE (h111 J102 hJ102))
  have h86 : E (bX3_check_86 g.2.1 R) 86 := by
    unfold bX3_check_86
    refine si_bipush (pc := 86) hE dX3_check_86 (by decide) ?_
    refine si_newarray3 (pc := 88) hE dX3_check_88 q1072 ?_
    refine si_astore_n (pc := 90) hE dX3_check_90 rfl (by decide) ?_
    refine si_aload_n (pc := 91) hE dX3_check_91 rfl ?_
    refine si_iconst (pc := 92) hE dX3_check_92 (by decide) ?_
    refine si_iconst (pc := 93) hE dX3_check_93 (by decide) ?_
    refine si_zastore (pc := 94) hE dX3_check_94 ?_
    refine si_bipush (pc := 95) hE dX3_check_95 (by decide) ?_
    refine si_newarray3 (pc := 97) hE dX3_check_97 q1072 ?_
    refine si_astore_n (pc := 99) hE dX3_check_99 rfl (by decide) ?_
    refine si_iconst (pc := 100) hE dX3_check_100 (by decide) ?_
    refine si_istore_n (pc := 101) hE dX3_check_101 rfl (by decide) ?_
    exact (si_kill hE h102)
  have h57 : E (bX3_check_57 g.2.1 R) 57 := by
    unfold bX3_check_57
    refine si_new (pc := 57) hE dX3_check_57 cls4 q506 q507 q149 df_4 ?_
    refine si_dup (pc := 60) hE dX3_check_60 ?_
    refine si_iconst (pc := 61) hE dX3_check_61 (by decide) ?_
    refine si_aload_n (pc := 62) hE dX3_check_62 rfl ?_
    refine si_gR (pc := 63) hE dX3_check_63 (Or.inl q361) zfo_24 ?_
    refine si_iload_n (pc := 66) hE dX3_check_66 rfl ?_
    refine si_hv (pc := 67) (n := 1) hE dX3_check_67 ⟨cal_V (recvO cls18) (eJ2_get g) (Or.inl ⟨rfl, rfl⟩) q980 q139 q977 q978 q979 ⟨by decide +kernel, by decide +kernel⟩ nJ2_get (by decide) (by decide), trivial⟩ (si_out hE rfl) ?_
    refine si_castI (pc := 70) hE dX3_check_70 q989 ?_
    refine si_hv (pc := 73) (n := 0) hE dX3_check_73 ⟨cal_V (recvO cls19) (eJ13_intValue g) (Or.inl ⟨rfl, rfl⟩) q993 q151 q990 q991 q992 ⟨by decide +kernel, by decide +kernel⟩ nJ13_intValue (by decide) (by decide), ⟨cal_V recv60 (eJ13_intValue g) (Or.inl ⟨rfl, rfl⟩) q993 q151 q990 q991 q992 ⟨by decide +kernel, by decide +kernel⟩ nJ13_intValue (by decide) (by decide), trivial⟩⟩ (si_out hE rfl) ?_
    refine si_hi (pc := 76) (n := 2) hE dX3_check_76 (cal_I (eX5_init g) q548 q149 q546 q547 rfl ⟨by decide +kernel, by decide +kernel⟩ nX5_init (by decide) (by decide)) (si_out hE rfl) ?_
    exact si_athrow (pc := 79) hE dX3_check_79 (si_out hE rfl)
  have h80 : ∀ (J2 : Cont AH) (hJ2 : E J2 2), E (bX3_check_80 g.2.1 R J2) 80 := by
    intro J2 hJ2
    unfold bX3_check_80
    refine si_iinc (pc := 80) hE dX3_check_80 (by decide) (by decide) ?_
    exact si_goto (pc := 83) hE dX3_check_83 (by decide) (si_kill hE hJ2)
  have h2 : E (bX3_check_2 g.2.1 R) 2 := by
    unfold bX3_check_2
    refine si_fix hE (fun J2 hJ2 => ?_)
    refine si_iload_n (pc := 2) hE dX3_check_2 rfl ?_
    refine si_aload_n (pc := 3) hE dX3_check_3 rfl ?_
    refine si_gR (pc := 4) hE dX3_check_4 (Or.inl q360) zfo_23 ?_
    refine si_hv (pc := 7) (n := 0) hE dX3_check_7 ⟨cal_V (recvO cls18) (eJ2_size g) (Or.inl ⟨rfl, rfl⟩) q501 q139 q498 q499 q500 ⟨by decide +kernel, by decide +kernel⟩ nJ2_size (by decide) (by decide), trivial⟩ (si_out hE rfl) ?_
    refine si_icmp_ge (pc := 10) hE dX3_check_10 (by decide) h86 ?_
    refine si_aload_n (pc := 13) hE dX3_check_13 rfl ?_
    refine si_gR (pc := 14) hE dX3_check_14 (Or.inl q360) zfo_23 ?_
    refine si_iload_n (pc := 17) hE dX3_check_17 rfl ?_
    refine si_hv (pc := 18) (n := 1) hE dX3_check_18 ⟨cal_V (recvO cls18) (eJ2_get g) (Or.inl ⟨rfl, rfl⟩) q980 q139 q977 q978 q979 ⟨by decide +kernel, by decide +kernel⟩ nJ2_get (by decide) (by decide), trivial⟩ (si_out hE rfl) ?_
    refine si_castI (pc := 21) hE dX3_check_21 q989 ?_
    refine si_hv (pc := 24) (n := 0) hE dX3_check_24 ⟨cal_V (recvO cls19) (eJ13_intValue g) (Or.inl ⟨rfl, rfl⟩) q993 q151 q990 q991 q992 ⟨by decide +kernel, by decide +kernel⟩ nJ13_intValue (by decide) (by decide), ⟨cal_V recv60 (eJ13_intValue g) (Or.inl ⟨rfl, rfl⟩) q993 q151 q990 q991 q992 ⟨by decide +kernel, by decide +kernel⟩ nJ13_intValue (by decide) (by decide), trivial⟩⟩ (si_out hE rfl) ?_
    refine si_if_eq (pc := 27) hE dX3_check_27 (by decide) h57 ?_
    refine si_aload_n (pc := 30) hE dX3_check_30 rfl ?_
    refine si_gR (pc := 31) hE dX3_check_31 (Or.inl q360) zfo_23 ?_
    refine si_iload_n (pc := 34) hE dX3_check_34 rfl ?_
    refine si_hv (pc := 35) (n := 1) hE dX3_check_35 ⟨cal_V (recvO cls18) (eJ2_get g) (Or.inl ⟨rfl, rfl⟩) q980 q139 q977 q978 q979 ⟨by decide +kernel, by decide +kernel⟩ nJ2_get (by decide) (by decide), trivial⟩ (si_out hE rfl) ?_
    refine si_castI (pc := 38) hE dX3_check_38 q989 ?_
    refine si_hv (pc := 41) (n := 0) hE dX3_check_41 ⟨cal_V (recvO cls19) (eJ13_intValue g) (Or.inl ⟨rfl, rfl⟩) q993 q151 q990 q991 q992 ⟨by decide +kernel, by decide +kernel⟩ nJ13_intValue (by decide) (by decide), ⟨cal_V recv60 (eJ13_intValue g) (Or.inl ⟨rfl, rfl⟩) q993 q151 q990 q991 q992 ⟨by decide +kernel, by decide +kernel⟩ nJ13_intValue (by decide) (by decide), trivial⟩⟩ (si_out hE rfl) ?_
    refine si_aload_n (pc := 44) hE dX3_check_44 rfl ?_
    refine si_gR (pc := 45) hE dX3_check_45 (Or.inl q355) zfo_22 ?_
    refine si_gR (pc := 48) hE dX3_check_48 (Or.inr ⟨_, q292⟩) zfo_17 ?_
    refine si_hv (pc := 51) (n := 0) hE dX3_check_51 ⟨cal_V (recvO cls18) (eJ2_size g) (Or.inl ⟨rfl, rfl⟩) q501 q139 q498 q499 q500 ⟨by decide +kernel, by decide +kernel⟩ nJ2_size (by decide) (by decide), trivial⟩ (si_out hE rfl) ?_
    refine si_icmp_lt (pc := 54) hE dX3_check_54 (by decide) (h80 J2 hJ2) ?_
    exact h57
  have h0 : E (bX3_check_0 g.2.1 R) 0 := by
    unfold bX3_check_0
    refine si_iconst (pc := 0) hE dX3_check_0 (by decide) ?_
    refine si_istore_n (pc := 1) hE dX3_check_1 rfl (by decide) ?_
    exact (si_kill hE h2)
  exact h0
def bX6_leadsTo_0 (κ : Nat → Option Nat) (R : Ret AH) : Cont AH :=
    o_al 0 <|
    o_gR 2 [7, 8, 9, 10, 11, 12, 13, 14] <|
    o_al 1 <|
    o_call 2 (hvc [(19, pJ2_add κ)]) (fun _ a σ => R (.inr a) σ) <|
    o_pop <|
    o_al 1 <|
    o_gR 3 [7, 8, 9, 10, 11, 12, 13, 14] <|
    o_al 0 <|
    o_call 2 (hvc [(19, pJ2_add κ)]) (fun _ a σ => R (.inr a) σ) <|
    o_pop <|
    o_return R
def pX6_leadsTo (κ : Nat → Option Nat) : PT AH := fun as σ Q => (lg_sl as).length ≤ 2 ∧ bX6_leadsTo_0 κ Q (entP 2 as) [] σ
theorem nX6_leadsTo : parN yX6_leadsTo 1 := by unfold parN; decide +kernel
set_option maxHeartbeats 4000000 in
theorem eX6_leadsTo (g : GC) : CT (wC g) yX6_leadsTo (Cond.code yX6_leadsTo cX6_leadsTo 2 none) 7 191 (pX6_leadsTo g.2.1) := by
  refine CT.of (wC_ok g) (cc := cX6_leadsTo) (nL := 2) (ret := none) (ht := []) (by decide +kernel) (Or.inl ⟨rfl, rfl⟩) (B := bX6_leadsTo_0 g.2.1) (fun R E X hE => ?_)
  have h0 : E (bX6_leadsTo_0 g.2.1 R) 0 := by
    unfold bX6_leadsTo_0
    refine si_aload_n (pc := 0) hE dX6_leadsTo_0 rfl ?_
    refine si_gR (pc := 1) hE dX6_leadsTo_1 (Or.inl q758) zfo_34 ?_
    refine si_aload_n (pc := 4) hE dX6_leadsTo_4 rfl ?_
    refine si_hv (pc := 5) (n := 1) hE dX6_leadsTo_5 ⟨cal_V (recvO cls18) (eJ2_add g) (Or.inl ⟨rfl, rfl⟩) q606 q139 q1043 q604 q605 ⟨by decide +kernel, by decide +kernel⟩ nJ2_add (by decide) (by decide), trivial⟩ (si_out hE rfl) ?_
    refine si_pop (pc := 8) hE dX6_leadsTo_8 ?_
    refine si_aload_n (pc := 9) hE dX6_leadsTo_9 rfl ?_
    refine si_gR (pc := 10) hE dX6_leadsTo_10 (Or.inl q765) zfo_35 ?_
    refine si_aload_n (pc := 13) hE dX6_leadsTo_13 rfl ?_
    refine si_hv (pc := 14) (n := 1) hE dX6_leadsTo_14 ⟨cal_V (recvO cls18) (eJ2_add g) (Or.inl ⟨rfl, rfl⟩) q606 q139 q1043 q604 q605 ⟨by decide +kernel, by decide +kernel⟩ nJ2_add (by decide) (by decide), trivial⟩ (si_out hE rfl) ?_
    refine si_pop (pc := 17) hE dX6_leadsTo_17 ?_
    exact si_return (pc := 18) hE dX6_leadsTo_18
  exact h0
def bX4_waysTo_60 (κ : Nat → Option Nat) (R : Ret AH) : Cont AH :=
    o_il 2 <|
    o_ireturn R
def bX4_waysTo_54 (κ : Nat → Option Nat) (R : Ret AH) (J4 : Cont AH) : Cont AH :=
    o_iinc 3 1 <|
    (o_kill [4] J4)
def bX4_waysTo_48 (κ : Nat → Option Nat) (R : Ret AH) (J4 : Cont AH) (J18 : Cont AH) : Cont AH :=
    o_iinc 4 1 <|
    J18
def bX4_waysTo_18 (κ : Nat → Option Nat) (R : Ret AH) (J4 : Cont AH) : Cont AH :=
    fixC fun J18 =>
    o_il 4 <|
    o_al 0 <|
    o_il 3 <|
    o_call 2 (hvc [(4, pX4_end κ)]) (fun _ a σ => R (.inr a) σ) <|
    o_call 1 (hvc [(11, pX11_ways κ), (12, pX12_ways κ), (13, pX10_ways κ)]) (fun _ a σ => R (.inr a) σ) <|
    o_icmp_ge (bX4_waysTo_54 κ R J4) <|
    o_al 0 <|
    o_il 3 <|
    o_call 2 (hvc [(4, pX4_end κ)]) (fun _ a σ => R (.inr a) σ) <|
    o_il 4 <|
    o_call 2 (hvc [(11, pX11_way κ), (12, pX12_way κ), (13, pX10_way κ)]) (fun _ a σ => R (.inr a) σ) <|
    o_il 1 <|
    o_icmp_ne (bX4_waysTo_48 κ R J4 J18) <|
    o_iinc 2 1 <|
    (bX4_waysTo_48 κ R J4 J18)
def bX4_waysTo_4 (κ : Nat → Option Nat) (R : Ret AH) : Cont AH :=
    fixC fun J4 =>
    o_il 3 <|
    o_al 0 <|
    o_gR 0 [4] <|
    o_call 1 (hvc [(19, pJ2_size κ)]) (fun _ a σ => R (.inr a) σ) <|
    o_icmp_ge (bX4_waysTo_60 κ R) <|
    o_ic 0 <|
    o_is 4 <|
    (bX4_waysTo_18 κ R J4)
def bX4_waysTo_0 (κ : Nat → Option Nat) (R : Ret AH) : Cont AH :=
    o_ic 0 <|
    o_is 2 <|
    o_ic 0 <|
    o_is 3 <|
    (o_kill [4] (bX4_waysTo_4 κ R))
def pX4_waysTo (κ : Nat → Option Nat) : PT AH := fun as σ Q => (lg_sl as).length ≤ 5 ∧ bX4_waysTo_0 κ Q (entP 5 as) [] σ
theorem nX4_waysTo : parN yX4_waysTo 1 := by unfold parN; decide +kernel
set_option maxHeartbeats 4000000 in
theorem eX4_waysTo (g : GC) : CT (wC g) yX4_waysTo (Cond.code yX4_waysTo cX4_waysTo 5 (some .int)) 4 85 (pX4_waysTo g.2.1) := by
  refine CT.of (wC_ok g) (cc := cX4_waysTo) (nL := 5) (ret := (some .int)) (ht := []) (by decide +kernel) (Or.inl ⟨rfl, rfl⟩) (B := bX4_waysTo_0 g.2.1) (fun R E X hE => ?_)
  have h60 : E (bX4_waysTo_60 g.2.1 R) 60 := by
    unfold bX4_waysTo_60
    refine si_iload_n (pc := 60) hE dX4_waysTo_60 rfl ?_
    exact si_ireturn (pc := 61) hE dX4_waysTo_61
  have h54 : ∀ (J4 : Cont AH) (hJ4 : E J4 4), E (bX4_waysTo_54 g.2.1 R J4) 54 := by
    intro J4 hJ4
    unfold bX4_waysTo_54
    refine si_iinc (pc := 54) hE dX4_waysTo_54 (by decide) (by decide) ?_
    exact si_goto (pc := 57) hE dX4_waysTo_57 (by decide) (si_kill hE hJ4)
  have h48 : ∀ (J4 : Cont AH) (hJ4 : E J4 4) (J18 : Cont AH) (hJ18 : E J18 18), E (bX4_waysTo_48 g.2.1 R J4 J18) 48 := by
    intro J4 hJ4 J18 hJ18
    unfold bX4_waysTo_48
    refine si_iinc (pc := 48) hE dX4_waysTo_48 (by decide) (by decide) ?_
    exact si_goto (pc := 51) hE dX4_waysTo_51 (by decide) hJ18
  have h18 : ∀ (J4 : Cont AH) (hJ4 : E J4 4), E (bX4_waysTo_18 g.2.1 R J4) 18 := by
    intro J4 hJ4
    unfold bX4_waysTo_18
    refine si_fix hE (fun J18 hJ18 => ?_)
    refine si_iload (pc := 18) hE dX4_waysTo_18 ?_
    refine si_aload_n (pc := 20) hE dX4_waysTo_20 rfl ?_
    refine si_iload_n (pc := 21) hE dX4_waysTo_21 rfl ?_
    refine si_hv (pc := 22) (n := 1) hE dX4_waysTo_22 ⟨cal_V (recvO cls3) (eX4_end g) (Or.inl ⟨rfl, rfl⟩) q997 q136 q1044 q995 q996 ⟨by decide +kernel, by decide +kernel⟩ nX4_end (by decide) (by decide), trivial⟩ (si_out hE rfl) ?_
    refine si_hv (pc := 25) (n := 0) hE dX4_waysTo_25 ⟨cal_U (x := xm_0) (recvO cls10) (eX11_ways g) (Or.inl ⟨rfl, rfl⟩) q1006 q161 q1045 q1003 (Or.inl q1002) ⟨by decide +kernel, by decide +kernel⟩ q1004 q1005 xp_0 (by decide) (by decide), ⟨cal_U (x := xm_0) (recvO cls11) (eX12_ways g) (Or.inl ⟨rfl, rfl⟩) q1009 q162 q1045 q1003 (Or.inl q1002) ⟨by decide +kernel, by decide +kernel⟩ q1007 q1008 xp_0 (by decide) (by decide), ⟨cal_U (x := xm_0) (recvO cls12) (eX10_ways g) (Or.inl ⟨rfl, rfl⟩) q1012 q160 q1045 q1003 (Or.inl q1002) ⟨by decide +kernel, by decide +kernel⟩ q1010 q1011 xp_0 (by decide) (by decide), trivial⟩⟩⟩ (si_out hE rfl) ?_
    refine si_icmp_ge (pc := 28) hE dX4_waysTo_28 (by decide) (h54 J4 hJ4) ?_
    refine si_aload_n (pc := 31) hE dX4_waysTo_31 rfl ?_
    refine si_iload_n (pc := 32) hE dX4_waysTo_32 rfl ?_
    refine si_hv (pc := 33) (n := 1) hE dX4_waysTo_33 ⟨cal_V (recvO cls3) (eX4_end g) (Or.inl ⟨rfl, rfl⟩) q997 q136 q1044 q995 q996 ⟨by decide +kernel, by decide +kernel⟩ nX4_end (by decide) (by decide), trivial⟩ (si_out hE rfl) ?_
    refine si_iload (pc := 36) hE dX4_waysTo_36 ?_
    refine si_hv (pc := 38) (n := 1) hE dX4_waysTo_38 ⟨cal_U (x := xm_1) (recvO cls10) (eX11_way g) (Or.inl ⟨rfl, rfl⟩) q1018 q161 q1046 q1015 (Or.inl q1014) ⟨by decide +kernel, by decide +kernel⟩ q1016 q1017 xp_1 (by decide) (by decide), ⟨cal_U (x := xm_1) (recvO cls11) (eX12_way g) (Or.inl ⟨rfl, rfl⟩) q1021 q162 q1046 q1015 (Or.inl q1014) ⟨by decide +kernel, by decide +kernel⟩ q1019 q1020 xp_1 (by decide) (by decide), ⟨cal_U (x := xm_1) (recvO cls12) (eX10_way g) (Or.inl ⟨rfl, rfl⟩) q1024 q160 q1046 q1015 (Or.inl q1014) ⟨by decide +kernel, by decide +kernel⟩ q1022 q1023 xp_1 (by decide) (by decide), trivial⟩⟩⟩ (si_out hE rfl) ?_
    refine si_iload_n (pc := 41) hE dX4_waysTo_41 rfl ?_
    refine si_icmp_ne (pc := 42) hE dX4_waysTo_42 (by decide) (h48 J4 hJ4 J18 hJ18) ?_
    refine si_iinc (pc := 45) hE dX4_waysTo_45 (by decide) (by decide) ?_
    exact (h48 J4 hJ4 J18 hJ18)
  have h4 : E (bX4_waysTo_4 g.2.1 R) 4 := by
    unfold bX4_waysTo_4
    refine si_fix hE (fun J4 hJ4 => ?_)
    refine si_iload_n (pc := 4) hE dX4_waysTo_4 rfl ?_
    refine si_aload_n (pc := 5) hE dX4_waysTo_5 rfl ?_
    refine si_gR (pc := 6) hE dX4_waysTo_6 (Or.inl q289) zfo_17 ?_
    refine si_hv (pc := 9) (n := 0) hE dX4_waysTo_9 ⟨cal_V (recvO cls18) (eJ2_size g) (Or.inl ⟨rfl, rfl⟩) q501 q139 q999 q499 q500 ⟨by decide +kernel, by decide +kernel⟩ nJ2_size (by decide) (by decide), trivial⟩ (si_out hE rfl) ?_
    refine si_icmp_ge (pc := 12) hE dX4_waysTo_12 (by decide) h60 ?_
    refine si_iconst (pc := 15) hE dX4_waysTo_15 (by decide) ?_
    refine si_istore (pc := 16) hE dX4_waysTo_16 (by decide) ?_
    exact (h18 J4 hJ4)
  have h0 : E (bX4_waysTo_0 g.2.1 R) 0 := by
    unfold bX4_waysTo_0
    refine si_iconst (pc := 0) hE dX4_waysTo_0 (by decide) ?_
    refine si_istore_n (pc := 1) hE dX4_waysTo_1 rfl (by decide) ?_
    refine si_iconst (pc := 2) hE dX4_waysTo_2 (by decide) ?_
    refine si_istore_n (pc := 3) hE dX4_waysTo_3 rfl (by decide) ?_
    exact (si_kill hE h4)
  exact h0
def bX20_init_0 (κ : Nat → Option Nat) (R : Ret AH) : Cont AH :=
    o_al 0 <|
    o_call 1 (hvi (pX6_init κ)) (fun _ a σ => R (.inr a) σ) <|
    o_return R
def pX20_init (κ : Nat → Option Nat) : PT AH := fun as σ Q => (lg_sl as).length ≤ 1 ∧ bX20_init_0 κ Q (entP 1 as) [] σ
theorem nX20_init : parN yX20_init 0 := by unfold parN; decide +kernel
set_option maxHeartbeats 4000000 in
theorem eX20_init (g : GC) : CT (wC g) yX20_init (Cond.code yX20_init cX20_init 1 none) 5 100 (pX20_init g.2.1) := by
  refine CT.of (wC_ok g) (cc := cX20_init) (nL := 1) (ret := none) (ht := []) (by decide +kernel) (Or.inl ⟨rfl, rfl⟩) (B := bX20_init_0 g.2.1) (fun R E X hE => ?_)
  have h0 : E (bX20_init_0 g.2.1 R) 0 := by
    unfold bX20_init_0
    refine si_aload_n (pc := 0) hE dX20_init_0 rfl ?_
    refine si_hi (pc := 1) (n := 0) hE dX20_init_1 (cal_IN (eX6_init g) q742 q156 q1066 q741 rfl ⟨by decide +kernel, by decide +kernel⟩ nX6_init (by decide) (by decide)) (si_out hE rfl) ?_
    exact si_return (pc := 4) hE dX20_init_4
  exact h0
def bX4_joins_36 (κ : Nat → Option Nat) (R : Ret AH) : Cont AH :=
    o_al 1 <|
    o_al 3 <|
    o_call 2 (hvc [(11, pX6_leadsTo κ), (12, pX6_leadsTo κ), (13, pX6_leadsTo κ)]) (fun _ a σ => R (.inr a) σ) <|
    o_return R
def bX4_joins_42 (κ : Nat → Option Nat) (R : Ret AH) : Cont AH :=
    o_new 13 4 <|
    o_dup <|
    o_call 1 (hvi (pX20_init κ)) (fun _ a σ => R (.inr a) σ) <|
    o_as 4 <|
    o_al 4 <|
    o_al 0 <|
    o_gR 1 [4] <|
    o_call 1 (hvc [(19, pJ2_size κ)]) (fun _ a σ => R (.inr a) σ) <|
    o_pI 0 [7, 8, 9, 10, 11, 12, 13, 14] <|
    o_al 4 <|
    o_il 2 <|
    o_pI 1 [7, 8, 9, 10, 11, 12, 13, 14] <|
    o_al 0 <|
    o_gR 1 [4] <|
    o_al 4 <|
    o_call 2 (hvc [(19, pJ2_add κ)]) (fun _ a σ => R (.inr a) σ) <|
    o_pop <|
    o_al 0 <|
    o_dup <|
    o_gI 5 [4] <|
    o_ic 1 <|
    o_iadd <|
    o_pI 5 [4] <|
    o_al 1 <|
    o_al 4 <|
    o_call 2 (hvc [(11, pX6_leadsTo κ), (12, pX6_leadsTo κ), (13, pX6_leadsTo κ)]) (fun _ a σ => R (.inr a) σ) <|
    o_al 4 <|
    o_al 3 <|
    o_call 2 (hvc [(7, pX6_leadsTo κ), (8, pX6_leadsTo κ), (9, pX6_leadsTo κ), (10, pX6_leadsTo κ), (11, pX6_leadsTo κ), (12, pX6_leadsTo κ), (13, pX6_leadsTo κ), (14, pX6_leadsTo κ)]) (fun _ a σ => R (.inr a) σ) <|
    o_return R
def bX4_joins_0 (κ : Nat → Option Nat) (R : Ret AH) : Cont AH :=
    o_al 0 <|
    o_gR 0 [4] <|
    o_il 2 <|
    o_call 2 (hvc [(19, pJ2_get κ)]) (fun _ a σ => R (.inr a) σ) <|
    o_cast [19] <|
    o_ic 0 <|
    o_call 2 (hvc [(19, pJ2_get κ)]) (fun _ a σ => R (.inr a) σ) <|
    o_cast [7, 8, 9, 10, 11, 12, 13, 14] <|
    o_as 3 <|
    o_al 1 <|
    o_call 1 (hvc [(11, pX11_ways κ), (12, pX12_ways κ), (13, pX10_ways κ)]) (fun _ a σ => R (.inr a) σ) <|
    o_ic 2 <|
    o_icmp_lt (bX4_joins_36 κ R) <|
    o_al 0 <|
    o_il 2 <|
    o_call 2 (hvc [(4, pX4_waysTo κ)]) (fun _ a σ => R (.inr a) σ) <|
    o_ic 2 <|
    o_icmp_ge (bX4_joins_42 κ R) <|
    (bX4_joins_36 κ R)
def pX4_joins (κ : Nat → Option Nat) : PT AH := fun as σ Q => (lg_sl as).length ≤ 5 ∧ bX4_joins_0 κ Q (entP 5 as) [] σ
theorem nX4_joins : parN yX4_joins 2 := by unfold parN; decide +kernel
set_option maxHeartbeats 4000000 in
theorem eX4_joins (g : GC) : CT (wC g) yX4_joins (Cond.code yX4_joins cX4_joins 5 none) 8 212 (pX4_joins g.2.1) := by
  refine CT.of (wC_ok g) (cc := cX4_joins) (nL := 5) (ret := none) (ht := []) (by decide +kernel) (Or.inl ⟨rfl, rfl⟩) (B := bX4_joins_0 g.2.1) (fun R E X hE => ?_)
  have h36 : E (bX4_joins_36 g.2.1 R) 36 := by
    unfold bX4_joins_36
    refine si_aload_n (pc := 36) hE dX4_joins_36 rfl ?_
    refine si_aload_n (pc := 37) hE dX4_joins_37 rfl ?_
    refine si_hv (pc := 38) (n := 1) hE dX4_joins_38 ⟨cal_U (x := xm_2) (recvO cls10) (eX6_leadsTo g) (Or.inl ⟨rfl, rfl⟩) q1042 q156 q1055 q1056 (Or.inl q1057) ⟨by decide +kernel, by decide +kernel⟩ q1058 q1032 xp_2 (by decide) (by decide), ⟨cal_U (x := xm_2) (recvO cls11) (eX6_leadsTo g) (Or.inl ⟨rfl, rfl⟩) q1042 q156 q1055 q1056 (Or.inl q1057) ⟨by decide +kernel, by decide +kernel⟩ q1059 q1032 xp_2 (by decide) (by decide), ⟨cal_U (x := xm_2) (recvO cls12) (eX6_leadsTo g) (Or.inl ⟨rfl, rfl⟩) q1042 q156 q1055 q1056 (Or.inl q1057) ⟨by decide +kernel, by decide +kernel⟩ q1060 q1032 xp_2 (by decide) (by decide), trivial⟩⟩⟩ (si_out hE rfl) ?_
    exact si_return (pc := 41) hE dX4_joins_41
  have h42 : E (bX4_joins_42 g.2.1 R) 42 := by
    unfold bX4_joins_42
    refine si_new (pc := 42) hE dX4_joins_42 cls13 q1061 q1062 q171 df_13 ?_
    refine si_dup (pc := 45) hE dX4_joins_45 ?_
    refine si_hi (pc := 46) (n := 0) hE dX4_joins_46 (cal_IN (eX20_init g) q1065 q171 q1063 q1064 rfl ⟨by decide +kernel, by decide +kernel⟩ nX20_init (by decide) (by decide)) (si_out hE rfl) ?_
    refine si_astore (pc := 49) hE dX4_joins_49 (by decide) ?_
    refine si_aload (pc := 51) hE dX4_joins_51 ?_
    refine si_aload_n (pc := 53) hE dX4_joins_53 rfl ?_
    refine si_gR (pc := 54) hE dX4_joins_54 (Or.inl q293) zfo_18 ?_
    refine si_hv (pc := 57) (n := 0) hE dX4_joins_57 ⟨cal_V (recvO cls18) (eJ2_size g) (Or.inl ⟨rfl, rfl⟩) q501 q139 q999 q499 q500 ⟨by decide +kernel, by decide +kernel⟩ nJ2_size (by decide) (by decide), trivial⟩ (si_out hE rfl) ?_
    refine si_pI (pc := 60) hE dX4_joins_60 (Or.inr ⟨_, q750⟩) zfo_55 ?_
    refine si_aload (pc := 63) hE dX4_joins_63 ?_
    refine si_iload_n (pc := 65) hE dX4_joins_65 rfl ?_
    refine si_pI (pc := 66) hE dX4_joins_66 (Or.inr ⟨_, q754⟩) zfo_56 ?_
    refine si_aload_n (pc := 69) hE dX4_joins_69 rfl ?_
    refine si_gR (pc := 70) hE dX4_joins_70 (Or.inl q293) zfo_18 ?_
    refine si_aload (pc := 73) hE dX4_joins_73 ?_
    refine si_hv (pc := 75) (n := 1) hE dX4_joins_75 ⟨cal_V (recvO cls18) (eJ2_add g) (Or.inl ⟨rfl, rfl⟩) q606 q139 q1030 q604 q605 ⟨by decide +kernel, by decide +kernel⟩ nJ2_add (by decide) (by decide), trivial⟩ (si_out hE rfl) ?_
    refine si_pop (pc := 78) hE dX4_joins_78 ?_
    refine si_aload_n (pc := 79) hE dX4_joins_79 rfl ?_
    refine si_dup (pc := 80) hE dX4_joins_80 ?_
    refine si_gI (pc := 81) hE dX4_joins_81 (Or.inl q306) zfo_57 ?_
    refine si_iconst (pc := 84) hE dX4_joins_84 (by decide) ?_
    refine si_iadd (pc := 85) hE dX4_joins_85 ?_
    refine si_pI (pc := 86) hE dX4_joins_86 (Or.inl q306) zfo_57 ?_
    refine si_aload_n (pc := 89) hE dX4_joins_89 rfl ?_
    refine si_aload (pc := 90) hE dX4_joins_90 ?_
    refine si_hv (pc := 92) (n := 1) hE dX4_joins_92 ⟨cal_U (x := xm_2) (recvO cls10) (eX6_leadsTo g) (Or.inl ⟨rfl, rfl⟩) q1042 q156 q1055 q1056 (Or.inl q1057) ⟨by decide +kernel, by decide +kernel⟩ q1058 q1032 xp_2 (by decide) (by decide), ⟨cal_U (x := xm_2) (recvO cls11) (eX6_leadsTo g) (Or.inl ⟨rfl, rfl⟩) q1042 q156 q1055 q1056 (Or.inl q1057) ⟨by decide +kernel, by decide +kernel⟩ q1059 q1032 xp_2 (by decide) (by decide), ⟨cal_U (x := xm_2) (recvO cls12) (eX6_leadsTo g) (Or.inl ⟨rfl, rfl⟩) q1042 q156 q1055 q1056 (Or.inl q1057) ⟨by decide +kernel, by decide +kernel⟩ q1060 q1032 xp_2 (by decide) (by decide), trivial⟩⟩⟩ (si_out hE rfl) ?_
    refine si_aload (pc := 95) hE dX4_joins_95 ?_
    refine si_aload_n (pc := 97) hE dX4_joins_97 rfl ?_
    refine si_hv (pc := 98) (n := 1) hE dX4_joins_98 ⟨cal_V (recvO cls6) (eX6_leadsTo g) (Or.inl ⟨rfl, rfl⟩) q1042 q156 q1031 q1032 q1039 ⟨by decide +kernel, by decide +kernel⟩ nX6_leadsTo (by decide) (by decide), ⟨cal_V (recvO cls7) (eX6_leadsTo g) (Or.inl ⟨rfl, rfl⟩) q1042 q156 q1031 q1032 q1038 ⟨by decide +kernel, by decide +kernel⟩ nX6_leadsTo (by decide) (by decide), ⟨cal_V (recvO cls8) (eX6_leadsTo g) (Or.inl ⟨rfl, rfl⟩) q1042 q156 q1031 q1032 q1041 ⟨by decide +kernel, by decide +kernel⟩ nX6_leadsTo (by decide) (by decide), ⟨cal_V (recvO cls9) (eX6_leadsTo g) (Or.inl ⟨rfl, rfl⟩) q1042 q156 q1031 q1032 q1040 ⟨by decide +kernel, by decide +kernel⟩ nX6_leadsTo (by decide) (by decide), ⟨cal_V (recvO cls10) (eX6_leadsTo g) (Or.inl ⟨rfl, rfl⟩) q1042 q156 q1031 q1032 q1034 ⟨by decide +kernel, by decide +kernel⟩ nX6_leadsTo (by decide) (by decide), ⟨cal_V (recvO cls11) (eX6_leadsTo g) (Or.inl ⟨rfl, rfl⟩) q1042 q156 q1031 q1032 q1035 ⟨by decide +kernel, by decide +kernel⟩ nX6_leadsTo (by decide) (by decide), ⟨cal_V (recvO cls12) (eX6_leadsTo g) (Or.inl ⟨rfl, rfl⟩) q1042 q156 q1031 q1032 q1036 ⟨by decide +kernel, by decide +kernel⟩ nX6_leadsTo (by decide) (by decide), ⟨cal_V (recvO cls13) (eX6_leadsTo g) (Or.inl ⟨rfl, rfl⟩) q1042 q156 q1031 q1032 q1037 ⟨by decide +kernel, by decide +kernel⟩ nX6_leadsTo (by decide) (by decide), trivial⟩⟩⟩⟩⟩⟩⟩⟩ (si_out hE rfl) ?_
    exact si_return (pc := 101) hE dX4_joins_101
  have h0 : E (bX4_joins_0 g.2.1 R) 0 := by
    unfold bX4_joins_0
    refine si_aload_n (pc := 0) hE dX4_joins_0 rfl ?_
    refine si_gR (pc := 1) hE dX4_joins_1 (Or.inl q289) zfo_17 ?_
    refine si_iload_n (pc := 4) hE dX4_joins_4 rfl ?_
    refine si_hv (pc := 5) (n := 1) hE dX4_joins_5 ⟨cal_V (recvO cls18) (eJ2_get g) (Or.inl ⟨rfl, rfl⟩) q980 q139 q998 q978 q979 ⟨by decide +kernel, by decide +kernel⟩ nJ2_get (by decide) (by decide), trivial⟩ (si_out hE rfl) ?_
    refine si_cast (pc := 8) hE dX4_joins_8 q263 zco_1 ?_
    refine si_iconst (pc := 11) hE dX4_joins_11 (by decide) ?_
    refine si_hv (pc := 12) (n := 1) hE dX4_joins_12 ⟨cal_V (recvO cls18) (eJ2_get g) (Or.inl ⟨rfl, rfl⟩) q980 q139 q998 q978 q979 ⟨by decide +kernel, by decide +kernel⟩ nJ2_get (by decide) (by decide), trivial⟩ (si_out hE rfl) ?_
    refine si_cast (pc := 15) hE dX4_joins_15 q1029 zco_2 ?_
    refine si_astore_n (pc := 18) hE dX4_joins_18 rfl (by decide) ?_
    refine si_aload_n (pc := 19) hE dX4_joins_19 rfl ?_
    refine si_hv (pc := 20) (n := 0) hE dX4_joins_20 ⟨cal_U (x := xm_0) (recvO cls10) (eX11_ways g) (Or.inl ⟨rfl, rfl⟩) q1006 q161 q1045 q1003 (Or.inl q1002) ⟨by decide +kernel, by decide +kernel⟩ q1004 q1005 xp_0 (by decide) (by decide), ⟨cal_U (x := xm_0) (recvO cls11) (eX12_ways g) (Or.inl ⟨rfl, rfl⟩) q1009 q162 q1045 q1003 (Or.inl q1002) ⟨by decide +kernel, by decide +kernel⟩ q1007 q1008 xp_0 (by decide) (by decide), ⟨cal_U (x := xm_0) (recvO cls12) (eX10_ways g) (Or.inl ⟨rfl, rfl⟩) q1012 q160 q1045 q1003 (Or.inl q1002) ⟨by decide +kernel, by decide +kernel⟩ q1010 q1011 xp_0 (by decide) (by decide), trivial⟩⟩⟩ (si_out hE rfl) ?_
    refine si_iconst (pc := 23) hE dX4_joins_23 (by decide) ?_
    refine si_icmp_lt (pc := 24) hE dX4_joins_24 (by decide) h36 ?_
    refine si_aload_n (pc := 27) hE dX4_joins_27 rfl ?_
    refine si_iload_n (pc := 28) hE dX4_joins_28 rfl ?_
    refine si_hv (pc := 29) (n := 1) hE dX4_joins_29 ⟨cal_V (recvO cls3) (eX4_waysTo g) (Or.inl ⟨rfl, rfl⟩) q1054 q136 q1051 q1053 qs24 ⟨by decide +kernel, by decide +kernel⟩ nX4_waysTo (by decide) (by decide), trivial⟩ (si_out hE rfl) ?_
    refine si_iconst (pc := 32) hE dX4_joins_32 (by decide) ?_
    refine si_icmp_ge (pc := 33) hE dX4_joins_33 (by decide) h42 ?_
    exact h36
  exact h0
def bX15_works_0 (κ : Nat → Option Nat) (R : Ret AH) : Cont AH :=
    o_al 0 <|
    o_gR 5 [7] <|
    o_areturn R
def pX15_works (κ : Nat → Option Nat) : PT AH := fun as σ Q => (lg_sl as).length ≤ 1 ∧ bX15_works_0 κ Q (entP 1 as) [] σ
theorem nX15_works : parN yX15_works 0 := by unfold parN; decide +kernel
set_option maxHeartbeats 4000000 in
theorem eX15_works (g : GC) : CT (wC g) yX15_works (Cond.code yX15_works cX15_works 1 (some (.object "LateAndEarly$Sum"))) 0 0 (pX15_works g.2.1) := by
  refine CT.of (wC_ok g) (cc := cX15_works) (nL := 1) (ret := (some (.object "LateAndEarly$Sum"))) (ht := []) (by decide +kernel) (Or.inl ⟨rfl, rfl⟩) (B := bX15_works_0 g.2.1) (fun R E X hE => ?_)
  have h0 : E (bX15_works_0 g.2.1 R) 0 := by
    unfold bX15_works_0
    refine si_aload_n (pc := 0) hE dX15_works_0 rfl ?_
    refine si_gR (pc := 1) hE dX15_works_1 (Or.inl q916) zfo_49 ?_
    exact si_areturn (pc := 4) hE (Or.inl ⟨_, rfl⟩) dX15_works_4
  exact h0
def bX6_works_0 (κ : Nat → Option Nat) (R : Ret AH) : Cont AH :=
    o_null <|
    o_areturn R
def pX6_works (κ : Nat → Option Nat) : PT AH := fun as σ Q => (lg_sl as).length ≤ 1 ∧ bX6_works_0 κ Q (entP 1 as) [] σ
theorem nX6_works : parN yX6_works 0 := by unfold parN; decide +kernel
set_option maxHeartbeats 4000000 in
theorem eX6_works (g : GC) : CT (wC g) yX6_works (Cond.code yX6_works cX6_works 1 (some (.object "LateAndEarly$Sum"))) 0 0 (pX6_works g.2.1) := by
  refine CT.of (wC_ok g) (cc := cX6_works) (nL := 1) (ret := (some (.object "LateAndEarly$Sum"))) (ht := []) (by decide +kernel) (Or.inl ⟨rfl, rfl⟩) (B := bX6_works_0 g.2.1) (fun R E X hE => ?_)
  have h0 : E (bX6_works_0 g.2.1 R) 0 := by
    unfold bX6_works_0
    refine si_null (pc := 0) hE dX6_works_0 ?_
    exact si_areturn (pc := 1) hE (Or.inl ⟨_, rfl⟩) dX6_works_1
  exact h0
def bX8_isLike_27 (κ : Nat → Option Nat) (R : Ret AH) : Cont AH :=
    o_zreturn R
def bX8_isLike_26 (κ : Nat → Option Nat) (R : Ret AH) : Cont AH :=
    o_ic 0 <|
    (bX8_isLike_27 κ R)
def bX8_isLike_0 (κ : Nat → Option Nat) (R : Ret AH) : Cont AH :=
    o_al 0 <|
    o_gI 0 [17] <|
    o_al 1 <|
    o_gI 0 [17] <|
    o_icmp_ne (bX8_isLike_26 κ R) <|
    o_al 0 <|
    o_gI 1 [17] <|
    o_al 1 <|
    o_gI 1 [17] <|
    o_icmp_ne (bX8_isLike_26 κ R) <|
    o_ic 1 <|
    (bX8_isLike_27 κ R)
def pX8_isLike (κ : Nat → Option Nat) : PT AH := fun as σ Q => (lg_sl as).length ≤ 2 ∧ bX8_isLike_0 κ Q (entP 2 as) [] σ
theorem nX8_isLike : parN yX8_isLike 1 := by unfold parN; decide +kernel
set_option maxHeartbeats 4000000 in
theorem eX8_isLike (g : GC) : CT (wC g) yX8_isLike (Cond.code yX8_isLike cX8_isLike 2 (some .boolean)) 0 0 (pX8_isLike g.2.1) := by
  refine CT.of (wC_ok g) (cc := cX8_isLike) (nL := 2) (ret := (some .boolean)) (ht := []) (by decide +kernel) (Or.inl ⟨rfl, rfl⟩) (B := bX8_isLike_0 g.2.1) (fun R E X hE => ?_)
  have h27 : E (bX8_isLike_27 g.2.1 R) 27 := by
    unfold bX8_isLike_27
    exact si_zreturn (pc := 27) hE dX8_isLike_27
  have h26 : E (bX8_isLike_26 g.2.1 R) 26 := by
    unfold bX8_isLike_26
    refine si_iconst (pc := 26) hE dX8_isLike_26 (by decide) ?_
    exact h27
  have h0 : E (bX8_isLike_0 g.2.1 R) 0 := by
    unfold bX8_isLike_0
    refine si_aload_n (pc := 0) hE dX8_isLike_0 rfl ?_
    refine si_gI (pc := 1) hE dX8_isLike_1 (Or.inl q724) zfo_32 ?_
    refine si_aload_n (pc := 4) hE dX8_isLike_4 rfl ?_
    refine si_gI (pc := 5) hE dX8_isLike_5 (Or.inl q724) zfo_32 ?_
    refine si_icmp_ne (pc := 8) hE dX8_isLike_8 (by decide) h26 ?_
    refine si_aload_n (pc := 11) hE dX8_isLike_11 rfl ?_
    refine si_gI (pc := 12) hE dX8_isLike_12 (Or.inl q728) zfo_33 ?_
    refine si_aload_n (pc := 15) hE dX8_isLike_15 rfl ?_
    refine si_gI (pc := 16) hE dX8_isLike_16 (Or.inl q728) zfo_33 ?_
    refine si_icmp_ne (pc := 19) hE dX8_isLike_19 (by decide) h26 ?_
    refine si_iconst (pc := 22) hE dX8_isLike_22 (by decide) ?_
    exact si_goto (pc := 23) hE dX8_isLike_23 (by decide) h27
  exact h0
def bX19_isLike_56 (κ : Nat → Option Nat) (R : Ret AH) : Cont AH :=
    o_zreturn R
def bX19_isLike_55 (κ : Nat → Option Nat) (R : Ret AH) : Cont AH :=
    o_ic 0 <|
    (bX19_isLike_56 κ R)
def bX19_isLike_0 (κ : Nat → Option Nat) (R : Ret AH) : Cont AH :=
    o_al 1 <|
    o_inst [15] [16] <|
    o_if_eq (bX19_isLike_55 κ R) <|
    o_al 1 <|
    o_cast [15] <|
    o_as 2 <|
    o_al 2 <|
    o_gI 1 [15] <|
    o_al 0 <|
    o_gI 1 [15] <|
    o_icmp_ne (bX19_isLike_55 κ R) <|
    o_al 0 <|
    o_gR 2 [15] <|
    o_al 2 <|
    o_gR 2 [15] <|
    o_call 2 (hvc [(17, pX8_isLike κ)]) (fun _ a σ => R (.inr a) σ) <|
    o_if_eq (bX19_isLike_55 κ R) <|
    o_al 0 <|
    o_gR 3 [15] <|
    o_al 2 <|
    o_gR 3 [15] <|
    o_call 2 (hvc [(17, pX8_isLike κ)]) (fun _ a σ => R (.inr a) σ) <|
    o_if_eq (bX19_isLike_55 κ R) <|
    o_ic 1 <|
    (bX19_isLike_56 κ R)
def pX19_isLike (κ : Nat → Option Nat) : PT AH := fun as σ Q => (lg_sl as).length ≤ 3 ∧ bX19_isLike_0 κ Q (entP 3 as) [] σ
theorem nX19_isLike : parN yX19_isLike 1 := by unfold parN; decide +kernel
set_option maxHeartbeats 4000000 in
theorem eX19_isLike (g : GC) : CT (wC g) yX19_isLike (Cond.code yX19_isLike cX19_isLike 3 (some .boolean)) 1 21 (pX19_isLike g.2.1) := by
  refine CT.of (wC_ok g) (cc := cX19_isLike) (nL := 3) (ret := (some .boolean)) (ht := []) (by decide +kernel) (Or.inl ⟨rfl, rfl⟩) (B := bX19_isLike_0 g.2.1) (fun R E X hE => ?_)
  have h56 : E (bX19_isLike_56 g.2.1 R) 56 := by
    unfold bX19_isLike_56
    exact si_zreturn (pc := 56) hE dX19_isLike_56
  have h55 : E (bX19_isLike_55 g.2.1 R) 55 := by
    unfold bX19_isLike_55
    refine si_iconst (pc := 55) hE dX19_isLike_55 (by decide) ?_
    exact h56
  have h0 : E (bX19_isLike_0 g.2.1 R) 0 := by
    unfold bX19_isLike_0
    refine si_aload_n (pc := 0) hE dX19_isLike_0 rfl ?_
    refine si_inst (pc := 1) hE dX19_isLike_1 q1099 zco_3 zno_1 ?_
    refine si_if_eq (pc := 4) hE dX19_isLike_4 (by decide) h55 ?_
    refine si_aload_n (pc := 7) hE dX19_isLike_7 rfl ?_
    refine si_cast (pc := 8) hE dX19_isLike_8 q1099 zco_3 ?_
    refine si_astore_n (pc := 11) hE dX19_isLike_11 rfl (by decide) ?_
    refine si_aload_n (pc := 12) hE dX19_isLike_12 rfl ?_
    refine si_gI (pc := 13) hE dX19_isLike_13 (Or.inl q961) zfo_51 ?_
    refine si_aload_n (pc := 16) hE dX19_isLike_16 rfl ?_
    refine si_gI (pc := 17) hE dX19_isLike_17 (Or.inl q961) zfo_51 ?_
    refine si_icmp_ne (pc := 20) hE dX19_isLike_20 (by decide) h55 ?_
    refine si_aload_n (pc := 23) hE dX19_isLike_23 rfl ?_
    refine si_gR (pc := 24) hE dX19_isLike_24 (Or.inl q962) zfo_52 ?_
    refine si_aload_n (pc := 27) hE dX19_isLike_27 rfl ?_
    refine si_gR (pc := 28) hE dX19_isLike_28 (Or.inl q962) zfo_52 ?_
    refine si_hv (pc := 31) (n := 1) hE dX19_isLike_31 ⟨cal_V (recvO cls16) (eX8_isLike g) (Or.inl ⟨rfl, rfl⟩) q1103 q158 q1100 q1101 q1102 ⟨by decide +kernel, by decide +kernel⟩ nX8_isLike (by decide) (by decide), trivial⟩ (si_out hE rfl) ?_
    refine si_if_eq (pc := 34) hE dX19_isLike_34 (by decide) h55 ?_
    refine si_aload_n (pc := 37) hE dX19_isLike_37 rfl ?_
    refine si_gR (pc := 38) hE dX19_isLike_38 (Or.inl q963) zfo_53 ?_
    refine si_aload_n (pc := 41) hE dX19_isLike_41 rfl ?_
    refine si_gR (pc := 42) hE dX19_isLike_42 (Or.inl q963) zfo_53 ?_
    refine si_hv (pc := 45) (n := 1) hE dX19_isLike_45 ⟨cal_V (recvO cls16) (eX8_isLike g) (Or.inl ⟨rfl, rfl⟩) q1103 q158 q1100 q1101 q1102 ⟨by decide +kernel, by decide +kernel⟩ nX8_isLike (by decide) (by decide), trivial⟩ (si_out hE rfl) ?_
    refine si_if_eq (pc := 48) hE dX19_isLike_48 (by decide) h55 ?_
    refine si_iconst (pc := 51) hE dX19_isLike_51 (by decide) ?_
    exact si_goto (pc := 52) hE dX19_isLike_52 (by decide) h56
  exact h0
def bX17_isLike_42 (κ : Nat → Option Nat) (R : Ret AH) : Cont AH :=
    o_zreturn R
def bX17_isLike_41 (κ : Nat → Option Nat) (R : Ret AH) : Cont AH :=
    o_ic 0 <|
    (bX17_isLike_42 κ R)
def bX17_isLike_0 (κ : Nat → Option Nat) (R : Ret AH) : Cont AH :=
    o_al 1 <|
    o_inst [16] [15] <|
    o_if_eq (bX17_isLike_41 κ R) <|
    o_al 1 <|
    o_cast [16] <|
    o_as 2 <|
    o_al 2 <|
    o_gI 1 [16] <|
    o_al 0 <|
    o_gI 1 [16] <|
    o_icmp_ne (bX17_isLike_41 κ R) <|
    o_al 0 <|
    o_gR 2 [16] <|
    o_al 2 <|
    o_gR 2 [16] <|
    o_call 2 (hvc [(17, pX8_isLike κ)]) (fun _ a σ => R (.inr a) σ) <|
    o_if_eq (bX17_isLike_41 κ R) <|
    o_ic 1 <|
    (bX17_isLike_42 κ R)
def pX17_isLike (κ : Nat → Option Nat) : PT AH := fun as σ Q => (lg_sl as).length ≤ 3 ∧ bX17_isLike_0 κ Q (entP 3 as) [] σ
theorem nX17_isLike : parN yX17_isLike 1 := by unfold parN; decide +kernel
set_option maxHeartbeats 4000000 in
theorem eX17_isLike (g : GC) : CT (wC g) yX17_isLike (Cond.code yX17_isLike cX17_isLike 3 (some .boolean)) 1 21 (pX17_isLike g.2.1) := by
  refine CT.of (wC_ok g) (cc := cX17_isLike) (nL := 3) (ret := (some .boolean)) (ht := []) (by decide +kernel) (Or.inl ⟨rfl, rfl⟩) (B := bX17_isLike_0 g.2.1) (fun R E X hE => ?_)
  have h42 : E (bX17_isLike_42 g.2.1 R) 42 := by
    unfold bX17_isLike_42
    exact si_zreturn (pc := 42) hE dX17_isLike_42
  have h41 : E (bX17_isLike_41 g.2.1 R) 41 := by
    unfold bX17_isLike_41
    refine si_iconst (pc := 41) hE dX17_isLike_41 (by decide) ?_
    exact h42
  have h0 : E (bX17_isLike_0 g.2.1 R) 0 := by
    unfold bX17_isLike_0
    refine si_aload_n (pc := 0) hE dX17_isLike_0 rfl ?_
    refine si_inst (pc := 1) hE dX17_isLike_1 q1107 zco_4 zno_2 ?_
    refine si_if_eq (pc := 4) hE dX17_isLike_4 (by decide) h41 ?_
    refine si_aload_n (pc := 7) hE dX17_isLike_7 rfl ?_
    refine si_cast (pc := 8) hE dX17_isLike_8 q1107 zco_4 ?_
    refine si_astore_n (pc := 11) hE dX17_isLike_11 rfl (by decide) ?_
    refine si_aload_n (pc := 12) hE dX17_isLike_12 rfl ?_
    refine si_gI (pc := 13) hE dX17_isLike_13 (Or.inl q891) zfo_46 ?_
    refine si_aload_n (pc := 16) hE dX17_isLike_16 rfl ?_
    refine si_gI (pc := 17) hE dX17_isLike_17 (Or.inl q891) zfo_46 ?_
    refine si_icmp_ne (pc := 20) hE dX17_isLike_20 (by decide) h41 ?_
    refine si_aload_n (pc := 23) hE dX17_isLike_23 rfl ?_
    refine si_gR (pc := 24) hE dX17_isLike_24 (Or.inl q894) zfo_47 ?_
    refine si_aload_n (pc := 27) hE dX17_isLike_27 rfl ?_
    refine si_gR (pc := 28) hE dX17_isLike_28 (Or.inl q894) zfo_47 ?_
    refine si_hv (pc := 31) (n := 1) hE dX17_isLike_31 ⟨cal_V (recvO cls16) (eX8_isLike g) (Or.inl ⟨rfl, rfl⟩) q1103 q158 q1108 q1101 q1102 ⟨by decide +kernel, by decide +kernel⟩ nX8_isLike (by decide) (by decide), trivial⟩ (si_out hE rfl) ?_
    refine si_if_eq (pc := 34) hE dX17_isLike_34 (by decide) h41 ?_
    refine si_iconst (pc := 37) hE dX17_isLike_37 (by decide) ?_
    exact si_goto (pc := 38) hE dX17_isLike_38 (by decide) h42
  exact h0
def bX4_number_51 (κ : Nat → Option Nat) (R : Ret AH) : Cont AH :=
    o_al 1 <|
    o_gR 5 [7] <|
    o_al 0 <|
    o_gR 2 [4] <|
    o_call 1 (hvc [(19, pJ2_size κ)]) (fun _ a σ => R (.inr a) σ) <|
    o_pI 0 [15, 16] <|
    o_al 0 <|
    o_gR 2 [4] <|
    o_al 1 <|
    o_gR 5 [7] <|
    o_call 2 (hvc [(19, pJ2_add κ)]) (fun _ a σ => R (.inr a) σ) <|
    o_pop <|
    o_return R
def bX4_number_39 (κ : Nat → Option Nat) (R : Ret AH) : Cont AH :=
    o_al 1 <|
    o_al 3 <|
    o_pR 5 [7] <|
    o_return R
def bX4_number_45 (κ : Nat → Option Nat) (R : Ret AH) (J2 : Cont AH) : Cont AH :=
    o_iinc 2 1 <|
    (o_kill [3] J2)
def bX4_number_2 (κ : Nat → Option Nat) (R : Ret AH) : Cont AH :=
    fixC fun J2 =>
    o_il 2 <|
    o_al 0 <|
    o_gR 2 [4] <|
    o_call 1 (hvc [(19, pJ2_size κ)]) (fun _ a σ => R (.inr a) σ) <|
    o_icmp_ge (bX4_number_51 κ R) <|
    o_al 0 <|
    o_gR 2 [4] <|
    o_il 2 <|
    o_call 2 (hvc [(19, pJ2_get κ)]) (fun _ a σ => R (.inr a) σ) <|
    o_cast [15, 16] <|
    o_as 3 <|
    o_al 3 <|
    o_al 1 <|
    o_gR 5 [7] <|
    o_call 2 (hvc [(15, pX19_isLike κ), (16, pX17_isLike κ)]) (fun _ a σ => R (.inr a) σ) <|
    o_if_ne (bX4_number_39 κ R) <|
    (bX4_number_45 κ R J2)
def bX4_number_0 (κ : Nat → Option Nat) (R : Ret AH) : Cont AH :=
    o_ic 0 <|
    o_is 2 <|
    (o_kill [3] (bX4_number_2 κ R))
def pX4_number (κ : Nat → Option Nat) : PT AH := fun as σ Q => (lg_sl as).length ≤ 4 ∧ bX4_number_0 κ Q (entP 4 as) [] σ
theorem nX4_number : parN yX4_number 1 := by unfold parN; decide +kernel
set_option maxHeartbeats 4000000 in
theorem eX4_number (g : GC) : CT (wC g) yX4_number (Cond.code yX4_number cX4_number 4 none) 7 191 (pX4_number g.2.1) := by
  refine CT.of (wC_ok g) (cc := cX4_number) (nL := 4) (ret := none) (ht := []) (by decide +kernel) (Or.inl ⟨rfl, rfl⟩) (B := bX4_number_0 g.2.1) (fun R E X hE => ?_)
  have h51 : E (bX4_number_51 g.2.1 R) 51 := by
    unfold bX4_number_51
    refine si_aload_n (pc := 51) hE dX4_number_51 rfl ?_
    refine si_gR (pc := 52) hE dX4_number_52 (Or.inr ⟨_, q917⟩) zfo_49 ?_
    refine si_aload_n (pc := 55) hE dX4_number_55 rfl ?_
    refine si_gR (pc := 56) hE dX4_number_56 (Or.inl q297) zfo_19 ?_
    refine si_hv (pc := 59) (n := 0) hE dX4_number_59 ⟨cal_V (recvO cls18) (eJ2_size g) (Or.inl ⟨rfl, rfl⟩) q501 q139 q999 q499 q500 ⟨by decide +kernel, by decide +kernel⟩ nJ2_size (by decide) (by decide), trivial⟩ (si_out hE rfl) ?_
    refine si_pI (pc := 62) hE dX4_number_62 (Or.inr ⟨_, q899⟩) zfo_45 ?_
    refine si_aload_n (pc := 65) hE dX4_number_65 rfl ?_
    refine si_gR (pc := 66) hE dX4_number_66 (Or.inl q297) zfo_19 ?_
    refine si_aload_n (pc := 69) hE dX4_number_69 rfl ?_
    refine si_gR (pc := 70) hE dX4_number_70 (Or.inr ⟨_, q917⟩) zfo_49 ?_
    refine si_hv (pc := 73) (n := 1) hE dX4_number_73 ⟨cal_V (recvO cls18) (eJ2_add g) (Or.inl ⟨rfl, rfl⟩) q606 q139 q1030 q604 q605 ⟨by decide +kernel, by decide +kernel⟩ nJ2_add (by decide) (by decide), trivial⟩ (si_out hE rfl) ?_
    refine si_pop (pc := 76) hE dX4_number_76 ?_
    exact si_return (pc := 77) hE dX4_number_77
  have h39 : E (bX4_number_39 g.2.1 R) 39 := by
    unfold bX4_number_39
    refine si_aload_n (pc := 39) hE dX4_number_39 rfl ?_
    refine si_aload_n (pc := 40) hE dX4_number_40 rfl ?_
    refine si_pR (pc := 41) hE dX4_number_41 (Or.inr ⟨_, q917⟩) zfo_49 (Or.inl ⟨_, rfl⟩) ?_
    exact si_return (pc := 44) hE dX4_number_44
  have h45 : ∀ (J2 : Cont AH) (hJ2 : E J2 2), E (bX4_number_45 g.2.1 R J2) 45 := by
    intro J2 hJ2
    unfold bX4_number_45
    refine si_iinc (pc := 45) hE dX4_number_45 (by decide) (by decide) ?_
    exact si_goto (pc := 48) hE dX4_number_48 (by decide) (si_kill hE hJ2)
  have h2 : E (bX4_number_2 g.2.1 R) 2 := by
    unfold bX4_number_2
    refine si_fix hE (fun J2 hJ2 => ?_)
    refine si_iload_n (pc := 2) hE dX4_number_2 rfl ?_
    refine si_aload_n (pc := 3) hE dX4_number_3 rfl ?_
    refine si_gR (pc := 4) hE dX4_number_4 (Or.inl q297) zfo_19 ?_
    refine si_hv (pc := 7) (n := 0) hE dX4_number_7 ⟨cal_V (recvO cls18) (eJ2_size g) (Or.inl ⟨rfl, rfl⟩) q501 q139 q999 q499 q500 ⟨by decide +kernel, by decide +kernel⟩ nJ2_size (by decide) (by decide), trivial⟩ (si_out hE rfl) ?_
    refine si_icmp_ge (pc := 10) hE dX4_number_10 (by decide) h51 ?_
    refine si_aload_n (pc := 13) hE dX4_number_13 rfl ?_
    refine si_gR (pc := 14) hE dX4_number_14 (Or.inl q297) zfo_19 ?_
    refine si_iload_n (pc := 17) hE dX4_number_17 rfl ?_
    refine si_hv (pc := 18) (n := 1) hE dX4_number_18 ⟨cal_V (recvO cls18) (eJ2_get g) (Or.inl ⟨rfl, rfl⟩) q980 q139 q998 q978 q979 ⟨by decide +kernel, by decide +kernel⟩ nJ2_get (by decide) (by decide), trivial⟩ (si_out hE rfl) ?_
    refine si_cast (pc := 21) hE dX4_number_21 q1092 zco_5 ?_
    refine si_astore_n (pc := 24) hE dX4_number_24 rfl (by decide) ?_
    refine si_aload_n (pc := 25) hE dX4_number_25 rfl ?_
    refine si_aload_n (pc := 26) hE dX4_number_26 rfl ?_
    refine si_gR (pc := 27) hE dX4_number_27 (Or.inr ⟨_, q917⟩) zfo_49 ?_
    refine si_hv (pc := 30) (n := 1) hE dX4_number_30 ⟨cal_U (x := xm_3) (recvO cls14) (eX19_isLike g) (Or.inl ⟨rfl, rfl⟩) q1098 q169 q1093 q1095 (Or.inl q1094) ⟨by decide +kernel, by decide +kernel⟩ q1096 q1097 xp_3 (by decide) (by decide), ⟨cal_U (x := xm_3) (recvO cls15) (eX17_isLike g) (Or.inl ⟨rfl, rfl⟩) q1106 q167 q1093 q1095 (Or.inl q1094) ⟨by decide +kernel, by decide +kernel⟩ q1104 q1105 xp_3 (by decide) (by decide), trivial⟩⟩ (si_out hE rfl) ?_
    refine si_if_ne (pc := 33) hE dX4_number_33 (by decide) h39 ?_
    exact si_goto (pc := 36) hE dX4_number_36 (by decide) (h45 J2 hJ2)
  have h0 : E (bX4_number_0 g.2.1 R) 0 := by
    unfold bX4_number_0
    refine si_iconst (pc := 0) hE dX4_number_0 (by decide) ?_
    refine si_istore_n (pc := 1) hE dX4_number_1 rfl (by decide) ?_
    exact (si_kill hE h2)
  exact h0
def bX4_close_273 (κ : Nat → Option Nat) (R : Ret AH) : Cont AH :=
    o_return R
def bX4_close_267 (κ : Nat → Option Nat) (R : Ret AH) (J229 : Cont AH) : Cont AH :=
    o_iinc 1 1 <|
    (o_kill [2, 3] J229)
def bX4_close_229 (κ : Nat → Option Nat) (R : Ret AH) : Cont AH :=
    fixC fun J229 =>
    o_il 1 <|
    o_al 0 <|
    o_gR 1 [4] <|
    o_call 1 (hvc [(19, pJ2_size κ)]) (fun _ a σ => R (.inr a) σ) <|
    o_icmp_ge (bX4_close_273 κ R) <|
    o_al 0 <|
    o_gR 1 [4] <|
    o_il 1 <|
    o_call 2 (hvc [(19, pJ2_get κ)]) (fun _ a σ => R (.inr a) σ) <|
    o_cast [7, 8, 9, 10, 11, 12, 13, 14] <|
    o_as 2 <|
    o_al 2 <|
    o_call 1 (hvc [(7, pX15_works κ), (8, pX6_works κ), (9, pX6_works κ), (10, pX6_works κ), (11, pX6_works κ), (12, pX6_works κ), (13, pX6_works κ), (14, pX6_works κ)]) (fun _ a σ => R (.inr a) σ) <|
    o_ifnull (bX4_close_267 κ R J229) <|
    o_al 0 <|
    o_al 2 <|
    o_cast [7] <|
    o_call 2 (hvc [(4, pX4_number κ)]) (fun _ a σ => R (.inr a) σ) <|
    (bX4_close_267 κ R J229)
def bX4_close_227 (κ : Nat → Option Nat) (R : Ret AH) : Cont AH :=
    o_ic 0 <|
    o_is 1 <|
    (o_kill [2, 3] (bX4_close_229 κ R))
def bX4_close_221 (κ : Nat → Option Nat) (R : Ret AH) (J172 : Cont AH) : Cont AH :=
    o_iinc 1 1 <|
    (o_kill [2, 3] J172)
def bX4_close_185 (κ : Nat → Option Nat) (R : Ret AH) (J172 : Cont AH) : Cont AH :=
    fixC fun J185 =>
    o_il 2 <|
    o_al 0 <|
    o_il 1 <|
    o_call 2 (hvc [(4, pX4_end κ)]) (fun _ a σ => R (.inr a) σ) <|
    o_call 1 (hvc [(11, pX11_ways κ), (12, pX12_ways κ), (13, pX10_ways κ)]) (fun _ a σ => R (.inr a) σ) <|
    o_icmp_ge (bX4_close_221 κ R J172) <|
    o_al 0 <|
    o_al 0 <|
    o_il 1 <|
    o_call 2 (hvc [(4, pX4_end κ)]) (fun _ a σ => R (.inr a) σ) <|
    o_al 0 <|
    o_il 1 <|
    o_call 2 (hvc [(4, pX4_end κ)]) (fun _ a σ => R (.inr a) σ) <|
    o_il 2 <|
    o_call 2 (hvc [(11, pX11_way κ), (12, pX12_way κ), (13, pX10_way κ)]) (fun _ a σ => R (.inr a) σ) <|
    o_call 3 (hvc [(4, pX4_joins κ)]) (fun _ a σ => R (.inr a) σ) <|
    o_iinc 2 1 <|
    (o_kill [3] J185)
def bX4_close_172 (κ : Nat → Option Nat) (R : Ret AH) : Cont AH :=
    fixC fun J172 =>
    o_il 1 <|
    o_al 0 <|
    o_gR 0 [4] <|
    o_call 1 (hvc [(19, pJ2_size κ)]) (fun _ a σ => R (.inr a) σ) <|
    o_icmp_ge (bX4_close_227 κ R) <|
    o_ic 0 <|
    o_is 2 <|
    (o_kill [3] (bX4_close_185 κ R J172))
def bX4_close_170 (κ : Nat → Option Nat) (R : Ret AH) : Cont AH :=
    o_ic 0 <|
    o_is 1 <|
    (o_kill [2, 3] (bX4_close_172 κ R))
def bX4_close_164 (κ : Nat → Option Nat) (R : Ret AH) (J102 : Cont AH) : Cont AH :=
    o_iinc 1 1 <|
    (o_kill [2, 3] J102)
def bX4_close_127 (κ : Nat → Option Nat) (R : Ret AH) (J102 : Cont AH) : Cont AH :=
    fixC fun J127 =>
    o_il 3 <|
    o_ic 1 <|
    o_iadd <|
    o_al 2 <|
    o_call 1 (hvc [(19, pJ2_size κ)]) (fun _ a σ => R (.inr a) σ) <|
    o_icmp_ge (bX4_close_164 κ R J102) <|
    o_al 2 <|
    o_il 3 <|
    o_call 2 (hvc [(19, pJ2_get κ)]) (fun _ a σ => R (.inr a) σ) <|
    o_cast [7, 8, 9, 10, 11, 12, 13, 14] <|
    o_al 2 <|
    o_il 3 <|
    o_ic 1 <|
    o_iadd <|
    o_call 2 (hvc [(19, pJ2_get κ)]) (fun _ a σ => R (.inr a) σ) <|
    o_cast [7, 8, 9, 10, 11, 12, 13, 14] <|
    o_call 2 (hvc [(7, pX6_leadsTo κ), (8, pX6_leadsTo κ), (9, pX6_leadsTo κ), (10, pX6_leadsTo κ), (11, pX6_leadsTo κ), (12, pX6_leadsTo κ), (13, pX6_leadsTo κ), (14, pX6_leadsTo κ)]) (fun _ a σ => R (.inr a) σ) <|
    o_iinc 3 1 <|
    J127
def bX4_close_102 (κ : Nat → Option Nat) (R : Ret AH) : Cont AH :=
    fixC fun J102 =>
    o_il 1 <|
    o_al 0 <|
    o_gR 0 [4] <|
    o_call 1 (hvc [(19, pJ2_size κ)]) (fun _ a σ => R (.inr a) σ) <|
    o_icmp_ge (bX4_close_170 κ R) <|
    o_al 0 <|
    o_gR 0 [4] <|
    o_il 1 <|
    o_call 2 (hvc [(19, pJ2_get κ)]) (fun _ a σ => R (.inr a) σ) <|
    o_cast [19] <|
    o_as 2 <|
    o_ic 0 <|
    o_is 3 <|
    (bX4_close_127 κ R J102)
def bX4_close_89 (κ : Nat → Option Nat) (R : Ret AH) : Cont AH :=
    o_al 0 <|
    o_al 0 <|
    o_gR 1 [4] <|
    o_call 1 (hvc [(19, pJ2_size κ)]) (fun _ a σ => R (.inr a) σ) <|
    o_pI 4 [4] <|
    o_ic 0 <|
    o_is 1 <|
    (o_kill [2, 3] (bX4_close_102 κ R))
def bX4_close_83 (κ : Nat → Option Nat) (R : Ret AH) (J2 : Cont AH) : Cont AH :=
    o_iinc 1 1 <|
    (o_kill [2, 3] J2)
def bX4_close_15 (κ : Nat → Option Nat) (R : Ret AH) (J2 : Cont AH) : Cont AH :=
    fixC fun J15 =>
    o_il 2 <|
    o_al 0 <|
    o_gR 0 [4] <|
    o_il 1 <|
    o_call 2 (hvc [(19, pJ2_get κ)]) (fun _ a σ => R (.inr a) σ) <|
    o_cast [19] <|
    o_call 1 (hvc [(19, pJ2_size κ)]) (fun _ a σ => R (.inr a) σ) <|
    o_icmp_ge (bX4_close_83 κ R J2) <|
    o_al 0 <|
    o_gR 0 [4] <|
    o_il 1 <|
    o_call 2 (hvc [(19, pJ2_get κ)]) (fun _ a σ => R (.inr a) σ) <|
    o_cast [19] <|
    o_il 2 <|
    o_call 2 (hvc [(19, pJ2_get κ)]) (fun _ a σ => R (.inr a) σ) <|
    o_cast [7, 8, 9, 10, 11, 12, 13, 14] <|
    o_as 3 <|
    o_al 3 <|
    o_al 0 <|
    o_gR 1 [4] <|
    o_call 1 (hvc [(19, pJ2_size κ)]) (fun _ a σ => R (.inr a) σ) <|
    o_pI 0 [7, 8, 9, 10, 11, 12, 13, 14] <|
    o_al 3 <|
    o_il 1 <|
    o_pI 1 [7, 8, 9, 10, 11, 12, 13, 14] <|
    o_al 0 <|
    o_gR 1 [4] <|
    o_al 3 <|
    o_call 2 (hvc [(19, pJ2_add κ)]) (fun _ a σ => R (.inr a) σ) <|
    o_pop <|
    o_iinc 2 1 <|
    (o_kill [3] J15)
def bX4_close_2 (κ : Nat → Option Nat) (R : Ret AH) : Cont AH :=
    fixC fun J2 =>
    o_il 1 <|
    o_al 0 <|
    o_gR 0 [4] <|
    o_call 1 (hvc [(19, pJ2_size κ)]) (fun _ a σ => R (.inr a) σ) <|
    o_icmp_ge (bX4_close_89 κ R) <|
    o_ic 0 <|
    o_is 2 <|
    (o_kill [3] (bX4_close_15 κ R J2))
def bX4_close_0 (κ : Nat → Option Nat) (R : Ret AH) : Cont AH :=
    o_ic 0 <|
    o_is 1 <|
    (o_kill [2, 3] (bX4_close_2 κ R))
def pX4_close (κ : Nat → Option Nat) : PT AH := fun as σ Q => (lg_sl as).length ≤ 4 ∧ bX4_close_0 κ Q (entP 4 as) [] σ
theorem nX4_close : parN yX4_close 0 := by unfold parN; decide +kernel
set_option maxHeartbeats 4000000 in
theorem eX4_close (g : GC) : CT (wC g) yX4_close (Cond.code yX4_close cX4_close 4 none) 9 236 (pX4_close g.2.1) := by
  refine CT.of (wC_ok g) (cc := cX4_close) (nL := 4) (ret := none) (ht := []) (by decide +kernel) (Or.inl ⟨rfl, rfl⟩) (B := bX4_close_0 g.2.1) (fun R E X hE => ?_)
  have h273 : E (bX4_close_273 g.2.1 R) 273 := by
    unfold bX4_close_273
    exact si_return (pc := 273) hE dX4_close_273
  have h267 : ∀ (J229 : Cont AH) (hJ229 : E J229 229), E (bX4_close_267 g.2.1 R J229) 267 := by
    intro J229 hJ229
    unfold bX4_close_267
    refine si_iinc (pc := 267) hE dX4_close_267 (by decide) (by decide) ?_
    exact si_goto (pc := 270) hE dX4_close_270 (by decide) (si_kill hE hJ229)
  have h229 : E (bX4_close_229 g.2.1 R) 229 := by
    unfold bX4_close_229
    refine si_fix hE (fun J229 hJ229 => ?_)
    refine si_iload_n (pc := 229) hE dX4_close_229 rfl ?_
    refine si_aload_n (pc := 230) hE dX4_close_230 rfl ?_
    refine si_gR (pc := 231) hE dX4_close_231 (Or.inl q293) zfo_18 ?_
    refine si_hv (pc := 234) (n := 0) hE dX4_close_234 ⟨cal_V (recvO cls18) (eJ2_size g) (Or.inl ⟨rfl, rfl⟩) q501 q139 q999 q499 q500 ⟨by decide +kernel, by decide +kernel⟩ nJ2_size (by decide) (by decide), trivial⟩ (si_out hE rfl) ?_
    refine si_icmp_ge (pc := 237) hE dX4_close_237 (by decide) h273 ?_
    refine si_aload_n (pc := 240) hE dX4_close_240 rfl ?_
    refine si_gR (pc := 241) hE dX4_close_241 (Or.inl q293) zfo_18 ?_
    refine si_iload_n (pc := 244) hE dX4_close_244 rfl ?_
    refine si_hv (pc := 245) (n := 1) hE dX4_close_245 ⟨cal_V (recvO cls18) (eJ2_get g) (Or.inl ⟨rfl, rfl⟩) q980 q139 q998 q978 q979 ⟨by decide +kernel, by decide +kernel⟩ nJ2_get (by decide) (by decide), trivial⟩ (si_out hE rfl) ?_
    refine si_cast (pc := 248) hE dX4_close_248 q1029 zco_2 ?_
    refine si_astore_n (pc := 251) hE dX4_close_251 rfl (by decide) ?_
    refine si_aload_n (pc := 252) hE dX4_close_252 rfl ?_
    refine si_hv (pc := 253) (n := 0) hE dX4_close_253 ⟨cal_U (x := xm_4) (recvO cls6) (eX15_works g) (Or.inl ⟨rfl, rfl⟩) q1083 q165 q1073 q1075 (Or.inr ⟨_, _, _, q1074, q1086⟩) ⟨by decide +kernel, by decide +kernel⟩ q1081 q1082 xp_4 (by decide) (by decide), ⟨cal_V (recvO cls7) (eX6_works g) (Or.inl ⟨rfl, rfl⟩) q1086 q156 q1073 q1074 q1080 ⟨by decide +kernel, by decide +kernel⟩ nX6_works (by decide) (by decide), ⟨cal_V (recvO cls8) (eX6_works g) (Or.inl ⟨rfl, rfl⟩) q1086 q156 q1073 q1074 q1085 ⟨by decide +kernel, by decide +kernel⟩ nX6_works (by decide) (by decide), ⟨cal_V (recvO cls9) (eX6_works g) (Or.inl ⟨rfl, rfl⟩) q1086 q156 q1073 q1074 q1084 ⟨by decide +kernel, by decide +kernel⟩ nX6_works (by decide) (by decide), ⟨cal_V (recvO cls10) (eX6_works g) (Or.inl ⟨rfl, rfl⟩) q1086 q156 q1073 q1074 q1076 ⟨by decide +kernel, by decide +kernel⟩ nX6_works (by decide) (by decide), ⟨cal_V (recvO cls11) (eX6_works g) (Or.inl ⟨rfl, rfl⟩) q1086 q156 q1073 q1074 q1077 ⟨by decide +kernel, by decide +kernel⟩ nX6_works (by decide) (by decide), ⟨cal_V (recvO cls12) (eX6_works g) (Or.inl ⟨rfl, rfl⟩) q1086 q156 q1073 q1074 q1078 ⟨by decide +kernel, by decide +kernel⟩ nX6_works (by decide) (by decide), ⟨cal_V (recvO cls13) (eX6_works g) (Or.inl ⟨rfl, rfl⟩) q1086 q156 q1073 q1074 q1079 ⟨by decide +kernel, by decide +kernel⟩ nX6_works (by decide) (by decide), trivial⟩⟩⟩⟩⟩⟩⟩⟩ (si_out hE rfl) ?_
    refine si_ifnull (pc := 256) hE dX4_close_256 (by decide) (h267 J229 hJ229) ?_
    refine si_aload_n (pc := 259) hE dX4_close_259 rfl ?_
    refine si_aload_n (pc := 260) hE dX4_close_260 rfl ?_
    refine si_cast (pc := 261) hE dX4_close_261 q1087 zco_6 ?_
    refine si_hv (pc := 264) (n := 1) hE dX4_close_264 ⟨cal_V (recvO cls3) (eX4_number g) (Or.inl ⟨rfl, rfl⟩) q1091 q136 q1088 q1090 qs25 ⟨by decide +kernel, by decide +kernel⟩ nX4_number (by decide) (by decide), trivial⟩ (si_out hE rfl) ?_
    exact (h267 J229 hJ229)
  have h227 : E (bX4_close_227 g.2.1 R) 227 := by
    unfold bX4_close_227
    refine si_iconst (pc := 227) hE dX4_close_227 (by decide) ?_
    refine si_istore_n (pc := 228) hE dX4_close_228 rfl (by decide) ?_
    exact (si_kill hE h229)
  have h221 : ∀ (J172 : Cont AH) (hJ172 : E J172 172), E (bX4_close_221 g.2.1 R J172) 221 := by
    intro J172 hJ172
    unfold bX4_close_221
    refine si_iinc (pc := 221) hE dX4_close_221 (by decide) (by decide) ?_
    exact si_goto (pc := 224) hE dX4_close_224 (by decide) (si_kill hE hJ172)
  have h185 : ∀ (J172 : Cont AH) (hJ172 : E J172 172), E (bX4_close_185 g.2.1 R J172) 185 := by
    intro J172 hJ172
    unfold bX4_close_185
    refine si_fix hE (fun J185 hJ185 => ?_)
    refine si_iload_n (pc := 185) hE dX4_close_185 rfl ?_
    refine si_aload_n (pc := 186) hE dX4_close_186 rfl ?_
    refine si_iload_n (pc := 187) hE dX4_close_187 rfl ?_
    refine si_hv (pc := 188) (n := 1) hE dX4_close_188 ⟨cal_V (recvO cls3) (eX4_end g) (Or.inl ⟨rfl, rfl⟩) q997 q136 q1044 q995 q996 ⟨by decide +kernel, by decide +kernel⟩ nX4_end (by decide) (by decide), trivial⟩ (si_out hE rfl) ?_
    refine si_hv (pc := 191) (n := 0) hE dX4_close_191 ⟨cal_U (x := xm_0) (recvO cls10) (eX11_ways g) (Or.inl ⟨rfl, rfl⟩) q1006 q161 q1045 q1003 (Or.inl q1002) ⟨by decide +kernel, by decide +kernel⟩ q1004 q1005 xp_0 (by decide) (by decide), ⟨cal_U (x := xm_0) (recvO cls11) (eX12_ways g) (Or.inl ⟨rfl, rfl⟩) q1009 q162 q1045 q1003 (Or.inl q1002) ⟨by decide +kernel, by decide +kernel⟩ q1007 q1008 xp_0 (by decide) (by decide), ⟨cal_U (x := xm_0) (recvO cls12) (eX10_ways g) (Or.inl ⟨rfl, rfl⟩) q1012 q160 q1045 q1003 (Or.inl q1002) ⟨by decide +kernel, by decide +kernel⟩ q1010 q1011 xp_0 (by decide) (by decide), trivial⟩⟩⟩ (si_out hE rfl) ?_
    refine si_icmp_ge (pc := 194) hE dX4_close_194 (by decide) (h221 J172 hJ172) ?_
    refine si_aload_n (pc := 197) hE dX4_close_197 rfl ?_
    refine si_aload_n (pc := 198) hE dX4_close_198 rfl ?_
    refine si_iload_n (pc := 199) hE dX4_close_199 rfl ?_
    refine si_hv (pc := 200) (n := 1) hE dX4_close_200 ⟨cal_V (recvO cls3) (eX4_end g) (Or.inl ⟨rfl, rfl⟩) q997 q136 q1044 q995 q996 ⟨by decide +kernel, by decide +kernel⟩ nX4_end (by decide) (by decide), trivial⟩ (si_out hE rfl) ?_
    refine si_aload_n (pc := 203) hE dX4_close_203 rfl ?_
    refine si_iload_n (pc := 204) hE dX4_close_204 rfl ?_
    refine si_hv (pc := 205) (n := 1) hE dX4_close_205 ⟨cal_V (recvO cls3) (eX4_end g) (Or.inl ⟨rfl, rfl⟩) q997 q136 q1044 q995 q996 ⟨by decide +kernel, by decide +kernel⟩ nX4_end (by decide) (by decide), trivial⟩ (si_out hE rfl) ?_
    refine si_iload_n (pc := 208) hE dX4_close_208 rfl ?_
    refine si_hv (pc := 209) (n := 1) hE dX4_close_209 ⟨cal_U (x := xm_1) (recvO cls10) (eX11_way g) (Or.inl ⟨rfl, rfl⟩) q1018 q161 q1046 q1015 (Or.inl q1014) ⟨by decide +kernel, by decide +kernel⟩ q1016 q1017 xp_1 (by decide) (by decide), ⟨cal_U (x := xm_1) (recvO cls11) (eX12_way g) (Or.inl ⟨rfl, rfl⟩) q1021 q162 q1046 q1015 (Or.inl q1014) ⟨by decide +kernel, by decide +kernel⟩ q1019 q1020 xp_1 (by decide) (by decide), ⟨cal_U (x := xm_1) (recvO cls12) (eX10_way g) (Or.inl ⟨rfl, rfl⟩) q1024 q160 q1046 q1015 (Or.inl q1014) ⟨by decide +kernel, by decide +kernel⟩ q1022 q1023 xp_1 (by decide) (by decide), trivial⟩⟩⟩ (si_out hE rfl) ?_
    refine si_hv (pc := 212) (n := 2) hE dX4_close_212 ⟨cal_V (recvO cls3) (eX4_joins g) (Or.inl ⟨rfl, rfl⟩) q1050 q136 q1047 q1049 qs23 ⟨by decide +kernel, by decide +kernel⟩ nX4_joins (by decide) (by decide), trivial⟩ (si_out hE rfl) ?_
    refine si_iinc (pc := 215) hE dX4_close_215 (by decide) (by decide) ?_
    exact si_goto (pc := 218) hE dX4_close_218 (by decide) (si_kill hE hJ185)
  have h172 : E (bX4_close_172 g.2.1 R) 172 := by
    unfold bX4_close_172
    refine si_fix hE (fun J172 hJ172 => ?_)
    refine si_iload_n (pc := 172) hE dX4_close_172 rfl ?_
    refine si_aload_n (pc := 173) hE dX4_close_173 rfl ?_
    refine si_gR (pc := 174) hE dX4_close_174 (Or.inl q289) zfo_17 ?_
    refine si_hv (pc := 177) (n := 0) hE dX4_close_177 ⟨cal_V (recvO cls18) (eJ2_size g) (Or.inl ⟨rfl, rfl⟩) q501 q139 q999 q499 q500 ⟨by decide +kernel, by decide +kernel⟩ nJ2_size (by decide) (by decide), trivial⟩ (si_out hE rfl) ?_
    refine si_icmp_ge (pc := 180) hE dX4_close_180 (by decide) h227 ?_
    refine si_iconst (pc := 183) hE dX4_close_183 (by decide) ?_
    refine si_istore_n (pc := 184) hE dX4_close_184 rfl (by decide) ?_
    exact (si_kill hE (h185 J172 hJ172))
  have h170 : E (bX4_close_170 g.2.1 R) 170 := by
    unfold bX4_close_170
    refine si_iconst (pc := 170) hE dX4_close_170 (by decide) ?_
    refine si_istore_n (pc := 171) hE dX4_close_171 rfl (by decide) ?_
    exact (si_kill hE h172)
  have h164 : ∀ (J102 : Cont AH) (hJ102 : E J102 102), E (bX4_close_164 g.2.1 R J102) 164 := by
    intro J102 hJ102
    unfold bX4_close_164
    refine si_iinc (pc := 164) hE dX4_close_164 (by decide) (by decide) ?_
    exact si_goto (pc := 167) hE dX4_close_167 (by decide) (si_kill hE hJ102)
  have h127 : ∀ (J102 : Cont AH) (hJ102 : E J102 102), E (bX4_close_127 g.2.1 R J102) 127 := by
    intro J102 hJ102
    unfold bX4_close_127
    refine si_fix hE (fun J127 hJ127 => ?_)
    refine si_iload_n (pc := 127) hE dX4_close_127 rfl ?_
    refine si_iconst (pc := 128) hE dX4_close_128 (by decide) ?_
    refine si_iadd (pc := 129) hE dX4_close_129 ?_
    refine si_aload_n (pc := 130) hE dX4_close_130 rfl ?_
    refine si_hv (pc := 131) (n := 0) hE dX4_close_131 ⟨cal_V (recvO cls18) (eJ2_size g) (Or.inl ⟨rfl, rfl⟩) q501 q139 q999 q499 q500 ⟨by decide +kernel, by decide +kernel⟩ nJ2_size (by decide) (by decide), trivial⟩ (si_out hE rfl) ?_
    refine si_icmp_ge (pc := 134) hE dX4_close_134 (by decide) (h164 J102 hJ102) ?_
    refine si_aload_n (pc := 137) hE dX4_close_137 rfl ?_
    refine si_iload_n (pc := 138) hE dX4_close_138 rfl ?_
    refine si_hv (pc := 139) (n := 1) hE dX4_close_139 ⟨cal_V (recvO cls18) (eJ2_get g) (Or.inl ⟨rfl, rfl⟩) q980 q139 q998 q978 q979 ⟨by decide +kernel, by decide +kernel⟩ nJ2_get (by decide) (by decide), trivial⟩ (si_out hE rfl) ?_
    refine si_cast (pc := 142) hE dX4_close_142 q1029 zco_2 ?_
    refine si_aload_n (pc := 145) hE dX4_close_145 rfl ?_
    refine si_iload_n (pc := 146) hE dX4_close_146 rfl ?_
    refine si_iconst (pc := 147) hE dX4_close_147 (by decide) ?_
    refine si_iadd (pc := 148) hE dX4_close_148 ?_
    refine si_hv (pc := 149) (n := 1) hE dX4_close_149 ⟨cal_V (recvO cls18) (eJ2_get g) (Or.inl ⟨rfl, rfl⟩) q980 q139 q998 q978 q979 ⟨by decide +kernel, by decide +kernel⟩ nJ2_get (by decide) (by decide), trivial⟩ (si_out hE rfl) ?_
    refine si_cast (pc := 152) hE dX4_close_152 q1029 zco_2 ?_
    refine si_hv (pc := 155) (n := 1) hE dX4_close_155 ⟨cal_V (recvO cls6) (eX6_leadsTo g) (Or.inl ⟨rfl, rfl⟩) q1042 q156 q1031 q1032 q1039 ⟨by decide +kernel, by decide +kernel⟩ nX6_leadsTo (by decide) (by decide), ⟨cal_V (recvO cls7) (eX6_leadsTo g) (Or.inl ⟨rfl, rfl⟩) q1042 q156 q1031 q1032 q1038 ⟨by decide +kernel, by decide +kernel⟩ nX6_leadsTo (by decide) (by decide), ⟨cal_V (recvO cls8) (eX6_leadsTo g) (Or.inl ⟨rfl, rfl⟩) q1042 q156 q1031 q1032 q1041 ⟨by decide +kernel, by decide +kernel⟩ nX6_leadsTo (by decide) (by decide), ⟨cal_V (recvO cls9) (eX6_leadsTo g) (Or.inl ⟨rfl, rfl⟩) q1042 q156 q1031 q1032 q1040 ⟨by decide +kernel, by decide +kernel⟩ nX6_leadsTo (by decide) (by decide), ⟨cal_V (recvO cls10) (eX6_leadsTo g) (Or.inl ⟨rfl, rfl⟩) q1042 q156 q1031 q1032 q1034 ⟨by decide +kernel, by decide +kernel⟩ nX6_leadsTo (by decide) (by decide), ⟨cal_V (recvO cls11) (eX6_leadsTo g) (Or.inl ⟨rfl, rfl⟩) q1042 q156 q1031 q1032 q1035 ⟨by decide +kernel, by decide +kernel⟩ nX6_leadsTo (by decide) (by decide), ⟨cal_V (recvO cls12) (eX6_leadsTo g) (Or.inl ⟨rfl, rfl⟩) q1042 q156 q1031 q1032 q1036 ⟨by decide +kernel, by decide +kernel⟩ nX6_leadsTo (by decide) (by decide), ⟨cal_V (recvO cls13) (eX6_leadsTo g) (Or.inl ⟨rfl, rfl⟩) q1042 q156 q1031 q1032 q1037 ⟨by decide +kernel, by decide +kernel⟩ nX6_leadsTo (by decide) (by decide), trivial⟩⟩⟩⟩⟩⟩⟩⟩ (si_out hE rfl) ?_
    refine si_iinc (pc := 158) hE dX4_close_158 (by decide) (by decide) ?_
    exact si_goto (pc := 161) hE dX4_close_161 (by decide) hJ127
  have h102 : E (bX4_close_102 g.2.1 R) 102 := by
    unfold bX4_close_102
    refine si_fix hE (fun J102 hJ102 => ?_)
    refine si_iload_n (pc := 102) hE dX4_close_102 rfl ?_
    refine si_aload_n (pc := 103) hE dX4_close_103 rfl ?_
    refine si_gR (pc := 104) hE dX4_close_104 (Or.inl q289) zfo_17 ?_
    refine si_hv (pc := 107) (n := 0) hE dX4_close_107 ⟨cal_V (recvO cls18) (eJ2_size g) (Or.inl ⟨rfl, rfl⟩) q501 q139 q999 q499 q500 ⟨by decide +kernel, by decide +kernel⟩ nJ2_size (by decide) (by decide), trivial⟩ (si_out hE rfl) ?_
    refine si_icmp_ge (pc := 110) hE dX4_close_110 (by decide) h170 ?_
    refine si_aload_n (pc := 113) hE dX4_close_113 rfl ?_
    refine si_gR (pc := 114) hE dX4_close_114 (Or.inl q289) zfo_17 ?_
    refine si_iload_n (pc := 117) hE dX4_close_117 rfl ?_
    refine si_hv (pc := 118) (n := 1) hE dX4_close_118 ⟨cal_V (recvO cls18) (eJ2_get g) (Or.inl ⟨rfl, rfl⟩) q980 q139 q998 q978 q979 ⟨by decide +kernel, by decide +kernel⟩ nJ2_get (by decide) (by decide), trivial⟩ (si_out hE rfl) ?_
    refine si_cast (pc := 121) hE dX4_close_121 q263 zco_1 ?_
    refine si_astore_n (pc := 124) hE dX4_close_124 rfl (by decide) ?_
    refine si_iconst (pc := 125) hE dX4_close_125 (by decide) ?_
    refine si_istore_n (pc := 126) hE dX4_close_126 rfl (by decide) ?_
    exact (h127 J102 hJ102)
  have h89 : E (bX4_close_89 g.2.1 R) 89 := by
    unfold bX4_close_89
    refine si_aload_n (pc := 89) hE dX4_close_89 rfl ?_
    refine si_aload_n (pc := 90) hE dX4_close_90 rfl ?_
    refine si_gR (pc := 91) hE dX4_close_91 (Or.inl q293) zfo_18 ?_
    refine si_hv (pc := 94) (n := 0) hE dX4_close_94 ⟨cal_V (recvO cls18) (eJ2_size g) (Or.inl ⟨rfl, rfl⟩) q501 q139 q999 q499 q500 ⟨by decide +kernel, by decide +kernel⟩ nJ2_size (by decide) (by decide), trivial⟩ (si_out hE rfl) ?_
    refine si_pI (pc := 97) hE dX4_close_97 (Or.inl q303) zfo_54 ?_
    refine si_iconst (pc := 100) hE dX4_close_100 (by decide) ?_
    refine si_istore_n (pc := 101) hE dX4_close_101 rfl (by decide) ?_
    exact (si_kill hE h102)
  have h83 : ∀ (J2 : Cont AH) (hJ2 : E J2 2), E (bX4_close_83 g.2.1 R J2) 83 := by
    intro J2 hJ2
    unfold bX4_close_83
    refine si_iinc (pc := 83) hE dX4_close_83 (by decide) (by decide) ?_
    exact si_goto (pc := 86) hE dX4_close_86 (by decide) (si_kill hE hJ2)
  have h15 : ∀ (J2 : Cont AH) (hJ2 : E J2 2), E (bX4_close_15 g.2.1 R J2) 15 := by
    intro J2 hJ2
    unfold bX4_close_15
    refine si_fix hE (fun J15 hJ15 => ?_)
    refine si_iload_n (pc := 15) hE dX4_close_15 rfl ?_
    refine si_aload_n (pc := 16) hE dX4_close_16 rfl ?_
    refine si_gR (pc := 17) hE dX4_close_17 (Or.inl q289) zfo_17 ?_
    refine si_iload_n (pc := 20) hE dX4_close_20 rfl ?_
    refine si_hv (pc := 21) (n := 1) hE dX4_close_21 ⟨cal_V (recvO cls18) (eJ2_get g) (Or.inl ⟨rfl, rfl⟩) q980 q139 q998 q978 q979 ⟨by decide +kernel, by decide +kernel⟩ nJ2_get (by decide) (by decide), trivial⟩ (si_out hE rfl) ?_
    refine si_cast (pc := 24) hE dX4_close_24 q263 zco_1 ?_
    refine si_hv (pc := 27) (n := 0) hE dX4_close_27 ⟨cal_V (recvO cls18) (eJ2_size g) (Or.inl ⟨rfl, rfl⟩) q501 q139 q999 q499 q500 ⟨by decide +kernel, by decide +kernel⟩ nJ2_size (by decide) (by decide), trivial⟩ (si_out hE rfl) ?_
    refine si_icmp_ge (pc := 30) hE dX4_close_30 (by decide) (h83 J2 hJ2) ?_
    refine si_aload_n (pc := 33) hE dX4_close_33 rfl ?_
    refine si_gR (pc := 34) hE dX4_close_34 (Or.inl q289) zfo_17 ?_
    refine si_iload_n (pc := 37) hE dX4_close_37 rfl ?_
    refine si_hv (pc := 38) (n := 1) hE dX4_close_38 ⟨cal_V (recvO cls18) (eJ2_get g) (Or.inl ⟨rfl, rfl⟩) q980 q139 q998 q978 q979 ⟨by decide +kernel, by decide +kernel⟩ nJ2_get (by decide) (by decide), trivial⟩ (si_out hE rfl) ?_
    refine si_cast (pc := 41) hE dX4_close_41 q263 zco_1 ?_
    refine si_iload_n (pc := 44) hE dX4_close_44 rfl ?_
    refine si_hv (pc := 45) (n := 1) hE dX4_close_45 ⟨cal_V (recvO cls18) (eJ2_get g) (Or.inl ⟨rfl, rfl⟩) q980 q139 q998 q978 q979 ⟨by decide +kernel, by decide +kernel⟩ nJ2_get (by decide) (by decide), trivial⟩ (si_out hE rfl) ?_
    refine si_cast (pc := 48) hE dX4_close_48 q1029 zco_2 ?_
    refine si_astore_n (pc := 51) hE dX4_close_51 rfl (by decide) ?_
    refine si_aload_n (pc := 52) hE dX4_close_52 rfl ?_
    refine si_aload_n (pc := 53) hE dX4_close_53 rfl ?_
    refine si_gR (pc := 54) hE dX4_close_54 (Or.inl q293) zfo_18 ?_
    refine si_hv (pc := 57) (n := 0) hE dX4_close_57 ⟨cal_V (recvO cls18) (eJ2_size g) (Or.inl ⟨rfl, rfl⟩) q501 q139 q999 q499 q500 ⟨by decide +kernel, by decide +kernel⟩ nJ2_size (by decide) (by decide), trivial⟩ (si_out hE rfl) ?_
    refine si_pI (pc := 60) hE dX4_close_60 (Or.inr ⟨_, q750⟩) zfo_55 ?_
    refine si_aload_n (pc := 63) hE dX4_close_63 rfl ?_
    refine si_iload_n (pc := 64) hE dX4_close_64 rfl ?_
    refine si_pI (pc := 65) hE dX4_close_65 (Or.inr ⟨_, q754⟩) zfo_56 ?_
    refine si_aload_n (pc := 68) hE dX4_close_68 rfl ?_
    refine si_gR (pc := 69) hE dX4_close_69 (Or.inl q293) zfo_18 ?_
    refine si_aload_n (pc := 72) hE dX4_close_72 rfl ?_
    refine si_hv (pc := 73) (n := 1) hE dX4_close_73 ⟨cal_V (recvO cls18) (eJ2_add g) (Or.inl ⟨rfl, rfl⟩) q606 q139 q1030 q604 q605 ⟨by decide +kernel, by decide +kernel⟩ nJ2_add (by decide) (by decide), trivial⟩ (si_out hE rfl) ?_
    refine si_pop (pc := 76) hE dX4_close_76 ?_
    refine si_iinc (pc := 77) hE dX4_close_77 (by decide) (by decide) ?_
    exact si_goto (pc := 80) hE dX4_close_80 (by decide) (si_kill hE hJ15)
  have h2 : E (bX4_close_2 g.2.1 R) 2 := by
    unfold bX4_close_2
    refine si_fix hE (fun J2 hJ2 => ?_)
    refine si_iload_n (pc := 2) hE dX4_close_2 rfl ?_
    refine si_aload_n (pc := 3) hE dX4_close_3 rfl ?_
    refine si_gR (pc := 4) hE dX4_close_4 (Or.inl q289) zfo_17 ?_
    refine si_hv (pc := 7) (n := 0) hE dX4_close_7 ⟨cal_V (recvO cls18) (eJ2_size g) (Or.inl ⟨rfl, rfl⟩) q501 q139 q999 q499 q500 ⟨by decide +kernel, by decide +kernel⟩ nJ2_size (by decide) (by decide), trivial⟩ (si_out hE rfl) ?_
    refine si_icmp_ge (pc := 10) hE dX4_close_10 (by decide) h89 ?_
    refine si_iconst (pc := 13) hE dX4_close_13 (by decide) ?_
    refine si_istore_n (pc := 14) hE dX4_close_14 rfl (by decide) ?_
    exact (si_kill hE (h15 J2 hJ2))
  have h0 : E (bX4_close_0 g.2.1 R) 0 := by
    unfold bX4_close_0
    refine si_iconst (pc := 0) hE dX4_close_0 (by decide) ?_
    refine si_istore_n (pc := 1) hE dX4_close_1 rfl (by decide) ?_
    exact (si_kill hE h2)
  exact h0
def bX3_read_4 (κ : Nat → Option Nat) (R : Ret AH) : Cont AH :=
    fixC fun J4 =>
    o_al 0 <|
    o_call 1 (hvc [(3, pX3_block κ)]) (fun _ a σ => R (.inr a) σ) <|
    o_al 0 <|
    o_gI 1 [3] <|
    o_if_ne J4 <|
    o_al 0 <|
    o_call 1 (hvc [(3, pX3_check κ)]) (fun _ a σ => R (.inr a) σ) <|
    o_al 0 <|
    o_gR 0 [3] <|
    o_call 1 (hvc [(4, pX4_close κ)]) (fun _ a σ => R (.inr a) σ) <|
    o_al 0 <|
    o_gR 0 [3] <|
    o_areturn R
def bX3_read_0 (κ : Nat → Option Nat) (R : Ret AH) : Cont AH :=
    o_al 0 <|
    o_call 1 (hvc [(3, pX3_next κ)]) (fun _ a σ => R (.inr a) σ) <|
    (bX3_read_4 κ R)
def pX3_read (κ : Nat → Option Nat) : PT AH := fun as σ Q => (lg_sl as).length ≤ 1 ∧ bX3_read_0 κ Q (entP 1 as) [] σ
theorem nX3_read : parN yX3_read 0 := by unfold parN; decide +kernel
set_option maxHeartbeats 4000000 in
theorem eX3_read (g : GC) : CT (wC g) yX3_read (Cond.code yX3_read cX3_read 1 (some (.object "LateAndEarly$Routine"))) 11 281 (pX3_read g.2.1) := by
  refine CT.of (wC_ok g) (cc := cX3_read) (nL := 1) (ret := (some (.object "LateAndEarly$Routine"))) (ht := []) (by decide +kernel) (Or.inl ⟨rfl, rfl⟩) (B := bX3_read_0 g.2.1) (fun R E X hE => ?_)
  have h4 : E (bX3_read_4 g.2.1 R) 4 := by
    unfold bX3_read_4
    refine si_fix hE (fun J4 hJ4 => ?_)
    refine si_aload_n (pc := 4) hE dX3_read_4 rfl ?_
    refine si_hv (pc := 5) (n := 0) hE dX3_read_5 ⟨cal_V (recvO cls2) (eX3_block g) (Or.inl ⟨rfl, rfl⟩) q497 q135 q494 q496 qs5 ⟨by decide +kernel, by decide +kernel⟩ nX3_block (by decide) (by decide), trivial⟩ (si_out hE rfl) ?_
    refine si_aload_n (pc := 8) hE dX3_read_8 rfl ?_
    refine si_gI (pc := 9) hE dX3_read_9 (Or.inl q356) zfo_28 ?_
    refine si_if_ne (pc := 12) hE dX3_read_12 (by decide) hJ4 ?_
    refine si_aload_n (pc := 15) hE dX3_read_15 rfl ?_
    refine si_hv (pc := 16) (n := 0) hE dX3_read_16 ⟨cal_V (recvO cls2) (eX3_check g) (Or.inl ⟨rfl, rfl⟩) q976 q135 q973 q975 qs22 ⟨by decide +kernel, by decide +kernel⟩ nX3_check (by decide) (by decide), trivial⟩ (si_out hE rfl) ?_
    refine si_aload_n (pc := 19) hE dX3_read_19 rfl ?_
    refine si_gR (pc := 20) hE dX3_read_20 (Or.inl q355) zfo_22 ?_
    refine si_hv (pc := 23) (n := 0) hE dX3_read_23 ⟨cal_V (recvO cls3) (eX4_close g) (Or.inl ⟨rfl, rfl⟩) q1028 q136 q1025 q1026 q1027 ⟨by decide +kernel, by decide +kernel⟩ nX4_close (by decide) (by decide), trivial⟩ (si_out hE rfl) ?_
    refine si_aload_n (pc := 26) hE dX3_read_26 rfl ?_
    refine si_gR (pc := 27) hE dX3_read_27 (Or.inl q355) zfo_22 ?_
    exact si_areturn (pc := 30) hE (Or.inl ⟨_, rfl⟩) dX3_read_30
  have h0 : E (bX3_read_0 g.2.1 R) 0 := by
    unfold bX3_read_0
    refine si_aload_n (pc := 0) hE dX3_read_0 rfl ?_
    refine si_hv (pc := 1) (n := 0) hE dX3_read_1 ⟨cal_V (recvO cls2) (eX3_next g) (Or.inl ⟨rfl, rfl⟩) q390 q135 q387 q389 qs0 ⟨by decide +kernel, by decide +kernel⟩ nX3_next (by decide) (by decide), trivial⟩ (si_out hE rfl) ?_
    exact h4
  exact h0
def bX14_sets_0 (κ : Nat → Option Nat) (R : Ret AH) : Cont AH :=
    o_al 0 <|
    o_gI 4 [7, 8] <|
    o_ireturn R
def pX14_sets (κ : Nat → Option Nat) : PT AH := fun as σ Q => (lg_sl as).length ≤ 1 ∧ bX14_sets_0 κ Q (entP 1 as) [] σ
theorem nX14_sets : parN yX14_sets 0 := by unfold parN; decide +kernel
set_option maxHeartbeats 4000000 in
theorem eX14_sets (g : GC) : CT (wC g) yX14_sets (Cond.code yX14_sets cX14_sets 1 (some .int)) 0 0 (pX14_sets g.2.1) := by
  refine CT.of (wC_ok g) (cc := cX14_sets) (nL := 1) (ret := (some .int)) (ht := []) (by decide +kernel) (Or.inl ⟨rfl, rfl⟩) (B := bX14_sets_0 g.2.1) (fun R E X hE => ?_)
  have h0 : E (bX14_sets_0 g.2.1 R) 0 := by
    unfold bX14_sets_0
    refine si_aload_n (pc := 0) hE dX14_sets_0 rfl ?_
    refine si_gI (pc := 1) hE dX14_sets_1 (Or.inl q920) zfo_48 ?_
    exact si_ireturn (pc := 4) hE dX14_sets_4
  exact h0
def bX6_sets_0 (κ : Nat → Option Nat) (R : Ret AH) : Cont AH :=
    o_ic (-1) <|
    o_ireturn R
def pX6_sets (κ : Nat → Option Nat) : PT AH := fun as σ Q => (lg_sl as).length ≤ 1 ∧ bX6_sets_0 κ Q (entP 1 as) [] σ
theorem nX6_sets : parN yX6_sets 0 := by unfold parN; decide +kernel
set_option maxHeartbeats 4000000 in
theorem eX6_sets (g : GC) : CT (wC g) yX6_sets (Cond.code yX6_sets cX6_sets 1 (some .int)) 0 0 (pX6_sets g.2.1) := by
  refine CT.of (wC_ok g) (cc := cX6_sets) (nL := 1) (ret := (some .int)) (ht := []) (by decide +kernel) (Or.inl ⟨rfl, rfl⟩) (B := bX6_sets_0 g.2.1) (fun R E X hE => ?_)
  have h0 : E (bX6_sets_0 g.2.1 R) 0 := by
    unfold bX6_sets_0
    refine si_iconst (pc := 0) hE dX6_sets_0 (by decide) ?_
    exact si_ireturn (pc := 1) hE dX6_sets_1
  exact h0
def bX19_first_0 (κ : Nat → Option Nat) (R : Ret AH) : Cont AH :=
    o_al 0 <|
    o_gR 2 [15] <|
    o_areturn R
def pX19_first (κ : Nat → Option Nat) : PT AH := fun as σ Q => (lg_sl as).length ≤ 1 ∧ bX19_first_0 κ Q (entP 1 as) [] σ
theorem nX19_first : parN yX19_first 0 := by unfold parN; decide +kernel
set_option maxHeartbeats 4000000 in
theorem eX19_first (g : GC) : CT (wC g) yX19_first (Cond.code yX19_first cX19_first 1 (some (.object "LateAndEarly$Operand"))) 0 0 (pX19_first g.2.1) := by
  refine CT.of (wC_ok g) (cc := cX19_first) (nL := 1) (ret := (some (.object "LateAndEarly$Operand"))) (ht := []) (by decide +kernel) (Or.inl ⟨rfl, rfl⟩) (B := bX19_first_0 g.2.1) (fun R E X hE => ?_)
  have h0 : E (bX19_first_0 g.2.1 R) 0 := by
    unfold bX19_first_0
    refine si_aload_n (pc := 0) hE dX19_first_0 rfl ?_
    refine si_gR (pc := 1) hE dX19_first_1 (Or.inl q962) zfo_52 ?_
    exact si_areturn (pc := 4) hE (Or.inl ⟨_, rfl⟩) dX19_first_4
  exact h0
def bX17_first_0 (κ : Nat → Option Nat) (R : Ret AH) : Cont AH :=
    o_null <|
    o_areturn R
def pX17_first (κ : Nat → Option Nat) : PT AH := fun as σ Q => (lg_sl as).length ≤ 1 ∧ bX17_first_0 κ Q (entP 1 as) [] σ
theorem nX17_first : parN yX17_first 0 := by unfold parN; decide +kernel
set_option maxHeartbeats 4000000 in
theorem eX17_first (g : GC) : CT (wC g) yX17_first (Cond.code yX17_first cX17_first 1 (some (.object "LateAndEarly$Operand"))) 0 0 (pX17_first g.2.1) := by
  refine CT.of (wC_ok g) (cc := cX17_first) (nL := 1) (ret := (some (.object "LateAndEarly$Operand"))) (ht := []) (by decide +kernel) (Or.inl ⟨rfl, rfl⟩) (B := bX17_first_0 g.2.1) (fun R E X hE => ?_)
  have h0 : E (bX17_first_0 g.2.1 R) 0 := by
    unfold bX17_first_0
    refine si_null (pc := 0) hE dX17_first_0 ?_
    exact si_areturn (pc := 1) hE (Or.inl ⟨_, rfl⟩) dX17_first_1
  exact h0
def bX8_isName_20 (κ : Nat → Option Nat) (R : Ret AH) : Cont AH :=
    o_zreturn R
def bX8_isName_19 (κ : Nat → Option Nat) (R : Ret AH) : Cont AH :=
    o_ic 0 <|
    (bX8_isName_20 κ R)
def bX8_isName_0 (κ : Nat → Option Nat) (R : Ret AH) : Cont AH :=
    o_al 0 <|
    o_gI 0 [17] <|
    o_if_eq (bX8_isName_19 κ R) <|
    o_al 0 <|
    o_gI 1 [17] <|
    o_il 1 <|
    o_icmp_ne (bX8_isName_19 κ R) <|
    o_ic 1 <|
    (bX8_isName_20 κ R)
def pX8_isName (κ : Nat → Option Nat) : PT AH := fun as σ Q => (lg_sl as).length ≤ 2 ∧ bX8_isName_0 κ Q (entP 2 as) [] σ
theorem nX8_isName : parN yX8_isName 1 := by unfold parN; decide +kernel
set_option maxHeartbeats 4000000 in
theorem eX8_isName (g : GC) : CT (wC g) yX8_isName (Cond.code yX8_isName cX8_isName 2 (some .boolean)) 0 0 (pX8_isName g.2.1) := by
  refine CT.of (wC_ok g) (cc := cX8_isName) (nL := 2) (ret := (some .boolean)) (ht := []) (by decide +kernel) (Or.inl ⟨rfl, rfl⟩) (B := bX8_isName_0 g.2.1) (fun R E X hE => ?_)
  have h20 : E (bX8_isName_20 g.2.1 R) 20 := by
    unfold bX8_isName_20
    exact si_zreturn (pc := 20) hE dX8_isName_20
  have h19 : E (bX8_isName_19 g.2.1 R) 19 := by
    unfold bX8_isName_19
    refine si_iconst (pc := 19) hE dX8_isName_19 (by decide) ?_
    exact h20
  have h0 : E (bX8_isName_0 g.2.1 R) 0 := by
    unfold bX8_isName_0
    refine si_aload_n (pc := 0) hE dX8_isName_0 rfl ?_
    refine si_gI (pc := 1) hE dX8_isName_1 (Or.inl q724) zfo_32 ?_
    refine si_if_eq (pc := 4) hE dX8_isName_4 (by decide) h19 ?_
    refine si_aload_n (pc := 7) hE dX8_isName_7 rfl ?_
    refine si_gI (pc := 8) hE dX8_isName_8 (Or.inl q728) zfo_33 ?_
    refine si_iload_n (pc := 11) hE dX8_isName_11 rfl ?_
    refine si_icmp_ne (pc := 12) hE dX8_isName_12 (by decide) h19 ?_
    refine si_iconst (pc := 15) hE dX8_isName_15 (by decide) ?_
    exact si_goto (pc := 16) hE dX8_isName_16 (by decide) h20
  exact h0
def bX19_second_0 (κ : Nat → Option Nat) (R : Ret AH) : Cont AH :=
    o_al 0 <|
    o_gR 3 [15] <|
    o_areturn R
def pX19_second (κ : Nat → Option Nat) : PT AH := fun as σ Q => (lg_sl as).length ≤ 1 ∧ bX19_second_0 κ Q (entP 1 as) [] σ
theorem nX19_second : parN yX19_second 0 := by unfold parN; decide +kernel
set_option maxHeartbeats 4000000 in
theorem eX19_second (g : GC) : CT (wC g) yX19_second (Cond.code yX19_second cX19_second 1 (some (.object "LateAndEarly$Operand"))) 0 0 (pX19_second g.2.1) := by
  refine CT.of (wC_ok g) (cc := cX19_second) (nL := 1) (ret := (some (.object "LateAndEarly$Operand"))) (ht := []) (by decide +kernel) (Or.inl ⟨rfl, rfl⟩) (B := bX19_second_0 g.2.1) (fun R E X hE => ?_)
  have h0 : E (bX19_second_0 g.2.1 R) 0 := by
    unfold bX19_second_0
    refine si_aload_n (pc := 0) hE dX19_second_0 rfl ?_
    refine si_gR (pc := 1) hE dX19_second_1 (Or.inl q963) zfo_53 ?_
    exact si_areturn (pc := 4) hE (Or.inl ⟨_, rfl⟩) dX19_second_4
  exact h0
def bX17_second_0 (κ : Nat → Option Nat) (R : Ret AH) : Cont AH :=
    o_al 0 <|
    o_gR 2 [16] <|
    o_areturn R
def pX17_second (κ : Nat → Option Nat) : PT AH := fun as σ Q => (lg_sl as).length ≤ 1 ∧ bX17_second_0 κ Q (entP 1 as) [] σ
theorem nX17_second : parN yX17_second 0 := by unfold parN; decide +kernel
set_option maxHeartbeats 4000000 in
theorem eX17_second (g : GC) : CT (wC g) yX17_second (Cond.code yX17_second cX17_second 1 (some (.object "LateAndEarly$Operand"))) 0 0 (pX17_second g.2.1) := by
  refine CT.of (wC_ok g) (cc := cX17_second) (nL := 1) (ret := (some (.object "LateAndEarly$Operand"))) (ht := []) (by decide +kernel) (Or.inl ⟨rfl, rfl⟩) (B := bX17_second_0 g.2.1) (fun R E X hE => ?_)
  have h0 : E (bX17_second_0 g.2.1 R) 0 := by
    unfold bX17_second_0
    refine si_aload_n (pc := 0) hE dX17_second_0 rfl ?_
    refine si_gR (pc := 1) hE dX17_second_1 (Or.inl q894) zfo_47 ?_
    exact si_areturn (pc := 4) hE (Or.inl ⟨_, rfl⟩) dX17_second_4
  exact h0
def bX16_has_34 (κ : Nat → Option Nat) (R : Ret AH) : Cont AH :=
    o_zreturn R
def bX16_has_33 (κ : Nat → Option Nat) (R : Ret AH) : Cont AH :=
    o_ic 0 <|
    (bX16_has_34 κ R)
def bX16_has_29 (κ : Nat → Option Nat) (R : Ret AH) : Cont AH :=
    o_ic 1 <|
    (bX16_has_34 κ R)
def bX16_has_18 (κ : Nat → Option Nat) (R : Ret AH) : Cont AH :=
    o_al 0 <|
    o_call 1 (hvc [(15, pX19_second κ), (16, pX17_second κ)]) (fun _ a σ => R (.inr a) σ) <|
    o_il 1 <|
    o_call 2 (hvc [(17, pX8_isName κ)]) (fun _ a σ => R (.inr a) σ) <|
    o_if_eq (bX16_has_33 κ R) <|
    (bX16_has_29 κ R)
def bX16_has_0 (κ : Nat → Option Nat) (R : Ret AH) : Cont AH :=
    o_al 0 <|
    o_call 1 (hvc [(15, pX19_first κ), (16, pX17_first κ)]) (fun _ a σ => R (.inr a) σ) <|
    o_ifnull (bX16_has_18 κ R) <|
    o_al 0 <|
    o_call 1 (hvc [(15, pX19_first κ), (16, pX17_first κ)]) (fun _ a σ => R (.inr a) σ) <|
    o_il 1 <|
    o_call 2 (hvc [(17, pX8_isName κ)]) (fun _ a σ => R (.inr a) σ) <|
    o_if_ne (bX16_has_29 κ R) <|
    (bX16_has_18 κ R)
def pX16_has (κ : Nat → Option Nat) : PT AH := fun as σ Q => (lg_sl as).length ≤ 2 ∧ bX16_has_0 κ Q (entP 2 as) [] σ
theorem nX16_has : parN yX16_has 1 := by unfold parN; decide +kernel
set_option maxHeartbeats 4000000 in
theorem eX16_has (g : GC) : CT (wC g) yX16_has (Cond.code yX16_has cX16_has 2 (some .boolean)) 1 21 (pX16_has g.2.1) := by
  refine CT.of (wC_ok g) (cc := cX16_has) (nL := 2) (ret := (some .boolean)) (ht := []) (by decide +kernel) (Or.inl ⟨rfl, rfl⟩) (B := bX16_has_0 g.2.1) (fun R E X hE => ?_)
  have h34 : E (bX16_has_34 g.2.1 R) 34 := by
    unfold bX16_has_34
    exact si_zreturn (pc := 34) hE dX16_has_34
  have h33 : E (bX16_has_33 g.2.1 R) 33 := by
    unfold bX16_has_33
    refine si_iconst (pc := 33) hE dX16_has_33 (by decide) ?_
    exact h34
  have h29 : E (bX16_has_29 g.2.1 R) 29 := by
    unfold bX16_has_29
    refine si_iconst (pc := 29) hE dX16_has_29 (by decide) ?_
    exact si_goto (pc := 30) hE dX16_has_30 (by decide) h34
  have h18 : E (bX16_has_18 g.2.1 R) 18 := by
    unfold bX16_has_18
    refine si_aload_n (pc := 18) hE dX16_has_18 rfl ?_
    refine si_hv (pc := 19) (n := 0) hE dX16_has_19 ⟨cal_U (x := xm_5) (recvO cls14) (eX19_second g) (Or.inl ⟨rfl, rfl⟩) q1164 q169 q1159 q1161 (Or.inl q1160) ⟨by decide +kernel, by decide +kernel⟩ q1162 q1163 xp_5 (by decide) (by decide), ⟨cal_U (x := xm_5) (recvO cls15) (eX17_second g) (Or.inl ⟨rfl, rfl⟩) q1167 q167 q1159 q1161 (Or.inl q1160) ⟨by decide +kernel, by decide +kernel⟩ q1165 q1166 xp_5 (by decide) (by decide), trivial⟩⟩ (si_out hE rfl) ?_
    refine si_iload_n (pc := 22) hE dX16_has_22 rfl ?_
    refine si_hv (pc := 23) (n := 1) hE dX16_has_23 ⟨cal_V (recvO cls16) (eX8_isName g) (Or.inl ⟨rfl, rfl⟩) q1158 q158 q1155 q1156 q1157 ⟨by decide +kernel, by decide +kernel⟩ nX8_isName (by decide) (by decide), trivial⟩ (si_out hE rfl) ?_
    refine si_if_eq (pc := 26) hE dX16_has_26 (by decide) h33 ?_
    exact h29
  have h0 : E (bX16_has_0 g.2.1 R) 0 := by
    unfold bX16_has_0
    refine si_aload_n (pc := 0) hE dX16_has_0 rfl ?_
    refine si_hv (pc := 1) (n := 0) hE dX16_has_1 ⟨cal_U (x := xm_6) (recvO cls14) (eX19_first g) (Or.inl ⟨rfl, rfl⟩) q1151 q169 q1146 q1148 (Or.inl q1147) ⟨by decide +kernel, by decide +kernel⟩ q1149 q1150 xp_6 (by decide) (by decide), ⟨cal_U (x := xm_6) (recvO cls15) (eX17_first g) (Or.inl ⟨rfl, rfl⟩) q1154 q167 q1146 q1148 (Or.inl q1147) ⟨by decide +kernel, by decide +kernel⟩ q1152 q1153 xp_6 (by decide) (by decide), trivial⟩⟩ (si_out hE rfl) ?_
    refine si_ifnull (pc := 4) hE dX16_has_4 (by decide) h18 ?_
    refine si_aload_n (pc := 7) hE dX16_has_7 rfl ?_
    refine si_hv (pc := 8) (n := 0) hE dX16_has_8 ⟨cal_U (x := xm_6) (recvO cls14) (eX19_first g) (Or.inl ⟨rfl, rfl⟩) q1151 q169 q1146 q1148 (Or.inl q1147) ⟨by decide +kernel, by decide +kernel⟩ q1149 q1150 xp_6 (by decide) (by decide), ⟨cal_U (x := xm_6) (recvO cls15) (eX17_first g) (Or.inl ⟨rfl, rfl⟩) q1154 q167 q1146 q1148 (Or.inl q1147) ⟨by decide +kernel, by decide +kernel⟩ q1152 q1153 xp_6 (by decide) (by decide), trivial⟩⟩ (si_out hE rfl) ?_
    refine si_iload_n (pc := 11) hE dX16_has_11 rfl ?_
    refine si_hv (pc := 12) (n := 1) hE dX16_has_12 ⟨cal_V (recvO cls16) (eX8_isName g) (Or.inl ⟨rfl, rfl⟩) q1158 q158 q1155 q1156 q1157 ⟨by decide +kernel, by decide +kernel⟩ nX8_isName (by decide) (by decide), trivial⟩ (si_out hE rfl) ?_
    refine si_if_ne (pc := 15) hE dX16_has_15 (by decide) h29 ?_
    exact h18
  exact h0
def bX6_writes_0 (κ : Nat → Option Nat) (R : Ret AH) : Cont AH :=
    o_ic (-1) <|
    o_ireturn R
def pX6_writes (κ : Nat → Option Nat) : PT AH := fun as σ Q => (lg_sl as).length ≤ 1 ∧ bX6_writes_0 κ Q (entP 1 as) [] σ
theorem nX6_writes : parN yX6_writes 0 := by unfold parN; decide +kernel
set_option maxHeartbeats 4000000 in
theorem eX6_writes (g : GC) : CT (wC g) yX6_writes (Cond.code yX6_writes cX6_writes 1 (some .int)) 0 0 (pX6_writes g.2.1) := by
  refine CT.of (wC_ok g) (cc := cX6_writes) (nL := 1) (ret := (some .int)) (ht := []) (by decide +kernel) (Or.inl ⟨rfl, rfl⟩) (B := bX6_writes_0 g.2.1) (fun R E X hE => ?_)
  have h0 : E (bX6_writes_0 g.2.1 R) 0 := by
    unfold bX6_writes_0
    refine si_iconst (pc := 0) hE dX6_writes_0 (by decide) ?_
    exact si_ireturn (pc := 1) hE dX6_writes_1
  exact h0
def bX13_writes_0 (κ : Nat → Option Nat) (R : Ret AH) : Cont AH :=
    o_al 0 <|
    o_gI 4 [9] <|
    o_ireturn R
def pX13_writes (κ : Nat → Option Nat) : PT AH := fun as σ Q => (lg_sl as).length ≤ 1 ∧ bX13_writes_0 κ Q (entP 1 as) [] σ
theorem nX13_writes : parN yX13_writes 0 := by unfold parN; decide +kernel
set_option maxHeartbeats 4000000 in
theorem eX13_writes (g : GC) : CT (wC g) yX13_writes (Cond.code yX13_writes cX13_writes 1 (some .int)) 0 0 (pX13_writes g.2.1) := by
  refine CT.of (wC_ok g) (cc := cX13_writes) (nL := 1) (ret := (some .int)) (ht := []) (by decide +kernel) (Or.inl ⟨rfl, rfl⟩) (B := bX13_writes_0 g.2.1) (fun R E X hE => ?_)
  have h0 : E (bX13_writes_0 g.2.1 R) 0 := by
    unfold bX13_writes_0
    refine si_aload_n (pc := 0) hE dX13_writes_0 rfl ?_
    refine si_gI (pc := 1) hE dX13_writes_1 (Or.inl q854) zfo_42 ?_
    exact si_ireturn (pc := 4) hE dX13_writes_4
  exact h0
def bX16_isOfRow_0 (κ : Nat → Option Nat) (R : Ret AH) : Cont AH :=
    o_ic 0 <|
    o_zreturn R
def pX16_isOfRow (κ : Nat → Option Nat) : PT AH := fun as σ Q => (lg_sl as).length ≤ 2 ∧ bX16_isOfRow_0 κ Q (entP 2 as) [] σ
theorem nX16_isOfRow : parN yX16_isOfRow 1 := by unfold parN; decide +kernel
set_option maxHeartbeats 4000000 in
theorem eX16_isOfRow (g : GC) : CT (wC g) yX16_isOfRow (Cond.code yX16_isOfRow cX16_isOfRow 2 (some .boolean)) 0 0 (pX16_isOfRow g.2.1) := by
  refine CT.of (wC_ok g) (cc := cX16_isOfRow) (nL := 2) (ret := (some .boolean)) (ht := []) (by decide +kernel) (Or.inl ⟨rfl, rfl⟩) (B := bX16_isOfRow_0 g.2.1) (fun R E X hE => ?_)
  have h0 : E (bX16_isOfRow_0 g.2.1 R) 0 := by
    unfold bX16_isOfRow_0
    refine si_iconst (pc := 0) hE dX16_isOfRow_0 (by decide) ?_
    exact si_zreturn (pc := 1) hE dX16_isOfRow_1
  exact h0
def bX17_isOfRow_13 (κ : Nat → Option Nat) (R : Ret AH) : Cont AH :=
    o_zreturn R
def bX17_isOfRow_12 (κ : Nat → Option Nat) (R : Ret AH) : Cont AH :=
    o_ic 0 <|
    (bX17_isOfRow_13 κ R)
def bX17_isOfRow_0 (κ : Nat → Option Nat) (R : Ret AH) : Cont AH :=
    o_il 1 <|
    o_al 0 <|
    o_gI 1 [16] <|
    o_icmp_ne (bX17_isOfRow_12 κ R) <|
    o_ic 1 <|
    (bX17_isOfRow_13 κ R)
def pX17_isOfRow (κ : Nat → Option Nat) : PT AH := fun as σ Q => (lg_sl as).length ≤ 2 ∧ bX17_isOfRow_0 κ Q (entP 2 as) [] σ
theorem nX17_isOfRow : parN yX17_isOfRow 1 := by unfold parN; decide +kernel
set_option maxHeartbeats 4000000 in
theorem eX17_isOfRow (g : GC) : CT (wC g) yX17_isOfRow (Cond.code yX17_isOfRow cX17_isOfRow 2 (some .boolean)) 0 0 (pX17_isOfRow g.2.1) := by
  refine CT.of (wC_ok g) (cc := cX17_isOfRow) (nL := 2) (ret := (some .boolean)) (ht := []) (by decide +kernel) (Or.inl ⟨rfl, rfl⟩) (B := bX17_isOfRow_0 g.2.1) (fun R E X hE => ?_)
  have h13 : E (bX17_isOfRow_13 g.2.1 R) 13 := by
    unfold bX17_isOfRow_13
    exact si_zreturn (pc := 13) hE dX17_isOfRow_13
  have h12 : E (bX17_isOfRow_12 g.2.1 R) 12 := by
    unfold bX17_isOfRow_12
    refine si_iconst (pc := 12) hE dX17_isOfRow_12 (by decide) ?_
    exact h13
  have h0 : E (bX17_isOfRow_0 g.2.1 R) 0 := by
    unfold bX17_isOfRow_0
    refine si_iload_n (pc := 0) hE dX17_isOfRow_0 rfl ?_
    refine si_aload_n (pc := 1) hE dX17_isOfRow_1 rfl ?_
    refine si_gI (pc := 2) hE dX17_isOfRow_2 (Or.inl q891) zfo_46 ?_
    refine si_icmp_ne (pc := 5) hE dX17_isOfRow_5 (by decide) h12 ?_
    refine si_iconst (pc := 8) hE dX17_isOfRow_8 (by decide) ?_
    exact si_goto (pc := 9) hE dX17_isOfRow_9 (by decide) h13
  exact h0
def bX6_kills_43 (κ : Nat → Option Nat) (R : Ret AH) : Cont AH :=
    o_zreturn R
def bX6_kills_42 (κ : Nat → Option Nat) (R : Ret AH) : Cont AH :=
    o_ic 0 <|
    (bX6_kills_43 κ R)
def bX6_kills_38 (κ : Nat → Option Nat) (R : Ret AH) : Cont AH :=
    o_ic 1 <|
    (bX6_kills_43 κ R)
def bX6_kills_19 (κ : Nat → Option Nat) (R : Ret AH) : Cont AH :=
    o_al 0 <|
    o_call 1 (hvc [(7, pX6_writes κ), (8, pX6_writes κ), (9, pX13_writes κ), (10, pX6_writes κ), (11, pX6_writes κ), (12, pX6_writes κ), (13, pX6_writes κ), (14, pX6_writes κ)]) (fun _ a σ => R (.inr a) σ) <|
    o_ic (-1) <|
    o_icmp_eq (bX6_kills_42 κ R) <|
    o_al 1 <|
    o_al 0 <|
    o_call 1 (hvc [(7, pX6_writes κ), (8, pX6_writes κ), (9, pX13_writes κ), (10, pX6_writes κ), (11, pX6_writes κ), (12, pX6_writes κ), (13, pX6_writes κ), (14, pX6_writes κ)]) (fun _ a σ => R (.inr a) σ) <|
    o_call 2 (hvc [(15, pX16_isOfRow κ), (16, pX17_isOfRow κ)]) (fun _ a σ => R (.inr a) σ) <|
    o_if_eq (bX6_kills_42 κ R) <|
    (bX6_kills_38 κ R)
def bX6_kills_0 (κ : Nat → Option Nat) (R : Ret AH) : Cont AH :=
    o_al 0 <|
    o_call 1 (hvc [(7, pX14_sets κ), (8, pX14_sets κ), (9, pX6_sets κ), (10, pX6_sets κ), (11, pX6_sets κ), (12, pX6_sets κ), (13, pX6_sets κ), (14, pX6_sets κ)]) (fun _ a σ => R (.inr a) σ) <|
    o_ic (-1) <|
    o_icmp_eq (bX6_kills_19 κ R) <|
    o_al 1 <|
    o_al 0 <|
    o_call 1 (hvc [(7, pX14_sets κ), (8, pX14_sets κ), (9, pX6_sets κ), (10, pX6_sets κ), (11, pX6_sets κ), (12, pX6_sets κ), (13, pX6_sets κ), (14, pX6_sets κ)]) (fun _ a σ => R (.inr a) σ) <|
    o_call 2 (hvc [(15, pX16_has κ), (16, pX16_has κ)]) (fun _ a σ => R (.inr a) σ) <|
    o_if_ne (bX6_kills_38 κ R) <|
    (bX6_kills_19 κ R)
def pX6_kills (κ : Nat → Option Nat) : PT AH := fun as σ Q => (lg_sl as).length ≤ 2 ∧ bX6_kills_0 κ Q (entP 2 as) [] σ
theorem nX6_kills : parN yX6_kills 1 := by unfold parN; decide +kernel
set_option maxHeartbeats 4000000 in
theorem eX6_kills (g : GC) : CT (wC g) yX6_kills (Cond.code yX6_kills cX6_kills 2 (some .boolean)) 2 42 (pX6_kills g.2.1) := by
  refine CT.of (wC_ok g) (cc := cX6_kills) (nL := 2) (ret := (some .boolean)) (ht := []) (by decide +kernel) (Or.inl ⟨rfl, rfl⟩) (B := bX6_kills_0 g.2.1) (fun R E X hE => ?_)
  have h43 : E (bX6_kills_43 g.2.1 R) 43 := by
    unfold bX6_kills_43
    exact si_zreturn (pc := 43) hE dX6_kills_43
  have h42 : E (bX6_kills_42 g.2.1 R) 42 := by
    unfold bX6_kills_42
    refine si_iconst (pc := 42) hE dX6_kills_42 (by decide) ?_
    exact h43
  have h38 : E (bX6_kills_38 g.2.1 R) 38 := by
    unfold bX6_kills_38
    refine si_iconst (pc := 38) hE dX6_kills_38 (by decide) ?_
    exact si_goto (pc := 39) hE dX6_kills_39 (by decide) h43
  have h19 : E (bX6_kills_19 g.2.1 R) 19 := by
    unfold bX6_kills_19
    refine si_aload_n (pc := 19) hE dX6_kills_19 rfl ?_
    refine si_hv (pc := 20) (n := 0) hE dX6_kills_20 ⟨cal_V (recvO cls6) (eX6_writes g) (Or.inl ⟨rfl, rfl⟩) q1181 q156 q1168 q1169 q1176 ⟨by decide +kernel, by decide +kernel⟩ nX6_writes (by decide) (by decide), ⟨cal_V (recvO cls7) (eX6_writes g) (Or.inl ⟨rfl, rfl⟩) q1181 q156 q1168 q1169 q1175 ⟨by decide +kernel, by decide +kernel⟩ nX6_writes (by decide) (by decide), ⟨cal_U (x := xm_7) (recvO cls8) (eX13_writes g) (Or.inl ⟨rfl, rfl⟩) q1180 q163 q1168 q1170 (Or.inr ⟨_, _, _, q1169, q1181⟩) ⟨by decide +kernel, by decide +kernel⟩ q1178 q1179 xp_7 (by decide) (by decide), ⟨cal_V (recvO cls9) (eX6_writes g) (Or.inl ⟨rfl, rfl⟩) q1181 q156 q1168 q1169 q1177 ⟨by decide +kernel, by decide +kernel⟩ nX6_writes (by decide) (by decide), ⟨cal_V (recvO cls10) (eX6_writes g) (Or.inl ⟨rfl, rfl⟩) q1181 q156 q1168 q1169 q1171 ⟨by decide +kernel, by decide +kernel⟩ nX6_writes (by decide) (by decide), ⟨cal_V (recvO cls11) (eX6_writes g) (Or.inl ⟨rfl, rfl⟩) q1181 q156 q1168 q1169 q1172 ⟨by decide +kernel, by decide +kernel⟩ nX6_writes (by decide) (by decide), ⟨cal_V (recvO cls12) (eX6_writes g) (Or.inl ⟨rfl, rfl⟩) q1181 q156 q1168 q1169 q1173 ⟨by decide +kernel, by decide +kernel⟩ nX6_writes (by decide) (by decide), ⟨cal_V (recvO cls13) (eX6_writes g) (Or.inl ⟨rfl, rfl⟩) q1181 q156 q1168 q1169 q1174 ⟨by decide +kernel, by decide +kernel⟩ nX6_writes (by decide) (by decide), trivial⟩⟩⟩⟩⟩⟩⟩⟩ (si_out hE rfl) ?_
    refine si_iconst (pc := 23) hE dX6_kills_23 (by decide) ?_
    refine si_icmp_eq (pc := 24) hE dX6_kills_24 (by decide) h42 ?_
    refine si_aload_n (pc := 27) hE dX6_kills_27 rfl ?_
    refine si_aload_n (pc := 28) hE dX6_kills_28 rfl ?_
    refine si_hv (pc := 29) (n := 0) hE dX6_kills_29 ⟨cal_V (recvO cls6) (eX6_writes g) (Or.inl ⟨rfl, rfl⟩) q1181 q156 q1168 q1169 q1176 ⟨by decide +kernel, by decide +kernel⟩ nX6_writes (by decide) (by decide), ⟨cal_V (recvO cls7) (eX6_writes g) (Or.inl ⟨rfl, rfl⟩) q1181 q156 q1168 q1169 q1175 ⟨by decide +kernel, by decide +kernel⟩ nX6_writes (by decide) (by decide), ⟨cal_U (x := xm_7) (recvO cls8) (eX13_writes g) (Or.inl ⟨rfl, rfl⟩) q1180 q163 q1168 q1170 (Or.inr ⟨_, _, _, q1169, q1181⟩) ⟨by decide +kernel, by decide +kernel⟩ q1178 q1179 xp_7 (by decide) (by decide), ⟨cal_V (recvO cls9) (eX6_writes g) (Or.inl ⟨rfl, rfl⟩) q1181 q156 q1168 q1169 q1177 ⟨by decide +kernel, by decide +kernel⟩ nX6_writes (by decide) (by decide), ⟨cal_V (recvO cls10) (eX6_writes g) (Or.inl ⟨rfl, rfl⟩) q1181 q156 q1168 q1169 q1171 ⟨by decide +kernel, by decide +kernel⟩ nX6_writes (by decide) (by decide), ⟨cal_V (recvO cls11) (eX6_writes g) (Or.inl ⟨rfl, rfl⟩) q1181 q156 q1168 q1169 q1172 ⟨by decide +kernel, by decide +kernel⟩ nX6_writes (by decide) (by decide), ⟨cal_V (recvO cls12) (eX6_writes g) (Or.inl ⟨rfl, rfl⟩) q1181 q156 q1168 q1169 q1173 ⟨by decide +kernel, by decide +kernel⟩ nX6_writes (by decide) (by decide), ⟨cal_V (recvO cls13) (eX6_writes g) (Or.inl ⟨rfl, rfl⟩) q1181 q156 q1168 q1169 q1174 ⟨by decide +kernel, by decide +kernel⟩ nX6_writes (by decide) (by decide), trivial⟩⟩⟩⟩⟩⟩⟩⟩ (si_out hE rfl) ?_
    refine si_hv (pc := 32) (n := 1) hE dX6_kills_32 ⟨cal_V (recvO cls14) (eX16_isOfRow g) (Or.inl ⟨rfl, rfl⟩) q1189 q166 q1182 q1183 q1185 ⟨by decide +kernel, by decide +kernel⟩ nX16_isOfRow (by decide) (by decide), ⟨cal_U (x := xm_8) (recvO cls15) (eX17_isOfRow g) (Or.inl ⟨rfl, rfl⟩) q1188 q167 q1182 q1184 (Or.inr ⟨_, _, _, q1183, q1189⟩) ⟨by decide +kernel, by decide +kernel⟩ q1186 q1187 xp_8 (by decide) (by decide), trivial⟩⟩ (si_out hE rfl) ?_
    refine si_if_eq (pc := 35) hE dX6_kills_35 (by decide) h42 ?_
    exact h38
  have h0 : E (bX6_kills_0 g.2.1 R) 0 := by
    unfold bX6_kills_0
    refine si_aload_n (pc := 0) hE dX6_kills_0 rfl ?_
    refine si_hv (pc := 1) (n := 0) hE dX6_kills_1 ⟨cal_U (x := xm_9) (recvO cls6) (eX14_sets g) (Or.inl ⟨rfl, rfl⟩) q1135 q164 q1126 q1128 (Or.inr ⟨_, _, _, q1127, q1139⟩) ⟨by decide +kernel, by decide +kernel⟩ q1136 q1134 xp_9 (by decide) (by decide), ⟨cal_U (x := xm_9) (recvO cls7) (eX14_sets g) (Or.inl ⟨rfl, rfl⟩) q1135 q164 q1126 q1128 (Or.inr ⟨_, _, _, q1127, q1139⟩) ⟨by decide +kernel, by decide +kernel⟩ q1133 q1134 xp_9 (by decide) (by decide), ⟨cal_V (recvO cls8) (eX6_sets g) (Or.inl ⟨rfl, rfl⟩) q1139 q156 q1126 q1127 q1138 ⟨by decide +kernel, by decide +kernel⟩ nX6_sets (by decide) (by decide), ⟨cal_V (recvO cls9) (eX6_sets g) (Or.inl ⟨rfl, rfl⟩) q1139 q156 q1126 q1127 q1137 ⟨by decide +kernel, by decide +kernel⟩ nX6_sets (by decide) (by decide), ⟨cal_V (recvO cls10) (eX6_sets g) (Or.inl ⟨rfl, rfl⟩) q1139 q156 q1126 q1127 q1129 ⟨by decide +kernel, by decide +kernel⟩ nX6_sets (by decide) (by decide), ⟨cal_V (recvO cls11) (eX6_sets g) (Or.inl ⟨rfl, rfl⟩) q1139 q156 q1126 q1127 q1130 ⟨by decide +kernel, by decide +kernel⟩ nX6_sets (by decide) (by decide), ⟨cal_V (recvO cls12) (eX6_sets g) (Or.inl ⟨rfl, rfl⟩) q1139 q156 q1126 q1127 q1131 ⟨by decide +kernel, by decide +kernel⟩ nX6_sets (by decide) (by decide), ⟨cal_V (recvO cls13) (eX6_sets g) (Or.inl ⟨rfl, rfl⟩) q1139 q156 q1126 q1127 q1132 ⟨by decide +kernel, by decide +kernel⟩ nX6_sets (by decide) (by decide), trivial⟩⟩⟩⟩⟩⟩⟩⟩ (si_out hE rfl) ?_
    refine si_iconst (pc := 4) hE dX6_kills_4 (by decide) ?_
    refine si_icmp_eq (pc := 5) hE dX6_kills_5 (by decide) h19 ?_
    refine si_aload_n (pc := 8) hE dX6_kills_8 rfl ?_
    refine si_aload_n (pc := 9) hE dX6_kills_9 rfl ?_
    refine si_hv (pc := 10) (n := 0) hE dX6_kills_10 ⟨cal_U (x := xm_9) (recvO cls6) (eX14_sets g) (Or.inl ⟨rfl, rfl⟩) q1135 q164 q1126 q1128 (Or.inr ⟨_, _, _, q1127, q1139⟩) ⟨by decide +kernel, by decide +kernel⟩ q1136 q1134 xp_9 (by decide) (by decide), ⟨cal_U (x := xm_9) (recvO cls7) (eX14_sets g) (Or.inl ⟨rfl, rfl⟩) q1135 q164 q1126 q1128 (Or.inr ⟨_, _, _, q1127, q1139⟩) ⟨by decide +kernel, by decide +kernel⟩ q1133 q1134 xp_9 (by decide) (by decide), ⟨cal_V (recvO cls8) (eX6_sets g) (Or.inl ⟨rfl, rfl⟩) q1139 q156 q1126 q1127 q1138 ⟨by decide +kernel, by decide +kernel⟩ nX6_sets (by decide) (by decide), ⟨cal_V (recvO cls9) (eX6_sets g) (Or.inl ⟨rfl, rfl⟩) q1139 q156 q1126 q1127 q1137 ⟨by decide +kernel, by decide +kernel⟩ nX6_sets (by decide) (by decide), ⟨cal_V (recvO cls10) (eX6_sets g) (Or.inl ⟨rfl, rfl⟩) q1139 q156 q1126 q1127 q1129 ⟨by decide +kernel, by decide +kernel⟩ nX6_sets (by decide) (by decide), ⟨cal_V (recvO cls11) (eX6_sets g) (Or.inl ⟨rfl, rfl⟩) q1139 q156 q1126 q1127 q1130 ⟨by decide +kernel, by decide +kernel⟩ nX6_sets (by decide) (by decide), ⟨cal_V (recvO cls12) (eX6_sets g) (Or.inl ⟨rfl, rfl⟩) q1139 q156 q1126 q1127 q1131 ⟨by decide +kernel, by decide +kernel⟩ nX6_sets (by decide) (by decide), ⟨cal_V (recvO cls13) (eX6_sets g) (Or.inl ⟨rfl, rfl⟩) q1139 q156 q1126 q1127 q1132 ⟨by decide +kernel, by decide +kernel⟩ nX6_sets (by decide) (by decide), trivial⟩⟩⟩⟩⟩⟩⟩⟩ (si_out hE rfl) ?_
    refine si_hv (pc := 13) (n := 1) hE dX6_kills_13 ⟨cal_V (recvO cls14) (eX16_has g) (Or.inl ⟨rfl, rfl⟩) q1145 q166 q1140 q1141 q1143 ⟨by decide +kernel, by decide +kernel⟩ nX16_has (by decide) (by decide), ⟨cal_V (recvO cls15) (eX16_has g) (Or.inl ⟨rfl, rfl⟩) q1145 q166 q1140 q1141 q1144 ⟨by decide +kernel, by decide +kernel⟩ nX16_has (by decide) (by decide), trivial⟩⟩ (si_out hE rfl) ?_
    refine si_if_ne (pc := 16) hE dX6_kills_16 (by decide) h38 ?_
    exact h19
  exact h0
def bX4_all_0 (κ : Nat → Option Nat) (R : Ret AH) : Cont AH :=
    o_lc 1 <|
    o_al 0 <|
    o_gR 2 [4] <|
    o_call 1 (hvc [(19, pJ2_size κ)]) (fun _ a σ => R (.inr a) σ) <|
    o_lshl <|
    o_lc 1 <|
    o_lsub <|
    o_lreturn R
def pX4_all (κ : Nat → Option Nat) : PT AH := fun as σ Q => (lg_sl as).length ≤ 1 ∧ bX4_all_0 κ Q (entP 1 as) [] σ
theorem nX4_all : parN yX4_all 0 := by unfold parN; decide +kernel
set_option maxHeartbeats 4000000 in
theorem eX4_all (g : GC) : CT (wC g) yX4_all (Cond.code yX4_all cX4_all 1 (some .long)) 1 20 (pX4_all g.2.1) := by
  refine CT.of (wC_ok g) (cc := cX4_all) (nL := 1) (ret := (some .long)) (ht := []) (by decide +kernel) (Or.inl ⟨rfl, rfl⟩) (B := bX4_all_0 g.2.1) (fun R E X hE => ?_)
  have h0 : E (bX4_all_0 g.2.1 R) 0 := by
    unfold bX4_all_0
    refine si_lconst (pc := 0) hE dX4_all_0 (by decide) ?_
    refine si_aload_n (pc := 1) hE dX4_all_1 rfl ?_
    refine si_gR (pc := 2) hE dX4_all_2 (Or.inl q297) zfo_19 ?_
    refine si_hv (pc := 5) (n := 0) hE dX4_all_5 ⟨cal_V (recvO cls18) (eJ2_size g) (Or.inl ⟨rfl, rfl⟩) q501 q139 q999 q499 q500 ⟨by decide +kernel, by decide +kernel⟩ nJ2_size (by decide) (by decide), trivial⟩ (si_out hE rfl) ?_
    refine si_lshl (pc := 8) hE dX4_all_8 ?_
    refine si_lconst (pc := 9) hE dX4_all_9 (by decide) ?_
    refine si_lsub (pc := 10) hE dX4_all_10 ?_
    exact si_lreturn (pc := 11) hE dX4_all_11
  exact h0
def bX4_set_18 (κ : Nat → Option Nat) (R : Ret AH) : Cont AH :=
    o_return R
def bX4_set_2 (κ : Nat → Option Nat) (R : Ret AH) : Cont AH :=
    fixC fun J2 =>
    o_il 3 <|
    o_al 0 <|
    o_len <|
    o_icmp_ge (bX4_set_18 κ R) <|
    o_al 0 <|
    o_il 3 <|
    o_ll 1 <|
    o_sG <|
    o_iinc 3 1 <|
    (o_kill [2] J2)
def bX4_set_0 (κ : Nat → Option Nat) (R : Ret AH) : Cont AH :=
    o_ic 0 <|
    o_is 3 <|
    (o_kill [2] (bX4_set_2 κ R))
def pX4_set (κ : Nat → Option Nat) : PT AH := fun as σ Q => (lg_sl as).length ≤ 4 ∧ bX4_set_0 κ Q (entP 4 as) [] σ
theorem nX4_set : parN yX4_set 2 := by unfold parN; decide +kernel
set_option maxHeartbeats 4000000 in
theorem eX4_set (g : GC) : CT (wC g) yX4_set (Cond.code yX4_set cX4_set 4 none) 0 0 (pX4_set g.2.1) := by
  refine CT.of (wC_ok g) (cc := cX4_set) (nL := 4) (ret := none) (ht := []) (by decide +kernel) (Or.inl ⟨rfl, rfl⟩) (B := bX4_set_0 g.2.1) (fun R E X hE => ?_)
  have h18 : E (bX4_set_18 g.2.1 R) 18 := by
    unfold bX4_set_18
    exact si_return (pc := 18) hE dX4_set_18
  have h2 : E (bX4_set_2 g.2.1 R) 2 := by
    unfold bX4_set_2
    refine si_fix hE (fun J2 hJ2 => ?_)
    refine si_iload_n (pc := 2) hE dX4_set_2 rfl ?_
    refine si_aload_n (pc := 3) hE dX4_set_3 rfl ?_
    refine si_alen (pc := 4) hE dX4_set_4 ?_
    refine si_icmp_ge (pc := 5) hE dX4_set_5 (by decide) h18 ?_
    refine si_aload_n (pc := 8) hE dX4_set_8 rfl ?_
    refine si_iload_n (pc := 9) hE dX4_set_9 rfl ?_
    refine si_lload_n (pc := 10) hE dX4_set_10 rfl ?_
    refine si_lastore (pc := 11) hE dX4_set_11 ?_
    refine si_iinc (pc := 12) hE dX4_set_12 (by decide) (by decide) ?_
    exact si_goto (pc := 15) hE dX4_set_15 (by decide) (si_kill hE hJ2)
  have h0 : E (bX4_set_0 g.2.1 R) 0 := by
    unfold bX4_set_0
    refine si_iconst (pc := 0) hE dX4_set_0 (by decide) ?_
    refine si_istore_n (pc := 1) hE dX4_set_1 rfl (by decide) ?_
    exact (si_kill hE h2)
  exact h0
def bX19_isBold_14 (κ : Nat → Option Nat) (R : Ret AH) : Cont AH :=
    o_zreturn R
def bX19_isBold_13 (κ : Nat → Option Nat) (R : Ret AH) : Cont AH :=
    o_ic 0 <|
    (bX19_isBold_14 κ R)
def bX19_isBold_0 (κ : Nat → Option Nat) (R : Ret AH) : Cont AH :=
    o_al 0 <|
    o_gI 1 [15] <|
    o_ic 47 <|
    o_icmp_ne (bX19_isBold_13 κ R) <|
    o_ic 1 <|
    (bX19_isBold_14 κ R)
def pX19_isBold (κ : Nat → Option Nat) : PT AH := fun as σ Q => (lg_sl as).length ≤ 1 ∧ bX19_isBold_0 κ Q (entP 1 as) [] σ
theorem nX19_isBold : parN yX19_isBold 0 := by unfold parN; decide +kernel
set_option maxHeartbeats 4000000 in
theorem eX19_isBold (g : GC) : CT (wC g) yX19_isBold (Cond.code yX19_isBold cX19_isBold 1 (some .boolean)) 0 0 (pX19_isBold g.2.1) := by
  refine CT.of (wC_ok g) (cc := cX19_isBold) (nL := 1) (ret := (some .boolean)) (ht := []) (by decide +kernel) (Or.inl ⟨rfl, rfl⟩) (B := bX19_isBold_0 g.2.1) (fun R E X hE => ?_)
  have h14 : E (bX19_isBold_14 g.2.1 R) 14 := by
    unfold bX19_isBold_14
    exact si_zreturn (pc := 14) hE dX19_isBold_14
  have h13 : E (bX19_isBold_13 g.2.1 R) 13 := by
    unfold bX19_isBold_13
    refine si_iconst (pc := 13) hE dX19_isBold_13 (by decide) ?_
    exact h14
  have h0 : E (bX19_isBold_0 g.2.1 R) 0 := by
    unfold bX19_isBold_0
    refine si_aload_n (pc := 0) hE dX19_isBold_0 rfl ?_
    refine si_gI (pc := 1) hE dX19_isBold_1 (Or.inl q961) zfo_51 ?_
    refine si_bipush (pc := 4) hE dX19_isBold_4 (by decide) ?_
    refine si_icmp_ne (pc := 6) hE dX19_isBold_6 (by decide) h13 ?_
    refine si_iconst (pc := 9) hE dX19_isBold_9 (by decide) ?_
    exact si_goto (pc := 10) hE dX19_isBold_10 (by decide) h14
  exact h0
def bX17_isBold_0 (κ : Nat → Option Nat) (R : Ret AH) : Cont AH :=
    o_ic 1 <|
    o_zreturn R
def pX17_isBold (κ : Nat → Option Nat) : PT AH := fun as σ Q => (lg_sl as).length ≤ 1 ∧ bX17_isBold_0 κ Q (entP 1 as) [] σ
theorem nX17_isBold : parN yX17_isBold 0 := by unfold parN; decide +kernel
set_option maxHeartbeats 4000000 in
theorem eX17_isBold (g : GC) : CT (wC g) yX17_isBold (Cond.code yX17_isBold cX17_isBold 1 (some .boolean)) 0 0 (pX17_isBold g.2.1) := by
  refine CT.of (wC_ok g) (cc := cX17_isBold) (nL := 1) (ret := (some .boolean)) (ht := []) (by decide +kernel) (Or.inl ⟨rfl, rfl⟩) (B := bX17_isBold_0 g.2.1) (fun R E X hE => ?_)
  have h0 : E (bX17_isBold_0 g.2.1 R) 0 := by
    unfold bX17_isBold_0
    refine si_iconst (pc := 0) hE dX17_isBold_0 (by decide) ?_
    exact si_zreturn (pc := 1) hE dX17_isBold_1
  exact h0
def bX6_isSeen_22 (κ : Nat → Option Nat) (R : Ret AH) : Cont AH :=
    o_zreturn R
def bX6_isSeen_21 (κ : Nat → Option Nat) (R : Ret AH) : Cont AH :=
    o_ic 0 <|
    (bX6_isSeen_22 κ R)
def bX6_isSeen_0 (κ : Nat → Option Nat) (R : Ret AH) : Cont AH :=
    o_al 0 <|
    o_call 1 (hvc [(7, pX15_works κ), (8, pX6_works κ), (9, pX6_works κ), (10, pX6_works κ), (11, pX6_works κ), (12, pX6_works κ), (13, pX6_works κ), (14, pX6_works κ)]) (fun _ a σ => R (.inr a) σ) <|
    o_ifnull (bX6_isSeen_21 κ R) <|
    o_al 0 <|
    o_call 1 (hvc [(7, pX15_works κ), (8, pX6_works κ), (9, pX6_works κ), (10, pX6_works κ), (11, pX6_works κ), (12, pX6_works κ), (13, pX6_works κ), (14, pX6_works κ)]) (fun _ a σ => R (.inr a) σ) <|
    o_call 1 (hvc [(15, pX19_isBold κ), (16, pX17_isBold κ)]) (fun _ a σ => R (.inr a) σ) <|
    o_if_eq (bX6_isSeen_21 κ R) <|
    o_ic 1 <|
    (bX6_isSeen_22 κ R)
def pX6_isSeen (κ : Nat → Option Nat) : PT AH := fun as σ Q => (lg_sl as).length ≤ 1 ∧ bX6_isSeen_0 κ Q (entP 1 as) [] σ
theorem nX6_isSeen : parN yX6_isSeen 0 := by unfold parN; decide +kernel
set_option maxHeartbeats 4000000 in
theorem eX6_isSeen (g : GC) : CT (wC g) yX6_isSeen (Cond.code yX6_isSeen cX6_isSeen 1 (some .boolean)) 1 20 (pX6_isSeen g.2.1) := by
  refine CT.of (wC_ok g) (cc := cX6_isSeen) (nL := 1) (ret := (some .boolean)) (ht := []) (by decide +kernel) (Or.inl ⟨rfl, rfl⟩) (B := bX6_isSeen_0 g.2.1) (fun R E X hE => ?_)
  have h22 : E (bX6_isSeen_22 g.2.1 R) 22 := by
    unfold bX6_isSeen_22
    exact si_zreturn (pc := 22) hE dX6_isSeen_22
  have h21 : E (bX6_isSeen_21 g.2.1 R) 21 := by
    unfold bX6_isSeen_21
    refine si_iconst (pc := 21) hE dX6_isSeen_21 (by decide) ?_
    exact h22
  have h0 : E (bX6_isSeen_0 g.2.1 R) 0 := by
    unfold bX6_isSeen_0
    refine si_aload_n (pc := 0) hE dX6_isSeen_0 rfl ?_
    refine si_hv (pc := 1) (n := 0) hE dX6_isSeen_1 ⟨cal_U (x := xm_4) (recvO cls6) (eX15_works g) (Or.inl ⟨rfl, rfl⟩) q1083 q165 q1218 q1075 (Or.inr ⟨_, _, _, q1074, q1086⟩) ⟨by decide +kernel, by decide +kernel⟩ q1081 q1082 xp_4 (by decide) (by decide), ⟨cal_V (recvO cls7) (eX6_works g) (Or.inl ⟨rfl, rfl⟩) q1086 q156 q1218 q1074 q1080 ⟨by decide +kernel, by decide +kernel⟩ nX6_works (by decide) (by decide), ⟨cal_V (recvO cls8) (eX6_works g) (Or.inl ⟨rfl, rfl⟩) q1086 q156 q1218 q1074 q1085 ⟨by decide +kernel, by decide +kernel⟩ nX6_works (by decide) (by decide), ⟨cal_V (recvO cls9) (eX6_works g) (Or.inl ⟨rfl, rfl⟩) q1086 q156 q1218 q1074 q1084 ⟨by decide +kernel, by decide +kernel⟩ nX6_works (by decide) (by decide), ⟨cal_V (recvO cls10) (eX6_works g) (Or.inl ⟨rfl, rfl⟩) q1086 q156 q1218 q1074 q1076 ⟨by decide +kernel, by decide +kernel⟩ nX6_works (by decide) (by decide), ⟨cal_V (recvO cls11) (eX6_works g) (Or.inl ⟨rfl, rfl⟩) q1086 q156 q1218 q1074 q1077 ⟨by decide +kernel, by decide +kernel⟩ nX6_works (by decide) (by decide), ⟨cal_V (recvO cls12) (eX6_works g) (Or.inl ⟨rfl, rfl⟩) q1086 q156 q1218 q1074 q1078 ⟨by decide +kernel, by decide +kernel⟩ nX6_works (by decide) (by decide), ⟨cal_V (recvO cls13) (eX6_works g) (Or.inl ⟨rfl, rfl⟩) q1086 q156 q1218 q1074 q1079 ⟨by decide +kernel, by decide +kernel⟩ nX6_works (by decide) (by decide), trivial⟩⟩⟩⟩⟩⟩⟩⟩ (si_out hE rfl) ?_
    refine si_ifnull (pc := 4) hE dX6_isSeen_4 (by decide) h21 ?_
    refine si_aload_n (pc := 7) hE dX6_isSeen_7 rfl ?_
    refine si_hv (pc := 8) (n := 0) hE dX6_isSeen_8 ⟨cal_U (x := xm_4) (recvO cls6) (eX15_works g) (Or.inl ⟨rfl, rfl⟩) q1083 q165 q1218 q1075 (Or.inr ⟨_, _, _, q1074, q1086⟩) ⟨by decide +kernel, by decide +kernel⟩ q1081 q1082 xp_4 (by decide) (by decide), ⟨cal_V (recvO cls7) (eX6_works g) (Or.inl ⟨rfl, rfl⟩) q1086 q156 q1218 q1074 q1080 ⟨by decide +kernel, by decide +kernel⟩ nX6_works (by decide) (by decide), ⟨cal_V (recvO cls8) (eX6_works g) (Or.inl ⟨rfl, rfl⟩) q1086 q156 q1218 q1074 q1085 ⟨by decide +kernel, by decide +kernel⟩ nX6_works (by decide) (by decide), ⟨cal_V (recvO cls9) (eX6_works g) (Or.inl ⟨rfl, rfl⟩) q1086 q156 q1218 q1074 q1084 ⟨by decide +kernel, by decide +kernel⟩ nX6_works (by decide) (by decide), ⟨cal_V (recvO cls10) (eX6_works g) (Or.inl ⟨rfl, rfl⟩) q1086 q156 q1218 q1074 q1076 ⟨by decide +kernel, by decide +kernel⟩ nX6_works (by decide) (by decide), ⟨cal_V (recvO cls11) (eX6_works g) (Or.inl ⟨rfl, rfl⟩) q1086 q156 q1218 q1074 q1077 ⟨by decide +kernel, by decide +kernel⟩ nX6_works (by decide) (by decide), ⟨cal_V (recvO cls12) (eX6_works g) (Or.inl ⟨rfl, rfl⟩) q1086 q156 q1218 q1074 q1078 ⟨by decide +kernel, by decide +kernel⟩ nX6_works (by decide) (by decide), ⟨cal_V (recvO cls13) (eX6_works g) (Or.inl ⟨rfl, rfl⟩) q1086 q156 q1218 q1074 q1079 ⟨by decide +kernel, by decide +kernel⟩ nX6_works (by decide) (by decide), trivial⟩⟩⟩⟩⟩⟩⟩⟩ (si_out hE rfl) ?_
    refine si_hv (pc := 11) (n := 0) hE dX6_isSeen_11 ⟨cal_U (x := xm_10) (recvO cls14) (eX19_isBold g) (Or.inl ⟨rfl, rfl⟩) q1224 q169 q1219 q1221 (Or.inr ⟨_, _, _, q1220, q1228⟩) ⟨by decide +kernel, by decide +kernel⟩ q1222 q1223 xp_10 (by decide) (by decide), ⟨cal_U (x := xm_10) (recvO cls15) (eX17_isBold g) (Or.inl ⟨rfl, rfl⟩) q1227 q167 q1219 q1221 (Or.inr ⟨_, _, _, q1220, q1228⟩) ⟨by decide +kernel, by decide +kernel⟩ q1225 q1226 xp_10 (by decide) (by decide), trivial⟩⟩ (si_out hE rfl) ?_
    refine si_if_eq (pc := 14) hE dX6_isSeen_14 (by decide) h21 ?_
    refine si_iconst (pc := 17) hE dX6_isSeen_17 (by decide) ?_
    exact si_goto (pc := 18) hE dX6_isSeen_18 (by decide) h22
  exact h0
def bX13_isSeen_0 (κ : Nat → Option Nat) (R : Ret AH) : Cont AH :=
    o_ic 1 <|
    o_zreturn R
def pX13_isSeen (κ : Nat → Option Nat) : PT AH := fun as σ Q => (lg_sl as).length ≤ 1 ∧ bX13_isSeen_0 κ Q (entP 1 as) [] σ
theorem nX13_isSeen : parN yX13_isSeen 0 := by unfold parN; decide +kernel
set_option maxHeartbeats 4000000 in
theorem eX13_isSeen (g : GC) : CT (wC g) yX13_isSeen (Cond.code yX13_isSeen cX13_isSeen 1 (some .boolean)) 0 0 (pX13_isSeen g.2.1) := by
  refine CT.of (wC_ok g) (cc := cX13_isSeen) (nL := 1) (ret := (some .boolean)) (ht := []) (by decide +kernel) (Or.inl ⟨rfl, rfl⟩) (B := bX13_isSeen_0 g.2.1) (fun R E X hE => ?_)
  have h0 : E (bX13_isSeen_0 g.2.1 R) 0 := by
    unfold bX13_isSeen_0
    refine si_iconst (pc := 0) hE dX13_isSeen_0 (by decide) ?_
    exact si_zreturn (pc := 1) hE dX13_isSeen_1
  exact h0
def bX7_isSeen_0 (κ : Nat → Option Nat) (R : Ret AH) : Cont AH :=
    o_ic 1 <|
    o_zreturn R
def pX7_isSeen (κ : Nat → Option Nat) : PT AH := fun as σ Q => (lg_sl as).length ≤ 1 ∧ bX7_isSeen_0 κ Q (entP 1 as) [] σ
theorem nX7_isSeen : parN yX7_isSeen 0 := by unfold parN; decide +kernel
set_option maxHeartbeats 4000000 in
theorem eX7_isSeen (g : GC) : CT (wC g) yX7_isSeen (Cond.code yX7_isSeen cX7_isSeen 1 (some .boolean)) 0 0 (pX7_isSeen g.2.1) := by
  refine CT.of (wC_ok g) (cc := cX7_isSeen) (nL := 1) (ret := (some .boolean)) (ht := []) (by decide +kernel) (Or.inl ⟨rfl, rfl⟩) (B := bX7_isSeen_0 g.2.1) (fun R E X hE => ?_)
  have h0 : E (bX7_isSeen_0 g.2.1 R) 0 := by
    unfold bX7_isSeen_0
    refine si_iconst (pc := 0) hE dX7_isSeen_0 (by decide) ?_
    exact si_zreturn (pc := 1) hE dX7_isSeen_1
  exact h0
def bX4_bold_52 (κ : Nat → Option Nat) (R : Ret AH) : Cont AH :=
    o_ll 1 <|
    o_lreturn R
def bX4_bold_46 (κ : Nat → Option Nat) (R : Ret AH) (J4 : Cont AH) : Cont AH :=
    o_iinc 3 1 <|
    (o_kill [2, 4] J4)
def bX4_bold_4 (κ : Nat → Option Nat) (R : Ret AH) : Cont AH :=
    fixC fun J4 =>
    o_il 3 <|
    o_al 0 <|
    o_gR 2 [4] <|
    o_call 1 (hvc [(19, pJ2_size κ)]) (fun _ a σ => R (.inr a) σ) <|
    o_icmp_ge (bX4_bold_52 κ R) <|
    o_al 0 <|
    o_gR 2 [4] <|
    o_il 3 <|
    o_call 2 (hvc [(19, pJ2_get κ)]) (fun _ a σ => R (.inr a) σ) <|
    o_cast [15, 16] <|
    o_as 4 <|
    o_al 4 <|
    o_call 1 (hvc [(15, pX19_isBold κ), (16, pX17_isBold κ)]) (fun _ a σ => R (.inr a) σ) <|
    o_if_eq (bX4_bold_46 κ R J4) <|
    o_ll 1 <|
    o_lc 1 <|
    o_al 4 <|
    o_gI 0 [15, 16] <|
    o_lshl <|
    o_lor <|
    o_ls 1 <|
    (bX4_bold_46 κ R J4)
def bX4_bold_0 (κ : Nat → Option Nat) (R : Ret AH) : Cont AH :=
    o_lc 0 <|
    o_ls 1 <|
    o_ic 0 <|
    o_is 3 <|
    (o_kill [2, 4] (bX4_bold_4 κ R))
def pX4_bold (κ : Nat → Option Nat) : PT AH := fun as σ Q => (lg_sl as).length ≤ 5 ∧ bX4_bold_0 κ Q (entP 5 as) [] σ
theorem nX4_bold : parN yX4_bold 0 := by unfold parN; decide +kernel
set_option maxHeartbeats 4000000 in
theorem eX4_bold (g : GC) : CT (wC g) yX4_bold (Cond.code yX4_bold cX4_bold 5 (some .long)) 3 64 (pX4_bold g.2.1) := by
  refine CT.of (wC_ok g) (cc := cX4_bold) (nL := 5) (ret := (some .long)) (ht := []) (by decide +kernel) (Or.inl ⟨rfl, rfl⟩) (B := bX4_bold_0 g.2.1) (fun R E X hE => ?_)
  have h52 : E (bX4_bold_52 g.2.1 R) 52 := by
    unfold bX4_bold_52
    refine si_lload_n (pc := 52) hE dX4_bold_52 rfl ?_
    exact si_lreturn (pc := 53) hE dX4_bold_53
  have h46 : ∀ (J4 : Cont AH) (hJ4 : E J4 4), E (bX4_bold_46 g.2.1 R J4) 46 := by
    intro J4 hJ4
    unfold bX4_bold_46
    refine si_iinc (pc := 46) hE dX4_bold_46 (by decide) (by decide) ?_
    exact si_goto (pc := 49) hE dX4_bold_49 (by decide) (si_kill hE hJ4)
  have h4 : E (bX4_bold_4 g.2.1 R) 4 := by
    unfold bX4_bold_4
    refine si_fix hE (fun J4 hJ4 => ?_)
    refine si_iload_n (pc := 4) hE dX4_bold_4 rfl ?_
    refine si_aload_n (pc := 5) hE dX4_bold_5 rfl ?_
    refine si_gR (pc := 6) hE dX4_bold_6 (Or.inl q297) zfo_19 ?_
    refine si_hv (pc := 9) (n := 0) hE dX4_bold_9 ⟨cal_V (recvO cls18) (eJ2_size g) (Or.inl ⟨rfl, rfl⟩) q501 q139 q999 q499 q500 ⟨by decide +kernel, by decide +kernel⟩ nJ2_size (by decide) (by decide), trivial⟩ (si_out hE rfl) ?_
    refine si_icmp_ge (pc := 12) hE dX4_bold_12 (by decide) h52 ?_
    refine si_aload_n (pc := 15) hE dX4_bold_15 rfl ?_
    refine si_gR (pc := 16) hE dX4_bold_16 (Or.inl q297) zfo_19 ?_
    refine si_iload_n (pc := 19) hE dX4_bold_19 rfl ?_
    refine si_hv (pc := 20) (n := 1) hE dX4_bold_20 ⟨cal_V (recvO cls18) (eJ2_get g) (Or.inl ⟨rfl, rfl⟩) q980 q139 q998 q978 q979 ⟨by decide +kernel, by decide +kernel⟩ nJ2_get (by decide) (by decide), trivial⟩ (si_out hE rfl) ?_
    refine si_cast (pc := 23) hE dX4_bold_23 q1092 zco_5 ?_
    refine si_astore (pc := 26) hE dX4_bold_26 (by decide) ?_
    refine si_aload (pc := 28) hE dX4_bold_28 ?_
    refine si_hv (pc := 30) (n := 0) hE dX4_bold_30 ⟨cal_U (x := xm_10) (recvO cls14) (eX19_isBold g) (Or.inl ⟨rfl, rfl⟩) q1224 q169 q1233 q1221 (Or.inr ⟨_, _, _, q1220, q1228⟩) ⟨by decide +kernel, by decide +kernel⟩ q1222 q1223 xp_10 (by decide) (by decide), ⟨cal_U (x := xm_10) (recvO cls15) (eX17_isBold g) (Or.inl ⟨rfl, rfl⟩) q1227 q167 q1233 q1221 (Or.inr ⟨_, _, _, q1220, q1228⟩) ⟨by decide +kernel, by decide +kernel⟩ q1225 q1226 xp_10 (by decide) (by decide), trivial⟩⟩ (si_out hE rfl) ?_
    refine si_if_eq (pc := 33) hE dX4_bold_33 (by decide) (h46 J4 hJ4) ?_
    refine si_lload_n (pc := 36) hE dX4_bold_36 rfl ?_
    refine si_lconst (pc := 37) hE dX4_bold_37 (by decide) ?_
    refine si_aload (pc := 38) hE dX4_bold_38 ?_
    refine si_gI (pc := 40) hE dX4_bold_40 (Or.inr ⟨_, q899⟩) zfo_45 ?_
    refine si_lshl (pc := 43) hE dX4_bold_43 ?_
    refine si_lor (pc := 44) hE dX4_bold_44 ?_
    refine si_lstore_n (pc := 45) hE dX4_bold_45 rfl (by decide) ?_
    exact (h46 J4 hJ4)
  have h0 : E (bX4_bold_0 g.2.1 R) 0 := by
    unfold bX4_bold_0
    refine si_lconst (pc := 0) hE dX4_bold_0 (by decide) ?_
    refine si_lstore_n (pc := 1) hE dX4_bold_1 rfl (by decide) ?_
    refine si_iconst (pc := 2) hE dX4_bold_2 (by decide) ?_
    refine si_istore_n (pc := 3) hE dX4_bold_3 rfl (by decide) ?_
    exact (si_kill hE h4)
  exact h0
def bX4_want_207 (κ : Nat → Option Nat) (R : Ret AH) : Cont AH :=
    o_return R
def bX4_want_204 (κ : Nat → Option Nat) (R : Ret AH) (J26 : Cont AH) : Cont AH :=
    (o_kill [2, 3, 4, 5, 6, 7] J26)
def bX4_want_188 (κ : Nat → Option Nat) (R : Ret AH) (J26 : Cont AH) (J42 : Cont AH) : Cont AH :=
    o_ior <|
    o_is 1 <|
    o_al 0 <|
    o_gR 8 [4] <|
    o_il 2 <|
    o_ll 4 <|
    o_sG <|
    o_iinc 2 (-1) <|
    (o_kill [3, 4, 5, 6, 7] J42)
def bX4_want_187 (κ : Nat → Option Nat) (R : Ret AH) (J26 : Cont AH) (J42 : Cont AH) : Cont AH :=
    o_ic 0 <|
    (bX4_want_188 κ R J26 J42)
def bX4_want_159 (κ : Nat → Option Nat) (R : Ret AH) (J26 : Cont AH) (J42 : Cont AH) : Cont AH :=
    o_ll 4 <|
    o_al 0 <|
    o_gR 6 [4] <|
    o_il 2 <|
    o_aG 101 <|
    o_lor <|
    o_ls 4 <|
    o_il 1 <|
    o_ll 4 <|
    o_al 0 <|
    o_gR 8 [4] <|
    o_il 2 <|
    o_aG 101 <|
    o_lcmp <|
    o_if_eq (bX4_want_187 κ R J26 J42) <|
    o_ic 1 <|
    (bX4_want_188 κ R J26 J42)
def bX4_want_139 (κ : Nat → Option Nat) (R : Ret AH) (J26 : Cont AH) (J42 : Cont AH) : Cont AH :=
    o_al 3 <|
    o_call 1 (hvc [(7, pX6_isSeen κ), (8, pX6_isSeen κ), (9, pX13_isSeen κ), (10, pX7_isSeen κ), (11, pX6_isSeen κ), (12, pX6_isSeen κ), (13, pX6_isSeen κ), (14, pX6_isSeen κ)]) (fun _ a σ => R (.inr a) σ) <|
    o_if_eq (bX4_want_159 κ R J26 J42) <|
    o_ll 4 <|
    o_al 0 <|
    o_call 1 (hvc [(4, pX4_bold κ)]) (fun _ a σ => R (.inr a) σ) <|
    o_lc (-1) <|
    o_lxor <|
    o_land <|
    o_ls 4 <|
    (bX4_want_159 κ R J26 J42)
def bX4_want_92 (κ : Nat → Option Nat) (R : Ret AH) (J26 : Cont AH) (J42 : Cont AH) : Cont AH :=
    fixC fun J92 =>
    o_il 6 <|
    o_al 3 <|
    o_gR 2 [7, 8, 9, 10, 11, 12, 13, 14] <|
    o_call 1 (hvc [(19, pJ2_size κ)]) (fun _ a σ => R (.inr a) σ) <|
    o_icmp_ge (bX4_want_139 κ R J26 J42) <|
    o_al 3 <|
    o_gR 2 [7, 8, 9, 10, 11, 12, 13, 14] <|
    o_il 6 <|
    o_call 2 (hvc [(19, pJ2_get κ)]) (fun _ a σ => R (.inr a) σ) <|
    o_cast [7, 8, 9, 10, 11, 12, 13, 14] <|
    o_as 7 <|
    o_ll 4 <|
    o_al 0 <|
    o_gR 8 [4] <|
    o_al 7 <|
    o_gI 0 [7, 8, 9, 10, 11, 12, 13, 14] <|
    o_aG 101 <|
    o_land <|
    o_ls 4 <|
    o_iinc 6 1 <|
    (o_kill [5, 7] J92)
def bX4_want_87 (κ : Nat → Option Nat) (R : Ret AH) (J26 : Cont AH) (J42 : Cont AH) : Cont AH :=
    o_ls 4 <|
    o_ic 0 <|
    o_is 6 <|
    (o_kill [5, 7] (bX4_want_92 κ R J26 J42))
def bX4_want_72 (κ : Nat → Option Nat) (R : Ret AH) (J26 : Cont AH) (J42 : Cont AH) : Cont AH :=
    o_al 0 <|
    o_call 1 (hvc [(4, pX4_all κ)]) (fun _ a σ => R (.inr a) σ) <|
    o_al 0 <|
    o_gR 7 [4] <|
    o_il 2 <|
    o_aG 101 <|
    o_lc (-1) <|
    o_lxor <|
    o_land <|
    (bX4_want_87 κ R J26 J42)
def bX4_want_42 (κ : Nat → Option Nat) (R : Ret AH) (J26 : Cont AH) : Cont AH :=
    fixC fun J42 =>
    o_il 2 <|
    o_if_lt (bX4_want_204 κ R J26) <|
    o_al 0 <|
    o_gR 1 [4] <|
    o_il 2 <|
    o_call 2 (hvc [(19, pJ2_get κ)]) (fun _ a σ => R (.inr a) σ) <|
    o_cast [7, 8, 9, 10, 11, 12, 13, 14] <|
    o_as 3 <|
    o_al 3 <|
    o_gR 2 [7, 8, 9, 10, 11, 12, 13, 14] <|
    o_call 1 (hvc [(19, pJ2_size κ)]) (fun _ a σ => R (.inr a) σ) <|
    o_if_ne (bX4_want_72 κ R J26 J42) <|
    o_lc 0 <|
    (bX4_want_87 κ R J26 J42)
def bX4_want_26 (κ : Nat → Option Nat) (R : Ret AH) : Cont AH :=
    fixC fun J26 =>
    o_il 1 <|
    o_if_eq (bX4_want_207 κ R) <|
    o_ic 0 <|
    o_is 1 <|
    o_al 0 <|
    o_gR 1 [4] <|
    o_call 1 (hvc [(19, pJ2_size κ)]) (fun _ a σ => R (.inr a) σ) <|
    o_ic 1 <|
    o_isub <|
    o_is 2 <|
    (o_kill [3, 4, 5, 6, 7] (bX4_want_42 κ R J26))
def bX4_want_0 (κ : Nat → Option Nat) (R : Ret AH) : Cont AH :=
    o_al 0 <|
    o_al 0 <|
    o_gR 1 [4] <|
    o_call 1 (hvc [(19, pJ2_size κ)]) (fun _ a σ => R (.inr a) σ) <|
    o_newA 101 <|
    o_pR 8 [4] <|
    o_al 0 <|
    o_gR 8 [4] <|
    o_al 0 <|
    o_call 1 (hvc [(4, pX4_all κ)]) (fun _ a σ => R (.inr a) σ) <|
    o_call 2 (pX4_set κ) (fun _ a σ => R (.inr a) σ) <|
    o_ic 1 <|
    o_is 1 <|
    (o_kill [2, 3, 4, 5, 6, 7] (bX4_want_26 κ R))
def pX4_want (κ : Nat → Option Nat) : PT AH := fun as σ Q => (lg_sl as).length ≤ 8 ∧ bX4_want_0 κ Q (entP 8 as) [] σ
theorem nX4_want : parN yX4_want 0 := by unfold parN; decide +kernel
set_option maxHeartbeats 4000000 in
theorem eX4_want (g : GC) : CT (wC g) yX4_want (Cond.code yX4_want cX4_want 8 none) 4 88 (pX4_want g.2.1) := by
  refine CT.of (wC_ok g) (cc := cX4_want) (nL := 8) (ret := none) (ht := []) (by decide +kernel) (Or.inl ⟨rfl, rfl⟩) (B := bX4_want_0 g.2.1) (fun R E X hE => ?_)
  have h207 : E (bX4_want_207 g.2.1 R) 207 := by
    unfold bX4_want_207
    exact si_return (pc := 207) hE dX4_want_207
  have h204 : ∀ (J26 : Cont AH) (hJ26 : E J26 26), E (bX4_want_204 g.2.1 R J26) 204 := by
    intro J26 hJ26
    unfold bX4_want_204
    exact si_goto (pc := 204) hE dX4_want_204 (by decide) (si_kill hE hJ26)
  have h188 : ∀ (J26 : Cont AH) (hJ26 : E J26 26) (J42 : Cont AH) (hJ42 : E J42 42), E (bX4_want_188 g.2.1 R J26 J42) 188 := by
    intro J26 hJ26 J42 hJ42
    unfold bX4_want_188
    refine si_ior (pc := 188) hE dX4_want_188 ?_
    refine si_istore_n (pc := 189) hE dX4_want_189 rfl (by decide) ?_
    refine si_aload_n (pc := 190) hE dX4_want_190 rfl ?_
    refine si_gR (pc := 191) hE dX4_want_191 (Or.inl q312) zfo_58 ?_
    refine si_iload_n (pc := 194) hE dX4_want_194 rfl ?_
    refine si_lload (pc := 195) hE dX4_want_195 ?_
    refine si_lastore (pc := 197) hE dX4_want_197 ?_
    refine si_iinc (pc := 198) hE dX4_want_198 (by decide) (by decide) ?_
    exact si_goto (pc := 201) hE dX4_want_201 (by decide) (si_kill hE hJ42)
  have h187 : ∀ (J26 : Cont AH) (hJ26 : E J26 26) (J42 : Cont AH) (hJ42 : E J42 42), E (bX4_want_187 g.2.1 R J26 J42) 187 := by
    intro J26 hJ26 J42 hJ42
    unfold bX4_want_187
    refine si_iconst (pc := 187) hE dX4_want_187 (by decide) ?_
    exact (h188 J26 hJ26 J42 hJ42)
  have h159 : ∀ (J26 : Cont AH) (hJ26 : E J26 26) (J42 : Cont AH) (hJ42 : E J42 42), E (bX4_want_159 g.2.1 R J26 J42) 159 := by
    intro J26 hJ26 J42 hJ42
    unfold bX4_want_159
    refine si_lload (pc := 159) hE dX4_want_159 ?_
    refine si_aload_n (pc := 161) hE dX4_want_161 rfl ?_
    refine si_gR (pc := 162) hE dX4_want_162 (Or.inl q308) zfo_59 ?_
    refine si_iload_n (pc := 165) hE dX4_want_165 rfl ?_
    refine si_laload (pc := 166) hE dX4_want_166 ?_
    refine si_lor (pc := 167) hE dX4_want_167 ?_
    refine si_lstore (pc := 168) hE dX4_want_168 (by decide) ?_
    refine si_iload_n (pc := 170) hE dX4_want_170 rfl ?_
    refine si_lload (pc := 171) hE dX4_want_171 ?_
    refine si_aload_n (pc := 173) hE dX4_want_173 rfl ?_
    refine si_gR (pc := 174) hE dX4_want_174 (Or.inl q312) zfo_58 ?_
    refine si_iload_n (pc := 177) hE dX4_want_177 rfl ?_
    refine si_laload (pc := 178) hE dX4_want_178 ?_
    refine si_lcmp (pc := 179) hE dX4_want_179 ?_
    refine si_if_eq (pc := 180) hE dX4_want_180 (by decide) (h187 J26 hJ26 J42 hJ42) ?_
    refine si_iconst (pc := 183) hE dX4_want_183 (by decide) ?_
    exact si_goto (pc := 184) hE dX4_want_184 (by decide) (h188 J26 hJ26 J42 hJ42)
  have h139 : ∀ (J26 : Cont AH) (hJ26 : E J26 26) (J42 : Cont AH) (hJ42 : E J42 42), E (bX4_want_139 g.2.1 R J26 J42) 139 := by
    intro J26 hJ26 J42 hJ42
    unfold bX4_want_139
    refine si_aload_n (pc := 139) hE dX4_want_139 rfl ?_
    refine si_hv (pc := 140) (n := 0) hE dX4_want_140 ⟨cal_V (recvO cls6) (eX6_isSeen g) (Or.inl ⟨rfl, rfl⟩) q1217 q156 q1202 q1203 q1210 ⟨by decide +kernel, by decide +kernel⟩ nX6_isSeen (by decide) (by decide), ⟨cal_V (recvO cls7) (eX6_isSeen g) (Or.inl ⟨rfl, rfl⟩) q1217 q156 q1202 q1203 q1209 ⟨by decide +kernel, by decide +kernel⟩ nX6_isSeen (by decide) (by decide), ⟨cal_U (x := xm_11) (recvO cls8) (eX13_isSeen g) (Or.inl ⟨rfl, rfl⟩) q1216 q163 q1202 q1204 (Or.inr ⟨_, _, _, q1203, q1217⟩) ⟨by decide +kernel, by decide +kernel⟩ q1214 q1215 xp_11 (by decide) (by decide), ⟨cal_U (x := xm_11) (recvO cls9) (eX7_isSeen g) (Or.inl ⟨rfl, rfl⟩) q1213 q157 q1202 q1204 (Or.inr ⟨_, _, _, q1203, q1217⟩) ⟨by decide +kernel, by decide +kernel⟩ q1211 q1212 xp_11 (by decide) (by decide), ⟨cal_V (recvO cls10) (eX6_isSeen g) (Or.inl ⟨rfl, rfl⟩) q1217 q156 q1202 q1203 q1205 ⟨by decide +kernel, by decide +kernel⟩ nX6_isSeen (by decide) (by decide), ⟨cal_V (recvO cls11) (eX6_isSeen g) (Or.inl ⟨rfl, rfl⟩) q1217 q156 q1202 q1203 q1206 ⟨by decide +kernel, by decide +kernel⟩ nX6_isSeen (by decide) (by decide), ⟨cal_V (recvO cls12) (eX6_isSeen g) (Or.inl ⟨rfl, rfl⟩) q1217 q156 q1202 q1203 q1207 ⟨by decide +kernel, by decide +kernel⟩ nX6_isSeen (by decide) (by decide), ⟨cal_V (recvO cls13) (eX6_isSeen g) (Or.inl ⟨rfl, rfl⟩) q1217 q156 q1202 q1203 q1208 ⟨by decide +kernel, by decide +kernel⟩ nX6_isSeen (by decide) (by decide), trivial⟩⟩⟩⟩⟩⟩⟩⟩ (si_out hE rfl) ?_
    refine si_if_eq (pc := 143) hE dX4_want_143 (by decide) (h159 J26 hJ26 J42 hJ42) ?_
    refine si_lload (pc := 146) hE dX4_want_146 ?_
    refine si_aload_n (pc := 148) hE dX4_want_148 rfl ?_
    refine si_hv (pc := 149) (n := 0) hE dX4_want_149 ⟨cal_V (recvO cls3) (eX4_bold g) (Or.inl ⟨rfl, rfl⟩) q1232 q136 q1229 q1231 qs28 ⟨by decide +kernel, by decide +kernel⟩ nX4_bold (by decide) (by decide), trivial⟩ (si_out hE rfl) ?_
    refine si_ldc2 (pc := 152) hE dX4_want_152 q1201 ?_
    refine si_lxor (pc := 155) hE dX4_want_155 ?_
    refine si_land (pc := 156) hE dX4_want_156 ?_
    refine si_lstore (pc := 157) hE dX4_want_157 (by decide) ?_
    exact (h159 J26 hJ26 J42 hJ42)
  have h92 : ∀ (J26 : Cont AH) (hJ26 : E J26 26) (J42 : Cont AH) (hJ42 : E J42 42), E (bX4_want_92 g.2.1 R J26 J42) 92 := by
    intro J26 hJ26 J42 hJ42
    unfold bX4_want_92
    refine si_fix hE (fun J92 hJ92 => ?_)
    refine si_iload (pc := 92) hE dX4_want_92 ?_
    refine si_aload_n (pc := 94) hE dX4_want_94 rfl ?_
    refine si_gR (pc := 95) hE dX4_want_95 (Or.inl q763) zfo_34 ?_
    refine si_hv (pc := 98) (n := 0) hE dX4_want_98 ⟨cal_V (recvO cls18) (eJ2_size g) (Or.inl ⟨rfl, rfl⟩) q501 q139 q999 q499 q500 ⟨by decide +kernel, by decide +kernel⟩ nJ2_size (by decide) (by decide), trivial⟩ (si_out hE rfl) ?_
    refine si_icmp_ge (pc := 101) hE dX4_want_101 (by decide) (h139 J26 hJ26 J42 hJ42) ?_
    refine si_aload_n (pc := 104) hE dX4_want_104 rfl ?_
    refine si_gR (pc := 105) hE dX4_want_105 (Or.inl q763) zfo_34 ?_
    refine si_iload (pc := 108) hE dX4_want_108 ?_
    refine si_hv (pc := 110) (n := 1) hE dX4_want_110 ⟨cal_V (recvO cls18) (eJ2_get g) (Or.inl ⟨rfl, rfl⟩) q980 q139 q998 q978 q979 ⟨by decide +kernel, by decide +kernel⟩ nJ2_get (by decide) (by decide), trivial⟩ (si_out hE rfl) ?_
    refine si_cast (pc := 113) hE dX4_want_113 q1029 zco_2 ?_
    refine si_astore (pc := 116) hE dX4_want_116 (by decide) ?_
    refine si_lload (pc := 118) hE dX4_want_118 ?_
    refine si_aload_n (pc := 120) hE dX4_want_120 rfl ?_
    refine si_gR (pc := 121) hE dX4_want_121 (Or.inl q312) zfo_58 ?_
    refine si_aload (pc := 124) hE dX4_want_124 ?_
    refine si_gI (pc := 126) hE dX4_want_126 (Or.inr ⟨_, q750⟩) zfo_55 ?_
    refine si_laload (pc := 129) hE dX4_want_129 ?_
    refine si_land (pc := 130) hE dX4_want_130 ?_
    refine si_lstore (pc := 131) hE dX4_want_131 (by decide) ?_
    refine si_iinc (pc := 133) hE dX4_want_133 (by decide) (by decide) ?_
    exact si_goto (pc := 136) hE dX4_want_136 (by decide) (si_kill hE hJ92)
  have h87 : ∀ (J26 : Cont AH) (hJ26 : E J26 26) (J42 : Cont AH) (hJ42 : E J42 42), E (bX4_want_87 g.2.1 R J26 J42) 87 := by
    intro J26 hJ26 J42 hJ42
    unfold bX4_want_87
    refine si_lstore (pc := 87) hE dX4_want_87 (by decide) ?_
    refine si_iconst (pc := 89) hE dX4_want_89 (by decide) ?_
    refine si_istore (pc := 90) hE dX4_want_90 (by decide) ?_
    exact (si_kill hE (h92 J26 hJ26 J42 hJ42))
  have h72 : ∀ (J26 : Cont AH) (hJ26 : E J26 26) (J42 : Cont AH) (hJ42 : E J42 42), E (bX4_want_72 g.2.1 R J26 J42) 72 := by
    intro J26 hJ26 J42 hJ42
    unfold bX4_want_72
    refine si_aload_n (pc := 72) hE dX4_want_72 rfl ?_
    refine si_hv (pc := 73) (n := 0) hE dX4_want_73 ⟨cal_V (recvO cls3) (eX4_all g) (Or.inl ⟨rfl, rfl⟩) q1197 q136 q1194 q1196 qs27 ⟨by decide +kernel, by decide +kernel⟩ nX4_all (by decide) (by decide), trivial⟩ (si_out hE rfl) ?_
    refine si_aload_n (pc := 76) hE dX4_want_76 rfl ?_
    refine si_gR (pc := 77) hE dX4_want_77 (Or.inl q310) zfo_60 ?_
    refine si_iload_n (pc := 80) hE dX4_want_80 rfl ?_
    refine si_laload (pc := 81) hE dX4_want_81 ?_
    refine si_ldc2 (pc := 82) hE dX4_want_82 q1201 ?_
    refine si_lxor (pc := 85) hE dX4_want_85 ?_
    refine si_land (pc := 86) hE dX4_want_86 ?_
    exact (h87 J26 hJ26 J42 hJ42)
  have h42 : ∀ (J26 : Cont AH) (hJ26 : E J26 26), E (bX4_want_42 g.2.1 R J26) 42 := by
    intro J26 hJ26
    unfold bX4_want_42
    refine si_fix hE (fun J42 hJ42 => ?_)
    refine si_iload_n (pc := 42) hE dX4_want_42 rfl ?_
    refine si_if_lt (pc := 43) hE dX4_want_43 (by decide) (h204 J26 hJ26) ?_
    refine si_aload_n (pc := 46) hE dX4_want_46 rfl ?_
    refine si_gR (pc := 47) hE dX4_want_47 (Or.inl q293) zfo_18 ?_
    refine si_iload_n (pc := 50) hE dX4_want_50 rfl ?_
    refine si_hv (pc := 51) (n := 1) hE dX4_want_51 ⟨cal_V (recvO cls18) (eJ2_get g) (Or.inl ⟨rfl, rfl⟩) q980 q139 q998 q978 q979 ⟨by decide +kernel, by decide +kernel⟩ nJ2_get (by decide) (by decide), trivial⟩ (si_out hE rfl) ?_
    refine si_cast (pc := 54) hE dX4_want_54 q1029 zco_2 ?_
    refine si_astore_n (pc := 57) hE dX4_want_57 rfl (by decide) ?_
    refine si_aload_n (pc := 58) hE dX4_want_58 rfl ?_
    refine si_gR (pc := 59) hE dX4_want_59 (Or.inl q763) zfo_34 ?_
    refine si_hv (pc := 62) (n := 0) hE dX4_want_62 ⟨cal_V (recvO cls18) (eJ2_size g) (Or.inl ⟨rfl, rfl⟩) q501 q139 q999 q499 q500 ⟨by decide +kernel, by decide +kernel⟩ nJ2_size (by decide) (by decide), trivial⟩ (si_out hE rfl) ?_
    refine si_if_ne (pc := 65) hE dX4_want_65 (by decide) (h72 J26 hJ26 J42 hJ42) ?_
    refine si_lconst (pc := 68) hE dX4_want_68 (by decide) ?_
    exact si_goto (pc := 69) hE dX4_want_69 (by decide) (h87 J26 hJ26 J42 hJ42)
  have h26 : E (bX4_want_26 g.2.1 R) 26 := by
    unfold bX4_want_26
    refine si_fix hE (fun J26 hJ26 => ?_)
    refine si_iload_n (pc := 26) hE dX4_want_26 rfl ?_
    refine si_if_eq (pc := 27) hE dX4_want_27 (by decide) h207 ?_
    refine si_iconst (pc := 30) hE dX4_want_30 (by decide) ?_
    refine si_istore_n (pc := 31) hE dX4_want_31 rfl (by decide) ?_
    refine si_aload_n (pc := 32) hE dX4_want_32 rfl ?_
    refine si_gR (pc := 33) hE dX4_want_33 (Or.inl q293) zfo_18 ?_
    refine si_hv (pc := 36) (n := 0) hE dX4_want_36 ⟨cal_V (recvO cls18) (eJ2_size g) (Or.inl ⟨rfl, rfl⟩) q501 q139 q999 q499 q500 ⟨by decide +kernel, by decide +kernel⟩ nJ2_size (by decide) (by decide), trivial⟩ (si_out hE rfl) ?_
    refine si_iconst (pc := 39) hE dX4_want_39 (by decide) ?_
    refine si_isub (pc := 40) hE dX4_want_40 ?_
    refine si_istore_n (pc := 41) hE dX4_want_41 rfl (by decide) ?_
    exact (si_kill hE (h42 J26 hJ26))
  have h0 : E (bX4_want_0 g.2.1 R) 0 := by
    unfold bX4_want_0
    refine si_aload_n (pc := 0) hE dX4_want_0 rfl ?_
    refine si_aload_n (pc := 1) hE dX4_want_1 rfl ?_
    refine si_gR (pc := 2) hE dX4_want_2 (Or.inl q293) zfo_18 ?_
    refine si_hv (pc := 5) (n := 0) hE dX4_want_5 ⟨cal_V (recvO cls18) (eJ2_size g) (Or.inl ⟨rfl, rfl⟩) q501 q139 q999 q499 q500 ⟨by decide +kernel, by decide +kernel⟩ nJ2_size (by decide) (by decide), trivial⟩ (si_out hE rfl) ?_
    refine si_newarray1 (pc := 8) hE dX4_want_8 q1246 ?_
    refine si_pR (pc := 10) hE dX4_want_10 (Or.inl q312) zfo_58 (Or.inr ⟨_, rfl⟩) ?_
    refine si_aload_n (pc := 13) hE dX4_want_13 rfl ?_
    refine si_gR (pc := 14) hE dX4_want_14 (Or.inl q312) zfo_58 ?_
    refine si_aload_n (pc := 17) hE dX4_want_17 rfl ?_
    refine si_hv (pc := 18) (n := 0) hE dX4_want_18 ⟨cal_V (recvO cls3) (eX4_all g) (Or.inl ⟨rfl, rfl⟩) q1197 q136 q1194 q1196 qs27 ⟨by decide +kernel, by decide +kernel⟩ nX4_all (by decide) (by decide), trivial⟩ (si_out hE rfl) ?_
    refine si_hs (pc := 21) (n := 2) hE dX4_want_21 (cal_S (eX4_set g) (Or.inl ⟨rfl, rfl⟩) q1200 q136 q1198 q1199 ⟨by decide +kernel, by decide +kernel⟩ nX4_set (by decide) (by decide)) (si_out hE rfl) ?_
    refine si_iconst (pc := 24) hE dX4_want_24 (by decide) ?_
    refine si_istore_n (pc := 25) hE dX4_want_25 rfl (by decide) ?_
    exact (si_kill hE h26)
  exact h0
def bX4_be_187 (κ : Nat → Option Nat) (R : Ret AH) : Cont AH :=
    o_return R
def bX4_be_184 (κ : Nat → Option Nat) (R : Ret AH) (J26 : Cont AH) : Cont AH :=
    (o_kill [2, 3, 4, 5, 6] J26)
def bX4_be_169 (κ : Nat → Option Nat) (R : Ret AH) (J26 : Cont AH) (J34 : Cont AH) : Cont AH :=
    o_ior <|
    o_is 1 <|
    o_al 0 <|
    o_gR 9 [4] <|
    o_il 2 <|
    o_ll 3 <|
    o_sG <|
    o_iinc 2 1 <|
    (o_kill [3, 4, 5, 6] J34)
def bX4_be_168 (κ : Nat → Option Nat) (R : Ret AH) (J26 : Cont AH) (J34 : Cont AH) : Cont AH :=
    o_ic 0 <|
    (bX4_be_169 κ R J26 J34)
def bX4_be_152 (κ : Nat → Option Nat) (R : Ret AH) (J26 : Cont AH) (J34 : Cont AH) : Cont AH :=
    o_il 1 <|
    o_ll 3 <|
    o_al 0 <|
    o_gR 9 [4] <|
    o_il 2 <|
    o_aG 101 <|
    o_lcmp <|
    o_if_eq (bX4_be_168 κ R J26 J34) <|
    o_ic 1 <|
    (bX4_be_169 κ R J26 J34)
def bX4_be_61 (κ : Nat → Option Nat) (R : Ret AH) (J26 : Cont AH) (J34 : Cont AH) : Cont AH :=
    fixC fun J61 =>
    o_il 5 <|
    o_al 0 <|
    o_gR 1 [4] <|
    o_il 2 <|
    o_call 2 (hvc [(19, pJ2_get κ)]) (fun _ a σ => R (.inr a) σ) <|
    o_cast [7, 8, 9, 10, 11, 12, 13, 14] <|
    o_gR 3 [7, 8, 9, 10, 11, 12, 13, 14] <|
    o_call 1 (hvc [(19, pJ2_size κ)]) (fun _ a σ => R (.inr a) σ) <|
    o_icmp_ge (bX4_be_152 κ R J26 J34) <|
    o_al 0 <|
    o_gR 1 [4] <|
    o_il 2 <|
    o_call 2 (hvc [(19, pJ2_get κ)]) (fun _ a σ => R (.inr a) σ) <|
    o_cast [7, 8, 9, 10, 11, 12, 13, 14] <|
    o_gR 3 [7, 8, 9, 10, 11, 12, 13, 14] <|
    o_il 5 <|
    o_call 2 (hvc [(19, pJ2_get κ)]) (fun _ a σ => R (.inr a) σ) <|
    o_cast [7, 8, 9, 10, 11, 12, 13, 14] <|
    o_as 6 <|
    o_ll 3 <|
    o_al 0 <|
    o_gR 7 [4] <|
    o_al 6 <|
    o_gI 0 [7, 8, 9, 10, 11, 12, 13, 14] <|
    o_aG 101 <|
    o_lc (-1) <|
    o_lxor <|
    o_al 0 <|
    o_gR 6 [4] <|
    o_al 6 <|
    o_gI 0 [7, 8, 9, 10, 11, 12, 13, 14] <|
    o_aG 101 <|
    o_al 0 <|
    o_gR 9 [4] <|
    o_al 6 <|
    o_gI 0 [7, 8, 9, 10, 11, 12, 13, 14] <|
    o_aG 101 <|
    o_lor <|
    o_land <|
    o_land <|
    o_ls 3 <|
    o_iinc 5 1 <|
    (o_kill [4, 6] J61)
def bX4_be_57 (κ : Nat → Option Nat) (R : Ret AH) (J26 : Cont AH) (J34 : Cont AH) : Cont AH :=
    o_ls 3 <|
    o_ic 0 <|
    o_is 5 <|
    (o_kill [4, 6] (bX4_be_61 κ R J26 J34))
def bX4_be_53 (κ : Nat → Option Nat) (R : Ret AH) (J26 : Cont AH) (J34 : Cont AH) : Cont AH :=
    o_al 0 <|
    o_call 1 (hvc [(4, pX4_all κ)]) (fun _ a σ => R (.inr a) σ) <|
    (bX4_be_57 κ R J26 J34)
def bX4_be_34 (κ : Nat → Option Nat) (R : Ret AH) (J26 : Cont AH) : Cont AH :=
    fixC fun J34 =>
    o_il 2 <|
    o_al 0 <|
    o_gR 1 [4] <|
    o_call 1 (hvc [(19, pJ2_size κ)]) (fun _ a σ => R (.inr a) σ) <|
    o_icmp_ge (bX4_be_184 κ R J26) <|
    o_il 2 <|
    o_if_ne (bX4_be_53 κ R J26 J34) <|
    o_lc 0 <|
    (bX4_be_57 κ R J26 J34)
def bX4_be_26 (κ : Nat → Option Nat) (R : Ret AH) : Cont AH :=
    fixC fun J26 =>
    o_il 1 <|
    o_if_eq (bX4_be_187 κ R) <|
    o_ic 0 <|
    o_is 1 <|
    o_ic 0 <|
    o_is 2 <|
    (o_kill [3, 4, 5, 6] (bX4_be_34 κ R J26))
def bX4_be_0 (κ : Nat → Option Nat) (R : Ret AH) : Cont AH :=
    o_al 0 <|
    o_al 0 <|
    o_gR 1 [4] <|
    o_call 1 (hvc [(19, pJ2_size κ)]) (fun _ a σ => R (.inr a) σ) <|
    o_newA 101 <|
    o_pR 9 [4] <|
    o_al 0 <|
    o_gR 9 [4] <|
    o_al 0 <|
    o_call 1 (hvc [(4, pX4_all κ)]) (fun _ a σ => R (.inr a) σ) <|
    o_call 2 (pX4_set κ) (fun _ a σ => R (.inr a) σ) <|
    o_ic 1 <|
    o_is 1 <|
    (o_kill [2, 3, 4, 5, 6] (bX4_be_26 κ R))
def pX4_be (κ : Nat → Option Nat) : PT AH := fun as σ Q => (lg_sl as).length ≤ 7 ∧ bX4_be_0 κ Q (entP 7 as) [] σ
theorem nX4_be : parN yX4_be 0 := by unfold parN; decide +kernel
set_option maxHeartbeats 4000000 in
theorem eX4_be (g : GC) : CT (wC g) yX4_be (Cond.code yX4_be cX4_be 7 none) 3 64 (pX4_be g.2.1) := by
  refine CT.of (wC_ok g) (cc := cX4_be) (nL := 7) (ret := none) (ht := []) (by decide +kernel) (Or.inl ⟨rfl, rfl⟩) (B := bX4_be_0 g.2.1) (fun R E X hE => ?_)
  have h187 : E (bX4_be_187 g.2.1 R) 187 := by
    unfold bX4_be_187
    exact si_return (pc := 187) hE dX4_be_187
  have h184 : ∀ (J26 : Cont AH) (hJ26 : E J26 26), E (bX4_be_184 g.2.1 R J26) 184 := by
    intro J26 hJ26
    unfold bX4_be_184
    exact si_goto (pc := 184) hE dX4_be_184 (by decide) (si_kill hE hJ26)
  have h169 : ∀ (J26 : Cont AH) (hJ26 : E J26 26) (J34 : Cont AH) (hJ34 : E J34 34), E (bX4_be_169 g.2.1 R J26 J34) 169 := by
    intro J26 hJ26 J34 hJ34
    unfold bX4_be_169
    refine si_ior (pc := 169) hE dX4_be_169 ?_
    refine si_istore_n (pc := 170) hE dX4_be_170 rfl (by decide) ?_
    refine si_aload_n (pc := 171) hE dX4_be_171 rfl ?_
    refine si_gR (pc := 172) hE dX4_be_172 (Or.inl q314) zfo_61 ?_
    refine si_iload_n (pc := 175) hE dX4_be_175 rfl ?_
    refine si_lload_n (pc := 176) hE dX4_be_176 rfl ?_
    refine si_lastore (pc := 177) hE dX4_be_177 ?_
    refine si_iinc (pc := 178) hE dX4_be_178 (by decide) (by decide) ?_
    exact si_goto (pc := 181) hE dX4_be_181 (by decide) (si_kill hE hJ34)
  have h168 : ∀ (J26 : Cont AH) (hJ26 : E J26 26) (J34 : Cont AH) (hJ34 : E J34 34), E (bX4_be_168 g.2.1 R J26 J34) 168 := by
    intro J26 hJ26 J34 hJ34
    unfold bX4_be_168
    refine si_iconst (pc := 168) hE dX4_be_168 (by decide) ?_
    exact (h169 J26 hJ26 J34 hJ34)
  have h152 : ∀ (J26 : Cont AH) (hJ26 : E J26 26) (J34 : Cont AH) (hJ34 : E J34 34), E (bX4_be_152 g.2.1 R J26 J34) 152 := by
    intro J26 hJ26 J34 hJ34
    unfold bX4_be_152
    refine si_iload_n (pc := 152) hE dX4_be_152 rfl ?_
    refine si_lload_n (pc := 153) hE dX4_be_153 rfl ?_
    refine si_aload_n (pc := 154) hE dX4_be_154 rfl ?_
    refine si_gR (pc := 155) hE dX4_be_155 (Or.inl q314) zfo_61 ?_
    refine si_iload_n (pc := 158) hE dX4_be_158 rfl ?_
    refine si_laload (pc := 159) hE dX4_be_159 ?_
    refine si_lcmp (pc := 160) hE dX4_be_160 ?_
    refine si_if_eq (pc := 161) hE dX4_be_161 (by decide) (h168 J26 hJ26 J34 hJ34) ?_
    refine si_iconst (pc := 164) hE dX4_be_164 (by decide) ?_
    exact si_goto (pc := 165) hE dX4_be_165 (by decide) (h169 J26 hJ26 J34 hJ34)
  have h61 : ∀ (J26 : Cont AH) (hJ26 : E J26 26) (J34 : Cont AH) (hJ34 : E J34 34), E (bX4_be_61 g.2.1 R J26 J34) 61 := by
    intro J26 hJ26 J34 hJ34
    unfold bX4_be_61
    refine si_fix hE (fun J61 hJ61 => ?_)
    refine si_iload (pc := 61) hE dX4_be_61 ?_
    refine si_aload_n (pc := 63) hE dX4_be_63 rfl ?_
    refine si_gR (pc := 64) hE dX4_be_64 (Or.inl q293) zfo_18 ?_
    refine si_iload_n (pc := 67) hE dX4_be_67 rfl ?_
    refine si_hv (pc := 68) (n := 1) hE dX4_be_68 ⟨cal_V (recvO cls18) (eJ2_get g) (Or.inl ⟨rfl, rfl⟩) q980 q139 q998 q978 q979 ⟨by decide +kernel, by decide +kernel⟩ nJ2_get (by decide) (by decide), trivial⟩ (si_out hE rfl) ?_
    refine si_cast (pc := 71) hE dX4_be_71 q1029 zco_2 ?_
    refine si_gR (pc := 74) hE dX4_be_74 (Or.inl q767) zfo_35 ?_
    refine si_hv (pc := 77) (n := 0) hE dX4_be_77 ⟨cal_V (recvO cls18) (eJ2_size g) (Or.inl ⟨rfl, rfl⟩) q501 q139 q999 q499 q500 ⟨by decide +kernel, by decide +kernel⟩ nJ2_size (by decide) (by decide), trivial⟩ (si_out hE rfl) ?_
    refine si_icmp_ge (pc := 80) hE dX4_be_80 (by decide) (h152 J26 hJ26 J34 hJ34) ?_
    refine si_aload_n (pc := 83) hE dX4_be_83 rfl ?_
    refine si_gR (pc := 84) hE dX4_be_84 (Or.inl q293) zfo_18 ?_
    refine si_iload_n (pc := 87) hE dX4_be_87 rfl ?_
    refine si_hv (pc := 88) (n := 1) hE dX4_be_88 ⟨cal_V (recvO cls18) (eJ2_get g) (Or.inl ⟨rfl, rfl⟩) q980 q139 q998 q978 q979 ⟨by decide +kernel, by decide +kernel⟩ nJ2_get (by decide) (by decide), trivial⟩ (si_out hE rfl) ?_
    refine si_cast (pc := 91) hE dX4_be_91 q1029 zco_2 ?_
    refine si_gR (pc := 94) hE dX4_be_94 (Or.inl q767) zfo_35 ?_
    refine si_iload (pc := 97) hE dX4_be_97 ?_
    refine si_hv (pc := 99) (n := 1) hE dX4_be_99 ⟨cal_V (recvO cls18) (eJ2_get g) (Or.inl ⟨rfl, rfl⟩) q980 q139 q998 q978 q979 ⟨by decide +kernel, by decide +kernel⟩ nJ2_get (by decide) (by decide), trivial⟩ (si_out hE rfl) ?_
    refine si_cast (pc := 102) hE dX4_be_102 q1029 zco_2 ?_
    refine si_astore (pc := 105) hE dX4_be_105 (by decide) ?_
    refine si_lload_n (pc := 107) hE dX4_be_107 rfl ?_
    refine si_aload_n (pc := 108) hE dX4_be_108 rfl ?_
    refine si_gR (pc := 109) hE dX4_be_109 (Or.inl q310) zfo_60 ?_
    refine si_aload (pc := 112) hE dX4_be_112 ?_
    refine si_gI (pc := 114) hE dX4_be_114 (Or.inr ⟨_, q750⟩) zfo_55 ?_
    refine si_laload (pc := 117) hE dX4_be_117 ?_
    refine si_ldc2 (pc := 118) hE dX4_be_118 q1201 ?_
    refine si_lxor (pc := 121) hE dX4_be_121 ?_
    refine si_aload_n (pc := 122) hE dX4_be_122 rfl ?_
    refine si_gR (pc := 123) hE dX4_be_123 (Or.inl q308) zfo_59 ?_
    refine si_aload (pc := 126) hE dX4_be_126 ?_
    refine si_gI (pc := 128) hE dX4_be_128 (Or.inr ⟨_, q750⟩) zfo_55 ?_
    refine si_laload (pc := 131) hE dX4_be_131 ?_
    refine si_aload_n (pc := 132) hE dX4_be_132 rfl ?_
    refine si_gR (pc := 133) hE dX4_be_133 (Or.inl q314) zfo_61 ?_
    refine si_aload (pc := 136) hE dX4_be_136 ?_
    refine si_gI (pc := 138) hE dX4_be_138 (Or.inr ⟨_, q750⟩) zfo_55 ?_
    refine si_laload (pc := 141) hE dX4_be_141 ?_
    refine si_lor (pc := 142) hE dX4_be_142 ?_
    refine si_land (pc := 143) hE dX4_be_143 ?_
    refine si_land (pc := 144) hE dX4_be_144 ?_
    refine si_lstore_n (pc := 145) hE dX4_be_145 rfl (by decide) ?_
    refine si_iinc (pc := 146) hE dX4_be_146 (by decide) (by decide) ?_
    exact si_goto (pc := 149) hE dX4_be_149 (by decide) (si_kill hE hJ61)
  have h57 : ∀ (J26 : Cont AH) (hJ26 : E J26 26) (J34 : Cont AH) (hJ34 : E J34 34), E (bX4_be_57 g.2.1 R J26 J34) 57 := by
    intro J26 hJ26 J34 hJ34
    unfold bX4_be_57
    refine si_lstore_n (pc := 57) hE dX4_be_57 rfl (by decide) ?_
    refine si_iconst (pc := 58) hE dX4_be_58 (by decide) ?_
    refine si_istore (pc := 59) hE dX4_be_59 (by decide) ?_
    exact (si_kill hE (h61 J26 hJ26 J34 hJ34))
  have h53 : ∀ (J26 : Cont AH) (hJ26 : E J26 26) (J34 : Cont AH) (hJ34 : E J34 34), E (bX4_be_53 g.2.1 R J26 J34) 53 := by
    intro J26 hJ26 J34 hJ34
    unfold bX4_be_53
    refine si_aload_n (pc := 53) hE dX4_be_53 rfl ?_
    refine si_hv (pc := 54) (n := 0) hE dX4_be_54 ⟨cal_V (recvO cls3) (eX4_all g) (Or.inl ⟨rfl, rfl⟩) q1197 q136 q1194 q1196 qs27 ⟨by decide +kernel, by decide +kernel⟩ nX4_all (by decide) (by decide), trivial⟩ (si_out hE rfl) ?_
    exact (h57 J26 hJ26 J34 hJ34)
  have h34 : ∀ (J26 : Cont AH) (hJ26 : E J26 26), E (bX4_be_34 g.2.1 R J26) 34 := by
    intro J26 hJ26
    unfold bX4_be_34
    refine si_fix hE (fun J34 hJ34 => ?_)
    refine si_iload_n (pc := 34) hE dX4_be_34 rfl ?_
    refine si_aload_n (pc := 35) hE dX4_be_35 rfl ?_
    refine si_gR (pc := 36) hE dX4_be_36 (Or.inl q293) zfo_18 ?_
    refine si_hv (pc := 39) (n := 0) hE dX4_be_39 ⟨cal_V (recvO cls18) (eJ2_size g) (Or.inl ⟨rfl, rfl⟩) q501 q139 q999 q499 q500 ⟨by decide +kernel, by decide +kernel⟩ nJ2_size (by decide) (by decide), trivial⟩ (si_out hE rfl) ?_
    refine si_icmp_ge (pc := 42) hE dX4_be_42 (by decide) (h184 J26 hJ26) ?_
    refine si_iload_n (pc := 45) hE dX4_be_45 rfl ?_
    refine si_if_ne (pc := 46) hE dX4_be_46 (by decide) (h53 J26 hJ26 J34 hJ34) ?_
    refine si_lconst (pc := 49) hE dX4_be_49 (by decide) ?_
    exact si_goto (pc := 50) hE dX4_be_50 (by decide) (h57 J26 hJ26 J34 hJ34)
  have h26 : E (bX4_be_26 g.2.1 R) 26 := by
    unfold bX4_be_26
    refine si_fix hE (fun J26 hJ26 => ?_)
    refine si_iload_n (pc := 26) hE dX4_be_26 rfl ?_
    refine si_if_eq (pc := 27) hE dX4_be_27 (by decide) h187 ?_
    refine si_iconst (pc := 30) hE dX4_be_30 (by decide) ?_
    refine si_istore_n (pc := 31) hE dX4_be_31 rfl (by decide) ?_
    refine si_iconst (pc := 32) hE dX4_be_32 (by decide) ?_
    refine si_istore_n (pc := 33) hE dX4_be_33 rfl (by decide) ?_
    exact (si_kill hE (h34 J26 hJ26))
  have h0 : E (bX4_be_0 g.2.1 R) 0 := by
    unfold bX4_be_0
    refine si_aload_n (pc := 0) hE dX4_be_0 rfl ?_
    refine si_aload_n (pc := 1) hE dX4_be_1 rfl ?_
    refine si_gR (pc := 2) hE dX4_be_2 (Or.inl q293) zfo_18 ?_
    refine si_hv (pc := 5) (n := 0) hE dX4_be_5 ⟨cal_V (recvO cls18) (eJ2_size g) (Or.inl ⟨rfl, rfl⟩) q501 q139 q999 q499 q500 ⟨by decide +kernel, by decide +kernel⟩ nJ2_size (by decide) (by decide), trivial⟩ (si_out hE rfl) ?_
    refine si_newarray1 (pc := 8) hE dX4_be_8 q1246 ?_
    refine si_pR (pc := 10) hE dX4_be_10 (Or.inl q314) zfo_61 (Or.inr ⟨_, rfl⟩) ?_
    refine si_aload_n (pc := 13) hE dX4_be_13 rfl ?_
    refine si_gR (pc := 14) hE dX4_be_14 (Or.inl q314) zfo_61 ?_
    refine si_aload_n (pc := 17) hE dX4_be_17 rfl ?_
    refine si_hv (pc := 18) (n := 0) hE dX4_be_18 ⟨cal_V (recvO cls3) (eX4_all g) (Or.inl ⟨rfl, rfl⟩) q1197 q136 q1194 q1196 qs27 ⟨by decide +kernel, by decide +kernel⟩ nX4_all (by decide) (by decide), trivial⟩ (si_out hE rfl) ?_
    refine si_hs (pc := 21) (n := 2) hE dX4_be_21 (cal_S (eX4_set g) (Or.inl ⟨rfl, rfl⟩) q1200 q136 q1198 q1199 ⟨by decide +kernel, by decide +kernel⟩ nX4_set (by decide) (by decide)) (si_out hE rfl) ?_
    refine si_iconst (pc := 24) hE dX4_be_24 (by decide) ?_
    refine si_istore_n (pc := 25) hE dX4_be_25 rfl (by decide) ?_
    exact (si_kill hE h26)
  exact h0
def bX4_delay_185 (κ : Nat → Option Nat) (R : Ret AH) : Cont AH :=
    o_return R
def bX4_delay_182 (κ : Nat → Option Nat) (R : Ret AH) (J26 : Cont AH) : Cont AH :=
    (o_kill [2, 3, 4, 5, 6] J26)
def bX4_delay_167 (κ : Nat → Option Nat) (R : Ret AH) (J26 : Cont AH) (J34 : Cont AH) : Cont AH :=
    o_ior <|
    o_is 1 <|
    o_al 0 <|
    o_gR 11 [4] <|
    o_il 2 <|
    o_ll 3 <|
    o_sG <|
    o_iinc 2 1 <|
    (o_kill [3, 4, 5, 6] J34)
def bX4_delay_166 (κ : Nat → Option Nat) (R : Ret AH) (J26 : Cont AH) (J34 : Cont AH) : Cont AH :=
    o_ic 0 <|
    (bX4_delay_167 κ R J26 J34)
def bX4_delay_141 (κ : Nat → Option Nat) (R : Ret AH) (J26 : Cont AH) (J34 : Cont AH) : Cont AH :=
    o_ll 3 <|
    o_al 0 <|
    o_gR 10 [4] <|
    o_il 2 <|
    o_aG 101 <|
    o_lor <|
    o_ls 3 <|
    o_il 1 <|
    o_ll 3 <|
    o_al 0 <|
    o_gR 11 [4] <|
    o_il 2 <|
    o_aG 101 <|
    o_lcmp <|
    o_if_eq (bX4_delay_166 κ R J26 J34) <|
    o_ic 1 <|
    (bX4_delay_167 κ R J26 J34)
def bX4_delay_61 (κ : Nat → Option Nat) (R : Ret AH) (J26 : Cont AH) (J34 : Cont AH) : Cont AH :=
    fixC fun J61 =>
    o_il 5 <|
    o_al 0 <|
    o_gR 1 [4] <|
    o_il 2 <|
    o_call 2 (hvc [(19, pJ2_get κ)]) (fun _ a σ => R (.inr a) σ) <|
    o_cast [7, 8, 9, 10, 11, 12, 13, 14] <|
    o_gR 3 [7, 8, 9, 10, 11, 12, 13, 14] <|
    o_call 1 (hvc [(19, pJ2_size κ)]) (fun _ a σ => R (.inr a) σ) <|
    o_icmp_ge (bX4_delay_141 κ R J26 J34) <|
    o_al 0 <|
    o_gR 1 [4] <|
    o_il 2 <|
    o_call 2 (hvc [(19, pJ2_get κ)]) (fun _ a σ => R (.inr a) σ) <|
    o_cast [7, 8, 9, 10, 11, 12, 13, 14] <|
    o_gR 3 [7, 8, 9, 10, 11, 12, 13, 14] <|
    o_il 5 <|
    o_call 2 (hvc [(19, pJ2_get κ)]) (fun _ a σ => R (.inr a) σ) <|
    o_cast [7, 8, 9, 10, 11, 12, 13, 14] <|
    o_as 6 <|
    o_ll 3 <|
    o_al 0 <|
    o_gR 11 [4] <|
    o_al 6 <|
    o_gI 0 [7, 8, 9, 10, 11, 12, 13, 14] <|
    o_aG 101 <|
    o_al 0 <|
    o_gR 6 [4] <|
    o_al 6 <|
    o_gI 0 [7, 8, 9, 10, 11, 12, 13, 14] <|
    o_aG 101 <|
    o_lc (-1) <|
    o_lxor <|
    o_land <|
    o_land <|
    o_ls 3 <|
    o_iinc 5 1 <|
    (o_kill [4, 6] J61)
def bX4_delay_57 (κ : Nat → Option Nat) (R : Ret AH) (J26 : Cont AH) (J34 : Cont AH) : Cont AH :=
    o_ls 3 <|
    o_ic 0 <|
    o_is 5 <|
    (o_kill [4, 6] (bX4_delay_61 κ R J26 J34))
def bX4_delay_53 (κ : Nat → Option Nat) (R : Ret AH) (J26 : Cont AH) (J34 : Cont AH) : Cont AH :=
    o_al 0 <|
    o_call 1 (hvc [(4, pX4_all κ)]) (fun _ a σ => R (.inr a) σ) <|
    (bX4_delay_57 κ R J26 J34)
def bX4_delay_34 (κ : Nat → Option Nat) (R : Ret AH) (J26 : Cont AH) : Cont AH :=
    fixC fun J34 =>
    o_il 2 <|
    o_al 0 <|
    o_gR 1 [4] <|
    o_call 1 (hvc [(19, pJ2_size κ)]) (fun _ a σ => R (.inr a) σ) <|
    o_icmp_ge (bX4_delay_182 κ R J26) <|
    o_il 2 <|
    o_if_ne (bX4_delay_53 κ R J26 J34) <|
    o_lc 0 <|
    (bX4_delay_57 κ R J26 J34)
def bX4_delay_26 (κ : Nat → Option Nat) (R : Ret AH) : Cont AH :=
    fixC fun J26 =>
    o_il 1 <|
    o_if_eq (bX4_delay_185 κ R) <|
    o_ic 0 <|
    o_is 1 <|
    o_ic 0 <|
    o_is 2 <|
    (o_kill [3, 4, 5, 6] (bX4_delay_34 κ R J26))
def bX4_delay_0 (κ : Nat → Option Nat) (R : Ret AH) : Cont AH :=
    o_al 0 <|
    o_al 0 <|
    o_gR 1 [4] <|
    o_call 1 (hvc [(19, pJ2_size κ)]) (fun _ a σ => R (.inr a) σ) <|
    o_newA 101 <|
    o_pR 11 [4] <|
    o_al 0 <|
    o_gR 11 [4] <|
    o_al 0 <|
    o_call 1 (hvc [(4, pX4_all κ)]) (fun _ a σ => R (.inr a) σ) <|
    o_call 2 (pX4_set κ) (fun _ a σ => R (.inr a) σ) <|
    o_ic 1 <|
    o_is 1 <|
    (o_kill [2, 3, 4, 5, 6] (bX4_delay_26 κ R))
def pX4_delay (κ : Nat → Option Nat) : PT AH := fun as σ Q => (lg_sl as).length ≤ 7 ∧ bX4_delay_0 κ Q (entP 7 as) [] σ
theorem nX4_delay : parN yX4_delay 0 := by unfold parN; decide +kernel
set_option maxHeartbeats 4000000 in
theorem eX4_delay (g : GC) : CT (wC g) yX4_delay (Cond.code yX4_delay cX4_delay 7 none) 3 64 (pX4_delay g.2.1) := by
  refine CT.of (wC_ok g) (cc := cX4_delay) (nL := 7) (ret := none) (ht := []) (by decide +kernel) (Or.inl ⟨rfl, rfl⟩) (B := bX4_delay_0 g.2.1) (fun R E X hE => ?_)
  have h185 : E (bX4_delay_185 g.2.1 R) 185 := by
    unfold bX4_delay_185
    exact si_return (pc := 185) hE dX4_delay_185
  have h182 : ∀ (J26 : Cont AH) (hJ26 : E J26 26), E (bX4_delay_182 g.2.1 R J26) 182 := by
    intro J26 hJ26
    unfold bX4_delay_182
    exact si_goto (pc := 182) hE dX4_delay_182 (by decide) (si_kill hE hJ26)
  have h167 : ∀ (J26 : Cont AH) (hJ26 : E J26 26) (J34 : Cont AH) (hJ34 : E J34 34), E (bX4_delay_167 g.2.1 R J26 J34) 167 := by
    intro J26 hJ26 J34 hJ34
    unfold bX4_delay_167
    refine si_ior (pc := 167) hE dX4_delay_167 ?_
    refine si_istore_n (pc := 168) hE dX4_delay_168 rfl (by decide) ?_
    refine si_aload_n (pc := 169) hE dX4_delay_169 rfl ?_
    refine si_gR (pc := 170) hE dX4_delay_170 (Or.inl q318) zfo_62 ?_
    refine si_iload_n (pc := 173) hE dX4_delay_173 rfl ?_
    refine si_lload_n (pc := 174) hE dX4_delay_174 rfl ?_
    refine si_lastore (pc := 175) hE dX4_delay_175 ?_
    refine si_iinc (pc := 176) hE dX4_delay_176 (by decide) (by decide) ?_
    exact si_goto (pc := 179) hE dX4_delay_179 (by decide) (si_kill hE hJ34)
  have h166 : ∀ (J26 : Cont AH) (hJ26 : E J26 26) (J34 : Cont AH) (hJ34 : E J34 34), E (bX4_delay_166 g.2.1 R J26 J34) 166 := by
    intro J26 hJ26 J34 hJ34
    unfold bX4_delay_166
    refine si_iconst (pc := 166) hE dX4_delay_166 (by decide) ?_
    exact (h167 J26 hJ26 J34 hJ34)
  have h141 : ∀ (J26 : Cont AH) (hJ26 : E J26 26) (J34 : Cont AH) (hJ34 : E J34 34), E (bX4_delay_141 g.2.1 R J26 J34) 141 := by
    intro J26 hJ26 J34 hJ34
    unfold bX4_delay_141
    refine si_lload_n (pc := 141) hE dX4_delay_141 rfl ?_
    refine si_aload_n (pc := 142) hE dX4_delay_142 rfl ?_
    refine si_gR (pc := 143) hE dX4_delay_143 (Or.inl q316) zfo_63 ?_
    refine si_iload_n (pc := 146) hE dX4_delay_146 rfl ?_
    refine si_laload (pc := 147) hE dX4_delay_147 ?_
    refine si_lor (pc := 148) hE dX4_delay_148 ?_
    refine si_lstore_n (pc := 149) hE dX4_delay_149 rfl (by decide) ?_
    refine si_iload_n (pc := 150) hE dX4_delay_150 rfl ?_
    refine si_lload_n (pc := 151) hE dX4_delay_151 rfl ?_
    refine si_aload_n (pc := 152) hE dX4_delay_152 rfl ?_
    refine si_gR (pc := 153) hE dX4_delay_153 (Or.inl q318) zfo_62 ?_
    refine si_iload_n (pc := 156) hE dX4_delay_156 rfl ?_
    refine si_laload (pc := 157) hE dX4_delay_157 ?_
    refine si_lcmp (pc := 158) hE dX4_delay_158 ?_
    refine si_if_eq (pc := 159) hE dX4_delay_159 (by decide) (h166 J26 hJ26 J34 hJ34) ?_
    refine si_iconst (pc := 162) hE dX4_delay_162 (by decide) ?_
    exact si_goto (pc := 163) hE dX4_delay_163 (by decide) (h167 J26 hJ26 J34 hJ34)
  have h61 : ∀ (J26 : Cont AH) (hJ26 : E J26 26) (J34 : Cont AH) (hJ34 : E J34 34), E (bX4_delay_61 g.2.1 R J26 J34) 61 := by
    intro J26 hJ26 J34 hJ34
    unfold bX4_delay_61
    refine si_fix hE (fun J61 hJ61 => ?_)
    refine si_iload (pc := 61) hE dX4_delay_61 ?_
    refine si_aload_n (pc := 63) hE dX4_delay_63 rfl ?_
    refine si_gR (pc := 64) hE dX4_delay_64 (Or.inl q293) zfo_18 ?_
    refine si_iload_n (pc := 67) hE dX4_delay_67 rfl ?_
    refine si_hv (pc := 68) (n := 1) hE dX4_delay_68 ⟨cal_V (recvO cls18) (eJ2_get g) (Or.inl ⟨rfl, rfl⟩) q980 q139 q998 q978 q979 ⟨by decide +kernel, by decide +kernel⟩ nJ2_get (by decide) (by decide), trivial⟩ (si_out hE rfl) ?_
    refine si_cast (pc := 71) hE dX4_delay_71 q1029 zco_2 ?_
    refine si_gR (pc := 74) hE dX4_delay_74 (Or.inl q767) zfo_35 ?_
    refine si_hv (pc := 77) (n := 0) hE dX4_delay_77 ⟨cal_V (recvO cls18) (eJ2_size g) (Or.inl ⟨rfl, rfl⟩) q501 q139 q999 q499 q500 ⟨by decide +kernel, by decide +kernel⟩ nJ2_size (by decide) (by decide), trivial⟩ (si_out hE rfl) ?_
    refine si_icmp_ge (pc := 80) hE dX4_delay_80 (by decide) (h141 J26 hJ26 J34 hJ34) ?_
    refine si_aload_n (pc := 83) hE dX4_delay_83 rfl ?_
    refine si_gR (pc := 84) hE dX4_delay_84 (Or.inl q293) zfo_18 ?_
    refine si_iload_n (pc := 87) hE dX4_delay_87 rfl ?_
    refine si_hv (pc := 88) (n := 1) hE dX4_delay_88 ⟨cal_V (recvO cls18) (eJ2_get g) (Or.inl ⟨rfl, rfl⟩) q980 q139 q998 q978 q979 ⟨by decide +kernel, by decide +kernel⟩ nJ2_get (by decide) (by decide), trivial⟩ (si_out hE rfl) ?_
    refine si_cast (pc := 91) hE dX4_delay_91 q1029 zco_2 ?_
    refine si_gR (pc := 94) hE dX4_delay_94 (Or.inl q767) zfo_35 ?_
    refine si_iload (pc := 97) hE dX4_delay_97 ?_
    refine si_hv (pc := 99) (n := 1) hE dX4_delay_99 ⟨cal_V (recvO cls18) (eJ2_get g) (Or.inl ⟨rfl, rfl⟩) q980 q139 q998 q978 q979 ⟨by decide +kernel, by decide +kernel⟩ nJ2_get (by decide) (by decide), trivial⟩ (si_out hE rfl) ?_
    refine si_cast (pc := 102) hE dX4_delay_102 q1029 zco_2 ?_
    refine si_astore (pc := 105) hE dX4_delay_105 (by decide) ?_
    refine si_lload_n (pc := 107) hE dX4_delay_107 rfl ?_
    refine si_aload_n (pc := 108) hE dX4_delay_108 rfl ?_
    refine si_gR (pc := 109) hE dX4_delay_109 (Or.inl q318) zfo_62 ?_
    refine si_aload (pc := 112) hE dX4_delay_112 ?_
    refine si_gI (pc := 114) hE dX4_delay_114 (Or.inr ⟨_, q750⟩) zfo_55 ?_
    refine si_laload (pc := 117) hE dX4_delay_117 ?_
    refine si_aload_n (pc := 118) hE dX4_delay_118 rfl ?_
    refine si_gR (pc := 119) hE dX4_delay_119 (Or.inl q308) zfo_59 ?_
    refine si_aload (pc := 122) hE dX4_delay_122 ?_
    refine si_gI (pc := 124) hE dX4_delay_124 (Or.inr ⟨_, q750⟩) zfo_55 ?_
    refine si_laload (pc := 127) hE dX4_delay_127 ?_
    refine si_ldc2 (pc := 128) hE dX4_delay_128 q1201 ?_
    refine si_lxor (pc := 131) hE dX4_delay_131 ?_
    refine si_land (pc := 132) hE dX4_delay_132 ?_
    refine si_land (pc := 133) hE dX4_delay_133 ?_
    refine si_lstore_n (pc := 134) hE dX4_delay_134 rfl (by decide) ?_
    refine si_iinc (pc := 135) hE dX4_delay_135 (by decide) (by decide) ?_
    exact si_goto (pc := 138) hE dX4_delay_138 (by decide) (si_kill hE hJ61)
  have h57 : ∀ (J26 : Cont AH) (hJ26 : E J26 26) (J34 : Cont AH) (hJ34 : E J34 34), E (bX4_delay_57 g.2.1 R J26 J34) 57 := by
    intro J26 hJ26 J34 hJ34
    unfold bX4_delay_57
    refine si_lstore_n (pc := 57) hE dX4_delay_57 rfl (by decide) ?_
    refine si_iconst (pc := 58) hE dX4_delay_58 (by decide) ?_
    refine si_istore (pc := 59) hE dX4_delay_59 (by decide) ?_
    exact (si_kill hE (h61 J26 hJ26 J34 hJ34))
  have h53 : ∀ (J26 : Cont AH) (hJ26 : E J26 26) (J34 : Cont AH) (hJ34 : E J34 34), E (bX4_delay_53 g.2.1 R J26 J34) 53 := by
    intro J26 hJ26 J34 hJ34
    unfold bX4_delay_53
    refine si_aload_n (pc := 53) hE dX4_delay_53 rfl ?_
    refine si_hv (pc := 54) (n := 0) hE dX4_delay_54 ⟨cal_V (recvO cls3) (eX4_all g) (Or.inl ⟨rfl, rfl⟩) q1197 q136 q1194 q1196 qs27 ⟨by decide +kernel, by decide +kernel⟩ nX4_all (by decide) (by decide), trivial⟩ (si_out hE rfl) ?_
    exact (h57 J26 hJ26 J34 hJ34)
  have h34 : ∀ (J26 : Cont AH) (hJ26 : E J26 26), E (bX4_delay_34 g.2.1 R J26) 34 := by
    intro J26 hJ26
    unfold bX4_delay_34
    refine si_fix hE (fun J34 hJ34 => ?_)
    refine si_iload_n (pc := 34) hE dX4_delay_34 rfl ?_
    refine si_aload_n (pc := 35) hE dX4_delay_35 rfl ?_
    refine si_gR (pc := 36) hE dX4_delay_36 (Or.inl q293) zfo_18 ?_
    refine si_hv (pc := 39) (n := 0) hE dX4_delay_39 ⟨cal_V (recvO cls18) (eJ2_size g) (Or.inl ⟨rfl, rfl⟩) q501 q139 q999 q499 q500 ⟨by decide +kernel, by decide +kernel⟩ nJ2_size (by decide) (by decide), trivial⟩ (si_out hE rfl) ?_
    refine si_icmp_ge (pc := 42) hE dX4_delay_42 (by decide) (h182 J26 hJ26) ?_
    refine si_iload_n (pc := 45) hE dX4_delay_45 rfl ?_
    refine si_if_ne (pc := 46) hE dX4_delay_46 (by decide) (h53 J26 hJ26 J34 hJ34) ?_
    refine si_lconst (pc := 49) hE dX4_delay_49 (by decide) ?_
    exact si_goto (pc := 50) hE dX4_delay_50 (by decide) (h57 J26 hJ26 J34 hJ34)
  have h26 : E (bX4_delay_26 g.2.1 R) 26 := by
    unfold bX4_delay_26
    refine si_fix hE (fun J26 hJ26 => ?_)
    refine si_iload_n (pc := 26) hE dX4_delay_26 rfl ?_
    refine si_if_eq (pc := 27) hE dX4_delay_27 (by decide) h185 ?_
    refine si_iconst (pc := 30) hE dX4_delay_30 (by decide) ?_
    refine si_istore_n (pc := 31) hE dX4_delay_31 rfl (by decide) ?_
    refine si_iconst (pc := 32) hE dX4_delay_32 (by decide) ?_
    refine si_istore_n (pc := 33) hE dX4_delay_33 rfl (by decide) ?_
    exact (si_kill hE (h34 J26 hJ26))
  have h0 : E (bX4_delay_0 g.2.1 R) 0 := by
    unfold bX4_delay_0
    refine si_aload_n (pc := 0) hE dX4_delay_0 rfl ?_
    refine si_aload_n (pc := 1) hE dX4_delay_1 rfl ?_
    refine si_gR (pc := 2) hE dX4_delay_2 (Or.inl q293) zfo_18 ?_
    refine si_hv (pc := 5) (n := 0) hE dX4_delay_5 ⟨cal_V (recvO cls18) (eJ2_size g) (Or.inl ⟨rfl, rfl⟩) q501 q139 q999 q499 q500 ⟨by decide +kernel, by decide +kernel⟩ nJ2_size (by decide) (by decide), trivial⟩ (si_out hE rfl) ?_
    refine si_newarray1 (pc := 8) hE dX4_delay_8 q1246 ?_
    refine si_pR (pc := 10) hE dX4_delay_10 (Or.inl q318) zfo_62 (Or.inr ⟨_, rfl⟩) ?_
    refine si_aload_n (pc := 13) hE dX4_delay_13 rfl ?_
    refine si_gR (pc := 14) hE dX4_delay_14 (Or.inl q318) zfo_62 ?_
    refine si_aload_n (pc := 17) hE dX4_delay_17 rfl ?_
    refine si_hv (pc := 18) (n := 0) hE dX4_delay_18 ⟨cal_V (recvO cls3) (eX4_all g) (Or.inl ⟨rfl, rfl⟩) q1197 q136 q1194 q1196 qs27 ⟨by decide +kernel, by decide +kernel⟩ nX4_all (by decide) (by decide), trivial⟩ (si_out hE rfl) ?_
    refine si_hs (pc := 21) (n := 2) hE dX4_delay_21 (cal_S (eX4_set g) (Or.inl ⟨rfl, rfl⟩) q1200 q136 q1198 q1199 ⟨by decide +kernel, by decide +kernel⟩ nX4_set (by decide) (by decide)) (si_out hE rfl) ?_
    refine si_iconst (pc := 24) hE dX4_delay_24 (by decide) ?_
    refine si_istore_n (pc := 25) hE dX4_delay_25 rfl (by decide) ?_
    exact (si_kill hE h26)
  exact h0
def bX4_lone_180 (κ : Nat → Option Nat) (R : Ret AH) : Cont AH :=
    o_return R
def bX4_lone_177 (κ : Nat → Option Nat) (R : Ret AH) (J26 : Cont AH) : Cont AH :=
    (o_kill [2, 3, 4, 5, 6] J26)
def bX4_lone_162 (κ : Nat → Option Nat) (R : Ret AH) (J26 : Cont AH) (J42 : Cont AH) : Cont AH :=
    o_ior <|
    o_is 1 <|
    o_al 0 <|
    o_gR 13 [4] <|
    o_il 2 <|
    o_ll 3 <|
    o_sG <|
    o_iinc 2 (-1) <|
    (o_kill [3, 4, 5, 6] J42)
def bX4_lone_161 (κ : Nat → Option Nat) (R : Ret AH) (J26 : Cont AH) (J42 : Cont AH) : Cont AH :=
    o_ic 0 <|
    (bX4_lone_162 κ R J26 J42)
def bX4_lone_145 (κ : Nat → Option Nat) (R : Ret AH) (J26 : Cont AH) (J42 : Cont AH) : Cont AH :=
    o_il 1 <|
    o_ll 3 <|
    o_al 0 <|
    o_gR 13 [4] <|
    o_il 2 <|
    o_aG 101 <|
    o_lcmp <|
    o_if_eq (bX4_lone_161 κ R J26 J42) <|
    o_ic 1 <|
    (bX4_lone_162 κ R J26 J42)
def bX4_lone_54 (κ : Nat → Option Nat) (R : Ret AH) (J26 : Cont AH) (J42 : Cont AH) : Cont AH :=
    fixC fun J54 =>
    o_il 5 <|
    o_al 0 <|
    o_gR 1 [4] <|
    o_il 2 <|
    o_call 2 (hvc [(19, pJ2_get κ)]) (fun _ a σ => R (.inr a) σ) <|
    o_cast [7, 8, 9, 10, 11, 12, 13, 14] <|
    o_gR 2 [7, 8, 9, 10, 11, 12, 13, 14] <|
    o_call 1 (hvc [(19, pJ2_size κ)]) (fun _ a σ => R (.inr a) σ) <|
    o_icmp_ge (bX4_lone_145 κ R J26 J42) <|
    o_al 0 <|
    o_gR 1 [4] <|
    o_il 2 <|
    o_call 2 (hvc [(19, pJ2_get κ)]) (fun _ a σ => R (.inr a) σ) <|
    o_cast [7, 8, 9, 10, 11, 12, 13, 14] <|
    o_gR 2 [7, 8, 9, 10, 11, 12, 13, 14] <|
    o_il 5 <|
    o_call 2 (hvc [(19, pJ2_get κ)]) (fun _ a σ => R (.inr a) σ) <|
    o_cast [7, 8, 9, 10, 11, 12, 13, 14] <|
    o_as 6 <|
    o_ll 3 <|
    o_al 0 <|
    o_gR 12 [4] <|
    o_al 6 <|
    o_gI 0 [7, 8, 9, 10, 11, 12, 13, 14] <|
    o_aG 101 <|
    o_al 0 <|
    o_gR 6 [4] <|
    o_al 6 <|
    o_gI 0 [7, 8, 9, 10, 11, 12, 13, 14] <|
    o_aG 101 <|
    o_lc (-1) <|
    o_lxor <|
    o_al 0 <|
    o_gR 13 [4] <|
    o_al 6 <|
    o_gI 0 [7, 8, 9, 10, 11, 12, 13, 14] <|
    o_aG 101 <|
    o_land <|
    o_lor <|
    o_land <|
    o_ls 3 <|
    o_iinc 5 1 <|
    (o_kill [4, 6] J54)
def bX4_lone_42 (κ : Nat → Option Nat) (R : Ret AH) (J26 : Cont AH) : Cont AH :=
    fixC fun J42 =>
    o_il 2 <|
    o_if_lt (bX4_lone_177 κ R J26) <|
    o_al 0 <|
    o_call 1 (hvc [(4, pX4_all κ)]) (fun _ a σ => R (.inr a) σ) <|
    o_ls 3 <|
    o_ic 0 <|
    o_is 5 <|
    (o_kill [4, 6] (bX4_lone_54 κ R J26 J42))
def bX4_lone_26 (κ : Nat → Option Nat) (R : Ret AH) : Cont AH :=
    fixC fun J26 =>
    o_il 1 <|
    o_if_eq (bX4_lone_180 κ R) <|
    o_ic 0 <|
    o_is 1 <|
    o_al 0 <|
    o_gR 1 [4] <|
    o_call 1 (hvc [(19, pJ2_size κ)]) (fun _ a σ => R (.inr a) σ) <|
    o_ic 1 <|
    o_isub <|
    o_is 2 <|
    (o_kill [3, 4, 5, 6] (bX4_lone_42 κ R J26))
def bX4_lone_0 (κ : Nat → Option Nat) (R : Ret AH) : Cont AH :=
    o_al 0 <|
    o_al 0 <|
    o_gR 1 [4] <|
    o_call 1 (hvc [(19, pJ2_size κ)]) (fun _ a σ => R (.inr a) σ) <|
    o_newA 101 <|
    o_pR 13 [4] <|
    o_al 0 <|
    o_gR 13 [4] <|
    o_al 0 <|
    o_call 1 (hvc [(4, pX4_all κ)]) (fun _ a σ => R (.inr a) σ) <|
    o_call 2 (pX4_set κ) (fun _ a σ => R (.inr a) σ) <|
    o_ic 1 <|
    o_is 1 <|
    (o_kill [2, 3, 4, 5, 6] (bX4_lone_26 κ R))
def pX4_lone (κ : Nat → Option Nat) : PT AH := fun as σ Q => (lg_sl as).length ≤ 7 ∧ bX4_lone_0 κ Q (entP 7 as) [] σ
theorem nX4_lone : parN yX4_lone 0 := by unfold parN; decide +kernel
set_option maxHeartbeats 4000000 in
theorem eX4_lone (g : GC) : CT (wC g) yX4_lone (Cond.code yX4_lone cX4_lone 7 none) 3 64 (pX4_lone g.2.1) := by
  refine CT.of (wC_ok g) (cc := cX4_lone) (nL := 7) (ret := none) (ht := []) (by decide +kernel) (Or.inl ⟨rfl, rfl⟩) (B := bX4_lone_0 g.2.1) (fun R E X hE => ?_)
  have h180 : E (bX4_lone_180 g.2.1 R) 180 := by
    unfold bX4_lone_180
    exact si_return (pc := 180) hE dX4_lone_180
  have h177 : ∀ (J26 : Cont AH) (hJ26 : E J26 26), E (bX4_lone_177 g.2.1 R J26) 177 := by
    intro J26 hJ26
    unfold bX4_lone_177
    exact si_goto (pc := 177) hE dX4_lone_177 (by decide) (si_kill hE hJ26)
  have h162 : ∀ (J26 : Cont AH) (hJ26 : E J26 26) (J42 : Cont AH) (hJ42 : E J42 42), E (bX4_lone_162 g.2.1 R J26 J42) 162 := by
    intro J26 hJ26 J42 hJ42
    unfold bX4_lone_162
    refine si_ior (pc := 162) hE dX4_lone_162 ?_
    refine si_istore_n (pc := 163) hE dX4_lone_163 rfl (by decide) ?_
    refine si_aload_n (pc := 164) hE dX4_lone_164 rfl ?_
    refine si_gR (pc := 165) hE dX4_lone_165 (Or.inl q323) zfo_64 ?_
    refine si_iload_n (pc := 168) hE dX4_lone_168 rfl ?_
    refine si_lload_n (pc := 169) hE dX4_lone_169 rfl ?_
    refine si_lastore (pc := 170) hE dX4_lone_170 ?_
    refine si_iinc (pc := 171) hE dX4_lone_171 (by decide) (by decide) ?_
    exact si_goto (pc := 174) hE dX4_lone_174 (by decide) (si_kill hE hJ42)
  have h161 : ∀ (J26 : Cont AH) (hJ26 : E J26 26) (J42 : Cont AH) (hJ42 : E J42 42), E (bX4_lone_161 g.2.1 R J26 J42) 161 := by
    intro J26 hJ26 J42 hJ42
    unfold bX4_lone_161
    refine si_iconst (pc := 161) hE dX4_lone_161 (by decide) ?_
    exact (h162 J26 hJ26 J42 hJ42)
  have h145 : ∀ (J26 : Cont AH) (hJ26 : E J26 26) (J42 : Cont AH) (hJ42 : E J42 42), E (bX4_lone_145 g.2.1 R J26 J42) 145 := by
    intro J26 hJ26 J42 hJ42
    unfold bX4_lone_145
    refine si_iload_n (pc := 145) hE dX4_lone_145 rfl ?_
    refine si_lload_n (pc := 146) hE dX4_lone_146 rfl ?_
    refine si_aload_n (pc := 147) hE dX4_lone_147 rfl ?_
    refine si_gR (pc := 148) hE dX4_lone_148 (Or.inl q323) zfo_64 ?_
    refine si_iload_n (pc := 151) hE dX4_lone_151 rfl ?_
    refine si_laload (pc := 152) hE dX4_lone_152 ?_
    refine si_lcmp (pc := 153) hE dX4_lone_153 ?_
    refine si_if_eq (pc := 154) hE dX4_lone_154 (by decide) (h161 J26 hJ26 J42 hJ42) ?_
    refine si_iconst (pc := 157) hE dX4_lone_157 (by decide) ?_
    exact si_goto (pc := 158) hE dX4_lone_158 (by decide) (h162 J26 hJ26 J42 hJ42)
  have h54 : ∀ (J26 : Cont AH) (hJ26 : E J26 26) (J42 : Cont AH) (hJ42 : E J42 42), E (bX4_lone_54 g.2.1 R J26 J42) 54 := by
    intro J26 hJ26 J42 hJ42
    unfold bX4_lone_54
    refine si_fix hE (fun J54 hJ54 => ?_)
    refine si_iload (pc := 54) hE dX4_lone_54 ?_
    refine si_aload_n (pc := 56) hE dX4_lone_56 rfl ?_
    refine si_gR (pc := 57) hE dX4_lone_57 (Or.inl q293) zfo_18 ?_
    refine si_iload_n (pc := 60) hE dX4_lone_60 rfl ?_
    refine si_hv (pc := 61) (n := 1) hE dX4_lone_61 ⟨cal_V (recvO cls18) (eJ2_get g) (Or.inl ⟨rfl, rfl⟩) q980 q139 q998 q978 q979 ⟨by decide +kernel, by decide +kernel⟩ nJ2_get (by decide) (by decide), trivial⟩ (si_out hE rfl) ?_
    refine si_cast (pc := 64) hE dX4_lone_64 q1029 zco_2 ?_
    refine si_gR (pc := 67) hE dX4_lone_67 (Or.inl q763) zfo_34 ?_
    refine si_hv (pc := 70) (n := 0) hE dX4_lone_70 ⟨cal_V (recvO cls18) (eJ2_size g) (Or.inl ⟨rfl, rfl⟩) q501 q139 q999 q499 q500 ⟨by decide +kernel, by decide +kernel⟩ nJ2_size (by decide) (by decide), trivial⟩ (si_out hE rfl) ?_
    refine si_icmp_ge (pc := 73) hE dX4_lone_73 (by decide) (h145 J26 hJ26 J42 hJ42) ?_
    refine si_aload_n (pc := 76) hE dX4_lone_76 rfl ?_
    refine si_gR (pc := 77) hE dX4_lone_77 (Or.inl q293) zfo_18 ?_
    refine si_iload_n (pc := 80) hE dX4_lone_80 rfl ?_
    refine si_hv (pc := 81) (n := 1) hE dX4_lone_81 ⟨cal_V (recvO cls18) (eJ2_get g) (Or.inl ⟨rfl, rfl⟩) q980 q139 q998 q978 q979 ⟨by decide +kernel, by decide +kernel⟩ nJ2_get (by decide) (by decide), trivial⟩ (si_out hE rfl) ?_
    refine si_cast (pc := 84) hE dX4_lone_84 q1029 zco_2 ?_
    refine si_gR (pc := 87) hE dX4_lone_87 (Or.inl q763) zfo_34 ?_
    refine si_iload (pc := 90) hE dX4_lone_90 ?_
    refine si_hv (pc := 92) (n := 1) hE dX4_lone_92 ⟨cal_V (recvO cls18) (eJ2_get g) (Or.inl ⟨rfl, rfl⟩) q980 q139 q998 q978 q979 ⟨by decide +kernel, by decide +kernel⟩ nJ2_get (by decide) (by decide), trivial⟩ (si_out hE rfl) ?_
    refine si_cast (pc := 95) hE dX4_lone_95 q1029 zco_2 ?_
    refine si_astore (pc := 98) hE dX4_lone_98 (by decide) ?_
    refine si_lload_n (pc := 100) hE dX4_lone_100 rfl ?_
    refine si_aload_n (pc := 101) hE dX4_lone_101 rfl ?_
    refine si_gR (pc := 102) hE dX4_lone_102 (Or.inl q320) zfo_65 ?_
    refine si_aload (pc := 105) hE dX4_lone_105 ?_
    refine si_gI (pc := 107) hE dX4_lone_107 (Or.inr ⟨_, q750⟩) zfo_55 ?_
    refine si_laload (pc := 110) hE dX4_lone_110 ?_
    refine si_aload_n (pc := 111) hE dX4_lone_111 rfl ?_
    refine si_gR (pc := 112) hE dX4_lone_112 (Or.inl q308) zfo_59 ?_
    refine si_aload (pc := 115) hE dX4_lone_115 ?_
    refine si_gI (pc := 117) hE dX4_lone_117 (Or.inr ⟨_, q750⟩) zfo_55 ?_
    refine si_laload (pc := 120) hE dX4_lone_120 ?_
    refine si_ldc2 (pc := 121) hE dX4_lone_121 q1201 ?_
    refine si_lxor (pc := 124) hE dX4_lone_124 ?_
    refine si_aload_n (pc := 125) hE dX4_lone_125 rfl ?_
    refine si_gR (pc := 126) hE dX4_lone_126 (Or.inl q323) zfo_64 ?_
    refine si_aload (pc := 129) hE dX4_lone_129 ?_
    refine si_gI (pc := 131) hE dX4_lone_131 (Or.inr ⟨_, q750⟩) zfo_55 ?_
    refine si_laload (pc := 134) hE dX4_lone_134 ?_
    refine si_land (pc := 135) hE dX4_lone_135 ?_
    refine si_lor (pc := 136) hE dX4_lone_136 ?_
    refine si_land (pc := 137) hE dX4_lone_137 ?_
    refine si_lstore_n (pc := 138) hE dX4_lone_138 rfl (by decide) ?_
    refine si_iinc (pc := 139) hE dX4_lone_139 (by decide) (by decide) ?_
    exact si_goto (pc := 142) hE dX4_lone_142 (by decide) (si_kill hE hJ54)
  have h42 : ∀ (J26 : Cont AH) (hJ26 : E J26 26), E (bX4_lone_42 g.2.1 R J26) 42 := by
    intro J26 hJ26
    unfold bX4_lone_42
    refine si_fix hE (fun J42 hJ42 => ?_)
    refine si_iload_n (pc := 42) hE dX4_lone_42 rfl ?_
    refine si_if_lt (pc := 43) hE dX4_lone_43 (by decide) (h177 J26 hJ26) ?_
    refine si_aload_n (pc := 46) hE dX4_lone_46 rfl ?_
    refine si_hv (pc := 47) (n := 0) hE dX4_lone_47 ⟨cal_V (recvO cls3) (eX4_all g) (Or.inl ⟨rfl, rfl⟩) q1197 q136 q1194 q1196 qs27 ⟨by decide +kernel, by decide +kernel⟩ nX4_all (by decide) (by decide), trivial⟩ (si_out hE rfl) ?_
    refine si_lstore_n (pc := 50) hE dX4_lone_50 rfl (by decide) ?_
    refine si_iconst (pc := 51) hE dX4_lone_51 (by decide) ?_
    refine si_istore (pc := 52) hE dX4_lone_52 (by decide) ?_
    exact (si_kill hE (h54 J26 hJ26 J42 hJ42))
  have h26 : E (bX4_lone_26 g.2.1 R) 26 := by
    unfold bX4_lone_26
    refine si_fix hE (fun J26 hJ26 => ?_)
    refine si_iload_n (pc := 26) hE dX4_lone_26 rfl ?_
    refine si_if_eq (pc := 27) hE dX4_lone_27 (by decide) h180 ?_
    refine si_iconst (pc := 30) hE dX4_lone_30 (by decide) ?_
    refine si_istore_n (pc := 31) hE dX4_lone_31 rfl (by decide) ?_
    refine si_aload_n (pc := 32) hE dX4_lone_32 rfl ?_
    refine si_gR (pc := 33) hE dX4_lone_33 (Or.inl q293) zfo_18 ?_
    refine si_hv (pc := 36) (n := 0) hE dX4_lone_36 ⟨cal_V (recvO cls18) (eJ2_size g) (Or.inl ⟨rfl, rfl⟩) q501 q139 q999 q499 q500 ⟨by decide +kernel, by decide +kernel⟩ nJ2_size (by decide) (by decide), trivial⟩ (si_out hE rfl) ?_
    refine si_iconst (pc := 39) hE dX4_lone_39 (by decide) ?_
    refine si_isub (pc := 40) hE dX4_lone_40 ?_
    refine si_istore_n (pc := 41) hE dX4_lone_41 rfl (by decide) ?_
    exact (si_kill hE (h42 J26 hJ26))
  have h0 : E (bX4_lone_0 g.2.1 R) 0 := by
    unfold bX4_lone_0
    refine si_aload_n (pc := 0) hE dX4_lone_0 rfl ?_
    refine si_aload_n (pc := 1) hE dX4_lone_1 rfl ?_
    refine si_gR (pc := 2) hE dX4_lone_2 (Or.inl q293) zfo_18 ?_
    refine si_hv (pc := 5) (n := 0) hE dX4_lone_5 ⟨cal_V (recvO cls18) (eJ2_size g) (Or.inl ⟨rfl, rfl⟩) q501 q139 q999 q499 q500 ⟨by decide +kernel, by decide +kernel⟩ nJ2_size (by decide) (by decide), trivial⟩ (si_out hE rfl) ?_
    refine si_newarray1 (pc := 8) hE dX4_lone_8 q1246 ?_
    refine si_pR (pc := 10) hE dX4_lone_10 (Or.inl q323) zfo_64 (Or.inr ⟨_, rfl⟩) ?_
    refine si_aload_n (pc := 13) hE dX4_lone_13 rfl ?_
    refine si_gR (pc := 14) hE dX4_lone_14 (Or.inl q323) zfo_64 ?_
    refine si_aload_n (pc := 17) hE dX4_lone_17 rfl ?_
    refine si_hv (pc := 18) (n := 0) hE dX4_lone_18 ⟨cal_V (recvO cls3) (eX4_all g) (Or.inl ⟨rfl, rfl⟩) q1197 q136 q1194 q1196 qs27 ⟨by decide +kernel, by decide +kernel⟩ nX4_all (by decide) (by decide), trivial⟩ (si_out hE rfl) ?_
    refine si_hs (pc := 21) (n := 2) hE dX4_lone_21 (cal_S (eX4_set g) (Or.inl ⟨rfl, rfl⟩) q1200 q136 q1198 q1199 ⟨by decide +kernel, by decide +kernel⟩ nX4_set (by decide) (by decide)) (si_out hE rfl) ?_
    refine si_iconst (pc := 24) hE dX4_lone_24 (by decide) ?_
    refine si_istore_n (pc := 25) hE dX4_lone_25 rfl (by decide) ?_
    exact (si_kill hE h26)
  exact h0
def bX4_study_448 (κ : Nat → Option Nat) (R : Ret AH) : Cont AH :=
    o_al 0 <|
    o_call 1 (hvc [(4, pX4_lone κ)]) (fun _ a σ => R (.inr a) σ) <|
    o_return R
def bX4_study_407 (κ : Nat → Option Nat) (R : Ret AH) (J314 : Cont AH) : Cont AH :=
    o_al 0 <|
    o_gR 12 [4] <|
    o_al 3 <|
    o_gI 0 [7, 8, 9, 10, 11, 12, 13, 14] <|
    o_al 0 <|
    o_gR 11 [4] <|
    o_al 3 <|
    o_gI 0 [7, 8, 9, 10, 11, 12, 13, 14] <|
    o_aG 101 <|
    o_al 0 <|
    o_gR 6 [4] <|
    o_al 3 <|
    o_gI 0 [7, 8, 9, 10, 11, 12, 13, 14] <|
    o_aG 101 <|
    o_ll 4 <|
    o_lc (-1) <|
    o_lxor <|
    o_lor <|
    o_land <|
    o_sG <|
    o_iinc 2 1 <|
    (o_kill [1, 3, 4, 5, 6, 7] J314)
def bX4_study_360 (κ : Nat → Option Nat) (R : Ret AH) (J314 : Cont AH) : Cont AH :=
    fixC fun J360 =>
    o_il 6 <|
    o_al 3 <|
    o_gR 2 [7, 8, 9, 10, 11, 12, 13, 14] <|
    o_call 1 (hvc [(19, pJ2_size κ)]) (fun _ a σ => R (.inr a) σ) <|
    o_icmp_ge (bX4_study_407 κ R J314) <|
    o_al 3 <|
    o_gR 2 [7, 8, 9, 10, 11, 12, 13, 14] <|
    o_il 6 <|
    o_call 2 (hvc [(19, pJ2_get κ)]) (fun _ a σ => R (.inr a) σ) <|
    o_cast [7, 8, 9, 10, 11, 12, 13, 14] <|
    o_as 7 <|
    o_ll 4 <|
    o_al 0 <|
    o_gR 11 [4] <|
    o_al 7 <|
    o_gI 0 [7, 8, 9, 10, 11, 12, 13, 14] <|
    o_aG 101 <|
    o_land <|
    o_ls 4 <|
    o_iinc 6 1 <|
    (o_kill [1, 5, 7] J360)
def bX4_study_355 (κ : Nat → Option Nat) (R : Ret AH) (J314 : Cont AH) : Cont AH :=
    o_ls 4 <|
    o_ic 0 <|
    o_is 6 <|
    (o_kill [1, 5, 7] (bX4_study_360 κ R J314))
def bX4_study_351 (κ : Nat → Option Nat) (R : Ret AH) (J314 : Cont AH) : Cont AH :=
    o_al 0 <|
    o_call 1 (hvc [(4, pX4_all κ)]) (fun _ a σ => R (.inr a) σ) <|
    (bX4_study_355 κ R J314)
def bX4_study_314 (κ : Nat → Option Nat) (R : Ret AH) : Cont AH :=
    fixC fun J314 =>
    o_il 2 <|
    o_al 0 <|
    o_gR 1 [4] <|
    o_call 1 (hvc [(19, pJ2_size κ)]) (fun _ a σ => R (.inr a) σ) <|
    o_icmp_ge (bX4_study_448 κ R) <|
    o_al 0 <|
    o_gR 1 [4] <|
    o_il 2 <|
    o_call 2 (hvc [(19, pJ2_get κ)]) (fun _ a σ => R (.inr a) σ) <|
    o_cast [7, 8, 9, 10, 11, 12, 13, 14] <|
    o_as 3 <|
    o_al 3 <|
    o_gR 2 [7, 8, 9, 10, 11, 12, 13, 14] <|
    o_call 1 (hvc [(19, pJ2_size κ)]) (fun _ a σ => R (.inr a) σ) <|
    o_if_ne (bX4_study_351 κ R J314) <|
    o_lc 0 <|
    (bX4_study_355 κ R J314)
def bX4_study_301 (κ : Nat → Option Nat) (R : Ret AH) : Cont AH :=
    o_al 0 <|
    o_call 1 (hvc [(4, pX4_delay κ)]) (fun _ a σ => R (.inr a) σ) <|
    o_al 0 <|
    o_il 1 <|
    o_newA 101 <|
    o_pR 12 [4] <|
    o_ic 0 <|
    o_is 2 <|
    (o_kill [1, 3, 4, 5, 6, 7] (bX4_study_314 κ R))
def bX4_study_274 (κ : Nat → Option Nat) (R : Ret AH) (J158 : Cont AH) : Cont AH :=
    o_al 0 <|
    o_gR 10 [4] <|
    o_al 3 <|
    o_gI 0 [7, 8, 9, 10, 11, 12, 13, 14] <|
    o_al 0 <|
    o_gR 8 [4] <|
    o_al 3 <|
    o_gI 0 [7, 8, 9, 10, 11, 12, 13, 14] <|
    o_aG 101 <|
    o_ll 4 <|
    o_land <|
    o_sG <|
    o_iinc 2 1 <|
    (o_kill [3, 4, 5, 6, 7] J158)
def bX4_study_201 (κ : Nat → Option Nat) (R : Ret AH) (J158 : Cont AH) : Cont AH :=
    fixC fun J201 =>
    o_il 6 <|
    o_al 3 <|
    o_gR 3 [7, 8, 9, 10, 11, 12, 13, 14] <|
    o_call 1 (hvc [(19, pJ2_size κ)]) (fun _ a σ => R (.inr a) σ) <|
    o_icmp_ge (bX4_study_274 κ R J158) <|
    o_al 3 <|
    o_gR 3 [7, 8, 9, 10, 11, 12, 13, 14] <|
    o_il 6 <|
    o_call 2 (hvc [(19, pJ2_get κ)]) (fun _ a σ => R (.inr a) σ) <|
    o_cast [7, 8, 9, 10, 11, 12, 13, 14] <|
    o_as 7 <|
    o_ll 4 <|
    o_al 0 <|
    o_gR 7 [4] <|
    o_al 7 <|
    o_gI 0 [7, 8, 9, 10, 11, 12, 13, 14] <|
    o_aG 101 <|
    o_al 0 <|
    o_gR 9 [4] <|
    o_al 7 <|
    o_gI 0 [7, 8, 9, 10, 11, 12, 13, 14] <|
    o_aG 101 <|
    o_al 0 <|
    o_gR 8 [4] <|
    o_al 7 <|
    o_gI 0 [7, 8, 9, 10, 11, 12, 13, 14] <|
    o_aG 101 <|
    o_lor <|
    o_lc (-1) <|
    o_lxor <|
    o_lor <|
    o_lor <|
    o_ls 4 <|
    o_iinc 6 1 <|
    (o_kill [5, 7] J201)
def bX4_study_196 (κ : Nat → Option Nat) (R : Ret AH) (J158 : Cont AH) : Cont AH :=
    o_ls 4 <|
    o_ic 0 <|
    o_is 6 <|
    (o_kill [5, 7] (bX4_study_201 κ R J158))
def bX4_study_195 (κ : Nat → Option Nat) (R : Ret AH) (J158 : Cont AH) : Cont AH :=
    o_lc 0 <|
    (bX4_study_196 κ R J158)
def bX4_study_158 (κ : Nat → Option Nat) (R : Ret AH) : Cont AH :=
    fixC fun J158 =>
    o_il 2 <|
    o_al 0 <|
    o_gR 1 [4] <|
    o_call 1 (hvc [(19, pJ2_size κ)]) (fun _ a σ => R (.inr a) σ) <|
    o_icmp_ge (bX4_study_301 κ R) <|
    o_al 0 <|
    o_gR 1 [4] <|
    o_il 2 <|
    o_call 2 (hvc [(19, pJ2_get κ)]) (fun _ a σ => R (.inr a) σ) <|
    o_cast [7, 8, 9, 10, 11, 12, 13, 14] <|
    o_as 3 <|
    o_al 3 <|
    o_gI 0 [7, 8, 9, 10, 11, 12, 13, 14] <|
    o_if_ne (bX4_study_195 κ R J158) <|
    o_al 0 <|
    o_call 1 (hvc [(4, pX4_all κ)]) (fun _ a σ => R (.inr a) σ) <|
    (bX4_study_196 κ R J158)
def bX4_study_141 (κ : Nat → Option Nat) (R : Ret AH) : Cont AH :=
    o_al 0 <|
    o_call 1 (hvc [(4, pX4_want κ)]) (fun _ a σ => R (.inr a) σ) <|
    o_al 0 <|
    o_call 1 (hvc [(4, pX4_be κ)]) (fun _ a σ => R (.inr a) σ) <|
    o_al 0 <|
    o_il 1 <|
    o_newA 101 <|
    o_pR 10 [4] <|
    o_ic 0 <|
    o_is 2 <|
    (o_kill [3, 4, 5, 6, 7] (bX4_study_158 κ R))
def bX4_study_135 (κ : Nat → Option Nat) (R : Ret AH) (J24 : Cont AH) : Cont AH :=
    o_iinc 2 1 <|
    (o_kill [3, 4, 5, 6, 7] J24)
def bX4_study_129 (κ : Nat → Option Nat) (R : Ret AH) (J24 : Cont AH) (J75 : Cont AH) : Cont AH :=
    o_iinc 4 1 <|
    (o_kill [5, 6, 7] J75)
def bX4_study_75 (κ : Nat → Option Nat) (R : Ret AH) (J24 : Cont AH) : Cont AH :=
    fixC fun J75 =>
    o_il 4 <|
    o_al 0 <|
    o_gR 2 [4] <|
    o_call 1 (hvc [(19, pJ2_size κ)]) (fun _ a σ => R (.inr a) σ) <|
    o_icmp_ge (bX4_study_135 κ R J24) <|
    o_al 0 <|
    o_gR 2 [4] <|
    o_il 4 <|
    o_call 2 (hvc [(19, pJ2_get κ)]) (fun _ a σ => R (.inr a) σ) <|
    o_cast [15, 16] <|
    o_as 5 <|
    o_al 3 <|
    o_al 5 <|
    o_call 2 (hvc [(7, pX6_kills κ), (8, pX6_kills κ), (9, pX6_kills κ), (10, pX6_kills κ), (11, pX6_kills κ), (12, pX6_kills κ), (13, pX6_kills κ), (14, pX6_kills κ)]) (fun _ a σ => R (.inr a) σ) <|
    o_if_eq (bX4_study_129 κ R J24 J75) <|
    o_al 0 <|
    o_gR 7 [4] <|
    o_al 3 <|
    o_gI 0 [7, 8, 9, 10, 11, 12, 13, 14] <|
    o_dup2 <|
    o_aG 101 <|
    o_lc 1 <|
    o_al 5 <|
    o_gI 0 [15, 16] <|
    o_lshl <|
    o_lor <|
    o_sG <|
    (bX4_study_129 κ R J24 J75)
def bX4_study_72 (κ : Nat → Option Nat) (R : Ret AH) (J24 : Cont AH) : Cont AH :=
    o_ic 0 <|
    o_is 4 <|
    (o_kill [5, 6, 7] (bX4_study_75 κ R J24))
def bX4_study_24 (κ : Nat → Option Nat) (R : Ret AH) : Cont AH :=
    fixC fun J24 =>
    o_il 2 <|
    o_al 0 <|
    o_gR 1 [4] <|
    o_call 1 (hvc [(19, pJ2_size κ)]) (fun _ a σ => R (.inr a) σ) <|
    o_icmp_ge (bX4_study_141 κ R) <|
    o_al 0 <|
    o_gR 1 [4] <|
    o_il 2 <|
    o_call 2 (hvc [(19, pJ2_get κ)]) (fun _ a σ => R (.inr a) σ) <|
    o_cast [7, 8, 9, 10, 11, 12, 13, 14] <|
    o_as 3 <|
    o_al 3 <|
    o_call 1 (hvc [(7, pX15_works κ), (8, pX6_works κ), (9, pX6_works κ), (10, pX6_works κ), (11, pX6_works κ), (12, pX6_works κ), (13, pX6_works κ), (14, pX6_works κ)]) (fun _ a σ => R (.inr a) σ) <|
    o_ifnull (bX4_study_72 κ R J24) <|
    o_al 0 <|
    o_gR 6 [4] <|
    o_al 3 <|
    o_gI 0 [7, 8, 9, 10, 11, 12, 13, 14] <|
    o_lc 1 <|
    o_al 3 <|
    o_call 1 (hvc [(7, pX15_works κ), (8, pX6_works κ), (9, pX6_works κ), (10, pX6_works κ), (11, pX6_works κ), (12, pX6_works κ), (13, pX6_works κ), (14, pX6_works κ)]) (fun _ a σ => R (.inr a) σ) <|
    o_gI 0 [15, 16] <|
    o_lshl <|
    o_sG <|
    (bX4_study_72 κ R J24)
def bX4_study_0 (κ : Nat → Option Nat) (R : Ret AH) : Cont AH :=
    o_al 0 <|
    o_gR 1 [4] <|
    o_call 1 (hvc [(19, pJ2_size κ)]) (fun _ a σ => R (.inr a) σ) <|
    o_is 1 <|
    o_al 0 <|
    o_il 1 <|
    o_newA 101 <|
    o_pR 6 [4] <|
    o_al 0 <|
    o_il 1 <|
    o_newA 101 <|
    o_pR 7 [4] <|
    o_ic 0 <|
    o_is 2 <|
    (o_kill [3, 4, 5, 6, 7] (bX4_study_24 κ R))
def pX4_study (κ : Nat → Option Nat) : PT AH := fun as σ Q => (lg_sl as).length ≤ 8 ∧ bX4_study_0 κ Q (entP 8 as) [] σ
theorem nX4_study : parN yX4_study 0 := by unfold parN; decide +kernel
set_option maxHeartbeats 4000000 in
theorem eX4_study (g : GC) : CT (wC g) yX4_study (Cond.code yX4_study cX4_study 8 none) 5 115 (pX4_study g.2.1) := by
  refine CT.of (wC_ok g) (cc := cX4_study) (nL := 8) (ret := none) (ht := []) (by decide +kernel) (Or.inl ⟨rfl, rfl⟩) (B := bX4_study_0 g.2.1) (fun R E X hE => ?_)
  have h448 : E (bX4_study_448 g.2.1 R) 448 := by
    unfold bX4_study_448
    refine si_aload_n (pc := 448) hE dX4_study_448 rfl ?_
    refine si_hv (pc := 449) (n := 0) hE dX4_study_449 ⟨cal_V (recvO cls3) (eX4_lone g) (Or.inl ⟨rfl, rfl⟩) q1245 q136 q1242 q1244 qs31 ⟨by decide +kernel, by decide +kernel⟩ nX4_lone (by decide) (by decide), trivial⟩ (si_out hE rfl) ?_
    exact si_return (pc := 452) hE dX4_study_452
  have h407 : ∀ (J314 : Cont AH) (hJ314 : E J314 314), E (bX4_study_407 g.2.1 R J314) 407 := by
    intro J314 hJ314
    unfold bX4_study_407
    refine si_aload_n (pc := 407) hE dX4_study_407 rfl ?_
    refine si_gR (pc := 408) hE dX4_study_408 (Or.inl q320) zfo_65 ?_
    refine si_aload_n (pc := 411) hE dX4_study_411 rfl ?_
    refine si_gI (pc := 412) hE dX4_study_412 (Or.inr ⟨_, q750⟩) zfo_55 ?_
    refine si_aload_n (pc := 415) hE dX4_study_415 rfl ?_
    refine si_gR (pc := 416) hE dX4_study_416 (Or.inl q318) zfo_62 ?_
    refine si_aload_n (pc := 419) hE dX4_study_419 rfl ?_
    refine si_gI (pc := 420) hE dX4_study_420 (Or.inr ⟨_, q750⟩) zfo_55 ?_
    refine si_laload (pc := 423) hE dX4_study_423 ?_
    refine si_aload_n (pc := 424) hE dX4_study_424 rfl ?_
    refine si_gR (pc := 425) hE dX4_study_425 (Or.inl q308) zfo_59 ?_
    refine si_aload_n (pc := 428) hE dX4_study_428 rfl ?_
    refine si_gI (pc := 429) hE dX4_study_429 (Or.inr ⟨_, q750⟩) zfo_55 ?_
    refine si_laload (pc := 432) hE dX4_study_432 ?_
    refine si_lload (pc := 433) hE dX4_study_433 ?_
    refine si_ldc2 (pc := 435) hE dX4_study_435 q1201 ?_
    refine si_lxor (pc := 438) hE dX4_study_438 ?_
    refine si_lor (pc := 439) hE dX4_study_439 ?_
    refine si_land (pc := 440) hE dX4_study_440 ?_
    refine si_lastore (pc := 441) hE dX4_study_441 ?_
    refine si_iinc (pc := 442) hE dX4_study_442 (by decide) (by decide) ?_
    exact si_goto (pc := 445) hE dX4_study_445 (by decide) (si_kill hE hJ314)
  have h360 : ∀ (J314 : Cont AH) (hJ314 : E J314 314), E (bX4_study_360 g.2.1 R J314) 360 := by
    intro J314 hJ314
    unfold bX4_study_360
    refine si_fix hE (fun J360 hJ360 => ?_)
    refine si_iload (pc := 360) hE dX4_study_360 ?_
    refine si_aload_n (pc := 362) hE dX4_study_362 rfl ?_
    refine si_gR (pc := 363) hE dX4_study_363 (Or.inl q763) zfo_34 ?_
    refine si_hv (pc := 366) (n := 0) hE dX4_study_366 ⟨cal_V (recvO cls18) (eJ2_size g) (Or.inl ⟨rfl, rfl⟩) q501 q139 q999 q499 q500 ⟨by decide +kernel, by decide +kernel⟩ nJ2_size (by decide) (by decide), trivial⟩ (si_out hE rfl) ?_
    refine si_icmp_ge (pc := 369) hE dX4_study_369 (by decide) (h407 J314 hJ314) ?_
    refine si_aload_n (pc := 372) hE dX4_study_372 rfl ?_
    refine si_gR (pc := 373) hE dX4_study_373 (Or.inl q763) zfo_34 ?_
    refine si_iload (pc := 376) hE dX4_study_376 ?_
    refine si_hv (pc := 378) (n := 1) hE dX4_study_378 ⟨cal_V (recvO cls18) (eJ2_get g) (Or.inl ⟨rfl, rfl⟩) q980 q139 q998 q978 q979 ⟨by decide +kernel, by decide +kernel⟩ nJ2_get (by decide) (by decide), trivial⟩ (si_out hE rfl) ?_
    refine si_cast (pc := 381) hE dX4_study_381 q1029 zco_2 ?_
    refine si_astore (pc := 384) hE dX4_study_384 (by decide) ?_
    refine si_lload (pc := 386) hE dX4_study_386 ?_
    refine si_aload_n (pc := 388) hE dX4_study_388 rfl ?_
    refine si_gR (pc := 389) hE dX4_study_389 (Or.inl q318) zfo_62 ?_
    refine si_aload (pc := 392) hE dX4_study_392 ?_
    refine si_gI (pc := 394) hE dX4_study_394 (Or.inr ⟨_, q750⟩) zfo_55 ?_
    refine si_laload (pc := 397) hE dX4_study_397 ?_
    refine si_land (pc := 398) hE dX4_study_398 ?_
    refine si_lstore (pc := 399) hE dX4_study_399 (by decide) ?_
    refine si_iinc (pc := 401) hE dX4_study_401 (by decide) (by decide) ?_
    exact si_goto (pc := 404) hE dX4_study_404 (by decide) (si_kill hE hJ360)
  have h355 : ∀ (J314 : Cont AH) (hJ314 : E J314 314), E (bX4_study_355 g.2.1 R J314) 355 := by
    intro J314 hJ314
    unfold bX4_study_355
    refine si_lstore (pc := 355) hE dX4_study_355 (by decide) ?_
    refine si_iconst (pc := 357) hE dX4_study_357 (by decide) ?_
    refine si_istore (pc := 358) hE dX4_study_358 (by decide) ?_
    exact (si_kill hE (h360 J314 hJ314))
  have h351 : ∀ (J314 : Cont AH) (hJ314 : E J314 314), E (bX4_study_351 g.2.1 R J314) 351 := by
    intro J314 hJ314
    unfold bX4_study_351
    refine si_aload_n (pc := 351) hE dX4_study_351 rfl ?_
    refine si_hv (pc := 352) (n := 0) hE dX4_study_352 ⟨cal_V (recvO cls3) (eX4_all g) (Or.inl ⟨rfl, rfl⟩) q1197 q136 q1194 q1196 qs27 ⟨by decide +kernel, by decide +kernel⟩ nX4_all (by decide) (by decide), trivial⟩ (si_out hE rfl) ?_
    exact (h355 J314 hJ314)
  have h314 : E (bX4_study_314 g.2.1 R) 314 := by
    unfold bX4_study_314
    refine si_fix hE (fun J314 hJ314 => ?_)
    refine si_iload_n (pc := 314) hE dX4_study_314 rfl ?_
    refine si_aload_n (pc := 315) hE dX4_study_315 rfl ?_
    refine si_gR (pc := 316) hE dX4_study_316 (Or.inl q293) zfo_18 ?_
    refine si_hv (pc := 319) (n := 0) hE dX4_study_319 ⟨cal_V (recvO cls18) (eJ2_size g) (Or.inl ⟨rfl, rfl⟩) q501 q139 q999 q499 q500 ⟨by decide +kernel, by decide +kernel⟩ nJ2_size (by decide) (by decide), trivial⟩ (si_out hE rfl) ?_
    refine si_icmp_ge (pc := 322) hE dX4_study_322 (by decide) h448 ?_
    refine si_aload_n (pc := 325) hE dX4_study_325 rfl ?_
    refine si_gR (pc := 326) hE dX4_study_326 (Or.inl q293) zfo_18 ?_
    refine si_iload_n (pc := 329) hE dX4_study_329 rfl ?_
    refine si_hv (pc := 330) (n := 1) hE dX4_study_330 ⟨cal_V (recvO cls18) (eJ2_get g) (Or.inl ⟨rfl, rfl⟩) q980 q139 q998 q978 q979 ⟨by decide +kernel, by decide +kernel⟩ nJ2_get (by decide) (by decide), trivial⟩ (si_out hE rfl) ?_
    refine si_cast (pc := 333) hE dX4_study_333 q1029 zco_2 ?_
    refine si_astore_n (pc := 336) hE dX4_study_336 rfl (by decide) ?_
    refine si_aload_n (pc := 337) hE dX4_study_337 rfl ?_
    refine si_gR (pc := 338) hE dX4_study_338 (Or.inl q763) zfo_34 ?_
    refine si_hv (pc := 341) (n := 0) hE dX4_study_341 ⟨cal_V (recvO cls18) (eJ2_size g) (Or.inl ⟨rfl, rfl⟩) q501 q139 q999 q499 q500 ⟨by decide +kernel, by decide +kernel⟩ nJ2_size (by decide) (by decide), trivial⟩ (si_out hE rfl) ?_
    refine si_if_ne (pc := 344) hE dX4_study_344 (by decide) (h351 J314 hJ314) ?_
    refine si_lconst (pc := 347) hE dX4_study_347 (by decide) ?_
    exact si_goto (pc := 348) hE dX4_study_348 (by decide) (h355 J314 hJ314)
  have h301 : E (bX4_study_301 g.2.1 R) 301 := by
    unfold bX4_study_301
    refine si_aload_n (pc := 301) hE dX4_study_301 rfl ?_
    refine si_hv (pc := 302) (n := 0) hE dX4_study_302 ⟨cal_V (recvO cls3) (eX4_delay g) (Or.inl ⟨rfl, rfl⟩) q1241 q136 q1238 q1240 qs30 ⟨by decide +kernel, by decide +kernel⟩ nX4_delay (by decide) (by decide), trivial⟩ (si_out hE rfl) ?_
    refine si_aload_n (pc := 305) hE dX4_study_305 rfl ?_
    refine si_iload_n (pc := 306) hE dX4_study_306 rfl ?_
    refine si_newarray1 (pc := 307) hE dX4_study_307 q1246 ?_
    refine si_pR (pc := 309) hE dX4_study_309 (Or.inl q320) zfo_65 (Or.inr ⟨_, rfl⟩) ?_
    refine si_iconst (pc := 312) hE dX4_study_312 (by decide) ?_
    refine si_istore_n (pc := 313) hE dX4_study_313 rfl (by decide) ?_
    exact (si_kill hE h314)
  have h274 : ∀ (J158 : Cont AH) (hJ158 : E J158 158), E (bX4_study_274 g.2.1 R J158) 274 := by
    intro J158 hJ158
    unfold bX4_study_274
    refine si_aload_n (pc := 274) hE dX4_study_274 rfl ?_
    refine si_gR (pc := 275) hE dX4_study_275 (Or.inl q316) zfo_63 ?_
    refine si_aload_n (pc := 278) hE dX4_study_278 rfl ?_
    refine si_gI (pc := 279) hE dX4_study_279 (Or.inr ⟨_, q750⟩) zfo_55 ?_
    refine si_aload_n (pc := 282) hE dX4_study_282 rfl ?_
    refine si_gR (pc := 283) hE dX4_study_283 (Or.inl q312) zfo_58 ?_
    refine si_aload_n (pc := 286) hE dX4_study_286 rfl ?_
    refine si_gI (pc := 287) hE dX4_study_287 (Or.inr ⟨_, q750⟩) zfo_55 ?_
    refine si_laload (pc := 290) hE dX4_study_290 ?_
    refine si_lload (pc := 291) hE dX4_study_291 ?_
    refine si_land (pc := 293) hE dX4_study_293 ?_
    refine si_lastore (pc := 294) hE dX4_study_294 ?_
    refine si_iinc (pc := 295) hE dX4_study_295 (by decide) (by decide) ?_
    exact si_goto (pc := 298) hE dX4_study_298 (by decide) (si_kill hE hJ158)
  have h201 : ∀ (J158 : Cont AH) (hJ158 : E J158 158), E (bX4_study_201 g.2.1 R J158) 201 := by
    intro J158 hJ158
    unfold bX4_study_201
    refine si_fix hE (fun J201 hJ201 => ?_)
    refine si_iload (pc := 201) hE dX4_study_201 ?_
    refine si_aload_n (pc := 203) hE dX4_study_203 rfl ?_
    refine si_gR (pc := 204) hE dX4_study_204 (Or.inl q767) zfo_35 ?_
    refine si_hv (pc := 207) (n := 0) hE dX4_study_207 ⟨cal_V (recvO cls18) (eJ2_size g) (Or.inl ⟨rfl, rfl⟩) q501 q139 q999 q499 q500 ⟨by decide +kernel, by decide +kernel⟩ nJ2_size (by decide) (by decide), trivial⟩ (si_out hE rfl) ?_
    refine si_icmp_ge (pc := 210) hE dX4_study_210 (by decide) (h274 J158 hJ158) ?_
    refine si_aload_n (pc := 213) hE dX4_study_213 rfl ?_
    refine si_gR (pc := 214) hE dX4_study_214 (Or.inl q767) zfo_35 ?_
    refine si_iload (pc := 217) hE dX4_study_217 ?_
    refine si_hv (pc := 219) (n := 1) hE dX4_study_219 ⟨cal_V (recvO cls18) (eJ2_get g) (Or.inl ⟨rfl, rfl⟩) q980 q139 q998 q978 q979 ⟨by decide +kernel, by decide +kernel⟩ nJ2_get (by decide) (by decide), trivial⟩ (si_out hE rfl) ?_
    refine si_cast (pc := 222) hE dX4_study_222 q1029 zco_2 ?_
    refine si_astore (pc := 225) hE dX4_study_225 (by decide) ?_
    refine si_lload (pc := 227) hE dX4_study_227 ?_
    refine si_aload_n (pc := 229) hE dX4_study_229 rfl ?_
    refine si_gR (pc := 230) hE dX4_study_230 (Or.inl q310) zfo_60 ?_
    refine si_aload (pc := 233) hE dX4_study_233 ?_
    refine si_gI (pc := 235) hE dX4_study_235 (Or.inr ⟨_, q750⟩) zfo_55 ?_
    refine si_laload (pc := 238) hE dX4_study_238 ?_
    refine si_aload_n (pc := 239) hE dX4_study_239 rfl ?_
    refine si_gR (pc := 240) hE dX4_study_240 (Or.inl q314) zfo_61 ?_
    refine si_aload (pc := 243) hE dX4_study_243 ?_
    refine si_gI (pc := 245) hE dX4_study_245 (Or.inr ⟨_, q750⟩) zfo_55 ?_
    refine si_laload (pc := 248) hE dX4_study_248 ?_
    refine si_aload_n (pc := 249) hE dX4_study_249 rfl ?_
    refine si_gR (pc := 250) hE dX4_study_250 (Or.inl q312) zfo_58 ?_
    refine si_aload (pc := 253) hE dX4_study_253 ?_
    refine si_gI (pc := 255) hE dX4_study_255 (Or.inr ⟨_, q750⟩) zfo_55 ?_
    refine si_laload (pc := 258) hE dX4_study_258 ?_
    refine si_lor (pc := 259) hE dX4_study_259 ?_
    refine si_ldc2 (pc := 260) hE dX4_study_260 q1201 ?_
    refine si_lxor (pc := 263) hE dX4_study_263 ?_
    refine si_lor (pc := 264) hE dX4_study_264 ?_
    refine si_lor (pc := 265) hE dX4_study_265 ?_
    refine si_lstore (pc := 266) hE dX4_study_266 (by decide) ?_
    refine si_iinc (pc := 268) hE dX4_study_268 (by decide) (by decide) ?_
    exact si_goto (pc := 271) hE dX4_study_271 (by decide) (si_kill hE hJ201)
  have h196 : ∀ (J158 : Cont AH) (hJ158 : E J158 158), E (bX4_study_196 g.2.1 R J158) 196 := by
    intro J158 hJ158
    unfold bX4_study_196
    refine si_lstore (pc := 196) hE dX4_study_196 (by decide) ?_
    refine si_iconst (pc := 198) hE dX4_study_198 (by decide) ?_
    refine si_istore (pc := 199) hE dX4_study_199 (by decide) ?_
    exact (si_kill hE (h201 J158 hJ158))
  have h195 : ∀ (J158 : Cont AH) (hJ158 : E J158 158), E (bX4_study_195 g.2.1 R J158) 195 := by
    intro J158 hJ158
    unfold bX4_study_195
    refine si_lconst (pc := 195) hE dX4_study_195 (by decide) ?_
    exact (h196 J158 hJ158)
  have h158 : E (bX4_study_158 g.2.1 R) 158 := by
    unfold bX4_study_158
    refine si_fix hE (fun J158 hJ158 => ?_)
    refine si_iload_n (pc := 158) hE dX4_study_158 rfl ?_
    refine si_aload_n (pc := 159) hE dX4_study_159 rfl ?_
    refine si_gR (pc := 160) hE dX4_study_160 (Or.inl q293) zfo_18 ?_
    refine si_hv (pc := 163) (n := 0) hE dX4_study_163 ⟨cal_V (recvO cls18) (eJ2_size g) (Or.inl ⟨rfl, rfl⟩) q501 q139 q999 q499 q500 ⟨by decide +kernel, by decide +kernel⟩ nJ2_size (by decide) (by decide), trivial⟩ (si_out hE rfl) ?_
    refine si_icmp_ge (pc := 166) hE dX4_study_166 (by decide) h301 ?_
    refine si_aload_n (pc := 169) hE dX4_study_169 rfl ?_
    refine si_gR (pc := 170) hE dX4_study_170 (Or.inl q293) zfo_18 ?_
    refine si_iload_n (pc := 173) hE dX4_study_173 rfl ?_
    refine si_hv (pc := 174) (n := 1) hE dX4_study_174 ⟨cal_V (recvO cls18) (eJ2_get g) (Or.inl ⟨rfl, rfl⟩) q980 q139 q998 q978 q979 ⟨by decide +kernel, by decide +kernel⟩ nJ2_get (by decide) (by decide), trivial⟩ (si_out hE rfl) ?_
    refine si_cast (pc := 177) hE dX4_study_177 q1029 zco_2 ?_
    refine si_astore_n (pc := 180) hE dX4_study_180 rfl (by decide) ?_
    refine si_aload_n (pc := 181) hE dX4_study_181 rfl ?_
    refine si_gI (pc := 182) hE dX4_study_182 (Or.inr ⟨_, q750⟩) zfo_55 ?_
    refine si_if_ne (pc := 185) hE dX4_study_185 (by decide) (h195 J158 hJ158) ?_
    refine si_aload_n (pc := 188) hE dX4_study_188 rfl ?_
    refine si_hv (pc := 189) (n := 0) hE dX4_study_189 ⟨cal_V (recvO cls3) (eX4_all g) (Or.inl ⟨rfl, rfl⟩) q1197 q136 q1194 q1196 qs27 ⟨by decide +kernel, by decide +kernel⟩ nX4_all (by decide) (by decide), trivial⟩ (si_out hE rfl) ?_
    exact si_goto (pc := 192) hE dX4_study_192 (by decide) (h196 J158 hJ158)
  have h141 : E (bX4_study_141 g.2.1 R) 141 := by
    unfold bX4_study_141
    refine si_aload_n (pc := 141) hE dX4_study_141 rfl ?_
    refine si_hv (pc := 142) (n := 0) hE dX4_study_142 ⟨cal_V (recvO cls3) (eX4_want g) (Or.inl ⟨rfl, rfl⟩) q1193 q136 q1190 q1192 qs26 ⟨by decide +kernel, by decide +kernel⟩ nX4_want (by decide) (by decide), trivial⟩ (si_out hE rfl) ?_
    refine si_aload_n (pc := 145) hE dX4_study_145 rfl ?_
    refine si_hv (pc := 146) (n := 0) hE dX4_study_146 ⟨cal_V (recvO cls3) (eX4_be g) (Or.inl ⟨rfl, rfl⟩) q1237 q136 q1234 q1236 qs29 ⟨by decide +kernel, by decide +kernel⟩ nX4_be (by decide) (by decide), trivial⟩ (si_out hE rfl) ?_
    refine si_aload_n (pc := 149) hE dX4_study_149 rfl ?_
    refine si_iload_n (pc := 150) hE dX4_study_150 rfl ?_
    refine si_newarray1 (pc := 151) hE dX4_study_151 q1246 ?_
    refine si_pR (pc := 153) hE dX4_study_153 (Or.inl q316) zfo_63 (Or.inr ⟨_, rfl⟩) ?_
    refine si_iconst (pc := 156) hE dX4_study_156 (by decide) ?_
    refine si_istore_n (pc := 157) hE dX4_study_157 rfl (by decide) ?_
    exact (si_kill hE h158)
  have h135 : ∀ (J24 : Cont AH) (hJ24 : E J24 24), E (bX4_study_135 g.2.1 R J24) 135 := by
    intro J24 hJ24
    unfold bX4_study_135
    refine si_iinc (pc := 135) hE dX4_study_135 (by decide) (by decide) ?_
    exact si_goto (pc := 138) hE dX4_study_138 (by decide) (si_kill hE hJ24)
  have h129 : ∀ (J24 : Cont AH) (hJ24 : E J24 24) (J75 : Cont AH) (hJ75 : E J75 75), E (bX4_study_129 g.2.1 R J24 J75) 129 := by
    intro J24 hJ24 J75 hJ75
    unfold bX4_study_129
    refine si_iinc (pc := 129) hE dX4_study_129 (by decide) (by decide) ?_
    exact si_goto (pc := 132) hE dX4_study_132 (by decide) (si_kill hE hJ75)
  have h75 : ∀ (J24 : Cont AH) (hJ24 : E J24 24), E (bX4_study_75 g.2.1 R J24) 75 := by
    intro J24 hJ24
    unfold bX4_study_75
    refine si_fix hE (fun J75 hJ75 => ?_)
    refine si_iload (pc := 75) hE dX4_study_75 ?_
    refine si_aload_n (pc := 77) hE dX4_study_77 rfl ?_
    refine si_gR (pc := 78) hE dX4_study_78 (Or.inl q297) zfo_19 ?_
    refine si_hv (pc := 81) (n := 0) hE dX4_study_81 ⟨cal_V (recvO cls18) (eJ2_size g) (Or.inl ⟨rfl, rfl⟩) q501 q139 q999 q499 q500 ⟨by decide +kernel, by decide +kernel⟩ nJ2_size (by decide) (by decide), trivial⟩ (si_out hE rfl) ?_
    refine si_icmp_ge (pc := 84) hE dX4_study_84 (by decide) (h135 J24 hJ24) ?_
    refine si_aload_n (pc := 87) hE dX4_study_87 rfl ?_
    refine si_gR (pc := 88) hE dX4_study_88 (Or.inl q297) zfo_19 ?_
    refine si_iload (pc := 91) hE dX4_study_91 ?_
    refine si_hv (pc := 93) (n := 1) hE dX4_study_93 ⟨cal_V (recvO cls18) (eJ2_get g) (Or.inl ⟨rfl, rfl⟩) q980 q139 q998 q978 q979 ⟨by decide +kernel, by decide +kernel⟩ nJ2_get (by decide) (by decide), trivial⟩ (si_out hE rfl) ?_
    refine si_cast (pc := 96) hE dX4_study_96 q1092 zco_5 ?_
    refine si_astore (pc := 99) hE dX4_study_99 (by decide) ?_
    refine si_aload_n (pc := 101) hE dX4_study_101 rfl ?_
    refine si_aload (pc := 102) hE dX4_study_102 ?_
    refine si_hv (pc := 104) (n := 1) hE dX4_study_104 ⟨cal_V (recvO cls6) (eX6_kills g) (Or.inl ⟨rfl, rfl⟩) q1125 q156 q1114 q1115 q1122 ⟨by decide +kernel, by decide +kernel⟩ nX6_kills (by decide) (by decide), ⟨cal_V (recvO cls7) (eX6_kills g) (Or.inl ⟨rfl, rfl⟩) q1125 q156 q1114 q1115 q1121 ⟨by decide +kernel, by decide +kernel⟩ nX6_kills (by decide) (by decide), ⟨cal_V (recvO cls8) (eX6_kills g) (Or.inl ⟨rfl, rfl⟩) q1125 q156 q1114 q1115 q1124 ⟨by decide +kernel, by decide +kernel⟩ nX6_kills (by decide) (by decide), ⟨cal_V (recvO cls9) (eX6_kills g) (Or.inl ⟨rfl, rfl⟩) q1125 q156 q1114 q1115 q1123 ⟨by decide +kernel, by decide +kernel⟩ nX6_kills (by decide) (by decide), ⟨cal_V (recvO cls10) (eX6_kills g) (Or.inl ⟨rfl, rfl⟩) q1125 q156 q1114 q1115 q1117 ⟨by decide +kernel, by decide +kernel⟩ nX6_kills (by decide) (by decide), ⟨cal_V (recvO cls11) (eX6_kills g) (Or.inl ⟨rfl, rfl⟩) q1125 q156 q1114 q1115 q1118 ⟨by decide +kernel, by decide +kernel⟩ nX6_kills (by decide) (by decide), ⟨cal_V (recvO cls12) (eX6_kills g) (Or.inl ⟨rfl, rfl⟩) q1125 q156 q1114 q1115 q1119 ⟨by decide +kernel, by decide +kernel⟩ nX6_kills (by decide) (by decide), ⟨cal_V (recvO cls13) (eX6_kills g) (Or.inl ⟨rfl, rfl⟩) q1125 q156 q1114 q1115 q1120 ⟨by decide +kernel, by decide +kernel⟩ nX6_kills (by decide) (by decide), trivial⟩⟩⟩⟩⟩⟩⟩⟩ (si_out hE rfl) ?_
    refine si_if_eq (pc := 107) hE dX4_study_107 (by decide) (h129 J24 hJ24 J75 hJ75) ?_
    refine si_aload_n (pc := 110) hE dX4_study_110 rfl ?_
    refine si_gR (pc := 111) hE dX4_study_111 (Or.inl q310) zfo_60 ?_
    refine si_aload_n (pc := 114) hE dX4_study_114 rfl ?_
    refine si_gI (pc := 115) hE dX4_study_115 (Or.inr ⟨_, q750⟩) zfo_55 ?_
    refine si_dup2 (pc := 118) hE dX4_study_118 ?_
    refine si_laload (pc := 119) hE dX4_study_119 ?_
    refine si_lconst (pc := 120) hE dX4_study_120 (by decide) ?_
    refine si_aload (pc := 121) hE dX4_study_121 ?_
    refine si_gI (pc := 123) hE dX4_study_123 (Or.inr ⟨_, q899⟩) zfo_45 ?_
    refine si_lshl (pc := 126) hE dX4_study_126 ?_
    refine si_lor (pc := 127) hE dX4_study_127 ?_
    refine si_lastore (pc := 128) hE dX4_study_128 ?_
    exact (h129 J24 hJ24 J75 hJ75)
  have h72 : ∀ (J24 : Cont AH) (hJ24 : E J24 24), E (bX4_study_72 g.2.1 R J24) 72 := by
    intro J24 hJ24
    unfold bX4_study_72
    refine si_iconst (pc := 72) hE dX4_study_72 (by decide) ?_
    refine si_istore (pc := 73) hE dX4_study_73 (by decide) ?_
    exact (si_kill hE (h75 J24 hJ24))
  have h24 : E (bX4_study_24 g.2.1 R) 24 := by
    unfold bX4_study_24
    refine si_fix hE (fun J24 hJ24 => ?_)
    refine si_iload_n (pc := 24) hE dX4_study_24 rfl ?_
    refine si_aload_n (pc := 25) hE dX4_study_25 rfl ?_
    refine si_gR (pc := 26) hE dX4_study_26 (Or.inl q293) zfo_18 ?_
    refine si_hv (pc := 29) (n := 0) hE dX4_study_29 ⟨cal_V (recvO cls18) (eJ2_size g) (Or.inl ⟨rfl, rfl⟩) q501 q139 q999 q499 q500 ⟨by decide +kernel, by decide +kernel⟩ nJ2_size (by decide) (by decide), trivial⟩ (si_out hE rfl) ?_
    refine si_icmp_ge (pc := 32) hE dX4_study_32 (by decide) h141 ?_
    refine si_aload_n (pc := 35) hE dX4_study_35 rfl ?_
    refine si_gR (pc := 36) hE dX4_study_36 (Or.inl q293) zfo_18 ?_
    refine si_iload_n (pc := 39) hE dX4_study_39 rfl ?_
    refine si_hv (pc := 40) (n := 1) hE dX4_study_40 ⟨cal_V (recvO cls18) (eJ2_get g) (Or.inl ⟨rfl, rfl⟩) q980 q139 q998 q978 q979 ⟨by decide +kernel, by decide +kernel⟩ nJ2_get (by decide) (by decide), trivial⟩ (si_out hE rfl) ?_
    refine si_cast (pc := 43) hE dX4_study_43 q1029 zco_2 ?_
    refine si_astore_n (pc := 46) hE dX4_study_46 rfl (by decide) ?_
    refine si_aload_n (pc := 47) hE dX4_study_47 rfl ?_
    refine si_hv (pc := 48) (n := 0) hE dX4_study_48 ⟨cal_U (x := xm_4) (recvO cls6) (eX15_works g) (Or.inl ⟨rfl, rfl⟩) q1083 q165 q1073 q1075 (Or.inr ⟨_, _, _, q1074, q1086⟩) ⟨by decide +kernel, by decide +kernel⟩ q1081 q1082 xp_4 (by decide) (by decide), ⟨cal_V (recvO cls7) (eX6_works g) (Or.inl ⟨rfl, rfl⟩) q1086 q156 q1073 q1074 q1080 ⟨by decide +kernel, by decide +kernel⟩ nX6_works (by decide) (by decide), ⟨cal_V (recvO cls8) (eX6_works g) (Or.inl ⟨rfl, rfl⟩) q1086 q156 q1073 q1074 q1085 ⟨by decide +kernel, by decide +kernel⟩ nX6_works (by decide) (by decide), ⟨cal_V (recvO cls9) (eX6_works g) (Or.inl ⟨rfl, rfl⟩) q1086 q156 q1073 q1074 q1084 ⟨by decide +kernel, by decide +kernel⟩ nX6_works (by decide) (by decide), ⟨cal_V (recvO cls10) (eX6_works g) (Or.inl ⟨rfl, rfl⟩) q1086 q156 q1073 q1074 q1076 ⟨by decide +kernel, by decide +kernel⟩ nX6_works (by decide) (by decide), ⟨cal_V (recvO cls11) (eX6_works g) (Or.inl ⟨rfl, rfl⟩) q1086 q156 q1073 q1074 q1077 ⟨by decide +kernel, by decide +kernel⟩ nX6_works (by decide) (by decide), ⟨cal_V (recvO cls12) (eX6_works g) (Or.inl ⟨rfl, rfl⟩) q1086 q156 q1073 q1074 q1078 ⟨by decide +kernel, by decide +kernel⟩ nX6_works (by decide) (by decide), ⟨cal_V (recvO cls13) (eX6_works g) (Or.inl ⟨rfl, rfl⟩) q1086 q156 q1073 q1074 q1079 ⟨by decide +kernel, by decide +kernel⟩ nX6_works (by decide) (by decide), trivial⟩⟩⟩⟩⟩⟩⟩⟩ (si_out hE rfl) ?_
    refine si_ifnull (pc := 51) hE dX4_study_51 (by decide) (h72 J24 hJ24) ?_
    refine si_aload_n (pc := 54) hE dX4_study_54 rfl ?_
    refine si_gR (pc := 55) hE dX4_study_55 (Or.inl q308) zfo_59 ?_
    refine si_aload_n (pc := 58) hE dX4_study_58 rfl ?_
    refine si_gI (pc := 59) hE dX4_study_59 (Or.inr ⟨_, q750⟩) zfo_55 ?_
    refine si_lconst (pc := 62) hE dX4_study_62 (by decide) ?_
    refine si_aload_n (pc := 63) hE dX4_study_63 rfl ?_
    refine si_hv (pc := 64) (n := 0) hE dX4_study_64 ⟨cal_U (x := xm_4) (recvO cls6) (eX15_works g) (Or.inl ⟨rfl, rfl⟩) q1083 q165 q1073 q1075 (Or.inr ⟨_, _, _, q1074, q1086⟩) ⟨by decide +kernel, by decide +kernel⟩ q1081 q1082 xp_4 (by decide) (by decide), ⟨cal_V (recvO cls7) (eX6_works g) (Or.inl ⟨rfl, rfl⟩) q1086 q156 q1073 q1074 q1080 ⟨by decide +kernel, by decide +kernel⟩ nX6_works (by decide) (by decide), ⟨cal_V (recvO cls8) (eX6_works g) (Or.inl ⟨rfl, rfl⟩) q1086 q156 q1073 q1074 q1085 ⟨by decide +kernel, by decide +kernel⟩ nX6_works (by decide) (by decide), ⟨cal_V (recvO cls9) (eX6_works g) (Or.inl ⟨rfl, rfl⟩) q1086 q156 q1073 q1074 q1084 ⟨by decide +kernel, by decide +kernel⟩ nX6_works (by decide) (by decide), ⟨cal_V (recvO cls10) (eX6_works g) (Or.inl ⟨rfl, rfl⟩) q1086 q156 q1073 q1074 q1076 ⟨by decide +kernel, by decide +kernel⟩ nX6_works (by decide) (by decide), ⟨cal_V (recvO cls11) (eX6_works g) (Or.inl ⟨rfl, rfl⟩) q1086 q156 q1073 q1074 q1077 ⟨by decide +kernel, by decide +kernel⟩ nX6_works (by decide) (by decide), ⟨cal_V (recvO cls12) (eX6_works g) (Or.inl ⟨rfl, rfl⟩) q1086 q156 q1073 q1074 q1078 ⟨by decide +kernel, by decide +kernel⟩ nX6_works (by decide) (by decide), ⟨cal_V (recvO cls13) (eX6_works g) (Or.inl ⟨rfl, rfl⟩) q1086 q156 q1073 q1074 q1079 ⟨by decide +kernel, by decide +kernel⟩ nX6_works (by decide) (by decide), trivial⟩⟩⟩⟩⟩⟩⟩⟩ (si_out hE rfl) ?_
    refine si_gI (pc := 67) hE dX4_study_67 (Or.inr ⟨_, q899⟩) zfo_45 ?_
    refine si_lshl (pc := 70) hE dX4_study_70 ?_
    refine si_lastore (pc := 71) hE dX4_study_71 ?_
    exact (h72 J24 hJ24)
  have h0 : E (bX4_study_0 g.2.1 R) 0 := by
    unfold bX4_study_0
    refine si_aload_n (pc := 0) hE dX4_study_0 rfl ?_
    refine si_gR (pc := 1) hE dX4_study_1 (Or.inl q293) zfo_18 ?_
    refine si_hv (pc := 4) (n := 0) hE dX4_study_4 ⟨cal_V (recvO cls18) (eJ2_size g) (Or.inl ⟨rfl, rfl⟩) q501 q139 q999 q499 q500 ⟨by decide +kernel, by decide +kernel⟩ nJ2_size (by decide) (by decide), trivial⟩ (si_out hE rfl) ?_
    refine si_istore_n (pc := 7) hE dX4_study_7 rfl (by decide) ?_
    refine si_aload_n (pc := 8) hE dX4_study_8 rfl ?_
    refine si_iload_n (pc := 9) hE dX4_study_9 rfl ?_
    refine si_newarray1 (pc := 10) hE dX4_study_10 q1246 ?_
    refine si_pR (pc := 12) hE dX4_study_12 (Or.inl q308) zfo_59 (Or.inr ⟨_, rfl⟩) ?_
    refine si_aload_n (pc := 15) hE dX4_study_15 rfl ?_
    refine si_iload_n (pc := 16) hE dX4_study_16 rfl ?_
    refine si_newarray1 (pc := 17) hE dX4_study_17 q1246 ?_
    refine si_pR (pc := 19) hE dX4_study_19 (Or.inl q310) zfo_60 (Or.inr ⟨_, rfl⟩) ?_
    refine si_iconst (pc := 22) hE dX4_study_22 (by decide) ?_
    refine si_istore_n (pc := 23) hE dX4_study_23 rfl (by decide) ?_
    exact (si_kill hE h24)
  exact h0
