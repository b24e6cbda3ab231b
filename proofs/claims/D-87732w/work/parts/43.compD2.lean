/-! THE COMPONENT's METHODS, decompiled by program (gen/cdecomp.py) -/
set_option maxRecDepth 100000
def bX0_parse_67 (κ : Nat → Option Nat) (R : Ret AH) : Cont AH :=
    o_as 2 <|
    o_al 0 <|
    o_ic 0 <|
    o_pI 1 [1] <|
    o_al 0 <|
    o_al 2 <|
    o_gI 6 [5] <|
    o_pI 4 [1] <|
    o_ic (-10) <|
    o_al 2 <|
    o_gI 7 [5] <|
    o_isub <|
    o_ireturn R
def bX0_parse_48 (κ : Nat → Option Nat) (R : Ret AH) : Cont AH :=
    o_al 2 <|
    o_call 1 (hvc [(4, pX4_study κ)]) (fun L a σ => hT σ a = 5 ∧ (bX0_parse_67 κ R) L [.ref a] σ) <|
    o_al 0 <|
    o_gR 3 [1] <|
    o_il 1 <|
    o_al 2 <|
    o_sR 105 [4] <|
    o_al 2 <|
    o_gR 1 [4] <|
    o_call 1 (hvc [(19, pJ2_size κ)]) (fun L a σ => hT σ a = 5 ∧ (bX0_parse_67 κ R) L [.ref a] σ) <|
    o_ireturn R
def bX0_parse_11 (κ : Nat → Option Nat) (R : Ret AH) : Cont AH :=
    o_al 0 <|
    o_ic 0 <|
    o_pI 4 [1] <|
    o_new 2 9 <|
    o_dup <|
    o_al 0 <|
    o_call 2 (hvi (pX3_init κ)) (fun L a σ => hT σ a = 5 ∧ (bX0_parse_67 κ R) L [.ref a] σ) <|
    o_call 1 (hvc [(3, pX3_read κ)]) (fun L a σ => hT σ a = 5 ∧ (bX0_parse_67 κ R) L [.ref a] σ) <|
    o_as 2 <|
    o_al 0 <|
    o_ic 0 <|
    o_pI 1 [1] <|
    o_al 2 <|
    o_gR 2 [4] <|
    o_call 1 (hvc [(19, pJ2_size κ)]) (fun L a σ => hT σ a = 5 ∧ (bX0_parse_67 κ R) L [.ref a] σ) <|
    o_ic 32 <|
    o_icmp_le (bX0_parse_48 κ R) <|
    o_ic (-3) <|
    o_ireturn R
def bX0_parse_0 (κ : Nat → Option Nat) (R : Ret AH) : Cont AH :=
    o_il 1 <|
    o_ic 0 <|
    o_ic 3 <|
    o_call 3 (pX0_in κ) (fun _ a σ => R (.inr a) σ) <|
    o_if_ne (bX0_parse_11 κ R) <|
    o_ic (-1) <|
    o_ireturn R
def pX0_parse (κ : Nat → Option Nat) : PT AH := fun as σ Q => (lg_sl as).length ≤ 3 ∧ bX0_parse_0 κ Q (entP 3 as) [] σ
theorem nX0_parse : parN yX0_parse 1 := by unfold parN; decide +kernel
set_option maxHeartbeats 4000000 in
theorem eX0_parse (g : GC) : CT (wC g) yX0_parse (Cond.codeWith yX0_parse cX0_parse 3 (some .int) [(16, 47, 67, 66), (48, 66, 67, 66)]) 12 301 (pX0_parse g.2.1) := by
  refine CT.of (wC_ok g) (cc := cX0_parse) (nL := 3) (ret := (some .int)) (ht := [(16, 47, 67, 66), (48, 66, 67, 66)]) (by decide +kernel) (Or.inr rfl) (B := bX0_parse_0 g.2.1) (fun R E X hE => ?_)
  have h67 : E (bX0_parse_67 g.2.1 R) 67 := by
    unfold bX0_parse_67
    refine si_astore_n (pc := 67) hE dX0_parse_67 rfl (by decide) ?_
    refine si_aload_n (pc := 68) hE dX0_parse_68 rfl ?_
    refine si_iconst (pc := 69) hE dX0_parse_69 (by decide) ?_
    refine si_pI (pc := 70) hE dX0_parse_70 (Or.inl q209) zfo_16 ?_
    refine si_aload_n (pc := 73) hE dX0_parse_73 rfl ?_
    refine si_aload_n (pc := 74) hE dX0_parse_74 rfl ?_
    refine si_gI (pc := 75) hE dX0_parse_75 (Or.inr ⟨_, q559⟩) zfo_30 ?_
    refine si_pI (pc := 78) hE dX0_parse_78 (Or.inl q213) zfo_66 ?_
    refine si_bipush (pc := 81) hE dX0_parse_81 (by decide) ?_
    refine si_aload_n (pc := 83) hE dX0_parse_83 rfl ?_
    refine si_gI (pc := 84) hE dX0_parse_84 (Or.inr ⟨_, q561⟩) zfo_31 ?_
    refine si_isub (pc := 87) hE dX0_parse_87 ?_
    exact si_ireturn (pc := 88) hE dX0_parse_88
  have h48 : E (bX0_parse_48 g.2.1 R) 48 := by
    unfold bX0_parse_48
    refine si_aload_n (pc := 48) hE dX0_parse_48 rfl ?_
    refine si_hv (pc := 49) (n := 0) hE dX0_parse_49 ⟨cal_V (recvO cls3) (eX4_study g) (Or.inl ⟨rfl, rfl⟩) q1113 q136 q1110 q1111 q1112 ⟨by decide +kernel, by decide +kernel⟩ nX4_study (by decide) (by decide), trivial⟩ (si_catch hE (tgt := 67) (idx := 66) (by decide) (by decide) q247 cls4 h67) ?_
    refine si_aload_n (pc := 52) hE dX0_parse_52 rfl ?_
    refine si_gR (pc := 53) hE dX0_parse_53 (Or.inl q212) zfo_14 ?_
    refine si_iload_n (pc := 56) hE dX0_parse_56 rfl ?_
    refine si_aload_n (pc := 57) hE dX0_parse_57 rfl ?_
    refine si_aastore5 (pc := 58) hE dX0_parse_58 (anyOK_of zco_7) ?_
    refine si_aload_n (pc := 59) hE dX0_parse_59 rfl ?_
    refine si_gR (pc := 60) hE dX0_parse_60 (Or.inr ⟨_, q295⟩) zfo_18 ?_
    refine si_hv (pc := 63) (n := 0) hE dX0_parse_63 ⟨cal_V (recvO cls18) (eJ2_size g) (Or.inl ⟨rfl, rfl⟩) q501 q139 q1109 q499 q500 ⟨by decide +kernel, by decide +kernel⟩ nJ2_size (by decide) (by decide), trivial⟩ (si_catch hE (tgt := 67) (idx := 66) (by decide) (by decide) q247 cls4 h67) ?_
    exact si_ireturn (pc := 66) hE dX0_parse_66
  have h11 : E (bX0_parse_11 g.2.1 R) 11 := by
    unfold bX0_parse_11
    refine si_aload_n (pc := 11) hE dX0_parse_11 rfl ?_
    refine si_iconst (pc := 12) hE dX0_parse_12 (by decide) ?_
    refine si_pI (pc := 13) hE dX0_parse_13 (Or.inl q213) zfo_66 ?_
    refine si_new (pc := 16) hE dX0_parse_16 cls2 q251 q252 q135 df_2 ?_
    refine si_dup (pc := 19) hE dX0_parse_19 ?_
    refine si_aload_n (pc := 20) hE dX0_parse_20 rfl ?_
    refine si_hi (pc := 21) (n := 1) hE dX0_parse_21 (cal_IN (eX3_init g) q255 q135 q253 q254 rfl ⟨by decide +kernel, by decide +kernel⟩ nX3_init (by decide) (by decide)) (si_catch hE (tgt := 67) (idx := 66) (by decide) (by decide) q247 cls4 h67) ?_
    refine si_hv (pc := 24) (n := 0) hE dX0_parse_24 ⟨cal_V (recvO cls2) (eX3_read g) (Or.inl ⟨rfl, rfl⟩) q386 q135 q383 q384 q385 ⟨by decide +kernel, by decide +kernel⟩ nX3_read (by decide) (by decide), trivial⟩ (si_catch hE (tgt := 67) (idx := 66) (by decide) (by decide) q247 cls4 h67) ?_
    refine si_astore_n (pc := 27) hE dX0_parse_27 rfl (by decide) ?_
    refine si_aload_n (pc := 28) hE dX0_parse_28 rfl ?_
    refine si_iconst (pc := 29) hE dX0_parse_29 (by decide) ?_
    refine si_pI (pc := 30) hE dX0_parse_30 (Or.inl q209) zfo_16 ?_
    refine si_aload_n (pc := 33) hE dX0_parse_33 rfl ?_
    refine si_gR (pc := 34) hE dX0_parse_34 (Or.inr ⟨_, q299⟩) zfo_19 ?_
    refine si_hv (pc := 37) (n := 0) hE dX0_parse_37 ⟨cal_V (recvO cls18) (eJ2_size g) (Or.inl ⟨rfl, rfl⟩) q501 q139 q1109 q499 q500 ⟨by decide +kernel, by decide +kernel⟩ nJ2_size (by decide) (by decide), trivial⟩ (si_catch hE (tgt := 67) (idx := 66) (by decide) (by decide) q247 cls4 h67) ?_
    refine si_bipush (pc := 40) hE dX0_parse_40 (by decide) ?_
    refine si_icmp_le (pc := 42) hE dX0_parse_42 (by decide) h48 ?_
    refine si_bipush (pc := 45) hE dX0_parse_45 (by decide) ?_
    exact si_ireturn (pc := 47) hE dX0_parse_47
  have h0 : E (bX0_parse_0 g.2.1 R) 0 := by
    unfold bX0_parse_0
    refine si_iload_n (pc := 0) hE dX0_parse_0 rfl ?_
    refine si_iconst (pc := 1) hE dX0_parse_1 (by decide) ?_
    refine si_iconst (pc := 2) hE dX0_parse_2 (by decide) ?_
    refine si_hs (pc := 3) (n := 3) hE dX0_parse_3 (cal_S (eX0_in g) (Or.inl ⟨rfl, rfl⟩) q250 q132 q248 q249 ⟨by decide +kernel, by decide +kernel⟩ nX0_in (by decide) (by decide)) (si_out hE (by decide)) ?_
    refine si_if_ne (pc := 6) hE dX0_parse_6 (by decide) h11 ?_
    refine si_iconst (pc := 9) hE dX0_parse_9 (by decide) ?_
    exact si_ireturn (pc := 10) hE dX0_parse_10
  exact h0
def bX0_wrong_0 (κ : Nat → Option Nat) (R : Ret AH) : Cont AH :=
    o_al 0 <|
    o_gI 4 [1] <|
    o_ireturn R
def pX0_wrong (κ : Nat → Option Nat) : PT AH := fun as σ Q => (lg_sl as).length ≤ 1 ∧ bX0_wrong_0 κ Q (entP 1 as) [] σ
theorem nX0_wrong : parN yX0_wrong 0 := by unfold parN; decide +kernel
set_option maxHeartbeats 4000000 in
theorem eX0_wrong (g : GC) : CT (wC g) yX0_wrong (Cond.code yX0_wrong cX0_wrong 1 (some .int)) 0 0 (pX0_wrong g.2.1) := by
  refine CT.of (wC_ok g) (cc := cX0_wrong) (nL := 1) (ret := (some .int)) (ht := []) (by decide +kernel) (Or.inl ⟨rfl, rfl⟩) (B := bX0_wrong_0 g.2.1) (fun R E X hE => ?_)
  have h0 : E (bX0_wrong_0 g.2.1 R) 0 := by
    unfold bX0_wrong_0
    refine si_aload_n (pc := 0) hE dX0_wrong_0 rfl ?_
    refine si_gI (pc := 1) hE dX0_wrong_1 (Or.inl q213) zfo_66 ?_
    exact si_ireturn (pc := 4) hE dX0_wrong_4
  exact h0
def bX0_of_19 (κ : Nat → Option Nat) (R : Ret AH) : Cont AH :=
    o_areturn R
def bX0_of_18 (κ : Nat → Option Nat) (R : Ret AH) : Cont AH :=
    o_null <|
    (bX0_of_19 κ R)
def bX0_of_0 (κ : Nat → Option Nat) (R : Ret AH) : Cont AH :=
    o_il 1 <|
    o_ic 0 <|
    o_ic 3 <|
    o_call 3 (pX0_in κ) (fun _ a σ => R (.inr a) σ) <|
    o_if_eq (bX0_of_18 κ R) <|
    o_al 0 <|
    o_gR 3 [1] <|
    o_il 1 <|
    o_aR 105 <|
    (bX0_of_19 κ R)
def pX0_of (κ : Nat → Option Nat) : PT AH := fun as σ Q => (lg_sl as).length ≤ 2 ∧ bX0_of_0 κ Q (entP 2 as) [] σ
theorem nX0_of : parN yX0_of 1 := by unfold parN; decide +kernel
set_option maxHeartbeats 4000000 in
theorem eX0_of (g : GC) : CT (wC g) yX0_of (Cond.code yX0_of cX0_of 2 (some (.object "LateAndEarly$Routine"))) 1 22 (pX0_of g.2.1) := by
  refine CT.of (wC_ok g) (cc := cX0_of) (nL := 2) (ret := (some (.object "LateAndEarly$Routine"))) (ht := []) (by decide +kernel) (Or.inl ⟨rfl, rfl⟩) (B := bX0_of_0 g.2.1) (fun R E X hE => ?_)
  have h19 : E (bX0_of_19 g.2.1 R) 19 := by
    unfold bX0_of_19
    exact si_areturn (pc := 19) hE (Or.inl ⟨_, rfl⟩) dX0_of_19
  have h18 : E (bX0_of_18 g.2.1 R) 18 := by
    unfold bX0_of_18
    refine si_null (pc := 18) hE dX0_of_18 ?_
    exact h19
  have h0 : E (bX0_of_0 g.2.1 R) 0 := by
    unfold bX0_of_0
    refine si_iload_n (pc := 0) hE dX0_of_0 rfl ?_
    refine si_iconst (pc := 1) hE dX0_of_1 (by decide) ?_
    refine si_iconst (pc := 2) hE dX0_of_2 (by decide) ?_
    refine si_hs (pc := 3) (n := 3) hE dX0_of_3 (cal_S (eX0_in g) (Or.inl ⟨rfl, rfl⟩) q250 q132 q248 q249 ⟨by decide +kernel, by decide +kernel⟩ nX0_in (by decide) (by decide)) (si_out hE rfl) ?_
    refine si_if_eq (pc := 6) hE dX0_of_6 (by decide) h18 ?_
    refine si_aload_n (pc := 9) hE dX0_of_9 rfl ?_
    refine si_gR (pc := 10) hE dX0_of_10 (Or.inl q212) zfo_14 ?_
    refine si_iload_n (pc := 13) hE dX0_of_13 rfl ?_
    refine si_aaload5 (pc := 14) hE dX0_of_14 ?_
    exact si_goto (pc := 15) hE dX0_of_15 (by decide) h19
  exact h0
def bX0_about_48 (κ : Nat → Option Nat) (R : Ret AH) : Cont AH :=
    o_al 3 <|
    o_gR 0 [4] <|
    o_call 1 (hvc [(19, pJ2_size κ)]) (fun _ a σ => R (.inr a) σ) <|
    o_ireturn R
def bX0_about_56 (κ : Nat → Option Nat) (R : Ret AH) : Cont AH :=
    o_al 3 <|
    o_gR 1 [4] <|
    o_call 1 (hvc [(19, pJ2_size κ)]) (fun _ a σ => R (.inr a) σ) <|
    o_ireturn R
def bX0_about_64 (κ : Nat → Option Nat) (R : Ret AH) : Cont AH :=
    o_al 3 <|
    o_gR 2 [4] <|
    o_call 1 (hvc [(19, pJ2_size κ)]) (fun _ a σ => R (.inr a) σ) <|
    o_ireturn R
def bX0_about_72 (κ : Nat → Option Nat) (R : Ret AH) : Cont AH :=
    o_al 3 <|
    o_gI 5 [4] <|
    o_ireturn R
def bX0_about_77 (κ : Nat → Option Nat) (R : Ret AH) : Cont AH :=
    o_al 3 <|
    o_gI 4 [4] <|
    o_ireturn R
def bX0_about_82 (κ : Nat → Option Nat) (R : Ret AH) : Cont AH :=
    o_ic (-1) <|
    o_ireturn R
def bX0_about_12 (κ : Nat → Option Nat) (R : Ret AH) : Cont AH :=
    o_il 2 <|
    o_sw [(0, (bX0_about_48 κ R)), (1, (bX0_about_56 κ R)), (2, (bX0_about_64 κ R)), (3, (bX0_about_72 κ R)), (4, (bX0_about_77 κ R))] (bX0_about_82 κ R)
def bX0_about_0 (κ : Nat → Option Nat) (R : Ret AH) : Cont AH :=
    o_al 0 <|
    o_il 1 <|
    o_call 2 (hvc [(1, pX0_of κ)]) (fun _ a σ => R (.inr a) σ) <|
    o_as 3 <|
    o_al 3 <|
    o_ifnonnull (bX0_about_12 κ R) <|
    o_ic (-1) <|
    o_ireturn R
def pX0_about (κ : Nat → Option Nat) : PT AH := fun as σ Q => (lg_sl as).length ≤ 4 ∧ bX0_about_0 κ Q (entP 4 as) [] σ
theorem nX0_about : parN yX0_about 2 := by unfold parN; decide +kernel
set_option maxHeartbeats 4000000 in
theorem eX0_about (g : GC) : CT (wC g) yX0_about (Cond.code yX0_about cX0_about 4 (some .int)) 2 43 (pX0_about g.2.1) := by
  refine CT.of (wC_ok g) (cc := cX0_about) (nL := 4) (ret := (some .int)) (ht := []) (by decide +kernel) (Or.inl ⟨rfl, rfl⟩) (B := bX0_about_0 g.2.1) (fun R E X hE => ?_)
  have h48 : E (bX0_about_48 g.2.1 R) 48 := by
    unfold bX0_about_48
    refine si_aload_n (pc := 48) hE dX0_about_48 rfl ?_
    refine si_gR (pc := 49) hE dX0_about_49 (Or.inr ⟨_, q290⟩) zfo_17 ?_
    refine si_hv (pc := 52) (n := 0) hE dX0_about_52 ⟨cal_V (recvO cls18) (eJ2_size g) (Or.inl ⟨rfl, rfl⟩) q501 q139 q1109 q499 q500 ⟨by decide +kernel, by decide +kernel⟩ nJ2_size (by decide) (by decide), trivial⟩ (si_out hE rfl) ?_
    exact si_ireturn (pc := 55) hE dX0_about_55
  have h56 : E (bX0_about_56 g.2.1 R) 56 := by
    unfold bX0_about_56
    refine si_aload_n (pc := 56) hE dX0_about_56 rfl ?_
    refine si_gR (pc := 57) hE dX0_about_57 (Or.inr ⟨_, q295⟩) zfo_18 ?_
    refine si_hv (pc := 60) (n := 0) hE dX0_about_60 ⟨cal_V (recvO cls18) (eJ2_size g) (Or.inl ⟨rfl, rfl⟩) q501 q139 q1109 q499 q500 ⟨by decide +kernel, by decide +kernel⟩ nJ2_size (by decide) (by decide), trivial⟩ (si_out hE rfl) ?_
    exact si_ireturn (pc := 63) hE dX0_about_63
  have h64 : E (bX0_about_64 g.2.1 R) 64 := by
    unfold bX0_about_64
    refine si_aload_n (pc := 64) hE dX0_about_64 rfl ?_
    refine si_gR (pc := 65) hE dX0_about_65 (Or.inr ⟨_, q299⟩) zfo_19 ?_
    refine si_hv (pc := 68) (n := 0) hE dX0_about_68 ⟨cal_V (recvO cls18) (eJ2_size g) (Or.inl ⟨rfl, rfl⟩) q501 q139 q1109 q499 q500 ⟨by decide +kernel, by decide +kernel⟩ nJ2_size (by decide) (by decide), trivial⟩ (si_out hE rfl) ?_
    exact si_ireturn (pc := 71) hE dX0_about_71
  have h72 : E (bX0_about_72 g.2.1 R) 72 := by
    unfold bX0_about_72
    refine si_aload_n (pc := 72) hE dX0_about_72 rfl ?_
    refine si_gI (pc := 73) hE dX0_about_73 (Or.inr ⟨_, q307⟩) zfo_57 ?_
    exact si_ireturn (pc := 76) hE dX0_about_76
  have h77 : E (bX0_about_77 g.2.1 R) 77 := by
    unfold bX0_about_77
    refine si_aload_n (pc := 77) hE dX0_about_77 rfl ?_
    refine si_gI (pc := 78) hE dX0_about_78 (Or.inr ⟨_, q304⟩) zfo_54 ?_
    exact si_ireturn (pc := 81) hE dX0_about_81
  have h82 : E (bX0_about_82 g.2.1 R) 82 := by
    unfold bX0_about_82
    refine si_iconst (pc := 82) hE dX0_about_82 (by decide) ?_
    exact si_ireturn (pc := 83) hE dX0_about_83
  have h12 : E (bX0_about_12 g.2.1 R) 12 := by
    unfold bX0_about_12
    refine si_iload_n (pc := 12) hE dX0_about_12 rfl ?_
    exact si_tsw (pc := 13) hE dX0_about_13 (by decide) (td := 82) (by decide) h82 ⟨⟨48, by decide, by decide, h48⟩, ⟨⟨56, by decide, by decide, h56⟩, ⟨⟨64, by decide, by decide, h64⟩, ⟨⟨72, by decide, by decide, h72⟩, ⟨⟨77, by decide, by decide, h77⟩, trivial⟩⟩⟩⟩⟩
  have h0 : E (bX0_about_0 g.2.1 R) 0 := by
    unfold bX0_about_0
    refine si_aload_n (pc := 0) hE dX0_about_0 rfl ?_
    refine si_iload_n (pc := 1) hE dX0_about_1 rfl ?_
    refine si_hv (pc := 2) (n := 1) hE dX0_about_2 ⟨cal_V (recvO cls0) (eX0_of g) (Or.inl ⟨rfl, rfl⟩) q1258 q132 q1255 q1257 qs32 ⟨by decide +kernel, by decide +kernel⟩ nX0_of (by decide) (by decide), trivial⟩ (si_out hE rfl) ?_
    refine si_astore_n (pc := 5) hE dX0_about_5 rfl (by decide) ?_
    refine si_aload_n (pc := 6) hE dX0_about_6 rfl ?_
    refine si_ifnonnull (pc := 7) hE dX0_about_7 (by decide) h12 ?_
    refine si_iconst (pc := 10) hE dX0_about_10 (by decide) ?_
    exact si_ireturn (pc := 11) hE dX0_about_11
  exact h0
def bX0_nodeOf_48 (κ : Nat → Option Nat) (R : Ret AH) : Cont AH :=
    o_areturn R
def bX0_nodeOf_29 (κ : Nat → Option Nat) (R : Ret AH) : Cont AH :=
    o_null <|
    (bX0_nodeOf_48 κ R)
def bX0_nodeOf_33 (κ : Nat → Option Nat) (R : Ret AH) : Cont AH :=
    o_al 0 <|
    o_il 1 <|
    o_call 2 (hvc [(1, pX0_of κ)]) (fun _ a σ => R (.inr a) σ) <|
    o_gR 1 [4] <|
    o_il 2 <|
    o_call 2 (hvc [(19, pJ2_get κ)]) (fun _ a σ => R (.inr a) σ) <|
    o_cast [7, 8, 9, 10, 11, 12, 13, 14] <|
    (bX0_nodeOf_48 κ R)
def bX0_nodeOf_0 (κ : Nat → Option Nat) (R : Ret AH) : Cont AH :=
    o_al 0 <|
    o_il 1 <|
    o_call 2 (hvc [(1, pX0_of κ)]) (fun _ a σ => R (.inr a) σ) <|
    o_ifnull (bX0_nodeOf_29 κ R) <|
    o_il 2 <|
    o_ic 0 <|
    o_al 0 <|
    o_il 1 <|
    o_call 2 (hvc [(1, pX0_of κ)]) (fun _ a σ => R (.inr a) σ) <|
    o_gR 1 [4] <|
    o_call 1 (hvc [(19, pJ2_size κ)]) (fun _ a σ => R (.inr a) σ) <|
    o_ic 1 <|
    o_isub <|
    o_call 3 (pX0_in κ) (fun _ a σ => R (.inr a) σ) <|
    o_if_ne (bX0_nodeOf_33 κ R) <|
    (bX0_nodeOf_29 κ R)
def pX0_nodeOf (κ : Nat → Option Nat) : PT AH := fun as σ Q => (lg_sl as).length ≤ 3 ∧ bX0_nodeOf_0 κ Q (entP 3 as) [] σ
theorem nX0_nodeOf : parN yX0_nodeOf 2 := by unfold parN; decide +kernel
set_option maxHeartbeats 4000000 in
theorem eX0_nodeOf (g : GC) : CT (wC g) yX0_nodeOf (Cond.code yX0_nodeOf cX0_nodeOf 3 (some (.object "LateAndEarly$Node"))) 3 64 (pX0_nodeOf g.2.1) := by
  refine CT.of (wC_ok g) (cc := cX0_nodeOf) (nL := 3) (ret := (some (.object "LateAndEarly$Node"))) (ht := []) (by decide +kernel) (Or.inl ⟨rfl, rfl⟩) (B := bX0_nodeOf_0 g.2.1) (fun R E X hE => ?_)
  have h48 : E (bX0_nodeOf_48 g.2.1 R) 48 := by
    unfold bX0_nodeOf_48
    exact si_areturn (pc := 48) hE (Or.inl ⟨_, rfl⟩) dX0_nodeOf_48
  have h29 : E (bX0_nodeOf_29 g.2.1 R) 29 := by
    unfold bX0_nodeOf_29
    refine si_null (pc := 29) hE dX0_nodeOf_29 ?_
    exact si_goto (pc := 30) hE dX0_nodeOf_30 (by decide) h48
  have h33 : E (bX0_nodeOf_33 g.2.1 R) 33 := by
    unfold bX0_nodeOf_33
    refine si_aload_n (pc := 33) hE dX0_nodeOf_33 rfl ?_
    refine si_iload_n (pc := 34) hE dX0_nodeOf_34 rfl ?_
    refine si_hv (pc := 35) (n := 1) hE dX0_nodeOf_35 ⟨cal_V (recvO cls0) (eX0_of g) (Or.inl ⟨rfl, rfl⟩) q1258 q132 q1255 q1257 qs32 ⟨by decide +kernel, by decide +kernel⟩ nX0_of (by decide) (by decide), trivial⟩ (si_out hE rfl) ?_
    refine si_gR (pc := 38) hE dX0_nodeOf_38 (Or.inr ⟨_, q295⟩) zfo_18 ?_
    refine si_iload_n (pc := 41) hE dX0_nodeOf_41 rfl ?_
    refine si_hv (pc := 42) (n := 1) hE dX0_nodeOf_42 ⟨cal_V (recvO cls18) (eJ2_get g) (Or.inl ⟨rfl, rfl⟩) q980 q139 q1267 q978 q979 ⟨by decide +kernel, by decide +kernel⟩ nJ2_get (by decide) (by decide), trivial⟩ (si_out hE rfl) ?_
    refine si_cast (pc := 45) hE dX0_nodeOf_45 q1268 zco_2 ?_
    exact h48
  have h0 : E (bX0_nodeOf_0 g.2.1 R) 0 := by
    unfold bX0_nodeOf_0
    refine si_aload_n (pc := 0) hE dX0_nodeOf_0 rfl ?_
    refine si_iload_n (pc := 1) hE dX0_nodeOf_1 rfl ?_
    refine si_hv (pc := 2) (n := 1) hE dX0_nodeOf_2 ⟨cal_V (recvO cls0) (eX0_of g) (Or.inl ⟨rfl, rfl⟩) q1258 q132 q1255 q1257 qs32 ⟨by decide +kernel, by decide +kernel⟩ nX0_of (by decide) (by decide), trivial⟩ (si_out hE rfl) ?_
    refine si_ifnull (pc := 5) hE dX0_nodeOf_5 (by decide) h29 ?_
    refine si_iload_n (pc := 8) hE dX0_nodeOf_8 rfl ?_
    refine si_iconst (pc := 9) hE dX0_nodeOf_9 (by decide) ?_
    refine si_aload_n (pc := 10) hE dX0_nodeOf_10 rfl ?_
    refine si_iload_n (pc := 11) hE dX0_nodeOf_11 rfl ?_
    refine si_hv (pc := 12) (n := 1) hE dX0_nodeOf_12 ⟨cal_V (recvO cls0) (eX0_of g) (Or.inl ⟨rfl, rfl⟩) q1258 q132 q1255 q1257 qs32 ⟨by decide +kernel, by decide +kernel⟩ nX0_of (by decide) (by decide), trivial⟩ (si_out hE rfl) ?_
    refine si_gR (pc := 15) hE dX0_nodeOf_15 (Or.inr ⟨_, q295⟩) zfo_18 ?_
    refine si_hv (pc := 18) (n := 0) hE dX0_nodeOf_18 ⟨cal_V (recvO cls18) (eJ2_size g) (Or.inl ⟨rfl, rfl⟩) q501 q139 q1109 q499 q500 ⟨by decide +kernel, by decide +kernel⟩ nJ2_size (by decide) (by decide), trivial⟩ (si_out hE rfl) ?_
    refine si_iconst (pc := 21) hE dX0_nodeOf_21 (by decide) ?_
    refine si_isub (pc := 22) hE dX0_nodeOf_22 ?_
    refine si_hs (pc := 23) (n := 3) hE dX0_nodeOf_23 (cal_S (eX0_in g) (Or.inl ⟨rfl, rfl⟩) q250 q132 q248 q249 ⟨by decide +kernel, by decide +kernel⟩ nX0_in (by decide) (by decide)) (si_out hE rfl) ?_
    refine si_if_ne (pc := 26) hE dX0_nodeOf_26 (by decide) h33 ?_
    exact h29
  exact h0
def bX15_kind_0 (κ : Nat → Option Nat) (R : Ret AH) : Cont AH :=
    o_ic 0 <|
    o_ireturn R
def pX15_kind (κ : Nat → Option Nat) : PT AH := fun as σ Q => (lg_sl as).length ≤ 1 ∧ bX15_kind_0 κ Q (entP 1 as) [] σ
theorem nX15_kind : parN yX15_kind 0 := by unfold parN; decide +kernel
set_option maxHeartbeats 4000000 in
theorem eX15_kind (g : GC) : CT (wC g) yX15_kind (Cond.code yX15_kind cX15_kind 1 (some .int)) 0 0 (pX15_kind g.2.1) := by
  refine CT.of (wC_ok g) (cc := cX15_kind) (nL := 1) (ret := (some .int)) (ht := []) (by decide +kernel) (Or.inl ⟨rfl, rfl⟩) (B := bX15_kind_0 g.2.1) (fun R E X hE => ?_)
  have h0 : E (bX15_kind_0 g.2.1 R) 0 := by
    unfold bX15_kind_0
    refine si_iconst (pc := 0) hE dX15_kind_0 (by decide) ?_
    exact si_ireturn (pc := 1) hE dX15_kind_1
  exact h0
def bX18_kind_0 (κ : Nat → Option Nat) (R : Ret AH) : Cont AH :=
    o_ic 1 <|
    o_ireturn R
def pX18_kind (κ : Nat → Option Nat) : PT AH := fun as σ Q => (lg_sl as).length ≤ 1 ∧ bX18_kind_0 κ Q (entP 1 as) [] σ
theorem nX18_kind : parN yX18_kind 0 := by unfold parN; decide +kernel
set_option maxHeartbeats 4000000 in
theorem eX18_kind (g : GC) : CT (wC g) yX18_kind (Cond.code yX18_kind cX18_kind 1 (some .int)) 0 0 (pX18_kind g.2.1) := by
  refine CT.of (wC_ok g) (cc := cX18_kind) (nL := 1) (ret := (some .int)) (ht := []) (by decide +kernel) (Or.inl ⟨rfl, rfl⟩) (B := bX18_kind_0 g.2.1) (fun R E X hE => ?_)
  have h0 : E (bX18_kind_0 g.2.1 R) 0 := by
    unfold bX18_kind_0
    refine si_iconst (pc := 0) hE dX18_kind_0 (by decide) ?_
    exact si_ireturn (pc := 1) hE dX18_kind_1
  exact h0
def bX13_kind_0 (κ : Nat → Option Nat) (R : Ret AH) : Cont AH :=
    o_ic 2 <|
    o_ireturn R
def pX13_kind (κ : Nat → Option Nat) : PT AH := fun as σ Q => (lg_sl as).length ≤ 1 ∧ bX13_kind_0 κ Q (entP 1 as) [] σ
theorem nX13_kind : parN yX13_kind 0 := by unfold parN; decide +kernel
set_option maxHeartbeats 4000000 in
theorem eX13_kind (g : GC) : CT (wC g) yX13_kind (Cond.code yX13_kind cX13_kind 1 (some .int)) 0 0 (pX13_kind g.2.1) := by
  refine CT.of (wC_ok g) (cc := cX13_kind) (nL := 1) (ret := (some .int)) (ht := []) (by decide +kernel) (Or.inl ⟨rfl, rfl⟩) (B := bX13_kind_0 g.2.1) (fun R E X hE => ?_)
  have h0 : E (bX13_kind_0 g.2.1 R) 0 := by
    unfold bX13_kind_0
    refine si_iconst (pc := 0) hE dX13_kind_0 (by decide) ?_
    exact si_ireturn (pc := 1) hE dX13_kind_1
  exact h0
def bX7_kind_0 (κ : Nat → Option Nat) (R : Ret AH) : Cont AH :=
    o_ic 3 <|
    o_ireturn R
def pX7_kind (κ : Nat → Option Nat) : PT AH := fun as σ Q => (lg_sl as).length ≤ 1 ∧ bX7_kind_0 κ Q (entP 1 as) [] σ
theorem nX7_kind : parN yX7_kind 0 := by unfold parN; decide +kernel
set_option maxHeartbeats 4000000 in
theorem eX7_kind (g : GC) : CT (wC g) yX7_kind (Cond.code yX7_kind cX7_kind 1 (some .int)) 0 0 (pX7_kind g.2.1) := by
  refine CT.of (wC_ok g) (cc := cX7_kind) (nL := 1) (ret := (some .int)) (ht := []) (by decide +kernel) (Or.inl ⟨rfl, rfl⟩) (B := bX7_kind_0 g.2.1) (fun R E X hE => ?_)
  have h0 : E (bX7_kind_0 g.2.1 R) 0 := by
    unfold bX7_kind_0
    refine si_iconst (pc := 0) hE dX7_kind_0 (by decide) ?_
    exact si_ireturn (pc := 1) hE dX7_kind_1
  exact h0
def bX11_kind_0 (κ : Nat → Option Nat) (R : Ret AH) : Cont AH :=
    o_ic 4 <|
    o_ireturn R
def pX11_kind (κ : Nat → Option Nat) : PT AH := fun as σ Q => (lg_sl as).length ≤ 1 ∧ bX11_kind_0 κ Q (entP 1 as) [] σ
theorem nX11_kind : parN yX11_kind 0 := by unfold parN; decide +kernel
set_option maxHeartbeats 4000000 in
theorem eX11_kind (g : GC) : CT (wC g) yX11_kind (Cond.code yX11_kind cX11_kind 1 (some .int)) 0 0 (pX11_kind g.2.1) := by
  refine CT.of (wC_ok g) (cc := cX11_kind) (nL := 1) (ret := (some .int)) (ht := []) (by decide +kernel) (Or.inl ⟨rfl, rfl⟩) (B := bX11_kind_0 g.2.1) (fun R E X hE => ?_)
  have h0 : E (bX11_kind_0 g.2.1 R) 0 := by
    unfold bX11_kind_0
    refine si_iconst (pc := 0) hE dX11_kind_0 (by decide) ?_
    exact si_ireturn (pc := 1) hE dX11_kind_1
  exact h0
def bX12_kind_0 (κ : Nat → Option Nat) (R : Ret AH) : Cont AH :=
    o_ic 5 <|
    o_ireturn R
def pX12_kind (κ : Nat → Option Nat) : PT AH := fun as σ Q => (lg_sl as).length ≤ 1 ∧ bX12_kind_0 κ Q (entP 1 as) [] σ
theorem nX12_kind : parN yX12_kind 0 := by unfold parN; decide +kernel
set_option maxHeartbeats 4000000 in
theorem eX12_kind (g : GC) : CT (wC g) yX12_kind (Cond.code yX12_kind cX12_kind 1 (some .int)) 0 0 (pX12_kind g.2.1) := by
  refine CT.of (wC_ok g) (cc := cX12_kind) (nL := 1) (ret := (some .int)) (ht := []) (by decide +kernel) (Or.inl ⟨rfl, rfl⟩) (B := bX12_kind_0 g.2.1) (fun R E X hE => ?_)
  have h0 : E (bX12_kind_0 g.2.1 R) 0 := by
    unfold bX12_kind_0
    refine si_iconst (pc := 0) hE dX12_kind_0 (by decide) ?_
    exact si_ireturn (pc := 1) hE dX12_kind_1
  exact h0
def bX10_kind_0 (κ : Nat → Option Nat) (R : Ret AH) : Cont AH :=
    o_ic 6 <|
    o_ireturn R
def pX10_kind (κ : Nat → Option Nat) : PT AH := fun as σ Q => (lg_sl as).length ≤ 1 ∧ bX10_kind_0 κ Q (entP 1 as) [] σ
theorem nX10_kind : parN yX10_kind 0 := by unfold parN; decide +kernel
set_option maxHeartbeats 4000000 in
theorem eX10_kind (g : GC) : CT (wC g) yX10_kind (Cond.code yX10_kind cX10_kind 1 (some .int)) 0 0 (pX10_kind g.2.1) := by
  refine CT.of (wC_ok g) (cc := cX10_kind) (nL := 1) (ret := (some .int)) (ht := []) (by decide +kernel) (Or.inl ⟨rfl, rfl⟩) (B := bX10_kind_0 g.2.1) (fun R E X hE => ?_)
  have h0 : E (bX10_kind_0 g.2.1 R) 0 := by
    unfold bX10_kind_0
    refine si_bipush (pc := 0) hE dX10_kind_0 (by decide) ?_
    exact si_ireturn (pc := 2) hE dX10_kind_2
  exact h0
def bX20_kind_0 (κ : Nat → Option Nat) (R : Ret AH) : Cont AH :=
    o_ic 7 <|
    o_ireturn R
def pX20_kind (κ : Nat → Option Nat) : PT AH := fun as σ Q => (lg_sl as).length ≤ 1 ∧ bX20_kind_0 κ Q (entP 1 as) [] σ
theorem nX20_kind : parN yX20_kind 0 := by unfold parN; decide +kernel
set_option maxHeartbeats 4000000 in
theorem eX20_kind (g : GC) : CT (wC g) yX20_kind (Cond.code yX20_kind cX20_kind 1 (some .int)) 0 0 (pX20_kind g.2.1) := by
  refine CT.of (wC_ok g) (cc := cX20_kind) (nL := 1) (ret := (some .int)) (ht := []) (by decide +kernel) (Or.inl ⟨rfl, rfl⟩) (B := bX20_kind_0 g.2.1) (fun R E X hE => ?_)
  have h0 : E (bX20_kind_0 g.2.1 R) 0 := by
    unfold bX20_kind_0
    refine si_bipush (pc := 0) hE dX20_kind_0 (by decide) ?_
    exact si_ireturn (pc := 2) hE dX20_kind_2
  exact h0
def bX0_node_56 (κ : Nat → Option Nat) (R : Ret AH) : Cont AH :=
    o_al 4 <|
    o_call 1 (hvc [(7, pX15_kind κ), (8, pX18_kind κ), (9, pX13_kind κ), (10, pX7_kind κ), (11, pX11_kind κ), (12, pX12_kind κ), (13, pX10_kind κ), (14, pX20_kind κ)]) (fun _ a σ => R (.inr a) σ) <|
    o_ireturn R
def bX0_node_62 (κ : Nat → Option Nat) (R : Ret AH) : Cont AH :=
    o_al 4 <|
    o_gI 1 [7, 8, 9, 10, 11, 12, 13, 14] <|
    o_ireturn R
def bX0_node_88 (κ : Nat → Option Nat) (R : Ret AH) : Cont AH :=
    o_ireturn R
def bX0_node_80 (κ : Nat → Option Nat) (R : Ret AH) : Cont AH :=
    o_al 4 <|
    o_call 1 (hvc [(7, pX15_works κ), (8, pX6_works κ), (9, pX6_works κ), (10, pX6_works κ), (11, pX6_works κ), (12, pX6_works κ), (13, pX6_works κ), (14, pX6_works κ)]) (fun _ a σ => R (.inr a) σ) <|
    o_gI 0 [15, 16] <|
    (bX0_node_88 κ R)
def bX0_node_68 (κ : Nat → Option Nat) (R : Ret AH) : Cont AH :=
    o_al 4 <|
    o_call 1 (hvc [(7, pX15_works κ), (8, pX6_works κ), (9, pX6_works κ), (10, pX6_works κ), (11, pX6_works κ), (12, pX6_works κ), (13, pX6_works κ), (14, pX6_works κ)]) (fun _ a σ => R (.inr a) σ) <|
    o_ifnonnull (bX0_node_80 κ R) <|
    o_ic (-1) <|
    (bX0_node_88 κ R)
def bX0_node_124 (κ : Nat → Option Nat) (R : Ret AH) : Cont AH :=
    o_ireturn R
def bX0_node_123 (κ : Nat → Option Nat) (R : Ret AH) : Cont AH :=
    o_ic (-1) <|
    (bX0_node_124 κ R)
def bX0_node_89 (κ : Nat → Option Nat) (R : Ret AH) : Cont AH :=
    o_il 3 <|
    o_ic 3 <|
    o_isub <|
    o_al 4 <|
    o_gR 2 [7, 8, 9, 10, 11, 12, 13, 14] <|
    o_call 1 (hvc [(19, pJ2_size κ)]) (fun _ a σ => R (.inr a) σ) <|
    o_icmp_ge (bX0_node_123 κ R) <|
    o_al 4 <|
    o_gR 2 [7, 8, 9, 10, 11, 12, 13, 14] <|
    o_il 3 <|
    o_ic 3 <|
    o_isub <|
    o_call 2 (hvc [(19, pJ2_get κ)]) (fun _ a σ => R (.inr a) σ) <|
    o_cast [7, 8, 9, 10, 11, 12, 13, 14] <|
    o_gI 0 [7, 8, 9, 10, 11, 12, 13, 14] <|
    (bX0_node_124 κ R)
def bX0_node_125 (κ : Nat → Option Nat) (R : Ret AH) : Cont AH :=
    o_al 4 <|
    o_gR 3 [7, 8, 9, 10, 11, 12, 13, 14] <|
    o_call 1 (hvc [(19, pJ2_size κ)]) (fun _ a σ => R (.inr a) σ) <|
    o_ireturn R
def bX0_node_134 (κ : Nat → Option Nat) (R : Ret AH) : Cont AH :=
    o_ic (-1) <|
    o_ireturn R
def bX0_node_15 (κ : Nat → Option Nat) (R : Ret AH) : Cont AH :=
    o_il 3 <|
    o_sw [(0, (bX0_node_56 κ R)), (1, (bX0_node_62 κ R)), (2, (bX0_node_68 κ R)), (3, (bX0_node_89 κ R)), (4, (bX0_node_89 κ R)), (5, (bX0_node_125 κ R))] (bX0_node_134 κ R)
def bX0_node_0 (κ : Nat → Option Nat) (R : Ret AH) : Cont AH :=
    o_al 0 <|
    o_il 1 <|
    o_il 2 <|
    o_call 3 (hvc [(1, pX0_nodeOf κ)]) (fun _ a σ => R (.inr a) σ) <|
    o_as 4 <|
    o_al 4 <|
    o_ifnonnull (bX0_node_15 κ R) <|
    o_ic (-1) <|
    o_ireturn R
def pX0_node (κ : Nat → Option Nat) : PT AH := fun as σ Q => (lg_sl as).length ≤ 5 ∧ bX0_node_0 κ Q (entP 5 as) [] σ
theorem nX0_node : parN yX0_node 3 := by unfold parN; decide +kernel
set_option maxHeartbeats 4000000 in
theorem eX0_node (g : GC) : CT (wC g) yX0_node (Cond.code yX0_node cX0_node 5 (some .int)) 4 86 (pX0_node g.2.1) := by
  refine CT.of (wC_ok g) (cc := cX0_node) (nL := 5) (ret := (some .int)) (ht := []) (by decide +kernel) (Or.inl ⟨rfl, rfl⟩) (B := bX0_node_0 g.2.1) (fun R E X hE => ?_)
  have h56 : E (bX0_node_56 g.2.1 R) 56 := by
    unfold bX0_node_56
    refine si_aload (pc := 56) hE dX0_node_56 ?_
    refine si_hv (pc := 58) (n := 0) hE dX0_node_58 ⟨cal_U (x := xm_12) (recvO cls6) (eX15_kind g) (Or.inl ⟨rfl, rfl⟩) q1289 q165 q1269 q1271 (Or.inl q1270) ⟨by decide +kernel, by decide +kernel⟩ q1287 q1288 xp_12 (by decide) (by decide), ⟨cal_U (x := xm_12) (recvO cls7) (eX18_kind g) (Or.inl ⟨rfl, rfl⟩) q1286 q168 q1269 q1271 (Or.inl q1270) ⟨by decide +kernel, by decide +kernel⟩ q1284 q1285 xp_12 (by decide) (by decide), ⟨cal_U (x := xm_12) (recvO cls8) (eX13_kind g) (Or.inl ⟨rfl, rfl⟩) q1295 q163 q1269 q1271 (Or.inl q1270) ⟨by decide +kernel, by decide +kernel⟩ q1293 q1294 xp_12 (by decide) (by decide), ⟨cal_U (x := xm_12) (recvO cls9) (eX7_kind g) (Or.inl ⟨rfl, rfl⟩) q1292 q157 q1269 q1271 (Or.inl q1270) ⟨by decide +kernel, by decide +kernel⟩ q1290 q1291 xp_12 (by decide) (by decide), ⟨cal_U (x := xm_12) (recvO cls10) (eX11_kind g) (Or.inl ⟨rfl, rfl⟩) q1274 q161 q1269 q1271 (Or.inl q1270) ⟨by decide +kernel, by decide +kernel⟩ q1272 q1273 xp_12 (by decide) (by decide), ⟨cal_U (x := xm_12) (recvO cls11) (eX12_kind g) (Or.inl ⟨rfl, rfl⟩) q1277 q162 q1269 q1271 (Or.inl q1270) ⟨by decide +kernel, by decide +kernel⟩ q1275 q1276 xp_12 (by decide) (by decide), ⟨cal_U (x := xm_12) (recvO cls12) (eX10_kind g) (Or.inl ⟨rfl, rfl⟩) q1280 q160 q1269 q1271 (Or.inl q1270) ⟨by decide +kernel, by decide +kernel⟩ q1278 q1279 xp_12 (by decide) (by decide), ⟨cal_U (x := xm_12) (recvO cls13) (eX20_kind g) (Or.inl ⟨rfl, rfl⟩) q1283 q171 q1269 q1271 (Or.inl q1270) ⟨by decide +kernel, by decide +kernel⟩ q1281 q1282 xp_12 (by decide) (by decide), trivial⟩⟩⟩⟩⟩⟩⟩⟩ (si_out hE rfl) ?_
    exact si_ireturn (pc := 61) hE dX0_node_61
  have h62 : E (bX0_node_62 g.2.1 R) 62 := by
    unfold bX0_node_62
    refine si_aload (pc := 62) hE dX0_node_62 ?_
    refine si_gI (pc := 64) hE dX0_node_64 (Or.inr ⟨_, q756⟩) zfo_56 ?_
    exact si_ireturn (pc := 67) hE dX0_node_67
  have h88 : E (bX0_node_88 g.2.1 R) 88 := by
    unfold bX0_node_88
    exact si_ireturn (pc := 88) hE dX0_node_88
  have h80 : E (bX0_node_80 g.2.1 R) 80 := by
    unfold bX0_node_80
    refine si_aload (pc := 80) hE dX0_node_80 ?_
    refine si_hv (pc := 82) (n := 0) hE dX0_node_82 ⟨cal_U (x := xm_4) (recvO cls6) (eX15_works g) (Or.inl ⟨rfl, rfl⟩) q1083 q165 q1296 q1075 (Or.inr ⟨_, _, _, q1074, q1086⟩) ⟨by decide +kernel, by decide +kernel⟩ q1081 q1082 xp_4 (by decide) (by decide), ⟨cal_V (recvO cls7) (eX6_works g) (Or.inl ⟨rfl, rfl⟩) q1086 q156 q1296 q1074 q1080 ⟨by decide +kernel, by decide +kernel⟩ nX6_works (by decide) (by decide), ⟨cal_V (recvO cls8) (eX6_works g) (Or.inl ⟨rfl, rfl⟩) q1086 q156 q1296 q1074 q1085 ⟨by decide +kernel, by decide +kernel⟩ nX6_works (by decide) (by decide), ⟨cal_V (recvO cls9) (eX6_works g) (Or.inl ⟨rfl, rfl⟩) q1086 q156 q1296 q1074 q1084 ⟨by decide +kernel, by decide +kernel⟩ nX6_works (by decide) (by decide), ⟨cal_V (recvO cls10) (eX6_works g) (Or.inl ⟨rfl, rfl⟩) q1086 q156 q1296 q1074 q1076 ⟨by decide +kernel, by decide +kernel⟩ nX6_works (by decide) (by decide), ⟨cal_V (recvO cls11) (eX6_works g) (Or.inl ⟨rfl, rfl⟩) q1086 q156 q1296 q1074 q1077 ⟨by decide +kernel, by decide +kernel⟩ nX6_works (by decide) (by decide), ⟨cal_V (recvO cls12) (eX6_works g) (Or.inl ⟨rfl, rfl⟩) q1086 q156 q1296 q1074 q1078 ⟨by decide +kernel, by decide +kernel⟩ nX6_works (by decide) (by decide), ⟨cal_V (recvO cls13) (eX6_works g) (Or.inl ⟨rfl, rfl⟩) q1086 q156 q1296 q1074 q1079 ⟨by decide +kernel, by decide +kernel⟩ nX6_works (by decide) (by decide), trivial⟩⟩⟩⟩⟩⟩⟩⟩ (si_out hE rfl) ?_
    refine si_gI (pc := 85) hE dX0_node_85 (Or.inr ⟨_, q901⟩) zfo_45 ?_
    exact h88
  have h68 : E (bX0_node_68 g.2.1 R) 68 := by
    unfold bX0_node_68
    refine si_aload (pc := 68) hE dX0_node_68 ?_
    refine si_hv (pc := 70) (n := 0) hE dX0_node_70 ⟨cal_U (x := xm_4) (recvO cls6) (eX15_works g) (Or.inl ⟨rfl, rfl⟩) q1083 q165 q1296 q1075 (Or.inr ⟨_, _, _, q1074, q1086⟩) ⟨by decide +kernel, by decide +kernel⟩ q1081 q1082 xp_4 (by decide) (by decide), ⟨cal_V (recvO cls7) (eX6_works g) (Or.inl ⟨rfl, rfl⟩) q1086 q156 q1296 q1074 q1080 ⟨by decide +kernel, by decide +kernel⟩ nX6_works (by decide) (by decide), ⟨cal_V (recvO cls8) (eX6_works g) (Or.inl ⟨rfl, rfl⟩) q1086 q156 q1296 q1074 q1085 ⟨by decide +kernel, by decide +kernel⟩ nX6_works (by decide) (by decide), ⟨cal_V (recvO cls9) (eX6_works g) (Or.inl ⟨rfl, rfl⟩) q1086 q156 q1296 q1074 q1084 ⟨by decide +kernel, by decide +kernel⟩ nX6_works (by decide) (by decide), ⟨cal_V (recvO cls10) (eX6_works g) (Or.inl ⟨rfl, rfl⟩) q1086 q156 q1296 q1074 q1076 ⟨by decide +kernel, by decide +kernel⟩ nX6_works (by decide) (by decide), ⟨cal_V (recvO cls11) (eX6_works g) (Or.inl ⟨rfl, rfl⟩) q1086 q156 q1296 q1074 q1077 ⟨by decide +kernel, by decide +kernel⟩ nX6_works (by decide) (by decide), ⟨cal_V (recvO cls12) (eX6_works g) (Or.inl ⟨rfl, rfl⟩) q1086 q156 q1296 q1074 q1078 ⟨by decide +kernel, by decide +kernel⟩ nX6_works (by decide) (by decide), ⟨cal_V (recvO cls13) (eX6_works g) (Or.inl ⟨rfl, rfl⟩) q1086 q156 q1296 q1074 q1079 ⟨by decide +kernel, by decide +kernel⟩ nX6_works (by decide) (by decide), trivial⟩⟩⟩⟩⟩⟩⟩⟩ (si_out hE rfl) ?_
    refine si_ifnonnull (pc := 73) hE dX0_node_73 (by decide) h80 ?_
    refine si_iconst (pc := 76) hE dX0_node_76 (by decide) ?_
    exact si_goto (pc := 77) hE dX0_node_77 (by decide) h88
  have h124 : E (bX0_node_124 g.2.1 R) 124 := by
    unfold bX0_node_124
    exact si_ireturn (pc := 124) hE dX0_node_124
  have h123 : E (bX0_node_123 g.2.1 R) 123 := by
    unfold bX0_node_123
    refine si_iconst (pc := 123) hE dX0_node_123 (by decide) ?_
    exact h124
  have h89 : E (bX0_node_89 g.2.1 R) 89 := by
    unfold bX0_node_89
    refine si_iload_n (pc := 89) hE dX0_node_89 rfl ?_
    refine si_iconst (pc := 90) hE dX0_node_90 (by decide) ?_
    refine si_isub (pc := 91) hE dX0_node_91 ?_
    refine si_aload (pc := 92) hE dX0_node_92 ?_
    refine si_gR (pc := 94) hE dX0_node_94 (Or.inl q762) zfo_34 ?_
    refine si_hv (pc := 97) (n := 0) hE dX0_node_97 ⟨cal_V (recvO cls18) (eJ2_size g) (Or.inl ⟨rfl, rfl⟩) q501 q139 q1109 q499 q500 ⟨by decide +kernel, by decide +kernel⟩ nJ2_size (by decide) (by decide), trivial⟩ (si_out hE rfl) ?_
    refine si_icmp_ge (pc := 100) hE dX0_node_100 (by decide) h123 ?_
    refine si_aload (pc := 103) hE dX0_node_103 ?_
    refine si_gR (pc := 105) hE dX0_node_105 (Or.inl q762) zfo_34 ?_
    refine si_iload_n (pc := 108) hE dX0_node_108 rfl ?_
    refine si_iconst (pc := 109) hE dX0_node_109 (by decide) ?_
    refine si_isub (pc := 110) hE dX0_node_110 ?_
    refine si_hv (pc := 111) (n := 1) hE dX0_node_111 ⟨cal_V (recvO cls18) (eJ2_get g) (Or.inl ⟨rfl, rfl⟩) q980 q139 q1267 q978 q979 ⟨by decide +kernel, by decide +kernel⟩ nJ2_get (by decide) (by decide), trivial⟩ (si_out hE rfl) ?_
    refine si_cast (pc := 114) hE dX0_node_114 q1268 zco_2 ?_
    refine si_gI (pc := 117) hE dX0_node_117 (Or.inr ⟨_, q753⟩) zfo_55 ?_
    exact si_goto (pc := 120) hE dX0_node_120 (by decide) h124
  have h125 : E (bX0_node_125 g.2.1 R) 125 := by
    unfold bX0_node_125
    refine si_aload (pc := 125) hE dX0_node_125 ?_
    refine si_gR (pc := 127) hE dX0_node_127 (Or.inl q766) zfo_35 ?_
    refine si_hv (pc := 130) (n := 0) hE dX0_node_130 ⟨cal_V (recvO cls18) (eJ2_size g) (Or.inl ⟨rfl, rfl⟩) q501 q139 q1109 q499 q500 ⟨by decide +kernel, by decide +kernel⟩ nJ2_size (by decide) (by decide), trivial⟩ (si_out hE rfl) ?_
    exact si_ireturn (pc := 133) hE dX0_node_133
  have h134 : E (bX0_node_134 g.2.1 R) 134 := by
    unfold bX0_node_134
    refine si_iconst (pc := 134) hE dX0_node_134 (by decide) ?_
    exact si_ireturn (pc := 135) hE dX0_node_135
  have h15 : E (bX0_node_15 g.2.1 R) 15 := by
    unfold bX0_node_15
    refine si_iload_n (pc := 15) hE dX0_node_15 rfl ?_
    exact si_tsw (pc := 16) hE dX0_node_16 (by decide) (td := 134) (by decide) h134 ⟨⟨56, by decide, by decide, h56⟩, ⟨⟨62, by decide, by decide, h62⟩, ⟨⟨68, by decide, by decide, h68⟩, ⟨⟨89, by decide, by decide, h89⟩, ⟨⟨89, by decide, by decide, h89⟩, ⟨⟨125, by decide, by decide, h125⟩, trivial⟩⟩⟩⟩⟩⟩
  have h0 : E (bX0_node_0 g.2.1 R) 0 := by
    unfold bX0_node_0
    refine si_aload_n (pc := 0) hE dX0_node_0 rfl ?_
    refine si_iload_n (pc := 1) hE dX0_node_1 rfl ?_
    refine si_iload_n (pc := 2) hE dX0_node_2 rfl ?_
    refine si_hv (pc := 3) (n := 2) hE dX0_node_3 ⟨cal_V (recvO cls0) (eX0_nodeOf g) (Or.inl ⟨rfl, rfl⟩) q1266 q132 q1263 q1265 qs33 ⟨by decide +kernel, by decide +kernel⟩ nX0_nodeOf (by decide) (by decide), trivial⟩ (si_out hE rfl) ?_
    refine si_astore (pc := 6) hE dX0_node_6 (by decide) ?_
    refine si_aload (pc := 8) hE dX0_node_8 ?_
    refine si_ifnonnull (pc := 10) hE dX0_node_10 (by decide) h15 ?_
    refine si_iconst (pc := 13) hE dX0_node_13 (by decide) ?_
    exact si_ireturn (pc := 14) hE dX0_node_14
  exact h0
def bX0_sumOf_48 (κ : Nat → Option Nat) (R : Ret AH) : Cont AH :=
    o_areturn R
def bX0_sumOf_29 (κ : Nat → Option Nat) (R : Ret AH) : Cont AH :=
    o_null <|
    (bX0_sumOf_48 κ R)
def bX0_sumOf_33 (κ : Nat → Option Nat) (R : Ret AH) : Cont AH :=
    o_al 0 <|
    o_il 1 <|
    o_call 2 (hvc [(1, pX0_of κ)]) (fun _ a σ => R (.inr a) σ) <|
    o_gR 2 [4] <|
    o_il 2 <|
    o_call 2 (hvc [(19, pJ2_get κ)]) (fun _ a σ => R (.inr a) σ) <|
    o_cast [15, 16] <|
    (bX0_sumOf_48 κ R)
def bX0_sumOf_0 (κ : Nat → Option Nat) (R : Ret AH) : Cont AH :=
    o_al 0 <|
    o_il 1 <|
    o_call 2 (hvc [(1, pX0_of κ)]) (fun _ a σ => R (.inr a) σ) <|
    o_ifnull (bX0_sumOf_29 κ R) <|
    o_il 2 <|
    o_ic 0 <|
    o_al 0 <|
    o_il 1 <|
    o_call 2 (hvc [(1, pX0_of κ)]) (fun _ a σ => R (.inr a) σ) <|
    o_gR 2 [4] <|
    o_call 1 (hvc [(19, pJ2_size κ)]) (fun _ a σ => R (.inr a) σ) <|
    o_ic 1 <|
    o_isub <|
    o_call 3 (pX0_in κ) (fun _ a σ => R (.inr a) σ) <|
    o_if_ne (bX0_sumOf_33 κ R) <|
    (bX0_sumOf_29 κ R)
def pX0_sumOf (κ : Nat → Option Nat) : PT AH := fun as σ Q => (lg_sl as).length ≤ 3 ∧ bX0_sumOf_0 κ Q (entP 3 as) [] σ
theorem nX0_sumOf : parN yX0_sumOf 2 := by unfold parN; decide +kernel
set_option maxHeartbeats 4000000 in
theorem eX0_sumOf (g : GC) : CT (wC g) yX0_sumOf (Cond.code yX0_sumOf cX0_sumOf 3 (some (.object "LateAndEarly$Sum"))) 3 64 (pX0_sumOf g.2.1) := by
  refine CT.of (wC_ok g) (cc := cX0_sumOf) (nL := 3) (ret := (some (.object "LateAndEarly$Sum"))) (ht := []) (by decide +kernel) (Or.inl ⟨rfl, rfl⟩) (B := bX0_sumOf_0 g.2.1) (fun R E X hE => ?_)
  have h48 : E (bX0_sumOf_48 g.2.1 R) 48 := by
    unfold bX0_sumOf_48
    exact si_areturn (pc := 48) hE (Or.inl ⟨_, rfl⟩) dX0_sumOf_48
  have h29 : E (bX0_sumOf_29 g.2.1 R) 29 := by
    unfold bX0_sumOf_29
    refine si_null (pc := 29) hE dX0_sumOf_29 ?_
    exact si_goto (pc := 30) hE dX0_sumOf_30 (by decide) h48
  have h33 : E (bX0_sumOf_33 g.2.1 R) 33 := by
    unfold bX0_sumOf_33
    refine si_aload_n (pc := 33) hE dX0_sumOf_33 rfl ?_
    refine si_iload_n (pc := 34) hE dX0_sumOf_34 rfl ?_
    refine si_hv (pc := 35) (n := 1) hE dX0_sumOf_35 ⟨cal_V (recvO cls0) (eX0_of g) (Or.inl ⟨rfl, rfl⟩) q1258 q132 q1255 q1257 qs32 ⟨by decide +kernel, by decide +kernel⟩ nX0_of (by decide) (by decide), trivial⟩ (si_out hE rfl) ?_
    refine si_gR (pc := 38) hE dX0_sumOf_38 (Or.inr ⟨_, q299⟩) zfo_19 ?_
    refine si_iload_n (pc := 41) hE dX0_sumOf_41 rfl ?_
    refine si_hv (pc := 42) (n := 1) hE dX0_sumOf_42 ⟨cal_V (recvO cls18) (eJ2_get g) (Or.inl ⟨rfl, rfl⟩) q980 q139 q1267 q978 q979 ⟨by decide +kernel, by decide +kernel⟩ nJ2_get (by decide) (by decide), trivial⟩ (si_out hE rfl) ?_
    refine si_cast (pc := 45) hE dX0_sumOf_45 q1305 zco_5 ?_
    exact h48
  have h0 : E (bX0_sumOf_0 g.2.1 R) 0 := by
    unfold bX0_sumOf_0
    refine si_aload_n (pc := 0) hE dX0_sumOf_0 rfl ?_
    refine si_iload_n (pc := 1) hE dX0_sumOf_1 rfl ?_
    refine si_hv (pc := 2) (n := 1) hE dX0_sumOf_2 ⟨cal_V (recvO cls0) (eX0_of g) (Or.inl ⟨rfl, rfl⟩) q1258 q132 q1255 q1257 qs32 ⟨by decide +kernel, by decide +kernel⟩ nX0_of (by decide) (by decide), trivial⟩ (si_out hE rfl) ?_
    refine si_ifnull (pc := 5) hE dX0_sumOf_5 (by decide) h29 ?_
    refine si_iload_n (pc := 8) hE dX0_sumOf_8 rfl ?_
    refine si_iconst (pc := 9) hE dX0_sumOf_9 (by decide) ?_
    refine si_aload_n (pc := 10) hE dX0_sumOf_10 rfl ?_
    refine si_iload_n (pc := 11) hE dX0_sumOf_11 rfl ?_
    refine si_hv (pc := 12) (n := 1) hE dX0_sumOf_12 ⟨cal_V (recvO cls0) (eX0_of g) (Or.inl ⟨rfl, rfl⟩) q1258 q132 q1255 q1257 qs32 ⟨by decide +kernel, by decide +kernel⟩ nX0_of (by decide) (by decide), trivial⟩ (si_out hE rfl) ?_
    refine si_gR (pc := 15) hE dX0_sumOf_15 (Or.inr ⟨_, q299⟩) zfo_19 ?_
    refine si_hv (pc := 18) (n := 0) hE dX0_sumOf_18 ⟨cal_V (recvO cls18) (eJ2_size g) (Or.inl ⟨rfl, rfl⟩) q501 q139 q1109 q499 q500 ⟨by decide +kernel, by decide +kernel⟩ nJ2_size (by decide) (by decide), trivial⟩ (si_out hE rfl) ?_
    refine si_iconst (pc := 21) hE dX0_sumOf_21 (by decide) ?_
    refine si_isub (pc := 22) hE dX0_sumOf_22 ?_
    refine si_hs (pc := 23) (n := 3) hE dX0_sumOf_23 (cal_S (eX0_in g) (Or.inl ⟨rfl, rfl⟩) q250 q132 q248 q249 ⟨by decide +kernel, by decide +kernel⟩ nX0_in (by decide) (by decide)) (si_out hE rfl) ?_
    refine si_if_ne (pc := 26) hE dX0_sumOf_26 (by decide) h33 ?_
    exact h29
  exact h0
def bX19_sign_0 (κ : Nat → Option Nat) (R : Ret AH) : Cont AH :=
    o_al 0 <|
    o_gI 1 [15] <|
    o_ireturn R
def pX19_sign (κ : Nat → Option Nat) : PT AH := fun as σ Q => (lg_sl as).length ≤ 1 ∧ bX19_sign_0 κ Q (entP 1 as) [] σ
theorem nX19_sign : parN yX19_sign 0 := by unfold parN; decide +kernel
set_option maxHeartbeats 4000000 in
theorem eX19_sign (g : GC) : CT (wC g) yX19_sign (Cond.code yX19_sign cX19_sign 1 (some .int)) 0 0 (pX19_sign g.2.1) := by
  refine CT.of (wC_ok g) (cc := cX19_sign) (nL := 1) (ret := (some .int)) (ht := []) (by decide +kernel) (Or.inl ⟨rfl, rfl⟩) (B := bX19_sign_0 g.2.1) (fun R E X hE => ?_)
  have h0 : E (bX19_sign_0 g.2.1 R) 0 := by
    unfold bX19_sign_0
    refine si_aload_n (pc := 0) hE dX19_sign_0 rfl ?_
    refine si_gI (pc := 1) hE dX19_sign_1 (Or.inl q961) zfo_51 ?_
    exact si_ireturn (pc := 4) hE dX19_sign_4
  exact h0
def bX17_sign_0 (κ : Nat → Option Nat) (R : Ret AH) : Cont AH :=
    o_ic 114 <|
    o_ireturn R
def pX17_sign (κ : Nat → Option Nat) : PT AH := fun as σ Q => (lg_sl as).length ≤ 1 ∧ bX17_sign_0 κ Q (entP 1 as) [] σ
theorem nX17_sign : parN yX17_sign 0 := by unfold parN; decide +kernel
set_option maxHeartbeats 4000000 in
theorem eX17_sign (g : GC) : CT (wC g) yX17_sign (Cond.code yX17_sign cX17_sign 1 (some .int)) 0 0 (pX17_sign g.2.1) := by
  refine CT.of (wC_ok g) (cc := cX17_sign) (nL := 1) (ret := (some .int)) (ht := []) (by decide +kernel) (Or.inl ⟨rfl, rfl⟩) (B := bX17_sign_0 g.2.1) (fun R E X hE => ?_)
  have h0 : E (bX17_sign_0 g.2.1 R) 0 := by
    unfold bX17_sign_0
    refine si_bipush (pc := 0) hE dX17_sign_0 (by decide) ?_
    exact si_ireturn (pc := 2) hE dX17_sign_2
  exact h0
def bX8_told_39 (κ : Nat → Option Nat) (R : Ret AH) : Cont AH :=
    o_ic (-999) <|
    o_ic 999 <|
    o_al 0 <|
    o_gI 1 [17] <|
    o_mmin <|
    o_mmax <|
    o_ireturn R
def bX8_told_38 (κ : Nat → Option Nat) (R : Ret AH) : Cont AH :=
    o_ireturn R
def bX8_told_27 (κ : Nat → Option Nat) (R : Ret AH) : Cont AH :=
    o_ic 2000 <|
    o_al 0 <|
    o_gI 1 [17] <|
    o_iadd <|
    o_ic 16 <|
    o_isub <|
    (bX8_told_38 κ R)
def bX8_told_0 (κ : Nat → Option Nat) (R : Ret AH) : Cont AH :=
    o_al 0 <|
    o_gI 0 [17] <|
    o_if_eq (bX8_told_39 κ R) <|
    o_al 0 <|
    o_gI 1 [17] <|
    o_ic 16 <|
    o_icmp_ge (bX8_told_27 κ R) <|
    o_ic 1000 <|
    o_al 0 <|
    o_gI 1 [17] <|
    o_iadd <|
    (bX8_told_38 κ R)
def pX8_told (κ : Nat → Option Nat) : PT AH := fun as σ Q => (lg_sl as).length ≤ 1 ∧ bX8_told_0 κ Q (entP 1 as) [] σ
theorem nX8_told : parN yX8_told 0 := by unfold parN; decide +kernel
set_option maxHeartbeats 4000000 in
theorem eX8_told (g : GC) : CT (wC g) yX8_told (Cond.code yX8_told cX8_told 1 (some .int)) 1 21 (pX8_told g.2.1) := by
  refine CT.of (wC_ok g) (cc := cX8_told) (nL := 1) (ret := (some .int)) (ht := []) (by decide +kernel) (Or.inl ⟨rfl, rfl⟩) (B := bX8_told_0 g.2.1) (fun R E X hE => ?_)
  have h39 : E (bX8_told_39 g.2.1 R) 39 := by
    unfold bX8_told_39
    refine si_sipush (pc := 39) hE dX8_told_39 (by decide) ?_
    refine si_sipush (pc := 42) hE dX8_told_42 (by decide) ?_
    refine si_aload_n (pc := 45) hE dX8_told_45 rfl ?_
    refine si_gI (pc := 46) hE dX8_told_46 (Or.inl q728) zfo_33 ?_
    refine si_mmin (pc := 49) hE dX8_told_49 q1325 q440 q142 q441 (by decide) (by decide) ?_
    refine si_mmax (pc := 52) hE dX8_told_52 q1326 q437 q142 q438 (by decide) (by decide) ?_
    exact si_ireturn (pc := 55) hE dX8_told_55
  have h38 : E (bX8_told_38 g.2.1 R) 38 := by
    unfold bX8_told_38
    exact si_ireturn (pc := 38) hE dX8_told_38
  have h27 : E (bX8_told_27 g.2.1 R) 27 := by
    unfold bX8_told_27
    refine si_sipush (pc := 27) hE dX8_told_27 (by decide) ?_
    refine si_aload_n (pc := 30) hE dX8_told_30 rfl ?_
    refine si_gI (pc := 31) hE dX8_told_31 (Or.inl q728) zfo_33 ?_
    refine si_iadd (pc := 34) hE dX8_told_34 ?_
    refine si_bipush (pc := 35) hE dX8_told_35 (by decide) ?_
    refine si_isub (pc := 37) hE dX8_told_37 ?_
    exact h38
  have h0 : E (bX8_told_0 g.2.1 R) 0 := by
    unfold bX8_told_0
    refine si_aload_n (pc := 0) hE dX8_told_0 rfl ?_
    refine si_gI (pc := 1) hE dX8_told_1 (Or.inl q724) zfo_32 ?_
    refine si_if_eq (pc := 4) hE dX8_told_4 (by decide) h39 ?_
    refine si_aload_n (pc := 7) hE dX8_told_7 rfl ?_
    refine si_gI (pc := 8) hE dX8_told_8 (Or.inl q728) zfo_33 ?_
    refine si_bipush (pc := 11) hE dX8_told_11 (by decide) ?_
    refine si_icmp_ge (pc := 13) hE dX8_told_13 (by decide) h27 ?_
    refine si_sipush (pc := 16) hE dX8_told_16 (by decide) ?_
    refine si_aload_n (pc := 19) hE dX8_told_19 rfl ?_
    refine si_gI (pc := 20) hE dX8_told_20 (Or.inl q728) zfo_33 ?_
    refine si_iadd (pc := 23) hE dX8_told_23 ?_
    exact si_goto (pc := 24) hE dX8_told_24 (by decide) h38
  exact h0
def bX19_toldFirst_0 (κ : Nat → Option Nat) (R : Ret AH) : Cont AH :=
    o_al 0 <|
    o_gR 2 [15] <|
    o_call 1 (hvc [(17, pX8_told κ)]) (fun _ a σ => R (.inr a) σ) <|
    o_ireturn R
def pX19_toldFirst (κ : Nat → Option Nat) : PT AH := fun as σ Q => (lg_sl as).length ≤ 1 ∧ bX19_toldFirst_0 κ Q (entP 1 as) [] σ
theorem nX19_toldFirst : parN yX19_toldFirst 0 := by unfold parN; decide +kernel
set_option maxHeartbeats 4000000 in
theorem eX19_toldFirst (g : GC) : CT (wC g) yX19_toldFirst (Cond.code yX19_toldFirst cX19_toldFirst 1 (some .int)) 2 41 (pX19_toldFirst g.2.1) := by
  refine CT.of (wC_ok g) (cc := cX19_toldFirst) (nL := 1) (ret := (some .int)) (ht := []) (by decide +kernel) (Or.inl ⟨rfl, rfl⟩) (B := bX19_toldFirst_0 g.2.1) (fun R E X hE => ?_)
  have h0 : E (bX19_toldFirst_0 g.2.1 R) 0 := by
    unfold bX19_toldFirst_0
    refine si_aload_n (pc := 0) hE dX19_toldFirst_0 rfl ?_
    refine si_gR (pc := 1) hE dX19_toldFirst_1 (Or.inl q962) zfo_52 ?_
    refine si_hv (pc := 4) (n := 0) hE dX19_toldFirst_4 ⟨cal_V (recvO cls16) (eX8_told g) (Or.inl ⟨rfl, rfl⟩) q1324 q158 q1321 q1322 q1323 ⟨by decide +kernel, by decide +kernel⟩ nX8_told (by decide) (by decide), trivial⟩ (si_out hE rfl) ?_
    exact si_ireturn (pc := 7) hE dX19_toldFirst_7
  exact h0
def bX17_toldFirst_0 (κ : Nat → Option Nat) (R : Ret AH) : Cont AH :=
    o_al 0 <|
    o_gI 1 [16] <|
    o_ireturn R
def pX17_toldFirst (κ : Nat → Option Nat) : PT AH := fun as σ Q => (lg_sl as).length ≤ 1 ∧ bX17_toldFirst_0 κ Q (entP 1 as) [] σ
theorem nX17_toldFirst : parN yX17_toldFirst 0 := by unfold parN; decide +kernel
set_option maxHeartbeats 4000000 in
theorem eX17_toldFirst (g : GC) : CT (wC g) yX17_toldFirst (Cond.code yX17_toldFirst cX17_toldFirst 1 (some .int)) 0 0 (pX17_toldFirst g.2.1) := by
  refine CT.of (wC_ok g) (cc := cX17_toldFirst) (nL := 1) (ret := (some .int)) (ht := []) (by decide +kernel) (Or.inl ⟨rfl, rfl⟩) (B := bX17_toldFirst_0 g.2.1) (fun R E X hE => ?_)
  have h0 : E (bX17_toldFirst_0 g.2.1 R) 0 := by
    unfold bX17_toldFirst_0
    refine si_aload_n (pc := 0) hE dX17_toldFirst_0 rfl ?_
    refine si_gI (pc := 1) hE dX17_toldFirst_1 (Or.inl q891) zfo_46 ?_
    exact si_ireturn (pc := 4) hE dX17_toldFirst_4
  exact h0
def bX0_sum_52 (κ : Nat → Option Nat) (R : Ret AH) : Cont AH :=
    o_al 4 <|
    o_call 1 (hvc [(15, pX19_sign κ), (16, pX17_sign κ)]) (fun _ a σ => R (.inr a) σ) <|
    o_ireturn R
def bX0_sum_58 (κ : Nat → Option Nat) (R : Ret AH) : Cont AH :=
    o_al 4 <|
    o_call 1 (hvc [(15, pX19_toldFirst κ), (16, pX17_toldFirst κ)]) (fun _ a σ => R (.inr a) σ) <|
    o_ireturn R
def bX0_sum_64 (κ : Nat → Option Nat) (R : Ret AH) : Cont AH :=
    o_al 4 <|
    o_call 1 (hvc [(15, pX19_second κ), (16, pX17_second κ)]) (fun _ a σ => R (.inr a) σ) <|
    o_call 1 (hvc [(17, pX8_told κ)]) (fun _ a σ => R (.inr a) σ) <|
    o_ireturn R
def bX0_sum_86 (κ : Nat → Option Nat) (R : Ret AH) : Cont AH :=
    o_ireturn R
def bX0_sum_85 (κ : Nat → Option Nat) (R : Ret AH) : Cont AH :=
    o_ic 0 <|
    (bX0_sum_86 κ R)
def bX0_sum_73 (κ : Nat → Option Nat) (R : Ret AH) : Cont AH :=
    o_al 4 <|
    o_call 1 (hvc [(15, pX19_isBold κ), (16, pX17_isBold κ)]) (fun _ a σ => R (.inr a) σ) <|
    o_if_eq (bX0_sum_85 κ R) <|
    o_ic 1 <|
    (bX0_sum_86 κ R)
def bX0_sum_146 (κ : Nat → Option Nat) (R : Ret AH) : Cont AH :=
    o_il 5 <|
    o_ireturn R
def bX0_sum_140 (κ : Nat → Option Nat) (R : Ret AH) (J93 : Cont AH) : Cont AH :=
    o_iinc 6 1 <|
    (o_kill [2, 3, 7] J93)
def bX0_sum_93 (κ : Nat → Option Nat) (R : Ret AH) : Cont AH :=
    fixC fun J93 =>
    o_il 6 <|
    o_al 0 <|
    o_il 1 <|
    o_call 2 (hvc [(1, pX0_of κ)]) (fun _ a σ => R (.inr a) σ) <|
    o_gR 1 [4] <|
    o_call 1 (hvc [(19, pJ2_size κ)]) (fun _ a σ => R (.inr a) σ) <|
    o_icmp_ge (bX0_sum_146 κ R) <|
    o_al 0 <|
    o_il 1 <|
    o_call 2 (hvc [(1, pX0_of κ)]) (fun _ a σ => R (.inr a) σ) <|
    o_gR 1 [4] <|
    o_il 6 <|
    o_call 2 (hvc [(19, pJ2_get κ)]) (fun _ a σ => R (.inr a) σ) <|
    o_cast [7, 8, 9, 10, 11, 12, 13, 14] <|
    o_as 7 <|
    o_al 7 <|
    o_call 1 (hvc [(7, pX15_works κ), (8, pX6_works κ), (9, pX6_works κ), (10, pX6_works κ), (11, pX6_works κ), (12, pX6_works κ), (13, pX6_works κ), (14, pX6_works κ)]) (fun _ a σ => R (.inr a) σ) <|
    o_al 4 <|
    o_acmp_ne (bX0_sum_140 κ R J93) <|
    o_iinc 5 1 <|
    (bX0_sum_140 κ R J93)
def bX0_sum_87 (κ : Nat → Option Nat) (R : Ret AH) : Cont AH :=
    o_ic 0 <|
    o_is 5 <|
    o_ic 0 <|
    o_is 6 <|
    (o_kill [2, 3, 7] (bX0_sum_93 κ R))
def bX0_sum_149 (κ : Nat → Option Nat) (R : Ret AH) : Cont AH :=
    o_ic (-1) <|
    o_ireturn R
def bX0_sum_15 (κ : Nat → Option Nat) (R : Ret AH) : Cont AH :=
    o_il 3 <|
    o_sw [(0, (bX0_sum_52 κ R)), (1, (bX0_sum_58 κ R)), (2, (bX0_sum_64 κ R)), (3, (bX0_sum_73 κ R)), (4, (bX0_sum_87 κ R))] (bX0_sum_149 κ R)
def bX0_sum_0 (κ : Nat → Option Nat) (R : Ret AH) : Cont AH :=
    o_al 0 <|
    o_il 1 <|
    o_il 2 <|
    o_call 3 (hvc [(1, pX0_sumOf κ)]) (fun _ a σ => R (.inr a) σ) <|
    o_as 4 <|
    o_al 4 <|
    o_ifnonnull (bX0_sum_15 κ R) <|
    o_ic (-1) <|
    o_ireturn R
def pX0_sum (κ : Nat → Option Nat) : PT AH := fun as σ Q => (lg_sl as).length ≤ 8 ∧ bX0_sum_0 κ Q (entP 8 as) [] σ
theorem nX0_sum : parN yX0_sum 3 := by unfold parN; decide +kernel
set_option maxHeartbeats 4000000 in
theorem eX0_sum (g : GC) : CT (wC g) yX0_sum (Cond.code yX0_sum cX0_sum 8 (some .int)) 4 86 (pX0_sum g.2.1) := by
  refine CT.of (wC_ok g) (cc := cX0_sum) (nL := 8) (ret := (some .int)) (ht := []) (by decide +kernel) (Or.inl ⟨rfl, rfl⟩) (B := bX0_sum_0 g.2.1) (fun R E X hE => ?_)
  have h52 : E (bX0_sum_52 g.2.1 R) 52 := by
    unfold bX0_sum_52
    refine si_aload (pc := 52) hE dX0_sum_52 ?_
    refine si_hv (pc := 54) (n := 0) hE dX0_sum_54 ⟨cal_U (x := xm_13) (recvO cls14) (eX19_sign g) (Or.inl ⟨rfl, rfl⟩) q1311 q169 q1306 q1308 (Or.inl q1307) ⟨by decide +kernel, by decide +kernel⟩ q1309 q1310 xp_13 (by decide) (by decide), ⟨cal_U (x := xm_13) (recvO cls15) (eX17_sign g) (Or.inl ⟨rfl, rfl⟩) q1314 q167 q1306 q1308 (Or.inl q1307) ⟨by decide +kernel, by decide +kernel⟩ q1312 q1313 xp_13 (by decide) (by decide), trivial⟩⟩ (si_out hE rfl) ?_
    exact si_ireturn (pc := 57) hE dX0_sum_57
  have h58 : E (bX0_sum_58 g.2.1 R) 58 := by
    unfold bX0_sum_58
    refine si_aload (pc := 58) hE dX0_sum_58 ?_
    refine si_hv (pc := 60) (n := 0) hE dX0_sum_60 ⟨cal_U (x := xm_14) (recvO cls14) (eX19_toldFirst g) (Or.inl ⟨rfl, rfl⟩) q1320 q169 q1315 q1317 (Or.inl q1316) ⟨by decide +kernel, by decide +kernel⟩ q1318 q1319 xp_14 (by decide) (by decide), ⟨cal_U (x := xm_14) (recvO cls15) (eX17_toldFirst g) (Or.inl ⟨rfl, rfl⟩) q1329 q167 q1315 q1317 (Or.inl q1316) ⟨by decide +kernel, by decide +kernel⟩ q1327 q1328 xp_14 (by decide) (by decide), trivial⟩⟩ (si_out hE rfl) ?_
    exact si_ireturn (pc := 63) hE dX0_sum_63
  have h64 : E (bX0_sum_64 g.2.1 R) 64 := by
    unfold bX0_sum_64
    refine si_aload (pc := 64) hE dX0_sum_64 ?_
    refine si_hv (pc := 66) (n := 0) hE dX0_sum_66 ⟨cal_U (x := xm_5) (recvO cls14) (eX19_second g) (Or.inl ⟨rfl, rfl⟩) q1164 q169 q1330 q1161 (Or.inl q1160) ⟨by decide +kernel, by decide +kernel⟩ q1162 q1163 xp_5 (by decide) (by decide), ⟨cal_U (x := xm_5) (recvO cls15) (eX17_second g) (Or.inl ⟨rfl, rfl⟩) q1167 q167 q1330 q1161 (Or.inl q1160) ⟨by decide +kernel, by decide +kernel⟩ q1165 q1166 xp_5 (by decide) (by decide), trivial⟩⟩ (si_out hE rfl) ?_
    refine si_hv (pc := 69) (n := 0) hE dX0_sum_69 ⟨cal_V (recvO cls16) (eX8_told g) (Or.inl ⟨rfl, rfl⟩) q1324 q158 q1331 q1322 q1323 ⟨by decide +kernel, by decide +kernel⟩ nX8_told (by decide) (by decide), trivial⟩ (si_out hE rfl) ?_
    exact si_ireturn (pc := 72) hE dX0_sum_72
  have h86 : E (bX0_sum_86 g.2.1 R) 86 := by
    unfold bX0_sum_86
    exact si_ireturn (pc := 86) hE dX0_sum_86
  have h85 : E (bX0_sum_85 g.2.1 R) 85 := by
    unfold bX0_sum_85
    refine si_iconst (pc := 85) hE dX0_sum_85 (by decide) ?_
    exact h86
  have h73 : E (bX0_sum_73 g.2.1 R) 73 := by
    unfold bX0_sum_73
    refine si_aload (pc := 73) hE dX0_sum_73 ?_
    refine si_hv (pc := 75) (n := 0) hE dX0_sum_75 ⟨cal_U (x := xm_10) (recvO cls14) (eX19_isBold g) (Or.inl ⟨rfl, rfl⟩) q1224 q169 q1332 q1221 (Or.inr ⟨_, _, _, q1220, q1228⟩) ⟨by decide +kernel, by decide +kernel⟩ q1222 q1223 xp_10 (by decide) (by decide), ⟨cal_U (x := xm_10) (recvO cls15) (eX17_isBold g) (Or.inl ⟨rfl, rfl⟩) q1227 q167 q1332 q1221 (Or.inr ⟨_, _, _, q1220, q1228⟩) ⟨by decide +kernel, by decide +kernel⟩ q1225 q1226 xp_10 (by decide) (by decide), trivial⟩⟩ (si_out hE rfl) ?_
    refine si_if_eq (pc := 78) hE dX0_sum_78 (by decide) h85 ?_
    refine si_iconst (pc := 81) hE dX0_sum_81 (by decide) ?_
    exact si_goto (pc := 82) hE dX0_sum_82 (by decide) h86
  have h146 : E (bX0_sum_146 g.2.1 R) 146 := by
    unfold bX0_sum_146
    refine si_iload (pc := 146) hE dX0_sum_146 ?_
    exact si_ireturn (pc := 148) hE dX0_sum_148
  have h140 : ∀ (J93 : Cont AH) (hJ93 : E J93 93), E (bX0_sum_140 g.2.1 R J93) 140 := by
    intro J93 hJ93
    unfold bX0_sum_140
    refine si_iinc (pc := 140) hE dX0_sum_140 (by decide) (by decide) ?_
    exact si_goto (pc := 143) hE dX0_sum_143 (by decide) (si_kill hE hJ93)
  have h93 : E (bX0_sum_93 g.2.1 R) 93 := by
    unfold bX0_sum_93
    refine si_fix hE (fun J93 hJ93 => ?_)
    refine si_iload (pc := 93) hE dX0_sum_93 ?_
    refine si_aload_n (pc := 95) hE dX0_sum_95 rfl ?_
    refine si_iload_n (pc := 96) hE dX0_sum_96 rfl ?_
    refine si_hv (pc := 97) (n := 1) hE dX0_sum_97 ⟨cal_V (recvO cls0) (eX0_of g) (Or.inl ⟨rfl, rfl⟩) q1258 q132 q1255 q1257 qs32 ⟨by decide +kernel, by decide +kernel⟩ nX0_of (by decide) (by decide), trivial⟩ (si_out hE rfl) ?_
    refine si_gR (pc := 100) hE dX0_sum_100 (Or.inr ⟨_, q295⟩) zfo_18 ?_
    refine si_hv (pc := 103) (n := 0) hE dX0_sum_103 ⟨cal_V (recvO cls18) (eJ2_size g) (Or.inl ⟨rfl, rfl⟩) q501 q139 q1109 q499 q500 ⟨by decide +kernel, by decide +kernel⟩ nJ2_size (by decide) (by decide), trivial⟩ (si_out hE rfl) ?_
    refine si_icmp_ge (pc := 106) hE dX0_sum_106 (by decide) h146 ?_
    refine si_aload_n (pc := 109) hE dX0_sum_109 rfl ?_
    refine si_iload_n (pc := 110) hE dX0_sum_110 rfl ?_
    refine si_hv (pc := 111) (n := 1) hE dX0_sum_111 ⟨cal_V (recvO cls0) (eX0_of g) (Or.inl ⟨rfl, rfl⟩) q1258 q132 q1255 q1257 qs32 ⟨by decide +kernel, by decide +kernel⟩ nX0_of (by decide) (by decide), trivial⟩ (si_out hE rfl) ?_
    refine si_gR (pc := 114) hE dX0_sum_114 (Or.inr ⟨_, q295⟩) zfo_18 ?_
    refine si_iload (pc := 117) hE dX0_sum_117 ?_
    refine si_hv (pc := 119) (n := 1) hE dX0_sum_119 ⟨cal_V (recvO cls18) (eJ2_get g) (Or.inl ⟨rfl, rfl⟩) q980 q139 q1267 q978 q979 ⟨by decide +kernel, by decide +kernel⟩ nJ2_get (by decide) (by decide), trivial⟩ (si_out hE rfl) ?_
    refine si_cast (pc := 122) hE dX0_sum_122 q1268 zco_2 ?_
    refine si_astore (pc := 125) hE dX0_sum_125 (by decide) ?_
    refine si_aload (pc := 127) hE dX0_sum_127 ?_
    refine si_hv (pc := 129) (n := 0) hE dX0_sum_129 ⟨cal_U (x := xm_4) (recvO cls6) (eX15_works g) (Or.inl ⟨rfl, rfl⟩) q1083 q165 q1296 q1075 (Or.inr ⟨_, _, _, q1074, q1086⟩) ⟨by decide +kernel, by decide +kernel⟩ q1081 q1082 xp_4 (by decide) (by decide), ⟨cal_V (recvO cls7) (eX6_works g) (Or.inl ⟨rfl, rfl⟩) q1086 q156 q1296 q1074 q1080 ⟨by decide +kernel, by decide +kernel⟩ nX6_works (by decide) (by decide), ⟨cal_V (recvO cls8) (eX6_works g) (Or.inl ⟨rfl, rfl⟩) q1086 q156 q1296 q1074 q1085 ⟨by decide +kernel, by decide +kernel⟩ nX6_works (by decide) (by decide), ⟨cal_V (recvO cls9) (eX6_works g) (Or.inl ⟨rfl, rfl⟩) q1086 q156 q1296 q1074 q1084 ⟨by decide +kernel, by decide +kernel⟩ nX6_works (by decide) (by decide), ⟨cal_V (recvO cls10) (eX6_works g) (Or.inl ⟨rfl, rfl⟩) q1086 q156 q1296 q1074 q1076 ⟨by decide +kernel, by decide +kernel⟩ nX6_works (by decide) (by decide), ⟨cal_V (recvO cls11) (eX6_works g) (Or.inl ⟨rfl, rfl⟩) q1086 q156 q1296 q1074 q1077 ⟨by decide +kernel, by decide +kernel⟩ nX6_works (by decide) (by decide), ⟨cal_V (recvO cls12) (eX6_works g) (Or.inl ⟨rfl, rfl⟩) q1086 q156 q1296 q1074 q1078 ⟨by decide +kernel, by decide +kernel⟩ nX6_works (by decide) (by decide), ⟨cal_V (recvO cls13) (eX6_works g) (Or.inl ⟨rfl, rfl⟩) q1086 q156 q1296 q1074 q1079 ⟨by decide +kernel, by decide +kernel⟩ nX6_works (by decide) (by decide), trivial⟩⟩⟩⟩⟩⟩⟩⟩ (si_out hE rfl) ?_
    refine si_aload (pc := 132) hE dX0_sum_132 ?_
    refine si_acmp_ne (pc := 134) hE dX0_sum_134 (by decide) (h140 J93 hJ93) ?_
    refine si_iinc (pc := 137) hE dX0_sum_137 (by decide) (by decide) ?_
    exact (h140 J93 hJ93)
  have h87 : E (bX0_sum_87 g.2.1 R) 87 := by
    unfold bX0_sum_87
    refine si_iconst (pc := 87) hE dX0_sum_87 (by decide) ?_
    refine si_istore (pc := 88) hE dX0_sum_88 (by decide) ?_
    refine si_iconst (pc := 90) hE dX0_sum_90 (by decide) ?_
    refine si_istore (pc := 91) hE dX0_sum_91 (by decide) ?_
    exact (si_kill hE h93)
  have h149 : E (bX0_sum_149 g.2.1 R) 149 := by
    unfold bX0_sum_149
    refine si_iconst (pc := 149) hE dX0_sum_149 (by decide) ?_
    exact si_ireturn (pc := 150) hE dX0_sum_150
  have h15 : E (bX0_sum_15 g.2.1 R) 15 := by
    unfold bX0_sum_15
    refine si_iload_n (pc := 15) hE dX0_sum_15 rfl ?_
    exact si_tsw (pc := 16) hE dX0_sum_16 (by decide) (td := 149) (by decide) h149 ⟨⟨52, by decide, by decide, h52⟩, ⟨⟨58, by decide, by decide, h58⟩, ⟨⟨64, by decide, by decide, h64⟩, ⟨⟨73, by decide, by decide, h73⟩, ⟨⟨87, by decide, by decide, h87⟩, trivial⟩⟩⟩⟩⟩
  have h0 : E (bX0_sum_0 g.2.1 R) 0 := by
    unfold bX0_sum_0
    refine si_aload_n (pc := 0) hE dX0_sum_0 rfl ?_
    refine si_iload_n (pc := 1) hE dX0_sum_1 rfl ?_
    refine si_iload_n (pc := 2) hE dX0_sum_2 rfl ?_
    refine si_hv (pc := 3) (n := 2) hE dX0_sum_3 ⟨cal_V (recvO cls0) (eX0_sumOf g) (Or.inl ⟨rfl, rfl⟩) q1304 q132 q1301 q1303 qs34 ⟨by decide +kernel, by decide +kernel⟩ nX0_sumOf (by decide) (by decide), trivial⟩ (si_out hE rfl) ?_
    refine si_astore (pc := 6) hE dX0_sum_6 (by decide) ?_
    refine si_aload (pc := 8) hE dX0_sum_8 ?_
    refine si_ifnonnull (pc := 10) hE dX0_sum_10 (by decide) h15 ?_
    refine si_iconst (pc := 13) hE dX0_sum_13 (by decide) ?_
    exact si_ireturn (pc := 14) hE dX0_sum_14
  exact h0
def bX0_at_29 (κ : Nat → Option Nat) (R : Ret AH) : Cont AH :=
    o_ic (-1) <|
    o_ireturn R
def bX0_at_31 (κ : Nat → Option Nat) (R : Ret AH) : Cont AH :=
    o_al 0 <|
    o_il 1 <|
    o_call 2 (hvc [(1, pX0_of κ)]) (fun _ a σ => R (.inr a) σ) <|
    o_as 5 <|
    o_ic 8 <|
    o_newA 107 <|
    o_dup <|
    o_ic 0 <|
    o_al 5 <|
    o_gR 6 [4] <|
    o_sR7 <|
    o_dup <|
    o_ic 1 <|
    o_al 5 <|
    o_gR 7 [4] <|
    o_sR7 <|
    o_dup <|
    o_ic 2 <|
    o_al 5 <|
    o_gR 8 [4] <|
    o_sR7 <|
    o_dup <|
    o_ic 3 <|
    o_al 5 <|
    o_gR 9 [4] <|
    o_sR7 <|
    o_dup <|
    o_ic 4 <|
    o_al 5 <|
    o_gR 10 [4] <|
    o_sR7 <|
    o_dup <|
    o_ic 5 <|
    o_al 5 <|
    o_gR 11 [4] <|
    o_sR7 <|
    o_dup <|
    o_ic 6 <|
    o_al 5 <|
    o_gR 12 [4] <|
    o_sR7 <|
    o_dup <|
    o_ic 7 <|
    o_al 5 <|
    o_gR 13 [4] <|
    o_sR7 <|
    o_as 6 <|
    o_al 6 <|
    o_il 4 <|
    o_aR 107 <|
    o_il 3 <|
    o_aG 101 <|
    o_il 2 <|
    o_lshr <|
    o_lc 1 <|
    o_land <|
    o_l2i <|
    o_ireturn R
def bX0_at_0 (κ : Nat → Option Nat) (R : Ret AH) : Cont AH :=
    o_al 0 <|
    o_il 1 <|
    o_il 2 <|
    o_call 3 (hvc [(1, pX0_sumOf κ)]) (fun _ a σ => R (.inr a) σ) <|
    o_ifnull (bX0_at_29 κ R) <|
    o_al 0 <|
    o_il 1 <|
    o_il 3 <|
    o_call 3 (hvc [(1, pX0_nodeOf κ)]) (fun _ a σ => R (.inr a) σ) <|
    o_ifnull (bX0_at_29 κ R) <|
    o_il 4 <|
    o_ic 0 <|
    o_ic 7 <|
    o_call 3 (pX0_in κ) (fun _ a σ => R (.inr a) σ) <|
    o_if_ne (bX0_at_31 κ R) <|
    (bX0_at_29 κ R)
def pX0_at (κ : Nat → Option Nat) : PT AH := fun as σ Q => (lg_sl as).length ≤ 7 ∧ bX0_at_0 κ Q (entP 7 as) [] σ
theorem nX0_at : parN yX0_at 4 := by unfold parN; decide +kernel
set_option maxHeartbeats 4000000 in
theorem eX0_at (g : GC) : CT (wC g) yX0_at (Cond.code yX0_at cX0_at 7 (some .int)) 4 86 (pX0_at g.2.1) := by
  refine CT.of (wC_ok g) (cc := cX0_at) (nL := 7) (ret := (some .int)) (ht := []) (by decide +kernel) (Or.inl ⟨rfl, rfl⟩) (B := bX0_at_0 g.2.1) (fun R E X hE => ?_)
  have h29 : E (bX0_at_29 g.2.1 R) 29 := by
    unfold bX0_at_29
    refine si_iconst (pc := 29) hE dX0_at_29 (by decide) ?_
    exact si_ireturn (pc := 30) hE dX0_at_30
  have h31 : E (bX0_at_31 g.2.1 R) 31 := by
    unfold bX0_at_31
    refine si_aload_n (pc := 31) hE dX0_at_31 rfl ?_
    refine si_iload_n (pc := 32) hE dX0_at_32 rfl ?_
    refine si_hv (pc := 33) (n := 1) hE dX0_at_33 ⟨cal_V (recvO cls0) (eX0_of g) (Or.inl ⟨rfl, rfl⟩) q1258 q132 q1255 q1257 qs32 ⟨by decide +kernel, by decide +kernel⟩ nX0_of (by decide) (by decide), trivial⟩ (si_out hE rfl) ?_
    refine si_astore (pc := 36) hE dX0_at_36 (by decide) ?_
    refine si_bipush (pc := 38) hE dX0_at_38 (by decide) ?_
    refine si_anewarray7 (pc := 40) hE dX0_at_40 q1337 q1338 ?_
    refine si_dup (pc := 43) hE dX0_at_43 ?_
    refine si_iconst (pc := 44) hE dX0_at_44 (by decide) ?_
    refine si_aload (pc := 45) hE dX0_at_45 ?_
    refine si_gR (pc := 47) hE dX0_at_47 (Or.inr ⟨_, q309⟩) zfo_59 ?_
    refine si_aastore7 (pc := 50) hE dX0_at_50 ?_
    refine si_dup (pc := 51) hE dX0_at_51 ?_
    refine si_iconst (pc := 52) hE dX0_at_52 (by decide) ?_
    refine si_aload (pc := 53) hE dX0_at_53 ?_
    refine si_gR (pc := 55) hE dX0_at_55 (Or.inr ⟨_, q311⟩) zfo_60 ?_
    refine si_aastore7 (pc := 58) hE dX0_at_58 ?_
    refine si_dup (pc := 59) hE dX0_at_59 ?_
    refine si_iconst (pc := 60) hE dX0_at_60 (by decide) ?_
    refine si_aload (pc := 61) hE dX0_at_61 ?_
    refine si_gR (pc := 63) hE dX0_at_63 (Or.inr ⟨_, q313⟩) zfo_58 ?_
    refine si_aastore7 (pc := 66) hE dX0_at_66 ?_
    refine si_dup (pc := 67) hE dX0_at_67 ?_
    refine si_iconst (pc := 68) hE dX0_at_68 (by decide) ?_
    refine si_aload (pc := 69) hE dX0_at_69 ?_
    refine si_gR (pc := 71) hE dX0_at_71 (Or.inr ⟨_, q315⟩) zfo_61 ?_
    refine si_aastore7 (pc := 74) hE dX0_at_74 ?_
    refine si_dup (pc := 75) hE dX0_at_75 ?_
    refine si_iconst (pc := 76) hE dX0_at_76 (by decide) ?_
    refine si_aload (pc := 77) hE dX0_at_77 ?_
    refine si_gR (pc := 79) hE dX0_at_79 (Or.inr ⟨_, q317⟩) zfo_63 ?_
    refine si_aastore7 (pc := 82) hE dX0_at_82 ?_
    refine si_dup (pc := 83) hE dX0_at_83 ?_
    refine si_iconst (pc := 84) hE dX0_at_84 (by decide) ?_
    refine si_aload (pc := 85) hE dX0_at_85 ?_
    refine si_gR (pc := 87) hE dX0_at_87 (Or.inr ⟨_, q319⟩) zfo_62 ?_
    refine si_aastore7 (pc := 90) hE dX0_at_90 ?_
    refine si_dup (pc := 91) hE dX0_at_91 ?_
    refine si_bipush (pc := 92) hE dX0_at_92 (by decide) ?_
    refine si_aload (pc := 94) hE dX0_at_94 ?_
    refine si_gR (pc := 96) hE dX0_at_96 (Or.inr ⟨_, q321⟩) zfo_65 ?_
    refine si_aastore7 (pc := 99) hE dX0_at_99 ?_
    refine si_dup (pc := 100) hE dX0_at_100 ?_
    refine si_bipush (pc := 101) hE dX0_at_101 (by decide) ?_
    refine si_aload (pc := 103) hE dX0_at_103 ?_
    refine si_gR (pc := 105) hE dX0_at_105 (Or.inr ⟨_, q322⟩) zfo_64 ?_
    refine si_aastore7 (pc := 108) hE dX0_at_108 ?_
    refine si_astore (pc := 109) hE dX0_at_109 (by decide) ?_
    refine si_aload (pc := 111) hE dX0_at_111 ?_
    refine si_iload (pc := 113) hE dX0_at_113 ?_
    refine si_aaload7 (pc := 115) hE dX0_at_115 ?_
    refine si_iload_n (pc := 116) hE dX0_at_116 rfl ?_
    refine si_laload (pc := 117) hE dX0_at_117 ?_
    refine si_iload_n (pc := 118) hE dX0_at_118 rfl ?_
    refine si_lshr (pc := 119) hE dX0_at_119 ?_
    refine si_lconst (pc := 120) hE dX0_at_120 (by decide) ?_
    refine si_land (pc := 121) hE dX0_at_121 ?_
    refine si_l2i (pc := 122) hE dX0_at_122 ?_
    exact si_ireturn (pc := 123) hE dX0_at_123
  have h0 : E (bX0_at_0 g.2.1 R) 0 := by
    unfold bX0_at_0
    refine si_aload_n (pc := 0) hE dX0_at_0 rfl ?_
    refine si_iload_n (pc := 1) hE dX0_at_1 rfl ?_
    refine si_iload_n (pc := 2) hE dX0_at_2 rfl ?_
    refine si_hv (pc := 3) (n := 2) hE dX0_at_3 ⟨cal_V (recvO cls0) (eX0_sumOf g) (Or.inl ⟨rfl, rfl⟩) q1304 q132 q1301 q1303 qs34 ⟨by decide +kernel, by decide +kernel⟩ nX0_sumOf (by decide) (by decide), trivial⟩ (si_out hE rfl) ?_
    refine si_ifnull (pc := 6) hE dX0_at_6 (by decide) h29 ?_
    refine si_aload_n (pc := 9) hE dX0_at_9 rfl ?_
    refine si_iload_n (pc := 10) hE dX0_at_10 rfl ?_
    refine si_iload_n (pc := 11) hE dX0_at_11 rfl ?_
    refine si_hv (pc := 12) (n := 2) hE dX0_at_12 ⟨cal_V (recvO cls0) (eX0_nodeOf g) (Or.inl ⟨rfl, rfl⟩) q1266 q132 q1263 q1265 qs33 ⟨by decide +kernel, by decide +kernel⟩ nX0_nodeOf (by decide) (by decide), trivial⟩ (si_out hE rfl) ?_
    refine si_ifnull (pc := 15) hE dX0_at_15 (by decide) h29 ?_
    refine si_iload (pc := 18) hE dX0_at_18 ?_
    refine si_iconst (pc := 20) hE dX0_at_20 (by decide) ?_
    refine si_bipush (pc := 21) hE dX0_at_21 (by decide) ?_
    refine si_hs (pc := 23) (n := 3) hE dX0_at_23 (cal_S (eX0_in g) (Or.inl ⟨rfl, rfl⟩) q250 q132 q248 q249 ⟨by decide +kernel, by decide +kernel⟩ nX0_in (by decide) (by decide)) (si_out hE rfl) ?_
    refine si_if_ne (pc := 26) hE dX0_at_26 (by decide) h31 ?_
    exact h29
  exact h0
def bX0_isPlaced_23 (κ : Nat → Option Nat) (R : Ret AH) : Cont AH :=
    o_zreturn R
def bX0_isPlaced_22 (κ : Nat → Option Nat) (R : Ret AH) : Cont AH :=
    o_ic 0 <|
    (bX0_isPlaced_23 κ R)
def bX0_isPlaced_0 (κ : Nat → Option Nat) (R : Ret AH) : Cont AH :=
    o_al 0 <|
    o_il 1 <|
    o_il 3 <|
    o_call 3 (hvc [(1, pX0_sumOf κ)]) (fun _ a σ => R (.inr a) σ) <|
    o_ifnull (bX0_isPlaced_22 κ R) <|
    o_il 2 <|
    o_ic 0 <|
    o_ic 2 <|
    o_call 3 (pX0_in κ) (fun _ a σ => R (.inr a) σ) <|
    o_if_eq (bX0_isPlaced_22 κ R) <|
    o_ic 1 <|
    (bX0_isPlaced_23 κ R)
def pX0_isPlaced (κ : Nat → Option Nat) : PT AH := fun as σ Q => (lg_sl as).length ≤ 4 ∧ bX0_isPlaced_0 κ Q (entP 4 as) [] σ
theorem nX0_isPlaced : parN yX0_isPlaced 3 := by unfold parN; decide +kernel
set_option maxHeartbeats 4000000 in
theorem eX0_isPlaced (g : GC) : CT (wC g) yX0_isPlaced (Cond.code yX0_isPlaced cX0_isPlaced 4 (some .boolean)) 4 86 (pX0_isPlaced g.2.1) := by
  refine CT.of (wC_ok g) (cc := cX0_isPlaced) (nL := 4) (ret := (some .boolean)) (ht := []) (by decide +kernel) (Or.inl ⟨rfl, rfl⟩) (B := bX0_isPlaced_0 g.2.1) (fun R E X hE => ?_)
  have h23 : E (bX0_isPlaced_23 g.2.1 R) 23 := by
    unfold bX0_isPlaced_23
    exact si_zreturn (pc := 23) hE dX0_isPlaced_23
  have h22 : E (bX0_isPlaced_22 g.2.1 R) 22 := by
    unfold bX0_isPlaced_22
    refine si_iconst (pc := 22) hE dX0_isPlaced_22 (by decide) ?_
    exact h23
  have h0 : E (bX0_isPlaced_0 g.2.1 R) 0 := by
    unfold bX0_isPlaced_0
    refine si_aload_n (pc := 0) hE dX0_isPlaced_0 rfl ?_
    refine si_iload_n (pc := 1) hE dX0_isPlaced_1 rfl ?_
    refine si_iload_n (pc := 2) hE dX0_isPlaced_2 rfl ?_
    refine si_hv (pc := 3) (n := 2) hE dX0_isPlaced_3 ⟨cal_V (recvO cls0) (eX0_sumOf g) (Or.inl ⟨rfl, rfl⟩) q1304 q132 q1301 q1303 qs34 ⟨by decide +kernel, by decide +kernel⟩ nX0_sumOf (by decide) (by decide), trivial⟩ (si_out hE rfl) ?_
    refine si_ifnull (pc := 6) hE dX0_isPlaced_6 (by decide) h22 ?_
    refine si_iload_n (pc := 9) hE dX0_isPlaced_9 rfl ?_
    refine si_iconst (pc := 10) hE dX0_isPlaced_10 (by decide) ?_
    refine si_iconst (pc := 11) hE dX0_isPlaced_11 (by decide) ?_
    refine si_hs (pc := 12) (n := 3) hE dX0_isPlaced_12 (cal_S (eX0_in g) (Or.inl ⟨rfl, rfl⟩) q250 q132 q248 q249 ⟨by decide +kernel, by decide +kernel⟩ nX0_in (by decide) (by decide)) (si_out hE rfl) ?_
    refine si_if_eq (pc := 15) hE dX0_isPlaced_15 (by decide) h22 ?_
    refine si_iconst (pc := 18) hE dX0_isPlaced_18 (by decide) ?_
    exact si_goto (pc := 19) hE dX0_isPlaced_19 (by decide) h23
  exact h0
def bX4_setAt_39 (κ : Nat → Option Nat) (R : Ret AH) : Cont AH :=
    o_lreturn R
def bX4_setAt_22 (κ : Nat → Option Nat) (R : Ret AH) : Cont AH :=
    o_al 0 <|
    o_gR 12 [4] <|
    o_il 2 <|
    o_aG 101 <|
    o_al 0 <|
    o_gR 13 [4] <|
    o_il 2 <|
    o_aG 101 <|
    o_lc (-1) <|
    o_lxor <|
    o_land <|
    (bX4_setAt_39 κ R)
def bX4_setAt_8 (κ : Nat → Option Nat) (R : Ret AH) : Cont AH :=
    o_il 1 <|
    o_ic 1 <|
    o_icmp_ne (bX4_setAt_22 κ R) <|
    o_al 0 <|
    o_gR 10 [4] <|
    o_il 2 <|
    o_aG 101 <|
    (bX4_setAt_39 κ R)
def bX4_setAt_0 (κ : Nat → Option Nat) (R : Ret AH) : Cont AH :=
    o_il 1 <|
    o_if_ne (bX4_setAt_8 κ R) <|
    o_lc 0 <|
    (bX4_setAt_39 κ R)
def pX4_setAt (κ : Nat → Option Nat) : PT AH := fun as σ Q => (lg_sl as).length ≤ 3 ∧ bX4_setAt_0 κ Q (entP 3 as) [] σ
theorem nX4_setAt : parN yX4_setAt 2 := by unfold parN; decide +kernel
set_option maxHeartbeats 4000000 in
theorem eX4_setAt (g : GC) : CT (wC g) yX4_setAt (Cond.code yX4_setAt cX4_setAt 3 (some .long)) 0 0 (pX4_setAt g.2.1) := by
  refine CT.of (wC_ok g) (cc := cX4_setAt) (nL := 3) (ret := (some .long)) (ht := []) (by decide +kernel) (Or.inl ⟨rfl, rfl⟩) (B := bX4_setAt_0 g.2.1) (fun R E X hE => ?_)
  have h39 : E (bX4_setAt_39 g.2.1 R) 39 := by
    unfold bX4_setAt_39
    exact si_lreturn (pc := 39) hE dX4_setAt_39
  have h22 : E (bX4_setAt_22 g.2.1 R) 22 := by
    unfold bX4_setAt_22
    refine si_aload_n (pc := 22) hE dX4_setAt_22 rfl ?_
    refine si_gR (pc := 23) hE dX4_setAt_23 (Or.inl q320) zfo_65 ?_
    refine si_iload_n (pc := 26) hE dX4_setAt_26 rfl ?_
    refine si_laload (pc := 27) hE dX4_setAt_27 ?_
    refine si_aload_n (pc := 28) hE dX4_setAt_28 rfl ?_
    refine si_gR (pc := 29) hE dX4_setAt_29 (Or.inl q323) zfo_64 ?_
    refine si_iload_n (pc := 32) hE dX4_setAt_32 rfl ?_
    refine si_laload (pc := 33) hE dX4_setAt_33 ?_
    refine si_ldc2 (pc := 34) hE dX4_setAt_34 q1201 ?_
    refine si_lxor (pc := 37) hE dX4_setAt_37 ?_
    refine si_land (pc := 38) hE dX4_setAt_38 ?_
    exact h39
  have h8 : E (bX4_setAt_8 g.2.1 R) 8 := by
    unfold bX4_setAt_8
    refine si_iload_n (pc := 8) hE dX4_setAt_8 rfl ?_
    refine si_iconst (pc := 9) hE dX4_setAt_9 (by decide) ?_
    refine si_icmp_ne (pc := 10) hE dX4_setAt_10 (by decide) h22 ?_
    refine si_aload_n (pc := 13) hE dX4_setAt_13 rfl ?_
    refine si_gR (pc := 14) hE dX4_setAt_14 (Or.inl q316) zfo_63 ?_
    refine si_iload_n (pc := 17) hE dX4_setAt_17 rfl ?_
    refine si_laload (pc := 18) hE dX4_setAt_18 ?_
    exact si_goto (pc := 19) hE dX4_setAt_19 (by decide) h39
  have h0 : E (bX4_setAt_0 g.2.1 R) 0 := by
    unfold bX4_setAt_0
    refine si_iload_n (pc := 0) hE dX4_setAt_0 rfl ?_
    refine si_if_ne (pc := 1) hE dX4_setAt_1 (by decide) h8 ?_
    refine si_lconst (pc := 4) hE dX4_setAt_4 (by decide) ?_
    exact si_goto (pc := 5) hE dX4_setAt_5 (by decide) h39
  exact h0
def bX4_takenAt_46 (κ : Nat → Option Nat) (R : Ret AH) : Cont AH :=
    o_lreturn R
def bX4_takenAt_22 (κ : Nat → Option Nat) (R : Ret AH) : Cont AH :=
    o_al 0 <|
    o_gR 6 [4] <|
    o_il 2 <|
    o_aG 101 <|
    o_al 0 <|
    o_gR 12 [4] <|
    o_il 2 <|
    o_aG 101 <|
    o_al 0 <|
    o_gR 13 [4] <|
    o_il 2 <|
    o_aG 101 <|
    o_land <|
    o_lc (-1) <|
    o_lxor <|
    o_land <|
    (bX4_takenAt_46 κ R)
def bX4_takenAt_8 (κ : Nat → Option Nat) (R : Ret AH) : Cont AH :=
    o_il 1 <|
    o_ic 1 <|
    o_icmp_ne (bX4_takenAt_22 κ R) <|
    o_al 0 <|
    o_gR 6 [4] <|
    o_il 2 <|
    o_aG 101 <|
    (bX4_takenAt_46 κ R)
def bX4_takenAt_0 (κ : Nat → Option Nat) (R : Ret AH) : Cont AH :=
    o_il 1 <|
    o_if_ne (bX4_takenAt_8 κ R) <|
    o_lc 0 <|
    (bX4_takenAt_46 κ R)
def pX4_takenAt (κ : Nat → Option Nat) : PT AH := fun as σ Q => (lg_sl as).length ≤ 3 ∧ bX4_takenAt_0 κ Q (entP 3 as) [] σ
theorem nX4_takenAt : parN yX4_takenAt 2 := by unfold parN; decide +kernel
set_option maxHeartbeats 4000000 in
theorem eX4_takenAt (g : GC) : CT (wC g) yX4_takenAt (Cond.code yX4_takenAt cX4_takenAt 3 (some .long)) 0 0 (pX4_takenAt g.2.1) := by
  refine CT.of (wC_ok g) (cc := cX4_takenAt) (nL := 3) (ret := (some .long)) (ht := []) (by decide +kernel) (Or.inl ⟨rfl, rfl⟩) (B := bX4_takenAt_0 g.2.1) (fun R E X hE => ?_)
  have h46 : E (bX4_takenAt_46 g.2.1 R) 46 := by
    unfold bX4_takenAt_46
    exact si_lreturn (pc := 46) hE dX4_takenAt_46
  have h22 : E (bX4_takenAt_22 g.2.1 R) 22 := by
    unfold bX4_takenAt_22
    refine si_aload_n (pc := 22) hE dX4_takenAt_22 rfl ?_
    refine si_gR (pc := 23) hE dX4_takenAt_23 (Or.inl q308) zfo_59 ?_
    refine si_iload_n (pc := 26) hE dX4_takenAt_26 rfl ?_
    refine si_laload (pc := 27) hE dX4_takenAt_27 ?_
    refine si_aload_n (pc := 28) hE dX4_takenAt_28 rfl ?_
    refine si_gR (pc := 29) hE dX4_takenAt_29 (Or.inl q320) zfo_65 ?_
    refine si_iload_n (pc := 32) hE dX4_takenAt_32 rfl ?_
    refine si_laload (pc := 33) hE dX4_takenAt_33 ?_
    refine si_aload_n (pc := 34) hE dX4_takenAt_34 rfl ?_
    refine si_gR (pc := 35) hE dX4_takenAt_35 (Or.inl q323) zfo_64 ?_
    refine si_iload_n (pc := 38) hE dX4_takenAt_38 rfl ?_
    refine si_laload (pc := 39) hE dX4_takenAt_39 ?_
    refine si_land (pc := 40) hE dX4_takenAt_40 ?_
    refine si_ldc2 (pc := 41) hE dX4_takenAt_41 q1201 ?_
    refine si_lxor (pc := 44) hE dX4_takenAt_44 ?_
    refine si_land (pc := 45) hE dX4_takenAt_45 ?_
    exact h46
  have h8 : E (bX4_takenAt_8 g.2.1 R) 8 := by
    unfold bX4_takenAt_8
    refine si_iload_n (pc := 8) hE dX4_takenAt_8 rfl ?_
    refine si_iconst (pc := 9) hE dX4_takenAt_9 (by decide) ?_
    refine si_icmp_ne (pc := 10) hE dX4_takenAt_10 (by decide) h22 ?_
    refine si_aload_n (pc := 13) hE dX4_takenAt_13 rfl ?_
    refine si_gR (pc := 14) hE dX4_takenAt_14 (Or.inl q308) zfo_59 ?_
    refine si_iload_n (pc := 17) hE dX4_takenAt_17 rfl ?_
    refine si_laload (pc := 18) hE dX4_takenAt_18 ?_
    exact si_goto (pc := 19) hE dX4_takenAt_19 (by decide) h46
  have h0 : E (bX4_takenAt_0 g.2.1 R) 0 := by
    unfold bX4_takenAt_0
    refine si_iload_n (pc := 0) hE dX4_takenAt_0 rfl ?_
    refine si_if_ne (pc := 1) hE dX4_takenAt_1 (by decide) h8 ?_
    refine si_lconst (pc := 4) hE dX4_takenAt_4 (by decide) ?_
    exact si_goto (pc := 5) hE dX4_takenAt_5 (by decide) h46
  exact h0
def bX4_alive_161 (κ : Nat → Option Nat) (R : Ret AH) : Cont AH :=
    o_al 2 <|
    o_areturn R
def bX4_alive_158 (κ : Nat → Option Nat) (R : Ret AH) (J12 : Cont AH) : Cont AH :=
    (o_kill [4, 5, 6, 7, 8] J12)
def bX4_alive_144 (κ : Nat → Option Nat) (R : Ret AH) (J12 : Cont AH) (J29 : Cont AH) : Cont AH :=
    o_ior <|
    o_is 3 <|
    o_al 2 <|
    o_il 4 <|
    o_ll 5 <|
    o_sG <|
    o_iinc 4 (-1) <|
    (o_kill [5, 6, 7, 8] J29)
def bX4_alive_143 (κ : Nat → Option Nat) (R : Ret AH) (J12 : Cont AH) (J29 : Cont AH) : Cont AH :=
    o_ic 0 <|
    (bX4_alive_144 κ R J12 J29)
def bX4_alive_112 (κ : Nat → Option Nat) (R : Ret AH) (J12 : Cont AH) (J29 : Cont AH) : Cont AH :=
    o_ll 5 <|
    o_al 0 <|
    o_il 1 <|
    o_il 4 <|
    o_call 3 (hvc [(4, pX4_setAt κ)]) (fun _ a σ => R (.inr a) σ) <|
    o_lc (-1) <|
    o_lxor <|
    o_land <|
    o_ls 5 <|
    o_il 3 <|
    o_ll 5 <|
    o_al 2 <|
    o_il 4 <|
    o_aG 101 <|
    o_lcmp <|
    o_if_eq (bX4_alive_143 κ R J12 J29) <|
    o_ic 1 <|
    (bX4_alive_144 κ R J12 J29)
def bX4_alive_46 (κ : Nat → Option Nat) (R : Ret AH) (J12 : Cont AH) (J29 : Cont AH) : Cont AH :=
    fixC fun J46 =>
    o_il 7 <|
    o_al 0 <|
    o_gR 1 [4] <|
    o_il 4 <|
    o_call 2 (hvc [(19, pJ2_get κ)]) (fun _ a σ => R (.inr a) σ) <|
    o_cast [7, 8, 9, 10, 11, 12, 13, 14] <|
    o_gR 2 [7, 8, 9, 10, 11, 12, 13, 14] <|
    o_call 1 (hvc [(19, pJ2_size κ)]) (fun _ a σ => R (.inr a) σ) <|
    o_icmp_ge (bX4_alive_112 κ R J12 J29) <|
    o_al 0 <|
    o_gR 1 [4] <|
    o_il 4 <|
    o_call 2 (hvc [(19, pJ2_get κ)]) (fun _ a σ => R (.inr a) σ) <|
    o_cast [7, 8, 9, 10, 11, 12, 13, 14] <|
    o_gR 2 [7, 8, 9, 10, 11, 12, 13, 14] <|
    o_il 7 <|
    o_call 2 (hvc [(19, pJ2_get κ)]) (fun _ a σ => R (.inr a) σ) <|
    o_cast [7, 8, 9, 10, 11, 12, 13, 14] <|
    o_as 8 <|
    o_ll 5 <|
    o_al 2 <|
    o_al 8 <|
    o_gI 0 [7, 8, 9, 10, 11, 12, 13, 14] <|
    o_aG 101 <|
    o_lor <|
    o_ls 5 <|
    o_iinc 7 1 <|
    (o_kill [6, 8] J46)
def bX4_alive_29 (κ : Nat → Option Nat) (R : Ret AH) (J12 : Cont AH) : Cont AH :=
    fixC fun J29 =>
    o_il 4 <|
    o_if_lt (bX4_alive_158 κ R J12) <|
    o_al 0 <|
    o_il 1 <|
    o_il 4 <|
    o_call 3 (hvc [(4, pX4_takenAt κ)]) (fun _ a σ => R (.inr a) σ) <|
    o_ls 5 <|
    o_ic 0 <|
    o_is 7 <|
    (o_kill [6, 8] (bX4_alive_46 κ R J12 J29))
def bX4_alive_12 (κ : Nat → Option Nat) (R : Ret AH) : Cont AH :=
    fixC fun J12 =>
    o_il 3 <|
    o_if_eq (bX4_alive_161 κ R) <|
    o_ic 0 <|
    o_is 3 <|
    o_al 0 <|
    o_gR 1 [4] <|
    o_call 1 (hvc [(19, pJ2_size κ)]) (fun _ a σ => R (.inr a) σ) <|
    o_ic 1 <|
    o_isub <|
    o_is 4 <|
    (o_kill [5, 6, 7, 8] (bX4_alive_29 κ R J12))
def bX4_alive_0 (κ : Nat → Option Nat) (R : Ret AH) : Cont AH :=
    o_al 0 <|
    o_gR 1 [4] <|
    o_call 1 (hvc [(19, pJ2_size κ)]) (fun _ a σ => R (.inr a) σ) <|
    o_newA 101 <|
    o_as 2 <|
    o_ic 1 <|
    o_is 3 <|
    (o_kill [4, 5, 6, 7, 8] (bX4_alive_12 κ R))
def pX4_alive (κ : Nat → Option Nat) : PT AH := fun as σ Q => (lg_sl as).length ≤ 9 ∧ bX4_alive_0 κ Q (entP 9 as) [] σ
theorem nX4_alive : parN yX4_alive 1 := by unfold parN; decide +kernel
set_option maxHeartbeats 4000000 in
theorem eX4_alive (g : GC) : CT (wC g) yX4_alive (Cond.code yX4_alive cX4_alive 9 (some (.array .long))) 3 64 (pX4_alive g.2.1) := by
  refine CT.of (wC_ok g) (cc := cX4_alive) (nL := 9) (ret := (some (.array .long))) (ht := []) (by decide +kernel) (Or.inl ⟨rfl, rfl⟩) (B := bX4_alive_0 g.2.1) (fun R E X hE => ?_)
  have h161 : E (bX4_alive_161 g.2.1 R) 161 := by
    unfold bX4_alive_161
    refine si_aload_n (pc := 161) hE dX4_alive_161 rfl ?_
    exact si_areturn (pc := 162) hE (Or.inr ⟨_, rfl⟩) dX4_alive_162
  have h158 : ∀ (J12 : Cont AH) (hJ12 : E J12 12), E (bX4_alive_158 g.2.1 R J12) 158 := by
    intro J12 hJ12
    unfold bX4_alive_158
    exact si_goto (pc := 158) hE dX4_alive_158 (by decide) (si_kill hE hJ12)
  have h144 : ∀ (J12 : Cont AH) (hJ12 : E J12 12) (J29 : Cont AH) (hJ29 : E J29 29), E (bX4_alive_144 g.2.1 R J12 J29) 144 := by
    intro J12 hJ12 J29 hJ29
    unfold bX4_alive_144
    refine si_ior (pc := 144) hE dX4_alive_144 ?_
    refine si_istore_n (pc := 145) hE dX4_alive_145 rfl (by decide) ?_
    refine si_aload_n (pc := 146) hE dX4_alive_146 rfl ?_
    refine si_iload (pc := 147) hE dX4_alive_147 ?_
    refine si_lload (pc := 149) hE dX4_alive_149 ?_
    refine si_lastore (pc := 151) hE dX4_alive_151 ?_
    refine si_iinc (pc := 152) hE dX4_alive_152 (by decide) (by decide) ?_
    exact si_goto (pc := 155) hE dX4_alive_155 (by decide) (si_kill hE hJ29)
  have h143 : ∀ (J12 : Cont AH) (hJ12 : E J12 12) (J29 : Cont AH) (hJ29 : E J29 29), E (bX4_alive_143 g.2.1 R J12 J29) 143 := by
    intro J12 hJ12 J29 hJ29
    unfold bX4_alive_143
    refine si_iconst (pc := 143) hE dX4_alive_143 (by decide) ?_
    exact (h144 J12 hJ12 J29 hJ29)
  have h112 : ∀ (J12 : Cont AH) (hJ12 : E J12 12) (J29 : Cont AH) (hJ29 : E J29 29), E (bX4_alive_112 g.2.1 R J12 J29) 112 := by
    intro J12 hJ12 J29 hJ29
    unfold bX4_alive_112
    refine si_lload (pc := 112) hE dX4_alive_112 ?_
    refine si_aload_n (pc := 114) hE dX4_alive_114 rfl ?_
    refine si_iload_n (pc := 115) hE dX4_alive_115 rfl ?_
    refine si_iload (pc := 116) hE dX4_alive_116 ?_
    refine si_hv (pc := 118) (n := 2) hE dX4_alive_118 ⟨cal_V (recvO cls3) (eX4_setAt g) (Or.inl ⟨rfl, rfl⟩) q1350 q136 q1360 q1348 q1349 ⟨by decide +kernel, by decide +kernel⟩ nX4_setAt (by decide) (by decide), trivial⟩ (si_out hE rfl) ?_
    refine si_ldc2 (pc := 121) hE dX4_alive_121 q1201 ?_
    refine si_lxor (pc := 124) hE dX4_alive_124 ?_
    refine si_land (pc := 125) hE dX4_alive_125 ?_
    refine si_lstore (pc := 126) hE dX4_alive_126 (by decide) ?_
    refine si_iload_n (pc := 128) hE dX4_alive_128 rfl ?_
    refine si_lload (pc := 129) hE dX4_alive_129 ?_
    refine si_aload_n (pc := 131) hE dX4_alive_131 rfl ?_
    refine si_iload (pc := 132) hE dX4_alive_132 ?_
    refine si_laload (pc := 134) hE dX4_alive_134 ?_
    refine si_lcmp (pc := 135) hE dX4_alive_135 ?_
    refine si_if_eq (pc := 136) hE dX4_alive_136 (by decide) (h143 J12 hJ12 J29 hJ29) ?_
    refine si_iconst (pc := 139) hE dX4_alive_139 (by decide) ?_
    exact si_goto (pc := 140) hE dX4_alive_140 (by decide) (h144 J12 hJ12 J29 hJ29)
  have h46 : ∀ (J12 : Cont AH) (hJ12 : E J12 12) (J29 : Cont AH) (hJ29 : E J29 29), E (bX4_alive_46 g.2.1 R J12 J29) 46 := by
    intro J12 hJ12 J29 hJ29
    unfold bX4_alive_46
    refine si_fix hE (fun J46 hJ46 => ?_)
    refine si_iload (pc := 46) hE dX4_alive_46 ?_
    refine si_aload_n (pc := 48) hE dX4_alive_48 rfl ?_
    refine si_gR (pc := 49) hE dX4_alive_49 (Or.inl q293) zfo_18 ?_
    refine si_iload (pc := 52) hE dX4_alive_52 ?_
    refine si_hv (pc := 54) (n := 1) hE dX4_alive_54 ⟨cal_V (recvO cls18) (eJ2_get g) (Or.inl ⟨rfl, rfl⟩) q980 q139 q998 q978 q979 ⟨by decide +kernel, by decide +kernel⟩ nJ2_get (by decide) (by decide), trivial⟩ (si_out hE rfl) ?_
    refine si_cast (pc := 57) hE dX4_alive_57 q1029 zco_2 ?_
    refine si_gR (pc := 60) hE dX4_alive_60 (Or.inl q763) zfo_34 ?_
    refine si_hv (pc := 63) (n := 0) hE dX4_alive_63 ⟨cal_V (recvO cls18) (eJ2_size g) (Or.inl ⟨rfl, rfl⟩) q501 q139 q999 q499 q500 ⟨by decide +kernel, by decide +kernel⟩ nJ2_size (by decide) (by decide), trivial⟩ (si_out hE rfl) ?_
    refine si_icmp_ge (pc := 66) hE dX4_alive_66 (by decide) (h112 J12 hJ12 J29 hJ29) ?_
    refine si_aload_n (pc := 69) hE dX4_alive_69 rfl ?_
    refine si_gR (pc := 70) hE dX4_alive_70 (Or.inl q293) zfo_18 ?_
    refine si_iload (pc := 73) hE dX4_alive_73 ?_
    refine si_hv (pc := 75) (n := 1) hE dX4_alive_75 ⟨cal_V (recvO cls18) (eJ2_get g) (Or.inl ⟨rfl, rfl⟩) q980 q139 q998 q978 q979 ⟨by decide +kernel, by decide +kernel⟩ nJ2_get (by decide) (by decide), trivial⟩ (si_out hE rfl) ?_
    refine si_cast (pc := 78) hE dX4_alive_78 q1029 zco_2 ?_
    refine si_gR (pc := 81) hE dX4_alive_81 (Or.inl q763) zfo_34 ?_
    refine si_iload (pc := 84) hE dX4_alive_84 ?_
    refine si_hv (pc := 86) (n := 1) hE dX4_alive_86 ⟨cal_V (recvO cls18) (eJ2_get g) (Or.inl ⟨rfl, rfl⟩) q980 q139 q998 q978 q979 ⟨by decide +kernel, by decide +kernel⟩ nJ2_get (by decide) (by decide), trivial⟩ (si_out hE rfl) ?_
    refine si_cast (pc := 89) hE dX4_alive_89 q1029 zco_2 ?_
    refine si_astore (pc := 92) hE dX4_alive_92 (by decide) ?_
    refine si_lload (pc := 94) hE dX4_alive_94 ?_
    refine si_aload_n (pc := 96) hE dX4_alive_96 rfl ?_
    refine si_aload (pc := 97) hE dX4_alive_97 ?_
    refine si_gI (pc := 99) hE dX4_alive_99 (Or.inr ⟨_, q750⟩) zfo_55 ?_
    refine si_laload (pc := 102) hE dX4_alive_102 ?_
    refine si_lor (pc := 103) hE dX4_alive_103 ?_
    refine si_lstore (pc := 104) hE dX4_alive_104 (by decide) ?_
    refine si_iinc (pc := 106) hE dX4_alive_106 (by decide) (by decide) ?_
    exact si_goto (pc := 109) hE dX4_alive_109 (by decide) (si_kill hE hJ46)
  have h29 : ∀ (J12 : Cont AH) (hJ12 : E J12 12), E (bX4_alive_29 g.2.1 R J12) 29 := by
    intro J12 hJ12
    unfold bX4_alive_29
    refine si_fix hE (fun J29 hJ29 => ?_)
    refine si_iload (pc := 29) hE dX4_alive_29 ?_
    refine si_if_lt (pc := 31) hE dX4_alive_31 (by decide) (h158 J12 hJ12) ?_
    refine si_aload_n (pc := 34) hE dX4_alive_34 rfl ?_
    refine si_iload_n (pc := 35) hE dX4_alive_35 rfl ?_
    refine si_iload (pc := 36) hE dX4_alive_36 ?_
    refine si_hv (pc := 38) (n := 2) hE dX4_alive_38 ⟨cal_V (recvO cls3) (eX4_takenAt g) (Or.inl ⟨rfl, rfl⟩) q1354 q136 q1359 q1352 q1353 ⟨by decide +kernel, by decide +kernel⟩ nX4_takenAt (by decide) (by decide), trivial⟩ (si_out hE rfl) ?_
    refine si_lstore (pc := 41) hE dX4_alive_41 (by decide) ?_
    refine si_iconst (pc := 43) hE dX4_alive_43 (by decide) ?_
    refine si_istore (pc := 44) hE dX4_alive_44 (by decide) ?_
    exact (si_kill hE (h46 J12 hJ12 J29 hJ29))
  have h12 : E (bX4_alive_12 g.2.1 R) 12 := by
    unfold bX4_alive_12
    refine si_fix hE (fun J12 hJ12 => ?_)
    refine si_iload_n (pc := 12) hE dX4_alive_12 rfl ?_
    refine si_if_eq (pc := 13) hE dX4_alive_13 (by decide) h161 ?_
    refine si_iconst (pc := 16) hE dX4_alive_16 (by decide) ?_
    refine si_istore_n (pc := 17) hE dX4_alive_17 rfl (by decide) ?_
    refine si_aload_n (pc := 18) hE dX4_alive_18 rfl ?_
    refine si_gR (pc := 19) hE dX4_alive_19 (Or.inl q293) zfo_18 ?_
    refine si_hv (pc := 22) (n := 0) hE dX4_alive_22 ⟨cal_V (recvO cls18) (eJ2_size g) (Or.inl ⟨rfl, rfl⟩) q501 q139 q999 q499 q500 ⟨by decide +kernel, by decide +kernel⟩ nJ2_size (by decide) (by decide), trivial⟩ (si_out hE rfl) ?_
    refine si_iconst (pc := 25) hE dX4_alive_25 (by decide) ?_
    refine si_isub (pc := 26) hE dX4_alive_26 ?_
    refine si_istore (pc := 27) hE dX4_alive_27 (by decide) ?_
    exact (si_kill hE (h29 J12 hJ12))
  have h0 : E (bX4_alive_0 g.2.1 R) 0 := by
    unfold bX4_alive_0
    refine si_aload_n (pc := 0) hE dX4_alive_0 rfl ?_
    refine si_gR (pc := 1) hE dX4_alive_1 (Or.inl q293) zfo_18 ?_
    refine si_hv (pc := 4) (n := 0) hE dX4_alive_4 ⟨cal_V (recvO cls18) (eJ2_size g) (Or.inl ⟨rfl, rfl⟩) q501 q139 q999 q499 q500 ⟨by decide +kernel, by decide +kernel⟩ nJ2_size (by decide) (by decide), trivial⟩ (si_out hE rfl) ?_
    refine si_newarray1 (pc := 7) hE dX4_alive_7 q1246 ?_
    refine si_astore_n (pc := 9) hE dX4_alive_9 rfl (by decide) ?_
    refine si_iconst (pc := 10) hE dX4_alive_10 (by decide) ?_
    refine si_istore_n (pc := 11) hE dX4_alive_11 rfl (by decide) ?_
    exact (si_kill hE h12)
  exact h0
def bX0_placed_30 (κ : Nat → Option Nat) (R : Ret AH) : Cont AH :=
    o_ic (-1) <|
    o_ireturn R
def bX0_placed_81 (κ : Nat → Option Nat) (R : Ret AH) : Cont AH :=
    o_ls 7 <|
    o_ll 7 <|
    o_il 3 <|
    o_lshr <|
    o_lc 1 <|
    o_land <|
    o_l2i <|
    o_ireturn R
def bX0_placed_72 (κ : Nat → Option Nat) (R : Ret AH) : Cont AH :=
    o_al 6 <|
    o_il 2 <|
    o_call 2 (hvc [(4, pX4_alive κ)]) (fun _ a σ => R (.inr a) σ) <|
    o_il 4 <|
    o_aG 101 <|
    (bX0_placed_81 κ R)
def bX0_placed_55 (κ : Nat → Option Nat) (R : Ret AH) : Cont AH :=
    o_il 5 <|
    o_ic 1 <|
    o_icmp_ne (bX0_placed_72 κ R) <|
    o_al 6 <|
    o_il 2 <|
    o_il 4 <|
    o_call 3 (hvc [(4, pX4_takenAt κ)]) (fun _ a σ => R (.inr a) σ) <|
    (bX0_placed_81 κ R)
def bX0_placed_32 (κ : Nat → Option Nat) (R : Ret AH) : Cont AH :=
    o_al 0 <|
    o_il 1 <|
    o_call 2 (hvc [(1, pX0_of κ)]) (fun _ a σ => R (.inr a) σ) <|
    o_as 6 <|
    o_il 5 <|
    o_if_ne (bX0_placed_55 κ R) <|
    o_al 6 <|
    o_il 2 <|
    o_il 4 <|
    o_call 3 (hvc [(4, pX4_setAt κ)]) (fun _ a σ => R (.inr a) σ) <|
    (bX0_placed_81 κ R)
def bX0_placed_0 (κ : Nat → Option Nat) (R : Ret AH) : Cont AH :=
    o_al 0 <|
    o_il 1 <|
    o_il 2 <|
    o_il 3 <|
    o_call 4 (hvc [(1, pX0_isPlaced κ)]) (fun _ a σ => R (.inr a) σ) <|
    o_if_eq (bX0_placed_30 κ R) <|
    o_al 0 <|
    o_il 1 <|
    o_il 4 <|
    o_call 3 (hvc [(1, pX0_nodeOf κ)]) (fun _ a σ => R (.inr a) σ) <|
    o_ifnull (bX0_placed_30 κ R) <|
    o_il 5 <|
    o_ic 0 <|
    o_ic 2 <|
    o_call 3 (pX0_in κ) (fun _ a σ => R (.inr a) σ) <|
    o_if_ne (bX0_placed_32 κ R) <|
    (bX0_placed_30 κ R)
def pX0_placed (κ : Nat → Option Nat) : PT AH := fun as σ Q => (lg_sl as).length ≤ 9 ∧ bX0_placed_0 κ Q (entP 9 as) [] σ
theorem nX0_placed : parN yX0_placed 5 := by unfold parN; decide +kernel
set_option maxHeartbeats 4000000 in
theorem eX0_placed (g : GC) : CT (wC g) yX0_placed (Cond.code yX0_placed cX0_placed 9 (some .int)) 5 109 (pX0_placed g.2.1) := by
  refine CT.of (wC_ok g) (cc := cX0_placed) (nL := 9) (ret := (some .int)) (ht := []) (by decide +kernel) (Or.inl ⟨rfl, rfl⟩) (B := bX0_placed_0 g.2.1) (fun R E X hE => ?_)
  have h30 : E (bX0_placed_30 g.2.1 R) 30 := by
    unfold bX0_placed_30
    refine si_iconst (pc := 30) hE dX0_placed_30 (by decide) ?_
    exact si_ireturn (pc := 31) hE dX0_placed_31
  have h81 : E (bX0_placed_81 g.2.1 R) 81 := by
    unfold bX0_placed_81
    refine si_lstore (pc := 81) hE dX0_placed_81 (by decide) ?_
    refine si_lload (pc := 83) hE dX0_placed_83 ?_
    refine si_iload_n (pc := 85) hE dX0_placed_85 rfl ?_
    refine si_lshr (pc := 86) hE dX0_placed_86 ?_
    refine si_lconst (pc := 87) hE dX0_placed_87 (by decide) ?_
    refine si_land (pc := 88) hE dX0_placed_88 ?_
    refine si_l2i (pc := 89) hE dX0_placed_89 ?_
    exact si_ireturn (pc := 90) hE dX0_placed_90
  have h72 : E (bX0_placed_72 g.2.1 R) 72 := by
    unfold bX0_placed_72
    refine si_aload (pc := 72) hE dX0_placed_72 ?_
    refine si_iload_n (pc := 74) hE dX0_placed_74 rfl ?_
    refine si_hv (pc := 75) (n := 1) hE dX0_placed_75 ⟨cal_V (recvO cls3) (eX4_alive g) (Or.inl ⟨rfl, rfl⟩) q1358 q136 q1355 q1356 q1357 ⟨by decide +kernel, by decide +kernel⟩ nX4_alive (by decide) (by decide), trivial⟩ (si_out hE rfl) ?_
    refine si_iload (pc := 78) hE dX0_placed_78 ?_
    refine si_laload (pc := 80) hE dX0_placed_80 ?_
    exact h81
  have h55 : E (bX0_placed_55 g.2.1 R) 55 := by
    unfold bX0_placed_55
    refine si_iload (pc := 55) hE dX0_placed_55 ?_
    refine si_iconst (pc := 57) hE dX0_placed_57 (by decide) ?_
    refine si_icmp_ne (pc := 58) hE dX0_placed_58 (by decide) h72 ?_
    refine si_aload (pc := 61) hE dX0_placed_61 ?_
    refine si_iload_n (pc := 63) hE dX0_placed_63 rfl ?_
    refine si_iload (pc := 64) hE dX0_placed_64 ?_
    refine si_hv (pc := 66) (n := 2) hE dX0_placed_66 ⟨cal_V (recvO cls3) (eX4_takenAt g) (Or.inl ⟨rfl, rfl⟩) q1354 q136 q1351 q1352 q1353 ⟨by decide +kernel, by decide +kernel⟩ nX4_takenAt (by decide) (by decide), trivial⟩ (si_out hE rfl) ?_
    exact si_goto (pc := 69) hE dX0_placed_69 (by decide) h81
  have h32 : E (bX0_placed_32 g.2.1 R) 32 := by
    unfold bX0_placed_32
    refine si_aload_n (pc := 32) hE dX0_placed_32 rfl ?_
    refine si_iload_n (pc := 33) hE dX0_placed_33 rfl ?_
    refine si_hv (pc := 34) (n := 1) hE dX0_placed_34 ⟨cal_V (recvO cls0) (eX0_of g) (Or.inl ⟨rfl, rfl⟩) q1258 q132 q1255 q1257 qs32 ⟨by decide +kernel, by decide +kernel⟩ nX0_of (by decide) (by decide), trivial⟩ (si_out hE rfl) ?_
    refine si_astore (pc := 37) hE dX0_placed_37 (by decide) ?_
    refine si_iload (pc := 39) hE dX0_placed_39 ?_
    refine si_if_ne (pc := 41) hE dX0_placed_41 (by decide) h55 ?_
    refine si_aload (pc := 44) hE dX0_placed_44 ?_
    refine si_iload_n (pc := 46) hE dX0_placed_46 rfl ?_
    refine si_iload (pc := 47) hE dX0_placed_47 ?_
    refine si_hv (pc := 49) (n := 2) hE dX0_placed_49 ⟨cal_V (recvO cls3) (eX4_setAt g) (Or.inl ⟨rfl, rfl⟩) q1350 q136 q1347 q1348 q1349 ⟨by decide +kernel, by decide +kernel⟩ nX4_setAt (by decide) (by decide), trivial⟩ (si_out hE rfl) ?_
    exact si_goto (pc := 52) hE dX0_placed_52 (by decide) h81
  have h0 : E (bX0_placed_0 g.2.1 R) 0 := by
    unfold bX0_placed_0
    refine si_aload_n (pc := 0) hE dX0_placed_0 rfl ?_
    refine si_iload_n (pc := 1) hE dX0_placed_1 rfl ?_
    refine si_iload_n (pc := 2) hE dX0_placed_2 rfl ?_
    refine si_iload_n (pc := 3) hE dX0_placed_3 rfl ?_
    refine si_hv (pc := 4) (n := 3) hE dX0_placed_4 ⟨cal_V (recvO cls0) (eX0_isPlaced g) (Or.inl ⟨rfl, rfl⟩) q1346 q132 q1343 q1345 qs35 ⟨by decide +kernel, by decide +kernel⟩ nX0_isPlaced (by decide) (by decide), trivial⟩ (si_out hE rfl) ?_
    refine si_if_eq (pc := 7) hE dX0_placed_7 (by decide) h30 ?_
    refine si_aload_n (pc := 10) hE dX0_placed_10 rfl ?_
    refine si_iload_n (pc := 11) hE dX0_placed_11 rfl ?_
    refine si_iload (pc := 12) hE dX0_placed_12 ?_
    refine si_hv (pc := 14) (n := 2) hE dX0_placed_14 ⟨cal_V (recvO cls0) (eX0_nodeOf g) (Or.inl ⟨rfl, rfl⟩) q1266 q132 q1263 q1265 qs33 ⟨by decide +kernel, by decide +kernel⟩ nX0_nodeOf (by decide) (by decide), trivial⟩ (si_out hE rfl) ?_
    refine si_ifnull (pc := 17) hE dX0_placed_17 (by decide) h30 ?_
    refine si_iload (pc := 20) hE dX0_placed_20 ?_
    refine si_iconst (pc := 22) hE dX0_placed_22 (by decide) ?_
    refine si_iconst (pc := 23) hE dX0_placed_23 (by decide) ?_
    refine si_hs (pc := 24) (n := 3) hE dX0_placed_24 (cal_S (eX0_in g) (Or.inl ⟨rfl, rfl⟩) q250 q132 q248 q249 ⟨by decide +kernel, by decide +kernel⟩ nX0_in (by decide) (by decide)) (si_out hE rfl) ?_
    refine si_if_ne (pc := 27) hE dX0_placed_27 (by decide) h32 ?_
    exact h30
  exact h0
def bX0_life_66 (κ : Nat → Option Nat) (R : Ret AH) : Cont AH :=
    o_il 4 <|
    o_ireturn R
def bX0_life_34 (κ : Nat → Option Nat) (R : Ret AH) : Cont AH :=
    fixC fun J34 =>
    o_il 7 <|
    o_il 6 <|
    o_icmp_ge (bX0_life_66 κ R) <|
    o_al 5 <|
    o_il 7 <|
    o_aG 101 <|
    o_ls 8 <|
    o_il 4 <|
    o_ll 8 <|
    o_il 3 <|
    o_lshr <|
    o_lc 1 <|
    o_land <|
    o_l2i <|
    o_iadd <|
    o_is 4 <|
    o_iinc 7 1 <|
    (o_kill [0, 1, 2, 8, 9] J34)
def bX0_life_12 (κ : Nat → Option Nat) (R : Ret AH) : Cont AH :=
    o_ic 0 <|
    o_is 4 <|
    o_al 0 <|
    o_il 1 <|
    o_call 2 (hvc [(1, pX0_of κ)]) (fun _ a σ => R (.inr a) σ) <|
    o_il 2 <|
    o_call 2 (hvc [(4, pX4_alive κ)]) (fun _ a σ => R (.inr a) σ) <|
    o_as 5 <|
    o_al 5 <|
    o_len <|
    o_is 6 <|
    o_ic 0 <|
    o_is 7 <|
    (o_kill [0, 1, 2, 8, 9] (bX0_life_34 κ R))
def bX0_life_0 (κ : Nat → Option Nat) (R : Ret AH) : Cont AH :=
    o_al 0 <|
    o_il 1 <|
    o_il 2 <|
    o_il 3 <|
    o_call 4 (hvc [(1, pX0_isPlaced κ)]) (fun _ a σ => R (.inr a) σ) <|
    o_if_ne (bX0_life_12 κ R) <|
    o_ic (-1) <|
    o_ireturn R
def pX0_life (κ : Nat → Option Nat) : PT AH := fun as σ Q => (lg_sl as).length ≤ 10 ∧ bX0_life_0 κ Q (entP 10 as) [] σ
theorem nX0_life : parN yX0_life 3 := by unfold parN; decide +kernel
set_option maxHeartbeats 4000000 in
theorem eX0_life (g : GC) : CT (wC g) yX0_life (Cond.code yX0_life cX0_life 10 (some .int)) 5 109 (pX0_life g.2.1) := by
  refine CT.of (wC_ok g) (cc := cX0_life) (nL := 10) (ret := (some .int)) (ht := []) (by decide +kernel) (Or.inl ⟨rfl, rfl⟩) (B := bX0_life_0 g.2.1) (fun R E X hE => ?_)
  have h66 : E (bX0_life_66 g.2.1 R) 66 := by
    unfold bX0_life_66
    refine si_iload (pc := 66) hE dX0_life_66 ?_
    exact si_ireturn (pc := 68) hE dX0_life_68
  have h34 : E (bX0_life_34 g.2.1 R) 34 := by
    unfold bX0_life_34
    refine si_fix hE (fun J34 hJ34 => ?_)
    refine si_iload (pc := 34) hE dX0_life_34 ?_
    refine si_iload (pc := 36) hE dX0_life_36 ?_
    refine si_icmp_ge (pc := 38) hE dX0_life_38 (by decide) h66 ?_
    refine si_aload (pc := 41) hE dX0_life_41 ?_
    refine si_iload (pc := 43) hE dX0_life_43 ?_
    refine si_laload (pc := 45) hE dX0_life_45 ?_
    refine si_lstore (pc := 46) hE dX0_life_46 (by decide) ?_
    refine si_iload (pc := 48) hE dX0_life_48 ?_
    refine si_lload (pc := 50) hE dX0_life_50 ?_
    refine si_iload_n (pc := 52) hE dX0_life_52 rfl ?_
    refine si_lshr (pc := 53) hE dX0_life_53 ?_
    refine si_lconst (pc := 54) hE dX0_life_54 (by decide) ?_
    refine si_land (pc := 55) hE dX0_life_55 ?_
    refine si_l2i (pc := 56) hE dX0_life_56 ?_
    refine si_iadd (pc := 57) hE dX0_life_57 ?_
    refine si_istore (pc := 58) hE dX0_life_58 (by decide) ?_
    refine si_iinc (pc := 60) hE dX0_life_60 (by decide) (by decide) ?_
    exact si_goto (pc := 63) hE dX0_life_63 (by decide) (si_kill hE hJ34)
  have h12 : E (bX0_life_12 g.2.1 R) 12 := by
    unfold bX0_life_12
    refine si_iconst (pc := 12) hE dX0_life_12 (by decide) ?_
    refine si_istore (pc := 13) hE dX0_life_13 (by decide) ?_
    refine si_aload_n (pc := 15) hE dX0_life_15 rfl ?_
    refine si_iload_n (pc := 16) hE dX0_life_16 rfl ?_
    refine si_hv (pc := 17) (n := 1) hE dX0_life_17 ⟨cal_V (recvO cls0) (eX0_of g) (Or.inl ⟨rfl, rfl⟩) q1258 q132 q1255 q1257 qs32 ⟨by decide +kernel, by decide +kernel⟩ nX0_of (by decide) (by decide), trivial⟩ (si_out hE rfl) ?_
    refine si_iload_n (pc := 20) hE dX0_life_20 rfl ?_
    refine si_hv (pc := 21) (n := 1) hE dX0_life_21 ⟨cal_V (recvO cls3) (eX4_alive g) (Or.inl ⟨rfl, rfl⟩) q1358 q136 q1355 q1356 q1357 ⟨by decide +kernel, by decide +kernel⟩ nX4_alive (by decide) (by decide), trivial⟩ (si_out hE rfl) ?_
    refine si_astore (pc := 24) hE dX0_life_24 (by decide) ?_
    refine si_aload (pc := 26) hE dX0_life_26 ?_
    refine si_alen (pc := 28) hE dX0_life_28 ?_
    refine si_istore (pc := 29) hE dX0_life_29 (by decide) ?_
    refine si_iconst (pc := 31) hE dX0_life_31 (by decide) ?_
    refine si_istore (pc := 32) hE dX0_life_32 (by decide) ?_
    exact (si_kill hE h34)
  have h0 : E (bX0_life_0 g.2.1 R) 0 := by
    unfold bX0_life_0
    refine si_aload_n (pc := 0) hE dX0_life_0 rfl ?_
    refine si_iload_n (pc := 1) hE dX0_life_1 rfl ?_
    refine si_iload_n (pc := 2) hE dX0_life_2 rfl ?_
    refine si_iload_n (pc := 3) hE dX0_life_3 rfl ?_
    refine si_hv (pc := 4) (n := 3) hE dX0_life_4 ⟨cal_V (recvO cls0) (eX0_isPlaced g) (Or.inl ⟨rfl, rfl⟩) q1346 q132 q1343 q1345 qs35 ⟨by decide +kernel, by decide +kernel⟩ nX0_isPlaced (by decide) (by decide), trivial⟩ (si_out hE rfl) ?_
    refine si_if_ne (pc := 7) hE dX0_life_7 (by decide) h12 ?_
    refine si_iconst (pc := 10) hE dX0_life_10 (by decide) ?_
    exact si_ireturn (pc := 11) hE dX0_life_11
  exact h0
def bX0_places_20 (κ : Nat → Option Nat) (R : Ret AH) : Cont AH :=
    o_ic (-1) <|
    o_ireturn R
def bX0_places_88 (κ : Nat → Option Nat) (R : Ret AH) : Cont AH :=
    o_il 6 <|
    o_ireturn R
def bX0_places_74 (κ : Nat → Option Nat) (R : Ret AH) (J35 : Cont AH) : Cont AH :=
    o_il 3 <|
    o_lshr <|
    o_lc 1 <|
    o_land <|
    o_l2i <|
    o_iadd <|
    o_is 6 <|
    o_iinc 7 1 <|
    (o_kill [0, 1] J35)
def bX0_places_66 (κ : Nat → Option Nat) (R : Ret AH) (J35 : Cont AH) : Cont AH :=
    o_al 5 <|
    o_il 2 <|
    o_il 7 <|
    o_call 3 (hvc [(4, pX4_takenAt κ)]) (fun _ a σ => R (.inr a) σ) <|
    (bX0_places_74 κ R J35)
def bX0_places_35 (κ : Nat → Option Nat) (R : Ret AH) : Cont AH :=
    fixC fun J35 =>
    o_il 7 <|
    o_al 5 <|
    o_gR 1 [4] <|
    o_call 1 (hvc [(19, pJ2_size κ)]) (fun _ a σ => R (.inr a) σ) <|
    o_icmp_ge (bX0_places_88 κ R) <|
    o_il 6 <|
    o_il 4 <|
    o_if_ne (bX0_places_66 κ R J35) <|
    o_al 5 <|
    o_il 2 <|
    o_il 7 <|
    o_call 3 (hvc [(4, pX4_setAt κ)]) (fun _ a σ => R (.inr a) σ) <|
    (bX0_places_74 κ R J35)
def bX0_places_22 (κ : Nat → Option Nat) (R : Ret AH) : Cont AH :=
    o_al 0 <|
    o_il 1 <|
    o_call 2 (hvc [(1, pX0_of κ)]) (fun _ a σ => R (.inr a) σ) <|
    o_as 5 <|
    o_ic 0 <|
    o_is 6 <|
    o_ic 0 <|
    o_is 7 <|
    (o_kill [0, 1] (bX0_places_35 κ R))
def bX0_places_0 (κ : Nat → Option Nat) (R : Ret AH) : Cont AH :=
    o_al 0 <|
    o_il 1 <|
    o_il 2 <|
    o_il 3 <|
    o_call 4 (hvc [(1, pX0_isPlaced κ)]) (fun _ a σ => R (.inr a) σ) <|
    o_if_eq (bX0_places_20 κ R) <|
    o_il 4 <|
    o_ic 0 <|
    o_ic 1 <|
    o_call 3 (pX0_in κ) (fun _ a σ => R (.inr a) σ) <|
    o_if_ne (bX0_places_22 κ R) <|
    (bX0_places_20 κ R)
def pX0_places (κ : Nat → Option Nat) : PT AH := fun as σ Q => (lg_sl as).length ≤ 8 ∧ bX0_places_0 κ Q (entP 8 as) [] σ
theorem nX0_places : parN yX0_places 4 := by unfold parN; decide +kernel
set_option maxHeartbeats 4000000 in
theorem eX0_places (g : GC) : CT (wC g) yX0_places (Cond.code yX0_places cX0_places 8 (some .int)) 5 109 (pX0_places g.2.1) := by
  refine CT.of (wC_ok g) (cc := cX0_places) (nL := 8) (ret := (some .int)) (ht := []) (by decide +kernel) (Or.inl ⟨rfl, rfl⟩) (B := bX0_places_0 g.2.1) (fun R E X hE => ?_)
  have h20 : E (bX0_places_20 g.2.1 R) 20 := by
    unfold bX0_places_20
    refine si_iconst (pc := 20) hE dX0_places_20 (by decide) ?_
    exact si_ireturn (pc := 21) hE dX0_places_21
  have h88 : E (bX0_places_88 g.2.1 R) 88 := by
    unfold bX0_places_88
    refine si_iload (pc := 88) hE dX0_places_88 ?_
    exact si_ireturn (pc := 90) hE dX0_places_90
  have h74 : ∀ (J35 : Cont AH) (hJ35 : E J35 35), E (bX0_places_74 g.2.1 R J35) 74 := by
    intro J35 hJ35
    unfold bX0_places_74
    refine si_iload_n (pc := 74) hE dX0_places_74 rfl ?_
    refine si_lshr (pc := 75) hE dX0_places_75 ?_
    refine si_lconst (pc := 76) hE dX0_places_76 (by decide) ?_
    refine si_land (pc := 77) hE dX0_places_77 ?_
    refine si_l2i (pc := 78) hE dX0_places_78 ?_
    refine si_iadd (pc := 79) hE dX0_places_79 ?_
    refine si_istore (pc := 80) hE dX0_places_80 (by decide) ?_
    refine si_iinc (pc := 82) hE dX0_places_82 (by decide) (by decide) ?_
    exact si_goto (pc := 85) hE dX0_places_85 (by decide) (si_kill hE hJ35)
  have h66 : ∀ (J35 : Cont AH) (hJ35 : E J35 35), E (bX0_places_66 g.2.1 R J35) 66 := by
    intro J35 hJ35
    unfold bX0_places_66
    refine si_aload (pc := 66) hE dX0_places_66 ?_
    refine si_iload_n (pc := 68) hE dX0_places_68 rfl ?_
    refine si_iload (pc := 69) hE dX0_places_69 ?_
    refine si_hv (pc := 71) (n := 2) hE dX0_places_71 ⟨cal_V (recvO cls3) (eX4_takenAt g) (Or.inl ⟨rfl, rfl⟩) q1354 q136 q1351 q1352 q1353 ⟨by decide +kernel, by decide +kernel⟩ nX4_takenAt (by decide) (by decide), trivial⟩ (si_out hE rfl) ?_
    exact (h74 J35 hJ35)
  have h35 : E (bX0_places_35 g.2.1 R) 35 := by
    unfold bX0_places_35
    refine si_fix hE (fun J35 hJ35 => ?_)
    refine si_iload (pc := 35) hE dX0_places_35 ?_
    refine si_aload (pc := 37) hE dX0_places_37 ?_
    refine si_gR (pc := 39) hE dX0_places_39 (Or.inr ⟨_, q295⟩) zfo_18 ?_
    refine si_hv (pc := 42) (n := 0) hE dX0_places_42 ⟨cal_V (recvO cls18) (eJ2_size g) (Or.inl ⟨rfl, rfl⟩) q501 q139 q1109 q499 q500 ⟨by decide +kernel, by decide +kernel⟩ nJ2_size (by decide) (by decide), trivial⟩ (si_out hE rfl) ?_
    refine si_icmp_ge (pc := 45) hE dX0_places_45 (by decide) h88 ?_
    refine si_iload (pc := 48) hE dX0_places_48 ?_
    refine si_iload (pc := 50) hE dX0_places_50 ?_
    refine si_if_ne (pc := 52) hE dX0_places_52 (by decide) (h66 J35 hJ35) ?_
    refine si_aload (pc := 55) hE dX0_places_55 ?_
    refine si_iload_n (pc := 57) hE dX0_places_57 rfl ?_
    refine si_iload (pc := 58) hE dX0_places_58 ?_
    refine si_hv (pc := 60) (n := 2) hE dX0_places_60 ⟨cal_V (recvO cls3) (eX4_setAt g) (Or.inl ⟨rfl, rfl⟩) q1350 q136 q1347 q1348 q1349 ⟨by decide +kernel, by decide +kernel⟩ nX4_setAt (by decide) (by decide), trivial⟩ (si_out hE rfl) ?_
    exact si_goto (pc := 63) hE dX0_places_63 (by decide) (h74 J35 hJ35)
  have h22 : E (bX0_places_22 g.2.1 R) 22 := by
    unfold bX0_places_22
    refine si_aload_n (pc := 22) hE dX0_places_22 rfl ?_
    refine si_iload_n (pc := 23) hE dX0_places_23 rfl ?_
    refine si_hv (pc := 24) (n := 1) hE dX0_places_24 ⟨cal_V (recvO cls0) (eX0_of g) (Or.inl ⟨rfl, rfl⟩) q1258 q132 q1255 q1257 qs32 ⟨by decide +kernel, by decide +kernel⟩ nX0_of (by decide) (by decide), trivial⟩ (si_out hE rfl) ?_
    refine si_astore (pc := 27) hE dX0_places_27 (by decide) ?_
    refine si_iconst (pc := 29) hE dX0_places_29 (by decide) ?_
    refine si_istore (pc := 30) hE dX0_places_30 (by decide) ?_
    refine si_iconst (pc := 32) hE dX0_places_32 (by decide) ?_
    refine si_istore (pc := 33) hE dX0_places_33 (by decide) ?_
    exact (si_kill hE h35)
  have h0 : E (bX0_places_0 g.2.1 R) 0 := by
    unfold bX0_places_0
    refine si_aload_n (pc := 0) hE dX0_places_0 rfl ?_
    refine si_iload_n (pc := 1) hE dX0_places_1 rfl ?_
    refine si_iload_n (pc := 2) hE dX0_places_2 rfl ?_
    refine si_iload_n (pc := 3) hE dX0_places_3 rfl ?_
    refine si_hv (pc := 4) (n := 3) hE dX0_places_4 ⟨cal_V (recvO cls0) (eX0_isPlaced g) (Or.inl ⟨rfl, rfl⟩) q1346 q132 q1343 q1345 qs35 ⟨by decide +kernel, by decide +kernel⟩ nX0_isPlaced (by decide) (by decide), trivial⟩ (si_out hE rfl) ?_
    refine si_if_eq (pc := 7) hE dX0_places_7 (by decide) h20 ?_
    refine si_iload (pc := 10) hE dX0_places_10 ?_
    refine si_iconst (pc := 12) hE dX0_places_12 (by decide) ?_
    refine si_iconst (pc := 13) hE dX0_places_13 (by decide) ?_
    refine si_hs (pc := 14) (n := 3) hE dX0_places_14 (cal_S (eX0_in g) (Or.inl ⟨rfl, rfl⟩) q250 q132 q248 q249 ⟨by decide +kernel, by decide +kernel⟩ nX0_in (by decide) (by decide)) (si_out hE rfl) ?_
    refine si_if_ne (pc := 17) hE dX0_places_17 (by decide) h22 ?_
    exact h20
  exact h0
def bX0_name_12 (κ : Nat → Option Nat) (R : Ret AH) : Cont AH :=
    o_al 0 <|
    o_gR 2 [1] <|
    o_il 1 <|
    o_aI 100 <|
    o_is 3 <|
    o_al 0 <|
    o_gR 2 [1] <|
    o_il 1 <|
    o_il 2 <|
    o_sI 100 <|
    o_il 3 <|
    o_ireturn R
def bX0_name_0 (κ : Nat → Option Nat) (R : Ret AH) : Cont AH :=
    o_il 1 <|
    o_ic 0 <|
    o_ic 47 <|
    o_call 3 (pX0_in κ) (fun _ a σ => R (.inr a) σ) <|
    o_if_ne (bX0_name_12 κ R) <|
    o_ic 0 <|
    o_ireturn R
def pX0_name (κ : Nat → Option Nat) : PT AH := fun as σ Q => (lg_sl as).length ≤ 4 ∧ bX0_name_0 κ Q (entP 4 as) [] σ
theorem nX0_name : parN yX0_name 2 := by unfold parN; decide +kernel
set_option maxHeartbeats 4000000 in
theorem eX0_name (g : GC) : CT (wC g) yX0_name (Cond.code yX0_name cX0_name 4 (some .int)) 1 22 (pX0_name g.2.1) := by
  refine CT.of (wC_ok g) (cc := cX0_name) (nL := 4) (ret := (some .int)) (ht := []) (by decide +kernel) (Or.inl ⟨rfl, rfl⟩) (B := bX0_name_0 g.2.1) (fun R E X hE => ?_)
  have h12 : E (bX0_name_12 g.2.1 R) 12 := by
    unfold bX0_name_12
    refine si_aload_n (pc := 12) hE dX0_name_12 rfl ?_
    refine si_gR (pc := 13) hE dX0_name_13 (Or.inl q211) zfo_13 ?_
    refine si_iload_n (pc := 16) hE dX0_name_16 rfl ?_
    refine si_iaload (pc := 17) hE dX0_name_17 ?_
    refine si_istore_n (pc := 18) hE dX0_name_18 rfl (by decide) ?_
    refine si_aload_n (pc := 19) hE dX0_name_19 rfl ?_
    refine si_gR (pc := 20) hE dX0_name_20 (Or.inl q211) zfo_13 ?_
    refine si_iload_n (pc := 23) hE dX0_name_23 rfl ?_
    refine si_iload_n (pc := 24) hE dX0_name_24 rfl ?_
    refine si_iastore (pc := 25) hE dX0_name_25 ?_
    refine si_iload_n (pc := 26) hE dX0_name_26 rfl ?_
    exact si_ireturn (pc := 27) hE dX0_name_27
  have h0 : E (bX0_name_0 g.2.1 R) 0 := by
    unfold bX0_name_0
    refine si_iload_n (pc := 0) hE dX0_name_0 rfl ?_
    refine si_iconst (pc := 1) hE dX0_name_1 (by decide) ?_
    refine si_bipush (pc := 2) hE dX0_name_2 (by decide) ?_
    refine si_hs (pc := 4) (n := 3) hE dX0_name_4 (cal_S (eX0_in g) (Or.inl ⟨rfl, rfl⟩) q250 q132 q248 q249 ⟨by decide +kernel, by decide +kernel⟩ nX0_in (by decide) (by decide)) (si_out hE rfl) ?_
    refine si_if_ne (pc := 7) hE dX0_name_7 (by decide) h12 ?_
    refine si_iconst (pc := 10) hE dX0_name_10 (by decide) ?_
    exact si_ireturn (pc := 11) hE dX0_name_11
  exact h0
def bX21_init_97 (κ : Nat → Option Nat) (R : Ret AH) : Cont AH :=
    o_return R
def bX21_init_70 (κ : Nat → Option Nat) (R : Ret AH) : Cont AH :=
    fixC fun J70 =>
    o_il 4 <|
    o_ic 48 <|
    o_icmp_ge (bX21_init_97 κ R) <|
    o_al 0 <|
    o_gR 2 [18] <|
    o_il 4 <|
    o_al 1 <|
    o_gR 2 [1] <|
    o_il 4 <|
    o_aI 100 <|
    o_sI 100 <|
    o_iinc 4 1 <|
    (o_kill [2, 3] J70)
def bX21_init_0 (κ : Nat → Option Nat) (R : Ret AH) : Cont AH :=
    o_al 0 <|
    o_al 1 <|
    o_pR 11 [18] <|
    o_al 0 <|
    o_oi <|
    o_al 0 <|
    o_ic 48 <|
    o_newA 100 <|
    o_pR 2 [18] <|
    o_al 0 <|
    o_ic 32 <|
    o_newA 100 <|
    o_pR 3 [18] <|
    o_al 0 <|
    o_ic 32 <|
    o_newA 100 <|
    o_pR 4 [18] <|
    o_al 0 <|
    o_ic 100 <|
    o_newA 100 <|
    o_pR 5 [18] <|
    o_al 0 <|
    o_ic 2 <|
    o_ic 8 <|
    o_mna <|
    o_pR 6 [18] <|
    o_al 0 <|
    o_ic (-1) <|
    o_pI 10 [18] <|
    o_al 0 <|
    o_al 2 <|
    o_pR 0 [18] <|
    o_al 0 <|
    o_il 3 <|
    o_pI 1 [18] <|
    o_ic 0 <|
    o_is 4 <|
    (o_kill [2, 3] (bX21_init_70 κ R))
def pX21_init (κ : Nat → Option Nat) : PT AH := fun as σ Q => (lg_sl as).length ≤ 5 ∧ bX21_init_0 κ Q (entP 5 as) [] σ
theorem nX21_init : parN yX21_init 3 := by unfold parN; decide +kernel
set_option maxHeartbeats 4000000 in
theorem eX21_init (g : GC) : CT (wC g) yX21_init (Cond.code yX21_init cX21_init 5 none) 1 20 (pX21_init g.2.1) := by
  refine CT.of (wC_ok g) (cc := cX21_init) (nL := 5) (ret := none) (ht := []) (by decide +kernel) (Or.inl ⟨rfl, rfl⟩) (B := bX21_init_0 g.2.1) (fun R E X hE => ?_)
  have h97 : E (bX21_init_97 g.2.1 R) 97 := by
    unfold bX21_init_97
    exact si_return (pc := 97) hE dX21_init_97
  have h70 : E (bX21_init_70 g.2.1 R) 70 := by
    unfold bX21_init_70
    refine si_fix hE (fun J70 hJ70 => ?_)
    refine si_iload (pc := 70) hE dX21_init_70 ?_
    refine si_bipush (pc := 72) hE dX21_init_72 (by decide) ?_
    refine si_icmp_ge (pc := 74) hE dX21_init_74 (by decide) h97 ?_
    refine si_aload_n (pc := 77) hE dX21_init_77 rfl ?_
    refine si_gR (pc := 78) hE dX21_init_78 (Or.inl q1387) zfo_67 ?_
    refine si_iload (pc := 81) hE dX21_init_81 ?_
    refine si_aload_n (pc := 83) hE dX21_init_83 rfl ?_
    refine si_gR (pc := 84) hE dX21_init_84 (Or.inr ⟨_, q210⟩) zfo_13 ?_
    refine si_iload (pc := 87) hE dX21_init_87 ?_
    refine si_iaload (pc := 89) hE dX21_init_89 ?_
    refine si_iastore (pc := 90) hE dX21_init_90 ?_
    refine si_iinc (pc := 91) hE dX21_init_91 (by decide) (by decide) ?_
    exact si_goto (pc := 94) hE dX21_init_94 (by decide) (si_kill hE hJ70)
  have h0 : E (bX21_init_0 g.2.1 R) 0 := by
    unfold bX21_init_0
    refine si_aload_n (pc := 0) hE dX21_init_0 rfl ?_
    refine si_aload_n (pc := 1) hE dX21_init_1 rfl ?_
    refine si_pRF (pc := 2) hE rfl dX21_init_2 q1404 zfo_68 zfs_39 (Or.inl ⟨_, rfl⟩) ?_
    refine si_aload_n (pc := 5) hE dX21_init_5 rfl ?_
    refine si_oi (pc := 6) hE dX21_init_6 q1382 q180 q181 (by decide) (by decide) ?_
    refine si_aload_n (pc := 9) hE dX21_init_9 rfl ?_
    refine si_bipush (pc := 10) hE dX21_init_10 (by decide) ?_
    refine si_newarray0 (pc := 12) hE dX21_init_12 q205 ?_
    refine si_pRF (pc := 14) hE rfl dX21_init_14 q1387 zfo_67 zfs_40 (Or.inr ⟨_, rfl⟩) ?_
    refine si_aload_n (pc := 17) hE dX21_init_17 rfl ?_
    refine si_bipush (pc := 18) hE dX21_init_18 (by decide) ?_
    refine si_newarray0 (pc := 20) hE dX21_init_20 q205 ?_
    refine si_pRF (pc := 22) hE rfl dX21_init_22 q1389 zfo_69 zfs_41 (Or.inr ⟨_, rfl⟩) ?_
    refine si_aload_n (pc := 25) hE dX21_init_25 rfl ?_
    refine si_bipush (pc := 26) hE dX21_init_26 (by decide) ?_
    refine si_newarray0 (pc := 28) hE dX21_init_28 q205 ?_
    refine si_pRF (pc := 30) hE rfl dX21_init_30 q1390 zfo_70 zfs_42 (Or.inr ⟨_, rfl⟩) ?_
    refine si_aload_n (pc := 33) hE dX21_init_33 rfl ?_
    refine si_bipush (pc := 34) hE dX21_init_34 (by decide) ?_
    refine si_newarray0 (pc := 36) hE dX21_init_36 q205 ?_
    refine si_pRF (pc := 38) hE rfl dX21_init_38 q1392 zfo_71 zfs_43 (Or.inr ⟨_, rfl⟩) ?_
    refine si_aload_n (pc := 41) hE dX21_init_41 rfl ?_
    refine si_iconst (pc := 42) hE dX21_init_42 (by decide) ?_
    refine si_bipush (pc := 43) hE dX21_init_43 (by decide) ?_
    refine si_mna (pc := 45) hE dX21_init_45 q1383 ?_
    refine si_pRF (pc := 49) hE rfl dX21_init_49 q1394 zfo_72 zfs_44 (Or.inr ⟨_, rfl⟩) ?_
    refine si_aload_n (pc := 52) hE dX21_init_52 rfl ?_
    refine si_iconst (pc := 53) hE dX21_init_53 (by decide) ?_
    refine si_pI (pc := 54) hE dX21_init_54 (Or.inl q1402) zfo_73 ?_
    refine si_aload_n (pc := 57) hE dX21_init_57 rfl ?_
    refine si_aload_n (pc := 58) hE dX21_init_58 rfl ?_
    refine si_pRF (pc := 59) hE rfl dX21_init_59 q1385 zfo_74 zfs_45 (Or.inl ⟨_, rfl⟩) ?_
    refine si_aload_n (pc := 62) hE dX21_init_62 rfl ?_
    refine si_iload_n (pc := 63) hE dX21_init_63 rfl ?_
    refine si_pIF (pc := 64) hE rfl dX21_init_64 q1386 zfo_75 zfs_46 ?_
    refine si_iconst (pc := 67) hE dX21_init_67 (by decide) ?_
    refine si_istore (pc := 68) hE dX21_init_68 (by decide) ?_
    exact (si_kill hE h70)
  exact h0
def bX21_worth_23 (κ : Nat → Option Nat) (R : Ret AH) : Cont AH :=
    o_ireturn R
def bX21_worth_19 (κ : Nat → Option Nat) (R : Ret AH) : Cont AH :=
    o_al 1 <|
    o_gI 1 [17] <|
    (bX21_worth_23 κ R)
def bX21_worth_0 (κ : Nat → Option Nat) (R : Ret AH) : Cont AH :=
    o_al 1 <|
    o_gI 0 [17] <|
    o_if_eq (bX21_worth_19 κ R) <|
    o_al 0 <|
    o_gR 2 [18] <|
    o_al 1 <|
    o_gI 1 [17] <|
    o_aI 100 <|
    (bX21_worth_23 κ R)
def pX21_worth (κ : Nat → Option Nat) : PT AH := fun as σ Q => (lg_sl as).length ≤ 2 ∧ bX21_worth_0 κ Q (entP 2 as) [] σ
theorem nX21_worth : parN yX21_worth 1 := by unfold parN; decide +kernel
set_option maxHeartbeats 4000000 in
theorem eX21_worth (g : GC) : CT (wC g) yX21_worth (Cond.code yX21_worth cX21_worth 2 (some .int)) 0 0 (pX21_worth g.2.1) := by
  refine CT.of (wC_ok g) (cc := cX21_worth) (nL := 2) (ret := (some .int)) (ht := []) (by decide +kernel) (Or.inl ⟨rfl, rfl⟩) (B := bX21_worth_0 g.2.1) (fun R E X hE => ?_)
  have h23 : E (bX21_worth_23 g.2.1 R) 23 := by
    unfold bX21_worth_23
    exact si_ireturn (pc := 23) hE dX21_worth_23
  have h19 : E (bX21_worth_19 g.2.1 R) 19 := by
    unfold bX21_worth_19
    refine si_aload_n (pc := 19) hE dX21_worth_19 rfl ?_
    refine si_gI (pc := 20) hE dX21_worth_20 (Or.inr ⟨_, q729⟩) zfo_33 ?_
    exact h23
  have h0 : E (bX21_worth_0 g.2.1 R) 0 := by
    unfold bX21_worth_0
    refine si_aload_n (pc := 0) hE dX21_worth_0 rfl ?_
    refine si_gI (pc := 1) hE dX21_worth_1 (Or.inr ⟨_, q725⟩) zfo_32 ?_
    refine si_if_eq (pc := 4) hE dX21_worth_4 (by decide) h19 ?_
    refine si_aload_n (pc := 7) hE dX21_worth_7 rfl ?_
    refine si_gR (pc := 8) hE dX21_worth_8 (Or.inl q1387) zfo_67 ?_
    refine si_aload_n (pc := 11) hE dX21_worth_11 rfl ?_
    refine si_gI (pc := 12) hE dX21_worth_12 (Or.inr ⟨_, q729⟩) zfo_33 ?_
    refine si_iaload (pc := 15) hE dX21_worth_15 ?_
    exact si_goto (pc := 16) hE dX21_worth_16 (by decide) h23
  exact h0
def bX22_init_0 (κ : Nat → Option Nat) (R : Ret AH) : Cont AH :=
    o_al 0 <|
    o_null <|
    o_null <|
    o_ic 0 <|
    o_ic 0 <|
    o_call 5 (hvi (pJ11_init κ)) (fun _ a σ => R (.inr a) σ) <|
    o_return R
def pX22_init (κ : Nat → Option Nat) : PT AH := fun as σ Q => (lg_sl as).length ≤ 1 ∧ bX22_init_0 κ Q (entP 1 as) [] σ
theorem nX22_init : parN yX22_init 0 := by unfold parN; decide +kernel
set_option maxHeartbeats 4000000 in
theorem eX22_init (g : GC) : CT (wC g) yX22_init (Cond.code yX22_init cX22_init 1 none) 4 92 (pX22_init g.2.1) := by
  refine CT.of (wC_ok g) (cc := cX22_init) (nL := 1) (ret := none) (ht := []) (by decide +kernel) (Or.inl ⟨rfl, rfl⟩) (B := bX22_init_0 g.2.1) (fun R E X hE => ?_)
  have h0 : E (bX22_init_0 g.2.1 R) 0 := by
    unfold bX22_init_0
    refine si_aload_n (pc := 0) hE dX22_init_0 rfl ?_
    refine si_null (pc := 1) hE dX22_init_1 ?_
    refine si_null (pc := 2) hE dX22_init_2 ?_
    refine si_iconst (pc := 3) hE dX22_init_3 (by decide) ?_
    refine si_iconst (pc := 4) hE dX22_init_4 (by decide) ?_
    refine si_hi (pc := 5) (n := 4) hE dX22_init_5 (cal_I (eJ11_init g) q551 q148 q1466 q550 rfl ⟨by decide +kernel, by decide +kernel⟩ nJ11_init (by decide) (by decide)) (si_out hE rfl) ?_
    exact si_return (pc := 8) hE dX22_init_8
  exact h0
def bX21_place_18 (κ : Nat → Option Nat) (R : Ret AH) : Cont AH :=
    o_il 1 <|
    o_ireturn R
def bX21_place_0 (κ : Nat → Option Nat) (R : Ret AH) : Cont AH :=
    o_il 1 <|
    o_ic 0 <|
    o_ic 7 <|
    o_call 3 (pX0_in κ) (fun _ a σ => R (.inr a) σ) <|
    o_if_ne (bX21_place_18 κ R) <|
    o_new 5 6 <|
    o_dup <|
    o_call 1 (hvi (pX22_init κ)) (fun _ a σ => R (.inr a) σ) <|
    o_athrow (fun _ a σ => R (.inr a) σ)
def pX21_place (κ : Nat → Option Nat) : PT AH := fun as σ Q => (lg_sl as).length ≤ 2 ∧ bX21_place_0 κ Q (entP 2 as) [] σ
theorem nX21_place : parN yX21_place 1 := by unfold parN; decide +kernel
set_option maxHeartbeats 4000000 in
theorem eX21_place (g : GC) : CT (wC g) yX21_place (Cond.code yX21_place cX21_place 2 (some .int)) 5 112 (pX21_place g.2.1) := by
  refine CT.of (wC_ok g) (cc := cX21_place) (nL := 2) (ret := (some .int)) (ht := []) (by decide +kernel) (Or.inl ⟨rfl, rfl⟩) (B := bX21_place_0 g.2.1) (fun R E X hE => ?_)
  have h18 : E (bX21_place_18 g.2.1 R) 18 := by
    unfold bX21_place_18
    refine si_iload_n (pc := 18) hE dX21_place_18 rfl ?_
    exact si_ireturn (pc := 19) hE dX21_place_19
  have h0 : E (bX21_place_0 g.2.1 R) 0 := by
    unfold bX21_place_0
    refine si_iload_n (pc := 0) hE dX21_place_0 rfl ?_
    refine si_iconst (pc := 1) hE dX21_place_1 (by decide) ?_
    refine si_bipush (pc := 2) hE dX21_place_2 (by decide) ?_
    refine si_hs (pc := 4) (n := 3) hE dX21_place_4 (cal_SN (eX0_in g) (Or.inl ⟨rfl, rfl⟩) q250 q132 q1454 q249 ⟨by decide +kernel, by decide +kernel⟩ nX0_in (by decide) (by decide)) (si_out hE rfl) ?_
    refine si_if_ne (pc := 7) hE dX21_place_7 (by decide) h18 ?_
    refine si_new (pc := 10) hE dX21_place_10 cls5 q1434 q1455 q173 df_5 ?_
    refine si_dup (pc := 13) hE dX21_place_13 ?_
    refine si_hi (pc := 14) (n := 0) hE dX21_place_14 (cal_I (eX22_init g) q1465 q173 q1463 q1464 rfl ⟨by decide +kernel, by decide +kernel⟩ nX22_init (by decide) (by decide)) (si_out hE rfl) ?_
    exact si_athrow (pc := 17) hE dX21_place_17 (si_out hE rfl)
  exact h0
def bX21_work_132 (κ : Nat → Option Nat) (R : Ret AH) : Cont AH :=
    o_il 2 <|
    o_il 3 <|
    o_iand <|
    o_ireturn R
def bX21_work_128 (κ : Nat → Option Nat) (R : Ret AH) : Cont AH :=
    o_il 2 <|
    o_il 3 <|
    o_imul <|
    o_ireturn R
def bX21_work_120 (κ : Nat → Option Nat) (R : Ret AH) : Cont AH :=
    o_il 2 <|
    o_il 3 <|
    o_iadd <|
    o_ireturn R
def bX21_work_124 (κ : Nat → Option Nat) (R : Ret AH) : Cont AH :=
    o_il 2 <|
    o_il 3 <|
    o_isub <|
    o_ireturn R
def bX21_work_136 (κ : Nat → Option Nat) (R : Ret AH) : Cont AH :=
    o_il 2 <|
    o_il 3 <|
    o_ixor <|
    o_ireturn R
def bX21_work_165 (κ : Nat → Option Nat) (R : Ret AH) : Cont AH :=
    o_ireturn R
def bX21_work_162 (κ : Nat → Option Nat) (R : Ret AH) : Cont AH :=
    o_il 2 <|
    o_il 3 <|
    o_idiv <|
    (bX21_work_165 κ R)
def bX21_work_152 (κ : Nat → Option Nat) (R : Ret AH) : Cont AH :=
    o_il 3 <|
    o_ic (-1) <|
    o_icmp_ne (bX21_work_162 κ R) <|
    o_il 2 <|
    o_ineg <|
    (bX21_work_165 κ R)
def bX21_work_140 (κ : Nat → Option Nat) (R : Ret AH) : Cont AH :=
    o_il 3 <|
    o_if_ne (bX21_work_152 κ R) <|
    o_new 5 6 <|
    o_dup <|
    o_call 1 (hvi (pX22_init κ)) (fun _ a σ => R (.inr a) σ) <|
    o_athrow (fun _ a σ => R (.inr a) σ)
def bX21_work_48 (κ : Nat → Option Nat) (R : Ret AH) : Cont AH :=
    o_al 0 <|
    o_al 1 <|
    o_call 1 (hvc [(15, pX19_first κ), (16, pX17_first κ)]) (fun _ a σ => R (.inr a) σ) <|
    o_call 2 (hvc [(18, pX21_worth κ)]) (fun _ a σ => R (.inr a) σ) <|
    o_is 2 <|
    o_al 0 <|
    o_al 1 <|
    o_call 1 (hvc [(15, pX19_second κ), (16, pX17_second κ)]) (fun _ a σ => R (.inr a) σ) <|
    o_call 2 (hvc [(18, pX21_worth κ)]) (fun _ a σ => R (.inr a) σ) <|
    o_is 3 <|
    o_al 1 <|
    o_call 1 (hvc [(15, pX19_sign κ), (16, pX17_sign κ)]) (fun _ a σ => R (.inr a) σ) <|
    o_sw [(38, (bX21_work_132 κ R)), (42, (bX21_work_128 κ R)), (43, (bX21_work_120 κ R)), (45, (bX21_work_124 κ R)), (94, (bX21_work_136 κ R))] (bX21_work_140 κ R)
def bX21_work_0 (κ : Nat → Option Nat) (R : Ret AH) : Cont AH :=
    o_al 0 <|
    o_gR 4 [18] <|
    o_al 1 <|
    o_gI 0 [15, 16] <|
    o_dup2 <|
    o_aI 100 <|
    o_ic 1 <|
    o_iadd <|
    o_sI 100 <|
    o_al 1 <|
    o_inst [16] [15] <|
    o_if_eq (bX21_work_48 κ R) <|
    o_al 1 <|
    o_cast [16] <|
    o_as 2 <|
    o_al 0 <|
    o_gR 6 [18] <|
    o_al 2 <|
    o_gI 1 [16] <|
    o_aR 106 <|
    o_al 0 <|
    o_al 0 <|
    o_al 2 <|
    o_gR 2 [16] <|
    o_call 2 (hvc [(18, pX21_worth κ)]) (fun _ a σ => R (.inr a) σ) <|
    o_call 2 (hvc [(18, pX21_place κ)]) (fun _ a σ => R (.inr a) σ) <|
    o_aI 100 <|
    o_ireturn R
def pX21_work (κ : Nat → Option Nat) : PT AH := fun as σ Q => (lg_sl as).length ≤ 4 ∧ bX21_work_0 κ Q (entP 4 as) [] σ
theorem nX21_work : parN yX21_work 1 := by unfold parN; decide +kernel
set_option maxHeartbeats 4000000 in
theorem eX21_work (g : GC) : CT (wC g) yX21_work (Cond.code yX21_work cX21_work 4 (some .int)) 6 133 (pX21_work g.2.1) := by
  refine CT.of (wC_ok g) (cc := cX21_work) (nL := 4) (ret := (some .int)) (ht := []) (by decide +kernel) (Or.inl ⟨rfl, rfl⟩) (B := bX21_work_0 g.2.1) (fun R E X hE => ?_)
  have h132 : E (bX21_work_132 g.2.1 R) 132 := by
    unfold bX21_work_132
    refine si_iload_n (pc := 132) hE dX21_work_132 rfl ?_
    refine si_iload_n (pc := 133) hE dX21_work_133 rfl ?_
    refine si_iand (pc := 134) hE dX21_work_134 ?_
    exact si_ireturn (pc := 135) hE dX21_work_135
  have h128 : E (bX21_work_128 g.2.1 R) 128 := by
    unfold bX21_work_128
    refine si_iload_n (pc := 128) hE dX21_work_128 rfl ?_
    refine si_iload_n (pc := 129) hE dX21_work_129 rfl ?_
    refine si_imul (pc := 130) hE dX21_work_130 ?_
    exact si_ireturn (pc := 131) hE dX21_work_131
  have h120 : E (bX21_work_120 g.2.1 R) 120 := by
    unfold bX21_work_120
    refine si_iload_n (pc := 120) hE dX21_work_120 rfl ?_
    refine si_iload_n (pc := 121) hE dX21_work_121 rfl ?_
    refine si_iadd (pc := 122) hE dX21_work_122 ?_
    exact si_ireturn (pc := 123) hE dX21_work_123
  have h124 : E (bX21_work_124 g.2.1 R) 124 := by
    unfold bX21_work_124
    refine si_iload_n (pc := 124) hE dX21_work_124 rfl ?_
    refine si_iload_n (pc := 125) hE dX21_work_125 rfl ?_
    refine si_isub (pc := 126) hE dX21_work_126 ?_
    exact si_ireturn (pc := 127) hE dX21_work_127
  have h136 : E (bX21_work_136 g.2.1 R) 136 := by
    unfold bX21_work_136
    refine si_iload_n (pc := 136) hE dX21_work_136 rfl ?_
    refine si_iload_n (pc := 137) hE dX21_work_137 rfl ?_
    refine si_ixor (pc := 138) hE dX21_work_138 ?_
    exact si_ireturn (pc := 139) hE dX21_work_139
  have h165 : E (bX21_work_165 g.2.1 R) 165 := by
    unfold bX21_work_165
    exact si_ireturn (pc := 165) hE dX21_work_165
  have h162 : E (bX21_work_162 g.2.1 R) 162 := by
    unfold bX21_work_162
    refine si_iload_n (pc := 162) hE dX21_work_162 rfl ?_
    refine si_iload_n (pc := 163) hE dX21_work_163 rfl ?_
    refine si_idiv (pc := 164) hE dX21_work_164 ?_
    exact h165
  have h152 : E (bX21_work_152 g.2.1 R) 152 := by
    unfold bX21_work_152
    refine si_iload_n (pc := 152) hE dX21_work_152 rfl ?_
    refine si_iconst (pc := 153) hE dX21_work_153 (by decide) ?_
    refine si_icmp_ne (pc := 154) hE dX21_work_154 (by decide) h162 ?_
    refine si_iload_n (pc := 157) hE dX21_work_157 rfl ?_
    refine si_ineg (pc := 158) hE dX21_work_158 ?_
    exact si_goto (pc := 159) hE dX21_work_159 (by decide) h165
  have h140 : E (bX21_work_140 g.2.1 R) 140 := by
    unfold bX21_work_140
    refine si_iload_n (pc := 140) hE dX21_work_140 rfl ?_
    refine si_if_ne (pc := 141) hE dX21_work_141 (by decide) h152 ?_
    refine si_new (pc := 144) hE dX21_work_144 cls5 q1434 q1455 q173 df_5 ?_
    refine si_dup (pc := 147) hE dX21_work_147 ?_
    refine si_hi (pc := 148) (n := 0) hE dX21_work_148 (cal_I (eX22_init g) q1465 q173 q1463 q1464 rfl ⟨by decide +kernel, by decide +kernel⟩ nX22_init (by decide) (by decide)) (si_out hE rfl) ?_
    exact si_athrow (pc := 151) hE dX21_work_151 (si_out hE rfl)
  have h48 : E (bX21_work_48 g.2.1 R) 48 := by
    unfold bX21_work_48
    refine si_aload_n (pc := 48) hE dX21_work_48 rfl ?_
    refine si_aload_n (pc := 49) hE dX21_work_49 rfl ?_
    refine si_hv (pc := 50) (n := 0) hE dX21_work_50 ⟨cal_U (x := xm_6) (recvO cls14) (eX19_first g) (Or.inl ⟨rfl, rfl⟩) q1151 q169 q1469 q1148 (Or.inl q1147) ⟨by decide +kernel, by decide +kernel⟩ q1149 q1150 xp_6 (by decide) (by decide), ⟨cal_U (x := xm_6) (recvO cls15) (eX17_first g) (Or.inl ⟨rfl, rfl⟩) q1154 q167 q1469 q1148 (Or.inl q1147) ⟨by decide +kernel, by decide +kernel⟩ q1152 q1153 xp_6 (by decide) (by decide), trivial⟩⟩ (si_out hE rfl) ?_
    refine si_hv (pc := 53) (n := 1) hE dX21_work_53 ⟨cal_V (recvO cls17) (eX21_worth g) (Or.inl ⟨rfl, rfl⟩) q1449 q172 q1446 q1448 qs37 ⟨by decide +kernel, by decide +kernel⟩ nX21_worth (by decide) (by decide), trivial⟩ (si_out hE rfl) ?_
    refine si_istore_n (pc := 56) hE dX21_work_56 rfl (by decide) ?_
    refine si_aload_n (pc := 57) hE dX21_work_57 rfl ?_
    refine si_aload_n (pc := 58) hE dX21_work_58 rfl ?_
    refine si_hv (pc := 59) (n := 0) hE dX21_work_59 ⟨cal_U (x := xm_5) (recvO cls14) (eX19_second g) (Or.inl ⟨rfl, rfl⟩) q1164 q169 q1470 q1161 (Or.inl q1160) ⟨by decide +kernel, by decide +kernel⟩ q1162 q1163 xp_5 (by decide) (by decide), ⟨cal_U (x := xm_5) (recvO cls15) (eX17_second g) (Or.inl ⟨rfl, rfl⟩) q1167 q167 q1470 q1161 (Or.inl q1160) ⟨by decide +kernel, by decide +kernel⟩ q1165 q1166 xp_5 (by decide) (by decide), trivial⟩⟩ (si_out hE rfl) ?_
    refine si_hv (pc := 62) (n := 1) hE dX21_work_62 ⟨cal_V (recvO cls17) (eX21_worth g) (Or.inl ⟨rfl, rfl⟩) q1449 q172 q1446 q1448 qs37 ⟨by decide +kernel, by decide +kernel⟩ nX21_worth (by decide) (by decide), trivial⟩ (si_out hE rfl) ?_
    refine si_istore_n (pc := 65) hE dX21_work_65 rfl (by decide) ?_
    refine si_aload_n (pc := 66) hE dX21_work_66 rfl ?_
    refine si_hv (pc := 67) (n := 0) hE dX21_work_67 ⟨cal_U (x := xm_13) (recvO cls14) (eX19_sign g) (Or.inl ⟨rfl, rfl⟩) q1311 q169 q1471 q1308 (Or.inl q1307) ⟨by decide +kernel, by decide +kernel⟩ q1309 q1310 xp_13 (by decide) (by decide), ⟨cal_U (x := xm_13) (recvO cls15) (eX17_sign g) (Or.inl ⟨rfl, rfl⟩) q1314 q167 q1471 q1308 (Or.inl q1307) ⟨by decide +kernel, by decide +kernel⟩ q1312 q1313 xp_13 (by decide) (by decide), trivial⟩⟩ (si_out hE rfl) ?_
    exact si_lsw (pc := 70) hE dX21_work_70 (by decide) (td := 140) (by decide) h140 ⟨⟨132, by decide, by decide, h132⟩, ⟨⟨128, by decide, by decide, h128⟩, ⟨⟨120, by decide, by decide, h120⟩, ⟨⟨124, by decide, by decide, h124⟩, ⟨⟨136, by decide, by decide, h136⟩, trivial⟩⟩⟩⟩⟩
  have h0 : E (bX21_work_0 g.2.1 R) 0 := by
    unfold bX21_work_0
    refine si_aload_n (pc := 0) hE dX21_work_0 rfl ?_
    refine si_gR (pc := 1) hE dX21_work_1 (Or.inl q1390) zfo_70 ?_
    refine si_aload_n (pc := 4) hE dX21_work_4 rfl ?_
    refine si_gI (pc := 5) hE dX21_work_5 (Or.inr ⟨_, q898⟩) zfo_45 ?_
    refine si_dup2 (pc := 8) hE dX21_work_8 ?_
    refine si_iaload (pc := 9) hE dX21_work_9 ?_
    refine si_iconst (pc := 10) hE dX21_work_10 (by decide) ?_
    refine si_iadd (pc := 11) hE dX21_work_11 ?_
    refine si_iastore (pc := 12) hE dX21_work_12 ?_
    refine si_aload_n (pc := 13) hE dX21_work_13 rfl ?_
    refine si_inst (pc := 14) hE dX21_work_14 q1445 zco_4 zno_2 ?_
    refine si_if_eq (pc := 17) hE dX21_work_17 (by decide) h48 ?_
    refine si_aload_n (pc := 20) hE dX21_work_20 rfl ?_
    refine si_cast (pc := 21) hE dX21_work_21 q1445 zco_4 ?_
    refine si_astore_n (pc := 24) hE dX21_work_24 rfl (by decide) ?_
    refine si_aload_n (pc := 25) hE dX21_work_25 rfl ?_
    refine si_gR (pc := 26) hE dX21_work_26 (Or.inl q1394) zfo_72 ?_
    refine si_aload_n (pc := 29) hE dX21_work_29 rfl ?_
    refine si_gI (pc := 30) hE dX21_work_30 (Or.inr ⟨_, q892⟩) zfo_46 ?_
    refine si_aaload6 (pc := 33) hE dX21_work_33 ?_
    refine si_aload_n (pc := 34) hE dX21_work_34 rfl ?_
    refine si_aload_n (pc := 35) hE dX21_work_35 rfl ?_
    refine si_aload_n (pc := 36) hE dX21_work_36 rfl ?_
    refine si_gR (pc := 37) hE dX21_work_37 (Or.inr ⟨_, q895⟩) zfo_47 ?_
    refine si_hv (pc := 40) (n := 1) hE dX21_work_40 ⟨cal_V (recvO cls17) (eX21_worth g) (Or.inl ⟨rfl, rfl⟩) q1449 q172 q1446 q1448 qs37 ⟨by decide +kernel, by decide +kernel⟩ nX21_worth (by decide) (by decide), trivial⟩ (si_out hE rfl) ?_
    refine si_hv (pc := 43) (n := 1) hE dX21_work_43 ⟨cal_V (recvO cls17) (eX21_place g) (Or.inl ⟨rfl, rfl⟩) q1453 q172 q1450 q1452 qs38 ⟨by decide +kernel, by decide +kernel⟩ nX21_place (by decide) (by decide), trivial⟩ (si_out hE rfl) ?_
    refine si_iaload (pc := 46) hE dX21_work_46 ?_
    exact si_ireturn (pc := 47) hE dX21_work_47
  exact h0
def bX21_does_298 (κ : Nat → Option Nat) (R : Ret AH) : Cont AH :=
    o_areturn R
def bX21_does_287 (κ : Nat → Option Nat) (R : Ret AH) : Cont AH :=
    o_al 1 <|
    o_gR 2 [7, 8, 9, 10, 11, 12, 13, 14] <|
    o_ic 0 <|
    o_call 2 (hvc [(19, pJ2_get κ)]) (fun _ a σ => R (.inr a) σ) <|
    o_cast [7, 8, 9, 10, 11, 12, 13, 14] <|
    (bX21_does_298 κ R)
def bX21_does_273 (κ : Nat → Option Nat) (R : Ret AH) : Cont AH :=
    o_al 1 <|
    o_gR 2 [7, 8, 9, 10, 11, 12, 13, 14] <|
    o_call 1 (hvc [(19, pJ2_size κ)]) (fun _ a σ => R (.inr a) σ) <|
    o_if_ne (bX21_does_287 κ R) <|
    o_null <|
    (bX21_does_298 κ R)
def bX21_does_266 (κ : Nat → Option Nat) (R : Ret AH) : Cont AH :=
    o_call 2 (hvc [(19, pJ2_get κ)]) (fun _ a σ => R (.inr a) σ) <|
    o_cast [7, 8, 9, 10, 11, 12, 13, 14] <|
    o_areturn R
def bX21_does_265 (κ : Nat → Option Nat) (R : Ret AH) : Cont AH :=
    o_ic 1 <|
    (bX21_does_266 κ R)
def bX21_does_223 (κ : Nat → Option Nat) (R : Ret AH) : Cont AH :=
    o_al 1 <|
    o_inst [12] [7, 8, 9, 10, 11, 13, 14] <|
    o_if_eq (bX21_does_273 κ R) <|
    o_al 1 <|
    o_cast [12] <|
    o_as 6 <|
    o_al 1 <|
    o_gR 2 [7, 8, 9, 10, 11, 12, 13, 14] <|
    o_al 0 <|
    o_al 6 <|
    o_gR 4 [12] <|
    o_call 2 (hvc [(18, pX21_worth κ)]) (fun _ a σ => R (.inr a) σ) <|
    o_al 0 <|
    o_al 6 <|
    o_gR 5 [12] <|
    o_call 2 (hvc [(18, pX21_worth κ)]) (fun _ a σ => R (.inr a) σ) <|
    o_icmp_ge (bX21_does_265 κ R) <|
    o_ic 0 <|
    (bX21_does_266 κ R)
def bX21_does_210 (κ : Nat → Option Nat) (R : Ret AH) : Cont AH :=
    o_al 0 <|
    o_dup <|
    o_gI 9 [18] <|
    o_ic 1 <|
    o_iadd <|
    o_pI 9 [18] <|
    (bX21_does_273 κ R)
def bX21_does_170 (κ : Nat → Option Nat) (R : Ret AH) : Cont AH :=
    o_al 1 <|
    o_inst [10] [7, 8, 9, 11, 12, 13, 14] <|
    o_if_eq (bX21_does_223 κ R) <|
    o_al 1 <|
    o_cast [10] <|
    o_as 5 <|
    o_al 0 <|
    o_gI 9 [18] <|
    o_ic 100 <|
    o_icmp_ge (bX21_does_210 κ R) <|
    o_al 0 <|
    o_gR 5 [18] <|
    o_al 0 <|
    o_gI 9 [18] <|
    o_al 0 <|
    o_al 5 <|
    o_gR 4 [10] <|
    o_call 2 (hvc [(18, pX21_worth κ)]) (fun _ a σ => R (.inr a) σ) <|
    o_sI 100 <|
    (bX21_does_210 κ R)
def bX21_does_121 (κ : Nat → Option Nat) (R : Ret AH) : Cont AH :=
    o_al 1 <|
    o_inst [9] [7, 8, 10, 11, 12, 13, 14] <|
    o_if_eq (bX21_does_170 κ R) <|
    o_al 1 <|
    o_cast [9] <|
    o_as 4 <|
    o_al 0 <|
    o_gR 6 [18] <|
    o_al 4 <|
    o_gI 4 [9] <|
    o_aR 106 <|
    o_al 0 <|
    o_al 0 <|
    o_al 4 <|
    o_gR 5 [9] <|
    o_call 2 (hvc [(18, pX21_worth κ)]) (fun _ a σ => R (.inr a) σ) <|
    o_call 2 (hvc [(18, pX21_place κ)]) (fun _ a σ => R (.inr a) σ) <|
    o_al 0 <|
    o_al 4 <|
    o_gR 6 [9] <|
    o_call 2 (hvc [(18, pX21_worth κ)]) (fun _ a σ => R (.inr a) σ) <|
    o_sI 100 <|
    (bX21_does_273 κ R)
def bX21_does_89 (κ : Nat → Option Nat) (R : Ret AH) : Cont AH :=
    o_al 1 <|
    o_inst [8] [7, 9, 10, 11, 12, 13, 14] <|
    o_if_eq (bX21_does_121 κ R) <|
    o_al 1 <|
    o_cast [8] <|
    o_as 3 <|
    o_al 0 <|
    o_gR 2 [18] <|
    o_al 3 <|
    o_gI 4 [8] <|
    o_al 0 <|
    o_al 3 <|
    o_gR 5 [8] <|
    o_call 2 (hvc [(18, pX21_worth κ)]) (fun _ a σ => R (.inr a) σ) <|
    o_sI 100 <|
    (bX21_does_273 κ R)
def bX21_does_85 (κ : Nat → Option Nat) (R : Ret AH) : Cont AH :=
    o_sI 100 <|
    (bX21_does_273 κ R)
def bX21_does_77 (κ : Nat → Option Nat) (R : Ret AH) : Cont AH :=
    o_al 0 <|
    o_al 2 <|
    o_gR 5 [7] <|
    o_call 2 (hvc [(18, pX21_work κ)]) (fun _ a σ => R (.inr a) σ) <|
    (bX21_does_85 κ R)
def bX21_does_47 (κ : Nat → Option Nat) (R : Ret AH) : Cont AH :=
    o_is 7 <|
    o_al 0 <|
    o_gR 2 [18] <|
    o_al 2 <|
    o_gI 4 [7] <|
    o_il 7 <|
    o_if_eq (bX21_does_77 κ R) <|
    o_al 0 <|
    o_gR 3 [18] <|
    o_al 2 <|
    o_gR 5 [7] <|
    o_gI 0 [15, 16] <|
    o_aI 100 <|
    (bX21_does_85 κ R)
def bX21_does_46 (κ : Nat → Option Nat) (R : Ret AH) : Cont AH :=
    o_ic 0 <|
    (bX21_does_47 κ R)
def bX21_does_0 (κ : Nat → Option Nat) (R : Ret AH) : Cont AH :=
    o_al 1 <|
    o_inst [7] [8, 9, 10, 11, 12, 13, 14] <|
    o_if_eq (bX21_does_89 κ R) <|
    o_al 1 <|
    o_cast [7] <|
    o_as 2 <|
    o_al 0 <|
    o_gR 0 [18] <|
    o_al 0 <|
    o_gI 1 [18] <|
    o_al 1 <|
    o_gI 0 [7, 8, 9, 10, 11, 12, 13, 14] <|
    o_call 3 (hvc [(4, pX4_takenAt κ)]) (fun _ a σ => R (.inr a) σ) <|
    o_al 2 <|
    o_gR 5 [7] <|
    o_gI 0 [15, 16] <|
    o_lshr <|
    o_lc 1 <|
    o_land <|
    o_lc 1 <|
    o_lcmp <|
    o_if_ne (bX21_does_46 κ R) <|
    o_ic 1 <|
    (bX21_does_47 κ R)
def pX21_does (κ : Nat → Option Nat) : PT AH := fun as σ Q => (lg_sl as).length ≤ 8 ∧ bX21_does_0 κ Q (entP 8 as) [] σ
theorem nX21_does : parN yX21_does 1 := by unfold parN; decide +kernel
set_option maxHeartbeats 4000000 in
theorem eX21_does (g : GC) : CT (wC g) yX21_does (Cond.code yX21_does cX21_does 8 (some (.object "LateAndEarly$Node"))) 7 156 (pX21_does g.2.1) := by
  refine CT.of (wC_ok g) (cc := cX21_does) (nL := 8) (ret := (some (.object "LateAndEarly$Node"))) (ht := []) (by decide +kernel) (Or.inl ⟨rfl, rfl⟩) (B := bX21_does_0 g.2.1) (fun R E X hE => ?_)
  have h298 : E (bX21_does_298 g.2.1 R) 298 := by
    unfold bX21_does_298
    exact si_areturn (pc := 298) hE (Or.inl ⟨_, rfl⟩) dX21_does_298
  have h287 : E (bX21_does_287 g.2.1 R) 287 := by
    unfold bX21_does_287
    refine si_aload_n (pc := 287) hE dX21_does_287 rfl ?_
    refine si_gR (pc := 288) hE dX21_does_288 (Or.inl q759) zfo_34 ?_
    refine si_iconst (pc := 291) hE dX21_does_291 (by decide) ?_
    refine si_hv (pc := 292) (n := 1) hE dX21_does_292 ⟨cal_V (recvO cls18) (eJ2_get g) (Or.inl ⟨rfl, rfl⟩) q980 q139 q1435 q978 q979 ⟨by decide +kernel, by decide +kernel⟩ nJ2_get (by decide) (by decide), trivial⟩ (si_out hE rfl) ?_
    refine si_cast (pc := 295) hE dX21_does_295 q1436 zco_2 ?_
    exact h298
  have h273 : E (bX21_does_273 g.2.1 R) 273 := by
    unfold bX21_does_273
    refine si_aload_n (pc := 273) hE dX21_does_273 rfl ?_
    refine si_gR (pc := 274) hE dX21_does_274 (Or.inl q759) zfo_34 ?_
    refine si_hv (pc := 277) (n := 0) hE dX21_does_277 ⟨cal_V (recvO cls18) (eJ2_size g) (Or.inl ⟨rfl, rfl⟩) q501 q139 q1439 q499 q500 ⟨by decide +kernel, by decide +kernel⟩ nJ2_size (by decide) (by decide), trivial⟩ (si_out hE rfl) ?_
    refine si_if_ne (pc := 280) hE dX21_does_280 (by decide) h287 ?_
    refine si_null (pc := 283) hE dX21_does_283 ?_
    exact si_goto (pc := 284) hE dX21_does_284 (by decide) h298
  have h266 : E (bX21_does_266 g.2.1 R) 266 := by
    unfold bX21_does_266
    refine si_hv (pc := 266) (n := 1) hE dX21_does_266 ⟨cal_V (recvO cls18) (eJ2_get g) (Or.inl ⟨rfl, rfl⟩) q980 q139 q1435 q978 q979 ⟨by decide +kernel, by decide +kernel⟩ nJ2_get (by decide) (by decide), trivial⟩ (si_out hE rfl) ?_
    refine si_cast (pc := 269) hE dX21_does_269 q1436 zco_2 ?_
    exact si_areturn (pc := 272) hE (Or.inl ⟨_, rfl⟩) dX21_does_272
  have h265 : E (bX21_does_265 g.2.1 R) 265 := by
    unfold bX21_does_265
    refine si_iconst (pc := 265) hE dX21_does_265 (by decide) ?_
    exact h266
  have h223 : E (bX21_does_223 g.2.1 R) 223 := by
    unfold bX21_does_223
    refine si_aload_n (pc := 223) hE dX21_does_223 rfl ?_
    refine si_inst (pc := 224) hE dX21_does_224 q1481 zco_8 zno_3 ?_
    refine si_if_eq (pc := 227) hE dX21_does_227 (by decide) h273 ?_
    refine si_aload_n (pc := 230) hE dX21_does_230 rfl ?_
    refine si_cast (pc := 231) hE dX21_does_231 q1481 zco_8 ?_
    refine si_astore (pc := 234) hE dX21_does_234 (by decide) ?_
    refine si_aload_n (pc := 236) hE dX21_does_236 rfl ?_
    refine si_gR (pc := 237) hE dX21_does_237 (Or.inl q759) zfo_34 ?_
    refine si_aload_n (pc := 240) hE dX21_does_240 rfl ?_
    refine si_aload (pc := 241) hE dX21_does_241 ?_
    refine si_gR (pc := 243) hE dX21_does_243 (Or.inr ⟨_, q822⟩) zfo_38 ?_
    refine si_hv (pc := 246) (n := 1) hE dX21_does_246 ⟨cal_V (recvO cls17) (eX21_worth g) (Or.inl ⟨rfl, rfl⟩) q1449 q172 q1446 q1448 qs37 ⟨by decide +kernel, by decide +kernel⟩ nX21_worth (by decide) (by decide), trivial⟩ (si_out hE rfl) ?_
    refine si_aload_n (pc := 249) hE dX21_does_249 rfl ?_
    refine si_aload (pc := 250) hE dX21_does_250 ?_
    refine si_gR (pc := 252) hE dX21_does_252 (Or.inr ⟨_, q826⟩) zfo_39 ?_
    refine si_hv (pc := 255) (n := 1) hE dX21_does_255 ⟨cal_V (recvO cls17) (eX21_worth g) (Or.inl ⟨rfl, rfl⟩) q1449 q172 q1446 q1448 qs37 ⟨by decide +kernel, by decide +kernel⟩ nX21_worth (by decide) (by decide), trivial⟩ (si_out hE rfl) ?_
    refine si_icmp_ge (pc := 258) hE dX21_does_258 (by decide) h265 ?_
    refine si_iconst (pc := 261) hE dX21_does_261 (by decide) ?_
    exact si_goto (pc := 262) hE dX21_does_262 (by decide) h266
  have h210 : E (bX21_does_210 g.2.1 R) 210 := by
    unfold bX21_does_210
    refine si_aload_n (pc := 210) hE dX21_does_210 rfl ?_
    refine si_dup (pc := 211) hE dX21_does_211 ?_
    refine si_gI (pc := 212) hE dX21_does_212 (Or.inl q1400) zfo_76 ?_
    refine si_iconst (pc := 215) hE dX21_does_215 (by decide) ?_
    refine si_iadd (pc := 216) hE dX21_does_216 ?_
    refine si_pI (pc := 217) hE dX21_does_217 (Or.inl q1400) zfo_76 ?_
    exact si_goto (pc := 220) hE dX21_does_220 (by decide) h273
  have h170 : E (bX21_does_170 g.2.1 R) 170 := by
    unfold bX21_does_170
    refine si_aload_n (pc := 170) hE dX21_does_170 rfl ?_
    refine si_inst (pc := 171) hE dX21_does_171 q1480 zco_9 zno_4 ?_
    refine si_if_eq (pc := 174) hE dX21_does_174 (by decide) h223 ?_
    refine si_aload_n (pc := 177) hE dX21_does_177 rfl ?_
    refine si_cast (pc := 178) hE dX21_does_178 q1480 zco_9 ?_
    refine si_astore (pc := 181) hE dX21_does_181 (by decide) ?_
    refine si_aload_n (pc := 183) hE dX21_does_183 rfl ?_
    refine si_gI (pc := 184) hE dX21_does_184 (Or.inl q1400) zfo_76 ?_
    refine si_bipush (pc := 187) hE dX21_does_187 (by decide) ?_
    refine si_icmp_ge (pc := 189) hE dX21_does_189 (by decide) h210 ?_
    refine si_aload_n (pc := 192) hE dX21_does_192 rfl ?_
    refine si_gR (pc := 193) hE dX21_does_193 (Or.inl q1392) zfo_71 ?_
    refine si_aload_n (pc := 196) hE dX21_does_196 rfl ?_
    refine si_gI (pc := 197) hE dX21_does_197 (Or.inl q1400) zfo_76 ?_
    refine si_aload_n (pc := 200) hE dX21_does_200 rfl ?_
    refine si_aload (pc := 201) hE dX21_does_201 ?_
    refine si_gR (pc := 203) hE dX21_does_203 (Or.inr ⟨_, q747⟩) zfo_36 ?_
    refine si_hv (pc := 206) (n := 1) hE dX21_does_206 ⟨cal_V (recvO cls17) (eX21_worth g) (Or.inl ⟨rfl, rfl⟩) q1449 q172 q1446 q1448 qs37 ⟨by decide +kernel, by decide +kernel⟩ nX21_worth (by decide) (by decide), trivial⟩ (si_out hE rfl) ?_
    refine si_iastore (pc := 209) hE dX21_does_209 ?_
    exact h210
  have h121 : E (bX21_does_121 g.2.1 R) 121 := by
    unfold bX21_does_121
    refine si_aload_n (pc := 121) hE dX21_does_121 rfl ?_
    refine si_inst (pc := 122) hE dX21_does_122 q1479 zco_10 zno_5 ?_
    refine si_if_eq (pc := 125) hE dX21_does_125 (by decide) h170 ?_
    refine si_aload_n (pc := 128) hE dX21_does_128 rfl ?_
    refine si_cast (pc := 129) hE dX21_does_129 q1479 zco_10 ?_
    refine si_astore (pc := 132) hE dX21_does_132 (by decide) ?_
    refine si_aload_n (pc := 134) hE dX21_does_134 rfl ?_
    refine si_gR (pc := 135) hE dX21_does_135 (Or.inl q1394) zfo_72 ?_
    refine si_aload (pc := 138) hE dX21_does_138 ?_
    refine si_gI (pc := 140) hE dX21_does_140 (Or.inr ⟨_, q855⟩) zfo_42 ?_
    refine si_aaload6 (pc := 143) hE dX21_does_143 ?_
    refine si_aload_n (pc := 144) hE dX21_does_144 rfl ?_
    refine si_aload_n (pc := 145) hE dX21_does_145 rfl ?_
    refine si_aload (pc := 146) hE dX21_does_146 ?_
    refine si_gR (pc := 148) hE dX21_does_148 (Or.inr ⟨_, q858⟩) zfo_43 ?_
    refine si_hv (pc := 151) (n := 1) hE dX21_does_151 ⟨cal_V (recvO cls17) (eX21_worth g) (Or.inl ⟨rfl, rfl⟩) q1449 q172 q1446 q1448 qs37 ⟨by decide +kernel, by decide +kernel⟩ nX21_worth (by decide) (by decide), trivial⟩ (si_out hE rfl) ?_
    refine si_hv (pc := 154) (n := 1) hE dX21_does_154 ⟨cal_V (recvO cls17) (eX21_place g) (Or.inl ⟨rfl, rfl⟩) q1453 q172 q1450 q1452 qs38 ⟨by decide +kernel, by decide +kernel⟩ nX21_place (by decide) (by decide), trivial⟩ (si_out hE rfl) ?_
    refine si_aload_n (pc := 157) hE dX21_does_157 rfl ?_
    refine si_aload (pc := 158) hE dX21_does_158 ?_
    refine si_gR (pc := 160) hE dX21_does_160 (Or.inr ⟨_, q862⟩) zfo_44 ?_
    refine si_hv (pc := 163) (n := 1) hE dX21_does_163 ⟨cal_V (recvO cls17) (eX21_worth g) (Or.inl ⟨rfl, rfl⟩) q1449 q172 q1446 q1448 qs37 ⟨by decide +kernel, by decide +kernel⟩ nX21_worth (by decide) (by decide), trivial⟩ (si_out hE rfl) ?_
    refine si_iastore (pc := 166) hE dX21_does_166 ?_
    exact si_goto (pc := 167) hE dX21_does_167 (by decide) h273
  have h89 : E (bX21_does_89 g.2.1 R) 89 := by
    unfold bX21_does_89
    refine si_aload_n (pc := 89) hE dX21_does_89 rfl ?_
    refine si_inst (pc := 90) hE dX21_does_90 q1478 zco_11 zno_6 ?_
    refine si_if_eq (pc := 93) hE dX21_does_93 (by decide) h121 ?_
    refine si_aload_n (pc := 96) hE dX21_does_96 rfl ?_
    refine si_cast (pc := 97) hE dX21_does_97 q1478 zco_11 ?_
    refine si_astore_n (pc := 100) hE dX21_does_100 rfl (by decide) ?_
    refine si_aload_n (pc := 101) hE dX21_does_101 rfl ?_
    refine si_gR (pc := 102) hE dX21_does_102 (Or.inl q1387) zfo_67 ?_
    refine si_aload_n (pc := 105) hE dX21_does_105 rfl ?_
    refine si_gI (pc := 106) hE dX21_does_106 (Or.inl q923) zfo_77 ?_
    refine si_aload_n (pc := 109) hE dX21_does_109 rfl ?_
    refine si_aload_n (pc := 110) hE dX21_does_110 rfl ?_
    refine si_gR (pc := 111) hE dX21_does_111 (Or.inr ⟨_, q944⟩) zfo_50 ?_
    refine si_hv (pc := 114) (n := 1) hE dX21_does_114 ⟨cal_V (recvO cls17) (eX21_worth g) (Or.inl ⟨rfl, rfl⟩) q1449 q172 q1446 q1448 qs37 ⟨by decide +kernel, by decide +kernel⟩ nX21_worth (by decide) (by decide), trivial⟩ (si_out hE rfl) ?_
    refine si_iastore (pc := 117) hE dX21_does_117 ?_
    exact si_goto (pc := 118) hE dX21_does_118 (by decide) h273
  have h85 : E (bX21_does_85 g.2.1 R) 85 := by
    unfold bX21_does_85
    refine si_iastore (pc := 85) hE dX21_does_85 ?_
    exact si_goto (pc := 86) hE dX21_does_86 (by decide) h273
  have h77 : E (bX21_does_77 g.2.1 R) 77 := by
    unfold bX21_does_77
    refine si_aload_n (pc := 77) hE dX21_does_77 rfl ?_
    refine si_aload_n (pc := 78) hE dX21_does_78 rfl ?_
    refine si_gR (pc := 79) hE dX21_does_79 (Or.inr ⟨_, q918⟩) zfo_49 ?_
    refine si_hv (pc := 82) (n := 1) hE dX21_does_82 ⟨cal_V (recvO cls17) (eX21_work g) (Or.inl ⟨rfl, rfl⟩) q1444 q172 q1441 q1443 qs36 ⟨by decide +kernel, by decide +kernel⟩ nX21_work (by decide) (by decide), trivial⟩ (si_out hE rfl) ?_
    exact h85
  have h47 : E (bX21_does_47 g.2.1 R) 47 := by
    unfold bX21_does_47
    refine si_istore (pc := 47) hE dX21_does_47 (by decide) ?_
    refine si_aload_n (pc := 49) hE dX21_does_49 rfl ?_
    refine si_gR (pc := 50) hE dX21_does_50 (Or.inl q1387) zfo_67 ?_
    refine si_aload_n (pc := 53) hE dX21_does_53 rfl ?_
    refine si_gI (pc := 54) hE dX21_does_54 (Or.inl q921) zfo_78 ?_
    refine si_iload (pc := 57) hE dX21_does_57 ?_
    refine si_if_eq (pc := 59) hE dX21_does_59 (by decide) h77 ?_
    refine si_aload_n (pc := 62) hE dX21_does_62 rfl ?_
    refine si_gR (pc := 63) hE dX21_does_63 (Or.inl q1389) zfo_69 ?_
    refine si_aload_n (pc := 66) hE dX21_does_66 rfl ?_
    refine si_gR (pc := 67) hE dX21_does_67 (Or.inr ⟨_, q918⟩) zfo_49 ?_
    refine si_gI (pc := 70) hE dX21_does_70 (Or.inr ⟨_, q898⟩) zfo_45 ?_
    refine si_iaload (pc := 73) hE dX21_does_73 ?_
    exact si_goto (pc := 74) hE dX21_does_74 (by decide) h85
  have h46 : E (bX21_does_46 g.2.1 R) 46 := by
    unfold bX21_does_46
    refine si_iconst (pc := 46) hE dX21_does_46 (by decide) ?_
    exact h47
  have h0 : E (bX21_does_0 g.2.1 R) 0 := by
    unfold bX21_does_0
    refine si_aload_n (pc := 0) hE dX21_does_0 rfl ?_
    refine si_inst (pc := 1) hE dX21_does_1 q1476 zco_6 zno_7 ?_
    refine si_if_eq (pc := 4) hE dX21_does_4 (by decide) h89 ?_
    refine si_aload_n (pc := 7) hE dX21_does_7 rfl ?_
    refine si_cast (pc := 8) hE dX21_does_8 q1476 zco_6 ?_
    refine si_astore_n (pc := 11) hE dX21_does_11 rfl (by decide) ?_
    refine si_aload_n (pc := 12) hE dX21_does_12 rfl ?_
    refine si_gR (pc := 13) hE dX21_does_13 (Or.inl q1385) zfo_74 ?_
    refine si_aload_n (pc := 16) hE dX21_does_16 rfl ?_
    refine si_gI (pc := 17) hE dX21_does_17 (Or.inl q1386) zfo_75 ?_
    refine si_aload_n (pc := 20) hE dX21_does_20 rfl ?_
    refine si_gI (pc := 21) hE dX21_does_21 (Or.inr ⟨_, q751⟩) zfo_55 ?_
    refine si_hv (pc := 24) (n := 2) hE dX21_does_24 ⟨cal_V (recvO cls3) (eX4_takenAt g) (Or.inl ⟨rfl, rfl⟩) q1354 q136 q1477 q1352 q1353 ⟨by decide +kernel, by decide +kernel⟩ nX4_takenAt (by decide) (by decide), trivial⟩ (si_out hE rfl) ?_
    refine si_aload_n (pc := 27) hE dX21_does_27 rfl ?_
    refine si_gR (pc := 28) hE dX21_does_28 (Or.inr ⟨_, q918⟩) zfo_49 ?_
    refine si_gI (pc := 31) hE dX21_does_31 (Or.inr ⟨_, q898⟩) zfo_45 ?_
    refine si_lshr (pc := 34) hE dX21_does_34 ?_
    refine si_lconst (pc := 35) hE dX21_does_35 (by decide) ?_
    refine si_land (pc := 36) hE dX21_does_36 ?_
    refine si_lconst (pc := 37) hE dX21_does_37 (by decide) ?_
    refine si_lcmp (pc := 38) hE dX21_does_38 ?_
    refine si_if_ne (pc := 39) hE dX21_does_39 (by decide) h46 ?_
    refine si_iconst (pc := 42) hE dX21_does_42 (by decide) ?_
    exact si_goto (pc := 43) hE dX21_does_43 (by decide) h47
  exact h0
def bX21_go_172 (κ : Nat → Option Nat) (R : Ret AH) : Cont AH :=
    o_return R
def bX21_go_158 (κ : Nat → Option Nat) (R : Ret AH) : Cont AH :=
    o_as 2 <|
    o_al 0 <|
    o_ic 1 <|
    o_pI 7 [18] <|
    o_al 0 <|
    o_al 1 <|
    o_gI 1 [7, 8, 9, 10, 11, 12, 13, 14] <|
    o_pI 10 [18] <|
    (bX21_go_172 κ R)
def bX21_go_150 (κ : Nat → Option Nat) (R : Ret AH) : Cont AH :=
    o_al 0 <|
    o_ic 0 <|
    o_pI 7 [18] <|
    (bX21_go_172 κ R)
def bX21_go_141 (κ : Nat → Option Nat) (R : Ret AH) (J15 : Cont AH) : Cont AH :=
    o_al 0 <|
    o_al 1 <|
    o_call 2 (hvc [(18, pX21_does κ)]) (fun L a σ => hT σ a = 6 ∧ (bX21_go_158 κ R) L [.ref a] σ) <|
    o_as 1 <|
    (o_kill [2, 3, 4, 5] J15)
def bX21_go_135 (κ : Nat → Option Nat) (R : Ret AH) (J15 : Cont AH) (J73 : Cont AH) : Cont AH :=
    o_iinc 4 1 <|
    (o_kill [3, 5] J73)
def bX21_go_73 (κ : Nat → Option Nat) (R : Ret AH) (J15 : Cont AH) : Cont AH :=
    fixC fun J73 =>
    o_il 4 <|
    o_al 0 <|
    o_gR 0 [18] <|
    o_gR 2 [4] <|
    o_call 1 (hvc [(19, pJ2_size κ)]) (fun L a σ => hT σ a = 6 ∧ (bX21_go_158 κ R) L [.ref a] σ) <|
    o_icmp_ge (bX21_go_141 κ R J15) <|
    o_al 0 <|
    o_gR 0 [18] <|
    o_gR 2 [4] <|
    o_il 4 <|
    o_call 2 (hvc [(19, pJ2_get κ)]) (fun L a σ => hT σ a = 6 ∧ (bX21_go_158 κ R) L [.ref a] σ) <|
    o_cast [15, 16] <|
    o_as 5 <|
    o_ll 2 <|
    o_al 5 <|
    o_gI 0 [15, 16] <|
    o_lshr <|
    o_lc 1 <|
    o_land <|
    o_lc 1 <|
    o_lcmp <|
    o_if_ne (bX21_go_135 κ R J15 J73) <|
    o_al 0 <|
    o_gR 3 [18] <|
    o_al 5 <|
    o_gI 0 [15, 16] <|
    o_al 0 <|
    o_al 5 <|
    o_call 2 (hvc [(18, pX21_work κ)]) (fun L a σ => hT σ a = 6 ∧ (bX21_go_158 κ R) L [.ref a] σ) <|
    o_sI 100 <|
    (bX21_go_135 κ R J15 J73)
def bX21_go_54 (κ : Nat → Option Nat) (R : Ret AH) (J15 : Cont AH) : Cont AH :=
    o_al 0 <|
    o_gR 0 [18] <|
    o_al 0 <|
    o_gI 1 [18] <|
    o_al 1 <|
    o_gI 0 [7, 8, 9, 10, 11, 12, 13, 14] <|
    o_call 3 (hvc [(4, pX4_setAt κ)]) (fun L a σ => hT σ a = 6 ∧ (bX21_go_158 κ R) L [.ref a] σ) <|
    o_ls 2 <|
    o_ic 0 <|
    o_is 4 <|
    (o_kill [3, 5] (bX21_go_73 κ R J15))
def bX21_go_44 (κ : Nat → Option Nat) (R : Ret AH) (J15 : Cont AH) : Cont AH :=
    o_al 0 <|
    o_dup <|
    o_gI 8 [18] <|
    o_ic 1 <|
    o_iadd <|
    o_pI 8 [18] <|
    (bX21_go_54 κ R J15)
def bX21_go_15 (κ : Nat → Option Nat) (R : Ret AH) : Cont AH :=
    fixC fun J15 =>
    o_al 1 <|
    o_ifnull (bX21_go_150 κ R) <|
    o_al 1 <|
    o_call 1 (hvc [(7, pX15_kind κ), (8, pX18_kind κ), (9, pX13_kind κ), (10, pX7_kind κ), (11, pX11_kind κ), (12, pX12_kind κ), (13, pX10_kind κ), (14, pX20_kind κ)]) (fun L a σ => hT σ a = 6 ∧ (bX21_go_158 κ R) L [.ref a] σ) <|
    o_ic 7 <|
    o_icmp_eq (bX21_go_54 κ R J15) <|
    o_al 0 <|
    o_gI 8 [18] <|
    o_ic 1000 <|
    o_icmp_ne (bX21_go_44 κ R J15) <|
    o_al 0 <|
    o_ic 2 <|
    o_pI 7 [18] <|
    o_return R
def bX21_go_0 (κ : Nat → Option Nat) (R : Ret AH) : Cont AH :=
    o_al 0 <|
    o_gR 0 [18] <|
    o_gR 1 [4] <|
    o_ic 0 <|
    o_call 2 (hvc [(19, pJ2_get κ)]) (fun _ a σ => R (.inr a) σ) <|
    o_cast [7, 8, 9, 10, 11, 12, 13, 14] <|
    o_as 1 <|
    (o_kill [2, 3, 4, 5] (bX21_go_15 κ R))
def pX21_go (κ : Nat → Option Nat) : PT AH := fun as σ Q => (lg_sl as).length ≤ 6 ∧ bX21_go_0 κ Q (entP 6 as) [] σ
theorem nX21_go : parN yX21_go 0 := by unfold parN; decide +kernel
set_option maxHeartbeats 4000000 in
theorem eX21_go (g : GC) : CT (wC g) yX21_go (Cond.codeWith yX21_go cX21_go 6 none [(15, 43, 158, 60), (44, 155, 158, 60)]) 8 183 (pX21_go g.2.1) := by
  refine CT.of (wC_ok g) (cc := cX21_go) (nL := 6) (ret := none) (ht := [(15, 43, 158, 60), (44, 155, 158, 60)]) (by decide +kernel) (Or.inr rfl) (B := bX21_go_0 g.2.1) (fun R E X hE => ?_)
  have h172 : E (bX21_go_172 g.2.1 R) 172 := by
    unfold bX21_go_172
    exact si_return (pc := 172) hE dX21_go_172
  have h158 : E (bX21_go_158 g.2.1 R) 158 := by
    unfold bX21_go_158
    refine si_astore_n (pc := 158) hE dX21_go_158 rfl (by decide) ?_
    refine si_aload_n (pc := 159) hE dX21_go_159 rfl ?_
    refine si_iconst (pc := 160) hE dX21_go_160 (by decide) ?_
    refine si_pI (pc := 161) hE dX21_go_161 (Or.inl q1396) zfo_79 ?_
    refine si_aload_n (pc := 164) hE dX21_go_164 rfl ?_
    refine si_aload_n (pc := 165) hE dX21_go_165 rfl ?_
    refine si_gI (pc := 166) hE dX21_go_166 (Or.inr ⟨_, q755⟩) zfo_56 ?_
    refine si_pI (pc := 169) hE dX21_go_169 (Or.inl q1402) zfo_73 ?_
    exact h172
  have h150 : E (bX21_go_150 g.2.1 R) 150 := by
    unfold bX21_go_150
    refine si_aload_n (pc := 150) hE dX21_go_150 rfl ?_
    refine si_iconst (pc := 151) hE dX21_go_151 (by decide) ?_
    refine si_pI (pc := 152) hE dX21_go_152 (Or.inl q1396) zfo_79 ?_
    exact si_goto (pc := 155) hE dX21_go_155 (by decide) h172
  have h141 : ∀ (J15 : Cont AH) (hJ15 : E J15 15), E (bX21_go_141 g.2.1 R J15) 141 := by
    intro J15 hJ15
    unfold bX21_go_141
    refine si_aload_n (pc := 141) hE dX21_go_141 rfl ?_
    refine si_aload_n (pc := 142) hE dX21_go_142 rfl ?_
    refine si_hv (pc := 143) (n := 1) hE dX21_go_143 ⟨cal_V (recvO cls17) (eX21_does g) (Or.inl ⟨rfl, rfl⟩) q1475 q172 q1472 q1474 qs39 ⟨by decide +kernel, by decide +kernel⟩ nX21_does (by decide) (by decide), trivial⟩ (si_catch hE (tgt := 158) (idx := 60) (by decide) (by decide) q1434 cls5 h158) ?_
    refine si_astore_n (pc := 146) hE dX21_go_146 rfl (by decide) ?_
    exact si_goto (pc := 147) hE dX21_go_147 (by decide) (si_kill hE hJ15)
  have h135 : ∀ (J15 : Cont AH) (hJ15 : E J15 15) (J73 : Cont AH) (hJ73 : E J73 73), E (bX21_go_135 g.2.1 R J15 J73) 135 := by
    intro J15 hJ15 J73 hJ73
    unfold bX21_go_135
    refine si_iinc (pc := 135) hE dX21_go_135 (by decide) (by decide) ?_
    exact si_goto (pc := 138) hE dX21_go_138 (by decide) (si_kill hE hJ73)
  have h73 : ∀ (J15 : Cont AH) (hJ15 : E J15 15), E (bX21_go_73 g.2.1 R J15) 73 := by
    intro J15 hJ15
    unfold bX21_go_73
    refine si_fix hE (fun J73 hJ73 => ?_)
    refine si_iload (pc := 73) hE dX21_go_73 ?_
    refine si_aload_n (pc := 75) hE dX21_go_75 rfl ?_
    refine si_gR (pc := 76) hE dX21_go_76 (Or.inl q1385) zfo_74 ?_
    refine si_gR (pc := 79) hE dX21_go_79 (Or.inr ⟨_, q298⟩) zfo_19 ?_
    refine si_hv (pc := 82) (n := 0) hE dX21_go_82 ⟨cal_V (recvO cls18) (eJ2_size g) (Or.inl ⟨rfl, rfl⟩) q501 q139 q1439 q499 q500 ⟨by decide +kernel, by decide +kernel⟩ nJ2_size (by decide) (by decide), trivial⟩ (si_catch hE (tgt := 158) (idx := 60) (by decide) (by decide) q1434 cls5 h158) ?_
    refine si_icmp_ge (pc := 85) hE dX21_go_85 (by decide) (h141 J15 hJ15) ?_
    refine si_aload_n (pc := 88) hE dX21_go_88 rfl ?_
    refine si_gR (pc := 89) hE dX21_go_89 (Or.inl q1385) zfo_74 ?_
    refine si_gR (pc := 92) hE dX21_go_92 (Or.inr ⟨_, q298⟩) zfo_19 ?_
    refine si_iload (pc := 95) hE dX21_go_95 ?_
    refine si_hv (pc := 97) (n := 1) hE dX21_go_97 ⟨cal_V (recvO cls18) (eJ2_get g) (Or.inl ⟨rfl, rfl⟩) q980 q139 q1435 q978 q979 ⟨by decide +kernel, by decide +kernel⟩ nJ2_get (by decide) (by decide), trivial⟩ (si_catch hE (tgt := 158) (idx := 60) (by decide) (by decide) q1434 cls5 h158) ?_
    refine si_cast (pc := 100) hE dX21_go_100 q1440 zco_5 ?_
    refine si_astore (pc := 103) hE dX21_go_103 (by decide) ?_
    refine si_lload_n (pc := 105) hE dX21_go_105 rfl ?_
    refine si_aload (pc := 106) hE dX21_go_106 ?_
    refine si_gI (pc := 108) hE dX21_go_108 (Or.inr ⟨_, q898⟩) zfo_45 ?_
    refine si_lshr (pc := 111) hE dX21_go_111 ?_
    refine si_lconst (pc := 112) hE dX21_go_112 (by decide) ?_
    refine si_land (pc := 113) hE dX21_go_113 ?_
    refine si_lconst (pc := 114) hE dX21_go_114 (by decide) ?_
    refine si_lcmp (pc := 115) hE dX21_go_115 ?_
    refine si_if_ne (pc := 116) hE dX21_go_116 (by decide) (h135 J15 hJ15 J73 hJ73) ?_
    refine si_aload_n (pc := 119) hE dX21_go_119 rfl ?_
    refine si_gR (pc := 120) hE dX21_go_120 (Or.inl q1389) zfo_69 ?_
    refine si_aload (pc := 123) hE dX21_go_123 ?_
    refine si_gI (pc := 125) hE dX21_go_125 (Or.inr ⟨_, q898⟩) zfo_45 ?_
    refine si_aload_n (pc := 128) hE dX21_go_128 rfl ?_
    refine si_aload (pc := 129) hE dX21_go_129 ?_
    refine si_hv (pc := 131) (n := 1) hE dX21_go_131 ⟨cal_V (recvO cls17) (eX21_work g) (Or.inl ⟨rfl, rfl⟩) q1444 q172 q1441 q1443 qs36 ⟨by decide +kernel, by decide +kernel⟩ nX21_work (by decide) (by decide), trivial⟩ (si_catch hE (tgt := 158) (idx := 60) (by decide) (by decide) q1434 cls5 h158) ?_
    refine si_iastore (pc := 134) hE dX21_go_134 ?_
    exact (h135 J15 hJ15 J73 hJ73)
  have h54 : ∀ (J15 : Cont AH) (hJ15 : E J15 15), E (bX21_go_54 g.2.1 R J15) 54 := by
    intro J15 hJ15
    unfold bX21_go_54
    refine si_aload_n (pc := 54) hE dX21_go_54 rfl ?_
    refine si_gR (pc := 55) hE dX21_go_55 (Or.inl q1385) zfo_74 ?_
    refine si_aload_n (pc := 58) hE dX21_go_58 rfl ?_
    refine si_gI (pc := 59) hE dX21_go_59 (Or.inl q1386) zfo_75 ?_
    refine si_aload_n (pc := 62) hE dX21_go_62 rfl ?_
    refine si_gI (pc := 63) hE dX21_go_63 (Or.inr ⟨_, q751⟩) zfo_55 ?_
    refine si_hv (pc := 66) (n := 2) hE dX21_go_66 ⟨cal_V (recvO cls3) (eX4_setAt g) (Or.inl ⟨rfl, rfl⟩) q1350 q136 q1438 q1348 q1349 ⟨by decide +kernel, by decide +kernel⟩ nX4_setAt (by decide) (by decide), trivial⟩ (si_catch hE (tgt := 158) (idx := 60) (by decide) (by decide) q1434 cls5 h158) ?_
    refine si_lstore_n (pc := 69) hE dX21_go_69 rfl (by decide) ?_
    refine si_iconst (pc := 70) hE dX21_go_70 (by decide) ?_
    refine si_istore (pc := 71) hE dX21_go_71 (by decide) ?_
    exact (si_kill hE (h73 J15 hJ15))
  have h44 : ∀ (J15 : Cont AH) (hJ15 : E J15 15), E (bX21_go_44 g.2.1 R J15) 44 := by
    intro J15 hJ15
    unfold bX21_go_44
    refine si_aload_n (pc := 44) hE dX21_go_44 rfl ?_
    refine si_dup (pc := 45) hE dX21_go_45 ?_
    refine si_gI (pc := 46) hE dX21_go_46 (Or.inl q1398) zfo_80 ?_
    refine si_iconst (pc := 49) hE dX21_go_49 (by decide) ?_
    refine si_iadd (pc := 50) hE dX21_go_50 ?_
    refine si_pI (pc := 51) hE dX21_go_51 (Or.inl q1398) zfo_80 ?_
    exact (h54 J15 hJ15)
  have h15 : E (bX21_go_15 g.2.1 R) 15 := by
    unfold bX21_go_15
    refine si_fix hE (fun J15 hJ15 => ?_)
    refine si_aload_n (pc := 15) hE dX21_go_15 rfl ?_
    refine si_ifnull (pc := 16) hE dX21_go_16 (by decide) h150 ?_
    refine si_aload_n (pc := 19) hE dX21_go_19 rfl ?_
    refine si_hv (pc := 20) (n := 0) hE dX21_go_20 ⟨cal_U (x := xm_12) (recvO cls6) (eX15_kind g) (Or.inl ⟨rfl, rfl⟩) q1289 q165 q1437 q1271 (Or.inl q1270) ⟨by decide +kernel, by decide +kernel⟩ q1287 q1288 xp_12 (by decide) (by decide), ⟨cal_U (x := xm_12) (recvO cls7) (eX18_kind g) (Or.inl ⟨rfl, rfl⟩) q1286 q168 q1437 q1271 (Or.inl q1270) ⟨by decide +kernel, by decide +kernel⟩ q1284 q1285 xp_12 (by decide) (by decide), ⟨cal_U (x := xm_12) (recvO cls8) (eX13_kind g) (Or.inl ⟨rfl, rfl⟩) q1295 q163 q1437 q1271 (Or.inl q1270) ⟨by decide +kernel, by decide +kernel⟩ q1293 q1294 xp_12 (by decide) (by decide), ⟨cal_U (x := xm_12) (recvO cls9) (eX7_kind g) (Or.inl ⟨rfl, rfl⟩) q1292 q157 q1437 q1271 (Or.inl q1270) ⟨by decide +kernel, by decide +kernel⟩ q1290 q1291 xp_12 (by decide) (by decide), ⟨cal_U (x := xm_12) (recvO cls10) (eX11_kind g) (Or.inl ⟨rfl, rfl⟩) q1274 q161 q1437 q1271 (Or.inl q1270) ⟨by decide +kernel, by decide +kernel⟩ q1272 q1273 xp_12 (by decide) (by decide), ⟨cal_U (x := xm_12) (recvO cls11) (eX12_kind g) (Or.inl ⟨rfl, rfl⟩) q1277 q162 q1437 q1271 (Or.inl q1270) ⟨by decide +kernel, by decide +kernel⟩ q1275 q1276 xp_12 (by decide) (by decide), ⟨cal_U (x := xm_12) (recvO cls12) (eX10_kind g) (Or.inl ⟨rfl, rfl⟩) q1280 q160 q1437 q1271 (Or.inl q1270) ⟨by decide +kernel, by decide +kernel⟩ q1278 q1279 xp_12 (by decide) (by decide), ⟨cal_U (x := xm_12) (recvO cls13) (eX20_kind g) (Or.inl ⟨rfl, rfl⟩) q1283 q171 q1437 q1271 (Or.inl q1270) ⟨by decide +kernel, by decide +kernel⟩ q1281 q1282 xp_12 (by decide) (by decide), trivial⟩⟩⟩⟩⟩⟩⟩⟩ (si_catch hE (tgt := 158) (idx := 60) (by decide) (by decide) q1434 cls5 h158) ?_
    refine si_bipush (pc := 23) hE dX21_go_23 (by decide) ?_
    refine si_icmp_eq (pc := 25) hE dX21_go_25 (by decide) (h54 J15 hJ15) ?_
    refine si_aload_n (pc := 28) hE dX21_go_28 rfl ?_
    refine si_gI (pc := 29) hE dX21_go_29 (Or.inl q1398) zfo_80 ?_
    refine si_sipush (pc := 32) hE dX21_go_32 (by decide) ?_
    refine si_icmp_ne (pc := 35) hE dX21_go_35 (by decide) (h44 J15 hJ15) ?_
    refine si_aload_n (pc := 38) hE dX21_go_38 rfl ?_
    refine si_iconst (pc := 39) hE dX21_go_39 (by decide) ?_
    refine si_pI (pc := 40) hE dX21_go_40 (Or.inl q1396) zfo_79 ?_
    exact si_return (pc := 43) hE dX21_go_43
  have h0 : E (bX21_go_0 g.2.1 R) 0 := by
    unfold bX21_go_0
    refine si_aload_n (pc := 0) hE dX21_go_0 rfl ?_
    refine si_gR (pc := 1) hE dX21_go_1 (Or.inl q1385) zfo_74 ?_
    refine si_gR (pc := 4) hE dX21_go_4 (Or.inr ⟨_, q294⟩) zfo_18 ?_
    refine si_iconst (pc := 7) hE dX21_go_7 (by decide) ?_
    refine si_hv (pc := 8) (n := 1) hE dX21_go_8 ⟨cal_V (recvO cls18) (eJ2_get g) (Or.inl ⟨rfl, rfl⟩) q980 q139 q1435 q978 q979 ⟨by decide +kernel, by decide +kernel⟩ nJ2_get (by decide) (by decide), trivial⟩ (si_out hE (by decide)) ?_
    refine si_cast (pc := 11) hE dX21_go_11 q1436 zco_2 ?_
    refine si_astore_n (pc := 14) hE dX21_go_14 rfl (by decide) ?_
    exact (si_kill hE h15)
  exact h0
def bX0_run_17 (κ : Nat → Option Nat) (R : Ret AH) : Cont AH :=
    o_ic (-1) <|
    o_ireturn R
def bX0_run_19 (κ : Nat → Option Nat) (R : Ret AH) : Cont AH :=
    o_al 0 <|
    o_new 17 12 <|
    o_dup <|
    o_al 0 <|
    o_al 0 <|
    o_il 1 <|
    o_call 2 (hvc [(1, pX0_of κ)]) (fun _ a σ => R (.inr a) σ) <|
    o_il 2 <|
    o_call 4 (hvi (pX21_init κ)) (fun _ a σ => R (.inr a) σ) <|
    o_pR 5 [1] <|
    o_al 0 <|
    o_gR 5 [1] <|
    o_call 1 (hvc [(18, pX21_go κ)]) (fun _ a σ => R (.inr a) σ) <|
    o_al 0 <|
    o_gR 5 [1] <|
    o_gI 7 [18] <|
    o_ireturn R
def bX0_run_0 (κ : Nat → Option Nat) (R : Ret AH) : Cont AH :=
    o_al 0 <|
    o_il 1 <|
    o_call 2 (hvc [(1, pX0_of κ)]) (fun _ a σ => R (.inr a) σ) <|
    o_ifnull (bX0_run_17 κ R) <|
    o_il 2 <|
    o_ic 0 <|
    o_ic 2 <|
    o_call 3 (pX0_in κ) (fun _ a σ => R (.inr a) σ) <|
    o_if_ne (bX0_run_19 κ R) <|
    (bX0_run_17 κ R)
def pX0_run (κ : Nat → Option Nat) : PT AH := fun as σ Q => (lg_sl as).length ≤ 3 ∧ bX0_run_0 κ Q (entP 3 as) [] σ
theorem nX0_run : parN yX0_run 2 := by unfold parN; decide +kernel
set_option maxHeartbeats 4000000 in
theorem eX0_run (g : GC) : CT (wC g) yX0_run (Cond.code yX0_run cX0_run 3 (some .int)) 9 208 (pX0_run g.2.1) := by
  refine CT.of (wC_ok g) (cc := cX0_run) (nL := 3) (ret := (some .int)) (ht := []) (by decide +kernel) (Or.inl ⟨rfl, rfl⟩) (B := bX0_run_0 g.2.1) (fun R E X hE => ?_)
  have h17 : E (bX0_run_17 g.2.1 R) 17 := by
    unfold bX0_run_17
    refine si_iconst (pc := 17) hE dX0_run_17 (by decide) ?_
    exact si_ireturn (pc := 18) hE dX0_run_18
  have h19 : E (bX0_run_19 g.2.1 R) 19 := by
    unfold bX0_run_19
    refine si_aload_n (pc := 19) hE dX0_run_19 rfl ?_
    refine si_new (pc := 20) hE dX0_run_20 cls17 q1377 q1378 q172 df_17 ?_
    refine si_dup (pc := 23) hE dX0_run_23 ?_
    refine si_aload_n (pc := 24) hE dX0_run_24 rfl ?_
    refine si_aload_n (pc := 25) hE dX0_run_25 rfl ?_
    refine si_iload_n (pc := 26) hE dX0_run_26 rfl ?_
    refine si_hv (pc := 27) (n := 1) hE dX0_run_27 ⟨cal_V (recvO cls0) (eX0_of g) (Or.inl ⟨rfl, rfl⟩) q1258 q132 q1255 q1257 qs32 ⟨by decide +kernel, by decide +kernel⟩ nX0_of (by decide) (by decide), trivial⟩ (si_out hE rfl) ?_
    refine si_iload_n (pc := 30) hE dX0_run_30 rfl ?_
    refine si_hi (pc := 31) (n := 3) hE dX0_run_31 (cal_I (eX21_init g) q1381 q172 q1379 q1380 rfl ⟨by decide +kernel, by decide +kernel⟩ nX21_init (by decide) (by decide)) (si_out hE rfl) ?_
    refine si_pR (pc := 34) hE dX0_run_34 (Or.inl q214) zfo_81 (Or.inl ⟨_, rfl⟩) ?_
    refine si_aload_n (pc := 37) hE dX0_run_37 rfl ?_
    refine si_gR (pc := 38) hE dX0_run_38 (Or.inl q214) zfo_81 ?_
    refine si_hv (pc := 41) (n := 0) hE dX0_run_41 ⟨cal_V (recvO cls17) (eX21_go g) (Or.inr rfl) q1433 q172 q1430 q1431 q1432 ⟨by decide +kernel, by decide +kernel⟩ nX21_go (by decide) (by decide), trivial⟩ (si_out hE rfl) ?_
    refine si_aload_n (pc := 44) hE dX0_run_44 rfl ?_
    refine si_gR (pc := 45) hE dX0_run_45 (Or.inl q214) zfo_81 ?_
    refine si_gI (pc := 48) hE dX0_run_48 (Or.inr ⟨_, q1397⟩) zfo_79 ?_
    exact si_ireturn (pc := 51) hE dX0_run_51
  have h0 : E (bX0_run_0 g.2.1 R) 0 := by
    unfold bX0_run_0
    refine si_aload_n (pc := 0) hE dX0_run_0 rfl ?_
    refine si_iload_n (pc := 1) hE dX0_run_1 rfl ?_
    refine si_hv (pc := 2) (n := 1) hE dX0_run_2 ⟨cal_V (recvO cls0) (eX0_of g) (Or.inl ⟨rfl, rfl⟩) q1258 q132 q1255 q1257 qs32 ⟨by decide +kernel, by decide +kernel⟩ nX0_of (by decide) (by decide), trivial⟩ (si_out hE rfl) ?_
    refine si_ifnull (pc := 5) hE dX0_run_5 (by decide) h17 ?_
    refine si_iload_n (pc := 8) hE dX0_run_8 rfl ?_
    refine si_iconst (pc := 9) hE dX0_run_9 (by decide) ?_
    refine si_iconst (pc := 10) hE dX0_run_10 (by decide) ?_
    refine si_hs (pc := 11) (n := 3) hE dX0_run_11 (cal_S (eX0_in g) (Or.inl ⟨rfl, rfl⟩) q250 q132 q248 q249 ⟨by decide +kernel, by decide +kernel⟩ nX0_in (by decide) (by decide)) (si_out hE rfl) ?_
    refine si_if_ne (pc := 14) hE dX0_run_14 (by decide) h19 ?_
    exact h17
  exact h0
def bX0_ran_119 (κ : Nat → Option Nat) (R : Ret AH) : Cont AH :=
    o_ireturn R
def bX0_ran_112 (κ : Nat → Option Nat) (R : Ret AH) : Cont AH :=
    o_al 0 <|
    o_gR 5 [1] <|
    o_gI 10 [18] <|
    (bX0_ran_119 κ R)
def bX0_ran_97 (κ : Nat → Option Nat) (R : Ret AH) : Cont AH :=
    o_il 1 <|
    o_ic 2 <|
    o_icmp_ne (bX0_ran_112 κ R) <|
    o_al 0 <|
    o_gR 5 [1] <|
    o_gI 9 [18] <|
    (bX0_ran_119 κ R)
def bX0_ran_82 (κ : Nat → Option Nat) (R : Ret AH) : Cont AH :=
    o_il 1 <|
    o_ic 1 <|
    o_icmp_ne (bX0_ran_97 κ R) <|
    o_al 0 <|
    o_gR 5 [1] <|
    o_gI 8 [18] <|
    (bX0_ran_119 κ R)
def bX0_ran_68 (κ : Nat → Option Nat) (R : Ret AH) : Cont AH :=
    o_il 1 <|
    o_if_ne (bX0_ran_82 κ R) <|
    o_al 0 <|
    o_gR 5 [1] <|
    o_gI 7 [18] <|
    (bX0_ran_119 κ R)
def bX0_ran_66 (κ : Nat → Option Nat) (R : Ret AH) : Cont AH :=
    o_il 2 <|
    o_ireturn R
def bX0_ran_42 (κ : Nat → Option Nat) (R : Ret AH) : Cont AH :=
    fixC fun J42 =>
    o_il 5 <|
    o_il 4 <|
    o_icmp_ge (bX0_ran_66 κ R) <|
    o_al 3 <|
    o_il 5 <|
    o_aI 100 <|
    o_is 6 <|
    o_il 2 <|
    o_il 6 <|
    o_iadd <|
    o_is 2 <|
    o_iinc 5 1 <|
    (o_kill [0, 1, 6] J42)
def bX0_ran_20 (κ : Nat → Option Nat) (R : Ret AH) : Cont AH :=
    o_il 1 <|
    o_ic 4 <|
    o_icmp_ne (bX0_ran_68 κ R) <|
    o_ic 0 <|
    o_is 2 <|
    o_al 0 <|
    o_gR 5 [1] <|
    o_gR 4 [18] <|
    o_as 3 <|
    o_al 3 <|
    o_len <|
    o_is 4 <|
    o_ic 0 <|
    o_is 5 <|
    (o_kill [0, 1, 6] (bX0_ran_42 κ R))
def bX0_ran_11 (κ : Nat → Option Nat) (R : Ret AH) : Cont AH :=
    o_al 0 <|
    o_gR 5 [1] <|
    o_ifnonnull (bX0_ran_20 κ R) <|
    o_ic 0 <|
    o_ireturn R
def bX0_ran_0 (κ : Nat → Option Nat) (R : Ret AH) : Cont AH :=
    o_il 1 <|
    o_ic 0 <|
    o_ic 4 <|
    o_call 3 (pX0_in κ) (fun _ a σ => R (.inr a) σ) <|
    o_if_ne (bX0_ran_11 κ R) <|
    o_ic (-1) <|
    o_ireturn R
def pX0_ran (κ : Nat → Option Nat) : PT AH := fun as σ Q => (lg_sl as).length ≤ 7 ∧ bX0_ran_0 κ Q (entP 7 as) [] σ
theorem nX0_ran : parN yX0_ran 1 := by unfold parN; decide +kernel
set_option maxHeartbeats 4000000 in
theorem eX0_ran (g : GC) : CT (wC g) yX0_ran (Cond.code yX0_ran cX0_ran 7 (some .int)) 1 22 (pX0_ran g.2.1) := by
  refine CT.of (wC_ok g) (cc := cX0_ran) (nL := 7) (ret := (some .int)) (ht := []) (by decide +kernel) (Or.inl ⟨rfl, rfl⟩) (B := bX0_ran_0 g.2.1) (fun R E X hE => ?_)
  have h119 : E (bX0_ran_119 g.2.1 R) 119 := by
    unfold bX0_ran_119
    exact si_ireturn (pc := 119) hE dX0_ran_119
  have h112 : E (bX0_ran_112 g.2.1 R) 112 := by
    unfold bX0_ran_112
    refine si_aload_n (pc := 112) hE dX0_ran_112 rfl ?_
    refine si_gR (pc := 113) hE dX0_ran_113 (Or.inl q214) zfo_81 ?_
    refine si_gI (pc := 116) hE dX0_ran_116 (Or.inr ⟨_, q1403⟩) zfo_73 ?_
    exact h119
  have h97 : E (bX0_ran_97 g.2.1 R) 97 := by
    unfold bX0_ran_97
    refine si_iload_n (pc := 97) hE dX0_ran_97 rfl ?_
    refine si_iconst (pc := 98) hE dX0_ran_98 (by decide) ?_
    refine si_icmp_ne (pc := 99) hE dX0_ran_99 (by decide) h112 ?_
    refine si_aload_n (pc := 102) hE dX0_ran_102 rfl ?_
    refine si_gR (pc := 103) hE dX0_ran_103 (Or.inl q214) zfo_81 ?_
    refine si_gI (pc := 106) hE dX0_ran_106 (Or.inr ⟨_, q1401⟩) zfo_76 ?_
    exact si_goto (pc := 109) hE dX0_ran_109 (by decide) h119
  have h82 : E (bX0_ran_82 g.2.1 R) 82 := by
    unfold bX0_ran_82
    refine si_iload_n (pc := 82) hE dX0_ran_82 rfl ?_
    refine si_iconst (pc := 83) hE dX0_ran_83 (by decide) ?_
    refine si_icmp_ne (pc := 84) hE dX0_ran_84 (by decide) h97 ?_
    refine si_aload_n (pc := 87) hE dX0_ran_87 rfl ?_
    refine si_gR (pc := 88) hE dX0_ran_88 (Or.inl q214) zfo_81 ?_
    refine si_gI (pc := 91) hE dX0_ran_91 (Or.inr ⟨_, q1399⟩) zfo_80 ?_
    exact si_goto (pc := 94) hE dX0_ran_94 (by decide) h119
  have h68 : E (bX0_ran_68 g.2.1 R) 68 := by
    unfold bX0_ran_68
    refine si_iload_n (pc := 68) hE dX0_ran_68 rfl ?_
    refine si_if_ne (pc := 69) hE dX0_ran_69 (by decide) h82 ?_
    refine si_aload_n (pc := 72) hE dX0_ran_72 rfl ?_
    refine si_gR (pc := 73) hE dX0_ran_73 (Or.inl q214) zfo_81 ?_
    refine si_gI (pc := 76) hE dX0_ran_76 (Or.inr ⟨_, q1397⟩) zfo_79 ?_
    exact si_goto (pc := 79) hE dX0_ran_79 (by decide) h119
  have h66 : E (bX0_ran_66 g.2.1 R) 66 := by
    unfold bX0_ran_66
    refine si_iload_n (pc := 66) hE dX0_ran_66 rfl ?_
    exact si_ireturn (pc := 67) hE dX0_ran_67
  have h42 : E (bX0_ran_42 g.2.1 R) 42 := by
    unfold bX0_ran_42
    refine si_fix hE (fun J42 hJ42 => ?_)
    refine si_iload (pc := 42) hE dX0_ran_42 ?_
    refine si_iload (pc := 44) hE dX0_ran_44 ?_
    refine si_icmp_ge (pc := 46) hE dX0_ran_46 (by decide) h66 ?_
    refine si_aload_n (pc := 49) hE dX0_ran_49 rfl ?_
    refine si_iload (pc := 50) hE dX0_ran_50 ?_
    refine si_iaload (pc := 52) hE dX0_ran_52 ?_
    refine si_istore (pc := 53) hE dX0_ran_53 (by decide) ?_
    refine si_iload_n (pc := 55) hE dX0_ran_55 rfl ?_
    refine si_iload (pc := 56) hE dX0_ran_56 ?_
    refine si_iadd (pc := 58) hE dX0_ran_58 ?_
    refine si_istore_n (pc := 59) hE dX0_ran_59 rfl (by decide) ?_
    refine si_iinc (pc := 60) hE dX0_ran_60 (by decide) (by decide) ?_
    exact si_goto (pc := 63) hE dX0_ran_63 (by decide) (si_kill hE hJ42)
  have h20 : E (bX0_ran_20 g.2.1 R) 20 := by
    unfold bX0_ran_20
    refine si_iload_n (pc := 20) hE dX0_ran_20 rfl ?_
    refine si_iconst (pc := 21) hE dX0_ran_21 (by decide) ?_
    refine si_icmp_ne (pc := 22) hE dX0_ran_22 (by decide) h68 ?_
    refine si_iconst (pc := 25) hE dX0_ran_25 (by decide) ?_
    refine si_istore_n (pc := 26) hE dX0_ran_26 rfl (by decide) ?_
    refine si_aload_n (pc := 27) hE dX0_ran_27 rfl ?_
    refine si_gR (pc := 28) hE dX0_ran_28 (Or.inl q214) zfo_81 ?_
    refine si_gR (pc := 31) hE dX0_ran_31 (Or.inr ⟨_, q1391⟩) zfo_70 ?_
    refine si_astore_n (pc := 34) hE dX0_ran_34 rfl (by decide) ?_
    refine si_aload_n (pc := 35) hE dX0_ran_35 rfl ?_
    refine si_alen (pc := 36) hE dX0_ran_36 ?_
    refine si_istore (pc := 37) hE dX0_ran_37 (by decide) ?_
    refine si_iconst (pc := 39) hE dX0_ran_39 (by decide) ?_
    refine si_istore (pc := 40) hE dX0_ran_40 (by decide) ?_
    exact (si_kill hE h42)
  have h11 : E (bX0_ran_11 g.2.1 R) 11 := by
    unfold bX0_ran_11
    refine si_aload_n (pc := 11) hE dX0_ran_11 rfl ?_
    refine si_gR (pc := 12) hE dX0_ran_12 (Or.inl q214) zfo_81 ?_
    refine si_ifnonnull (pc := 15) hE dX0_ran_15 (by decide) h20 ?_
    refine si_iconst (pc := 18) hE dX0_ran_18 (by decide) ?_
    exact si_ireturn (pc := 19) hE dX0_ran_19
  have h0 : E (bX0_ran_0 g.2.1 R) 0 := by
    unfold bX0_ran_0
    refine si_iload_n (pc := 0) hE dX0_ran_0 rfl ?_
    refine si_iconst (pc := 1) hE dX0_ran_1 (by decide) ?_
    refine si_iconst (pc := 2) hE dX0_ran_2 (by decide) ?_
    refine si_hs (pc := 3) (n := 3) hE dX0_ran_3 (cal_S (eX0_in g) (Or.inl ⟨rfl, rfl⟩) q250 q132 q248 q249 ⟨by decide +kernel, by decide +kernel⟩ nX0_in (by decide) (by decide)) (si_out hE rfl) ?_
    refine si_if_ne (pc := 6) hE dX0_ran_6 (by decide) h11 ?_
    refine si_iconst (pc := 9) hE dX0_ran_9 (by decide) ?_
    exact si_ireturn (pc := 10) hE dX0_ran_10
  exact h0
def bX0_told_41 (κ : Nat → Option Nat) (R : Ret AH) : Cont AH :=
    o_ireturn R
def bX0_told_40 (κ : Nat → Option Nat) (R : Ret AH) : Cont AH :=
    o_ic 0 <|
    (bX0_told_41 κ R)
def bX0_told_0 (κ : Nat → Option Nat) (R : Ret AH) : Cont AH :=
    o_al 0 <|
    o_gR 5 [1] <|
    o_ifnull (bX0_told_40 κ R) <|
    o_il 1 <|
    o_if_lt (bX0_told_40 κ R) <|
    o_il 1 <|
    o_al 0 <|
    o_gR 5 [1] <|
    o_gI 9 [18] <|
    o_icmp_ge (bX0_told_40 κ R) <|
    o_il 1 <|
    o_ic 100 <|
    o_icmp_ge (bX0_told_40 κ R) <|
    o_al 0 <|
    o_gR 5 [1] <|
    o_gR 5 [18] <|
    o_il 1 <|
    o_aI 100 <|
    (bX0_told_41 κ R)
def pX0_told (κ : Nat → Option Nat) : PT AH := fun as σ Q => (lg_sl as).length ≤ 2 ∧ bX0_told_0 κ Q (entP 2 as) [] σ
theorem nX0_told : parN yX0_told 1 := by unfold parN; decide +kernel
set_option maxHeartbeats 4000000 in
theorem eX0_told (g : GC) : CT (wC g) yX0_told (Cond.code yX0_told cX0_told 2 (some .int)) 0 0 (pX0_told g.2.1) := by
  refine CT.of (wC_ok g) (cc := cX0_told) (nL := 2) (ret := (some .int)) (ht := []) (by decide +kernel) (Or.inl ⟨rfl, rfl⟩) (B := bX0_told_0 g.2.1) (fun R E X hE => ?_)
  have h41 : E (bX0_told_41 g.2.1 R) 41 := by
    unfold bX0_told_41
    exact si_ireturn (pc := 41) hE dX0_told_41
  have h40 : E (bX0_told_40 g.2.1 R) 40 := by
    unfold bX0_told_40
    refine si_iconst (pc := 40) hE dX0_told_40 (by decide) ?_
    exact h41
  have h0 : E (bX0_told_0 g.2.1 R) 0 := by
    unfold bX0_told_0
    refine si_aload_n (pc := 0) hE dX0_told_0 rfl ?_
    refine si_gR (pc := 1) hE dX0_told_1 (Or.inl q214) zfo_81 ?_
    refine si_ifnull (pc := 4) hE dX0_told_4 (by decide) h40 ?_
    refine si_iload_n (pc := 7) hE dX0_told_7 rfl ?_
    refine si_if_lt (pc := 8) hE dX0_told_8 (by decide) h40 ?_
    refine si_iload_n (pc := 11) hE dX0_told_11 rfl ?_
    refine si_aload_n (pc := 12) hE dX0_told_12 rfl ?_
    refine si_gR (pc := 13) hE dX0_told_13 (Or.inl q214) zfo_81 ?_
    refine si_gI (pc := 16) hE dX0_told_16 (Or.inr ⟨_, q1401⟩) zfo_76 ?_
    refine si_icmp_ge (pc := 19) hE dX0_told_19 (by decide) h40 ?_
    refine si_iload_n (pc := 22) hE dX0_told_22 rfl ?_
    refine si_bipush (pc := 23) hE dX0_told_23 (by decide) ?_
    refine si_icmp_ge (pc := 25) hE dX0_told_25 (by decide) h40 ?_
    refine si_aload_n (pc := 28) hE dX0_told_28 rfl ?_
    refine si_gR (pc := 29) hE dX0_told_29 (Or.inl q214) zfo_81 ?_
    refine si_gR (pc := 32) hE dX0_told_32 (Or.inr ⟨_, q1393⟩) zfo_71 ?_
    refine si_iload_n (pc := 35) hE dX0_told_35 rfl ?_
    refine si_iaload (pc := 36) hE dX0_told_36 ?_
    exact si_goto (pc := 37) hE dX0_told_37 (by decide) h41
  exact h0
def bX0_value_30 (κ : Nat → Option Nat) (R : Ret AH) : Cont AH :=
    o_ireturn R
def bX0_value_29 (κ : Nat → Option Nat) (R : Ret AH) : Cont AH :=
    o_ic 0 <|
    (bX0_value_30 κ R)
def bX0_value_0 (κ : Nat → Option Nat) (R : Ret AH) : Cont AH :=
    o_al 0 <|
    o_gR 5 [1] <|
    o_ifnull (bX0_value_29 κ R) <|
    o_il 1 <|
    o_ic 0 <|
    o_ic 47 <|
    o_call 3 (pX0_in κ) (fun _ a σ => R (.inr a) σ) <|
    o_if_eq (bX0_value_29 κ R) <|
    o_al 0 <|
    o_gR 5 [1] <|
    o_gR 2 [18] <|
    o_il 1 <|
    o_aI 100 <|
    (bX0_value_30 κ R)
def pX0_value (κ : Nat → Option Nat) : PT AH := fun as σ Q => (lg_sl as).length ≤ 2 ∧ bX0_value_0 κ Q (entP 2 as) [] σ
theorem nX0_value : parN yX0_value 1 := by unfold parN; decide +kernel
set_option maxHeartbeats 4000000 in
theorem eX0_value (g : GC) : CT (wC g) yX0_value (Cond.code yX0_value cX0_value 2 (some .int)) 1 22 (pX0_value g.2.1) := by
  refine CT.of (wC_ok g) (cc := cX0_value) (nL := 2) (ret := (some .int)) (ht := []) (by decide +kernel) (Or.inl ⟨rfl, rfl⟩) (B := bX0_value_0 g.2.1) (fun R E X hE => ?_)
  have h30 : E (bX0_value_30 g.2.1 R) 30 := by
    unfold bX0_value_30
    exact si_ireturn (pc := 30) hE dX0_value_30
  have h29 : E (bX0_value_29 g.2.1 R) 29 := by
    unfold bX0_value_29
    refine si_iconst (pc := 29) hE dX0_value_29 (by decide) ?_
    exact h30
  have h0 : E (bX0_value_0 g.2.1 R) 0 := by
    unfold bX0_value_0
    refine si_aload_n (pc := 0) hE dX0_value_0 rfl ?_
    refine si_gR (pc := 1) hE dX0_value_1 (Or.inl q214) zfo_81 ?_
    refine si_ifnull (pc := 4) hE dX0_value_4 (by decide) h29 ?_
    refine si_iload_n (pc := 7) hE dX0_value_7 rfl ?_
    refine si_iconst (pc := 8) hE dX0_value_8 (by decide) ?_
    refine si_bipush (pc := 9) hE dX0_value_9 (by decide) ?_
    refine si_hs (pc := 11) (n := 3) hE dX0_value_11 (cal_S (eX0_in g) (Or.inl ⟨rfl, rfl⟩) q250 q132 q248 q249 ⟨by decide +kernel, by decide +kernel⟩ nX0_in (by decide) (by decide)) (si_out hE rfl) ?_
    refine si_if_eq (pc := 14) hE dX0_value_14 (by decide) h29 ?_
    refine si_aload_n (pc := 17) hE dX0_value_17 rfl ?_
    refine si_gR (pc := 18) hE dX0_value_18 (Or.inl q214) zfo_81 ?_
    refine si_gR (pc := 21) hE dX0_value_21 (Or.inr ⟨_, q1388⟩) zfo_67 ?_
    refine si_iload_n (pc := 24) hE dX0_value_24 rfl ?_
    refine si_iaload (pc := 25) hE dX0_value_25 ?_
    exact si_goto (pc := 26) hE dX0_value_26 (by decide) h30
  exact h0
def bX0_row_41 (κ : Nat → Option Nat) (R : Ret AH) : Cont AH :=
    o_ireturn R
def bX0_row_40 (κ : Nat → Option Nat) (R : Ret AH) : Cont AH :=
    o_ic 0 <|
    (bX0_row_41 κ R)
def bX0_row_0 (κ : Nat → Option Nat) (R : Ret AH) : Cont AH :=
    o_al 0 <|
    o_gR 5 [1] <|
    o_ifnull (bX0_row_40 κ R) <|
    o_il 1 <|
    o_ic 0 <|
    o_ic 1 <|
    o_call 3 (pX0_in κ) (fun _ a σ => R (.inr a) σ) <|
    o_if_eq (bX0_row_40 κ R) <|
    o_il 2 <|
    o_ic 0 <|
    o_ic 7 <|
    o_call 3 (pX0_in κ) (fun _ a σ => R (.inr a) σ) <|
    o_if_eq (bX0_row_40 κ R) <|
    o_al 0 <|
    o_gR 5 [1] <|
    o_gR 6 [18] <|
    o_il 1 <|
    o_aR 106 <|
    o_il 2 <|
    o_aI 100 <|
    (bX0_row_41 κ R)
def pX0_row (κ : Nat → Option Nat) : PT AH := fun as σ Q => (lg_sl as).length ≤ 3 ∧ bX0_row_0 κ Q (entP 3 as) [] σ
theorem nX0_row : parN yX0_row 2 := by unfold parN; decide +kernel
set_option maxHeartbeats 4000000 in
theorem eX0_row (g : GC) : CT (wC g) yX0_row (Cond.code yX0_row cX0_row 3 (some .int)) 1 22 (pX0_row g.2.1) := by
  refine CT.of (wC_ok g) (cc := cX0_row) (nL := 3) (ret := (some .int)) (ht := []) (by decide +kernel) (Or.inl ⟨rfl, rfl⟩) (B := bX0_row_0 g.2.1) (fun R E X hE => ?_)
  have h41 : E (bX0_row_41 g.2.1 R) 41 := by
    unfold bX0_row_41
    exact si_ireturn (pc := 41) hE dX0_row_41
  have h40 : E (bX0_row_40 g.2.1 R) 40 := by
    unfold bX0_row_40
    refine si_iconst (pc := 40) hE dX0_row_40 (by decide) ?_
    exact h41
  have h0 : E (bX0_row_0 g.2.1 R) 0 := by
    unfold bX0_row_0
    refine si_aload_n (pc := 0) hE dX0_row_0 rfl ?_
    refine si_gR (pc := 1) hE dX0_row_1 (Or.inl q214) zfo_81 ?_
    refine si_ifnull (pc := 4) hE dX0_row_4 (by decide) h40 ?_
    refine si_iload_n (pc := 7) hE dX0_row_7 rfl ?_
    refine si_iconst (pc := 8) hE dX0_row_8 (by decide) ?_
    refine si_iconst (pc := 9) hE dX0_row_9 (by decide) ?_
    refine si_hs (pc := 10) (n := 3) hE dX0_row_10 (cal_S (eX0_in g) (Or.inl ⟨rfl, rfl⟩) q250 q132 q248 q249 ⟨by decide +kernel, by decide +kernel⟩ nX0_in (by decide) (by decide)) (si_out hE rfl) ?_
    refine si_if_eq (pc := 13) hE dX0_row_13 (by decide) h40 ?_
    refine si_iload_n (pc := 16) hE dX0_row_16 rfl ?_
    refine si_iconst (pc := 17) hE dX0_row_17 (by decide) ?_
    refine si_bipush (pc := 18) hE dX0_row_18 (by decide) ?_
    refine si_hs (pc := 20) (n := 3) hE dX0_row_20 (cal_S (eX0_in g) (Or.inl ⟨rfl, rfl⟩) q250 q132 q248 q249 ⟨by decide +kernel, by decide +kernel⟩ nX0_in (by decide) (by decide)) (si_out hE rfl) ?_
    refine si_if_eq (pc := 23) hE dX0_row_23 (by decide) h40 ?_
    refine si_aload_n (pc := 26) hE dX0_row_26 rfl ?_
    refine si_gR (pc := 27) hE dX0_row_27 (Or.inl q214) zfo_81 ?_
    refine si_gR (pc := 30) hE dX0_row_30 (Or.inr ⟨_, q1395⟩) zfo_72 ?_
    refine si_iload_n (pc := 33) hE dX0_row_33 rfl ?_
    refine si_aaload6 (pc := 34) hE dX0_row_34 ?_
    refine si_iload_n (pc := 35) hE dX0_row_35 rfl ?_
    refine si_iaload (pc := 36) hE dX0_row_36 ?_
    exact si_goto (pc := 37) hE dX0_row_37 (by decide) h41
  exact h0
def bX0_worked_32 (κ : Nat → Option Nat) (R : Ret AH) : Cont AH :=
    o_ireturn R
def bX0_worked_23 (κ : Nat → Option Nat) (R : Ret AH) : Cont AH :=
    o_al 0 <|
    o_gR 5 [1] <|
    o_gR 4 [18] <|
    o_il 1 <|
    o_aI 100 <|
    (bX0_worked_32 κ R)
def bX0_worked_12 (κ : Nat → Option Nat) (R : Ret AH) : Cont AH :=
    o_al 0 <|
    o_gR 5 [1] <|
    o_ifnonnull (bX0_worked_23 κ R) <|
    o_ic 0 <|
    (bX0_worked_32 κ R)
def bX0_worked_0 (κ : Nat → Option Nat) (R : Ret AH) : Cont AH :=
    o_il 1 <|
    o_ic 0 <|
    o_ic 31 <|
    o_call 3 (pX0_in κ) (fun _ a σ => R (.inr a) σ) <|
    o_if_ne (bX0_worked_12 κ R) <|
    o_ic (-1) <|
    o_ireturn R
def pX0_worked (κ : Nat → Option Nat) : PT AH := fun as σ Q => (lg_sl as).length ≤ 2 ∧ bX0_worked_0 κ Q (entP 2 as) [] σ
theorem nX0_worked : parN yX0_worked 1 := by unfold parN; decide +kernel
set_option maxHeartbeats 4000000 in
theorem eX0_worked (g : GC) : CT (wC g) yX0_worked (Cond.code yX0_worked cX0_worked 2 (some .int)) 1 22 (pX0_worked g.2.1) := by
  refine CT.of (wC_ok g) (cc := cX0_worked) (nL := 2) (ret := (some .int)) (ht := []) (by decide +kernel) (Or.inl ⟨rfl, rfl⟩) (B := bX0_worked_0 g.2.1) (fun R E X hE => ?_)
  have h32 : E (bX0_worked_32 g.2.1 R) 32 := by
    unfold bX0_worked_32
    exact si_ireturn (pc := 32) hE dX0_worked_32
  have h23 : E (bX0_worked_23 g.2.1 R) 23 := by
    unfold bX0_worked_23
    refine si_aload_n (pc := 23) hE dX0_worked_23 rfl ?_
    refine si_gR (pc := 24) hE dX0_worked_24 (Or.inl q214) zfo_81 ?_
    refine si_gR (pc := 27) hE dX0_worked_27 (Or.inr ⟨_, q1391⟩) zfo_70 ?_
    refine si_iload_n (pc := 30) hE dX0_worked_30 rfl ?_
    refine si_iaload (pc := 31) hE dX0_worked_31 ?_
    exact h32
  have h12 : E (bX0_worked_12 g.2.1 R) 12 := by
    unfold bX0_worked_12
    refine si_aload_n (pc := 12) hE dX0_worked_12 rfl ?_
    refine si_gR (pc := 13) hE dX0_worked_13 (Or.inl q214) zfo_81 ?_
    refine si_ifnonnull (pc := 16) hE dX0_worked_16 (by decide) h23 ?_
    refine si_iconst (pc := 19) hE dX0_worked_19 (by decide) ?_
    exact si_goto (pc := 20) hE dX0_worked_20 (by decide) h32
  have h0 : E (bX0_worked_0 g.2.1 R) 0 := by
    unfold bX0_worked_0
    refine si_iload_n (pc := 0) hE dX0_worked_0 rfl ?_
    refine si_iconst (pc := 1) hE dX0_worked_1 (by decide) ?_
    refine si_bipush (pc := 2) hE dX0_worked_2 (by decide) ?_
    refine si_hs (pc := 4) (n := 3) hE dX0_worked_4 (cal_S (eX0_in g) (Or.inl ⟨rfl, rfl⟩) q250 q132 q248 q249 ⟨by decide +kernel, by decide +kernel⟩ nX0_in (by decide) (by decide)) (si_out hE rfl) ?_
    refine si_if_ne (pc := 7) hE dX0_worked_7 (by decide) h12 ?_
    refine si_iconst (pc := 10) hE dX0_worked_10 (by decide) ?_
    exact si_ireturn (pc := 11) hE dX0_worked_11
  exact h0
def bX0_step_27 (κ : Nat → Option Nat) (R : Ret AH) : Cont AH :=
    o_ic (-1) <|
    o_ireturn R
def bX0_step_155 (κ : Nat → Option Nat) (R : Ret AH) : Cont AH :=
    o_al 3 <|
    o_gR 3 [4] <|
    o_il 2 <|
    o_call 1 (pJ13_valueOf κ) (fun _ a σ => R (.inr a) σ) <|
    o_call 2 (hvc [(19, pJ2_add κ)]) (fun _ a σ => R (.inr a) σ) <|
    o_pop <|
    o_il 4 <|
    o_ic 1 <|
    o_iadd <|
    o_ireturn R
def bX0_step_145 (κ : Nat → Option Nat) (R : Ret AH) : Cont AH :=
    o_il 4 <|
    o_ic 60 <|
    o_icmp_ne (bX0_step_155 κ R) <|
    o_ic (-3) <|
    o_ireturn R
def bX0_step_137 (κ : Nat → Option Nat) (R : Ret AH) : Cont AH :=
    o_il 5 <|
    o_if_ne (bX0_step_145 κ R) <|
    o_ic (-2) <|
    o_ireturn R
def bX0_step_128 (κ : Nat → Option Nat) (R : Ret AH) (J62 : Cont AH) : Cont AH :=
    o_ior <|
    o_is 5 <|
    o_iinc 6 1 <|
    (o_kill [0, 1] J62)
def bX0_step_127 (κ : Nat → Option Nat) (R : Ret AH) (J62 : Cont AH) : Cont AH :=
    o_ic 0 <|
    (bX0_step_128 κ R J62)
def bX0_step_62 (κ : Nat → Option Nat) (R : Ret AH) : Cont AH :=
    fixC fun J62 =>
    o_il 6 <|
    o_al 3 <|
    o_al 3 <|
    o_gR 3 [4] <|
    o_il 4 <|
    o_ic 1 <|
    o_isub <|
    o_call 2 (hvc [(19, pJ2_get κ)]) (fun _ a σ => R (.inr a) σ) <|
    o_castI <|
    o_call 1 (hvc [(20, pJ13_intValue κ), (60, pJ13_intValue κ)]) (fun _ a σ => R (.inr a) σ) <|
    o_call 2 (hvc [(4, pX4_end κ)]) (fun _ a σ => R (.inr a) σ) <|
    o_call 1 (hvc [(11, pX11_ways κ), (12, pX12_ways κ), (13, pX10_ways κ)]) (fun _ a σ => R (.inr a) σ) <|
    o_icmp_ge (bX0_step_137 κ R) <|
    o_il 5 <|
    o_al 3 <|
    o_al 3 <|
    o_gR 3 [4] <|
    o_il 4 <|
    o_ic 1 <|
    o_isub <|
    o_call 2 (hvc [(19, pJ2_get κ)]) (fun _ a σ => R (.inr a) σ) <|
    o_castI <|
    o_call 1 (hvc [(20, pJ13_intValue κ), (60, pJ13_intValue κ)]) (fun _ a σ => R (.inr a) σ) <|
    o_call 2 (hvc [(4, pX4_end κ)]) (fun _ a σ => R (.inr a) σ) <|
    o_il 6 <|
    o_call 2 (hvc [(11, pX11_way κ), (12, pX12_way κ), (13, pX10_way κ)]) (fun _ a σ => R (.inr a) σ) <|
    o_il 2 <|
    o_icmp_ne (bX0_step_127 κ R J62) <|
    o_ic 1 <|
    (bX0_step_128 κ R J62)
def bX0_step_52 (κ : Nat → Option Nat) (R : Ret AH) : Cont AH :=
    o_is 5 <|
    o_il 4 <|
    o_if_le (bX0_step_137 κ R) <|
    o_ic 0 <|
    o_is 6 <|
    (o_kill [0, 1] (bX0_step_62 κ R))
def bX0_step_51 (κ : Nat → Option Nat) (R : Ret AH) : Cont AH :=
    o_ic 0 <|
    (bX0_step_52 κ R)
def bX0_step_29 (κ : Nat → Option Nat) (R : Ret AH) : Cont AH :=
    o_al 3 <|
    o_gR 3 [4] <|
    o_call 1 (hvc [(19, pJ2_size κ)]) (fun _ a σ => R (.inr a) σ) <|
    o_is 4 <|
    o_il 4 <|
    o_if_ne (bX0_step_51 κ R) <|
    o_il 2 <|
    o_if_ne (bX0_step_51 κ R) <|
    o_ic 1 <|
    (bX0_step_52 κ R)
def bX0_step_0 (κ : Nat → Option Nat) (R : Ret AH) : Cont AH :=
    o_al 0 <|
    o_il 1 <|
    o_call 2 (hvc [(1, pX0_of κ)]) (fun _ a σ => R (.inr a) σ) <|
    o_as 3 <|
    o_al 3 <|
    o_ifnull (bX0_step_27 κ R) <|
    o_il 2 <|
    o_ic 0 <|
    o_al 3 <|
    o_gR 0 [4] <|
    o_call 1 (hvc [(19, pJ2_size κ)]) (fun _ a σ => R (.inr a) σ) <|
    o_ic 1 <|
    o_isub <|
    o_call 3 (pX0_in κ) (fun _ a σ => R (.inr a) σ) <|
    o_if_ne (bX0_step_29 κ R) <|
    (bX0_step_27 κ R)
def pX0_step (κ : Nat → Option Nat) : PT AH := fun as σ Q => (lg_sl as).length ≤ 7 ∧ bX0_step_0 κ Q (entP 7 as) [] σ
theorem nX0_step : parN yX0_step 2 := by unfold parN; decide +kernel
set_option maxHeartbeats 4000000 in
theorem eX0_step (g : GC) : CT (wC g) yX0_step (Cond.code yX0_step cX0_step 7 (some .int)) 7 191 (pX0_step g.2.1) := by
  refine CT.of (wC_ok g) (cc := cX0_step) (nL := 7) (ret := (some .int)) (ht := []) (by decide +kernel) (Or.inl ⟨rfl, rfl⟩) (B := bX0_step_0 g.2.1) (fun R E X hE => ?_)
  have h27 : E (bX0_step_27 g.2.1 R) 27 := by
    unfold bX0_step_27
    refine si_iconst (pc := 27) hE dX0_step_27 (by decide) ?_
    exact si_ireturn (pc := 28) hE dX0_step_28
  have h155 : E (bX0_step_155 g.2.1 R) 155 := by
    unfold bX0_step_155
    refine si_aload_n (pc := 155) hE dX0_step_155 rfl ?_
    refine si_gR (pc := 156) hE dX0_step_156 (Or.inr ⟨_, q302⟩) zfo_20 ?_
    refine si_iload_n (pc := 159) hE dX0_step_159 rfl ?_
    refine si_hs (pc := 160) (n := 1) hE dX0_step_160 (cal_S (eJ13_valueOf g) (Or.inl ⟨rfl, rfl⟩) q585 q151 q1511 q584 ⟨by decide +kernel, by decide +kernel⟩ nJ13_valueOf (by decide) (by decide)) (si_out hE rfl) ?_
    refine si_hv (pc := 163) (n := 1) hE dX0_step_163 ⟨cal_V (recvO cls18) (eJ2_add g) (Or.inl ⟨rfl, rfl⟩) q606 q139 q1512 q604 q605 ⟨by decide +kernel, by decide +kernel⟩ nJ2_add (by decide) (by decide), trivial⟩ (si_out hE rfl) ?_
    refine si_pop (pc := 166) hE dX0_step_166 ?_
    refine si_iload (pc := 167) hE dX0_step_167 ?_
    refine si_iconst (pc := 169) hE dX0_step_169 (by decide) ?_
    refine si_iadd (pc := 170) hE dX0_step_170 ?_
    exact si_ireturn (pc := 171) hE dX0_step_171
  have h145 : E (bX0_step_145 g.2.1 R) 145 := by
    unfold bX0_step_145
    refine si_iload (pc := 145) hE dX0_step_145 ?_
    refine si_bipush (pc := 147) hE dX0_step_147 (by decide) ?_
    refine si_icmp_ne (pc := 149) hE dX0_step_149 (by decide) h155 ?_
    refine si_bipush (pc := 152) hE dX0_step_152 (by decide) ?_
    exact si_ireturn (pc := 154) hE dX0_step_154
  have h137 : E (bX0_step_137 g.2.1 R) 137 := by
    unfold bX0_step_137
    refine si_iload (pc := 137) hE dX0_step_137 ?_
    refine si_if_ne (pc := 139) hE dX0_step_139 (by decide) h145 ?_
    refine si_bipush (pc := 142) hE dX0_step_142 (by decide) ?_
    exact si_ireturn (pc := 144) hE dX0_step_144
  have h128 : ∀ (J62 : Cont AH) (hJ62 : E J62 62), E (bX0_step_128 g.2.1 R J62) 128 := by
    intro J62 hJ62
    unfold bX0_step_128
    refine si_ior (pc := 128) hE dX0_step_128 ?_
    refine si_istore (pc := 129) hE dX0_step_129 (by decide) ?_
    refine si_iinc (pc := 131) hE dX0_step_131 (by decide) (by decide) ?_
    exact si_goto (pc := 134) hE dX0_step_134 (by decide) (si_kill hE hJ62)
  have h127 : ∀ (J62 : Cont AH) (hJ62 : E J62 62), E (bX0_step_127 g.2.1 R J62) 127 := by
    intro J62 hJ62
    unfold bX0_step_127
    refine si_iconst (pc := 127) hE dX0_step_127 (by decide) ?_
    exact (h128 J62 hJ62)
  have h62 : E (bX0_step_62 g.2.1 R) 62 := by
    unfold bX0_step_62
    refine si_fix hE (fun J62 hJ62 => ?_)
    refine si_iload (pc := 62) hE dX0_step_62 ?_
    refine si_aload_n (pc := 64) hE dX0_step_64 rfl ?_
    refine si_aload_n (pc := 65) hE dX0_step_65 rfl ?_
    refine si_gR (pc := 66) hE dX0_step_66 (Or.inr ⟨_, q302⟩) zfo_20 ?_
    refine si_iload (pc := 69) hE dX0_step_69 ?_
    refine si_iconst (pc := 71) hE dX0_step_71 (by decide) ?_
    refine si_isub (pc := 72) hE dX0_step_72 ?_
    refine si_hv (pc := 73) (n := 1) hE dX0_step_73 ⟨cal_V (recvO cls18) (eJ2_get g) (Or.inl ⟨rfl, rfl⟩) q980 q139 q1267 q978 q979 ⟨by decide +kernel, by decide +kernel⟩ nJ2_get (by decide) (by decide), trivial⟩ (si_out hE rfl) ?_
    refine si_castI (pc := 76) hE dX0_step_76 q1506 ?_
    refine si_hv (pc := 79) (n := 0) hE dX0_step_79 ⟨cal_V (recvO cls19) (eJ13_intValue g) (Or.inl ⟨rfl, rfl⟩) q993 q151 q1507 q991 q992 ⟨by decide +kernel, by decide +kernel⟩ nJ13_intValue (by decide) (by decide), ⟨cal_V recv60 (eJ13_intValue g) (Or.inl ⟨rfl, rfl⟩) q993 q151 q1507 q991 q992 ⟨by decide +kernel, by decide +kernel⟩ nJ13_intValue (by decide) (by decide), trivial⟩⟩ (si_out hE rfl) ?_
    refine si_hv (pc := 82) (n := 1) hE dX0_step_82 ⟨cal_V (recvO cls3) (eX4_end g) (Or.inl ⟨rfl, rfl⟩) q997 q136 q1508 q995 q996 ⟨by decide +kernel, by decide +kernel⟩ nX4_end (by decide) (by decide), trivial⟩ (si_out hE rfl) ?_
    refine si_hv (pc := 85) (n := 0) hE dX0_step_85 ⟨cal_U (x := xm_0) (recvO cls10) (eX11_ways g) (Or.inl ⟨rfl, rfl⟩) q1006 q161 q1509 q1003 (Or.inl q1002) ⟨by decide +kernel, by decide +kernel⟩ q1004 q1005 xp_0 (by decide) (by decide), ⟨cal_U (x := xm_0) (recvO cls11) (eX12_ways g) (Or.inl ⟨rfl, rfl⟩) q1009 q162 q1509 q1003 (Or.inl q1002) ⟨by decide +kernel, by decide +kernel⟩ q1007 q1008 xp_0 (by decide) (by decide), ⟨cal_U (x := xm_0) (recvO cls12) (eX10_ways g) (Or.inl ⟨rfl, rfl⟩) q1012 q160 q1509 q1003 (Or.inl q1002) ⟨by decide +kernel, by decide +kernel⟩ q1010 q1011 xp_0 (by decide) (by decide), trivial⟩⟩⟩ (si_out hE rfl) ?_
    refine si_icmp_ge (pc := 88) hE dX0_step_88 (by decide) h137 ?_
    refine si_iload (pc := 91) hE dX0_step_91 ?_
    refine si_aload_n (pc := 93) hE dX0_step_93 rfl ?_
    refine si_aload_n (pc := 94) hE dX0_step_94 rfl ?_
    refine si_gR (pc := 95) hE dX0_step_95 (Or.inr ⟨_, q302⟩) zfo_20 ?_
    refine si_iload (pc := 98) hE dX0_step_98 ?_
    refine si_iconst (pc := 100) hE dX0_step_100 (by decide) ?_
    refine si_isub (pc := 101) hE dX0_step_101 ?_
    refine si_hv (pc := 102) (n := 1) hE dX0_step_102 ⟨cal_V (recvO cls18) (eJ2_get g) (Or.inl ⟨rfl, rfl⟩) q980 q139 q1267 q978 q979 ⟨by decide +kernel, by decide +kernel⟩ nJ2_get (by decide) (by decide), trivial⟩ (si_out hE rfl) ?_
    refine si_castI (pc := 105) hE dX0_step_105 q1506 ?_
    refine si_hv (pc := 108) (n := 0) hE dX0_step_108 ⟨cal_V (recvO cls19) (eJ13_intValue g) (Or.inl ⟨rfl, rfl⟩) q993 q151 q1507 q991 q992 ⟨by decide +kernel, by decide +kernel⟩ nJ13_intValue (by decide) (by decide), ⟨cal_V recv60 (eJ13_intValue g) (Or.inl ⟨rfl, rfl⟩) q993 q151 q1507 q991 q992 ⟨by decide +kernel, by decide +kernel⟩ nJ13_intValue (by decide) (by decide), trivial⟩⟩ (si_out hE rfl) ?_
    refine si_hv (pc := 111) (n := 1) hE dX0_step_111 ⟨cal_V (recvO cls3) (eX4_end g) (Or.inl ⟨rfl, rfl⟩) q997 q136 q1508 q995 q996 ⟨by decide +kernel, by decide +kernel⟩ nX4_end (by decide) (by decide), trivial⟩ (si_out hE rfl) ?_
    refine si_iload (pc := 114) hE dX0_step_114 ?_
    refine si_hv (pc := 116) (n := 1) hE dX0_step_116 ⟨cal_U (x := xm_1) (recvO cls10) (eX11_way g) (Or.inl ⟨rfl, rfl⟩) q1018 q161 q1510 q1015 (Or.inl q1014) ⟨by decide +kernel, by decide +kernel⟩ q1016 q1017 xp_1 (by decide) (by decide), ⟨cal_U (x := xm_1) (recvO cls11) (eX12_way g) (Or.inl ⟨rfl, rfl⟩) q1021 q162 q1510 q1015 (Or.inl q1014) ⟨by decide +kernel, by decide +kernel⟩ q1019 q1020 xp_1 (by decide) (by decide), ⟨cal_U (x := xm_1) (recvO cls12) (eX10_way g) (Or.inl ⟨rfl, rfl⟩) q1024 q160 q1510 q1015 (Or.inl q1014) ⟨by decide +kernel, by decide +kernel⟩ q1022 q1023 xp_1 (by decide) (by decide), trivial⟩⟩⟩ (si_out hE rfl) ?_
    refine si_iload_n (pc := 119) hE dX0_step_119 rfl ?_
    refine si_icmp_ne (pc := 120) hE dX0_step_120 (by decide) (h127 J62 hJ62) ?_
    refine si_iconst (pc := 123) hE dX0_step_123 (by decide) ?_
    exact si_goto (pc := 124) hE dX0_step_124 (by decide) (h128 J62 hJ62)
  have h52 : E (bX0_step_52 g.2.1 R) 52 := by
    unfold bX0_step_52
    refine si_istore (pc := 52) hE dX0_step_52 (by decide) ?_
    refine si_iload (pc := 54) hE dX0_step_54 ?_
    refine si_if_le (pc := 56) hE dX0_step_56 (by decide) h137 ?_
    refine si_iconst (pc := 59) hE dX0_step_59 (by decide) ?_
    refine si_istore (pc := 60) hE dX0_step_60 (by decide) ?_
    exact (si_kill hE h62)
  have h51 : E (bX0_step_51 g.2.1 R) 51 := by
    unfold bX0_step_51
    refine si_iconst (pc := 51) hE dX0_step_51 (by decide) ?_
    exact h52
  have h29 : E (bX0_step_29 g.2.1 R) 29 := by
    unfold bX0_step_29
    refine si_aload_n (pc := 29) hE dX0_step_29 rfl ?_
    refine si_gR (pc := 30) hE dX0_step_30 (Or.inr ⟨_, q302⟩) zfo_20 ?_
    refine si_hv (pc := 33) (n := 0) hE dX0_step_33 ⟨cal_V (recvO cls18) (eJ2_size g) (Or.inl ⟨rfl, rfl⟩) q501 q139 q1109 q499 q500 ⟨by decide +kernel, by decide +kernel⟩ nJ2_size (by decide) (by decide), trivial⟩ (si_out hE rfl) ?_
    refine si_istore (pc := 36) hE dX0_step_36 (by decide) ?_
    refine si_iload (pc := 38) hE dX0_step_38 ?_
    refine si_if_ne (pc := 40) hE dX0_step_40 (by decide) h51 ?_
    refine si_iload_n (pc := 43) hE dX0_step_43 rfl ?_
    refine si_if_ne (pc := 44) hE dX0_step_44 (by decide) h51 ?_
    refine si_iconst (pc := 47) hE dX0_step_47 (by decide) ?_
    exact si_goto (pc := 48) hE dX0_step_48 (by decide) h52
  have h0 : E (bX0_step_0 g.2.1 R) 0 := by
    unfold bX0_step_0
    refine si_aload_n (pc := 0) hE dX0_step_0 rfl ?_
    refine si_iload_n (pc := 1) hE dX0_step_1 rfl ?_
    refine si_hv (pc := 2) (n := 1) hE dX0_step_2 ⟨cal_V (recvO cls0) (eX0_of g) (Or.inl ⟨rfl, rfl⟩) q1258 q132 q1255 q1257 qs32 ⟨by decide +kernel, by decide +kernel⟩ nX0_of (by decide) (by decide), trivial⟩ (si_out hE rfl) ?_
    refine si_astore_n (pc := 5) hE dX0_step_5 rfl (by decide) ?_
    refine si_aload_n (pc := 6) hE dX0_step_6 rfl ?_
    refine si_ifnull (pc := 7) hE dX0_step_7 (by decide) h27 ?_
    refine si_iload_n (pc := 10) hE dX0_step_10 rfl ?_
    refine si_iconst (pc := 11) hE dX0_step_11 (by decide) ?_
    refine si_aload_n (pc := 12) hE dX0_step_12 rfl ?_
    refine si_gR (pc := 13) hE dX0_step_13 (Or.inr ⟨_, q290⟩) zfo_17 ?_
    refine si_hv (pc := 16) (n := 0) hE dX0_step_16 ⟨cal_V (recvO cls18) (eJ2_size g) (Or.inl ⟨rfl, rfl⟩) q501 q139 q1109 q499 q500 ⟨by decide +kernel, by decide +kernel⟩ nJ2_size (by decide) (by decide), trivial⟩ (si_out hE rfl) ?_
    refine si_iconst (pc := 19) hE dX0_step_19 (by decide) ?_
    refine si_isub (pc := 20) hE dX0_step_20 ?_
    refine si_hs (pc := 21) (n := 3) hE dX0_step_21 (cal_S (eX0_in g) (Or.inl ⟨rfl, rfl⟩) q250 q132 q248 q249 ⟨by decide +kernel, by decide +kernel⟩ nX0_in (by decide) (by decide)) (si_out hE rfl) ?_
    refine si_if_ne (pc := 24) hE dX0_step_24 (by decide) h29 ?_
    exact h27
  exact h0
