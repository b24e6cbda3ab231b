/-! THE MODEL's METHODS, decompiled by program (gen/decomp.py) -/
set_option maxRecDepth 100000
def bX2_feed_11 (mo : Nat) (R : Ret MS) : Cont MS :=
    o_ic (-2) <|
    o_ireturn R
def bX2_feed_76 (mo : Nat) (R : Ret MS) : Cont MS :=
    o_al 0 <|
    o_mg mo 1 <|
    o_ireturn R
def bX2_feed_34 (mo : Nat) (R : Ret MS) : Cont MS :=
    fixC fun J34 =>
    o_il 4 <|
    o_if_lt (bX2_feed_76 mo R) <|
    o_al 0 <|
    o_mga mo 0 <|
    o_al 0 <|
    o_mg mo 1 <|
    o_ll 1 <|
    o_ic 8 <|
    o_il 4 <|
    o_imul <|
    o_lshr <|
    o_lc 255 <|
    o_land <|
    o_l2i <|
    o_mis mo 0 <|
    o_al 0 <|
    o_dup <|
    o_mg mo 1 <|
    o_ic 1 <|
    o_iadd <|
    o_mp mo 1 <|
    o_iinc 4 (-1) <|
    (o_kill [2, 3] J34)
def bX2_feed_29 (mo : Nat) (R : Ret MS) : Cont MS :=
    o_il 3 <|
    o_ic 1 <|
    o_isub <|
    o_is 4 <|
    (o_kill [2, 3] (bX2_feed_34 mo R))
def bX2_feed_14 (mo : Nat) (R : Ret MS) : Cont MS :=
    o_al 0 <|
    o_mg mo 1 <|
    o_il 3 <|
    o_iadd <|
    o_ic 3000 <|
    o_icmp_le (bX2_feed_29 mo R) <|
    o_ic (-3) <|
    o_ireturn R
def bX2_feed_0 (mo : Nat) (R : Ret MS) : Cont MS :=
    o_il 3 <|
    o_ic 1 <|
    o_icmp_lt (bX2_feed_11 mo R) <|
    o_il 3 <|
    o_ic 8 <|
    o_icmp_le (bX2_feed_14 mo R) <|
    (bX2_feed_11 mo R)
def pX2_feed (mo : Nat) : PT MS := fun as σ Q => (lg_sl as).length ≤ 5 ∧ bX2_feed_0 mo Q (entP 5 as) [] σ
theorem nX2_feed : parN yX2_feed 2 := by unfold parN; decide +kernel
set_option maxHeartbeats 4000000 in
theorem eX2_feed (g : GM) : CT (wM g) yX2_feed (Cond.code yX2_feed cX2_feed 5 (some .int)) 0 0 (pX2_feed g.1) := by
  refine CT.of (wM_ok g) (cc := cX2_feed) (nL := 5) (ret := (some .int)) (ht := []) (by decide +kernel) (Or.inl ⟨rfl, rfl⟩) (B := bX2_feed_0 g.1) (fun R E X hE => ?_)
  have h11 : E (bX2_feed_11 g.1 R) 11 := by
    unfold bX2_feed_11
    refine si_bipush (pc := 11) hE dX2_feed_11 (by decide) ?_
    exact si_ireturn (pc := 13) hE dX2_feed_13
  have h76 : E (bX2_feed_76 g.1 R) 76 := by
    unfold bX2_feed_76
    refine si_aload_n (pc := 76) hE dX2_feed_76 rfl ?_
    refine si_mg (pc := 77) (k := 1) hE rfl dX2_feed_77 q1660 (by decide) rfl (fun _ => rfl) ?_
    exact si_ireturn (pc := 80) hE dX2_feed_80
  have h34 : E (bX2_feed_34 g.1 R) 34 := by
    unfold bX2_feed_34
    refine si_fix hE (fun J34 hJ34 => ?_)
    refine si_iload (pc := 34) hE dX2_feed_34 ?_
    refine si_if_lt (pc := 36) hE dX2_feed_36 (by decide) h76 ?_
    refine si_aload_n (pc := 39) hE dX2_feed_39 rfl ?_
    refine si_mga (pc := 40) (k := 0) hE rfl dX2_feed_40 q1659 (by decide) rfl (fun _ => rfl) ?_
    refine si_aload_n (pc := 43) hE dX2_feed_43 rfl ?_
    refine si_mg (pc := 44) (k := 1) hE rfl dX2_feed_44 q1660 (by decide) rfl (fun _ => rfl) ?_
    refine si_lload_n (pc := 47) hE dX2_feed_47 rfl ?_
    refine si_bipush (pc := 48) hE dX2_feed_48 (by decide) ?_
    refine si_iload (pc := 50) hE dX2_feed_50 ?_
    refine si_imul (pc := 52) hE dX2_feed_52 ?_
    refine si_lshr (pc := 53) hE dX2_feed_53 ?_
    refine si_ldc2 (pc := 54) hE dX2_feed_54 q1850 ?_
    refine si_land (pc := 57) hE dX2_feed_57 ?_
    refine si_l2i (pc := 58) hE dX2_feed_58 ?_
    refine si_mis (pc := 59) (k := 0) hE dX2_feed_59 (by decide) rfl ?_
    refine si_aload_n (pc := 60) hE dX2_feed_60 rfl ?_
    refine si_dup (pc := 61) hE dX2_feed_61 ?_
    refine si_mg (pc := 62) (k := 1) hE rfl dX2_feed_62 q1660 (by decide) rfl (fun _ => rfl) ?_
    refine si_iconst (pc := 65) hE dX2_feed_65 (by decide) ?_
    refine si_iadd (pc := 66) hE dX2_feed_66 ?_
    refine si_mp (pc := 67) (k := 1) hE rfl dX2_feed_67 q1660 (by decide) rfl rfl rfl rfl ?_
    refine si_iinc (pc := 70) hE dX2_feed_70 (by decide) (by decide) ?_
    exact si_goto (pc := 73) hE dX2_feed_73 (by decide) (si_kill hE hJ34)
  have h29 : E (bX2_feed_29 g.1 R) 29 := by
    unfold bX2_feed_29
    refine si_iload_n (pc := 29) hE dX2_feed_29 rfl ?_
    refine si_iconst (pc := 30) hE dX2_feed_30 (by decide) ?_
    refine si_isub (pc := 31) hE dX2_feed_31 ?_
    refine si_istore (pc := 32) hE dX2_feed_32 (by decide) ?_
    exact (si_kill hE h34)
  have h14 : E (bX2_feed_14 g.1 R) 14 := by
    unfold bX2_feed_14
    refine si_aload_n (pc := 14) hE dX2_feed_14 rfl ?_
    refine si_mg (pc := 15) (k := 1) hE rfl dX2_feed_15 q1660 (by decide) rfl (fun _ => rfl) ?_
    refine si_iload_n (pc := 18) hE dX2_feed_18 rfl ?_
    refine si_iadd (pc := 19) hE dX2_feed_19 ?_
    refine si_sipush (pc := 20) hE dX2_feed_20 (by decide) ?_
    refine si_icmp_le (pc := 23) hE dX2_feed_23 (by decide) h29 ?_
    refine si_bipush (pc := 26) hE dX2_feed_26 (by decide) ?_
    exact si_ireturn (pc := 28) hE dX2_feed_28
  have h0 : E (bX2_feed_0 g.1 R) 0 := by
    unfold bX2_feed_0
    refine si_iload_n (pc := 0) hE dX2_feed_0 rfl ?_
    refine si_iconst (pc := 1) hE dX2_feed_1 (by decide) ?_
    refine si_icmp_lt (pc := 2) hE dX2_feed_2 (by decide) h11 ?_
    refine si_iload_n (pc := 5) hE dX2_feed_5 rfl ?_
    refine si_bipush (pc := 6) hE dX2_feed_6 (by decide) ?_
    refine si_icmp_le (pc := 8) hE dX2_feed_8 (by decide) h14 ?_
    exact h11
  exact h0
def bX2_cut_12 (mo : Nat) (R : Ret MS) : Cont MS :=
    o_ic (-2) <|
    o_ireturn R
def bX2_cut_15 (mo : Nat) (R : Ret MS) : Cont MS :=
    o_al 0 <|
    o_il 1 <|
    o_mp mo 1 <|
    o_il 1 <|
    o_ireturn R
def bX2_cut_0 (mo : Nat) (R : Ret MS) : Cont MS :=
    o_il 1 <|
    o_if_lt (bX2_cut_12 mo R) <|
    o_il 1 <|
    o_al 0 <|
    o_mg mo 1 <|
    o_icmp_le (bX2_cut_15 mo R) <|
    (bX2_cut_12 mo R)
def pX2_cut (mo : Nat) : PT MS := fun as σ Q => (lg_sl as).length ≤ 2 ∧ bX2_cut_0 mo Q (entP 2 as) [] σ
theorem nX2_cut : parN yX2_cut 1 := by unfold parN; decide +kernel
set_option maxHeartbeats 4000000 in
theorem eX2_cut (g : GM) : CT (wM g) yX2_cut (Cond.code yX2_cut cX2_cut 2 (some .int)) 0 0 (pX2_cut g.1) := by
  refine CT.of (wM_ok g) (cc := cX2_cut) (nL := 2) (ret := (some .int)) (ht := []) (by decide +kernel) (Or.inl ⟨rfl, rfl⟩) (B := bX2_cut_0 g.1) (fun R E X hE => ?_)
  have h12 : E (bX2_cut_12 g.1 R) 12 := by
    unfold bX2_cut_12
    refine si_bipush (pc := 12) hE dX2_cut_12 (by decide) ?_
    exact si_ireturn (pc := 14) hE dX2_cut_14
  have h15 : E (bX2_cut_15 g.1 R) 15 := by
    unfold bX2_cut_15
    refine si_aload_n (pc := 15) hE dX2_cut_15 rfl ?_
    refine si_iload_n (pc := 16) hE dX2_cut_16 rfl ?_
    refine si_mp (pc := 17) (k := 1) hE rfl dX2_cut_17 q1660 (by decide) rfl rfl rfl rfl ?_
    refine si_iload_n (pc := 20) hE dX2_cut_20 rfl ?_
    exact si_ireturn (pc := 21) hE dX2_cut_21
  have h0 : E (bX2_cut_0 g.1 R) 0 := by
    unfold bX2_cut_0
    refine si_iload_n (pc := 0) hE dX2_cut_0 rfl ?_
    refine si_if_lt (pc := 1) hE dX2_cut_1 (by decide) h12 ?_
    refine si_iload_n (pc := 4) hE dX2_cut_4 rfl ?_
    refine si_aload_n (pc := 5) hE dX2_cut_5 rfl ?_
    refine si_mg (pc := 6) (k := 1) hE rfl dX2_cut_6 q1660 (by decide) rfl (fun _ => rfl) ?_
    refine si_icmp_le (pc := 9) hE dX2_cut_9 (by decide) h15 ?_
    exact h12
  exact h0
def bX2_tape_22 (mo : Nat) (R : Ret MS) : Cont MS :=
    o_ireturn R
def bX2_tape_12 (mo : Nat) (R : Ret MS) : Cont MS :=
    o_ic (-1) <|
    (bX2_tape_22 mo R)
def bX2_tape_16 (mo : Nat) (R : Ret MS) : Cont MS :=
    o_al 0 <|
    o_mga mo 0 <|
    o_il 1 <|
    o_mia mo 0 <|
    (bX2_tape_22 mo R)
def bX2_tape_0 (mo : Nat) (R : Ret MS) : Cont MS :=
    o_il 1 <|
    o_if_lt (bX2_tape_12 mo R) <|
    o_il 1 <|
    o_al 0 <|
    o_mg mo 1 <|
    o_icmp_lt (bX2_tape_16 mo R) <|
    (bX2_tape_12 mo R)
def pX2_tape (mo : Nat) : PT MS := fun as σ Q => (lg_sl as).length ≤ 2 ∧ bX2_tape_0 mo Q (entP 2 as) [] σ
theorem nX2_tape : parN yX2_tape 1 := by unfold parN; decide +kernel
set_option maxHeartbeats 4000000 in
theorem eX2_tape (g : GM) : CT (wM g) yX2_tape (Cond.code yX2_tape cX2_tape 2 (some .int)) 0 0 (pX2_tape g.1) := by
  refine CT.of (wM_ok g) (cc := cX2_tape) (nL := 2) (ret := (some .int)) (ht := []) (by decide +kernel) (Or.inl ⟨rfl, rfl⟩) (B := bX2_tape_0 g.1) (fun R E X hE => ?_)
  have h22 : E (bX2_tape_22 g.1 R) 22 := by
    unfold bX2_tape_22
    exact si_ireturn (pc := 22) hE dX2_tape_22
  have h12 : E (bX2_tape_12 g.1 R) 12 := by
    unfold bX2_tape_12
    refine si_iconst (pc := 12) hE dX2_tape_12 (by decide) ?_
    exact si_goto (pc := 13) hE dX2_tape_13 (by decide) h22
  have h16 : E (bX2_tape_16 g.1 R) 16 := by
    unfold bX2_tape_16
    refine si_aload_n (pc := 16) hE dX2_tape_16 rfl ?_
    refine si_mga (pc := 17) (k := 0) hE rfl dX2_tape_17 q1659 (by decide) rfl (fun _ => rfl) ?_
    refine si_iload_n (pc := 20) hE dX2_tape_20 rfl ?_
    refine si_mia (pc := 21) (k := 0) hE dX2_tape_21 (by decide) rfl ?_
    exact h22
  have h0 : E (bX2_tape_0 g.1 R) 0 := by
    unfold bX2_tape_0
    refine si_iload_n (pc := 0) hE dX2_tape_0 rfl ?_
    refine si_if_lt (pc := 1) hE dX2_tape_1 (by decide) h12 ?_
    refine si_iload_n (pc := 4) hE dX2_tape_4 rfl ?_
    refine si_aload_n (pc := 5) hE dX2_tape_5 rfl ?_
    refine si_mg (pc := 6) (k := 1) hE rfl dX2_tape_6 q1660 (by decide) rfl (fun _ => rfl) ?_
    refine si_icmp_lt (pc := 9) hE dX2_tape_9 (by decide) h16 ?_
    exact h12
  exact h0
def bX2_at_18 (mo : Nat) (R : Ret MS) : Cont MS :=
    o_ireturn R
def bX2_at_17 (mo : Nat) (R : Ret MS) : Cont MS :=
    o_ic 0 <|
    (bX2_at_18 mo R)
def bX2_at_0 (mo : Nat) (R : Ret MS) : Cont MS :=
    o_il 1 <|
    o_al 0 <|
    o_mg mo 1 <|
    o_icmp_ge (bX2_at_17 mo R) <|
    o_al 0 <|
    o_mga mo 0 <|
    o_il 1 <|
    o_mia mo 0 <|
    (bX2_at_18 mo R)
def pX2_at (mo : Nat) : PT MS := fun as σ Q => (lg_sl as).length ≤ 2 ∧ bX2_at_0 mo Q (entP 2 as) [] σ
theorem nX2_at : parN yX2_at 1 := by unfold parN; decide +kernel
set_option maxHeartbeats 4000000 in
theorem eX2_at (g : GM) : CT (wM g) yX2_at (Cond.code yX2_at cX2_at 2 (some .int)) 0 0 (pX2_at g.1) := by
  refine CT.of (wM_ok g) (cc := cX2_at) (nL := 2) (ret := (some .int)) (ht := []) (by decide +kernel) (Or.inl ⟨rfl, rfl⟩) (B := bX2_at_0 g.1) (fun R E X hE => ?_)
  have h18 : E (bX2_at_18 g.1 R) 18 := by
    unfold bX2_at_18
    exact si_ireturn (pc := 18) hE dX2_at_18
  have h17 : E (bX2_at_17 g.1 R) 17 := by
    unfold bX2_at_17
    refine si_iconst (pc := 17) hE dX2_at_17 (by decide) ?_
    exact h18
  have h0 : E (bX2_at_0 g.1 R) 0 := by
    unfold bX2_at_0
    refine si_iload_n (pc := 0) hE dX2_at_0 rfl ?_
    refine si_aload_n (pc := 1) hE dX2_at_1 rfl ?_
    refine si_mg (pc := 2) (k := 1) hE rfl dX2_at_2 q1660 (by decide) rfl (fun _ => rfl) ?_
    refine si_icmp_ge (pc := 5) hE dX2_at_5 (by decide) h17 ?_
    refine si_aload_n (pc := 8) hE dX2_at_8 rfl ?_
    refine si_mga (pc := 9) (k := 0) hE rfl dX2_at_9 q1659 (by decide) rfl (fun _ => rfl) ?_
    refine si_iload_n (pc := 12) hE dX2_at_12 rfl ?_
    refine si_mia (pc := 13) (k := 0) hE dX2_at_13 (by decide) rfl ?_
    exact si_goto (pc := 14) hE dX2_at_14 (by decide) h18
  exact h0
def bX2_isLetter_17 (mo : Nat) (R : Ret MS) : Cont MS :=
    o_zreturn R
def bX2_isLetter_16 (mo : Nat) (R : Ret MS) : Cont MS :=
    o_ic 0 <|
    (bX2_isLetter_17 mo R)
def bX2_isLetter_0 (mo : Nat) (R : Ret MS) : Cont MS :=
    o_il 1 <|
    o_ic 97 <|
    o_icmp_lt (bX2_isLetter_16 mo R) <|
    o_il 1 <|
    o_ic 122 <|
    o_icmp_gt (bX2_isLetter_16 mo R) <|
    o_ic 1 <|
    (bX2_isLetter_17 mo R)
def pX2_isLetter (mo : Nat) : PT MS := fun as σ Q => (lg_sl as).length ≤ 2 ∧ bX2_isLetter_0 mo Q (entP 2 as) [] σ
theorem nX2_isLetter : parN yX2_isLetter 1 := by unfold parN; decide +kernel
set_option maxHeartbeats 4000000 in
theorem eX2_isLetter (g : GM) : CT (wM g) yX2_isLetter (Cond.code yX2_isLetter cX2_isLetter 2 (some .boolean)) 0 0 (pX2_isLetter g.1) := by
  refine CT.of (wM_ok g) (cc := cX2_isLetter) (nL := 2) (ret := (some .boolean)) (ht := []) (by decide +kernel) (Or.inl ⟨rfl, rfl⟩) (B := bX2_isLetter_0 g.1) (fun R E X hE => ?_)
  have h17 : E (bX2_isLetter_17 g.1 R) 17 := by
    unfold bX2_isLetter_17
    exact si_zreturn (pc := 17) hE dX2_isLetter_17
  have h16 : E (bX2_isLetter_16 g.1 R) 16 := by
    unfold bX2_isLetter_16
    refine si_iconst (pc := 16) hE dX2_isLetter_16 (by decide) ?_
    exact h17
  have h0 : E (bX2_isLetter_0 g.1 R) 0 := by
    unfold bX2_isLetter_0
    refine si_iload_n (pc := 0) hE dX2_isLetter_0 rfl ?_
    refine si_bipush (pc := 1) hE dX2_isLetter_1 (by decide) ?_
    refine si_icmp_lt (pc := 3) hE dX2_isLetter_3 (by decide) h16 ?_
    refine si_iload_n (pc := 6) hE dX2_isLetter_6 rfl ?_
    refine si_bipush (pc := 7) hE dX2_isLetter_7 (by decide) ?_
    refine si_icmp_gt (pc := 9) hE dX2_isLetter_9 (by decide) h16 ?_
    refine si_iconst (pc := 12) hE dX2_isLetter_12 (by decide) ?_
    exact si_goto (pc := 13) hE dX2_isLetter_13 (by decide) h17
  exact h0
def bX2_isDigit_17 (mo : Nat) (R : Ret MS) : Cont MS :=
    o_zreturn R
def bX2_isDigit_16 (mo : Nat) (R : Ret MS) : Cont MS :=
    o_ic 0 <|
    (bX2_isDigit_17 mo R)
def bX2_isDigit_0 (mo : Nat) (R : Ret MS) : Cont MS :=
    o_il 1 <|
    o_ic 48 <|
    o_icmp_lt (bX2_isDigit_16 mo R) <|
    o_il 1 <|
    o_ic 57 <|
    o_icmp_gt (bX2_isDigit_16 mo R) <|
    o_ic 1 <|
    (bX2_isDigit_17 mo R)
def pX2_isDigit (mo : Nat) : PT MS := fun as σ Q => (lg_sl as).length ≤ 2 ∧ bX2_isDigit_0 mo Q (entP 2 as) [] σ
theorem nX2_isDigit : parN yX2_isDigit 1 := by unfold parN; decide +kernel
set_option maxHeartbeats 4000000 in
theorem eX2_isDigit (g : GM) : CT (wM g) yX2_isDigit (Cond.code yX2_isDigit cX2_isDigit 2 (some .boolean)) 0 0 (pX2_isDigit g.1) := by
  refine CT.of (wM_ok g) (cc := cX2_isDigit) (nL := 2) (ret := (some .boolean)) (ht := []) (by decide +kernel) (Or.inl ⟨rfl, rfl⟩) (B := bX2_isDigit_0 g.1) (fun R E X hE => ?_)
  have h17 : E (bX2_isDigit_17 g.1 R) 17 := by
    unfold bX2_isDigit_17
    exact si_zreturn (pc := 17) hE dX2_isDigit_17
  have h16 : E (bX2_isDigit_16 g.1 R) 16 := by
    unfold bX2_isDigit_16
    refine si_iconst (pc := 16) hE dX2_isDigit_16 (by decide) ?_
    exact h17
  have h0 : E (bX2_isDigit_0 g.1 R) 0 := by
    unfold bX2_isDigit_0
    refine si_iload_n (pc := 0) hE dX2_isDigit_0 rfl ?_
    refine si_bipush (pc := 1) hE dX2_isDigit_1 (by decide) ?_
    refine si_icmp_lt (pc := 3) hE dX2_isDigit_3 (by decide) h16 ?_
    refine si_iload_n (pc := 6) hE dX2_isDigit_6 rfl ?_
    refine si_bipush (pc := 7) hE dX2_isDigit_7 (by decide) ?_
    refine si_icmp_gt (pc := 9) hE dX2_isDigit_9 (by decide) h16 ?_
    refine si_iconst (pc := 12) hE dX2_isDigit_12 (by decide) ?_
    exact si_goto (pc := 13) hE dX2_isDigit_13 (by decide) h17
  exact h0
def bX2_word_202 (mo : Nat) (R : Ret MS) : Cont MS :=
    o_mp mo 2 <|
    o_return R
def bX2_word_201 (mo : Nat) (R : Ret MS) : Cont MS :=
    o_ic 4 <|
    (bX2_word_202 mo R)
def bX2_word_188 (mo : Nat) (R : Ret MS) : Cont MS :=
    o_mp mo 5 <|
    o_al 0 <|
    o_il 5 <|
    o_if_eq (bX2_word_201 mo R) <|
    o_ic 1 <|
    (bX2_word_202 mo R)
def bX2_word_186 (mo : Nat) (R : Ret MS) : Cont MS :=
    o_ll 3 <|
    o_l2i <|
    (bX2_word_188 mo R)
def bX2_word_160 (mo : Nat) (R : Ret MS) : Cont MS :=
    o_al 0 <|
    o_mg mo 4 <|
    o_il 2 <|
    o_isub <|
    o_ic 1 <|
    o_icmp_le (bX2_word_186 mo R) <|
    o_al 0 <|
    o_mga mo 0 <|
    o_il 2 <|
    o_mia mo 0 <|
    o_ic 48 <|
    o_icmp_ne (bX2_word_186 mo R) <|
    o_ic (-2) <|
    (bX2_word_188 mo R)
def bX2_word_147 (mo : Nat) (R : Ret MS) : Cont MS :=
    o_al 0 <|
    o_il 2 <|
    o_al 0 <|
    o_mg mo 4 <|
    o_icmp_ne (bX2_word_160 mo R) <|
    o_ic (-1) <|
    (bX2_word_188 mo R)
def bX2_word_95 (mo : Nat) (R : Ret MS) : Cont MS :=
    fixC fun J95 =>
    o_il 6 <|
    o_al 0 <|
    o_mg mo 4 <|
    o_icmp_ge (bX2_word_147 mo R) <|
    o_il 5 <|
    o_if_eq (bX2_word_147 mo R) <|
    o_al 0 <|
    o_al 0 <|
    o_mga mo 0 <|
    o_il 6 <|
    o_mia mo 0 <|
    o_mc mo 2 (pX2_isDigit mo) R <|
    o_is 5 <|
    o_lc 10 <|
    o_ll 3 <|
    o_lmul <|
    o_al 0 <|
    o_mga mo 0 <|
    o_il 6 <|
    o_mia mo 0 <|
    o_i2l <|
    o_ladd <|
    o_lc 48 <|
    o_lsub <|
    o_ls 3 <|
    o_iinc 6 1 <|
    (o_kill [1, 4] J95)
def bX2_word_90 (mo : Nat) (R : Ret MS) : Cont MS :=
    o_is 5 <|
    o_il 1 <|
    o_is 6 <|
    (o_kill [1, 4] (bX2_word_95 mo R))
def bX2_word_89 (mo : Nat) (R : Ret MS) : Cont MS :=
    o_ic 0 <|
    (bX2_word_90 mo R)
def bX2_word_67 (mo : Nat) (R : Ret MS) : Cont MS :=
    o_il 1 <|
    o_is 2 <|
    o_lc 0 <|
    o_ls 3 <|
    o_al 0 <|
    o_mg mo 4 <|
    o_al 0 <|
    o_mg mo 3 <|
    o_isub <|
    o_ic 8 <|
    o_icmp_gt (bX2_word_89 mo R) <|
    o_ic 1 <|
    (bX2_word_90 mo R)
def bX2_word_10 (mo : Nat) (R : Ret MS) : Cont MS :=
    fixC fun J10 =>
    o_il 1 <|
    o_al 0 <|
    o_mg mo 4 <|
    o_icmp_ge (bX2_word_67 mo R) <|
    o_al 0 <|
    o_al 0 <|
    o_mga mo 0 <|
    o_il 1 <|
    o_mia mo 0 <|
    o_mc mo 2 (pX2_isLetter mo) R <|
    o_if_eq (bX2_word_67 mo R) <|
    o_il 1 <|
    o_al 0 <|
    o_mg mo 3 <|
    o_isub <|
    o_ic 9 <|
    o_icmp_ge (bX2_word_67 mo R) <|
    o_al 0 <|
    o_al 0 <|
    o_mgl mo <|
    o_ic 8 <|
    o_lshl <|
    o_al 0 <|
    o_mga mo 0 <|
    o_il 1 <|
    o_mia mo 0 <|
    o_i2l <|
    o_lor <|
    o_mpl mo <|
    o_iinc 1 1 <|
    (o_kill [2, 3, 4, 5, 6] J10)
def bX2_word_0 (mo : Nat) (R : Ret MS) : Cont MS :=
    o_al 0 <|
    o_mg mo 3 <|
    o_is 1 <|
    o_al 0 <|
    o_lc 0 <|
    o_mpl mo <|
    (o_kill [2, 3, 4, 5, 6] (bX2_word_10 mo R))
def pX2_word (mo : Nat) : PT MS := fun as σ Q => (lg_sl as).length ≤ 7 ∧ bX2_word_0 mo Q (entP 7 as) [] σ
theorem nX2_word : parN yX2_word 0 := by unfold parN; decide +kernel
set_option maxHeartbeats 4000000 in
theorem eX2_word (g : GM) : CT (wM g) yX2_word (Cond.code yX2_word cX2_word 7 none) 1 21 (pX2_word g.1) := by
  refine CT.of (wM_ok g) (cc := cX2_word) (nL := 7) (ret := none) (ht := []) (by decide +kernel) (Or.inl ⟨rfl, rfl⟩) (B := bX2_word_0 g.1) (fun R E X hE => ?_)
  have h202 : E (bX2_word_202 g.1 R) 202 := by
    unfold bX2_word_202
    refine si_mp (pc := 202) (k := 2) hE rfl dX2_word_202 q1661 (by decide) rfl rfl rfl rfl ?_
    exact si_return (pc := 205) hE dX2_word_205
  have h201 : E (bX2_word_201 g.1 R) 201 := by
    unfold bX2_word_201
    refine si_iconst (pc := 201) hE dX2_word_201 (by decide) ?_
    exact h202
  have h188 : E (bX2_word_188 g.1 R) 188 := by
    unfold bX2_word_188
    refine si_mp (pc := 188) (k := 5) hE rfl dX2_word_188 q1664 (by decide) rfl rfl rfl rfl ?_
    refine si_aload_n (pc := 191) hE dX2_word_191 rfl ?_
    refine si_iload (pc := 192) hE dX2_word_192 ?_
    refine si_if_eq (pc := 194) hE dX2_word_194 (by decide) h201 ?_
    refine si_iconst (pc := 197) hE dX2_word_197 (by decide) ?_
    exact si_goto (pc := 198) hE dX2_word_198 (by decide) h202
  have h186 : E (bX2_word_186 g.1 R) 186 := by
    unfold bX2_word_186
    refine si_lload_n (pc := 186) hE dX2_word_186 rfl ?_
    refine si_l2i (pc := 187) hE dX2_word_187 ?_
    exact h188
  have h160 : E (bX2_word_160 g.1 R) 160 := by
    unfold bX2_word_160
    refine si_aload_n (pc := 160) hE dX2_word_160 rfl ?_
    refine si_mg (pc := 161) (k := 4) hE rfl dX2_word_161 q1663 (by decide) rfl (fun _ => rfl) ?_
    refine si_iload_n (pc := 164) hE dX2_word_164 rfl ?_
    refine si_isub (pc := 165) hE dX2_word_165 ?_
    refine si_iconst (pc := 166) hE dX2_word_166 (by decide) ?_
    refine si_icmp_le (pc := 167) hE dX2_word_167 (by decide) h186 ?_
    refine si_aload_n (pc := 170) hE dX2_word_170 rfl ?_
    refine si_mga (pc := 171) (k := 0) hE rfl dX2_word_171 q1659 (by decide) rfl (fun _ => rfl) ?_
    refine si_iload_n (pc := 174) hE dX2_word_174 rfl ?_
    refine si_mia (pc := 175) (k := 0) hE dX2_word_175 (by decide) rfl ?_
    refine si_bipush (pc := 176) hE dX2_word_176 (by decide) ?_
    refine si_icmp_ne (pc := 178) hE dX2_word_178 (by decide) h186 ?_
    refine si_bipush (pc := 181) hE dX2_word_181 (by decide) ?_
    exact si_goto (pc := 183) hE dX2_word_183 (by decide) h188
  have h147 : E (bX2_word_147 g.1 R) 147 := by
    unfold bX2_word_147
    refine si_aload_n (pc := 147) hE dX2_word_147 rfl ?_
    refine si_iload_n (pc := 148) hE dX2_word_148 rfl ?_
    refine si_aload_n (pc := 149) hE dX2_word_149 rfl ?_
    refine si_mg (pc := 150) (k := 4) hE rfl dX2_word_150 q1663 (by decide) rfl (fun _ => rfl) ?_
    refine si_icmp_ne (pc := 153) hE dX2_word_153 (by decide) h160 ?_
    refine si_iconst (pc := 156) hE dX2_word_156 (by decide) ?_
    exact si_goto (pc := 157) hE dX2_word_157 (by decide) h188
  have h95 : E (bX2_word_95 g.1 R) 95 := by
    unfold bX2_word_95
    refine si_fix hE (fun J95 hJ95 => ?_)
    refine si_iload (pc := 95) hE dX2_word_95 ?_
    refine si_aload_n (pc := 97) hE dX2_word_97 rfl ?_
    refine si_mg (pc := 98) (k := 4) hE rfl dX2_word_98 q1663 (by decide) rfl (fun _ => rfl) ?_
    refine si_icmp_ge (pc := 101) hE dX2_word_101 (by decide) h147 ?_
    refine si_iload (pc := 104) hE dX2_word_104 ?_
    refine si_if_eq (pc := 106) hE dX2_word_106 (by decide) h147 ?_
    refine si_aload_n (pc := 109) hE dX2_word_109 rfl ?_
    refine si_aload_n (pc := 110) hE dX2_word_110 rfl ?_
    refine si_mga (pc := 111) (k := 0) hE rfl dX2_word_111 q1659 (by decide) rfl (fun _ => rfl) ?_
    refine si_iload (pc := 114) hE dX2_word_114 ?_
    refine si_mia (pc := 116) (k := 0) hE dX2_word_116 (by decide) rfl ?_
    refine si_mc (pc := 117) (n := 1) hE rfl dX2_word_117 (eX2_isDigit g) rfl q1875 q1877 qs56 q1878 q134 nX2_isDigit (by decide) (by decide) ?_
    refine si_istore (pc := 120) hE dX2_word_120 (by decide) ?_
    refine si_ldc2 (pc := 122) hE dX2_word_122 q1883 ?_
    refine si_lload_n (pc := 125) hE dX2_word_125 rfl ?_
    refine si_lmul (pc := 126) hE dX2_word_126 ?_
    refine si_aload_n (pc := 127) hE dX2_word_127 rfl ?_
    refine si_mga (pc := 128) (k := 0) hE rfl dX2_word_128 q1659 (by decide) rfl (fun _ => rfl) ?_
    refine si_iload (pc := 131) hE dX2_word_131 ?_
    refine si_mia (pc := 133) (k := 0) hE dX2_word_133 (by decide) rfl ?_
    refine si_i2l (pc := 134) hE dX2_word_134 ?_
    refine si_ladd (pc := 135) hE dX2_word_135 ?_
    refine si_ldc2 (pc := 136) hE dX2_word_136 q1884 ?_
    refine si_lsub (pc := 139) hE dX2_word_139 ?_
    refine si_lstore_n (pc := 140) hE dX2_word_140 rfl (by decide) ?_
    refine si_iinc (pc := 141) hE dX2_word_141 (by decide) (by decide) ?_
    exact si_goto (pc := 144) hE dX2_word_144 (by decide) (si_kill hE hJ95)
  have h90 : E (bX2_word_90 g.1 R) 90 := by
    unfold bX2_word_90
    refine si_istore (pc := 90) hE dX2_word_90 (by decide) ?_
    refine si_iload_n (pc := 92) hE dX2_word_92 rfl ?_
    refine si_istore (pc := 93) hE dX2_word_93 (by decide) ?_
    exact (si_kill hE h95)
  have h89 : E (bX2_word_89 g.1 R) 89 := by
    unfold bX2_word_89
    refine si_iconst (pc := 89) hE dX2_word_89 (by decide) ?_
    exact h90
  have h67 : E (bX2_word_67 g.1 R) 67 := by
    unfold bX2_word_67
    refine si_iload_n (pc := 67) hE dX2_word_67 rfl ?_
    refine si_istore_n (pc := 68) hE dX2_word_68 rfl (by decide) ?_
    refine si_lconst (pc := 69) hE dX2_word_69 (by decide) ?_
    refine si_lstore_n (pc := 70) hE dX2_word_70 rfl (by decide) ?_
    refine si_aload_n (pc := 71) hE dX2_word_71 rfl ?_
    refine si_mg (pc := 72) (k := 4) hE rfl dX2_word_72 q1663 (by decide) rfl (fun _ => rfl) ?_
    refine si_aload_n (pc := 75) hE dX2_word_75 rfl ?_
    refine si_mg (pc := 76) (k := 3) hE rfl dX2_word_76 q1662 (by decide) rfl (fun _ => rfl) ?_
    refine si_isub (pc := 79) hE dX2_word_79 ?_
    refine si_bipush (pc := 80) hE dX2_word_80 (by decide) ?_
    refine si_icmp_gt (pc := 82) hE dX2_word_82 (by decide) h89 ?_
    refine si_iconst (pc := 85) hE dX2_word_85 (by decide) ?_
    exact si_goto (pc := 86) hE dX2_word_86 (by decide) h90
  have h10 : E (bX2_word_10 g.1 R) 10 := by
    unfold bX2_word_10
    refine si_fix hE (fun J10 hJ10 => ?_)
    refine si_iload_n (pc := 10) hE dX2_word_10 rfl ?_
    refine si_aload_n (pc := 11) hE dX2_word_11 rfl ?_
    refine si_mg (pc := 12) (k := 4) hE rfl dX2_word_12 q1663 (by decide) rfl (fun _ => rfl) ?_
    refine si_icmp_ge (pc := 15) hE dX2_word_15 (by decide) h67 ?_
    refine si_aload_n (pc := 18) hE dX2_word_18 rfl ?_
    refine si_aload_n (pc := 19) hE dX2_word_19 rfl ?_
    refine si_mga (pc := 20) (k := 0) hE rfl dX2_word_20 q1659 (by decide) rfl (fun _ => rfl) ?_
    refine si_iload_n (pc := 23) hE dX2_word_23 rfl ?_
    refine si_mia (pc := 24) (k := 0) hE dX2_word_24 (by decide) rfl ?_
    refine si_mc (pc := 25) (n := 1) hE rfl dX2_word_25 (eX2_isLetter g) rfl q1871 q1873 qs55 q1874 q134 nX2_isLetter (by decide) (by decide) ?_
    refine si_if_eq (pc := 28) hE dX2_word_28 (by decide) h67 ?_
    refine si_iload_n (pc := 31) hE dX2_word_31 rfl ?_
    refine si_aload_n (pc := 32) hE dX2_word_32 rfl ?_
    refine si_mg (pc := 33) (k := 3) hE rfl dX2_word_33 q1662 (by decide) rfl (fun _ => rfl) ?_
    refine si_isub (pc := 36) hE dX2_word_36 ?_
    refine si_bipush (pc := 37) hE dX2_word_37 (by decide) ?_
    refine si_icmp_ge (pc := 39) hE dX2_word_39 (by decide) h67 ?_
    refine si_aload_n (pc := 42) hE dX2_word_42 rfl ?_
    refine si_aload_n (pc := 43) hE dX2_word_43 rfl ?_
    refine si_mgl (pc := 44) hE rfl dX2_word_44 q1666 ?_
    refine si_bipush (pc := 47) hE dX2_word_47 (by decide) ?_
    refine si_lshl (pc := 49) hE dX2_word_49 ?_
    refine si_aload_n (pc := 50) hE dX2_word_50 rfl ?_
    refine si_mga (pc := 51) (k := 0) hE rfl dX2_word_51 q1659 (by decide) rfl (fun _ => rfl) ?_
    refine si_iload_n (pc := 54) hE dX2_word_54 rfl ?_
    refine si_mia (pc := 55) (k := 0) hE dX2_word_55 (by decide) rfl ?_
    refine si_i2l (pc := 56) hE dX2_word_56 ?_
    refine si_lor (pc := 57) hE dX2_word_57 ?_
    refine si_mpl (pc := 58) hE rfl dX2_word_58 q1666 ?_
    refine si_iinc (pc := 61) hE dX2_word_61 (by decide) (by decide) ?_
    exact si_goto (pc := 64) hE dX2_word_64 (by decide) (si_kill hE hJ10)
  have h0 : E (bX2_word_0 g.1 R) 0 := by
    unfold bX2_word_0
    refine si_aload_n (pc := 0) hE dX2_word_0 rfl ?_
    refine si_mg (pc := 1) (k := 3) hE rfl dX2_word_1 q1662 (by decide) rfl (fun _ => rfl) ?_
    refine si_istore_n (pc := 4) hE dX2_word_4 rfl (by decide) ?_
    refine si_aload_n (pc := 5) hE dX2_word_5 rfl ?_
    refine si_lconst (pc := 6) hE dX2_word_6 (by decide) ?_
    refine si_mpl (pc := 7) hE rfl dX2_word_7 q1666 ?_
    exact (si_kill hE h10)
  exact h0
def bX2_number_90 (mo : Nat) (R : Ret MS) : Cont MS :=
    o_mp mo 2 <|
    o_return R
def bX2_number_89 (mo : Nat) (R : Ret MS) : Cont MS :=
    o_ic 4 <|
    (bX2_number_90 mo R)
def bX2_number_80 (mo : Nat) (R : Ret MS) : Cont MS :=
    o_al 0 <|
    o_il 1 <|
    o_if_eq (bX2_number_89 mo R) <|
    o_ic 2 <|
    (bX2_number_90 mo R)
def bX2_number_30 (mo : Nat) (R : Ret MS) : Cont MS :=
    fixC fun J30 =>
    o_il 2 <|
    o_al 0 <|
    o_mg mo 4 <|
    o_icmp_ge (bX2_number_80 mo R) <|
    o_il 1 <|
    o_if_eq (bX2_number_80 mo R) <|
    o_al 0 <|
    o_al 0 <|
    o_mga mo 0 <|
    o_il 2 <|
    o_mia mo 0 <|
    o_mc mo 2 (pX2_isDigit mo) R <|
    o_is 1 <|
    o_al 0 <|
    o_ic 10 <|
    o_al 0 <|
    o_mg mo 6 <|
    o_imul <|
    o_al 0 <|
    o_mga mo 0 <|
    o_il 2 <|
    o_mia mo 0 <|
    o_iadd <|
    o_ic 48 <|
    o_isub <|
    o_mp mo 6 <|
    o_iinc 2 1 <|
    J30
def bX2_number_19 (mo : Nat) (R : Ret MS) : Cont MS :=
    o_is 1 <|
    o_al 0 <|
    o_ic 0 <|
    o_mp mo 6 <|
    o_al 0 <|
    o_mg mo 3 <|
    o_is 2 <|
    (bX2_number_30 mo R)
def bX2_number_18 (mo : Nat) (R : Ret MS) : Cont MS :=
    o_ic 0 <|
    (bX2_number_19 mo R)
def bX2_number_0 (mo : Nat) (R : Ret MS) : Cont MS :=
    o_al 0 <|
    o_mg mo 4 <|
    o_al 0 <|
    o_mg mo 3 <|
    o_isub <|
    o_ic 9 <|
    o_icmp_gt (bX2_number_18 mo R) <|
    o_ic 1 <|
    (bX2_number_19 mo R)
def pX2_number (mo : Nat) : PT MS := fun as σ Q => (lg_sl as).length ≤ 3 ∧ bX2_number_0 mo Q (entP 3 as) [] σ
theorem nX2_number : parN yX2_number 0 := by unfold parN; decide +kernel
set_option maxHeartbeats 4000000 in
theorem eX2_number (g : GM) : CT (wM g) yX2_number (Cond.code yX2_number cX2_number 3 none) 1 21 (pX2_number g.1) := by
  refine CT.of (wM_ok g) (cc := cX2_number) (nL := 3) (ret := none) (ht := []) (by decide +kernel) (Or.inl ⟨rfl, rfl⟩) (B := bX2_number_0 g.1) (fun R E X hE => ?_)
  have h90 : E (bX2_number_90 g.1 R) 90 := by
    unfold bX2_number_90
    refine si_mp (pc := 90) (k := 2) hE rfl dX2_number_90 q1661 (by decide) rfl rfl rfl rfl ?_
    exact si_return (pc := 93) hE dX2_number_93
  have h89 : E (bX2_number_89 g.1 R) 89 := by
    unfold bX2_number_89
    refine si_iconst (pc := 89) hE dX2_number_89 (by decide) ?_
    exact h90
  have h80 : E (bX2_number_80 g.1 R) 80 := by
    unfold bX2_number_80
    refine si_aload_n (pc := 80) hE dX2_number_80 rfl ?_
    refine si_iload_n (pc := 81) hE dX2_number_81 rfl ?_
    refine si_if_eq (pc := 82) hE dX2_number_82 (by decide) h89 ?_
    refine si_iconst (pc := 85) hE dX2_number_85 (by decide) ?_
    exact si_goto (pc := 86) hE dX2_number_86 (by decide) h90
  have h30 : E (bX2_number_30 g.1 R) 30 := by
    unfold bX2_number_30
    refine si_fix hE (fun J30 hJ30 => ?_)
    refine si_iload_n (pc := 30) hE dX2_number_30 rfl ?_
    refine si_aload_n (pc := 31) hE dX2_number_31 rfl ?_
    refine si_mg (pc := 32) (k := 4) hE rfl dX2_number_32 q1663 (by decide) rfl (fun _ => rfl) ?_
    refine si_icmp_ge (pc := 35) hE dX2_number_35 (by decide) h80 ?_
    refine si_iload_n (pc := 38) hE dX2_number_38 rfl ?_
    refine si_if_eq (pc := 39) hE dX2_number_39 (by decide) h80 ?_
    refine si_aload_n (pc := 42) hE dX2_number_42 rfl ?_
    refine si_aload_n (pc := 43) hE dX2_number_43 rfl ?_
    refine si_mga (pc := 44) (k := 0) hE rfl dX2_number_44 q1659 (by decide) rfl (fun _ => rfl) ?_
    refine si_iload_n (pc := 47) hE dX2_number_47 rfl ?_
    refine si_mia (pc := 48) (k := 0) hE dX2_number_48 (by decide) rfl ?_
    refine si_mc (pc := 49) (n := 1) hE rfl dX2_number_49 (eX2_isDigit g) rfl q1875 q1877 qs56 q1878 q134 nX2_isDigit (by decide) (by decide) ?_
    refine si_istore_n (pc := 52) hE dX2_number_52 rfl (by decide) ?_
    refine si_aload_n (pc := 53) hE dX2_number_53 rfl ?_
    refine si_bipush (pc := 54) hE dX2_number_54 (by decide) ?_
    refine si_aload_n (pc := 56) hE dX2_number_56 rfl ?_
    refine si_mg (pc := 57) (k := 6) hE rfl dX2_number_57 q1665 (by decide) rfl (fun _ => rfl) ?_
    refine si_imul (pc := 60) hE dX2_number_60 ?_
    refine si_aload_n (pc := 61) hE dX2_number_61 rfl ?_
    refine si_mga (pc := 62) (k := 0) hE rfl dX2_number_62 q1659 (by decide) rfl (fun _ => rfl) ?_
    refine si_iload_n (pc := 65) hE dX2_number_65 rfl ?_
    refine si_mia (pc := 66) (k := 0) hE dX2_number_66 (by decide) rfl ?_
    refine si_iadd (pc := 67) hE dX2_number_67 ?_
    refine si_bipush (pc := 68) hE dX2_number_68 (by decide) ?_
    refine si_isub (pc := 70) hE dX2_number_70 ?_
    refine si_mp (pc := 71) (k := 6) hE rfl dX2_number_71 q1665 (by decide) rfl rfl rfl rfl ?_
    refine si_iinc (pc := 74) hE dX2_number_74 (by decide) (by decide) ?_
    exact si_goto (pc := 77) hE dX2_number_77 (by decide) hJ30
  have h19 : E (bX2_number_19 g.1 R) 19 := by
    unfold bX2_number_19
    refine si_istore_n (pc := 19) hE dX2_number_19 rfl (by decide) ?_
    refine si_aload_n (pc := 20) hE dX2_number_20 rfl ?_
    refine si_iconst (pc := 21) hE dX2_number_21 (by decide) ?_
    refine si_mp (pc := 22) (k := 6) hE rfl dX2_number_22 q1665 (by decide) rfl rfl rfl rfl ?_
    refine si_aload_n (pc := 25) hE dX2_number_25 rfl ?_
    refine si_mg (pc := 26) (k := 3) hE rfl dX2_number_26 q1662 (by decide) rfl (fun _ => rfl) ?_
    refine si_istore_n (pc := 29) hE dX2_number_29 rfl (by decide) ?_
    exact h30
  have h18 : E (bX2_number_18 g.1 R) 18 := by
    unfold bX2_number_18
    refine si_iconst (pc := 18) hE dX2_number_18 (by decide) ?_
    exact h19
  have h0 : E (bX2_number_0 g.1 R) 0 := by
    unfold bX2_number_0
    refine si_aload_n (pc := 0) hE dX2_number_0 rfl ?_
    refine si_mg (pc := 1) (k := 4) hE rfl dX2_number_1 q1663 (by decide) rfl (fun _ => rfl) ?_
    refine si_aload_n (pc := 4) hE dX2_number_4 rfl ?_
    refine si_mg (pc := 5) (k := 3) hE rfl dX2_number_5 q1662 (by decide) rfl (fun _ => rfl) ?_
    refine si_isub (pc := 8) hE dX2_number_8 ?_
    refine si_bipush (pc := 9) hE dX2_number_9 (by decide) ?_
    refine si_icmp_gt (pc := 11) hE dX2_number_11 (by decide) h18 ?_
    refine si_iconst (pc := 14) hE dX2_number_14 (by decide) ?_
    exact si_goto (pc := 15) hE dX2_number_15 (by decide) h19
  exact h0
def bX2_next_142 (mo : Nat) (R : Ret MS) (J112 : Cont MS) : Cont MS :=
    o_al 0 <|
    o_dup <|
    o_mg mo 4 <|
    o_ic 1 <|
    o_iadd <|
    o_mp mo 4 <|
    (o_kill [2] J112)
def bX2_next_283 (mo : Nat) (R : Ret MS) : Cont MS :=
    o_return R
def bX2_next_170 (mo : Nat) (R : Ret MS) : Cont MS :=
    o_al 0 <|
    o_mc mo 1 (pX2_number mo) R <|
    (bX2_next_283 mo R)
def bX2_next_155 (mo : Nat) (R : Ret MS) : Cont MS :=
    o_al 0 <|
    o_il 1 <|
    o_mc mo 2 (pX2_isLetter mo) R <|
    o_if_eq (bX2_next_170 mo R) <|
    o_al 0 <|
    o_mc mo 1 (pX2_word mo) R <|
    (bX2_next_283 mo R)
def bX2_next_112 (mo : Nat) (R : Ret MS) : Cont MS :=
    fixC fun J112 =>
    o_al 0 <|
    o_al 0 <|
    o_al 0 <|
    o_mg mo 4 <|
    o_mc mo 2 (pX2_at mo) R <|
    o_mc mo 2 (pX2_isLetter mo) R <|
    o_if_ne (bX2_next_142 mo R J112) <|
    o_al 0 <|
    o_al 0 <|
    o_al 0 <|
    o_mg mo 4 <|
    o_mc mo 2 (pX2_at mo) R <|
    o_mc mo 2 (pX2_isDigit mo) R <|
    o_if_eq (bX2_next_155 mo R) <|
    (bX2_next_142 mo R J112)
def bX2_next_275 (mo : Nat) (R : Ret MS) : Cont MS :=
    o_mp mo 2 <|
    o_al 0 <|
    o_il 1 <|
    o_mp mo 6 <|
    (bX2_next_283 mo R)
def bX2_next_274 (mo : Nat) (R : Ret MS) : Cont MS :=
    o_ic 4 <|
    (bX2_next_275 mo R)
def bX2_next_264 (mo : Nat) (R : Ret MS) : Cont MS :=
    o_is 2 <|
    o_al 0 <|
    o_il 2 <|
    o_if_eq (bX2_next_274 mo R) <|
    o_ic 3 <|
    (bX2_next_275 mo R)
def bX2_next_259 (mo : Nat) (R : Ret MS) : Cont MS :=
    o_ic 1 <|
    (bX2_next_264 mo R)
def bX2_next_263 (mo : Nat) (R : Ret MS) : Cont MS :=
    o_ic 0 <|
    (bX2_next_264 mo R)
def bX2_next_177 (mo : Nat) (R : Ret MS) : Cont MS :=
    o_al 0 <|
    o_dup <|
    o_mg mo 4 <|
    o_ic 1 <|
    o_iadd <|
    o_mp mo 4 <|
    o_il 1 <|
    o_ic 58 <|
    o_icmp_eq (bX2_next_259 mo R) <|
    o_il 1 <|
    o_ic 59 <|
    o_icmp_eq (bX2_next_259 mo R) <|
    o_il 1 <|
    o_ic 61 <|
    o_icmp_eq (bX2_next_259 mo R) <|
    o_il 1 <|
    o_ic 43 <|
    o_icmp_eq (bX2_next_259 mo R) <|
    o_il 1 <|
    o_ic 45 <|
    o_icmp_eq (bX2_next_259 mo R) <|
    o_il 1 <|
    o_ic 42 <|
    o_icmp_eq (bX2_next_259 mo R) <|
    o_il 1 <|
    o_ic 47 <|
    o_icmp_eq (bX2_next_259 mo R) <|
    o_il 1 <|
    o_ic 38 <|
    o_icmp_eq (bX2_next_259 mo R) <|
    o_il 1 <|
    o_ic 94 <|
    o_icmp_eq (bX2_next_259 mo R) <|
    o_il 1 <|
    o_ic 60 <|
    o_icmp_eq (bX2_next_259 mo R) <|
    o_il 1 <|
    o_ic 91 <|
    o_icmp_eq (bX2_next_259 mo R) <|
    o_il 1 <|
    o_ic 93 <|
    o_icmp_ne (bX2_next_263 mo R) <|
    (bX2_next_259 mo R)
def bX2_next_96 (mo : Nat) (R : Ret MS) : Cont MS :=
    o_al 0 <|
    o_il 1 <|
    o_mc mo 2 (pX2_isLetter mo) R <|
    o_if_ne (o_kill [2] (bX2_next_112 mo R)) <|
    o_al 0 <|
    o_il 1 <|
    o_mc mo 2 (pX2_isDigit mo) R <|
    o_if_eq (bX2_next_177 mo R) <|
    (o_kill [2] (bX2_next_112 mo R))
def bX2_next_60 (mo : Nat) (R : Ret MS) : Cont MS :=
    o_al 0 <|
    o_al 0 <|
    o_mg mo 3 <|
    o_mp mo 4 <|
    o_al 0 <|
    o_al 0 <|
    o_mg mo 3 <|
    o_mc mo 2 (pX2_at mo) R <|
    o_is 1 <|
    o_al 0 <|
    o_mg mo 3 <|
    o_al 0 <|
    o_mg mo 1 <|
    o_icmp_lt (bX2_next_96 mo R) <|
    o_al 0 <|
    o_ic 0 <|
    o_mp mo 2 <|
    (bX2_next_283 mo R)
def bX2_next_47 (mo : Nat) (R : Ret MS) (J8 : Cont MS) : Cont MS :=
    o_al 0 <|
    o_dup <|
    o_mg mo 3 <|
    o_ic 1 <|
    o_iadd <|
    o_mp mo 3 <|
    (o_kill [1, 2] J8)
def bX2_next_8 (mo : Nat) (R : Ret MS) : Cont MS :=
    fixC fun J8 =>
    o_al 0 <|
    o_mg mo 3 <|
    o_al 0 <|
    o_mg mo 1 <|
    o_icmp_ge (bX2_next_60 mo R) <|
    o_al 0 <|
    o_mga mo 0 <|
    o_al 0 <|
    o_mg mo 3 <|
    o_mia mo 0 <|
    o_ic 32 <|
    o_icmp_eq (bX2_next_47 mo R J8) <|
    o_al 0 <|
    o_mga mo 0 <|
    o_al 0 <|
    o_mg mo 3 <|
    o_mia mo 0 <|
    o_ic 10 <|
    o_icmp_ne (bX2_next_60 mo R) <|
    (bX2_next_47 mo R J8)
def bX2_next_0 (mo : Nat) (R : Ret MS) : Cont MS :=
    o_al 0 <|
    o_al 0 <|
    o_mg mo 4 <|
    o_mp mo 3 <|
    (o_kill [1, 2] (bX2_next_8 mo R))
def pX2_next (mo : Nat) : PT MS := fun as σ Q => (lg_sl as).length ≤ 3 ∧ bX2_next_0 mo Q (entP 3 as) [] σ
theorem nX2_next : parN yX2_next 0 := by unfold parN; decide +kernel
set_option maxHeartbeats 4000000 in
theorem eX2_next (g : GM) : CT (wM g) yX2_next (Cond.code yX2_next cX2_next 3 none) 2 47 (pX2_next g.1) := by
  refine CT.of (wM_ok g) (cc := cX2_next) (nL := 3) (ret := none) (ht := []) (by decide +kernel) (Or.inl ⟨rfl, rfl⟩) (B := bX2_next_0 g.1) (fun R E X hE => ?_)
  have h142 : ∀ (J112 : Cont MS) (hJ112 : E J112 112), E (bX2_next_142 g.1 R J112) 142 := by
    intro J112 hJ112
    unfold bX2_next_142
    refine si_aload_n (pc := 142) hE dX2_next_142 rfl ?_
    refine si_dup (pc := 143) hE dX2_next_143 ?_
    refine si_mg (pc := 144) (k := 4) hE rfl dX2_next_144 q1663 (by decide) rfl (fun _ => rfl) ?_
    refine si_iconst (pc := 147) hE dX2_next_147 (by decide) ?_
    refine si_iadd (pc := 148) hE dX2_next_148 ?_
    refine si_mp (pc := 149) (k := 4) hE rfl dX2_next_149 q1663 (by decide) rfl rfl rfl rfl ?_
    exact si_goto (pc := 152) hE dX2_next_152 (by decide) (si_kill hE hJ112)
  have h283 : E (bX2_next_283 g.1 R) 283 := by
    unfold bX2_next_283
    exact si_return (pc := 283) hE dX2_next_283
  have h170 : E (bX2_next_170 g.1 R) 170 := by
    unfold bX2_next_170
    refine si_aload_n (pc := 170) hE dX2_next_170 rfl ?_
    refine si_mc (pc := 171) (n := 0) hE rfl dX2_next_171 (eX2_number g) rfl q1885 q1887 qs58 q1888 q134 nX2_number (by decide) (by decide) ?_
    exact si_goto (pc := 174) hE dX2_next_174 (by decide) h283
  have h155 : E (bX2_next_155 g.1 R) 155 := by
    unfold bX2_next_155
    refine si_aload_n (pc := 155) hE dX2_next_155 rfl ?_
    refine si_iload_n (pc := 156) hE dX2_next_156 rfl ?_
    refine si_mc (pc := 157) (n := 1) hE rfl dX2_next_157 (eX2_isLetter g) rfl q1871 q1873 qs55 q1874 q134 nX2_isLetter (by decide) (by decide) ?_
    refine si_if_eq (pc := 160) hE dX2_next_160 (by decide) h170 ?_
    refine si_aload_n (pc := 163) hE dX2_next_163 rfl ?_
    refine si_mc (pc := 164) (n := 0) hE rfl dX2_next_164 (eX2_word g) rfl q1879 q1881 qs57 q1882 q134 nX2_word (by decide) (by decide) ?_
    exact si_goto (pc := 167) hE dX2_next_167 (by decide) h283
  have h112 : E (bX2_next_112 g.1 R) 112 := by
    unfold bX2_next_112
    refine si_fix hE (fun J112 hJ112 => ?_)
    refine si_aload_n (pc := 112) hE dX2_next_112 rfl ?_
    refine si_aload_n (pc := 113) hE dX2_next_113 rfl ?_
    refine si_aload_n (pc := 114) hE dX2_next_114 rfl ?_
    refine si_mg (pc := 115) (k := 4) hE rfl dX2_next_115 q1663 (by decide) rfl (fun _ => rfl) ?_
    refine si_mc (pc := 118) (n := 1) hE rfl dX2_next_118 (eX2_at g) rfl q1867 q1869 qs54 q1870 q134 nX2_at (by decide) (by decide) ?_
    refine si_mc (pc := 121) (n := 1) hE rfl dX2_next_121 (eX2_isLetter g) rfl q1871 q1873 qs55 q1874 q134 nX2_isLetter (by decide) (by decide) ?_
    refine si_if_ne (pc := 124) hE dX2_next_124 (by decide) (h142 J112 hJ112) ?_
    refine si_aload_n (pc := 127) hE dX2_next_127 rfl ?_
    refine si_aload_n (pc := 128) hE dX2_next_128 rfl ?_
    refine si_aload_n (pc := 129) hE dX2_next_129 rfl ?_
    refine si_mg (pc := 130) (k := 4) hE rfl dX2_next_130 q1663 (by decide) rfl (fun _ => rfl) ?_
    refine si_mc (pc := 133) (n := 1) hE rfl dX2_next_133 (eX2_at g) rfl q1867 q1869 qs54 q1870 q134 nX2_at (by decide) (by decide) ?_
    refine si_mc (pc := 136) (n := 1) hE rfl dX2_next_136 (eX2_isDigit g) rfl q1875 q1877 qs56 q1878 q134 nX2_isDigit (by decide) (by decide) ?_
    refine si_if_eq (pc := 139) hE dX2_next_139 (by decide) h155 ?_
    exact (h142 J112 hJ112)
  have h275 : E (bX2_next_275 g.1 R) 275 := by
    unfold bX2_next_275
    refine si_mp (pc := 275) (k := 2) hE rfl dX2_next_275 q1661 (by decide) rfl rfl rfl rfl ?_
    refine si_aload_n (pc := 278) hE dX2_next_278 rfl ?_
    refine si_iload_n (pc := 279) hE dX2_next_279 rfl ?_
    refine si_mp (pc := 280) (k := 6) hE rfl dX2_next_280 q1665 (by decide) rfl rfl rfl rfl ?_
    exact h283
  have h274 : E (bX2_next_274 g.1 R) 274 := by
    unfold bX2_next_274
    refine si_iconst (pc := 274) hE dX2_next_274 (by decide) ?_
    exact h275
  have h264 : E (bX2_next_264 g.1 R) 264 := by
    unfold bX2_next_264
    refine si_istore_n (pc := 264) hE dX2_next_264 rfl (by decide) ?_
    refine si_aload_n (pc := 265) hE dX2_next_265 rfl ?_
    refine si_iload_n (pc := 266) hE dX2_next_266 rfl ?_
    refine si_if_eq (pc := 267) hE dX2_next_267 (by decide) h274 ?_
    refine si_iconst (pc := 270) hE dX2_next_270 (by decide) ?_
    exact si_goto (pc := 271) hE dX2_next_271 (by decide) h275
  have h259 : E (bX2_next_259 g.1 R) 259 := by
    unfold bX2_next_259
    refine si_iconst (pc := 259) hE dX2_next_259 (by decide) ?_
    exact si_goto (pc := 260) hE dX2_next_260 (by decide) h264
  have h263 : E (bX2_next_263 g.1 R) 263 := by
    unfold bX2_next_263
    refine si_iconst (pc := 263) hE dX2_next_263 (by decide) ?_
    exact h264
  have h177 : E (bX2_next_177 g.1 R) 177 := by
    unfold bX2_next_177
    refine si_aload_n (pc := 177) hE dX2_next_177 rfl ?_
    refine si_dup (pc := 178) hE dX2_next_178 ?_
    refine si_mg (pc := 179) (k := 4) hE rfl dX2_next_179 q1663 (by decide) rfl (fun _ => rfl) ?_
    refine si_iconst (pc := 182) hE dX2_next_182 (by decide) ?_
    refine si_iadd (pc := 183) hE dX2_next_183 ?_
    refine si_mp (pc := 184) (k := 4) hE rfl dX2_next_184 q1663 (by decide) rfl rfl rfl rfl ?_
    refine si_iload_n (pc := 187) hE dX2_next_187 rfl ?_
    refine si_bipush (pc := 188) hE dX2_next_188 (by decide) ?_
    refine si_icmp_eq (pc := 190) hE dX2_next_190 (by decide) h259 ?_
    refine si_iload_n (pc := 193) hE dX2_next_193 rfl ?_
    refine si_bipush (pc := 194) hE dX2_next_194 (by decide) ?_
    refine si_icmp_eq (pc := 196) hE dX2_next_196 (by decide) h259 ?_
    refine si_iload_n (pc := 199) hE dX2_next_199 rfl ?_
    refine si_bipush (pc := 200) hE dX2_next_200 (by decide) ?_
    refine si_icmp_eq (pc := 202) hE dX2_next_202 (by decide) h259 ?_
    refine si_iload_n (pc := 205) hE dX2_next_205 rfl ?_
    refine si_bipush (pc := 206) hE dX2_next_206 (by decide) ?_
    refine si_icmp_eq (pc := 208) hE dX2_next_208 (by decide) h259 ?_
    refine si_iload_n (pc := 211) hE dX2_next_211 rfl ?_
    refine si_bipush (pc := 212) hE dX2_next_212 (by decide) ?_
    refine si_icmp_eq (pc := 214) hE dX2_next_214 (by decide) h259 ?_
    refine si_iload_n (pc := 217) hE dX2_next_217 rfl ?_
    refine si_bipush (pc := 218) hE dX2_next_218 (by decide) ?_
    refine si_icmp_eq (pc := 220) hE dX2_next_220 (by decide) h259 ?_
    refine si_iload_n (pc := 223) hE dX2_next_223 rfl ?_
    refine si_bipush (pc := 224) hE dX2_next_224 (by decide) ?_
    refine si_icmp_eq (pc := 226) hE dX2_next_226 (by decide) h259 ?_
    refine si_iload_n (pc := 229) hE dX2_next_229 rfl ?_
    refine si_bipush (pc := 230) hE dX2_next_230 (by decide) ?_
    refine si_icmp_eq (pc := 232) hE dX2_next_232 (by decide) h259 ?_
    refine si_iload_n (pc := 235) hE dX2_next_235 rfl ?_
    refine si_bipush (pc := 236) hE dX2_next_236 (by decide) ?_
    refine si_icmp_eq (pc := 238) hE dX2_next_238 (by decide) h259 ?_
    refine si_iload_n (pc := 241) hE dX2_next_241 rfl ?_
    refine si_bipush (pc := 242) hE dX2_next_242 (by decide) ?_
    refine si_icmp_eq (pc := 244) hE dX2_next_244 (by decide) h259 ?_
    refine si_iload_n (pc := 247) hE dX2_next_247 rfl ?_
    refine si_bipush (pc := 248) hE dX2_next_248 (by decide) ?_
    refine si_icmp_eq (pc := 250) hE dX2_next_250 (by decide) h259 ?_
    refine si_iload_n (pc := 253) hE dX2_next_253 rfl ?_
    refine si_bipush (pc := 254) hE dX2_next_254 (by decide) ?_
    refine si_icmp_ne (pc := 256) hE dX2_next_256 (by decide) h263 ?_
    exact h259
  have h96 : E (bX2_next_96 g.1 R) 96 := by
    unfold bX2_next_96
    refine si_aload_n (pc := 96) hE dX2_next_96 rfl ?_
    refine si_iload_n (pc := 97) hE dX2_next_97 rfl ?_
    refine si_mc (pc := 98) (n := 1) hE rfl dX2_next_98 (eX2_isLetter g) rfl q1871 q1873 qs55 q1874 q134 nX2_isLetter (by decide) (by decide) ?_
    refine si_if_ne (pc := 101) hE dX2_next_101 (by decide) (si_kill hE h112) ?_
    refine si_aload_n (pc := 104) hE dX2_next_104 rfl ?_
    refine si_iload_n (pc := 105) hE dX2_next_105 rfl ?_
    refine si_mc (pc := 106) (n := 1) hE rfl dX2_next_106 (eX2_isDigit g) rfl q1875 q1877 qs56 q1878 q134 nX2_isDigit (by decide) (by decide) ?_
    refine si_if_eq (pc := 109) hE dX2_next_109 (by decide) h177 ?_
    exact (si_kill hE h112)
  have h60 : E (bX2_next_60 g.1 R) 60 := by
    unfold bX2_next_60
    refine si_aload_n (pc := 60) hE dX2_next_60 rfl ?_
    refine si_aload_n (pc := 61) hE dX2_next_61 rfl ?_
    refine si_mg (pc := 62) (k := 3) hE rfl dX2_next_62 q1662 (by decide) rfl (fun _ => rfl) ?_
    refine si_mp (pc := 65) (k := 4) hE rfl dX2_next_65 q1663 (by decide) rfl rfl rfl rfl ?_
    refine si_aload_n (pc := 68) hE dX2_next_68 rfl ?_
    refine si_aload_n (pc := 69) hE dX2_next_69 rfl ?_
    refine si_mg (pc := 70) (k := 3) hE rfl dX2_next_70 q1662 (by decide) rfl (fun _ => rfl) ?_
    refine si_mc (pc := 73) (n := 1) hE rfl dX2_next_73 (eX2_at g) rfl q1867 q1869 qs54 q1870 q134 nX2_at (by decide) (by decide) ?_
    refine si_istore_n (pc := 76) hE dX2_next_76 rfl (by decide) ?_
    refine si_aload_n (pc := 77) hE dX2_next_77 rfl ?_
    refine si_mg (pc := 78) (k := 3) hE rfl dX2_next_78 q1662 (by decide) rfl (fun _ => rfl) ?_
    refine si_aload_n (pc := 81) hE dX2_next_81 rfl ?_
    refine si_mg (pc := 82) (k := 1) hE rfl dX2_next_82 q1660 (by decide) rfl (fun _ => rfl) ?_
    refine si_icmp_lt (pc := 85) hE dX2_next_85 (by decide) h96 ?_
    refine si_aload_n (pc := 88) hE dX2_next_88 rfl ?_
    refine si_iconst (pc := 89) hE dX2_next_89 (by decide) ?_
    refine si_mp (pc := 90) (k := 2) hE rfl dX2_next_90 q1661 (by decide) rfl rfl rfl rfl ?_
    exact si_goto (pc := 93) hE dX2_next_93 (by decide) h283
  have h47 : ∀ (J8 : Cont MS) (hJ8 : E J8 8), E (bX2_next_47 g.1 R J8) 47 := by
    intro J8 hJ8
    unfold bX2_next_47
    refine si_aload_n (pc := 47) hE dX2_next_47 rfl ?_
    refine si_dup (pc := 48) hE dX2_next_48 ?_
    refine si_mg (pc := 49) (k := 3) hE rfl dX2_next_49 q1662 (by decide) rfl (fun _ => rfl) ?_
    refine si_iconst (pc := 52) hE dX2_next_52 (by decide) ?_
    refine si_iadd (pc := 53) hE dX2_next_53 ?_
    refine si_mp (pc := 54) (k := 3) hE rfl dX2_next_54 q1662 (by decide) rfl rfl rfl rfl ?_
    exact si_goto (pc := 57) hE dX2_next_57 (by decide) (si_kill hE hJ8)
  have h8 : E (bX2_next_8 g.1 R) 8 := by
    unfold bX2_next_8
    refine si_fix hE (fun J8 hJ8 => ?_)
    refine si_aload_n (pc := 8) hE dX2_next_8 rfl ?_
    refine si_mg (pc := 9) (k := 3) hE rfl dX2_next_9 q1662 (by decide) rfl (fun _ => rfl) ?_
    refine si_aload_n (pc := 12) hE dX2_next_12 rfl ?_
    refine si_mg (pc := 13) (k := 1) hE rfl dX2_next_13 q1660 (by decide) rfl (fun _ => rfl) ?_
    refine si_icmp_ge (pc := 16) hE dX2_next_16 (by decide) h60 ?_
    refine si_aload_n (pc := 19) hE dX2_next_19 rfl ?_
    refine si_mga (pc := 20) (k := 0) hE rfl dX2_next_20 q1659 (by decide) rfl (fun _ => rfl) ?_
    refine si_aload_n (pc := 23) hE dX2_next_23 rfl ?_
    refine si_mg (pc := 24) (k := 3) hE rfl dX2_next_24 q1662 (by decide) rfl (fun _ => rfl) ?_
    refine si_mia (pc := 27) (k := 0) hE dX2_next_27 (by decide) rfl ?_
    refine si_bipush (pc := 28) hE dX2_next_28 (by decide) ?_
    refine si_icmp_eq (pc := 30) hE dX2_next_30 (by decide) (h47 J8 hJ8) ?_
    refine si_aload_n (pc := 33) hE dX2_next_33 rfl ?_
    refine si_mga (pc := 34) (k := 0) hE rfl dX2_next_34 q1659 (by decide) rfl (fun _ => rfl) ?_
    refine si_aload_n (pc := 37) hE dX2_next_37 rfl ?_
    refine si_mg (pc := 38) (k := 3) hE rfl dX2_next_38 q1662 (by decide) rfl (fun _ => rfl) ?_
    refine si_mia (pc := 41) (k := 0) hE dX2_next_41 (by decide) rfl ?_
    refine si_bipush (pc := 42) hE dX2_next_42 (by decide) ?_
    refine si_icmp_ne (pc := 44) hE dX2_next_44 (by decide) h60 ?_
    exact (h47 J8 hJ8)
  have h0 : E (bX2_next_0 g.1 R) 0 := by
    unfold bX2_next_0
    refine si_aload_n (pc := 0) hE dX2_next_0 rfl ?_
    refine si_aload_n (pc := 1) hE dX2_next_1 rfl ?_
    refine si_mg (pc := 2) (k := 4) hE rfl dX2_next_2 q1663 (by decide) rfl (fun _ => rfl) ?_
    refine si_mp (pc := 5) (k := 3) hE rfl dX2_next_5 q1662 (by decide) rfl rfl rfl rfl ?_
    exact (si_kill hE h8)
  exact h0
def bX2_must_48 (mo : Nat) (R : Ret MS) : Cont MS :=
    o_zreturn R
def bX2_must_47 (mo : Nat) (R : Ret MS) : Cont MS :=
    o_ic 0 <|
    (bX2_must_48 mo R)
def bX2_must_36 (mo : Nat) (R : Ret MS) : Cont MS :=
    o_al 0 <|
    o_mg mo 32 <|
    o_if_ne (bX2_must_47 mo R) <|
    o_ic 1 <|
    (bX2_must_48 mo R)
def bX2_must_25 (mo : Nat) (R : Ret MS) : Cont MS :=
    o_mp mo 32 <|
    o_al 0 <|
    o_al 0 <|
    o_mg mo 3 <|
    o_mp mo 33 <|
    (bX2_must_36 mo R)
def bX2_must_24 (mo : Nat) (R : Ret MS) : Cont MS :=
    o_il 2 <|
    (bX2_must_25 mo R)
def bX2_must_0 (mo : Nat) (R : Ret MS) : Cont MS :=
    o_il 1 <|
    o_if_ne (bX2_must_36 mo R) <|
    o_al 0 <|
    o_mg mo 32 <|
    o_if_ne (bX2_must_36 mo R) <|
    o_al 0 <|
    o_al 0 <|
    o_mg mo 2 <|
    o_ic 4 <|
    o_icmp_ne (bX2_must_24 mo R) <|
    o_ic 1 <|
    (bX2_must_25 mo R)
def pX2_must (mo : Nat) : PT MS := fun as σ Q => (lg_sl as).length ≤ 3 ∧ bX2_must_0 mo Q (entP 3 as) [] σ
theorem nX2_must : parN yX2_must 2 := by unfold parN; decide +kernel
set_option maxHeartbeats 4000000 in
theorem eX2_must (g : GM) : CT (wM g) yX2_must (Cond.code yX2_must cX2_must 3 (some .boolean)) 0 0 (pX2_must g.1) := by
  refine CT.of (wM_ok g) (cc := cX2_must) (nL := 3) (ret := (some .boolean)) (ht := []) (by decide +kernel) (Or.inl ⟨rfl, rfl⟩) (B := bX2_must_0 g.1) (fun R E X hE => ?_)
  have h48 : E (bX2_must_48 g.1 R) 48 := by
    unfold bX2_must_48
    exact si_zreturn (pc := 48) hE dX2_must_48
  have h47 : E (bX2_must_47 g.1 R) 47 := by
    unfold bX2_must_47
    refine si_iconst (pc := 47) hE dX2_must_47 (by decide) ?_
    exact h48
  have h36 : E (bX2_must_36 g.1 R) 36 := by
    unfold bX2_must_36
    refine si_aload_n (pc := 36) hE dX2_must_36 rfl ?_
    refine si_mg (pc := 37) (k := 32) hE rfl dX2_must_37 q1691 (by decide) rfl (fun _ => rfl) ?_
    refine si_if_ne (pc := 40) hE dX2_must_40 (by decide) h47 ?_
    refine si_iconst (pc := 43) hE dX2_must_43 (by decide) ?_
    exact si_goto (pc := 44) hE dX2_must_44 (by decide) h48
  have h25 : E (bX2_must_25 g.1 R) 25 := by
    unfold bX2_must_25
    refine si_mp (pc := 25) (k := 32) hE rfl dX2_must_25 q1691 (by decide) rfl rfl rfl rfl ?_
    refine si_aload_n (pc := 28) hE dX2_must_28 rfl ?_
    refine si_aload_n (pc := 29) hE dX2_must_29 rfl ?_
    refine si_mg (pc := 30) (k := 3) hE rfl dX2_must_30 q1662 (by decide) rfl (fun _ => rfl) ?_
    refine si_mp (pc := 33) (k := 33) hE rfl dX2_must_33 q1692 (by decide) rfl rfl rfl rfl ?_
    exact h36
  have h24 : E (bX2_must_24 g.1 R) 24 := by
    unfold bX2_must_24
    refine si_iload_n (pc := 24) hE dX2_must_24 rfl ?_
    exact h25
  have h0 : E (bX2_must_0 g.1 R) 0 := by
    unfold bX2_must_0
    refine si_iload_n (pc := 0) hE dX2_must_0 rfl ?_
    refine si_if_ne (pc := 1) hE dX2_must_1 (by decide) h36 ?_
    refine si_aload_n (pc := 4) hE dX2_must_4 rfl ?_
    refine si_mg (pc := 5) (k := 32) hE rfl dX2_must_5 q1691 (by decide) rfl (fun _ => rfl) ?_
    refine si_if_ne (pc := 8) hE dX2_must_8 (by decide) h36 ?_
    refine si_aload_n (pc := 11) hE dX2_must_11 rfl ?_
    refine si_aload_n (pc := 12) hE dX2_must_12 rfl ?_
    refine si_mg (pc := 13) (k := 2) hE rfl dX2_must_13 q1661 (by decide) rfl (fun _ => rfl) ?_
    refine si_iconst (pc := 16) hE dX2_must_16 (by decide) ?_
    refine si_icmp_ne (pc := 17) hE dX2_must_17 (by decide) h24 ?_
    refine si_iconst (pc := 20) hE dX2_must_20 (by decide) ?_
    exact si_goto (pc := 21) hE dX2_must_21 (by decide) h25
  exact h0
def bX2_numbered_41 (mo : Nat) (R : Ret MS) : Cont MS :=
    o_ireturn R
def bX2_numbered_40 (mo : Nat) (R : Ret MS) : Cont MS :=
    o_ic (-1) <|
    (bX2_numbered_41 mo R)
def bX2_numbered_0 (mo : Nat) (R : Ret MS) : Cont MS :=
    o_al 0 <|
    o_mg mo 2 <|
    o_ic 1 <|
    o_icmp_ne (bX2_numbered_40 mo R) <|
    o_al 0 <|
    o_mgl mo <|
    o_il 1 <|
    o_i2l <|
    o_lcmp <|
    o_if_ne (bX2_numbered_40 mo R) <|
    o_al 0 <|
    o_mg mo 5 <|
    o_if_lt (bX2_numbered_40 mo R) <|
    o_al 0 <|
    o_mg mo 5 <|
    o_il 2 <|
    o_icmp_gt (bX2_numbered_40 mo R) <|
    o_al 0 <|
    o_mg mo 5 <|
    (bX2_numbered_41 mo R)
def pX2_numbered (mo : Nat) : PT MS := fun as σ Q => (lg_sl as).length ≤ 3 ∧ bX2_numbered_0 mo Q (entP 3 as) [] σ
theorem nX2_numbered : parN yX2_numbered 2 := by unfold parN; decide +kernel
set_option maxHeartbeats 4000000 in
theorem eX2_numbered (g : GM) : CT (wM g) yX2_numbered (Cond.code yX2_numbered cX2_numbered 3 (some .int)) 0 0 (pX2_numbered g.1) := by
  refine CT.of (wM_ok g) (cc := cX2_numbered) (nL := 3) (ret := (some .int)) (ht := []) (by decide +kernel) (Or.inl ⟨rfl, rfl⟩) (B := bX2_numbered_0 g.1) (fun R E X hE => ?_)
  have h41 : E (bX2_numbered_41 g.1 R) 41 := by
    unfold bX2_numbered_41
    exact si_ireturn (pc := 41) hE dX2_numbered_41
  have h40 : E (bX2_numbered_40 g.1 R) 40 := by
    unfold bX2_numbered_40
    refine si_iconst (pc := 40) hE dX2_numbered_40 (by decide) ?_
    exact h41
  have h0 : E (bX2_numbered_0 g.1 R) 0 := by
    unfold bX2_numbered_0
    refine si_aload_n (pc := 0) hE dX2_numbered_0 rfl ?_
    refine si_mg (pc := 1) (k := 2) hE rfl dX2_numbered_1 q1661 (by decide) rfl (fun _ => rfl) ?_
    refine si_iconst (pc := 4) hE dX2_numbered_4 (by decide) ?_
    refine si_icmp_ne (pc := 5) hE dX2_numbered_5 (by decide) h40 ?_
    refine si_aload_n (pc := 8) hE dX2_numbered_8 rfl ?_
    refine si_mgl (pc := 9) hE rfl dX2_numbered_9 q1666 ?_
    refine si_iload_n (pc := 12) hE dX2_numbered_12 rfl ?_
    refine si_i2l (pc := 13) hE dX2_numbered_13 ?_
    refine si_lcmp (pc := 14) hE dX2_numbered_14 ?_
    refine si_if_ne (pc := 15) hE dX2_numbered_15 (by decide) h40 ?_
    refine si_aload_n (pc := 18) hE dX2_numbered_18 rfl ?_
    refine si_mg (pc := 19) (k := 5) hE rfl dX2_numbered_19 q1664 (by decide) rfl (fun _ => rfl) ?_
    refine si_if_lt (pc := 22) hE dX2_numbered_22 (by decide) h40 ?_
    refine si_aload_n (pc := 25) hE dX2_numbered_25 rfl ?_
    refine si_mg (pc := 26) (k := 5) hE rfl dX2_numbered_26 q1664 (by decide) rfl (fun _ => rfl) ?_
    refine si_iload_n (pc := 29) hE dX2_numbered_29 rfl ?_
    refine si_icmp_gt (pc := 30) hE dX2_numbered_30 (by decide) h40 ?_
    refine si_aload_n (pc := 33) hE dX2_numbered_33 rfl ?_
    refine si_mg (pc := 34) (k := 5) hE rfl dX2_numbered_34 q1664 (by decide) rfl (fun _ => rfl) ?_
    exact si_goto (pc := 37) hE dX2_numbered_37 (by decide) h41
  exact h0
def bX2_isSign_21 (mo : Nat) (R : Ret MS) : Cont MS :=
    o_zreturn R
def bX2_isSign_20 (mo : Nat) (R : Ret MS) : Cont MS :=
    o_ic 0 <|
    (bX2_isSign_21 mo R)
def bX2_isSign_0 (mo : Nat) (R : Ret MS) : Cont MS :=
    o_al 0 <|
    o_mg mo 2 <|
    o_ic 3 <|
    o_icmp_ne (bX2_isSign_20 mo R) <|
    o_al 0 <|
    o_mg mo 6 <|
    o_il 1 <|
    o_icmp_ne (bX2_isSign_20 mo R) <|
    o_ic 1 <|
    (bX2_isSign_21 mo R)
def pX2_isSign (mo : Nat) : PT MS := fun as σ Q => (lg_sl as).length ≤ 2 ∧ bX2_isSign_0 mo Q (entP 2 as) [] σ
theorem nX2_isSign : parN yX2_isSign 1 := by unfold parN; decide +kernel
set_option maxHeartbeats 4000000 in
theorem eX2_isSign (g : GM) : CT (wM g) yX2_isSign (Cond.code yX2_isSign cX2_isSign 2 (some .boolean)) 0 0 (pX2_isSign g.1) := by
  refine CT.of (wM_ok g) (cc := cX2_isSign) (nL := 2) (ret := (some .boolean)) (ht := []) (by decide +kernel) (Or.inl ⟨rfl, rfl⟩) (B := bX2_isSign_0 g.1) (fun R E X hE => ?_)
  have h21 : E (bX2_isSign_21 g.1 R) 21 := by
    unfold bX2_isSign_21
    exact si_zreturn (pc := 21) hE dX2_isSign_21
  have h20 : E (bX2_isSign_20 g.1 R) 20 := by
    unfold bX2_isSign_20
    refine si_iconst (pc := 20) hE dX2_isSign_20 (by decide) ?_
    exact h21
  have h0 : E (bX2_isSign_0 g.1 R) 0 := by
    unfold bX2_isSign_0
    refine si_aload_n (pc := 0) hE dX2_isSign_0 rfl ?_
    refine si_mg (pc := 1) (k := 2) hE rfl dX2_isSign_1 q1661 (by decide) rfl (fun _ => rfl) ?_
    refine si_iconst (pc := 4) hE dX2_isSign_4 (by decide) ?_
    refine si_icmp_ne (pc := 5) hE dX2_isSign_5 (by decide) h20 ?_
    refine si_aload_n (pc := 8) hE dX2_isSign_8 rfl ?_
    refine si_mg (pc := 9) (k := 6) hE rfl dX2_isSign_9 q1665 (by decide) rfl (fun _ => rfl) ?_
    refine si_iload_n (pc := 12) hE dX2_isSign_12 rfl ?_
    refine si_icmp_ne (pc := 13) hE dX2_isSign_13 (by decide) h20 ?_
    refine si_iconst (pc := 16) hE dX2_isSign_16 (by decide) ?_
    exact si_goto (pc := 17) hE dX2_isSign_17 (by decide) h21
  exact h0
def bX2_take_17 (mo : Nat) (R : Ret MS) : Cont MS :=
    o_return R
def bX2_take_0 (mo : Nat) (R : Ret MS) : Cont MS :=
    o_al 0 <|
    o_al 0 <|
    o_il 1 <|
    o_mc mo 2 (pX2_isSign mo) R <|
    o_ic 2 <|
    o_mc mo 3 (pX2_must mo) R <|
    o_if_eq (bX2_take_17 mo R) <|
    o_al 0 <|
    o_mc mo 1 (pX2_next mo) R <|
    (bX2_take_17 mo R)
def pX2_take (mo : Nat) : PT MS := fun as σ Q => (lg_sl as).length ≤ 2 ∧ bX2_take_0 mo Q (entP 2 as) [] σ
theorem nX2_take : parN yX2_take 1 := by unfold parN; decide +kernel
set_option maxHeartbeats 4000000 in
theorem eX2_take (g : GM) : CT (wM g) yX2_take (Cond.code yX2_take cX2_take 2 none) 3 69 (pX2_take g.1) := by
  refine CT.of (wM_ok g) (cc := cX2_take) (nL := 2) (ret := none) (ht := []) (by decide +kernel) (Or.inl ⟨rfl, rfl⟩) (B := bX2_take_0 g.1) (fun R E X hE => ?_)
  have h17 : E (bX2_take_17 g.1 R) 17 := by
    unfold bX2_take_17
    exact si_return (pc := 17) hE dX2_take_17
  have h0 : E (bX2_take_0 g.1 R) 0 := by
    unfold bX2_take_0
    refine si_aload_n (pc := 0) hE dX2_take_0 rfl ?_
    refine si_aload_n (pc := 1) hE dX2_take_1 rfl ?_
    refine si_iload_n (pc := 2) hE dX2_take_2 rfl ?_
    refine si_mc (pc := 3) (n := 1) hE rfl dX2_take_3 (eX2_isSign g) rfl q1905 q1907 qs63 q1908 q134 nX2_isSign (by decide) (by decide) ?_
    refine si_iconst (pc := 6) hE dX2_take_6 (by decide) ?_
    refine si_mc (pc := 7) (n := 2) hE rfl dX2_take_7 (eX2_must g) rfl q1889 q1891 qs59 q1892 q134 nX2_must (by decide) (by decide) ?_
    refine si_if_eq (pc := 10) hE dX2_take_10 (by decide) h17 ?_
    refine si_aload_n (pc := 13) hE dX2_take_13 rfl ?_
    refine si_mc (pc := 14) (n := 0) hE rfl dX2_take_14 (eX2_next g) rfl q1863 q1865 qs53 q1866 q134 nX2_next (by decide) (by decide) ?_
    exact h17
  exact h0
def bX2_named_38 (mo : Nat) (R : Ret MS) : Cont MS :=
    o_ireturn R
def bX2_named_37 (mo : Nat) (R : Ret MS) : Cont MS :=
    o_ic (-1) <|
    (bX2_named_38 mo R)
def bX2_named_26 (mo : Nat) (R : Ret MS) : Cont MS :=
    o_il 2 <|
    o_if_lt (bX2_named_37 mo R) <|
    o_ic 16 <|
    o_il 2 <|
    o_iadd <|
    (bX2_named_38 mo R)
def bX2_named_0 (mo : Nat) (R : Ret MS) : Cont MS :=
    o_al 0 <|
    o_ic 118 <|
    o_ic 15 <|
    o_mc mo 3 (pX2_numbered mo) R <|
    o_is 1 <|
    o_al 0 <|
    o_ic 116 <|
    o_ic 31 <|
    o_mc mo 3 (pX2_numbered mo) R <|
    o_is 2 <|
    o_il 1 <|
    o_if_lt (bX2_named_26 mo R) <|
    o_il 1 <|
    (bX2_named_38 mo R)
def pX2_named (mo : Nat) : PT MS := fun as σ Q => (lg_sl as).length ≤ 3 ∧ bX2_named_0 mo Q (entP 3 as) [] σ
theorem nX2_named : parN yX2_named 0 := by unfold parN; decide +kernel
set_option maxHeartbeats 4000000 in
theorem eX2_named (g : GM) : CT (wM g) yX2_named (Cond.code yX2_named cX2_named 3 (some .int)) 1 22 (pX2_named g.1) := by
  refine CT.of (wM_ok g) (cc := cX2_named) (nL := 3) (ret := (some .int)) (ht := []) (by decide +kernel) (Or.inl ⟨rfl, rfl⟩) (B := bX2_named_0 g.1) (fun R E X hE => ?_)
  have h38 : E (bX2_named_38 g.1 R) 38 := by
    unfold bX2_named_38
    exact si_ireturn (pc := 38) hE dX2_named_38
  have h37 : E (bX2_named_37 g.1 R) 37 := by
    unfold bX2_named_37
    refine si_iconst (pc := 37) hE dX2_named_37 (by decide) ?_
    exact h38
  have h26 : E (bX2_named_26 g.1 R) 26 := by
    unfold bX2_named_26
    refine si_iload_n (pc := 26) hE dX2_named_26 rfl ?_
    refine si_if_lt (pc := 27) hE dX2_named_27 (by decide) h37 ?_
    refine si_bipush (pc := 30) hE dX2_named_30 (by decide) ?_
    refine si_iload_n (pc := 32) hE dX2_named_32 rfl ?_
    refine si_iadd (pc := 33) hE dX2_named_33 ?_
    exact si_goto (pc := 34) hE dX2_named_34 (by decide) h38
  have h0 : E (bX2_named_0 g.1 R) 0 := by
    unfold bX2_named_0
    refine si_aload_n (pc := 0) hE dX2_named_0 rfl ?_
    refine si_bipush (pc := 1) hE dX2_named_1 (by decide) ?_
    refine si_bipush (pc := 3) hE dX2_named_3 (by decide) ?_
    refine si_mc (pc := 5) (n := 2) hE rfl dX2_named_5 (eX2_numbered g) rfl q1897 q1899 qs61 q1900 q134 nX2_numbered (by decide) (by decide) ?_
    refine si_istore_n (pc := 8) hE dX2_named_8 rfl (by decide) ?_
    refine si_aload_n (pc := 9) hE dX2_named_9 rfl ?_
    refine si_bipush (pc := 10) hE dX2_named_10 (by decide) ?_
    refine si_bipush (pc := 12) hE dX2_named_12 (by decide) ?_
    refine si_mc (pc := 14) (n := 2) hE rfl dX2_named_14 (eX2_numbered g) rfl q1897 q1899 qs61 q1900 q134 nX2_numbered (by decide) (by decide) ?_
    refine si_istore_n (pc := 17) hE dX2_named_17 rfl (by decide) ?_
    refine si_iload_n (pc := 18) hE dX2_named_18 rfl ?_
    refine si_if_lt (pc := 19) hE dX2_named_19 (by decide) h26 ?_
    refine si_iload_n (pc := 22) hE dX2_named_22 rfl ?_
    exact si_goto (pc := 23) hE dX2_named_23 (by decide) h38
  exact h0
def bX2_isWord_30 (mo : Nat) (R : Ret MS) : Cont MS :=
    o_zreturn R
def bX2_isWord_29 (mo : Nat) (R : Ret MS) : Cont MS :=
    o_ic 0 <|
    (bX2_isWord_30 mo R)
def bX2_isWord_0 (mo : Nat) (R : Ret MS) : Cont MS :=
    o_al 0 <|
    o_mg mo 2 <|
    o_ic 1 <|
    o_icmp_ne (bX2_isWord_29 mo R) <|
    o_al 0 <|
    o_mgl mo <|
    o_ll 1 <|
    o_lcmp <|
    o_if_ne (bX2_isWord_29 mo R) <|
    o_al 0 <|
    o_mg mo 5 <|
    o_ic (-1) <|
    o_icmp_ne (bX2_isWord_29 mo R) <|
    o_ic 1 <|
    (bX2_isWord_30 mo R)
def pX2_isWord (mo : Nat) : PT MS := fun as σ Q => (lg_sl as).length ≤ 3 ∧ bX2_isWord_0 mo Q (entP 3 as) [] σ
theorem nX2_isWord : parN yX2_isWord 1 := by unfold parN; decide +kernel
set_option maxHeartbeats 4000000 in
theorem eX2_isWord (g : GM) : CT (wM g) yX2_isWord (Cond.code yX2_isWord cX2_isWord 3 (some .boolean)) 0 0 (pX2_isWord g.1) := by
  refine CT.of (wM_ok g) (cc := cX2_isWord) (nL := 3) (ret := (some .boolean)) (ht := []) (by decide +kernel) (Or.inl ⟨rfl, rfl⟩) (B := bX2_isWord_0 g.1) (fun R E X hE => ?_)
  have h30 : E (bX2_isWord_30 g.1 R) 30 := by
    unfold bX2_isWord_30
    exact si_zreturn (pc := 30) hE dX2_isWord_30
  have h29 : E (bX2_isWord_29 g.1 R) 29 := by
    unfold bX2_isWord_29
    refine si_iconst (pc := 29) hE dX2_isWord_29 (by decide) ?_
    exact h30
  have h0 : E (bX2_isWord_0 g.1 R) 0 := by
    unfold bX2_isWord_0
    refine si_aload_n (pc := 0) hE dX2_isWord_0 rfl ?_
    refine si_mg (pc := 1) (k := 2) hE rfl dX2_isWord_1 q1661 (by decide) rfl (fun _ => rfl) ?_
    refine si_iconst (pc := 4) hE dX2_isWord_4 (by decide) ?_
    refine si_icmp_ne (pc := 5) hE dX2_isWord_5 (by decide) h29 ?_
    refine si_aload_n (pc := 8) hE dX2_isWord_8 rfl ?_
    refine si_mgl (pc := 9) hE rfl dX2_isWord_9 q1666 ?_
    refine si_lload_n (pc := 12) hE dX2_isWord_12 rfl ?_
    refine si_lcmp (pc := 13) hE dX2_isWord_13 ?_
    refine si_if_ne (pc := 14) hE dX2_isWord_14 (by decide) h29 ?_
    refine si_aload_n (pc := 17) hE dX2_isWord_17 rfl ?_
    refine si_mg (pc := 18) (k := 5) hE rfl dX2_isWord_18 q1664 (by decide) rfl (fun _ => rfl) ?_
    refine si_iconst (pc := 21) hE dX2_isWord_21 (by decide) ?_
    refine si_icmp_ne (pc := 22) hE dX2_isWord_22 (by decide) h29 ?_
    refine si_iconst (pc := 25) hE dX2_isWord_25 (by decide) ?_
    exact si_goto (pc := 26) hE dX2_isWord_26 (by decide) h30
  exact h0
def bX2_mayBegin_62 (mo : Nat) (R : Ret MS) : Cont MS :=
    o_zreturn R
def bX2_mayBegin_57 (mo : Nat) (R : Ret MS) : Cont MS :=
    o_ic 1 <|
    (bX2_mayBegin_62 mo R)
def bX2_mayBegin_61 (mo : Nat) (R : Ret MS) : Cont MS :=
    o_ic 0 <|
    (bX2_mayBegin_62 mo R)
def bX2_mayBegin_0 (mo : Nat) (R : Ret MS) : Cont MS :=
    o_al 0 <|
    o_mc mo 1 (pX2_named mo) R <|
    o_if_ge (bX2_mayBegin_57 mo R) <|
    o_al 0 <|
    o_ic 114 <|
    o_ic 1 <|
    o_mc mo 3 (pX2_numbered mo) R <|
    o_if_ge (bX2_mayBegin_57 mo R) <|
    o_al 0 <|
    o_lc 1952803948 <|
    o_mc mo 2 (pX2_isWord mo) R <|
    o_if_ne (bX2_mayBegin_57 mo R) <|
    o_al 0 <|
    o_lc 26479 <|
    o_mc mo 2 (pX2_isWord mo) R <|
    o_if_ne (bX2_mayBegin_57 mo R) <|
    o_al 0 <|
    o_lc 26982 <|
    o_mc mo 2 (pX2_isWord mo) R <|
    o_if_ne (bX2_mayBegin_57 mo R) <|
    o_al 0 <|
    o_lc 465557354085 <|
    o_mc mo 2 (pX2_isWord mo) R <|
    o_if_eq (bX2_mayBegin_61 mo R) <|
    (bX2_mayBegin_57 mo R)
def pX2_mayBegin (mo : Nat) : PT MS := fun as σ Q => (lg_sl as).length ≤ 1 ∧ bX2_mayBegin_0 mo Q (entP 1 as) [] σ
theorem nX2_mayBegin : parN yX2_mayBegin 0 := by unfold parN; decide +kernel
set_option maxHeartbeats 4000000 in
theorem eX2_mayBegin (g : GM) : CT (wM g) yX2_mayBegin (Cond.code yX2_mayBegin cX2_mayBegin 1 (some .boolean)) 2 44 (pX2_mayBegin g.1) := by
  refine CT.of (wM_ok g) (cc := cX2_mayBegin) (nL := 1) (ret := (some .boolean)) (ht := []) (by decide +kernel) (Or.inl ⟨rfl, rfl⟩) (B := bX2_mayBegin_0 g.1) (fun R E X hE => ?_)
  have h62 : E (bX2_mayBegin_62 g.1 R) 62 := by
    unfold bX2_mayBegin_62
    exact si_zreturn (pc := 62) hE dX2_mayBegin_62
  have h57 : E (bX2_mayBegin_57 g.1 R) 57 := by
    unfold bX2_mayBegin_57
    refine si_iconst (pc := 57) hE dX2_mayBegin_57 (by decide) ?_
    exact si_goto (pc := 58) hE dX2_mayBegin_58 (by decide) h62
  have h61 : E (bX2_mayBegin_61 g.1 R) 61 := by
    unfold bX2_mayBegin_61
    refine si_iconst (pc := 61) hE dX2_mayBegin_61 (by decide) ?_
    exact h62
  have h0 : E (bX2_mayBegin_0 g.1 R) 0 := by
    unfold bX2_mayBegin_0
    refine si_aload_n (pc := 0) hE dX2_mayBegin_0 rfl ?_
    refine si_mc (pc := 1) (n := 0) hE rfl dX2_mayBegin_1 (eX2_named g) rfl q1917 q1919 qs66 q1920 q134 nX2_named (by decide) (by decide) ?_
    refine si_if_ge (pc := 4) hE dX2_mayBegin_4 (by decide) h57 ?_
    refine si_aload_n (pc := 7) hE dX2_mayBegin_7 rfl ?_
    refine si_bipush (pc := 8) hE dX2_mayBegin_8 (by decide) ?_
    refine si_iconst (pc := 10) hE dX2_mayBegin_10 (by decide) ?_
    refine si_mc (pc := 11) (n := 2) hE rfl dX2_mayBegin_11 (eX2_numbered g) rfl q1897 q1899 qs61 q1900 q134 nX2_numbered (by decide) (by decide) ?_
    refine si_if_ge (pc := 14) hE dX2_mayBegin_14 (by decide) h57 ?_
    refine si_aload_n (pc := 17) hE dX2_mayBegin_17 rfl ?_
    refine si_ldc2 (pc := 18) hE dX2_mayBegin_18 q1921 ?_
    refine si_mc (pc := 21) (n := 1) hE rfl dX2_mayBegin_21 (eX2_isWord g) rfl q1922 q1924 qs67 q1925 q134 nX2_isWord (by decide) (by decide) ?_
    refine si_if_ne (pc := 24) hE dX2_mayBegin_24 (by decide) h57 ?_
    refine si_aload_n (pc := 27) hE dX2_mayBegin_27 rfl ?_
    refine si_ldc2 (pc := 28) hE dX2_mayBegin_28 q1926 ?_
    refine si_mc (pc := 31) (n := 1) hE rfl dX2_mayBegin_31 (eX2_isWord g) rfl q1922 q1924 qs67 q1925 q134 nX2_isWord (by decide) (by decide) ?_
    refine si_if_ne (pc := 34) hE dX2_mayBegin_34 (by decide) h57 ?_
    refine si_aload_n (pc := 37) hE dX2_mayBegin_37 rfl ?_
    refine si_ldc2 (pc := 38) hE dX2_mayBegin_38 q1927 ?_
    refine si_mc (pc := 41) (n := 1) hE rfl dX2_mayBegin_41 (eX2_isWord g) rfl q1922 q1924 qs67 q1925 q134 nX2_isWord (by decide) (by decide) ?_
    refine si_if_ne (pc := 44) hE dX2_mayBegin_44 (by decide) h57 ?_
    refine si_aload_n (pc := 47) hE dX2_mayBegin_47 rfl ?_
    refine si_ldc2 (pc := 48) hE dX2_mayBegin_48 q1928 ?_
    refine si_mc (pc := 51) (n := 1) hE rfl dX2_mayBegin_51 (eX2_isWord g) rfl q1922 q1924 qs67 q1925 q134 nX2_isWord (by decide) (by decide) ?_
    refine si_if_eq (pc := 54) hE dX2_mayBegin_54 (by decide) h61 ?_
    exact h57
  exact h0
def bX2_operand_127 (mo : Nat) (R : Ret MS) : Cont MS :=
    o_mp mo 36 <|
    o_al 0 <|
    o_mc mo 1 (pX2_next mo) R <|
    o_return R
def bX2_operand_126 (mo : Nat) (R : Ret MS) : Cont MS :=
    o_ic 0 <|
    (bX2_operand_127 mo R)
def bX2_operand_119 (mo : Nat) (R : Ret MS) : Cont MS :=
    o_al 0 <|
    o_mg mo 6 <|
    (bX2_operand_127 mo R)
def bX2_operand_95 (mo : Nat) (R : Ret MS) : Cont MS :=
    o_mp mo 35 <|
    o_al 0 <|
    o_al 0 <|
    o_mg mo 2 <|
    o_ic 2 <|
    o_icmp_ne (bX2_operand_126 mo R) <|
    o_il 1 <|
    o_if_eq (bX2_operand_119 mo R) <|
    o_al 0 <|
    o_mg mo 6 <|
    o_ineg <|
    (bX2_operand_127 mo R)
def bX2_operand_91 (mo : Nat) (R : Ret MS) : Cont MS :=
    o_al 0 <|
    o_mc mo 1 (pX2_named mo) R <|
    (bX2_operand_95 mo R)
def bX2_operand_78 (mo : Nat) (R : Ret MS) : Cont MS :=
    o_al 0 <|
    o_al 0 <|
    o_mg mo 2 <|
    o_ic 2 <|
    o_icmp_ne (bX2_operand_91 mo R) <|
    o_ic (-1) <|
    (bX2_operand_95 mo R)
def bX2_operand_70 (mo : Nat) (R : Ret MS) : Cont MS :=
    o_ic 2 <|
    o_mc mo 3 (pX2_must mo) R <|
    o_if_ne (bX2_operand_78 mo R) <|
    o_return R
def bX2_operand_65 (mo : Nat) (R : Ret MS) : Cont MS :=
    o_ic 1 <|
    (bX2_operand_70 mo R)
def bX2_operand_69 (mo : Nat) (R : Ret MS) : Cont MS :=
    o_ic 0 <|
    (bX2_operand_70 mo R)
def bX2_operand_49 (mo : Nat) (R : Ret MS) : Cont MS :=
    o_al 0 <|
    o_al 0 <|
    o_mg mo 2 <|
    o_ic 2 <|
    o_icmp_eq (bX2_operand_65 mo R) <|
    o_al 0 <|
    o_mc mo 1 (pX2_named mo) R <|
    o_if_lt (bX2_operand_69 mo R) <|
    (bX2_operand_65 mo R)
def bX2_operand_41 (mo : Nat) (R : Ret MS) : Cont MS :=
    o_ic 2 <|
    o_mc mo 3 (pX2_must mo) R <|
    o_if_ne (bX2_operand_78 mo R) <|
    o_return R
def bX2_operand_40 (mo : Nat) (R : Ret MS) : Cont MS :=
    o_ic 0 <|
    (bX2_operand_41 mo R)
def bX2_operand_23 (mo : Nat) (R : Ret MS) : Cont MS :=
    o_il 1 <|
    o_if_eq (bX2_operand_49 mo R) <|
    o_al 0 <|
    o_al 0 <|
    o_mg mo 2 <|
    o_ic 2 <|
    o_icmp_ne (bX2_operand_40 mo R) <|
    o_ic 1 <|
    (bX2_operand_41 mo R)
def bX2_operand_8 (mo : Nat) (R : Ret MS) : Cont MS :=
    o_al 0 <|
    o_ic 45 <|
    o_mc mo 2 (pX2_isSign mo) R <|
    o_is 1 <|
    o_il 1 <|
    o_if_eq (bX2_operand_23 mo R) <|
    o_al 0 <|
    o_mc mo 1 (pX2_next mo) R <|
    (bX2_operand_23 mo R)
def bX2_operand_0 (mo : Nat) (R : Ret MS) : Cont MS :=
    o_al 0 <|
    o_mg mo 32 <|
    o_if_le (bX2_operand_8 mo R) <|
    o_return R
def pX2_operand (mo : Nat) : PT MS := fun as σ Q => (lg_sl as).length ≤ 2 ∧ bX2_operand_0 mo Q (entP 2 as) [] σ
theorem nX2_operand : parN yX2_operand 0 := by unfold parN; decide +kernel
set_option maxHeartbeats 4000000 in
theorem eX2_operand (g : GM) : CT (wM g) yX2_operand (Cond.code yX2_operand cX2_operand 2 none) 3 69 (pX2_operand g.1) := by
  refine CT.of (wM_ok g) (cc := cX2_operand) (nL := 2) (ret := none) (ht := []) (by decide +kernel) (Or.inl ⟨rfl, rfl⟩) (B := bX2_operand_0 g.1) (fun R E X hE => ?_)
  have h127 : E (bX2_operand_127 g.1 R) 127 := by
    unfold bX2_operand_127
    refine si_mp (pc := 127) (k := 36) hE rfl dX2_operand_127 q1695 (by decide) rfl rfl rfl rfl ?_
    refine si_aload_n (pc := 130) hE dX2_operand_130 rfl ?_
    refine si_mc (pc := 131) (n := 0) hE rfl dX2_operand_131 (eX2_next g) rfl q1863 q1865 qs53 q1866 q134 nX2_next (by decide) (by decide) ?_
    exact si_return (pc := 134) hE dX2_operand_134
  have h126 : E (bX2_operand_126 g.1 R) 126 := by
    unfold bX2_operand_126
    refine si_iconst (pc := 126) hE dX2_operand_126 (by decide) ?_
    exact h127
  have h119 : E (bX2_operand_119 g.1 R) 119 := by
    unfold bX2_operand_119
    refine si_aload_n (pc := 119) hE dX2_operand_119 rfl ?_
    refine si_mg (pc := 120) (k := 6) hE rfl dX2_operand_120 q1665 (by decide) rfl (fun _ => rfl) ?_
    exact si_goto (pc := 123) hE dX2_operand_123 (by decide) h127
  have h95 : E (bX2_operand_95 g.1 R) 95 := by
    unfold bX2_operand_95
    refine si_mp (pc := 95) (k := 35) hE rfl dX2_operand_95 q1694 (by decide) rfl rfl rfl rfl ?_
    refine si_aload_n (pc := 98) hE dX2_operand_98 rfl ?_
    refine si_aload_n (pc := 99) hE dX2_operand_99 rfl ?_
    refine si_mg (pc := 100) (k := 2) hE rfl dX2_operand_100 q1661 (by decide) rfl (fun _ => rfl) ?_
    refine si_iconst (pc := 103) hE dX2_operand_103 (by decide) ?_
    refine si_icmp_ne (pc := 104) hE dX2_operand_104 (by decide) h126 ?_
    refine si_iload_n (pc := 107) hE dX2_operand_107 rfl ?_
    refine si_if_eq (pc := 108) hE dX2_operand_108 (by decide) h119 ?_
    refine si_aload_n (pc := 111) hE dX2_operand_111 rfl ?_
    refine si_mg (pc := 112) (k := 6) hE rfl dX2_operand_112 q1665 (by decide) rfl (fun _ => rfl) ?_
    refine si_ineg (pc := 115) hE dX2_operand_115 ?_
    exact si_goto (pc := 116) hE dX2_operand_116 (by decide) h127
  have h91 : E (bX2_operand_91 g.1 R) 91 := by
    unfold bX2_operand_91
    refine si_aload_n (pc := 91) hE dX2_operand_91 rfl ?_
    refine si_mc (pc := 92) (n := 0) hE rfl dX2_operand_92 (eX2_named g) rfl q1917 q1919 qs66 q1920 q134 nX2_named (by decide) (by decide) ?_
    exact h95
  have h78 : E (bX2_operand_78 g.1 R) 78 := by
    unfold bX2_operand_78
    refine si_aload_n (pc := 78) hE dX2_operand_78 rfl ?_
    refine si_aload_n (pc := 79) hE dX2_operand_79 rfl ?_
    refine si_mg (pc := 80) (k := 2) hE rfl dX2_operand_80 q1661 (by decide) rfl (fun _ => rfl) ?_
    refine si_iconst (pc := 83) hE dX2_operand_83 (by decide) ?_
    refine si_icmp_ne (pc := 84) hE dX2_operand_84 (by decide) h91 ?_
    refine si_iconst (pc := 87) hE dX2_operand_87 (by decide) ?_
    exact si_goto (pc := 88) hE dX2_operand_88 (by decide) h95
  have h70 : E (bX2_operand_70 g.1 R) 70 := by
    unfold bX2_operand_70
    refine si_iconst (pc := 70) hE dX2_operand_70 (by decide) ?_
    refine si_mc (pc := 71) (n := 2) hE rfl dX2_operand_71 (eX2_must g) rfl q1889 q1891 qs59 q1892 q134 nX2_must (by decide) (by decide) ?_
    refine si_if_ne (pc := 74) hE dX2_operand_74 (by decide) h78 ?_
    exact si_return (pc := 77) hE dX2_operand_77
  have h65 : E (bX2_operand_65 g.1 R) 65 := by
    unfold bX2_operand_65
    refine si_iconst (pc := 65) hE dX2_operand_65 (by decide) ?_
    exact si_goto (pc := 66) hE dX2_operand_66 (by decide) h70
  have h69 : E (bX2_operand_69 g.1 R) 69 := by
    unfold bX2_operand_69
    refine si_iconst (pc := 69) hE dX2_operand_69 (by decide) ?_
    exact h70
  have h49 : E (bX2_operand_49 g.1 R) 49 := by
    unfold bX2_operand_49
    refine si_aload_n (pc := 49) hE dX2_operand_49 rfl ?_
    refine si_aload_n (pc := 50) hE dX2_operand_50 rfl ?_
    refine si_mg (pc := 51) (k := 2) hE rfl dX2_operand_51 q1661 (by decide) rfl (fun _ => rfl) ?_
    refine si_iconst (pc := 54) hE dX2_operand_54 (by decide) ?_
    refine si_icmp_eq (pc := 55) hE dX2_operand_55 (by decide) h65 ?_
    refine si_aload_n (pc := 58) hE dX2_operand_58 rfl ?_
    refine si_mc (pc := 59) (n := 0) hE rfl dX2_operand_59 (eX2_named g) rfl q1917 q1919 qs66 q1920 q134 nX2_named (by decide) (by decide) ?_
    refine si_if_lt (pc := 62) hE dX2_operand_62 (by decide) h69 ?_
    exact h65
  have h41 : E (bX2_operand_41 g.1 R) 41 := by
    unfold bX2_operand_41
    refine si_iconst (pc := 41) hE dX2_operand_41 (by decide) ?_
    refine si_mc (pc := 42) (n := 2) hE rfl dX2_operand_42 (eX2_must g) rfl q1889 q1891 qs59 q1892 q134 nX2_must (by decide) (by decide) ?_
    refine si_if_ne (pc := 45) hE dX2_operand_45 (by decide) h78 ?_
    exact si_return (pc := 48) hE dX2_operand_48
  have h40 : E (bX2_operand_40 g.1 R) 40 := by
    unfold bX2_operand_40
    refine si_iconst (pc := 40) hE dX2_operand_40 (by decide) ?_
    exact h41
  have h23 : E (bX2_operand_23 g.1 R) 23 := by
    unfold bX2_operand_23
    refine si_iload_n (pc := 23) hE dX2_operand_23 rfl ?_
    refine si_if_eq (pc := 24) hE dX2_operand_24 (by decide) h49 ?_
    refine si_aload_n (pc := 27) hE dX2_operand_27 rfl ?_
    refine si_aload_n (pc := 28) hE dX2_operand_28 rfl ?_
    refine si_mg (pc := 29) (k := 2) hE rfl dX2_operand_29 q1661 (by decide) rfl (fun _ => rfl) ?_
    refine si_iconst (pc := 32) hE dX2_operand_32 (by decide) ?_
    refine si_icmp_ne (pc := 33) hE dX2_operand_33 (by decide) h40 ?_
    refine si_iconst (pc := 36) hE dX2_operand_36 (by decide) ?_
    exact si_goto (pc := 37) hE dX2_operand_37 (by decide) h41
  have h8 : E (bX2_operand_8 g.1 R) 8 := by
    unfold bX2_operand_8
    refine si_aload_n (pc := 8) hE dX2_operand_8 rfl ?_
    refine si_bipush (pc := 9) hE dX2_operand_9 (by decide) ?_
    refine si_mc (pc := 11) (n := 1) hE rfl dX2_operand_11 (eX2_isSign g) rfl q1905 q1907 qs63 q1908 q134 nX2_isSign (by decide) (by decide) ?_
    refine si_istore_n (pc := 14) hE dX2_operand_14 rfl (by decide) ?_
    refine si_iload_n (pc := 15) hE dX2_operand_15 rfl ?_
    refine si_if_eq (pc := 16) hE dX2_operand_16 (by decide) h23 ?_
    refine si_aload_n (pc := 19) hE dX2_operand_19 rfl ?_
    refine si_mc (pc := 20) (n := 0) hE rfl dX2_operand_20 (eX2_next g) rfl q1863 q1865 qs53 q1866 q134 nX2_next (by decide) (by decide) ?_
    exact h23
  have h0 : E (bX2_operand_0 g.1 R) 0 := by
    unfold bX2_operand_0
    refine si_aload_n (pc := 0) hE dX2_operand_0 rfl ?_
    refine si_mg (pc := 1) (k := 32) hE rfl dX2_operand_1 q1691 (by decide) rfl (fun _ => rfl) ?_
    refine si_if_le (pc := 4) hE dX2_operand_4 (by decide) h8 ?_
    exact si_return (pc := 7) hE dX2_operand_7
  exact h0
def bX2_summed_138 (mo : Nat) (R : Ret MS) : Cont MS :=
    o_al 0 <|
    o_mga mo 26 <|
    o_il 8 <|
    o_il 7 <|
    o_iadd <|
    o_il 2 <|
    o_mis mo 26 <|
    o_al 0 <|
    o_mga mo 27 <|
    o_il 8 <|
    o_il 7 <|
    o_iadd <|
    o_il 3 <|
    o_mis mo 27 <|
    o_al 0 <|
    o_mga mo 28 <|
    o_il 8 <|
    o_il 7 <|
    o_iadd <|
    o_il 4 <|
    o_mis mo 28 <|
    o_al 0 <|
    o_mga mo 29 <|
    o_il 8 <|
    o_il 7 <|
    o_iadd <|
    o_il 5 <|
    o_mis mo 29 <|
    o_al 0 <|
    o_mga mo 30 <|
    o_il 8 <|
    o_il 7 <|
    o_iadd <|
    o_il 6 <|
    o_mis mo 30 <|
    o_al 0 <|
    o_mga mo 12 <|
    o_ic 4 <|
    o_dup2 <|
    o_mia mo 12 <|
    o_ic 1 <|
    o_iadd <|
    o_mis mo 12 <|
    o_return R
def bX2_summed_125 (mo : Nat) (R : Ret MS) : Cont MS :=
    o_il 7 <|
    o_ic 32 <|
    o_icmp_ne (bX2_summed_138 mo R) <|
    o_al 0 <|
    o_ic 1 <|
    o_mpz mo 38 <|
    o_return R
def bX2_summed_105 (mo : Nat) (R : Ret MS) : Cont MS :=
    o_al 0 <|
    o_mga mo 18 <|
    o_il 1 <|
    o_il 7 <|
    o_mis mo 18 <|
    o_il 7 <|
    o_al 0 <|
    o_mga mo 12 <|
    o_ic 4 <|
    o_mia mo 12 <|
    o_icmp_ge (bX2_summed_125 mo R) <|
    o_return R
def bX2_summed_99 (mo : Nat) (R : Ret MS) (J15 : Cont MS) : Cont MS :=
    o_iinc 7 1 <|
    J15
def bX2_summed_15 (mo : Nat) (R : Ret MS) : Cont MS :=
    fixC fun J15 =>
    o_il 7 <|
    o_al 0 <|
    o_mga mo 12 <|
    o_ic 4 <|
    o_mia mo 12 <|
    o_icmp_ge (bX2_summed_105 mo R) <|
    o_al 0 <|
    o_mga mo 26 <|
    o_il 8 <|
    o_il 7 <|
    o_iadd <|
    o_mia mo 26 <|
    o_il 2 <|
    o_icmp_ne (bX2_summed_99 mo R J15) <|
    o_al 0 <|
    o_mga mo 27 <|
    o_il 8 <|
    o_il 7 <|
    o_iadd <|
    o_mia mo 27 <|
    o_il 3 <|
    o_icmp_ne (bX2_summed_99 mo R J15) <|
    o_al 0 <|
    o_mga mo 28 <|
    o_il 8 <|
    o_il 7 <|
    o_iadd <|
    o_mia mo 28 <|
    o_il 4 <|
    o_icmp_ne (bX2_summed_99 mo R J15) <|
    o_al 0 <|
    o_mga mo 29 <|
    o_il 8 <|
    o_il 7 <|
    o_iadd <|
    o_mia mo 29 <|
    o_il 5 <|
    o_icmp_ne (bX2_summed_99 mo R J15) <|
    o_al 0 <|
    o_mga mo 30 <|
    o_il 8 <|
    o_il 7 <|
    o_iadd <|
    o_mia mo 30 <|
    o_il 6 <|
    o_icmp_eq (bX2_summed_105 mo R) <|
    (bX2_summed_99 mo R J15)
def bX2_summed_0 (mo : Nat) (R : Ret MS) : Cont MS :=
    o_al 0 <|
    o_mga mo 15 <|
    o_il 1 <|
    o_ic 0 <|
    o_mis mo 15 <|
    o_ic 0 <|
    o_is 7 <|
    o_ic 128 <|
    o_is 8 <|
    (bX2_summed_15 mo R)
def pX2_summed (mo : Nat) : PT MS := fun as σ Q => (lg_sl as).length ≤ 9 ∧ bX2_summed_0 mo Q (entP 9 as) [] σ
theorem nX2_summed : parN yX2_summed 6 := by unfold parN; decide +kernel
set_option maxHeartbeats 4000000 in
theorem eX2_summed (g : GM) : CT (wM g) yX2_summed (Cond.code yX2_summed cX2_summed 9 none) 0 0 (pX2_summed g.1) := by
  refine CT.of (wM_ok g) (cc := cX2_summed) (nL := 9) (ret := none) (ht := []) (by decide +kernel) (Or.inl ⟨rfl, rfl⟩) (B := bX2_summed_0 g.1) (fun R E X hE => ?_)
  have h138 : E (bX2_summed_138 g.1 R) 138 := by
    unfold bX2_summed_138
    refine si_aload_n (pc := 138) hE dX2_summed_138 rfl ?_
    refine si_mga (pc := 139) (k := 26) hE rfl dX2_summed_139 q1685 (by decide) rfl (fun _ => rfl) ?_
    refine si_iload (pc := 142) hE dX2_summed_142 ?_
    refine si_iload (pc := 144) hE dX2_summed_144 ?_
    refine si_iadd (pc := 146) hE dX2_summed_146 ?_
    refine si_iload_n (pc := 147) hE dX2_summed_147 rfl ?_
    refine si_mis (pc := 148) (k := 26) hE dX2_summed_148 (by decide) rfl ?_
    refine si_aload_n (pc := 149) hE dX2_summed_149 rfl ?_
    refine si_mga (pc := 150) (k := 27) hE rfl dX2_summed_150 q1686 (by decide) rfl (fun _ => rfl) ?_
    refine si_iload (pc := 153) hE dX2_summed_153 ?_
    refine si_iload (pc := 155) hE dX2_summed_155 ?_
    refine si_iadd (pc := 157) hE dX2_summed_157 ?_
    refine si_iload_n (pc := 158) hE dX2_summed_158 rfl ?_
    refine si_mis (pc := 159) (k := 27) hE dX2_summed_159 (by decide) rfl ?_
    refine si_aload_n (pc := 160) hE dX2_summed_160 rfl ?_
    refine si_mga (pc := 161) (k := 28) hE rfl dX2_summed_161 q1687 (by decide) rfl (fun _ => rfl) ?_
    refine si_iload (pc := 164) hE dX2_summed_164 ?_
    refine si_iload (pc := 166) hE dX2_summed_166 ?_
    refine si_iadd (pc := 168) hE dX2_summed_168 ?_
    refine si_iload (pc := 169) hE dX2_summed_169 ?_
    refine si_mis (pc := 171) (k := 28) hE dX2_summed_171 (by decide) rfl ?_
    refine si_aload_n (pc := 172) hE dX2_summed_172 rfl ?_
    refine si_mga (pc := 173) (k := 29) hE rfl dX2_summed_173 q1688 (by decide) rfl (fun _ => rfl) ?_
    refine si_iload (pc := 176) hE dX2_summed_176 ?_
    refine si_iload (pc := 178) hE dX2_summed_178 ?_
    refine si_iadd (pc := 180) hE dX2_summed_180 ?_
    refine si_iload (pc := 181) hE dX2_summed_181 ?_
    refine si_mis (pc := 183) (k := 29) hE dX2_summed_183 (by decide) rfl ?_
    refine si_aload_n (pc := 184) hE dX2_summed_184 rfl ?_
    refine si_mga (pc := 185) (k := 30) hE rfl dX2_summed_185 q1689 (by decide) rfl (fun _ => rfl) ?_
    refine si_iload (pc := 188) hE dX2_summed_188 ?_
    refine si_iload (pc := 190) hE dX2_summed_190 ?_
    refine si_iadd (pc := 192) hE dX2_summed_192 ?_
    refine si_iload (pc := 193) hE dX2_summed_193 ?_
    refine si_mis (pc := 195) (k := 30) hE dX2_summed_195 (by decide) rfl ?_
    refine si_aload_n (pc := 196) hE dX2_summed_196 rfl ?_
    refine si_mga (pc := 197) (k := 12) hE rfl dX2_summed_197 q1671 (by decide) rfl (fun _ => rfl) ?_
    refine si_iconst (pc := 200) hE dX2_summed_200 (by decide) ?_
    refine si_dup2 (pc := 201) hE dX2_summed_201 ?_
    refine si_mia (pc := 202) (k := 12) hE dX2_summed_202 (by decide) rfl ?_
    refine si_iconst (pc := 203) hE dX2_summed_203 (by decide) ?_
    refine si_iadd (pc := 204) hE dX2_summed_204 ?_
    refine si_mis (pc := 205) (k := 12) hE dX2_summed_205 (by decide) rfl ?_
    exact si_return (pc := 206) hE dX2_summed_206
  have h125 : E (bX2_summed_125 g.1 R) 125 := by
    unfold bX2_summed_125
    refine si_iload (pc := 125) hE dX2_summed_125 ?_
    refine si_bipush (pc := 127) hE dX2_summed_127 (by decide) ?_
    refine si_icmp_ne (pc := 129) hE dX2_summed_129 (by decide) h138 ?_
    refine si_aload_n (pc := 132) hE dX2_summed_132 rfl ?_
    refine si_iconst (pc := 133) hE dX2_summed_133 (by decide) ?_
    refine si_mpz (pc := 134) (k := 38) hE rfl dX2_summed_134 q1697 (by decide) rfl rfl rfl rfl ?_
    exact si_return (pc := 137) hE dX2_summed_137
  have h105 : E (bX2_summed_105 g.1 R) 105 := by
    unfold bX2_summed_105
    refine si_aload_n (pc := 105) hE dX2_summed_105 rfl ?_
    refine si_mga (pc := 106) (k := 18) hE rfl dX2_summed_106 q1677 (by decide) rfl (fun _ => rfl) ?_
    refine si_iload_n (pc := 109) hE dX2_summed_109 rfl ?_
    refine si_iload (pc := 110) hE dX2_summed_110 ?_
    refine si_mis (pc := 112) (k := 18) hE dX2_summed_112 (by decide) rfl ?_
    refine si_iload (pc := 113) hE dX2_summed_113 ?_
    refine si_aload_n (pc := 115) hE dX2_summed_115 rfl ?_
    refine si_mga (pc := 116) (k := 12) hE rfl dX2_summed_116 q1671 (by decide) rfl (fun _ => rfl) ?_
    refine si_iconst (pc := 119) hE dX2_summed_119 (by decide) ?_
    refine si_mia (pc := 120) (k := 12) hE dX2_summed_120 (by decide) rfl ?_
    refine si_icmp_ge (pc := 121) hE dX2_summed_121 (by decide) h125 ?_
    exact si_return (pc := 124) hE dX2_summed_124
  have h99 : ∀ (J15 : Cont MS) (hJ15 : E J15 15), E (bX2_summed_99 g.1 R J15) 99 := by
    intro J15 hJ15
    unfold bX2_summed_99
    refine si_iinc (pc := 99) hE dX2_summed_99 (by decide) (by decide) ?_
    exact si_goto (pc := 102) hE dX2_summed_102 (by decide) hJ15
  have h15 : E (bX2_summed_15 g.1 R) 15 := by
    unfold bX2_summed_15
    refine si_fix hE (fun J15 hJ15 => ?_)
    refine si_iload (pc := 15) hE dX2_summed_15 ?_
    refine si_aload_n (pc := 17) hE dX2_summed_17 rfl ?_
    refine si_mga (pc := 18) (k := 12) hE rfl dX2_summed_18 q1671 (by decide) rfl (fun _ => rfl) ?_
    refine si_iconst (pc := 21) hE dX2_summed_21 (by decide) ?_
    refine si_mia (pc := 22) (k := 12) hE dX2_summed_22 (by decide) rfl ?_
    refine si_icmp_ge (pc := 23) hE dX2_summed_23 (by decide) h105 ?_
    refine si_aload_n (pc := 26) hE dX2_summed_26 rfl ?_
    refine si_mga (pc := 27) (k := 26) hE rfl dX2_summed_27 q1685 (by decide) rfl (fun _ => rfl) ?_
    refine si_iload (pc := 30) hE dX2_summed_30 ?_
    refine si_iload (pc := 32) hE dX2_summed_32 ?_
    refine si_iadd (pc := 34) hE dX2_summed_34 ?_
    refine si_mia (pc := 35) (k := 26) hE dX2_summed_35 (by decide) rfl ?_
    refine si_iload_n (pc := 36) hE dX2_summed_36 rfl ?_
    refine si_icmp_ne (pc := 37) hE dX2_summed_37 (by decide) (h99 J15 hJ15) ?_
    refine si_aload_n (pc := 40) hE dX2_summed_40 rfl ?_
    refine si_mga (pc := 41) (k := 27) hE rfl dX2_summed_41 q1686 (by decide) rfl (fun _ => rfl) ?_
    refine si_iload (pc := 44) hE dX2_summed_44 ?_
    refine si_iload (pc := 46) hE dX2_summed_46 ?_
    refine si_iadd (pc := 48) hE dX2_summed_48 ?_
    refine si_mia (pc := 49) (k := 27) hE dX2_summed_49 (by decide) rfl ?_
    refine si_iload_n (pc := 50) hE dX2_summed_50 rfl ?_
    refine si_icmp_ne (pc := 51) hE dX2_summed_51 (by decide) (h99 J15 hJ15) ?_
    refine si_aload_n (pc := 54) hE dX2_summed_54 rfl ?_
    refine si_mga (pc := 55) (k := 28) hE rfl dX2_summed_55 q1687 (by decide) rfl (fun _ => rfl) ?_
    refine si_iload (pc := 58) hE dX2_summed_58 ?_
    refine si_iload (pc := 60) hE dX2_summed_60 ?_
    refine si_iadd (pc := 62) hE dX2_summed_62 ?_
    refine si_mia (pc := 63) (k := 28) hE dX2_summed_63 (by decide) rfl ?_
    refine si_iload (pc := 64) hE dX2_summed_64 ?_
    refine si_icmp_ne (pc := 66) hE dX2_summed_66 (by decide) (h99 J15 hJ15) ?_
    refine si_aload_n (pc := 69) hE dX2_summed_69 rfl ?_
    refine si_mga (pc := 70) (k := 29) hE rfl dX2_summed_70 q1688 (by decide) rfl (fun _ => rfl) ?_
    refine si_iload (pc := 73) hE dX2_summed_73 ?_
    refine si_iload (pc := 75) hE dX2_summed_75 ?_
    refine si_iadd (pc := 77) hE dX2_summed_77 ?_
    refine si_mia (pc := 78) (k := 29) hE dX2_summed_78 (by decide) rfl ?_
    refine si_iload (pc := 79) hE dX2_summed_79 ?_
    refine si_icmp_ne (pc := 81) hE dX2_summed_81 (by decide) (h99 J15 hJ15) ?_
    refine si_aload_n (pc := 84) hE dX2_summed_84 rfl ?_
    refine si_mga (pc := 85) (k := 30) hE rfl dX2_summed_85 q1689 (by decide) rfl (fun _ => rfl) ?_
    refine si_iload (pc := 88) hE dX2_summed_88 ?_
    refine si_iload (pc := 90) hE dX2_summed_90 ?_
    refine si_iadd (pc := 92) hE dX2_summed_92 ?_
    refine si_mia (pc := 93) (k := 30) hE dX2_summed_93 (by decide) rfl ?_
    refine si_iload (pc := 94) hE dX2_summed_94 ?_
    refine si_icmp_eq (pc := 96) hE dX2_summed_96 (by decide) h105 ?_
    exact (h99 J15 hJ15)
  have h0 : E (bX2_summed_0 g.1 R) 0 := by
    unfold bX2_summed_0
    refine si_aload_n (pc := 0) hE dX2_summed_0 rfl ?_
    refine si_mga (pc := 1) (k := 15) hE rfl dX2_summed_1 q1674 (by decide) rfl (fun _ => rfl) ?_
    refine si_iload_n (pc := 4) hE dX2_summed_4 rfl ?_
    refine si_iconst (pc := 5) hE dX2_summed_5 (by decide) ?_
    refine si_mis (pc := 6) (k := 15) hE dX2_summed_6 (by decide) rfl ?_
    refine si_iconst (pc := 7) hE dX2_summed_7 (by decide) ?_
    refine si_istore (pc := 8) hE dX2_summed_8 (by decide) ?_
    refine si_sipush (pc := 10) hE dX2_summed_10 (by decide) ?_
    refine si_istore (pc := 13) hE dX2_summed_13 (by decide) ?_
    exact h15
  exact h0
def bX2_first_0 (mo : Nat) (R : Ret MS) : Cont MS :=
    o_al 0 <|
    o_mc mo 1 (pX2_operand mo) R <|
    o_al 0 <|
    o_mga mo 21 <|
    o_il 1 <|
    o_al 0 <|
    o_mg mo 35 <|
    o_mis mo 21 <|
    o_al 0 <|
    o_mga mo 22 <|
    o_il 1 <|
    o_al 0 <|
    o_mg mo 36 <|
    o_mis mo 22 <|
    o_return R
def pX2_first (mo : Nat) : PT MS := fun as σ Q => (lg_sl as).length ≤ 2 ∧ bX2_first_0 mo Q (entP 2 as) [] σ
theorem nX2_first : parN yX2_first 1 := by unfold parN; decide +kernel
set_option maxHeartbeats 4000000 in
theorem eX2_first (g : GM) : CT (wM g) yX2_first (Cond.code yX2_first cX2_first 2 none) 4 90 (pX2_first g.1) := by
  refine CT.of (wM_ok g) (cc := cX2_first) (nL := 2) (ret := none) (ht := []) (by decide +kernel) (Or.inl ⟨rfl, rfl⟩) (B := bX2_first_0 g.1) (fun R E X hE => ?_)
  have h0 : E (bX2_first_0 g.1 R) 0 := by
    unfold bX2_first_0
    refine si_aload_n (pc := 0) hE dX2_first_0 rfl ?_
    refine si_mc (pc := 1) (n := 0) hE rfl dX2_first_1 (eX2_operand g) rfl q1933 q1935 qs69 q1936 q134 nX2_operand (by decide) (by decide) ?_
    refine si_aload_n (pc := 4) hE dX2_first_4 rfl ?_
    refine si_mga (pc := 5) (k := 21) hE rfl dX2_first_5 q1680 (by decide) rfl (fun _ => rfl) ?_
    refine si_iload_n (pc := 8) hE dX2_first_8 rfl ?_
    refine si_aload_n (pc := 9) hE dX2_first_9 rfl ?_
    refine si_mg (pc := 10) (k := 35) hE rfl dX2_first_10 q1694 (by decide) rfl (fun _ => rfl) ?_
    refine si_mis (pc := 13) (k := 21) hE dX2_first_13 (by decide) rfl ?_
    refine si_aload_n (pc := 14) hE dX2_first_14 rfl ?_
    refine si_mga (pc := 15) (k := 22) hE rfl dX2_first_15 q1681 (by decide) rfl (fun _ => rfl) ?_
    refine si_iload_n (pc := 18) hE dX2_first_18 rfl ?_
    refine si_aload_n (pc := 19) hE dX2_first_19 rfl ?_
    refine si_mg (pc := 20) (k := 36) hE rfl dX2_first_20 q1695 (by decide) rfl (fun _ => rfl) ?_
    refine si_mis (pc := 23) (k := 22) hE dX2_first_23 (by decide) rfl ?_
    exact si_return (pc := 24) hE dX2_first_24
  exact h0
def bX2_isOp_59 (mo : Nat) (R : Ret MS) : Cont MS :=
    o_zreturn R
def bX2_isOp_54 (mo : Nat) (R : Ret MS) : Cont MS :=
    o_ic 1 <|
    (bX2_isOp_59 mo R)
def bX2_isOp_58 (mo : Nat) (R : Ret MS) : Cont MS :=
    o_ic 0 <|
    (bX2_isOp_59 mo R)
def bX2_isOp_0 (mo : Nat) (R : Ret MS) : Cont MS :=
    o_al 0 <|
    o_ic 43 <|
    o_mc mo 2 (pX2_isSign mo) R <|
    o_if_ne (bX2_isOp_54 mo R) <|
    o_al 0 <|
    o_ic 45 <|
    o_mc mo 2 (pX2_isSign mo) R <|
    o_if_ne (bX2_isOp_54 mo R) <|
    o_al 0 <|
    o_ic 42 <|
    o_mc mo 2 (pX2_isSign mo) R <|
    o_if_ne (bX2_isOp_54 mo R) <|
    o_al 0 <|
    o_ic 38 <|
    o_mc mo 2 (pX2_isSign mo) R <|
    o_if_ne (bX2_isOp_54 mo R) <|
    o_al 0 <|
    o_ic 94 <|
    o_mc mo 2 (pX2_isSign mo) R <|
    o_if_ne (bX2_isOp_54 mo R) <|
    o_al 0 <|
    o_ic 47 <|
    o_mc mo 2 (pX2_isSign mo) R <|
    o_if_eq (bX2_isOp_58 mo R) <|
    (bX2_isOp_54 mo R)
def pX2_isOp (mo : Nat) : PT MS := fun as σ Q => (lg_sl as).length ≤ 1 ∧ bX2_isOp_0 mo Q (entP 1 as) [] σ
theorem nX2_isOp : parN yX2_isOp 0 := by unfold parN; decide +kernel
set_option maxHeartbeats 4000000 in
theorem eX2_isOp (g : GM) : CT (wM g) yX2_isOp (Cond.code yX2_isOp cX2_isOp 1 (some .boolean)) 1 21 (pX2_isOp g.1) := by
  refine CT.of (wM_ok g) (cc := cX2_isOp) (nL := 1) (ret := (some .boolean)) (ht := []) (by decide +kernel) (Or.inl ⟨rfl, rfl⟩) (B := bX2_isOp_0 g.1) (fun R E X hE => ?_)
  have h59 : E (bX2_isOp_59 g.1 R) 59 := by
    unfold bX2_isOp_59
    exact si_zreturn (pc := 59) hE dX2_isOp_59
  have h54 : E (bX2_isOp_54 g.1 R) 54 := by
    unfold bX2_isOp_54
    refine si_iconst (pc := 54) hE dX2_isOp_54 (by decide) ?_
    exact si_goto (pc := 55) hE dX2_isOp_55 (by decide) h59
  have h58 : E (bX2_isOp_58 g.1 R) 58 := by
    unfold bX2_isOp_58
    refine si_iconst (pc := 58) hE dX2_isOp_58 (by decide) ?_
    exact h59
  have h0 : E (bX2_isOp_0 g.1 R) 0 := by
    unfold bX2_isOp_0
    refine si_aload_n (pc := 0) hE dX2_isOp_0 rfl ?_
    refine si_bipush (pc := 1) hE dX2_isOp_1 (by decide) ?_
    refine si_mc (pc := 3) (n := 1) hE rfl dX2_isOp_3 (eX2_isSign g) rfl q1905 q1907 qs63 q1908 q134 nX2_isSign (by decide) (by decide) ?_
    refine si_if_ne (pc := 6) hE dX2_isOp_6 (by decide) h54 ?_
    refine si_aload_n (pc := 9) hE dX2_isOp_9 rfl ?_
    refine si_bipush (pc := 10) hE dX2_isOp_10 (by decide) ?_
    refine si_mc (pc := 12) (n := 1) hE rfl dX2_isOp_12 (eX2_isSign g) rfl q1905 q1907 qs63 q1908 q134 nX2_isSign (by decide) (by decide) ?_
    refine si_if_ne (pc := 15) hE dX2_isOp_15 (by decide) h54 ?_
    refine si_aload_n (pc := 18) hE dX2_isOp_18 rfl ?_
    refine si_bipush (pc := 19) hE dX2_isOp_19 (by decide) ?_
    refine si_mc (pc := 21) (n := 1) hE rfl dX2_isOp_21 (eX2_isSign g) rfl q1905 q1907 qs63 q1908 q134 nX2_isSign (by decide) (by decide) ?_
    refine si_if_ne (pc := 24) hE dX2_isOp_24 (by decide) h54 ?_
    refine si_aload_n (pc := 27) hE dX2_isOp_27 rfl ?_
    refine si_bipush (pc := 28) hE dX2_isOp_28 (by decide) ?_
    refine si_mc (pc := 30) (n := 1) hE rfl dX2_isOp_30 (eX2_isSign g) rfl q1905 q1907 qs63 q1908 q134 nX2_isSign (by decide) (by decide) ?_
    refine si_if_ne (pc := 33) hE dX2_isOp_33 (by decide) h54 ?_
    refine si_aload_n (pc := 36) hE dX2_isOp_36 rfl ?_
    refine si_bipush (pc := 37) hE dX2_isOp_37 (by decide) ?_
    refine si_mc (pc := 39) (n := 1) hE rfl dX2_isOp_39 (eX2_isSign g) rfl q1905 q1907 qs63 q1908 q134 nX2_isSign (by decide) (by decide) ?_
    refine si_if_ne (pc := 42) hE dX2_isOp_42 (by decide) h54 ?_
    refine si_aload_n (pc := 45) hE dX2_isOp_45 rfl ?_
    refine si_bipush (pc := 46) hE dX2_isOp_46 (by decide) ?_
    refine si_mc (pc := 48) (n := 1) hE rfl dX2_isOp_48 (eX2_isSign g) rfl q1905 q1907 qs63 q1908 q134 nX2_isSign (by decide) (by decide) ?_
    refine si_if_eq (pc := 51) hE dX2_isOp_51 (by decide) h58 ?_
    exact h54
  exact h0
def bX2_assigned_108 (mo : Nat) (R : Ret MS) : Cont MS :=
    o_return R
def bX2_assigned_157 (mo : Nat) (R : Ret MS) : Cont MS :=
    o_return R
def bX2_assigned_109 (mo : Nat) (R : Ret MS) : Cont MS :=
    o_al 0 <|
    o_mg mo 6 <|
    o_is 4 <|
    o_al 0 <|
    o_mc mo 1 (pX2_next mo) R <|
    o_al 0 <|
    o_mc mo 1 (pX2_operand mo) R <|
    o_al 0 <|
    o_mg mo 32 <|
    o_if_ne (bX2_assigned_157 mo R) <|
    o_al 0 <|
    o_il 1 <|
    o_il 4 <|
    o_al 0 <|
    o_mga mo 21 <|
    o_il 1 <|
    o_mia mo 21 <|
    o_al 0 <|
    o_mga mo 22 <|
    o_il 1 <|
    o_mia mo 22 <|
    o_al 0 <|
    o_mg mo 35 <|
    o_al 0 <|
    o_mg mo 36 <|
    o_mc mo 7 (pX2_summed mo) R <|
    (bX2_assigned_157 mo R)
def bX2_assigned_89 (mo : Nat) (R : Ret MS) : Cont MS :=
    o_al 0 <|
    o_il 1 <|
    o_mc mo 2 (pX2_first mo) R <|
    o_al 0 <|
    o_mg mo 32 <|
    o_if_gt (bX2_assigned_108 mo R) <|
    o_al 0 <|
    o_mc mo 1 (pX2_isOp mo) R <|
    o_if_ne (bX2_assigned_109 mo R) <|
    (bX2_assigned_108 mo R)
def bX2_assigned_88 (mo : Nat) (R : Ret MS) : Cont MS :=
    o_return R
def bX2_assigned_32 (mo : Nat) (R : Ret MS) : Cont MS :=
    o_al 0 <|
    o_ic 114 <|
    o_ic 1 <|
    o_mc mo 3 (pX2_numbered mo) R <|
    o_is 3 <|
    o_il 3 <|
    o_if_lt (bX2_assigned_89 mo R) <|
    o_al 0 <|
    o_mc mo 1 (pX2_next mo) R <|
    o_al 0 <|
    o_ic 91 <|
    o_mc mo 2 (pX2_take mo) R <|
    o_al 0 <|
    o_mc mo 1 (pX2_operand mo) R <|
    o_al 0 <|
    o_ic 93 <|
    o_mc mo 2 (pX2_take mo) R <|
    o_al 0 <|
    o_mg mo 32 <|
    o_if_ne (bX2_assigned_88 mo R) <|
    o_al 0 <|
    o_il 1 <|
    o_ic 114 <|
    o_ic (-1) <|
    o_il 3 <|
    o_al 0 <|
    o_mg mo 35 <|
    o_al 0 <|
    o_mg mo 36 <|
    o_mc mo 7 (pX2_summed mo) R <|
    (bX2_assigned_88 mo R)
def bX2_assigned_0 (mo : Nat) (R : Ret MS) : Cont MS :=
    o_al 0 <|
    o_mga mo 15 <|
    o_il 1 <|
    o_ic 1 <|
    o_mis mo 15 <|
    o_al 0 <|
    o_mga mo 17 <|
    o_il 1 <|
    o_il 2 <|
    o_mis mo 17 <|
    o_al 0 <|
    o_mc mo 1 (pX2_next mo) R <|
    o_al 0 <|
    o_ic 61 <|
    o_mc mo 2 (pX2_take mo) R <|
    o_al 0 <|
    o_mg mo 32 <|
    o_if_le (bX2_assigned_32 mo R) <|
    o_return R
def pX2_assigned (mo : Nat) : PT MS := fun as σ Q => (lg_sl as).length ≤ 5 ∧ bX2_assigned_0 mo Q (entP 5 as) [] σ
theorem nX2_assigned : parN yX2_assigned 2 := by unfold parN; decide +kernel
set_option maxHeartbeats 4000000 in
theorem eX2_assigned (g : GM) : CT (wM g) yX2_assigned (Cond.code yX2_assigned cX2_assigned 5 none) 5 111 (pX2_assigned g.1) := by
  refine CT.of (wM_ok g) (cc := cX2_assigned) (nL := 5) (ret := none) (ht := []) (by decide +kernel) (Or.inl ⟨rfl, rfl⟩) (B := bX2_assigned_0 g.1) (fun R E X hE => ?_)
  have h108 : E (bX2_assigned_108 g.1 R) 108 := by
    unfold bX2_assigned_108
    exact si_return (pc := 108) hE dX2_assigned_108
  have h157 : E (bX2_assigned_157 g.1 R) 157 := by
    unfold bX2_assigned_157
    exact si_return (pc := 157) hE dX2_assigned_157
  have h109 : E (bX2_assigned_109 g.1 R) 109 := by
    unfold bX2_assigned_109
    refine si_aload_n (pc := 109) hE dX2_assigned_109 rfl ?_
    refine si_mg (pc := 110) (k := 6) hE rfl dX2_assigned_110 q1665 (by decide) rfl (fun _ => rfl) ?_
    refine si_istore (pc := 113) hE dX2_assigned_113 (by decide) ?_
    refine si_aload_n (pc := 115) hE dX2_assigned_115 rfl ?_
    refine si_mc (pc := 116) (n := 0) hE rfl dX2_assigned_116 (eX2_next g) rfl q1863 q1865 qs53 q1866 q134 nX2_next (by decide) (by decide) ?_
    refine si_aload_n (pc := 119) hE dX2_assigned_119 rfl ?_
    refine si_mc (pc := 120) (n := 0) hE rfl dX2_assigned_120 (eX2_operand g) rfl q1933 q1935 qs69 q1936 q134 nX2_operand (by decide) (by decide) ?_
    refine si_aload_n (pc := 123) hE dX2_assigned_123 rfl ?_
    refine si_mg (pc := 124) (k := 32) hE rfl dX2_assigned_124 q1691 (by decide) rfl (fun _ => rfl) ?_
    refine si_if_ne (pc := 127) hE dX2_assigned_127 (by decide) h157 ?_
    refine si_aload_n (pc := 130) hE dX2_assigned_130 rfl ?_
    refine si_iload_n (pc := 131) hE dX2_assigned_131 rfl ?_
    refine si_iload (pc := 132) hE dX2_assigned_132 ?_
    refine si_aload_n (pc := 134) hE dX2_assigned_134 rfl ?_
    refine si_mga (pc := 135) (k := 21) hE rfl dX2_assigned_135 q1680 (by decide) rfl (fun _ => rfl) ?_
    refine si_iload_n (pc := 138) hE dX2_assigned_138 rfl ?_
    refine si_mia (pc := 139) (k := 21) hE dX2_assigned_139 (by decide) rfl ?_
    refine si_aload_n (pc := 140) hE dX2_assigned_140 rfl ?_
    refine si_mga (pc := 141) (k := 22) hE rfl dX2_assigned_141 q1681 (by decide) rfl (fun _ => rfl) ?_
    refine si_iload_n (pc := 144) hE dX2_assigned_144 rfl ?_
    refine si_mia (pc := 145) (k := 22) hE dX2_assigned_145 (by decide) rfl ?_
    refine si_aload_n (pc := 146) hE dX2_assigned_146 rfl ?_
    refine si_mg (pc := 147) (k := 35) hE rfl dX2_assigned_147 q1694 (by decide) rfl (fun _ => rfl) ?_
    refine si_aload_n (pc := 150) hE dX2_assigned_150 rfl ?_
    refine si_mg (pc := 151) (k := 36) hE rfl dX2_assigned_151 q1695 (by decide) rfl (fun _ => rfl) ?_
    refine si_mc (pc := 154) (n := 6) hE rfl dX2_assigned_154 (eX2_summed g) rfl q1937 q1939 qs70 q1940 q134 nX2_summed (by decide) (by decide) ?_
    exact h157
  have h89 : E (bX2_assigned_89 g.1 R) 89 := by
    unfold bX2_assigned_89
    refine si_aload_n (pc := 89) hE dX2_assigned_89 rfl ?_
    refine si_iload_n (pc := 90) hE dX2_assigned_90 rfl ?_
    refine si_mc (pc := 91) (n := 1) hE rfl dX2_assigned_91 (eX2_first g) rfl q1941 q1943 qs71 q1944 q134 nX2_first (by decide) (by decide) ?_
    refine si_aload_n (pc := 94) hE dX2_assigned_94 rfl ?_
    refine si_mg (pc := 95) (k := 32) hE rfl dX2_assigned_95 q1691 (by decide) rfl (fun _ => rfl) ?_
    refine si_if_gt (pc := 98) hE dX2_assigned_98 (by decide) h108 ?_
    refine si_aload_n (pc := 101) hE dX2_assigned_101 rfl ?_
    refine si_mc (pc := 102) (n := 0) hE rfl dX2_assigned_102 (eX2_isOp g) rfl q1945 q1947 qs72 q1948 q134 nX2_isOp (by decide) (by decide) ?_
    refine si_if_ne (pc := 105) hE dX2_assigned_105 (by decide) h109 ?_
    exact h108
  have h88 : E (bX2_assigned_88 g.1 R) 88 := by
    unfold bX2_assigned_88
    exact si_return (pc := 88) hE dX2_assigned_88
  have h32 : E (bX2_assigned_32 g.1 R) 32 := by
    unfold bX2_assigned_32
    refine si_aload_n (pc := 32) hE dX2_assigned_32 rfl ?_
    refine si_bipush (pc := 33) hE dX2_assigned_33 (by decide) ?_
    refine si_iconst (pc := 35) hE dX2_assigned_35 (by decide) ?_
    refine si_mc (pc := 36) (n := 2) hE rfl dX2_assigned_36 (eX2_numbered g) rfl q1897 q1899 qs61 q1900 q134 nX2_numbered (by decide) (by decide) ?_
    refine si_istore_n (pc := 39) hE dX2_assigned_39 rfl (by decide) ?_
    refine si_iload_n (pc := 40) hE dX2_assigned_40 rfl ?_
    refine si_if_lt (pc := 41) hE dX2_assigned_41 (by decide) h89 ?_
    refine si_aload_n (pc := 44) hE dX2_assigned_44 rfl ?_
    refine si_mc (pc := 45) (n := 0) hE rfl dX2_assigned_45 (eX2_next g) rfl q1863 q1865 qs53 q1866 q134 nX2_next (by decide) (by decide) ?_
    refine si_aload_n (pc := 48) hE dX2_assigned_48 rfl ?_
    refine si_bipush (pc := 49) hE dX2_assigned_49 (by decide) ?_
    refine si_mc (pc := 51) (n := 1) hE rfl dX2_assigned_51 (eX2_take g) rfl q1901 q1903 qs62 q1904 q134 nX2_take (by decide) (by decide) ?_
    refine si_aload_n (pc := 54) hE dX2_assigned_54 rfl ?_
    refine si_mc (pc := 55) (n := 0) hE rfl dX2_assigned_55 (eX2_operand g) rfl q1933 q1935 qs69 q1936 q134 nX2_operand (by decide) (by decide) ?_
    refine si_aload_n (pc := 58) hE dX2_assigned_58 rfl ?_
    refine si_bipush (pc := 59) hE dX2_assigned_59 (by decide) ?_
    refine si_mc (pc := 61) (n := 1) hE rfl dX2_assigned_61 (eX2_take g) rfl q1901 q1903 qs62 q1904 q134 nX2_take (by decide) (by decide) ?_
    refine si_aload_n (pc := 64) hE dX2_assigned_64 rfl ?_
    refine si_mg (pc := 65) (k := 32) hE rfl dX2_assigned_65 q1691 (by decide) rfl (fun _ => rfl) ?_
    refine si_if_ne (pc := 68) hE dX2_assigned_68 (by decide) h88 ?_
    refine si_aload_n (pc := 71) hE dX2_assigned_71 rfl ?_
    refine si_iload_n (pc := 72) hE dX2_assigned_72 rfl ?_
    refine si_bipush (pc := 73) hE dX2_assigned_73 (by decide) ?_
    refine si_iconst (pc := 75) hE dX2_assigned_75 (by decide) ?_
    refine si_iload_n (pc := 76) hE dX2_assigned_76 rfl ?_
    refine si_aload_n (pc := 77) hE dX2_assigned_77 rfl ?_
    refine si_mg (pc := 78) (k := 35) hE rfl dX2_assigned_78 q1694 (by decide) rfl (fun _ => rfl) ?_
    refine si_aload_n (pc := 81) hE dX2_assigned_81 rfl ?_
    refine si_mg (pc := 82) (k := 36) hE rfl dX2_assigned_82 q1695 (by decide) rfl (fun _ => rfl) ?_
    refine si_mc (pc := 85) (n := 6) hE rfl dX2_assigned_85 (eX2_summed g) rfl q1937 q1939 qs70 q1940 q134 nX2_summed (by decide) (by decide) ?_
    exact h88
  have h0 : E (bX2_assigned_0 g.1 R) 0 := by
    unfold bX2_assigned_0
    refine si_aload_n (pc := 0) hE dX2_assigned_0 rfl ?_
    refine si_mga (pc := 1) (k := 15) hE rfl dX2_assigned_1 q1674 (by decide) rfl (fun _ => rfl) ?_
    refine si_iload_n (pc := 4) hE dX2_assigned_4 rfl ?_
    refine si_iconst (pc := 5) hE dX2_assigned_5 (by decide) ?_
    refine si_mis (pc := 6) (k := 15) hE dX2_assigned_6 (by decide) rfl ?_
    refine si_aload_n (pc := 7) hE dX2_assigned_7 rfl ?_
    refine si_mga (pc := 8) (k := 17) hE rfl dX2_assigned_8 q1676 (by decide) rfl (fun _ => rfl) ?_
    refine si_iload_n (pc := 11) hE dX2_assigned_11 rfl ?_
    refine si_iload_n (pc := 12) hE dX2_assigned_12 rfl ?_
    refine si_mis (pc := 13) (k := 17) hE dX2_assigned_13 (by decide) rfl ?_
    refine si_aload_n (pc := 14) hE dX2_assigned_14 rfl ?_
    refine si_mc (pc := 15) (n := 0) hE rfl dX2_assigned_15 (eX2_next g) rfl q1863 q1865 qs53 q1866 q134 nX2_next (by decide) (by decide) ?_
    refine si_aload_n (pc := 18) hE dX2_assigned_18 rfl ?_
    refine si_bipush (pc := 19) hE dX2_assigned_19 (by decide) ?_
    refine si_mc (pc := 21) (n := 1) hE rfl dX2_assigned_21 (eX2_take g) rfl q1901 q1903 qs62 q1904 q134 nX2_take (by decide) (by decide) ?_
    refine si_aload_n (pc := 24) hE dX2_assigned_24 rfl ?_
    refine si_mg (pc := 25) (k := 32) hE rfl dX2_assigned_25 q1691 (by decide) rfl (fun _ => rfl) ?_
    refine si_if_le (pc := 28) hE dX2_assigned_28 (by decide) h32 ?_
    exact si_return (pc := 31) hE dX2_assigned_31
  exact h0
def bX2_second_0 (mo : Nat) (R : Ret MS) : Cont MS :=
    o_al 0 <|
    o_mc mo 1 (pX2_operand mo) R <|
    o_al 0 <|
    o_mga mo 23 <|
    o_il 1 <|
    o_al 0 <|
    o_mg mo 35 <|
    o_mis mo 23 <|
    o_al 0 <|
    o_mga mo 24 <|
    o_il 1 <|
    o_al 0 <|
    o_mg mo 36 <|
    o_mis mo 24 <|
    o_return R
def pX2_second (mo : Nat) : PT MS := fun as σ Q => (lg_sl as).length ≤ 2 ∧ bX2_second_0 mo Q (entP 2 as) [] σ
theorem nX2_second : parN yX2_second 1 := by unfold parN; decide +kernel
set_option maxHeartbeats 4000000 in
theorem eX2_second (g : GM) : CT (wM g) yX2_second (Cond.code yX2_second cX2_second 2 none) 4 90 (pX2_second g.1) := by
  refine CT.of (wM_ok g) (cc := cX2_second) (nL := 2) (ret := none) (ht := []) (by decide +kernel) (Or.inl ⟨rfl, rfl⟩) (B := bX2_second_0 g.1) (fun R E X hE => ?_)
  have h0 : E (bX2_second_0 g.1 R) 0 := by
    unfold bX2_second_0
    refine si_aload_n (pc := 0) hE dX2_second_0 rfl ?_
    refine si_mc (pc := 1) (n := 0) hE rfl dX2_second_1 (eX2_operand g) rfl q1933 q1935 qs69 q1936 q134 nX2_operand (by decide) (by decide) ?_
    refine si_aload_n (pc := 4) hE dX2_second_4 rfl ?_
    refine si_mga (pc := 5) (k := 23) hE rfl dX2_second_5 q1682 (by decide) rfl (fun _ => rfl) ?_
    refine si_iload_n (pc := 8) hE dX2_second_8 rfl ?_
    refine si_aload_n (pc := 9) hE dX2_second_9 rfl ?_
    refine si_mg (pc := 10) (k := 35) hE rfl dX2_second_10 q1694 (by decide) rfl (fun _ => rfl) ?_
    refine si_mis (pc := 13) (k := 23) hE dX2_second_13 (by decide) rfl ?_
    refine si_aload_n (pc := 14) hE dX2_second_14 rfl ?_
    refine si_mga (pc := 15) (k := 24) hE rfl dX2_second_15 q1683 (by decide) rfl (fun _ => rfl) ?_
    refine si_iload_n (pc := 18) hE dX2_second_18 rfl ?_
    refine si_aload_n (pc := 19) hE dX2_second_19 rfl ?_
    refine si_mg (pc := 20) (k := 36) hE rfl dX2_second_20 q1695 (by decide) rfl (fun _ => rfl) ?_
    refine si_mis (pc := 23) (k := 24) hE dX2_second_23 (by decide) rfl ?_
    exact si_return (pc := 24) hE dX2_second_24
  exact h0
def bX2_put_0 (mo : Nat) (R : Ret MS) : Cont MS :=
    o_al 0 <|
    o_mga mo 15 <|
    o_il 1 <|
    o_ic 2 <|
    o_mis mo 15 <|
    o_al 0 <|
    o_mga mo 25 <|
    o_il 1 <|
    o_il 2 <|
    o_mis mo 25 <|
    o_al 0 <|
    o_mc mo 1 (pX2_next mo) R <|
    o_al 0 <|
    o_ic 91 <|
    o_mc mo 2 (pX2_take mo) R <|
    o_al 0 <|
    o_il 1 <|
    o_mc mo 2 (pX2_first mo) R <|
    o_al 0 <|
    o_ic 93 <|
    o_mc mo 2 (pX2_take mo) R <|
    o_al 0 <|
    o_ic 61 <|
    o_mc mo 2 (pX2_take mo) R <|
    o_al 0 <|
    o_il 1 <|
    o_mc mo 2 (pX2_second mo) R <|
    o_return R
def pX2_put (mo : Nat) : PT MS := fun as σ Q => (lg_sl as).length ≤ 3 ∧ bX2_put_0 mo Q (entP 3 as) [] σ
theorem nX2_put : parN yX2_put 2 := by unfold parN; decide +kernel
set_option maxHeartbeats 4000000 in
theorem eX2_put (g : GM) : CT (wM g) yX2_put (Cond.code yX2_put cX2_put 3 none) 5 111 (pX2_put g.1) := by
  refine CT.of (wM_ok g) (cc := cX2_put) (nL := 3) (ret := none) (ht := []) (by decide +kernel) (Or.inl ⟨rfl, rfl⟩) (B := bX2_put_0 g.1) (fun R E X hE => ?_)
  have h0 : E (bX2_put_0 g.1 R) 0 := by
    unfold bX2_put_0
    refine si_aload_n (pc := 0) hE dX2_put_0 rfl ?_
    refine si_mga (pc := 1) (k := 15) hE rfl dX2_put_1 q1674 (by decide) rfl (fun _ => rfl) ?_
    refine si_iload_n (pc := 4) hE dX2_put_4 rfl ?_
    refine si_iconst (pc := 5) hE dX2_put_5 (by decide) ?_
    refine si_mis (pc := 6) (k := 15) hE dX2_put_6 (by decide) rfl ?_
    refine si_aload_n (pc := 7) hE dX2_put_7 rfl ?_
    refine si_mga (pc := 8) (k := 25) hE rfl dX2_put_8 q1684 (by decide) rfl (fun _ => rfl) ?_
    refine si_iload_n (pc := 11) hE dX2_put_11 rfl ?_
    refine si_iload_n (pc := 12) hE dX2_put_12 rfl ?_
    refine si_mis (pc := 13) (k := 25) hE dX2_put_13 (by decide) rfl ?_
    refine si_aload_n (pc := 14) hE dX2_put_14 rfl ?_
    refine si_mc (pc := 15) (n := 0) hE rfl dX2_put_15 (eX2_next g) rfl q1863 q1865 qs53 q1866 q134 nX2_next (by decide) (by decide) ?_
    refine si_aload_n (pc := 18) hE dX2_put_18 rfl ?_
    refine si_bipush (pc := 19) hE dX2_put_19 (by decide) ?_
    refine si_mc (pc := 21) (n := 1) hE rfl dX2_put_21 (eX2_take g) rfl q1901 q1903 qs62 q1904 q134 nX2_take (by decide) (by decide) ?_
    refine si_aload_n (pc := 24) hE dX2_put_24 rfl ?_
    refine si_iload_n (pc := 25) hE dX2_put_25 rfl ?_
    refine si_mc (pc := 26) (n := 1) hE rfl dX2_put_26 (eX2_first g) rfl q1941 q1943 qs71 q1944 q134 nX2_first (by decide) (by decide) ?_
    refine si_aload_n (pc := 29) hE dX2_put_29 rfl ?_
    refine si_bipush (pc := 30) hE dX2_put_30 (by decide) ?_
    refine si_mc (pc := 32) (n := 1) hE rfl dX2_put_32 (eX2_take g) rfl q1901 q1903 qs62 q1904 q134 nX2_take (by decide) (by decide) ?_
    refine si_aload_n (pc := 35) hE dX2_put_35 rfl ?_
    refine si_bipush (pc := 36) hE dX2_put_36 (by decide) ?_
    refine si_mc (pc := 38) (n := 1) hE rfl dX2_put_38 (eX2_take g) rfl q1901 q1903 qs62 q1904 q134 nX2_take (by decide) (by decide) ?_
    refine si_aload_n (pc := 41) hE dX2_put_41 rfl ?_
    refine si_iload_n (pc := 42) hE dX2_put_42 rfl ?_
    refine si_mc (pc := 43) (n := 1) hE rfl dX2_put_43 (eX2_second g) rfl q1953 q1955 qs74 q1956 q134 nX2_second (by decide) (by decide) ?_
    exact si_return (pc := 46) hE dX2_put_46
  exact h0
def bX2_tell_0 (mo : Nat) (R : Ret MS) : Cont MS :=
    o_al 0 <|
    o_mga mo 15 <|
    o_il 1 <|
    o_ic 3 <|
    o_mis mo 15 <|
    o_al 0 <|
    o_mc mo 1 (pX2_next mo) R <|
    o_al 0 <|
    o_il 1 <|
    o_mc mo 2 (pX2_first mo) R <|
    o_return R
def pX2_tell (mo : Nat) : PT MS := fun as σ Q => (lg_sl as).length ≤ 2 ∧ bX2_tell_0 mo Q (entP 2 as) [] σ
theorem nX2_tell : parN yX2_tell 1 := by unfold parN; decide +kernel
set_option maxHeartbeats 4000000 in
theorem eX2_tell (g : GM) : CT (wM g) yX2_tell (Cond.code yX2_tell cX2_tell 2 none) 5 111 (pX2_tell g.1) := by
  refine CT.of (wM_ok g) (cc := cX2_tell) (nL := 2) (ret := none) (ht := []) (by decide +kernel) (Or.inl ⟨rfl, rfl⟩) (B := bX2_tell_0 g.1) (fun R E X hE => ?_)
  have h0 : E (bX2_tell_0 g.1 R) 0 := by
    unfold bX2_tell_0
    refine si_aload_n (pc := 0) hE dX2_tell_0 rfl ?_
    refine si_mga (pc := 1) (k := 15) hE rfl dX2_tell_1 q1674 (by decide) rfl (fun _ => rfl) ?_
    refine si_iload_n (pc := 4) hE dX2_tell_4 rfl ?_
    refine si_iconst (pc := 5) hE dX2_tell_5 (by decide) ?_
    refine si_mis (pc := 6) (k := 15) hE dX2_tell_6 (by decide) rfl ?_
    refine si_aload_n (pc := 7) hE dX2_tell_7 rfl ?_
    refine si_mc (pc := 8) (n := 0) hE rfl dX2_tell_8 (eX2_next g) rfl q1863 q1865 qs53 q1866 q134 nX2_next (by decide) (by decide) ?_
    refine si_aload_n (pc := 11) hE dX2_tell_11 rfl ?_
    refine si_iload_n (pc := 12) hE dX2_tell_12 rfl ?_
    refine si_mc (pc := 13) (n := 1) hE rfl dX2_tell_13 (eX2_first g) rfl q1941 q1943 qs71 q1944 q134 nX2_first (by decide) (by decide) ?_
    exact si_return (pc := 16) hE dX2_tell_16
  exact h0
def bX2_block_37 (mo : Nat) (R : Ret MS) : Cont MS :=
    o_al 0 <|
    o_mga mo 39 <|
    o_al 0 <|
    o_mg mo 41 <|
    o_al 0 <|
    o_mg mo 3 <|
    o_mis mo 39 <|
    o_al 0 <|
    o_mga mo 40 <|
    o_al 0 <|
    o_mg mo 41 <|
    o_il 1 <|
    o_mis mo 40 <|
    o_al 0 <|
    o_dup <|
    o_mg mo 41 <|
    o_ic 1 <|
    o_iadd <|
    o_mp mo 41 <|
    o_al 0 <|
    o_mc mo 1 (pX2_next mo) R <|
    o_il 1 <|
    o_ireturn R
def bX2_block_28 (mo : Nat) (R : Ret MS) : Cont MS :=
    o_ic 2 <|
    o_mc mo 3 (pX2_must mo) R <|
    o_if_ne (bX2_block_37 mo R) <|
    o_ic 0 <|
    o_ireturn R
def bX2_block_27 (mo : Nat) (R : Ret MS) : Cont MS :=
    o_ic 0 <|
    (bX2_block_28 mo R)
def bX2_block_9 (mo : Nat) (R : Ret MS) : Cont MS :=
    o_al 0 <|
    o_ic 98 <|
    o_ic 39 <|
    o_mc mo 3 (pX2_numbered mo) R <|
    o_is 1 <|
    o_al 0 <|
    o_il 1 <|
    o_if_lt (bX2_block_27 mo R) <|
    o_ic 1 <|
    (bX2_block_28 mo R)
def bX2_block_0 (mo : Nat) (R : Ret MS) : Cont MS :=
    o_al 0 <|
    o_mg mo 32 <|
    o_if_le (bX2_block_9 mo R) <|
    o_ic 0 <|
    o_ireturn R
def pX2_block (mo : Nat) : PT MS := fun as σ Q => (lg_sl as).length ≤ 2 ∧ bX2_block_0 mo Q (entP 2 as) [] σ
theorem nX2_block : parN yX2_block 0 := by unfold parN; decide +kernel
set_option maxHeartbeats 4000000 in
theorem eX2_block (g : GM) : CT (wM g) yX2_block (Cond.code yX2_block cX2_block 2 (some .int)) 3 69 (pX2_block g.1) := by
  refine CT.of (wM_ok g) (cc := cX2_block) (nL := 2) (ret := (some .int)) (ht := []) (by decide +kernel) (Or.inl ⟨rfl, rfl⟩) (B := bX2_block_0 g.1) (fun R E X hE => ?_)
  have h37 : E (bX2_block_37 g.1 R) 37 := by
    unfold bX2_block_37
    refine si_aload_n (pc := 37) hE dX2_block_37 rfl ?_
    refine si_mga (pc := 38) (k := 39) hE rfl dX2_block_38 q1698 (by decide) rfl (fun _ => rfl) ?_
    refine si_aload_n (pc := 41) hE dX2_block_41 rfl ?_
    refine si_mg (pc := 42) (k := 41) hE rfl dX2_block_42 q1700 (by decide) rfl (fun _ => rfl) ?_
    refine si_aload_n (pc := 45) hE dX2_block_45 rfl ?_
    refine si_mg (pc := 46) (k := 3) hE rfl dX2_block_46 q1662 (by decide) rfl (fun _ => rfl) ?_
    refine si_mis (pc := 49) (k := 39) hE dX2_block_49 (by decide) rfl ?_
    refine si_aload_n (pc := 50) hE dX2_block_50 rfl ?_
    refine si_mga (pc := 51) (k := 40) hE rfl dX2_block_51 q1699 (by decide) rfl (fun _ => rfl) ?_
    refine si_aload_n (pc := 54) hE dX2_block_54 rfl ?_
    refine si_mg (pc := 55) (k := 41) hE rfl dX2_block_55 q1700 (by decide) rfl (fun _ => rfl) ?_
    refine si_iload_n (pc := 58) hE dX2_block_58 rfl ?_
    refine si_mis (pc := 59) (k := 40) hE dX2_block_59 (by decide) rfl ?_
    refine si_aload_n (pc := 60) hE dX2_block_60 rfl ?_
    refine si_dup (pc := 61) hE dX2_block_61 ?_
    refine si_mg (pc := 62) (k := 41) hE rfl dX2_block_62 q1700 (by decide) rfl (fun _ => rfl) ?_
    refine si_iconst (pc := 65) hE dX2_block_65 (by decide) ?_
    refine si_iadd (pc := 66) hE dX2_block_66 ?_
    refine si_mp (pc := 67) (k := 41) hE rfl dX2_block_67 q1700 (by decide) rfl rfl rfl rfl ?_
    refine si_aload_n (pc := 70) hE dX2_block_70 rfl ?_
    refine si_mc (pc := 71) (n := 0) hE rfl dX2_block_71 (eX2_next g) rfl q1863 q1865 qs53 q1866 q134 nX2_next (by decide) (by decide) ?_
    refine si_iload_n (pc := 74) hE dX2_block_74 rfl ?_
    exact si_ireturn (pc := 75) hE dX2_block_75
  have h28 : E (bX2_block_28 g.1 R) 28 := by
    unfold bX2_block_28
    refine si_iconst (pc := 28) hE dX2_block_28 (by decide) ?_
    refine si_mc (pc := 29) (n := 2) hE rfl dX2_block_29 (eX2_must g) rfl q1889 q1891 qs59 q1892 q134 nX2_must (by decide) (by decide) ?_
    refine si_if_ne (pc := 32) hE dX2_block_32 (by decide) h37 ?_
    refine si_iconst (pc := 35) hE dX2_block_35 (by decide) ?_
    exact si_ireturn (pc := 36) hE dX2_block_36
  have h27 : E (bX2_block_27 g.1 R) 27 := by
    unfold bX2_block_27
    refine si_iconst (pc := 27) hE dX2_block_27 (by decide) ?_
    exact h28
  have h9 : E (bX2_block_9 g.1 R) 9 := by
    unfold bX2_block_9
    refine si_aload_n (pc := 9) hE dX2_block_9 rfl ?_
    refine si_bipush (pc := 10) hE dX2_block_10 (by decide) ?_
    refine si_bipush (pc := 12) hE dX2_block_12 (by decide) ?_
    refine si_mc (pc := 14) (n := 2) hE rfl dX2_block_14 (eX2_numbered g) rfl q1897 q1899 qs61 q1900 q134 nX2_numbered (by decide) (by decide) ?_
    refine si_istore_n (pc := 17) hE dX2_block_17 rfl (by decide) ?_
    refine si_aload_n (pc := 18) hE dX2_block_18 rfl ?_
    refine si_iload_n (pc := 19) hE dX2_block_19 rfl ?_
    refine si_if_lt (pc := 20) hE dX2_block_20 (by decide) h27 ?_
    refine si_iconst (pc := 23) hE dX2_block_23 (by decide) ?_
    exact si_goto (pc := 24) hE dX2_block_24 (by decide) h28
  have h0 : E (bX2_block_0 g.1 R) 0 := by
    unfold bX2_block_0
    refine si_aload_n (pc := 0) hE dX2_block_0 rfl ?_
    refine si_mg (pc := 1) (k := 32) hE rfl dX2_block_1 q1691 (by decide) rfl (fun _ => rfl) ?_
    refine si_if_le (pc := 4) hE dX2_block_4 (by decide) h9 ?_
    refine si_iconst (pc := 7) hE dX2_block_7 (by decide) ?_
    exact si_ireturn (pc := 8) hE dX2_block_8
  exact h0
def bX2_go_0 (mo : Nat) (R : Ret MS) : Cont MS :=
    o_al 0 <|
    o_mga mo 15 <|
    o_il 1 <|
    o_ic 4 <|
    o_mis mo 15 <|
    o_al 0 <|
    o_mc mo 1 (pX2_next mo) R <|
    o_al 0 <|
    o_mga mo 19 <|
    o_il 1 <|
    o_al 0 <|
    o_mc mo 1 (pX2_block mo) R <|
    o_mis mo 19 <|
    o_return R
def pX2_go (mo : Nat) : PT MS := fun as σ Q => (lg_sl as).length ≤ 2 ∧ bX2_go_0 mo Q (entP 2 as) [] σ
theorem nX2_go : parN yX2_go 1 := by unfold parN; decide +kernel
set_option maxHeartbeats 4000000 in
theorem eX2_go (g : GM) : CT (wM g) yX2_go (Cond.code yX2_go cX2_go 2 none) 4 90 (pX2_go g.1) := by
  refine CT.of (wM_ok g) (cc := cX2_go) (nL := 2) (ret := none) (ht := []) (by decide +kernel) (Or.inl ⟨rfl, rfl⟩) (B := bX2_go_0 g.1) (fun R E X hE => ?_)
  have h0 : E (bX2_go_0 g.1 R) 0 := by
    unfold bX2_go_0
    refine si_aload_n (pc := 0) hE dX2_go_0 rfl ?_
    refine si_mga (pc := 1) (k := 15) hE rfl dX2_go_1 q1674 (by decide) rfl (fun _ => rfl) ?_
    refine si_iload_n (pc := 4) hE dX2_go_4 rfl ?_
    refine si_iconst (pc := 5) hE dX2_go_5 (by decide) ?_
    refine si_mis (pc := 6) (k := 15) hE dX2_go_6 (by decide) rfl ?_
    refine si_aload_n (pc := 7) hE dX2_go_7 rfl ?_
    refine si_mc (pc := 8) (n := 0) hE rfl dX2_go_8 (eX2_next g) rfl q1863 q1865 qs53 q1866 q134 nX2_next (by decide) (by decide) ?_
    refine si_aload_n (pc := 11) hE dX2_go_11 rfl ?_
    refine si_mga (pc := 12) (k := 19) hE rfl dX2_go_12 q1678 (by decide) rfl (fun _ => rfl) ?_
    refine si_iload_n (pc := 15) hE dX2_go_15 rfl ?_
    refine si_aload_n (pc := 16) hE dX2_go_16 rfl ?_
    refine si_mc (pc := 17) (n := 0) hE rfl dX2_go_17 (eX2_block g) rfl q1965 q1967 qs77 q1968 q134 nX2_block (by decide) (by decide) ?_
    refine si_mis (pc := 20) (k := 19) hE dX2_go_20 (by decide) rfl ?_
    exact si_return (pc := 21) hE dX2_go_21
  exact h0
def bX2_test_0 (mo : Nat) (R : Ret MS) : Cont MS :=
    o_al 0 <|
    o_mga mo 15 <|
    o_il 1 <|
    o_ic 5 <|
    o_mis mo 15 <|
    o_al 0 <|
    o_mc mo 1 (pX2_next mo) R <|
    o_al 0 <|
    o_il 1 <|
    o_mc mo 2 (pX2_first mo) R <|
    o_al 0 <|
    o_ic 60 <|
    o_mc mo 2 (pX2_take mo) R <|
    o_al 0 <|
    o_il 1 <|
    o_mc mo 2 (pX2_second mo) R <|
    o_al 0 <|
    o_mga mo 19 <|
    o_il 1 <|
    o_al 0 <|
    o_mc mo 1 (pX2_block mo) R <|
    o_mis mo 19 <|
    o_al 0 <|
    o_mga mo 20 <|
    o_il 1 <|
    o_al 0 <|
    o_mc mo 1 (pX2_block mo) R <|
    o_mis mo 20 <|
    o_return R
def pX2_test (mo : Nat) : PT MS := fun as σ Q => (lg_sl as).length ≤ 2 ∧ bX2_test_0 mo Q (entP 2 as) [] σ
theorem nX2_test : parN yX2_test 1 := by unfold parN; decide +kernel
set_option maxHeartbeats 4000000 in
theorem eX2_test (g : GM) : CT (wM g) yX2_test (Cond.code yX2_test cX2_test 2 none) 5 111 (pX2_test g.1) := by
  refine CT.of (wM_ok g) (cc := cX2_test) (nL := 2) (ret := none) (ht := []) (by decide +kernel) (Or.inl ⟨rfl, rfl⟩) (B := bX2_test_0 g.1) (fun R E X hE => ?_)
  have h0 : E (bX2_test_0 g.1 R) 0 := by
    unfold bX2_test_0
    refine si_aload_n (pc := 0) hE dX2_test_0 rfl ?_
    refine si_mga (pc := 1) (k := 15) hE rfl dX2_test_1 q1674 (by decide) rfl (fun _ => rfl) ?_
    refine si_iload_n (pc := 4) hE dX2_test_4 rfl ?_
    refine si_iconst (pc := 5) hE dX2_test_5 (by decide) ?_
    refine si_mis (pc := 6) (k := 15) hE dX2_test_6 (by decide) rfl ?_
    refine si_aload_n (pc := 7) hE dX2_test_7 rfl ?_
    refine si_mc (pc := 8) (n := 0) hE rfl dX2_test_8 (eX2_next g) rfl q1863 q1865 qs53 q1866 q134 nX2_next (by decide) (by decide) ?_
    refine si_aload_n (pc := 11) hE dX2_test_11 rfl ?_
    refine si_iload_n (pc := 12) hE dX2_test_12 rfl ?_
    refine si_mc (pc := 13) (n := 1) hE rfl dX2_test_13 (eX2_first g) rfl q1941 q1943 qs71 q1944 q134 nX2_first (by decide) (by decide) ?_
    refine si_aload_n (pc := 16) hE dX2_test_16 rfl ?_
    refine si_bipush (pc := 17) hE dX2_test_17 (by decide) ?_
    refine si_mc (pc := 19) (n := 1) hE rfl dX2_test_19 (eX2_take g) rfl q1901 q1903 qs62 q1904 q134 nX2_take (by decide) (by decide) ?_
    refine si_aload_n (pc := 22) hE dX2_test_22 rfl ?_
    refine si_iload_n (pc := 23) hE dX2_test_23 rfl ?_
    refine si_mc (pc := 24) (n := 1) hE rfl dX2_test_24 (eX2_second g) rfl q1953 q1955 qs74 q1956 q134 nX2_second (by decide) (by decide) ?_
    refine si_aload_n (pc := 27) hE dX2_test_27 rfl ?_
    refine si_mga (pc := 28) (k := 19) hE rfl dX2_test_28 q1678 (by decide) rfl (fun _ => rfl) ?_
    refine si_iload_n (pc := 31) hE dX2_test_31 rfl ?_
    refine si_aload_n (pc := 32) hE dX2_test_32 rfl ?_
    refine si_mc (pc := 33) (n := 0) hE rfl dX2_test_33 (eX2_block g) rfl q1965 q1967 qs77 q1968 q134 nX2_block (by decide) (by decide) ?_
    refine si_mis (pc := 36) (k := 19) hE dX2_test_36 (by decide) rfl ?_
    refine si_aload_n (pc := 37) hE dX2_test_37 rfl ?_
    refine si_mga (pc := 38) (k := 20) hE rfl dX2_test_38 q1679 (by decide) rfl (fun _ => rfl) ?_
    refine si_iload_n (pc := 41) hE dX2_test_41 rfl ?_
    refine si_aload_n (pc := 42) hE dX2_test_42 rfl ?_
    refine si_mc (pc := 43) (n := 0) hE rfl dX2_test_43 (eX2_block g) rfl q1965 q1967 qs77 q1968 q134 nX2_block (by decide) (by decide) ?_
    refine si_mis (pc := 46) (k := 20) hE dX2_test_46 (by decide) rfl ?_
    exact si_return (pc := 47) hE dX2_test_47
  exact h0
def bX2_leave_0 (mo : Nat) (R : Ret MS) : Cont MS :=
    o_al 0 <|
    o_mga mo 15 <|
    o_il 1 <|
    o_ic 6 <|
    o_mis mo 15 <|
    o_al 0 <|
    o_mc mo 1 (pX2_next mo) R <|
    o_return R
def pX2_leave (mo : Nat) : PT MS := fun as σ Q => (lg_sl as).length ≤ 2 ∧ bX2_leave_0 mo Q (entP 2 as) [] σ
theorem nX2_leave : parN yX2_leave 1 := by unfold parN; decide +kernel
set_option maxHeartbeats 4000000 in
theorem eX2_leave (g : GM) : CT (wM g) yX2_leave (Cond.code yX2_leave cX2_leave 2 none) 3 69 (pX2_leave g.1) := by
  refine CT.of (wM_ok g) (cc := cX2_leave) (nL := 2) (ret := none) (ht := []) (by decide +kernel) (Or.inl ⟨rfl, rfl⟩) (B := bX2_leave_0 g.1) (fun R E X hE => ?_)
  have h0 : E (bX2_leave_0 g.1 R) 0 := by
    unfold bX2_leave_0
    refine si_aload_n (pc := 0) hE dX2_leave_0 rfl ?_
    refine si_mga (pc := 1) (k := 15) hE rfl dX2_leave_1 q1674 (by decide) rfl (fun _ => rfl) ?_
    refine si_iload_n (pc := 4) hE dX2_leave_4 rfl ?_
    refine si_bipush (pc := 5) hE dX2_leave_5 (by decide) ?_
    refine si_mis (pc := 7) (k := 15) hE dX2_leave_7 (by decide) rfl ?_
    refine si_aload_n (pc := 8) hE dX2_leave_8 rfl ?_
    refine si_mc (pc := 9) (n := 0) hE rfl dX2_leave_9 (eX2_next g) rfl q1863 q1865 qs53 q1866 q134 nX2_next (by decide) (by decide) ?_
    exact si_return (pc := 12) hE dX2_leave_12
  exact h0
def bX2_statement_37 (mo : Nat) (R : Ret MS) : Cont MS :=
    o_ic 1 <|
    o_zreturn R
def bX2_statement_225 (mo : Nat) (R : Ret MS) : Cont MS :=
    o_al 0 <|
    o_ic 59 <|
    o_mc mo 2 (pX2_take mo) R <|
    o_il 4 <|
    o_zreturn R
def bX2_statement_220 (mo : Nat) (R : Ret MS) : Cont MS :=
    o_al 0 <|
    o_il 1 <|
    o_mc mo 2 (pX2_leave mo) R <|
    (bX2_statement_225 mo R)
def bX2_statement_202 (mo : Nat) (R : Ret MS) : Cont MS :=
    o_al 0 <|
    o_lc 26982 <|
    o_mc mo 2 (pX2_isWord mo) R <|
    o_if_eq (bX2_statement_220 mo R) <|
    o_al 0 <|
    o_il 1 <|
    o_mc mo 2 (pX2_test mo) R <|
    (bX2_statement_225 mo R)
def bX2_statement_184 (mo : Nat) (R : Ret MS) : Cont MS :=
    o_al 0 <|
    o_lc 26479 <|
    o_mc mo 2 (pX2_isWord mo) R <|
    o_if_eq (bX2_statement_202 mo R) <|
    o_al 0 <|
    o_il 1 <|
    o_mc mo 2 (pX2_go mo) R <|
    (bX2_statement_225 mo R)
def bX2_statement_166 (mo : Nat) (R : Ret MS) : Cont MS :=
    o_al 0 <|
    o_lc 1952803948 <|
    o_mc mo 2 (pX2_isWord mo) R <|
    o_if_eq (bX2_statement_184 mo R) <|
    o_al 0 <|
    o_il 1 <|
    o_mc mo 2 (pX2_tell mo) R <|
    (bX2_statement_225 mo R)
def bX2_statement_153 (mo : Nat) (R : Ret MS) : Cont MS :=
    o_il 3 <|
    o_if_lt (bX2_statement_166 mo R) <|
    o_al 0 <|
    o_il 1 <|
    o_il 3 <|
    o_mc mo 3 (pX2_put mo) R <|
    (bX2_statement_225 mo R)
def bX2_statement_138 (mo : Nat) (R : Ret MS) : Cont MS :=
    o_is 4 <|
    o_il 2 <|
    o_if_lt (bX2_statement_153 mo R) <|
    o_al 0 <|
    o_il 1 <|
    o_il 2 <|
    o_mc mo 3 (pX2_assigned mo) R <|
    (bX2_statement_225 mo R)
def bX2_statement_137 (mo : Nat) (R : Ret MS) : Cont MS :=
    o_ic 0 <|
    (bX2_statement_138 mo R)
def bX2_statement_39 (mo : Nat) (R : Ret MS) : Cont MS :=
    o_ic 960 <|
    o_al 0 <|
    o_mga mo 10 <|
    o_ic 4 <|
    o_mia mo 10 <|
    o_iadd <|
    o_is 1 <|
    o_al 0 <|
    o_mga mo 10 <|
    o_ic 4 <|
    o_dup2 <|
    o_mia mo 10 <|
    o_ic 1 <|
    o_iadd <|
    o_mis mo 10 <|
    o_al 0 <|
    o_mga mo 16 <|
    o_il 1 <|
    o_al 0 <|
    o_mga mo 9 <|
    o_ic 4 <|
    o_mia mo 9 <|
    o_ic 1 <|
    o_isub <|
    o_mis mo 16 <|
    o_al 0 <|
    o_mga mo 17 <|
    o_il 1 <|
    o_ic (-1) <|
    o_mis mo 17 <|
    o_al 0 <|
    o_mga mo 18 <|
    o_il 1 <|
    o_ic (-1) <|
    o_mis mo 18 <|
    o_al 0 <|
    o_mga mo 19 <|
    o_il 1 <|
    o_ic (-1) <|
    o_mis mo 19 <|
    o_al 0 <|
    o_mga mo 20 <|
    o_il 1 <|
    o_ic (-1) <|
    o_mis mo 20 <|
    o_al 0 <|
    o_mc mo 1 (pX2_named mo) R <|
    o_is 2 <|
    o_al 0 <|
    o_ic 114 <|
    o_ic 1 <|
    o_mc mo 3 (pX2_numbered mo) R <|
    o_is 3 <|
    o_il 2 <|
    o_if_ge (bX2_statement_137 mo R) <|
    o_il 3 <|
    o_if_ge (bX2_statement_137 mo R) <|
    o_al 0 <|
    o_lc 1952803948 <|
    o_mc mo 2 (pX2_isWord mo) R <|
    o_if_ne (bX2_statement_137 mo R) <|
    o_ic 1 <|
    (bX2_statement_138 mo R)
def bX2_statement_30 (mo : Nat) (R : Ret MS) : Cont MS :=
    o_ic 3 <|
    o_mc mo 3 (pX2_must mo) R <|
    o_if_ne (bX2_statement_39 mo R) <|
    (bX2_statement_37 mo R)
def bX2_statement_29 (mo : Nat) (R : Ret MS) : Cont MS :=
    o_ic 0 <|
    (bX2_statement_30 mo R)
def bX2_statement_0 (mo : Nat) (R : Ret MS) : Cont MS :=
    o_al 0 <|
    o_al 0 <|
    o_mc mo 1 (pX2_mayBegin mo) R <|
    o_ic 2 <|
    o_mc mo 3 (pX2_must mo) R <|
    o_if_eq (bX2_statement_37 mo R) <|
    o_al 0 <|
    o_al 0 <|
    o_mga mo 10 <|
    o_ic 4 <|
    o_mia mo 10 <|
    o_ic 160 <|
    o_icmp_ge (bX2_statement_29 mo R) <|
    o_ic 1 <|
    (bX2_statement_30 mo R)
def pX2_statement (mo : Nat) : PT MS := fun as σ Q => (lg_sl as).length ≤ 5 ∧ bX2_statement_0 mo Q (entP 5 as) [] σ
theorem nX2_statement : parN yX2_statement 0 := by unfold parN; decide +kernel
set_option maxHeartbeats 4000000 in
theorem eX2_statement (g : GM) : CT (wM g) yX2_statement (Cond.code yX2_statement cX2_statement 5 (some .boolean)) 6 135 (pX2_statement g.1) := by
  refine CT.of (wM_ok g) (cc := cX2_statement) (nL := 5) (ret := (some .boolean)) (ht := []) (by decide +kernel) (Or.inl ⟨rfl, rfl⟩) (B := bX2_statement_0 g.1) (fun R E X hE => ?_)
  have h37 : E (bX2_statement_37 g.1 R) 37 := by
    unfold bX2_statement_37
    refine si_iconst (pc := 37) hE dX2_statement_37 (by decide) ?_
    exact si_zreturn (pc := 38) hE dX2_statement_38
  have h225 : E (bX2_statement_225 g.1 R) 225 := by
    unfold bX2_statement_225
    refine si_aload_n (pc := 225) hE dX2_statement_225 rfl ?_
    refine si_bipush (pc := 226) hE dX2_statement_226 (by decide) ?_
    refine si_mc (pc := 228) (n := 1) hE rfl dX2_statement_228 (eX2_take g) rfl q1901 q1903 qs62 q1904 q134 nX2_take (by decide) (by decide) ?_
    refine si_iload (pc := 231) hE dX2_statement_231 ?_
    exact si_zreturn (pc := 233) hE dX2_statement_233
  have h220 : E (bX2_statement_220 g.1 R) 220 := by
    unfold bX2_statement_220
    refine si_aload_n (pc := 220) hE dX2_statement_220 rfl ?_
    refine si_iload_n (pc := 221) hE dX2_statement_221 rfl ?_
    refine si_mc (pc := 222) (n := 1) hE rfl dX2_statement_222 (eX2_leave g) rfl q1973 q1975 qs79 q1976 q134 nX2_leave (by decide) (by decide) ?_
    exact h225
  have h202 : E (bX2_statement_202 g.1 R) 202 := by
    unfold bX2_statement_202
    refine si_aload_n (pc := 202) hE dX2_statement_202 rfl ?_
    refine si_ldc2 (pc := 203) hE dX2_statement_203 q1927 ?_
    refine si_mc (pc := 206) (n := 1) hE rfl dX2_statement_206 (eX2_isWord g) rfl q1922 q1924 qs67 q1925 q134 nX2_isWord (by decide) (by decide) ?_
    refine si_if_eq (pc := 209) hE dX2_statement_209 (by decide) h220 ?_
    refine si_aload_n (pc := 212) hE dX2_statement_212 rfl ?_
    refine si_iload_n (pc := 213) hE dX2_statement_213 rfl ?_
    refine si_mc (pc := 214) (n := 1) hE rfl dX2_statement_214 (eX2_test g) rfl q1969 q1971 qs78 q1972 q134 nX2_test (by decide) (by decide) ?_
    exact si_goto (pc := 217) hE dX2_statement_217 (by decide) h225
  have h184 : E (bX2_statement_184 g.1 R) 184 := by
    unfold bX2_statement_184
    refine si_aload_n (pc := 184) hE dX2_statement_184 rfl ?_
    refine si_ldc2 (pc := 185) hE dX2_statement_185 q1926 ?_
    refine si_mc (pc := 188) (n := 1) hE rfl dX2_statement_188 (eX2_isWord g) rfl q1922 q1924 qs67 q1925 q134 nX2_isWord (by decide) (by decide) ?_
    refine si_if_eq (pc := 191) hE dX2_statement_191 (by decide) h202 ?_
    refine si_aload_n (pc := 194) hE dX2_statement_194 rfl ?_
    refine si_iload_n (pc := 195) hE dX2_statement_195 rfl ?_
    refine si_mc (pc := 196) (n := 1) hE rfl dX2_statement_196 (eX2_go g) rfl q1961 q1963 qs76 q1964 q134 nX2_go (by decide) (by decide) ?_
    exact si_goto (pc := 199) hE dX2_statement_199 (by decide) h225
  have h166 : E (bX2_statement_166 g.1 R) 166 := by
    unfold bX2_statement_166
    refine si_aload_n (pc := 166) hE dX2_statement_166 rfl ?_
    refine si_ldc2 (pc := 167) hE dX2_statement_167 q1921 ?_
    refine si_mc (pc := 170) (n := 1) hE rfl dX2_statement_170 (eX2_isWord g) rfl q1922 q1924 qs67 q1925 q134 nX2_isWord (by decide) (by decide) ?_
    refine si_if_eq (pc := 173) hE dX2_statement_173 (by decide) h184 ?_
    refine si_aload_n (pc := 176) hE dX2_statement_176 rfl ?_
    refine si_iload_n (pc := 177) hE dX2_statement_177 rfl ?_
    refine si_mc (pc := 178) (n := 1) hE rfl dX2_statement_178 (eX2_tell g) rfl q1957 q1959 qs75 q1960 q134 nX2_tell (by decide) (by decide) ?_
    exact si_goto (pc := 181) hE dX2_statement_181 (by decide) h225
  have h153 : E (bX2_statement_153 g.1 R) 153 := by
    unfold bX2_statement_153
    refine si_iload_n (pc := 153) hE dX2_statement_153 rfl ?_
    refine si_if_lt (pc := 154) hE dX2_statement_154 (by decide) h166 ?_
    refine si_aload_n (pc := 157) hE dX2_statement_157 rfl ?_
    refine si_iload_n (pc := 158) hE dX2_statement_158 rfl ?_
    refine si_iload_n (pc := 159) hE dX2_statement_159 rfl ?_
    refine si_mc (pc := 160) (n := 2) hE rfl dX2_statement_160 (eX2_put g) rfl q1949 q1951 qs73 q1952 q134 nX2_put (by decide) (by decide) ?_
    exact si_goto (pc := 163) hE dX2_statement_163 (by decide) h225
  have h138 : E (bX2_statement_138 g.1 R) 138 := by
    unfold bX2_statement_138
    refine si_istore (pc := 138) hE dX2_statement_138 (by decide) ?_
    refine si_iload_n (pc := 140) hE dX2_statement_140 rfl ?_
    refine si_if_lt (pc := 141) hE dX2_statement_141 (by decide) h153 ?_
    refine si_aload_n (pc := 144) hE dX2_statement_144 rfl ?_
    refine si_iload_n (pc := 145) hE dX2_statement_145 rfl ?_
    refine si_iload_n (pc := 146) hE dX2_statement_146 rfl ?_
    refine si_mc (pc := 147) (n := 2) hE rfl dX2_statement_147 (eX2_assigned g) rfl q1929 q1931 qs68 q1932 q134 nX2_assigned (by decide) (by decide) ?_
    exact si_goto (pc := 150) hE dX2_statement_150 (by decide) h225
  have h137 : E (bX2_statement_137 g.1 R) 137 := by
    unfold bX2_statement_137
    refine si_iconst (pc := 137) hE dX2_statement_137 (by decide) ?_
    exact h138
  have h39 : E (bX2_statement_39 g.1 R) 39 := by
    unfold bX2_statement_39
    refine si_sipush (pc := 39) hE dX2_statement_39 (by decide) ?_
    refine si_aload_n (pc := 42) hE dX2_statement_42 rfl ?_
    refine si_mga (pc := 43) (k := 10) hE rfl dX2_statement_43 q1669 (by decide) rfl (fun _ => rfl) ?_
    refine si_iconst (pc := 46) hE dX2_statement_46 (by decide) ?_
    refine si_mia (pc := 47) (k := 10) hE dX2_statement_47 (by decide) rfl ?_
    refine si_iadd (pc := 48) hE dX2_statement_48 ?_
    refine si_istore_n (pc := 49) hE dX2_statement_49 rfl (by decide) ?_
    refine si_aload_n (pc := 50) hE dX2_statement_50 rfl ?_
    refine si_mga (pc := 51) (k := 10) hE rfl dX2_statement_51 q1669 (by decide) rfl (fun _ => rfl) ?_
    refine si_iconst (pc := 54) hE dX2_statement_54 (by decide) ?_
    refine si_dup2 (pc := 55) hE dX2_statement_55 ?_
    refine si_mia (pc := 56) (k := 10) hE dX2_statement_56 (by decide) rfl ?_
    refine si_iconst (pc := 57) hE dX2_statement_57 (by decide) ?_
    refine si_iadd (pc := 58) hE dX2_statement_58 ?_
    refine si_mis (pc := 59) (k := 10) hE dX2_statement_59 (by decide) rfl ?_
    refine si_aload_n (pc := 60) hE dX2_statement_60 rfl ?_
    refine si_mga (pc := 61) (k := 16) hE rfl dX2_statement_61 q1675 (by decide) rfl (fun _ => rfl) ?_
    refine si_iload_n (pc := 64) hE dX2_statement_64 rfl ?_
    refine si_aload_n (pc := 65) hE dX2_statement_65 rfl ?_
    refine si_mga (pc := 66) (k := 9) hE rfl dX2_statement_66 q1668 (by decide) rfl (fun _ => rfl) ?_
    refine si_iconst (pc := 69) hE dX2_statement_69 (by decide) ?_
    refine si_mia (pc := 70) (k := 9) hE dX2_statement_70 (by decide) rfl ?_
    refine si_iconst (pc := 71) hE dX2_statement_71 (by decide) ?_
    refine si_isub (pc := 72) hE dX2_statement_72 ?_
    refine si_mis (pc := 73) (k := 16) hE dX2_statement_73 (by decide) rfl ?_
    refine si_aload_n (pc := 74) hE dX2_statement_74 rfl ?_
    refine si_mga (pc := 75) (k := 17) hE rfl dX2_statement_75 q1676 (by decide) rfl (fun _ => rfl) ?_
    refine si_iload_n (pc := 78) hE dX2_statement_78 rfl ?_
    refine si_iconst (pc := 79) hE dX2_statement_79 (by decide) ?_
    refine si_mis (pc := 80) (k := 17) hE dX2_statement_80 (by decide) rfl ?_
    refine si_aload_n (pc := 81) hE dX2_statement_81 rfl ?_
    refine si_mga (pc := 82) (k := 18) hE rfl dX2_statement_82 q1677 (by decide) rfl (fun _ => rfl) ?_
    refine si_iload_n (pc := 85) hE dX2_statement_85 rfl ?_
    refine si_iconst (pc := 86) hE dX2_statement_86 (by decide) ?_
    refine si_mis (pc := 87) (k := 18) hE dX2_statement_87 (by decide) rfl ?_
    refine si_aload_n (pc := 88) hE dX2_statement_88 rfl ?_
    refine si_mga (pc := 89) (k := 19) hE rfl dX2_statement_89 q1678 (by decide) rfl (fun _ => rfl) ?_
    refine si_iload_n (pc := 92) hE dX2_statement_92 rfl ?_
    refine si_iconst (pc := 93) hE dX2_statement_93 (by decide) ?_
    refine si_mis (pc := 94) (k := 19) hE dX2_statement_94 (by decide) rfl ?_
    refine si_aload_n (pc := 95) hE dX2_statement_95 rfl ?_
    refine si_mga (pc := 96) (k := 20) hE rfl dX2_statement_96 q1679 (by decide) rfl (fun _ => rfl) ?_
    refine si_iload_n (pc := 99) hE dX2_statement_99 rfl ?_
    refine si_iconst (pc := 100) hE dX2_statement_100 (by decide) ?_
    refine si_mis (pc := 101) (k := 20) hE dX2_statement_101 (by decide) rfl ?_
    refine si_aload_n (pc := 102) hE dX2_statement_102 rfl ?_
    refine si_mc (pc := 103) (n := 0) hE rfl dX2_statement_103 (eX2_named g) rfl q1917 q1919 qs66 q1920 q134 nX2_named (by decide) (by decide) ?_
    refine si_istore_n (pc := 106) hE dX2_statement_106 rfl (by decide) ?_
    refine si_aload_n (pc := 107) hE dX2_statement_107 rfl ?_
    refine si_bipush (pc := 108) hE dX2_statement_108 (by decide) ?_
    refine si_iconst (pc := 110) hE dX2_statement_110 (by decide) ?_
    refine si_mc (pc := 111) (n := 2) hE rfl dX2_statement_111 (eX2_numbered g) rfl q1897 q1899 qs61 q1900 q134 nX2_numbered (by decide) (by decide) ?_
    refine si_istore_n (pc := 114) hE dX2_statement_114 rfl (by decide) ?_
    refine si_iload_n (pc := 115) hE dX2_statement_115 rfl ?_
    refine si_if_ge (pc := 116) hE dX2_statement_116 (by decide) h137 ?_
    refine si_iload_n (pc := 119) hE dX2_statement_119 rfl ?_
    refine si_if_ge (pc := 120) hE dX2_statement_120 (by decide) h137 ?_
    refine si_aload_n (pc := 123) hE dX2_statement_123 rfl ?_
    refine si_ldc2 (pc := 124) hE dX2_statement_124 q1921 ?_
    refine si_mc (pc := 127) (n := 1) hE rfl dX2_statement_127 (eX2_isWord g) rfl q1922 q1924 qs67 q1925 q134 nX2_isWord (by decide) (by decide) ?_
    refine si_if_ne (pc := 130) hE dX2_statement_130 (by decide) h137 ?_
    refine si_iconst (pc := 133) hE dX2_statement_133 (by decide) ?_
    exact si_goto (pc := 134) hE dX2_statement_134 (by decide) h138
  have h30 : E (bX2_statement_30 g.1 R) 30 := by
    unfold bX2_statement_30
    refine si_iconst (pc := 30) hE dX2_statement_30 (by decide) ?_
    refine si_mc (pc := 31) (n := 2) hE rfl dX2_statement_31 (eX2_must g) rfl q1889 q1891 qs59 q1892 q134 nX2_must (by decide) (by decide) ?_
    refine si_if_ne (pc := 34) hE dX2_statement_34 (by decide) h39 ?_
    exact h37
  have h29 : E (bX2_statement_29 g.1 R) 29 := by
    unfold bX2_statement_29
    refine si_iconst (pc := 29) hE dX2_statement_29 (by decide) ?_
    exact h30
  have h0 : E (bX2_statement_0 g.1 R) 0 := by
    unfold bX2_statement_0
    refine si_aload_n (pc := 0) hE dX2_statement_0 rfl ?_
    refine si_aload_n (pc := 1) hE dX2_statement_1 rfl ?_
    refine si_mc (pc := 2) (n := 0) hE rfl dX2_statement_2 (eX2_mayBegin g) rfl q1913 q1915 qs65 q1916 q134 nX2_mayBegin (by decide) (by decide) ?_
    refine si_iconst (pc := 5) hE dX2_statement_5 (by decide) ?_
    refine si_mc (pc := 6) (n := 2) hE rfl dX2_statement_6 (eX2_must g) rfl q1889 q1891 qs59 q1892 q134 nX2_must (by decide) (by decide) ?_
    refine si_if_eq (pc := 9) hE dX2_statement_9 (by decide) h37 ?_
    refine si_aload_n (pc := 12) hE dX2_statement_12 rfl ?_
    refine si_aload_n (pc := 13) hE dX2_statement_13 rfl ?_
    refine si_mga (pc := 14) (k := 10) hE rfl dX2_statement_14 q1669 (by decide) rfl (fun _ => rfl) ?_
    refine si_iconst (pc := 17) hE dX2_statement_17 (by decide) ?_
    refine si_mia (pc := 18) (k := 10) hE dX2_statement_18 (by decide) rfl ?_
    refine si_sipush (pc := 19) hE dX2_statement_19 (by decide) ?_
    refine si_icmp_ge (pc := 22) hE dX2_statement_22 (by decide) h29 ?_
    refine si_iconst (pc := 25) hE dX2_statement_25 (by decide) ?_
    exact si_goto (pc := 26) hE dX2_statement_26 (by decide) h30
  exact h0
def bX2_readBlock_51 (mo : Nat) (R : Ret MS) : Cont MS :=
    o_return R
def bX2_readBlock_123 (mo : Nat) (R : Ret MS) : Cont MS :=
    o_return R
def bX2_readBlock_104 (mo : Nat) (R : Ret MS) : Cont MS :=
    fixC fun J104 =>
    o_al 0 <|
    o_mg mo 32 <|
    o_if_ne (bX2_readBlock_123 mo R) <|
    o_il 2 <|
    o_if_ne (bX2_readBlock_123 mo R) <|
    o_al 0 <|
    o_mc mo 1 (pX2_statement mo) R <|
    o_is 2 <|
    (o_kill [1] J104)
def bX2_readBlock_52 (mo : Nat) (R : Ret MS) : Cont MS :=
    o_al 0 <|
    o_mga mo 14 <|
    o_ic 164 <|
    o_il 1 <|
    o_iadd <|
    o_al 0 <|
    o_mg mo 3 <|
    o_mis mo 14 <|
    o_al 0 <|
    o_mga mo 13 <|
    o_ic 164 <|
    o_il 1 <|
    o_iadd <|
    o_al 0 <|
    o_mga mo 10 <|
    o_ic 4 <|
    o_mia mo 10 <|
    o_mis mo 13 <|
    o_al 0 <|
    o_mga mo 9 <|
    o_ic 4 <|
    o_dup2 <|
    o_mia mo 9 <|
    o_ic 1 <|
    o_iadd <|
    o_mis mo 9 <|
    o_al 0 <|
    o_mc mo 1 (pX2_next mo) R <|
    o_al 0 <|
    o_ic 58 <|
    o_mc mo 2 (pX2_take mo) R <|
    o_ic 0 <|
    o_is 2 <|
    (o_kill [1] (bX2_readBlock_104 mo R))
def bX2_readBlock_44 (mo : Nat) (R : Ret MS) : Cont MS :=
    o_ic 2 <|
    o_mc mo 3 (pX2_must mo) R <|
    o_if_ne (bX2_readBlock_52 mo R) <|
    (bX2_readBlock_51 mo R)
def bX2_readBlock_43 (mo : Nat) (R : Ret MS) : Cont MS :=
    o_ic 0 <|
    (bX2_readBlock_44 mo R)
def bX2_readBlock_19 (mo : Nat) (R : Ret MS) : Cont MS :=
    o_ic 3 <|
    o_mc mo 3 (pX2_must mo) R <|
    o_if_eq (bX2_readBlock_51 mo R) <|
    o_al 0 <|
    o_al 0 <|
    o_ic 98 <|
    o_ic 39 <|
    o_mc mo 3 (pX2_numbered mo) R <|
    o_il 1 <|
    o_icmp_ne (bX2_readBlock_43 mo R) <|
    o_ic 1 <|
    (bX2_readBlock_44 mo R)
def bX2_readBlock_18 (mo : Nat) (R : Ret MS) : Cont MS :=
    o_ic 0 <|
    (bX2_readBlock_19 mo R)
def bX2_readBlock_0 (mo : Nat) (R : Ret MS) : Cont MS :=
    o_al 0 <|
    o_mga mo 9 <|
    o_ic 4 <|
    o_mia mo 9 <|
    o_is 1 <|
    o_al 0 <|
    o_il 1 <|
    o_ic 40 <|
    o_icmp_ge (bX2_readBlock_18 mo R) <|
    o_ic 1 <|
    (bX2_readBlock_19 mo R)
def pX2_readBlock (mo : Nat) : PT MS := fun as σ Q => (lg_sl as).length ≤ 3 ∧ bX2_readBlock_0 mo Q (entP 3 as) [] σ
theorem nX2_readBlock : parN yX2_readBlock 0 := by unfold parN; decide +kernel
set_option maxHeartbeats 4000000 in
theorem eX2_readBlock (g : GM) : CT (wM g) yX2_readBlock (Cond.code yX2_readBlock cX2_readBlock 3 none) 7 159 (pX2_readBlock g.1) := by
  refine CT.of (wM_ok g) (cc := cX2_readBlock) (nL := 3) (ret := none) (ht := []) (by decide +kernel) (Or.inl ⟨rfl, rfl⟩) (B := bX2_readBlock_0 g.1) (fun R E X hE => ?_)
  have h51 : E (bX2_readBlock_51 g.1 R) 51 := by
    unfold bX2_readBlock_51
    exact si_return (pc := 51) hE dX2_readBlock_51
  have h123 : E (bX2_readBlock_123 g.1 R) 123 := by
    unfold bX2_readBlock_123
    exact si_return (pc := 123) hE dX2_readBlock_123
  have h104 : E (bX2_readBlock_104 g.1 R) 104 := by
    unfold bX2_readBlock_104
    refine si_fix hE (fun J104 hJ104 => ?_)
    refine si_aload_n (pc := 104) hE dX2_readBlock_104 rfl ?_
    refine si_mg (pc := 105) (k := 32) hE rfl dX2_readBlock_105 q1691 (by decide) rfl (fun _ => rfl) ?_
    refine si_if_ne (pc := 108) hE dX2_readBlock_108 (by decide) h123 ?_
    refine si_iload_n (pc := 111) hE dX2_readBlock_111 rfl ?_
    refine si_if_ne (pc := 112) hE dX2_readBlock_112 (by decide) h123 ?_
    refine si_aload_n (pc := 115) hE dX2_readBlock_115 rfl ?_
    refine si_mc (pc := 116) (n := 0) hE rfl dX2_readBlock_116 (eX2_statement g) rfl q1909 q1911 qs64 q1912 q134 nX2_statement (by decide) (by decide) ?_
    refine si_istore_n (pc := 119) hE dX2_readBlock_119 rfl (by decide) ?_
    exact si_goto (pc := 120) hE dX2_readBlock_120 (by decide) (si_kill hE hJ104)
  have h52 : E (bX2_readBlock_52 g.1 R) 52 := by
    unfold bX2_readBlock_52
    refine si_aload_n (pc := 52) hE dX2_readBlock_52 rfl ?_
    refine si_mga (pc := 53) (k := 14) hE rfl dX2_readBlock_53 q1673 (by decide) rfl (fun _ => rfl) ?_
    refine si_sipush (pc := 56) hE dX2_readBlock_56 (by decide) ?_
    refine si_iload_n (pc := 59) hE dX2_readBlock_59 rfl ?_
    refine si_iadd (pc := 60) hE dX2_readBlock_60 ?_
    refine si_aload_n (pc := 61) hE dX2_readBlock_61 rfl ?_
    refine si_mg (pc := 62) (k := 3) hE rfl dX2_readBlock_62 q1662 (by decide) rfl (fun _ => rfl) ?_
    refine si_mis (pc := 65) (k := 14) hE dX2_readBlock_65 (by decide) rfl ?_
    refine si_aload_n (pc := 66) hE dX2_readBlock_66 rfl ?_
    refine si_mga (pc := 67) (k := 13) hE rfl dX2_readBlock_67 q1672 (by decide) rfl (fun _ => rfl) ?_
    refine si_sipush (pc := 70) hE dX2_readBlock_70 (by decide) ?_
    refine si_iload_n (pc := 73) hE dX2_readBlock_73 rfl ?_
    refine si_iadd (pc := 74) hE dX2_readBlock_74 ?_
    refine si_aload_n (pc := 75) hE dX2_readBlock_75 rfl ?_
    refine si_mga (pc := 76) (k := 10) hE rfl dX2_readBlock_76 q1669 (by decide) rfl (fun _ => rfl) ?_
    refine si_iconst (pc := 79) hE dX2_readBlock_79 (by decide) ?_
    refine si_mia (pc := 80) (k := 10) hE dX2_readBlock_80 (by decide) rfl ?_
    refine si_mis (pc := 81) (k := 13) hE dX2_readBlock_81 (by decide) rfl ?_
    refine si_aload_n (pc := 82) hE dX2_readBlock_82 rfl ?_
    refine si_mga (pc := 83) (k := 9) hE rfl dX2_readBlock_83 q1668 (by decide) rfl (fun _ => rfl) ?_
    refine si_iconst (pc := 86) hE dX2_readBlock_86 (by decide) ?_
    refine si_dup2 (pc := 87) hE dX2_readBlock_87 ?_
    refine si_mia (pc := 88) (k := 9) hE dX2_readBlock_88 (by decide) rfl ?_
    refine si_iconst (pc := 89) hE dX2_readBlock_89 (by decide) ?_
    refine si_iadd (pc := 90) hE dX2_readBlock_90 ?_
    refine si_mis (pc := 91) (k := 9) hE dX2_readBlock_91 (by decide) rfl ?_
    refine si_aload_n (pc := 92) hE dX2_readBlock_92 rfl ?_
    refine si_mc (pc := 93) (n := 0) hE rfl dX2_readBlock_93 (eX2_next g) rfl q1863 q1865 qs53 q1866 q134 nX2_next (by decide) (by decide) ?_
    refine si_aload_n (pc := 96) hE dX2_readBlock_96 rfl ?_
    refine si_bipush (pc := 97) hE dX2_readBlock_97 (by decide) ?_
    refine si_mc (pc := 99) (n := 1) hE rfl dX2_readBlock_99 (eX2_take g) rfl q1901 q1903 qs62 q1904 q134 nX2_take (by decide) (by decide) ?_
    refine si_iconst (pc := 102) hE dX2_readBlock_102 (by decide) ?_
    refine si_istore_n (pc := 103) hE dX2_readBlock_103 rfl (by decide) ?_
    exact (si_kill hE h104)
  have h44 : E (bX2_readBlock_44 g.1 R) 44 := by
    unfold bX2_readBlock_44
    refine si_iconst (pc := 44) hE dX2_readBlock_44 (by decide) ?_
    refine si_mc (pc := 45) (n := 2) hE rfl dX2_readBlock_45 (eX2_must g) rfl q1889 q1891 qs59 q1892 q134 nX2_must (by decide) (by decide) ?_
    refine si_if_ne (pc := 48) hE dX2_readBlock_48 (by decide) h52 ?_
    exact h51
  have h43 : E (bX2_readBlock_43 g.1 R) 43 := by
    unfold bX2_readBlock_43
    refine si_iconst (pc := 43) hE dX2_readBlock_43 (by decide) ?_
    exact h44
  have h19 : E (bX2_readBlock_19 g.1 R) 19 := by
    unfold bX2_readBlock_19
    refine si_iconst (pc := 19) hE dX2_readBlock_19 (by decide) ?_
    refine si_mc (pc := 20) (n := 2) hE rfl dX2_readBlock_20 (eX2_must g) rfl q1889 q1891 qs59 q1892 q134 nX2_must (by decide) (by decide) ?_
    refine si_if_eq (pc := 23) hE dX2_readBlock_23 (by decide) h51 ?_
    refine si_aload_n (pc := 26) hE dX2_readBlock_26 rfl ?_
    refine si_aload_n (pc := 27) hE dX2_readBlock_27 rfl ?_
    refine si_bipush (pc := 28) hE dX2_readBlock_28 (by decide) ?_
    refine si_bipush (pc := 30) hE dX2_readBlock_30 (by decide) ?_
    refine si_mc (pc := 32) (n := 2) hE rfl dX2_readBlock_32 (eX2_numbered g) rfl q1897 q1899 qs61 q1900 q134 nX2_numbered (by decide) (by decide) ?_
    refine si_iload_n (pc := 35) hE dX2_readBlock_35 rfl ?_
    refine si_icmp_ne (pc := 36) hE dX2_readBlock_36 (by decide) h43 ?_
    refine si_iconst (pc := 39) hE dX2_readBlock_39 (by decide) ?_
    exact si_goto (pc := 40) hE dX2_readBlock_40 (by decide) h44
  have h18 : E (bX2_readBlock_18 g.1 R) 18 := by
    unfold bX2_readBlock_18
    refine si_iconst (pc := 18) hE dX2_readBlock_18 (by decide) ?_
    exact h19
  have h0 : E (bX2_readBlock_0 g.1 R) 0 := by
    unfold bX2_readBlock_0
    refine si_aload_n (pc := 0) hE dX2_readBlock_0 rfl ?_
    refine si_mga (pc := 1) (k := 9) hE rfl dX2_readBlock_1 q1668 (by decide) rfl (fun _ => rfl) ?_
    refine si_iconst (pc := 4) hE dX2_readBlock_4 (by decide) ?_
    refine si_mia (pc := 5) (k := 9) hE dX2_readBlock_5 (by decide) rfl ?_
    refine si_istore_n (pc := 6) hE dX2_readBlock_6 rfl (by decide) ?_
    refine si_aload_n (pc := 7) hE dX2_readBlock_7 rfl ?_
    refine si_iload_n (pc := 8) hE dX2_readBlock_8 rfl ?_
    refine si_bipush (pc := 9) hE dX2_readBlock_9 (by decide) ?_
    refine si_icmp_ge (pc := 11) hE dX2_readBlock_11 (by decide) h18 ?_
    refine si_iconst (pc := 14) hE dX2_readBlock_14 (by decide) ?_
    exact si_goto (pc := 15) hE dX2_readBlock_15 (by decide) h19
  exact h0
def bX2_fault_0 (mo : Nat) (R : Ret MS) : Cont MS :=
    o_al 0 <|
    o_il 1 <|
    o_mp mo 32 <|
    o_al 0 <|
    o_il 2 <|
    o_mp mo 33 <|
    o_return R
def pX2_fault (mo : Nat) : PT MS := fun as σ Q => (lg_sl as).length ≤ 3 ∧ bX2_fault_0 mo Q (entP 3 as) [] σ
theorem nX2_fault : parN yX2_fault 2 := by unfold parN; decide +kernel
set_option maxHeartbeats 4000000 in
theorem eX2_fault (g : GM) : CT (wM g) yX2_fault (Cond.code yX2_fault cX2_fault 3 none) 0 0 (pX2_fault g.1) := by
  refine CT.of (wM_ok g) (cc := cX2_fault) (nL := 3) (ret := none) (ht := []) (by decide +kernel) (Or.inl ⟨rfl, rfl⟩) (B := bX2_fault_0 g.1) (fun R E X hE => ?_)
  have h0 : E (bX2_fault_0 g.1 R) 0 := by
    unfold bX2_fault_0
    refine si_aload_n (pc := 0) hE dX2_fault_0 rfl ?_
    refine si_iload_n (pc := 1) hE dX2_fault_1 rfl ?_
    refine si_mp (pc := 2) (k := 32) hE rfl dX2_fault_2 q1691 (by decide) rfl rfl rfl rfl ?_
    refine si_aload_n (pc := 5) hE dX2_fault_5 rfl ?_
    refine si_iload_n (pc := 6) hE dX2_fault_6 rfl ?_
    refine si_mp (pc := 7) (k := 33) hE rfl dX2_fault_7 q1692 (by decide) rfl rfl rfl rfl ?_
    exact si_return (pc := 10) hE dX2_fault_10
  exact h0
def bX2_lastNode_36 (mo : Nat) (R : Ret MS) : Cont MS :=
    o_iadd <|
    o_ic 1 <|
    o_isub <|
    o_ireturn R
def bX2_lastNode_30 (mo : Nat) (R : Ret MS) : Cont MS :=
    o_al 0 <|
    o_mga mo 10 <|
    o_ic 4 <|
    o_mia mo 10 <|
    (bX2_lastNode_36 mo R)
def bX2_lastNode_0 (mo : Nat) (R : Ret MS) : Cont MS :=
    o_ic 960 <|
    o_il 1 <|
    o_ic 1 <|
    o_iadd <|
    o_al 0 <|
    o_mga mo 9 <|
    o_ic 4 <|
    o_mia mo 9 <|
    o_icmp_ge (bX2_lastNode_30 mo R) <|
    o_al 0 <|
    o_mga mo 13 <|
    o_ic 164 <|
    o_il 1 <|
    o_iadd <|
    o_ic 1 <|
    o_iadd <|
    o_mia mo 13 <|
    (bX2_lastNode_36 mo R)
def pX2_lastNode (mo : Nat) : PT MS := fun as σ Q => (lg_sl as).length ≤ 2 ∧ bX2_lastNode_0 mo Q (entP 2 as) [] σ
theorem nX2_lastNode : parN yX2_lastNode 1 := by unfold parN; decide +kernel
set_option maxHeartbeats 4000000 in
theorem eX2_lastNode (g : GM) : CT (wM g) yX2_lastNode (Cond.code yX2_lastNode cX2_lastNode 2 (some .int)) 0 0 (pX2_lastNode g.1) := by
  refine CT.of (wM_ok g) (cc := cX2_lastNode) (nL := 2) (ret := (some .int)) (ht := []) (by decide +kernel) (Or.inl ⟨rfl, rfl⟩) (B := bX2_lastNode_0 g.1) (fun R E X hE => ?_)
  have h36 : E (bX2_lastNode_36 g.1 R) 36 := by
    unfold bX2_lastNode_36
    refine si_iadd (pc := 36) hE dX2_lastNode_36 ?_
    refine si_iconst (pc := 37) hE dX2_lastNode_37 (by decide) ?_
    refine si_isub (pc := 38) hE dX2_lastNode_38 ?_
    exact si_ireturn (pc := 39) hE dX2_lastNode_39
  have h30 : E (bX2_lastNode_30 g.1 R) 30 := by
    unfold bX2_lastNode_30
    refine si_aload_n (pc := 30) hE dX2_lastNode_30 rfl ?_
    refine si_mga (pc := 31) (k := 10) hE rfl dX2_lastNode_31 q1669 (by decide) rfl (fun _ => rfl) ?_
    refine si_iconst (pc := 34) hE dX2_lastNode_34 (by decide) ?_
    refine si_mia (pc := 35) (k := 10) hE dX2_lastNode_35 (by decide) rfl ?_
    exact h36
  have h0 : E (bX2_lastNode_0 g.1 R) 0 := by
    unfold bX2_lastNode_0
    refine si_sipush (pc := 0) hE dX2_lastNode_0 (by decide) ?_
    refine si_iload_n (pc := 3) hE dX2_lastNode_3 rfl ?_
    refine si_iconst (pc := 4) hE dX2_lastNode_4 (by decide) ?_
    refine si_iadd (pc := 5) hE dX2_lastNode_5 ?_
    refine si_aload_n (pc := 6) hE dX2_lastNode_6 rfl ?_
    refine si_mga (pc := 7) (k := 9) hE rfl dX2_lastNode_7 q1668 (by decide) rfl (fun _ => rfl) ?_
    refine si_iconst (pc := 10) hE dX2_lastNode_10 (by decide) ?_
    refine si_mia (pc := 11) (k := 9) hE dX2_lastNode_11 (by decide) rfl ?_
    refine si_icmp_ge (pc := 12) hE dX2_lastNode_12 (by decide) h30 ?_
    refine si_aload_n (pc := 15) hE dX2_lastNode_15 rfl ?_
    refine si_mga (pc := 16) (k := 13) hE rfl dX2_lastNode_16 q1672 (by decide) rfl (fun _ => rfl) ?_
    refine si_sipush (pc := 19) hE dX2_lastNode_19 (by decide) ?_
    refine si_iload_n (pc := 22) hE dX2_lastNode_22 rfl ?_
    refine si_iadd (pc := 23) hE dX2_lastNode_23 ?_
    refine si_iconst (pc := 24) hE dX2_lastNode_24 (by decide) ?_
    refine si_iadd (pc := 25) hE dX2_lastNode_25 ?_
    refine si_mia (pc := 26) (k := 13) hE dX2_lastNode_26 (by decide) rfl ?_
    exact si_goto (pc := 27) hE dX2_lastNode_27 (by decide) h36
  exact h0
def bX2_mark_13 (mo : Nat) (R : Ret MS) : Cont MS :=
    o_ic 0 <|
    o_zreturn R
def bX2_mark_15 (mo : Nat) (R : Ret MS) : Cont MS :=
    o_al 0 <|
    o_mga mo 42 <|
    o_il 1 <|
    o_ic 1 <|
    o_mbs mo 42 <|
    o_ic 1 <|
    o_zreturn R
def bX2_mark_0 (mo : Nat) (R : Ret MS) : Cont MS :=
    o_il 1 <|
    o_if_lt (bX2_mark_13 mo R) <|
    o_al 0 <|
    o_mga mo 42 <|
    o_il 1 <|
    o_mia mo 42 <|
    o_if_eq (bX2_mark_15 mo R) <|
    (bX2_mark_13 mo R)
def pX2_mark (mo : Nat) : PT MS := fun as σ Q => (lg_sl as).length ≤ 2 ∧ bX2_mark_0 mo Q (entP 2 as) [] σ
theorem nX2_mark : parN yX2_mark 1 := by unfold parN; decide +kernel
set_option maxHeartbeats 4000000 in
theorem eX2_mark (g : GM) : CT (wM g) yX2_mark (Cond.code yX2_mark cX2_mark 2 (some .boolean)) 0 0 (pX2_mark g.1) := by
  refine CT.of (wM_ok g) (cc := cX2_mark) (nL := 2) (ret := (some .boolean)) (ht := []) (by decide +kernel) (Or.inl ⟨rfl, rfl⟩) (B := bX2_mark_0 g.1) (fun R E X hE => ?_)
  have h13 : E (bX2_mark_13 g.1 R) 13 := by
    unfold bX2_mark_13
    refine si_iconst (pc := 13) hE dX2_mark_13 (by decide) ?_
    exact si_zreturn (pc := 14) hE dX2_mark_14
  have h15 : E (bX2_mark_15 g.1 R) 15 := by
    unfold bX2_mark_15
    refine si_aload_n (pc := 15) hE dX2_mark_15 rfl ?_
    refine si_mga (pc := 16) (k := 42) hE rfl dX2_mark_16 q1701 (by decide) rfl (fun _ => rfl) ?_
    refine si_iload_n (pc := 19) hE dX2_mark_19 rfl ?_
    refine si_iconst (pc := 20) hE dX2_mark_20 (by decide) ?_
    refine si_mbs (pc := 21) (k := 42) hE dX2_mark_21 (by decide) rfl ?_
    refine si_iconst (pc := 22) hE dX2_mark_22 (by decide) ?_
    exact si_zreturn (pc := 23) hE dX2_mark_23
  have h0 : E (bX2_mark_0 g.1 R) 0 := by
    unfold bX2_mark_0
    refine si_iload_n (pc := 0) hE dX2_mark_0 rfl ?_
    refine si_if_lt (pc := 1) hE dX2_mark_1 (by decide) h13 ?_
    refine si_aload_n (pc := 4) hE dX2_mark_4 rfl ?_
    refine si_mga (pc := 5) (k := 42) hE rfl dX2_mark_5 q1701 (by decide) rfl (fun _ => rfl) ?_
    refine si_iload_n (pc := 8) hE dX2_mark_8 rfl ?_
    refine si_mza (pc := 9) (k := 42) hE dX2_mark_9 (by decide) rfl ?_
    refine si_if_eq (pc := 10) hE dX2_mark_10 (by decide) h15 ?_
    exact h13
  exact h0
def bX2_ends_432 (mo : Nat) (R : Ret MS) : Cont MS :=
    o_return R
def bX2_ends_426 (mo : Nat) (R : Ret MS) (J397 : Cont MS) : Cont MS :=
    o_iinc 2 (-1) <|
    (o_kill [1, 3, 4] J397)
def bX2_ends_397 (mo : Nat) (R : Ret MS) : Cont MS :=
    fixC fun J397 =>
    o_il 2 <|
    o_if_lt (bX2_ends_432 mo R) <|
    o_al 0 <|
    o_mga mo 42 <|
    o_il 2 <|
    o_mia mo 42 <|
    o_if_ne (bX2_ends_426 mo R J397) <|
    o_al 0 <|
    o_ic 6 <|
    o_al 0 <|
    o_mga mo 14 <|
    o_ic 164 <|
    o_il 2 <|
    o_iadd <|
    o_mia mo 14 <|
    o_mc mo 3 (pX2_fault mo) R <|
    (bX2_ends_426 mo R J397)
def bX2_ends_388 (mo : Nat) (R : Ret MS) : Cont MS :=
    o_al 0 <|
    o_mga mo 9 <|
    o_ic 4 <|
    o_mia mo 9 <|
    o_ic 1 <|
    o_isub <|
    o_is 2 <|
    (o_kill [1, 3, 4] (bX2_ends_397 mo R))
def bX2_ends_385 (mo : Nat) (R : Ret MS) (J276 : Cont MS) : Cont MS :=
    (o_kill [2, 3, 4] J276)
def bX2_ends_379 (mo : Nat) (R : Ret MS) (J276 : Cont MS) (J284 : Cont MS) : Cont MS :=
    o_iinc 2 1 <|
    (o_kill [3, 4] J284)
def bX2_ends_370 (mo : Nat) (R : Ret MS) (J276 : Cont MS) (J284 : Cont MS) : Cont MS :=
    o_al 0 <|
    o_mga mo 42 <|
    o_il 2 <|
    o_ic 1 <|
    o_mbs mo 42 <|
    o_ic 1 <|
    o_is 1 <|
    (bX2_ends_379 mo R J276 J284)
def bX2_ends_351 (mo : Nat) (R : Ret MS) (J276 : Cont MS) (J284 : Cont MS) : Cont MS :=
    o_is 4 <|
    o_il 4 <|
    o_if_eq (bX2_ends_379 mo R J276 J284) <|
    o_al 0 <|
    o_mga mo 42 <|
    o_il 2 <|
    o_mia mo 42 <|
    o_if_eq (bX2_ends_370 mo R J276 J284) <|
    (bX2_ends_379 mo R J276 J284)
def bX2_ends_350 (mo : Nat) (R : Ret MS) (J276 : Cont MS) (J284 : Cont MS) : Cont MS :=
    o_ic 0 <|
    (bX2_ends_351 mo R J276 J284)
def bX2_ends_346 (mo : Nat) (R : Ret MS) (J276 : Cont MS) (J284 : Cont MS) : Cont MS :=
    o_ic 1 <|
    (bX2_ends_351 mo R J276 J284)
def bX2_ends_323 (mo : Nat) (R : Ret MS) (J276 : Cont MS) (J284 : Cont MS) : Cont MS :=
    o_al 0 <|
    o_mga mo 20 <|
    o_il 3 <|
    o_mia mo 20 <|
    o_if_lt (bX2_ends_350 mo R J276 J284) <|
    o_al 0 <|
    o_mga mo 42 <|
    o_al 0 <|
    o_mga mo 20 <|
    o_il 3 <|
    o_mia mo 20 <|
    o_mia mo 42 <|
    o_if_eq (bX2_ends_350 mo R J276 J284) <|
    (bX2_ends_346 mo R J276 J284)
def bX2_ends_284 (mo : Nat) (R : Ret MS) (J276 : Cont MS) : Cont MS :=
    fixC fun J284 =>
    o_il 2 <|
    o_al 0 <|
    o_mga mo 9 <|
    o_ic 4 <|
    o_mia mo 9 <|
    o_icmp_ge (bX2_ends_385 mo R J276) <|
    o_al 0 <|
    o_il 2 <|
    o_mc mo 2 (pX2_lastNode mo) R <|
    o_is 3 <|
    o_al 0 <|
    o_mga mo 19 <|
    o_il 3 <|
    o_mia mo 19 <|
    o_if_lt (bX2_ends_323 mo R J276 J284) <|
    o_al 0 <|
    o_mga mo 42 <|
    o_al 0 <|
    o_mga mo 19 <|
    o_il 3 <|
    o_mia mo 19 <|
    o_mia mo 42 <|
    o_if_ne (bX2_ends_346 mo R J276 J284) <|
    (bX2_ends_323 mo R J276 J284)
def bX2_ends_276 (mo : Nat) (R : Ret MS) : Cont MS :=
    fixC fun J276 =>
    o_il 1 <|
    o_if_eq (bX2_ends_388 mo R) <|
    o_ic 0 <|
    o_is 1 <|
    o_ic 0 <|
    o_is 2 <|
    (o_kill [3, 4] (bX2_ends_284 mo R J276))
def bX2_ends_274 (mo : Nat) (R : Ret MS) : Cont MS :=
    o_ic 1 <|
    o_is 1 <|
    (o_kill [2, 3, 4] (bX2_ends_276 mo R))
def bX2_ends_267 (mo : Nat) (R : Ret MS) (J232 : Cont MS) : Cont MS :=
    o_mbs mo 42 <|
    o_iinc 2 1 <|
    (o_kill [1, 3, 4] J232)
def bX2_ends_266 (mo : Nat) (R : Ret MS) (J232 : Cont MS) : Cont MS :=
    o_ic 0 <|
    (bX2_ends_267 mo R J232)
def bX2_ends_232 (mo : Nat) (R : Ret MS) : Cont MS :=
    fixC fun J232 =>
    o_il 2 <|
    o_al 0 <|
    o_mga mo 9 <|
    o_ic 4 <|
    o_mia mo 9 <|
    o_icmp_ge (bX2_ends_274 mo R) <|
    o_al 0 <|
    o_mga mo 42 <|
    o_il 2 <|
    o_al 0 <|
    o_mga mo 15 <|
    o_al 0 <|
    o_il 2 <|
    o_mc mo 2 (pX2_lastNode mo) R <|
    o_mia mo 15 <|
    o_ic 6 <|
    o_icmp_ne (bX2_ends_266 mo R J232) <|
    o_ic 1 <|
    (bX2_ends_267 mo R J232)
def bX2_ends_230 (mo : Nat) (R : Ret MS) : Cont MS :=
    o_ic 0 <|
    o_is 2 <|
    (o_kill [1, 3, 4] (bX2_ends_232 mo R))
def bX2_ends_222 (mo : Nat) (R : Ret MS) : Cont MS :=
    o_al 0 <|
    o_mg mo 32 <|
    o_if_le (bX2_ends_230 mo R) <|
    o_return R
def bX2_ends_216 (mo : Nat) (R : Ret MS) (J188 : Cont MS) : Cont MS :=
    o_iinc 2 (-1) <|
    (o_kill [1, 3, 4] J188)
def bX2_ends_188 (mo : Nat) (R : Ret MS) : Cont MS :=
    fixC fun J188 =>
    o_il 2 <|
    o_if_lt (bX2_ends_222 mo R) <|
    o_al 0 <|
    o_mga mo 42 <|
    o_il 2 <|
    o_mia mo 42 <|
    o_if_ne (bX2_ends_216 mo R J188) <|
    o_al 0 <|
    o_ic 5 <|
    o_al 0 <|
    o_mga mo 14 <|
    o_ic 164 <|
    o_il 2 <|
    o_iadd <|
    o_mia mo 14 <|
    o_mc mo 3 (pX2_fault mo) R <|
    (bX2_ends_216 mo R J188)
def bX2_ends_179 (mo : Nat) (R : Ret MS) : Cont MS :=
    o_al 0 <|
    o_mga mo 9 <|
    o_ic 4 <|
    o_mia mo 9 <|
    o_ic 1 <|
    o_isub <|
    o_is 2 <|
    (o_kill [1, 3, 4] (bX2_ends_188 mo R))
def bX2_ends_176 (mo : Nat) (R : Ret MS) (J101 : Cont MS) : Cont MS :=
    (o_kill [2, 3, 4] J101)
def bX2_ends_169 (mo : Nat) (R : Ret MS) (J101 : Cont MS) (J109 : Cont MS) : Cont MS :=
    o_is 1 <|
    o_iinc 2 1 <|
    (o_kill [3, 4] J109)
def bX2_ends_168 (mo : Nat) (R : Ret MS) (J101 : Cont MS) (J109 : Cont MS) : Cont MS :=
    o_ic 0 <|
    (bX2_ends_169 mo R J101 J109)
def bX2_ends_164 (mo : Nat) (R : Ret MS) (J101 : Cont MS) (J109 : Cont MS) : Cont MS :=
    o_ic 1 <|
    (bX2_ends_169 mo R J101 J109)
def bX2_ends_160 (mo : Nat) (R : Ret MS) (J101 : Cont MS) (J109 : Cont MS) : Cont MS :=
    o_il 1 <|
    o_if_eq (bX2_ends_168 mo R J101 J109) <|
    (bX2_ends_164 mo R J101 J109)
def bX2_ends_109 (mo : Nat) (R : Ret MS) (J101 : Cont MS) : Cont MS :=
    fixC fun J109 =>
    o_il 2 <|
    o_al 0 <|
    o_mga mo 9 <|
    o_ic 4 <|
    o_mia mo 9 <|
    o_icmp_ge (bX2_ends_176 mo R J101) <|
    o_al 0 <|
    o_mga mo 42 <|
    o_il 2 <|
    o_mia mo 42 <|
    o_if_eq (bX2_ends_160 mo R J101 J109) <|
    o_al 0 <|
    o_al 0 <|
    o_mga mo 19 <|
    o_al 0 <|
    o_il 2 <|
    o_mc mo 2 (pX2_lastNode mo) R <|
    o_mia mo 19 <|
    o_mc mo 2 (pX2_mark mo) R <|
    o_al 0 <|
    o_al 0 <|
    o_mga mo 20 <|
    o_al 0 <|
    o_il 2 <|
    o_mc mo 2 (pX2_lastNode mo) R <|
    o_mia mo 20 <|
    o_mc mo 2 (pX2_mark mo) R <|
    o_ior <|
    o_if_ne (bX2_ends_164 mo R J101 J109) <|
    (bX2_ends_160 mo R J101 J109)
def bX2_ends_101 (mo : Nat) (R : Ret MS) : Cont MS :=
    fixC fun J101 =>
    o_il 1 <|
    o_if_eq (bX2_ends_179 mo R) <|
    o_ic 0 <|
    o_is 1 <|
    o_ic 0 <|
    o_is 2 <|
    (o_kill [3, 4] (bX2_ends_109 mo R J101))
def bX2_ends_99 (mo : Nat) (R : Ret MS) : Cont MS :=
    o_ic 1 <|
    o_is 1 <|
    (o_kill [2, 3, 4] (bX2_ends_101 mo R))
def bX2_ends_92 (mo : Nat) (R : Ret MS) (J68 : Cont MS) : Cont MS :=
    o_mbs mo 42 <|
    o_iinc 1 1 <|
    (o_kill [2, 3, 4] J68)
def bX2_ends_91 (mo : Nat) (R : Ret MS) (J68 : Cont MS) : Cont MS :=
    o_ic 0 <|
    (bX2_ends_92 mo R J68)
def bX2_ends_68 (mo : Nat) (R : Ret MS) : Cont MS :=
    fixC fun J68 =>
    o_il 1 <|
    o_al 0 <|
    o_mga mo 9 <|
    o_ic 4 <|
    o_mia mo 9 <|
    o_icmp_ge (bX2_ends_99 mo R) <|
    o_al 0 <|
    o_mga mo 42 <|
    o_il 1 <|
    o_il 1 <|
    o_if_ne (bX2_ends_91 mo R J68) <|
    o_ic 1 <|
    (bX2_ends_92 mo R J68)
def bX2_ends_66 (mo : Nat) (R : Ret MS) : Cont MS :=
    o_ic 0 <|
    o_is 1 <|
    (o_kill [2, 3, 4] (bX2_ends_68 mo R))
def bX2_ends_58 (mo : Nat) (R : Ret MS) : Cont MS :=
    o_al 0 <|
    o_mg mo 32 <|
    o_if_le (bX2_ends_66 mo R) <|
    o_return R
def bX2_ends_52 (mo : Nat) (R : Ret MS) (J2 : Cont MS) : Cont MS :=
    o_iinc 1 1 <|
    (o_kill [2, 3, 4] J2)
def bX2_ends_41 (mo : Nat) (R : Ret MS) (J2 : Cont MS) : Cont MS :=
    o_al 0 <|
    o_ic 4 <|
    o_al 0 <|
    o_mga mo 39 <|
    o_il 1 <|
    o_mia mo 39 <|
    o_mc mo 3 (pX2_fault mo) R <|
    (bX2_ends_52 mo R J2)
def bX2_ends_2 (mo : Nat) (R : Ret MS) : Cont MS :=
    fixC fun J2 =>
    o_il 1 <|
    o_al 0 <|
    o_mg mo 41 <|
    o_icmp_ge (bX2_ends_58 mo R) <|
    o_al 0 <|
    o_mg mo 32 <|
    o_if_ne (bX2_ends_58 mo R) <|
    o_al 0 <|
    o_mga mo 40 <|
    o_il 1 <|
    o_mia mo 40 <|
    o_if_eq (bX2_ends_41 mo R J2) <|
    o_al 0 <|
    o_mga mo 40 <|
    o_il 1 <|
    o_mia mo 40 <|
    o_al 0 <|
    o_mga mo 9 <|
    o_ic 4 <|
    o_mia mo 9 <|
    o_icmp_lt (bX2_ends_52 mo R J2) <|
    (bX2_ends_41 mo R J2)
def bX2_ends_0 (mo : Nat) (R : Ret MS) : Cont MS :=
    o_ic 0 <|
    o_is 1 <|
    (o_kill [2, 3, 4] (bX2_ends_2 mo R))
def pX2_ends (mo : Nat) : PT MS := fun as σ Q => (lg_sl as).length ≤ 5 ∧ bX2_ends_0 mo Q (entP 5 as) [] σ
theorem nX2_ends : parN yX2_ends 0 := by unfold parN; decide +kernel
set_option maxHeartbeats 4000000 in
theorem eX2_ends (g : GM) : CT (wM g) yX2_ends (Cond.code yX2_ends cX2_ends 5 none) 1 22 (pX2_ends g.1) := by
  refine CT.of (wM_ok g) (cc := cX2_ends) (nL := 5) (ret := none) (ht := []) (by decide +kernel) (Or.inl ⟨rfl, rfl⟩) (B := bX2_ends_0 g.1) (fun R E X hE => ?_)
  have h432 : E (bX2_ends_432 g.1 R) 432 := by
    unfold bX2_ends_432
    exact si_return (pc := 432) hE dX2_ends_432
  have h426 : ∀ (J397 : Cont MS) (hJ397 : E J397 397), E (bX2_ends_426 g.1 R J397) 426 := by
    intro J397 hJ397
    unfold bX2_ends_426
    refine si_iinc (pc := 426) hE dX2_ends_426 (by decide) (by decide) ?_
    exact si_goto (pc := 429) hE dX2_ends_429 (by decide) (si_kill hE hJ397)
  have h397 : E (bX2_ends_397 g.1 R) 397 := by
    unfold bX2_ends_397
    refine si_fix hE (fun J397 hJ397 => ?_)
    refine si_iload_n (pc := 397) hE dX2_ends_397 rfl ?_
    refine si_if_lt (pc := 398) hE dX2_ends_398 (by decide) h432 ?_
    refine si_aload_n (pc := 401) hE dX2_ends_401 rfl ?_
    refine si_mga (pc := 402) (k := 42) hE rfl dX2_ends_402 q1701 (by decide) rfl (fun _ => rfl) ?_
    refine si_iload_n (pc := 405) hE dX2_ends_405 rfl ?_
    refine si_mza (pc := 406) (k := 42) hE dX2_ends_406 (by decide) rfl ?_
    refine si_if_ne (pc := 407) hE dX2_ends_407 (by decide) (h426 J397 hJ397) ?_
    refine si_aload_n (pc := 410) hE dX2_ends_410 rfl ?_
    refine si_bipush (pc := 411) hE dX2_ends_411 (by decide) ?_
    refine si_aload_n (pc := 413) hE dX2_ends_413 rfl ?_
    refine si_mga (pc := 414) (k := 14) hE rfl dX2_ends_414 q1673 (by decide) rfl (fun _ => rfl) ?_
    refine si_sipush (pc := 417) hE dX2_ends_417 (by decide) ?_
    refine si_iload_n (pc := 420) hE dX2_ends_420 rfl ?_
    refine si_iadd (pc := 421) hE dX2_ends_421 ?_
    refine si_mia (pc := 422) (k := 14) hE dX2_ends_422 (by decide) rfl ?_
    refine si_mc (pc := 423) (n := 2) hE rfl dX2_ends_423 (eX2_fault g) rfl q1981 q1983 qs81 q1984 q134 nX2_fault (by decide) (by decide) ?_
    exact (h426 J397 hJ397)
  have h388 : E (bX2_ends_388 g.1 R) 388 := by
    unfold bX2_ends_388
    refine si_aload_n (pc := 388) hE dX2_ends_388 rfl ?_
    refine si_mga (pc := 389) (k := 9) hE rfl dX2_ends_389 q1668 (by decide) rfl (fun _ => rfl) ?_
    refine si_iconst (pc := 392) hE dX2_ends_392 (by decide) ?_
    refine si_mia (pc := 393) (k := 9) hE dX2_ends_393 (by decide) rfl ?_
    refine si_iconst (pc := 394) hE dX2_ends_394 (by decide) ?_
    refine si_isub (pc := 395) hE dX2_ends_395 ?_
    refine si_istore_n (pc := 396) hE dX2_ends_396 rfl (by decide) ?_
    exact (si_kill hE h397)
  have h385 : ∀ (J276 : Cont MS) (hJ276 : E J276 276), E (bX2_ends_385 g.1 R J276) 385 := by
    intro J276 hJ276
    unfold bX2_ends_385
    exact si_goto (pc := 385) hE dX2_ends_385 (by decide) (si_kill hE hJ276)
  have h379 : ∀ (J276 : Cont MS) (hJ276 : E J276 276) (J284 : Cont MS) (hJ284 : E J284 284), E (bX2_ends_379 g.1 R J276 J284) 379 := by
    intro J276 hJ276 J284 hJ284
    unfold bX2_ends_379
    refine si_iinc (pc := 379) hE dX2_ends_379 (by decide) (by decide) ?_
    exact si_goto (pc := 382) hE dX2_ends_382 (by decide) (si_kill hE hJ284)
  have h370 : ∀ (J276 : Cont MS) (hJ276 : E J276 276) (J284 : Cont MS) (hJ284 : E J284 284), E (bX2_ends_370 g.1 R J276 J284) 370 := by
    intro J276 hJ276 J284 hJ284
    unfold bX2_ends_370
    refine si_aload_n (pc := 370) hE dX2_ends_370 rfl ?_
    refine si_mga (pc := 371) (k := 42) hE rfl dX2_ends_371 q1701 (by decide) rfl (fun _ => rfl) ?_
    refine si_iload_n (pc := 374) hE dX2_ends_374 rfl ?_
    refine si_iconst (pc := 375) hE dX2_ends_375 (by decide) ?_
    refine si_mbs (pc := 376) (k := 42) hE dX2_ends_376 (by decide) rfl ?_
    refine si_iconst (pc := 377) hE dX2_ends_377 (by decide) ?_
    refine si_istore_n (pc := 378) hE dX2_ends_378 rfl (by decide) ?_
    exact (h379 J276 hJ276 J284 hJ284)
  have h351 : ∀ (J276 : Cont MS) (hJ276 : E J276 276) (J284 : Cont MS) (hJ284 : E J284 284), E (bX2_ends_351 g.1 R J276 J284) 351 := by
    intro J276 hJ276 J284 hJ284
    unfold bX2_ends_351
    refine si_istore (pc := 351) hE dX2_ends_351 (by decide) ?_
    refine si_iload (pc := 353) hE dX2_ends_353 ?_
    refine si_if_eq (pc := 355) hE dX2_ends_355 (by decide) (h379 J276 hJ276 J284 hJ284) ?_
    refine si_aload_n (pc := 358) hE dX2_ends_358 rfl ?_
    refine si_mga (pc := 359) (k := 42) hE rfl dX2_ends_359 q1701 (by decide) rfl (fun _ => rfl) ?_
    refine si_iload_n (pc := 362) hE dX2_ends_362 rfl ?_
    refine si_mza (pc := 363) (k := 42) hE dX2_ends_363 (by decide) rfl ?_
    refine si_if_eq (pc := 364) hE dX2_ends_364 (by decide) (h370 J276 hJ276 J284 hJ284) ?_
    exact si_goto (pc := 367) hE dX2_ends_367 (by decide) (h379 J276 hJ276 J284 hJ284)
  have h350 : ∀ (J276 : Cont MS) (hJ276 : E J276 276) (J284 : Cont MS) (hJ284 : E J284 284), E (bX2_ends_350 g.1 R J276 J284) 350 := by
    intro J276 hJ276 J284 hJ284
    unfold bX2_ends_350
    refine si_iconst (pc := 350) hE dX2_ends_350 (by decide) ?_
    exact (h351 J276 hJ276 J284 hJ284)
  have h346 : ∀ (J276 : Cont MS) (hJ276 : E J276 276) (J284 : Cont MS) (hJ284 : E J284 284), E (bX2_ends_346 g.1 R J276 J284) 346 := by
    intro J276 hJ276 J284 hJ284
    unfold bX2_ends_346
    refine si_iconst (pc := 346) hE dX2_ends_346 (by decide) ?_
    exact si_goto (pc := 347) hE dX2_ends_347 (by decide) (h351 J276 hJ276 J284 hJ284)
  have h323 : ∀ (J276 : Cont MS) (hJ276 : E J276 276) (J284 : Cont MS) (hJ284 : E J284 284), E (bX2_ends_323 g.1 R J276 J284) 323 := by
    intro J276 hJ276 J284 hJ284
    unfold bX2_ends_323
    refine si_aload_n (pc := 323) hE dX2_ends_323 rfl ?_
    refine si_mga (pc := 324) (k := 20) hE rfl dX2_ends_324 q1679 (by decide) rfl (fun _ => rfl) ?_
    refine si_iload_n (pc := 327) hE dX2_ends_327 rfl ?_
    refine si_mia (pc := 328) (k := 20) hE dX2_ends_328 (by decide) rfl ?_
    refine si_if_lt (pc := 329) hE dX2_ends_329 (by decide) (h350 J276 hJ276 J284 hJ284) ?_
    refine si_aload_n (pc := 332) hE dX2_ends_332 rfl ?_
    refine si_mga (pc := 333) (k := 42) hE rfl dX2_ends_333 q1701 (by decide) rfl (fun _ => rfl) ?_
    refine si_aload_n (pc := 336) hE dX2_ends_336 rfl ?_
    refine si_mga (pc := 337) (k := 20) hE rfl dX2_ends_337 q1679 (by decide) rfl (fun _ => rfl) ?_
    refine si_iload_n (pc := 340) hE dX2_ends_340 rfl ?_
    refine si_mia (pc := 341) (k := 20) hE dX2_ends_341 (by decide) rfl ?_
    refine si_mza (pc := 342) (k := 42) hE dX2_ends_342 (by decide) rfl ?_
    refine si_if_eq (pc := 343) hE dX2_ends_343 (by decide) (h350 J276 hJ276 J284 hJ284) ?_
    exact (h346 J276 hJ276 J284 hJ284)
  have h284 : ∀ (J276 : Cont MS) (hJ276 : E J276 276), E (bX2_ends_284 g.1 R J276) 284 := by
    intro J276 hJ276
    unfold bX2_ends_284
    refine si_fix hE (fun J284 hJ284 => ?_)
    refine si_iload_n (pc := 284) hE dX2_ends_284 rfl ?_
    refine si_aload_n (pc := 285) hE dX2_ends_285 rfl ?_
    refine si_mga (pc := 286) (k := 9) hE rfl dX2_ends_286 q1668 (by decide) rfl (fun _ => rfl) ?_
    refine si_iconst (pc := 289) hE dX2_ends_289 (by decide) ?_
    refine si_mia (pc := 290) (k := 9) hE dX2_ends_290 (by decide) rfl ?_
    refine si_icmp_ge (pc := 291) hE dX2_ends_291 (by decide) (h385 J276 hJ276) ?_
    refine si_aload_n (pc := 294) hE dX2_ends_294 rfl ?_
    refine si_iload_n (pc := 295) hE dX2_ends_295 rfl ?_
    refine si_mc (pc := 296) (n := 1) hE rfl dX2_ends_296 (eX2_lastNode g) rfl q1985 q1987 qs82 q1988 q134 nX2_lastNode (by decide) (by decide) ?_
    refine si_istore_n (pc := 299) hE dX2_ends_299 rfl (by decide) ?_
    refine si_aload_n (pc := 300) hE dX2_ends_300 rfl ?_
    refine si_mga (pc := 301) (k := 19) hE rfl dX2_ends_301 q1678 (by decide) rfl (fun _ => rfl) ?_
    refine si_iload_n (pc := 304) hE dX2_ends_304 rfl ?_
    refine si_mia (pc := 305) (k := 19) hE dX2_ends_305 (by decide) rfl ?_
    refine si_if_lt (pc := 306) hE dX2_ends_306 (by decide) (h323 J276 hJ276 J284 hJ284) ?_
    refine si_aload_n (pc := 309) hE dX2_ends_309 rfl ?_
    refine si_mga (pc := 310) (k := 42) hE rfl dX2_ends_310 q1701 (by decide) rfl (fun _ => rfl) ?_
    refine si_aload_n (pc := 313) hE dX2_ends_313 rfl ?_
    refine si_mga (pc := 314) (k := 19) hE rfl dX2_ends_314 q1678 (by decide) rfl (fun _ => rfl) ?_
    refine si_iload_n (pc := 317) hE dX2_ends_317 rfl ?_
    refine si_mia (pc := 318) (k := 19) hE dX2_ends_318 (by decide) rfl ?_
    refine si_mza (pc := 319) (k := 42) hE dX2_ends_319 (by decide) rfl ?_
    refine si_if_ne (pc := 320) hE dX2_ends_320 (by decide) (h346 J276 hJ276 J284 hJ284) ?_
    exact (h323 J276 hJ276 J284 hJ284)
  have h276 : E (bX2_ends_276 g.1 R) 276 := by
    unfold bX2_ends_276
    refine si_fix hE (fun J276 hJ276 => ?_)
    refine si_iload_n (pc := 276) hE dX2_ends_276 rfl ?_
    refine si_if_eq (pc := 277) hE dX2_ends_277 (by decide) h388 ?_
    refine si_iconst (pc := 280) hE dX2_ends_280 (by decide) ?_
    refine si_istore_n (pc := 281) hE dX2_ends_281 rfl (by decide) ?_
    refine si_iconst (pc := 282) hE dX2_ends_282 (by decide) ?_
    refine si_istore_n (pc := 283) hE dX2_ends_283 rfl (by decide) ?_
    exact (si_kill hE (h284 J276 hJ276))
  have h274 : E (bX2_ends_274 g.1 R) 274 := by
    unfold bX2_ends_274
    refine si_iconst (pc := 274) hE dX2_ends_274 (by decide) ?_
    refine si_istore_n (pc := 275) hE dX2_ends_275 rfl (by decide) ?_
    exact (si_kill hE h276)
  have h267 : ∀ (J232 : Cont MS) (hJ232 : E J232 232), E (bX2_ends_267 g.1 R J232) 267 := by
    intro J232 hJ232
    unfold bX2_ends_267
    refine si_mbs (pc := 267) (k := 42) hE dX2_ends_267 (by decide) rfl ?_
    refine si_iinc (pc := 268) hE dX2_ends_268 (by decide) (by decide) ?_
    exact si_goto (pc := 271) hE dX2_ends_271 (by decide) (si_kill hE hJ232)
  have h266 : ∀ (J232 : Cont MS) (hJ232 : E J232 232), E (bX2_ends_266 g.1 R J232) 266 := by
    intro J232 hJ232
    unfold bX2_ends_266
    refine si_iconst (pc := 266) hE dX2_ends_266 (by decide) ?_
    exact (h267 J232 hJ232)
  have h232 : E (bX2_ends_232 g.1 R) 232 := by
    unfold bX2_ends_232
    refine si_fix hE (fun J232 hJ232 => ?_)
    refine si_iload_n (pc := 232) hE dX2_ends_232 rfl ?_
    refine si_aload_n (pc := 233) hE dX2_ends_233 rfl ?_
    refine si_mga (pc := 234) (k := 9) hE rfl dX2_ends_234 q1668 (by decide) rfl (fun _ => rfl) ?_
    refine si_iconst (pc := 237) hE dX2_ends_237 (by decide) ?_
    refine si_mia (pc := 238) (k := 9) hE dX2_ends_238 (by decide) rfl ?_
    refine si_icmp_ge (pc := 239) hE dX2_ends_239 (by decide) h274 ?_
    refine si_aload_n (pc := 242) hE dX2_ends_242 rfl ?_
    refine si_mga (pc := 243) (k := 42) hE rfl dX2_ends_243 q1701 (by decide) rfl (fun _ => rfl) ?_
    refine si_iload_n (pc := 246) hE dX2_ends_246 rfl ?_
    refine si_aload_n (pc := 247) hE dX2_ends_247 rfl ?_
    refine si_mga (pc := 248) (k := 15) hE rfl dX2_ends_248 q1674 (by decide) rfl (fun _ => rfl) ?_
    refine si_aload_n (pc := 251) hE dX2_ends_251 rfl ?_
    refine si_iload_n (pc := 252) hE dX2_ends_252 rfl ?_
    refine si_mc (pc := 253) (n := 1) hE rfl dX2_ends_253 (eX2_lastNode g) rfl q1985 q1987 qs82 q1988 q134 nX2_lastNode (by decide) (by decide) ?_
    refine si_mia (pc := 256) (k := 15) hE dX2_ends_256 (by decide) rfl ?_
    refine si_bipush (pc := 257) hE dX2_ends_257 (by decide) ?_
    refine si_icmp_ne (pc := 259) hE dX2_ends_259 (by decide) (h266 J232 hJ232) ?_
    refine si_iconst (pc := 262) hE dX2_ends_262 (by decide) ?_
    exact si_goto (pc := 263) hE dX2_ends_263 (by decide) (h267 J232 hJ232)
  have h230 : E (bX2_ends_230 g.1 R) 230 := by
    unfold bX2_ends_230
    refine si_iconst (pc := 230) hE dX2_ends_230 (by decide) ?_
    refine si_istore_n (pc := 231) hE dX2_ends_231 rfl (by decide) ?_
    exact (si_kill hE h232)
  have h222 : E (bX2_ends_222 g.1 R) 222 := by
    unfold bX2_ends_222
    refine si_aload_n (pc := 222) hE dX2_ends_222 rfl ?_
    refine si_mg (pc := 223) (k := 32) hE rfl dX2_ends_223 q1691 (by decide) rfl (fun _ => rfl) ?_
    refine si_if_le (pc := 226) hE dX2_ends_226 (by decide) h230 ?_
    exact si_return (pc := 229) hE dX2_ends_229
  have h216 : ∀ (J188 : Cont MS) (hJ188 : E J188 188), E (bX2_ends_216 g.1 R J188) 216 := by
    intro J188 hJ188
    unfold bX2_ends_216
    refine si_iinc (pc := 216) hE dX2_ends_216 (by decide) (by decide) ?_
    exact si_goto (pc := 219) hE dX2_ends_219 (by decide) (si_kill hE hJ188)
  have h188 : E (bX2_ends_188 g.1 R) 188 := by
    unfold bX2_ends_188
    refine si_fix hE (fun J188 hJ188 => ?_)
    refine si_iload_n (pc := 188) hE dX2_ends_188 rfl ?_
    refine si_if_lt (pc := 189) hE dX2_ends_189 (by decide) h222 ?_
    refine si_aload_n (pc := 192) hE dX2_ends_192 rfl ?_
    refine si_mga (pc := 193) (k := 42) hE rfl dX2_ends_193 q1701 (by decide) rfl (fun _ => rfl) ?_
    refine si_iload_n (pc := 196) hE dX2_ends_196 rfl ?_
    refine si_mza (pc := 197) (k := 42) hE dX2_ends_197 (by decide) rfl ?_
    refine si_if_ne (pc := 198) hE dX2_ends_198 (by decide) (h216 J188 hJ188) ?_
    refine si_aload_n (pc := 201) hE dX2_ends_201 rfl ?_
    refine si_iconst (pc := 202) hE dX2_ends_202 (by decide) ?_
    refine si_aload_n (pc := 203) hE dX2_ends_203 rfl ?_
    refine si_mga (pc := 204) (k := 14) hE rfl dX2_ends_204 q1673 (by decide) rfl (fun _ => rfl) ?_
    refine si_sipush (pc := 207) hE dX2_ends_207 (by decide) ?_
    refine si_iload_n (pc := 210) hE dX2_ends_210 rfl ?_
    refine si_iadd (pc := 211) hE dX2_ends_211 ?_
    refine si_mia (pc := 212) (k := 14) hE dX2_ends_212 (by decide) rfl ?_
    refine si_mc (pc := 213) (n := 2) hE rfl dX2_ends_213 (eX2_fault g) rfl q1981 q1983 qs81 q1984 q134 nX2_fault (by decide) (by decide) ?_
    exact (h216 J188 hJ188)
  have h179 : E (bX2_ends_179 g.1 R) 179 := by
    unfold bX2_ends_179
    refine si_aload_n (pc := 179) hE dX2_ends_179 rfl ?_
    refine si_mga (pc := 180) (k := 9) hE rfl dX2_ends_180 q1668 (by decide) rfl (fun _ => rfl) ?_
    refine si_iconst (pc := 183) hE dX2_ends_183 (by decide) ?_
    refine si_mia (pc := 184) (k := 9) hE dX2_ends_184 (by decide) rfl ?_
    refine si_iconst (pc := 185) hE dX2_ends_185 (by decide) ?_
    refine si_isub (pc := 186) hE dX2_ends_186 ?_
    refine si_istore_n (pc := 187) hE dX2_ends_187 rfl (by decide) ?_
    exact (si_kill hE h188)
  have h176 : ∀ (J101 : Cont MS) (hJ101 : E J101 101), E (bX2_ends_176 g.1 R J101) 176 := by
    intro J101 hJ101
    unfold bX2_ends_176
    exact si_goto (pc := 176) hE dX2_ends_176 (by decide) (si_kill hE hJ101)
  have h169 : ∀ (J101 : Cont MS) (hJ101 : E J101 101) (J109 : Cont MS) (hJ109 : E J109 109), E (bX2_ends_169 g.1 R J101 J109) 169 := by
    intro J101 hJ101 J109 hJ109
    unfold bX2_ends_169
    refine si_istore_n (pc := 169) hE dX2_ends_169 rfl (by decide) ?_
    refine si_iinc (pc := 170) hE dX2_ends_170 (by decide) (by decide) ?_
    exact si_goto (pc := 173) hE dX2_ends_173 (by decide) (si_kill hE hJ109)
  have h168 : ∀ (J101 : Cont MS) (hJ101 : E J101 101) (J109 : Cont MS) (hJ109 : E J109 109), E (bX2_ends_168 g.1 R J101 J109) 168 := by
    intro J101 hJ101 J109 hJ109
    unfold bX2_ends_168
    refine si_iconst (pc := 168) hE dX2_ends_168 (by decide) ?_
    exact (h169 J101 hJ101 J109 hJ109)
  have h164 : ∀ (J101 : Cont MS) (hJ101 : E J101 101) (J109 : Cont MS) (hJ109 : E J109 109), E (bX2_ends_164 g.1 R J101 J109) 164 := by
    intro J101 hJ101 J109 hJ109
    unfold bX2_ends_164
    refine si_iconst (pc := 164) hE dX2_ends_164 (by decide) ?_
    exact si_goto (pc := 165) hE dX2_ends_165 (by decide) (h169 J101 hJ101 J109 hJ109)
  have h160 : ∀ (J101 : Cont MS) (hJ101 : E J101 101) (J109 : Cont MS) (hJ109 : E J109 109), E (bX2_ends_160 g.1 R J101 J109) 160 := by
    intro J101 hJ101 J109 hJ109
    unfold bX2_ends_160
    refine si_iload_n (pc := 160) hE dX2_ends_160 rfl ?_
    refine si_if_eq (pc := 161) hE dX2_ends_161 (by decide) (h168 J101 hJ101 J109 hJ109) ?_
    exact (h164 J101 hJ101 J109 hJ109)
  have h109 : ∀ (J101 : Cont MS) (hJ101 : E J101 101), E (bX2_ends_109 g.1 R J101) 109 := by
    intro J101 hJ101
    unfold bX2_ends_109
    refine si_fix hE (fun J109 hJ109 => ?_)
    refine si_iload_n (pc := 109) hE dX2_ends_109 rfl ?_
    refine si_aload_n (pc := 110) hE dX2_ends_110 rfl ?_
    refine si_mga (pc := 111) (k := 9) hE rfl dX2_ends_111 q1668 (by decide) rfl (fun _ => rfl) ?_
    refine si_iconst (pc := 114) hE dX2_ends_114 (by decide) ?_
    refine si_mia (pc := 115) (k := 9) hE dX2_ends_115 (by decide) rfl ?_
    refine si_icmp_ge (pc := 116) hE dX2_ends_116 (by decide) (h176 J101 hJ101) ?_
    refine si_aload_n (pc := 119) hE dX2_ends_119 rfl ?_
    refine si_mga (pc := 120) (k := 42) hE rfl dX2_ends_120 q1701 (by decide) rfl (fun _ => rfl) ?_
    refine si_iload_n (pc := 123) hE dX2_ends_123 rfl ?_
    refine si_mza (pc := 124) (k := 42) hE dX2_ends_124 (by decide) rfl ?_
    refine si_if_eq (pc := 125) hE dX2_ends_125 (by decide) (h160 J101 hJ101 J109 hJ109) ?_
    refine si_aload_n (pc := 128) hE dX2_ends_128 rfl ?_
    refine si_aload_n (pc := 129) hE dX2_ends_129 rfl ?_
    refine si_mga (pc := 130) (k := 19) hE rfl dX2_ends_130 q1678 (by decide) rfl (fun _ => rfl) ?_
    refine si_aload_n (pc := 133) hE dX2_ends_133 rfl ?_
    refine si_iload_n (pc := 134) hE dX2_ends_134 rfl ?_
    refine si_mc (pc := 135) (n := 1) hE rfl dX2_ends_135 (eX2_lastNode g) rfl q1985 q1987 qs82 q1988 q134 nX2_lastNode (by decide) (by decide) ?_
    refine si_mia (pc := 138) (k := 19) hE dX2_ends_138 (by decide) rfl ?_
    refine si_mc (pc := 139) (n := 1) hE rfl dX2_ends_139 (eX2_mark g) rfl q1989 q1991 qs83 q1992 q134 nX2_mark (by decide) (by decide) ?_
    refine si_aload_n (pc := 142) hE dX2_ends_142 rfl ?_
    refine si_aload_n (pc := 143) hE dX2_ends_143 rfl ?_
    refine si_mga (pc := 144) (k := 20) hE rfl dX2_ends_144 q1679 (by decide) rfl (fun _ => rfl) ?_
    refine si_aload_n (pc := 147) hE dX2_ends_147 rfl ?_
    refine si_iload_n (pc := 148) hE dX2_ends_148 rfl ?_
    refine si_mc (pc := 149) (n := 1) hE rfl dX2_ends_149 (eX2_lastNode g) rfl q1985 q1987 qs82 q1988 q134 nX2_lastNode (by decide) (by decide) ?_
    refine si_mia (pc := 152) (k := 20) hE dX2_ends_152 (by decide) rfl ?_
    refine si_mc (pc := 153) (n := 1) hE rfl dX2_ends_153 (eX2_mark g) rfl q1989 q1991 qs83 q1992 q134 nX2_mark (by decide) (by decide) ?_
    refine si_ior (pc := 156) hE dX2_ends_156 ?_
    refine si_if_ne (pc := 157) hE dX2_ends_157 (by decide) (h164 J101 hJ101 J109 hJ109) ?_
    exact (h160 J101 hJ101 J109 hJ109)
  have h101 : E (bX2_ends_101 g.1 R) 101 := by
    unfold bX2_ends_101
    refine si_fix hE (fun J101 hJ101 => ?_)
    refine si_iload_n (pc := 101) hE dX2_ends_101 rfl ?_
    refine si_if_eq (pc := 102) hE dX2_ends_102 (by decide) h179 ?_
    refine si_iconst (pc := 105) hE dX2_ends_105 (by decide) ?_
    refine si_istore_n (pc := 106) hE dX2_ends_106 rfl (by decide) ?_
    refine si_iconst (pc := 107) hE dX2_ends_107 (by decide) ?_
    refine si_istore_n (pc := 108) hE dX2_ends_108 rfl (by decide) ?_
    exact (si_kill hE (h109 J101 hJ101))
  have h99 : E (bX2_ends_99 g.1 R) 99 := by
    unfold bX2_ends_99
    refine si_iconst (pc := 99) hE dX2_ends_99 (by decide) ?_
    refine si_istore_n (pc := 100) hE dX2_ends_100 rfl (by decide) ?_
    exact (si_kill hE h101)
  have h92 : ∀ (J68 : Cont MS) (hJ68 : E J68 68), E (bX2_ends_92 g.1 R J68) 92 := by
    intro J68 hJ68
    unfold bX2_ends_92
    refine si_mbs (pc := 92) (k := 42) hE dX2_ends_92 (by decide) rfl ?_
    refine si_iinc (pc := 93) hE dX2_ends_93 (by decide) (by decide) ?_
    exact si_goto (pc := 96) hE dX2_ends_96 (by decide) (si_kill hE hJ68)
  have h91 : ∀ (J68 : Cont MS) (hJ68 : E J68 68), E (bX2_ends_91 g.1 R J68) 91 := by
    intro J68 hJ68
    unfold bX2_ends_91
    refine si_iconst (pc := 91) hE dX2_ends_91 (by decide) ?_
    exact (h92 J68 hJ68)
  have h68 : E (bX2_ends_68 g.1 R) 68 := by
    unfold bX2_ends_68
    refine si_fix hE (fun J68 hJ68 => ?_)
    refine si_iload_n (pc := 68) hE dX2_ends_68 rfl ?_
    refine si_aload_n (pc := 69) hE dX2_ends_69 rfl ?_
    refine si_mga (pc := 70) (k := 9) hE rfl dX2_ends_70 q1668 (by decide) rfl (fun _ => rfl) ?_
    refine si_iconst (pc := 73) hE dX2_ends_73 (by decide) ?_
    refine si_mia (pc := 74) (k := 9) hE dX2_ends_74 (by decide) rfl ?_
    refine si_icmp_ge (pc := 75) hE dX2_ends_75 (by decide) h99 ?_
    refine si_aload_n (pc := 78) hE dX2_ends_78 rfl ?_
    refine si_mga (pc := 79) (k := 42) hE rfl dX2_ends_79 q1701 (by decide) rfl (fun _ => rfl) ?_
    refine si_iload_n (pc := 82) hE dX2_ends_82 rfl ?_
    refine si_iload_n (pc := 83) hE dX2_ends_83 rfl ?_
    refine si_if_ne (pc := 84) hE dX2_ends_84 (by decide) (h91 J68 hJ68) ?_
    refine si_iconst (pc := 87) hE dX2_ends_87 (by decide) ?_
    exact si_goto (pc := 88) hE dX2_ends_88 (by decide) (h92 J68 hJ68)
  have h66 : E (bX2_ends_66 g.1 R) 66 := by
    unfold bX2_ends_66
    refine si_iconst (pc := 66) hE dX2_ends_66 (by decide) ?_
    refine si_istore_n (pc := 67) hE dX2_ends_67 rfl (by decide) ?_
    exact (si_kill hE h68)
  have h58 : E (bX2_ends_58 g.1 R) 58 := by
    unfold bX2_ends_58
    refine si_aload_n (pc := 58) hE dX2_ends_58 rfl ?_
    refine si_mg (pc := 59) (k := 32) hE rfl dX2_ends_59 q1691 (by decide) rfl (fun _ => rfl) ?_
    refine si_if_le (pc := 62) hE dX2_ends_62 (by decide) h66 ?_
    exact si_return (pc := 65) hE dX2_ends_65
  have h52 : ∀ (J2 : Cont MS) (hJ2 : E J2 2), E (bX2_ends_52 g.1 R J2) 52 := by
    intro J2 hJ2
    unfold bX2_ends_52
    refine si_iinc (pc := 52) hE dX2_ends_52 (by decide) (by decide) ?_
    exact si_goto (pc := 55) hE dX2_ends_55 (by decide) (si_kill hE hJ2)
  have h41 : ∀ (J2 : Cont MS) (hJ2 : E J2 2), E (bX2_ends_41 g.1 R J2) 41 := by
    intro J2 hJ2
    unfold bX2_ends_41
    refine si_aload_n (pc := 41) hE dX2_ends_41 rfl ?_
    refine si_iconst (pc := 42) hE dX2_ends_42 (by decide) ?_
    refine si_aload_n (pc := 43) hE dX2_ends_43 rfl ?_
    refine si_mga (pc := 44) (k := 39) hE rfl dX2_ends_44 q1698 (by decide) rfl (fun _ => rfl) ?_
    refine si_iload_n (pc := 47) hE dX2_ends_47 rfl ?_
    refine si_mia (pc := 48) (k := 39) hE dX2_ends_48 (by decide) rfl ?_
    refine si_mc (pc := 49) (n := 2) hE rfl dX2_ends_49 (eX2_fault g) rfl q1981 q1983 qs81 q1984 q134 nX2_fault (by decide) (by decide) ?_
    exact (h52 J2 hJ2)
  have h2 : E (bX2_ends_2 g.1 R) 2 := by
    unfold bX2_ends_2
    refine si_fix hE (fun J2 hJ2 => ?_)
    refine si_iload_n (pc := 2) hE dX2_ends_2 rfl ?_
    refine si_aload_n (pc := 3) hE dX2_ends_3 rfl ?_
    refine si_mg (pc := 4) (k := 41) hE rfl dX2_ends_4 q1700 (by decide) rfl (fun _ => rfl) ?_
    refine si_icmp_ge (pc := 7) hE dX2_ends_7 (by decide) h58 ?_
    refine si_aload_n (pc := 10) hE dX2_ends_10 rfl ?_
    refine si_mg (pc := 11) (k := 32) hE rfl dX2_ends_11 q1691 (by decide) rfl (fun _ => rfl) ?_
    refine si_if_ne (pc := 14) hE dX2_ends_14 (by decide) h58 ?_
    refine si_aload_n (pc := 17) hE dX2_ends_17 rfl ?_
    refine si_mga (pc := 18) (k := 40) hE rfl dX2_ends_18 q1699 (by decide) rfl (fun _ => rfl) ?_
    refine si_iload_n (pc := 21) hE dX2_ends_21 rfl ?_
    refine si_mia (pc := 22) (k := 40) hE dX2_ends_22 (by decide) rfl ?_
    refine si_if_eq (pc := 23) hE dX2_ends_23 (by decide) (h41 J2 hJ2) ?_
    refine si_aload_n (pc := 26) hE dX2_ends_26 rfl ?_
    refine si_mga (pc := 27) (k := 40) hE rfl dX2_ends_27 q1699 (by decide) rfl (fun _ => rfl) ?_
    refine si_iload_n (pc := 30) hE dX2_ends_30 rfl ?_
    refine si_mia (pc := 31) (k := 40) hE dX2_ends_31 (by decide) rfl ?_
    refine si_aload_n (pc := 32) hE dX2_ends_32 rfl ?_
    refine si_mga (pc := 33) (k := 9) hE rfl dX2_ends_33 q1668 (by decide) rfl (fun _ => rfl) ?_
    refine si_iconst (pc := 36) hE dX2_ends_36 (by decide) ?_
    refine si_mia (pc := 37) (k := 9) hE dX2_ends_37 (by decide) rfl ?_
    refine si_icmp_lt (pc := 38) hE dX2_ends_38 (by decide) (h52 J2 hJ2) ?_
    exact (h41 J2 hJ2)
  have h0 : E (bX2_ends_0 g.1 R) 0 := by
    unfold bX2_ends_0
    refine si_iconst (pc := 0) hE dX2_ends_0 (by decide) ?_
    refine si_istore_n (pc := 1) hE dX2_ends_1 rfl (by decide) ?_
    exact (si_kill hE h2)
  exact h0
