/-! THE COMPONENT's METHODS, decompiled by program (gen/cdecomp.py) -/
set_option maxRecDepth 100000
def bX0_home_10 (κ : Nat → Option Nat) (R : Ret AH) : Cont AH :=
    o_al 0 <|
    o_il 1 <|
    o_call 2 (hvc [(1, pX0_of κ)]) (fun _ a σ => R (.inr a) σ) <|
    o_gR 3 [4] <|
    o_call 1 (hvc [(19, pJ2_size κ)]) (fun _ a σ => R (.inr a) σ) <|
    o_is 2 <|
    o_al 0 <|
    o_il 1 <|
    o_call 2 (hvc [(1, pX0_of κ)]) (fun _ a σ => R (.inr a) σ) <|
    o_gR 3 [4] <|
    o_call 1 (hvc [(19, pJ2_clear κ)]) (fun _ a σ => R (.inr a) σ) <|
    o_il 2 <|
    o_ireturn R
def bX0_home_0 (κ : Nat → Option Nat) (R : Ret AH) : Cont AH :=
    o_al 0 <|
    o_il 1 <|
    o_call 2 (hvc [(1, pX0_of κ)]) (fun _ a σ => R (.inr a) σ) <|
    o_ifnonnull (bX0_home_10 κ R) <|
    o_ic (-1) <|
    o_ireturn R
def pX0_home (κ : Nat → Option Nat) : PT AH := fun as σ Q => (lg_sl as).length ≤ 3 ∧ bX0_home_0 κ Q (entP 3 as) [] σ
theorem nX0_home : parN yX0_home 1 := by unfold parN; decide +kernel
set_option maxHeartbeats 4000000 in
theorem eX0_home (g : GC) : CT (wC g) yX0_home (Cond.code yX0_home cX0_home 3 (some .int)) 2 43 (pX0_home g.2.1) := by
  refine CT.of (wC_ok g) (cc := cX0_home) (nL := 3) (ret := (some .int)) (ht := []) (by decide +kernel) (Or.inl ⟨rfl, rfl⟩) (B := bX0_home_0 g.2.1) (fun R E X hE => ?_)
  have h10 : E (bX0_home_10 g.2.1 R) 10 := by
    unfold bX0_home_10
    refine si_aload_n (pc := 10) hE dX0_home_10 rfl ?_
    refine si_iload_n (pc := 11) hE dX0_home_11 rfl ?_
    refine si_hv (pc := 12) (n := 1) hE dX0_home_12 ⟨cal_V (recvO cls0) (eX0_of g) (Or.inl ⟨rfl, rfl⟩) q1258 q132 q1255 q1257 qs32 ⟨by decide +kernel, by decide +kernel⟩ nX0_of (by decide) (by decide), trivial⟩ (si_out hE rfl) ?_
    refine si_gR (pc := 15) hE dX0_home_15 (Or.inr ⟨_, q302⟩) zfo_20 ?_
    refine si_hv (pc := 18) (n := 0) hE dX0_home_18 ⟨cal_V (recvO cls18) (eJ2_size g) (Or.inl ⟨rfl, rfl⟩) q501 q139 q1109 q499 q500 ⟨by decide +kernel, by decide +kernel⟩ nJ2_size (by decide) (by decide), trivial⟩ (si_out hE rfl) ?_
    refine si_istore_n (pc := 21) hE dX0_home_21 rfl (by decide) ?_
    refine si_aload_n (pc := 22) hE dX0_home_22 rfl ?_
    refine si_iload_n (pc := 23) hE dX0_home_23 rfl ?_
    refine si_hv (pc := 24) (n := 1) hE dX0_home_24 ⟨cal_V (recvO cls0) (eX0_of g) (Or.inl ⟨rfl, rfl⟩) q1258 q132 q1255 q1257 qs32 ⟨by decide +kernel, by decide +kernel⟩ nX0_of (by decide) (by decide), trivial⟩ (si_out hE rfl) ?_
    refine si_gR (pc := 27) hE dX0_home_27 (Or.inr ⟨_, q302⟩) zfo_20 ?_
    refine si_hv (pc := 30) (n := 0) hE dX0_home_30 ⟨cal_V (recvO cls18) (eJ2_clear g) (Or.inl ⟨rfl, rfl⟩) q1520 q139 q1517 q1518 q1519 ⟨by decide +kernel, by decide +kernel⟩ nJ2_clear (by decide) (by decide), trivial⟩ (si_out hE rfl) ?_
    refine si_iload_n (pc := 33) hE dX0_home_33 rfl ?_
    exact si_ireturn (pc := 34) hE dX0_home_34
  have h0 : E (bX0_home_0 g.2.1 R) 0 := by
    unfold bX0_home_0
    refine si_aload_n (pc := 0) hE dX0_home_0 rfl ?_
    refine si_iload_n (pc := 1) hE dX0_home_1 rfl ?_
    refine si_hv (pc := 2) (n := 1) hE dX0_home_2 ⟨cal_V (recvO cls0) (eX0_of g) (Or.inl ⟨rfl, rfl⟩) q1258 q132 q1255 q1257 qs32 ⟨by decide +kernel, by decide +kernel⟩ nX0_of (by decide) (by decide), trivial⟩ (si_out hE rfl) ?_
    refine si_ifnonnull (pc := 5) hE dX0_home_5 (by decide) h10 ?_
    refine si_iconst (pc := 8) hE dX0_home_8 (by decide) ?_
    exact si_ireturn (pc := 9) hE dX0_home_9
  exact h0
def bX4_worksAt_0 (κ : Nat → Option Nat) (R : Ret AH) : Cont AH :=
    o_al 0 <|
    o_il 1 <|
    o_il 2 <|
    o_call 3 (hvc [(4, pX4_setAt κ)]) (fun _ a σ => R (.inr a) σ) <|
    o_il 3 <|
    o_lshr <|
    o_lc 1 <|
    o_land <|
    o_l2i <|
    o_is 4 <|
    o_il 4 <|
    o_al 0 <|
    o_gR 6 [4] <|
    o_il 2 <|
    o_aG 101 <|
    o_al 0 <|
    o_il 1 <|
    o_il 2 <|
    o_call 3 (hvc [(4, pX4_takenAt κ)]) (fun _ a σ => R (.inr a) σ) <|
    o_lc (-1) <|
    o_lxor <|
    o_land <|
    o_il 3 <|
    o_lshr <|
    o_lc 1 <|
    o_land <|
    o_l2i <|
    o_iadd <|
    o_ireturn R
def pX4_worksAt (κ : Nat → Option Nat) : PT AH := fun as σ Q => (lg_sl as).length ≤ 5 ∧ bX4_worksAt_0 κ Q (entP 5 as) [] σ
theorem nX4_worksAt : parN yX4_worksAt 3 := by unfold parN; decide +kernel
set_option maxHeartbeats 4000000 in
theorem eX4_worksAt (g : GC) : CT (wC g) yX4_worksAt (Cond.code yX4_worksAt cX4_worksAt 5 (some .int)) 1 22 (pX4_worksAt g.2.1) := by
  refine CT.of (wC_ok g) (cc := cX4_worksAt) (nL := 5) (ret := (some .int)) (ht := []) (by decide +kernel) (Or.inl ⟨rfl, rfl⟩) (B := bX4_worksAt_0 g.2.1) (fun R E X hE => ?_)
  have h0 : E (bX4_worksAt_0 g.2.1 R) 0 := by
    unfold bX4_worksAt_0
    refine si_aload_n (pc := 0) hE dX4_worksAt_0 rfl ?_
    refine si_iload_n (pc := 1) hE dX4_worksAt_1 rfl ?_
    refine si_iload_n (pc := 2) hE dX4_worksAt_2 rfl ?_
    refine si_hv (pc := 3) (n := 2) hE dX4_worksAt_3 ⟨cal_V (recvO cls3) (eX4_setAt g) (Or.inl ⟨rfl, rfl⟩) q1350 q136 q1360 q1348 q1349 ⟨by decide +kernel, by decide +kernel⟩ nX4_setAt (by decide) (by decide), trivial⟩ (si_out hE rfl) ?_
    refine si_iload_n (pc := 6) hE dX4_worksAt_6 rfl ?_
    refine si_lshr (pc := 7) hE dX4_worksAt_7 ?_
    refine si_lconst (pc := 8) hE dX4_worksAt_8 (by decide) ?_
    refine si_land (pc := 9) hE dX4_worksAt_9 ?_
    refine si_l2i (pc := 10) hE dX4_worksAt_10 ?_
    refine si_istore (pc := 11) hE dX4_worksAt_11 (by decide) ?_
    refine si_iload (pc := 13) hE dX4_worksAt_13 ?_
    refine si_aload_n (pc := 15) hE dX4_worksAt_15 rfl ?_
    refine si_gR (pc := 16) hE dX4_worksAt_16 (Or.inl q308) zfo_59 ?_
    refine si_iload_n (pc := 19) hE dX4_worksAt_19 rfl ?_
    refine si_laload (pc := 20) hE dX4_worksAt_20 ?_
    refine si_aload_n (pc := 21) hE dX4_worksAt_21 rfl ?_
    refine si_iload_n (pc := 22) hE dX4_worksAt_22 rfl ?_
    refine si_iload_n (pc := 23) hE dX4_worksAt_23 rfl ?_
    refine si_hv (pc := 24) (n := 2) hE dX4_worksAt_24 ⟨cal_V (recvO cls3) (eX4_takenAt g) (Or.inl ⟨rfl, rfl⟩) q1354 q136 q1359 q1352 q1353 ⟨by decide +kernel, by decide +kernel⟩ nX4_takenAt (by decide) (by decide), trivial⟩ (si_out hE rfl) ?_
    refine si_ldc2 (pc := 27) hE dX4_worksAt_27 q1201 ?_
    refine si_lxor (pc := 30) hE dX4_worksAt_30 ?_
    refine si_land (pc := 31) hE dX4_worksAt_31 ?_
    refine si_iload_n (pc := 32) hE dX4_worksAt_32 rfl ?_
    refine si_lshr (pc := 33) hE dX4_worksAt_33 ?_
    refine si_lconst (pc := 34) hE dX4_worksAt_34 (by decide) ?_
    refine si_land (pc := 35) hE dX4_worksAt_35 ?_
    refine si_l2i (pc := 36) hE dX4_worksAt_36 ?_
    refine si_iadd (pc := 37) hE dX4_worksAt_37 ?_
    exact si_ireturn (pc := 38) hE dX4_worksAt_38
  exact h0
def bX4_between_67 (κ : Nat → Option Nat) (R : Ret AH) : Cont AH :=
    o_ireturn R
def bX4_between_66 (κ : Nat → Option Nat) (R : Ret AH) : Cont AH :=
    o_ic 0 <|
    (bX4_between_67 κ R)
def bX4_between_23 (κ : Nat → Option Nat) (R : Ret AH) : Cont AH :=
    o_al 0 <|
    o_il 1 <|
    o_call 2 (hvc [(4, pX4_end κ)]) (fun _ a σ => R (.inr a) σ) <|
    o_gR 2 [11, 12, 13] <|
    o_il 5 <|
    o_call 2 (hvc [(19, pJ2_get κ)]) (fun _ a σ => R (.inr a) σ) <|
    o_cast [7, 8, 9, 10, 11, 12, 13, 14] <|
    o_as 6 <|
    o_al 6 <|
    o_call 1 (hvc [(7, pX15_kind κ), (8, pX18_kind κ), (9, pX13_kind κ), (10, pX7_kind κ), (11, pX11_kind κ), (12, pX12_kind κ), (13, pX10_kind κ), (14, pX20_kind κ)]) (fun _ a σ => R (.inr a) σ) <|
    o_ic 7 <|
    o_icmp_ne (bX4_between_66 κ R) <|
    o_al 0 <|
    o_il 3 <|
    o_al 6 <|
    o_gI 0 [7, 8, 9, 10, 11, 12, 13, 14] <|
    o_il 4 <|
    o_call 4 (hvc [(4, pX4_worksAt κ)]) (fun _ a σ => R (.inr a) σ) <|
    (bX4_between_67 κ R)
def bX4_between_3 (κ : Nat → Option Nat) (R : Ret AH) : Cont AH :=
    fixC fun J3 =>
    o_al 0 <|
    o_il 1 <|
    o_call 2 (hvc [(4, pX4_end κ)]) (fun _ a σ => R (.inr a) σ) <|
    o_il 5 <|
    o_call 2 (hvc [(11, pX11_way κ), (12, pX12_way κ), (13, pX10_way κ)]) (fun _ a σ => R (.inr a) σ) <|
    o_il 2 <|
    o_icmp_eq (bX4_between_23 κ R) <|
    o_iinc 5 1 <|
    (o_kill [6] J3)
def bX4_between_0 (κ : Nat → Option Nat) (R : Ret AH) : Cont AH :=
    o_ic 0 <|
    o_is 5 <|
    (o_kill [6] (bX4_between_3 κ R))
def pX4_between (κ : Nat → Option Nat) : PT AH := fun as σ Q => (lg_sl as).length ≤ 7 ∧ bX4_between_0 κ Q (entP 7 as) [] σ
theorem nX4_between : parN yX4_between 4 := by unfold parN; decide +kernel
set_option maxHeartbeats 4000000 in
theorem eX4_between (g : GC) : CT (wC g) yX4_between (Cond.code yX4_between cX4_between 7 (some .int)) 4 85 (pX4_between g.2.1) := by
  refine CT.of (wC_ok g) (cc := cX4_between) (nL := 7) (ret := (some .int)) (ht := []) (by decide +kernel) (Or.inl ⟨rfl, rfl⟩) (B := bX4_between_0 g.2.1) (fun R E X hE => ?_)
  have h67 : E (bX4_between_67 g.2.1 R) 67 := by
    unfold bX4_between_67
    exact si_ireturn (pc := 67) hE dX4_between_67
  have h66 : E (bX4_between_66 g.2.1 R) 66 := by
    unfold bX4_between_66
    refine si_iconst (pc := 66) hE dX4_between_66 (by decide) ?_
    exact h67
  have h23 : E (bX4_between_23 g.2.1 R) 23 := by
    unfold bX4_between_23
    refine si_aload_n (pc := 23) hE dX4_between_23 rfl ?_
    refine si_iload_n (pc := 24) hE dX4_between_24 rfl ?_
    refine si_hv (pc := 25) (n := 1) hE dX4_between_25 ⟨cal_V (recvO cls3) (eX4_end g) (Or.inl ⟨rfl, rfl⟩) q997 q136 q1044 q995 q996 ⟨by decide +kernel, by decide +kernel⟩ nX4_end (by decide) (by decide), trivial⟩ (si_out hE rfl) ?_
    refine si_gR (pc := 28) hE dX4_between_28 (Or.inl q764) zfo_82 ?_
    refine si_iload (pc := 31) hE dX4_between_31 ?_
    refine si_hv (pc := 33) (n := 1) hE dX4_between_33 ⟨cal_V (recvO cls18) (eJ2_get g) (Or.inl ⟨rfl, rfl⟩) q980 q139 q998 q978 q979 ⟨by decide +kernel, by decide +kernel⟩ nJ2_get (by decide) (by decide), trivial⟩ (si_out hE rfl) ?_
    refine si_cast (pc := 36) hE dX4_between_36 q1029 zco_2 ?_
    refine si_astore (pc := 39) hE dX4_between_39 (by decide) ?_
    refine si_aload (pc := 41) hE dX4_between_41 ?_
    refine si_hv (pc := 43) (n := 0) hE dX4_between_43 ⟨cal_U (x := xm_12) (recvO cls6) (eX15_kind g) (Or.inl ⟨rfl, rfl⟩) q1289 q165 q1539 q1271 (Or.inl q1270) ⟨by decide +kernel, by decide +kernel⟩ q1287 q1288 xp_12 (by decide) (by decide), ⟨cal_U (x := xm_12) (recvO cls7) (eX18_kind g) (Or.inl ⟨rfl, rfl⟩) q1286 q168 q1539 q1271 (Or.inl q1270) ⟨by decide +kernel, by decide +kernel⟩ q1284 q1285 xp_12 (by decide) (by decide), ⟨cal_U (x := xm_12) (recvO cls8) (eX13_kind g) (Or.inl ⟨rfl, rfl⟩) q1295 q163 q1539 q1271 (Or.inl q1270) ⟨by decide +kernel, by decide +kernel⟩ q1293 q1294 xp_12 (by decide) (by decide), ⟨cal_U (x := xm_12) (recvO cls9) (eX7_kind g) (Or.inl ⟨rfl, rfl⟩) q1292 q157 q1539 q1271 (Or.inl q1270) ⟨by decide +kernel, by decide +kernel⟩ q1290 q1291 xp_12 (by decide) (by decide), ⟨cal_U (x := xm_12) (recvO cls10) (eX11_kind g) (Or.inl ⟨rfl, rfl⟩) q1274 q161 q1539 q1271 (Or.inl q1270) ⟨by decide +kernel, by decide +kernel⟩ q1272 q1273 xp_12 (by decide) (by decide), ⟨cal_U (x := xm_12) (recvO cls11) (eX12_kind g) (Or.inl ⟨rfl, rfl⟩) q1277 q162 q1539 q1271 (Or.inl q1270) ⟨by decide +kernel, by decide +kernel⟩ q1275 q1276 xp_12 (by decide) (by decide), ⟨cal_U (x := xm_12) (recvO cls12) (eX10_kind g) (Or.inl ⟨rfl, rfl⟩) q1280 q160 q1539 q1271 (Or.inl q1270) ⟨by decide +kernel, by decide +kernel⟩ q1278 q1279 xp_12 (by decide) (by decide), ⟨cal_U (x := xm_12) (recvO cls13) (eX20_kind g) (Or.inl ⟨rfl, rfl⟩) q1283 q171 q1539 q1271 (Or.inl q1270) ⟨by decide +kernel, by decide +kernel⟩ q1281 q1282 xp_12 (by decide) (by decide), trivial⟩⟩⟩⟩⟩⟩⟩⟩ (si_out hE rfl) ?_
    refine si_bipush (pc := 46) hE dX4_between_46 (by decide) ?_
    refine si_icmp_ne (pc := 48) hE dX4_between_48 (by decide) h66 ?_
    refine si_aload_n (pc := 51) hE dX4_between_51 rfl ?_
    refine si_iload_n (pc := 52) hE dX4_between_52 rfl ?_
    refine si_aload (pc := 53) hE dX4_between_53 ?_
    refine si_gI (pc := 55) hE dX4_between_55 (Or.inr ⟨_, q750⟩) zfo_55 ?_
    refine si_iload (pc := 58) hE dX4_between_58 ?_
    refine si_hv (pc := 60) (n := 3) hE dX4_between_60 ⟨cal_V (recvO cls3) (eX4_worksAt g) (Or.inl ⟨rfl, rfl⟩) q1534 q136 q1531 q1532 q1533 ⟨by decide +kernel, by decide +kernel⟩ nX4_worksAt (by decide) (by decide), trivial⟩ (si_out hE rfl) ?_
    exact si_goto (pc := 63) hE dX4_between_63 (by decide) h67
  have h3 : E (bX4_between_3 g.2.1 R) 3 := by
    unfold bX4_between_3
    refine si_fix hE (fun J3 hJ3 => ?_)
    refine si_aload_n (pc := 3) hE dX4_between_3 rfl ?_
    refine si_iload_n (pc := 4) hE dX4_between_4 rfl ?_
    refine si_hv (pc := 5) (n := 1) hE dX4_between_5 ⟨cal_V (recvO cls3) (eX4_end g) (Or.inl ⟨rfl, rfl⟩) q997 q136 q1044 q995 q996 ⟨by decide +kernel, by decide +kernel⟩ nX4_end (by decide) (by decide), trivial⟩ (si_out hE rfl) ?_
    refine si_iload (pc := 8) hE dX4_between_8 ?_
    refine si_hv (pc := 10) (n := 1) hE dX4_between_10 ⟨cal_U (x := xm_1) (recvO cls10) (eX11_way g) (Or.inl ⟨rfl, rfl⟩) q1018 q161 q1046 q1015 (Or.inl q1014) ⟨by decide +kernel, by decide +kernel⟩ q1016 q1017 xp_1 (by decide) (by decide), ⟨cal_U (x := xm_1) (recvO cls11) (eX12_way g) (Or.inl ⟨rfl, rfl⟩) q1021 q162 q1046 q1015 (Or.inl q1014) ⟨by decide +kernel, by decide +kernel⟩ q1019 q1020 xp_1 (by decide) (by decide), ⟨cal_U (x := xm_1) (recvO cls12) (eX10_way g) (Or.inl ⟨rfl, rfl⟩) q1024 q160 q1046 q1015 (Or.inl q1014) ⟨by decide +kernel, by decide +kernel⟩ q1022 q1023 xp_1 (by decide) (by decide), trivial⟩⟩⟩ (si_out hE rfl) ?_
    refine si_iload_n (pc := 13) hE dX4_between_13 rfl ?_
    refine si_icmp_eq (pc := 14) hE dX4_between_14 (by decide) h23 ?_
    refine si_iinc (pc := 17) hE dX4_between_17 (by decide) (by decide) ?_
    exact si_goto (pc := 20) hE dX4_between_20 (by decide) (si_kill hE hJ3)
  have h0 : E (bX4_between_0 g.2.1 R) 0 := by
    unfold bX4_between_0
    refine si_iconst (pc := 0) hE dX4_between_0 (by decide) ?_
    refine si_istore (pc := 1) hE dX4_between_1 (by decide) ?_
    exact (si_kill hE h3)
  exact h0
def bX4_worksOnWay_169 (κ : Nat → Option Nat) (R : Ret AH) : Cont AH :=
    o_il 3 <|
    o_ireturn R
def bX4_worksOnWay_163 (κ : Nat → Option Nat) (R : Ret AH) (J5 : Cont AH) : Cont AH :=
    o_iinc 4 1 <|
    (o_kill [5, 6] J5)
def bX4_worksOnWay_108 (κ : Nat → Option Nat) (R : Ret AH) (J5 : Cont AH) : Cont AH :=
    o_il 4 <|
    o_ic 1 <|
    o_iadd <|
    o_al 0 <|
    o_gR 3 [4] <|
    o_call 1 (hvc [(19, pJ2_size κ)]) (fun _ a σ => R (.inr a) σ) <|
    o_icmp_ge (bX4_worksOnWay_163 κ R J5) <|
    o_il 3 <|
    o_al 0 <|
    o_al 0 <|
    o_gR 3 [4] <|
    o_il 4 <|
    o_call 2 (hvc [(19, pJ2_get κ)]) (fun _ a σ => R (.inr a) σ) <|
    o_castI <|
    o_call 1 (hvc [(20, pJ13_intValue κ), (60, pJ13_intValue κ)]) (fun _ a σ => R (.inr a) σ) <|
    o_al 0 <|
    o_gR 3 [4] <|
    o_il 4 <|
    o_ic 1 <|
    o_iadd <|
    o_call 2 (hvc [(19, pJ2_get κ)]) (fun _ a σ => R (.inr a) σ) <|
    o_castI <|
    o_call 1 (hvc [(20, pJ13_intValue κ), (60, pJ13_intValue κ)]) (fun _ a σ => R (.inr a) σ) <|
    o_il 1 <|
    o_il 2 <|
    o_call 5 (hvc [(4, pX4_between κ)]) (fun _ a σ => R (.inr a) σ) <|
    o_iadd <|
    o_is 3 <|
    (bX4_worksOnWay_163 κ R J5)
def bX4_worksOnWay_20 (κ : Nat → Option Nat) (R : Ret AH) (J5 : Cont AH) : Cont AH :=
    fixC fun J20 =>
    o_il 5 <|
    o_al 0 <|
    o_gR 0 [4] <|
    o_al 0 <|
    o_gR 3 [4] <|
    o_il 4 <|
    o_call 2 (hvc [(19, pJ2_get κ)]) (fun _ a σ => R (.inr a) σ) <|
    o_castI <|
    o_call 1 (hvc [(20, pJ13_intValue κ), (60, pJ13_intValue κ)]) (fun _ a σ => R (.inr a) σ) <|
    o_call 2 (hvc [(19, pJ2_get κ)]) (fun _ a σ => R (.inr a) σ) <|
    o_cast [19] <|
    o_call 1 (hvc [(19, pJ2_size κ)]) (fun _ a σ => R (.inr a) σ) <|
    o_icmp_ge (bX4_worksOnWay_108 κ R J5) <|
    o_al 0 <|
    o_gR 0 [4] <|
    o_al 0 <|
    o_gR 3 [4] <|
    o_il 4 <|
    o_call 2 (hvc [(19, pJ2_get κ)]) (fun _ a σ => R (.inr a) σ) <|
    o_castI <|
    o_call 1 (hvc [(20, pJ13_intValue κ), (60, pJ13_intValue κ)]) (fun _ a σ => R (.inr a) σ) <|
    o_call 2 (hvc [(19, pJ2_get κ)]) (fun _ a σ => R (.inr a) σ) <|
    o_cast [19] <|
    o_il 5 <|
    o_call 2 (hvc [(19, pJ2_get κ)]) (fun _ a σ => R (.inr a) σ) <|
    o_cast [7, 8, 9, 10, 11, 12, 13, 14] <|
    o_as 6 <|
    o_il 3 <|
    o_al 0 <|
    o_il 1 <|
    o_al 6 <|
    o_gI 0 [7, 8, 9, 10, 11, 12, 13, 14] <|
    o_il 2 <|
    o_call 4 (hvc [(4, pX4_worksAt κ)]) (fun _ a σ => R (.inr a) σ) <|
    o_iadd <|
    o_is 3 <|
    o_iinc 5 1 <|
    (o_kill [6] J20)
def bX4_worksOnWay_5 (κ : Nat → Option Nat) (R : Ret AH) : Cont AH :=
    fixC fun J5 =>
    o_il 4 <|
    o_al 0 <|
    o_gR 3 [4] <|
    o_call 1 (hvc [(19, pJ2_size κ)]) (fun _ a σ => R (.inr a) σ) <|
    o_icmp_ge (bX4_worksOnWay_169 κ R) <|
    o_ic 0 <|
    o_is 5 <|
    (o_kill [6] (bX4_worksOnWay_20 κ R J5))
def bX4_worksOnWay_0 (κ : Nat → Option Nat) (R : Ret AH) : Cont AH :=
    o_ic 0 <|
    o_is 3 <|
    o_ic 0 <|
    o_is 4 <|
    (o_kill [5, 6] (bX4_worksOnWay_5 κ R))
def pX4_worksOnWay (κ : Nat → Option Nat) : PT AH := fun as σ Q => (lg_sl as).length ≤ 7 ∧ bX4_worksOnWay_0 κ Q (entP 7 as) [] σ
theorem nX4_worksOnWay : parN yX4_worksOnWay 2 := by unfold parN; decide +kernel
set_option maxHeartbeats 4000000 in
theorem eX4_worksOnWay (g : GC) : CT (wC g) yX4_worksOnWay (Cond.code yX4_worksOnWay cX4_worksOnWay 7 (some .int)) 5 111 (pX4_worksOnWay g.2.1) := by
  refine CT.of (wC_ok g) (cc := cX4_worksOnWay) (nL := 7) (ret := (some .int)) (ht := []) (by decide +kernel) (Or.inl ⟨rfl, rfl⟩) (B := bX4_worksOnWay_0 g.2.1) (fun R E X hE => ?_)
  have h169 : E (bX4_worksOnWay_169 g.2.1 R) 169 := by
    unfold bX4_worksOnWay_169
    refine si_iload_n (pc := 169) hE dX4_worksOnWay_169 rfl ?_
    exact si_ireturn (pc := 170) hE dX4_worksOnWay_170
  have h163 : ∀ (J5 : Cont AH) (hJ5 : E J5 5), E (bX4_worksOnWay_163 g.2.1 R J5) 163 := by
    intro J5 hJ5
    unfold bX4_worksOnWay_163
    refine si_iinc (pc := 163) hE dX4_worksOnWay_163 (by decide) (by decide) ?_
    exact si_goto (pc := 166) hE dX4_worksOnWay_166 (by decide) (si_kill hE hJ5)
  have h108 : ∀ (J5 : Cont AH) (hJ5 : E J5 5), E (bX4_worksOnWay_108 g.2.1 R J5) 108 := by
    intro J5 hJ5
    unfold bX4_worksOnWay_108
    refine si_iload (pc := 108) hE dX4_worksOnWay_108 ?_
    refine si_iconst (pc := 110) hE dX4_worksOnWay_110 (by decide) ?_
    refine si_iadd (pc := 111) hE dX4_worksOnWay_111 ?_
    refine si_aload_n (pc := 112) hE dX4_worksOnWay_112 rfl ?_
    refine si_gR (pc := 113) hE dX4_worksOnWay_113 (Or.inl q301) zfo_20 ?_
    refine si_hv (pc := 116) (n := 0) hE dX4_worksOnWay_116 ⟨cal_V (recvO cls18) (eJ2_size g) (Or.inl ⟨rfl, rfl⟩) q501 q139 q999 q499 q500 ⟨by decide +kernel, by decide +kernel⟩ nJ2_size (by decide) (by decide), trivial⟩ (si_out hE rfl) ?_
    refine si_icmp_ge (pc := 119) hE dX4_worksOnWay_119 (by decide) (h163 J5 hJ5) ?_
    refine si_iload_n (pc := 122) hE dX4_worksOnWay_122 rfl ?_
    refine si_aload_n (pc := 123) hE dX4_worksOnWay_123 rfl ?_
    refine si_aload_n (pc := 124) hE dX4_worksOnWay_124 rfl ?_
    refine si_gR (pc := 125) hE dX4_worksOnWay_125 (Or.inl q301) zfo_20 ?_
    refine si_iload (pc := 128) hE dX4_worksOnWay_128 ?_
    refine si_hv (pc := 130) (n := 1) hE dX4_worksOnWay_130 ⟨cal_V (recvO cls18) (eJ2_get g) (Or.inl ⟨rfl, rfl⟩) q980 q139 q998 q978 q979 ⟨by decide +kernel, by decide +kernel⟩ nJ2_get (by decide) (by decide), trivial⟩ (si_out hE rfl) ?_
    refine si_castI (pc := 133) hE dX4_worksOnWay_133 q1529 ?_
    refine si_hv (pc := 136) (n := 0) hE dX4_worksOnWay_136 ⟨cal_V (recvO cls19) (eJ13_intValue g) (Or.inl ⟨rfl, rfl⟩) q993 q151 q1530 q991 q992 ⟨by decide +kernel, by decide +kernel⟩ nJ13_intValue (by decide) (by decide), ⟨cal_V recv60 (eJ13_intValue g) (Or.inl ⟨rfl, rfl⟩) q993 q151 q1530 q991 q992 ⟨by decide +kernel, by decide +kernel⟩ nJ13_intValue (by decide) (by decide), trivial⟩⟩ (si_out hE rfl) ?_
    refine si_aload_n (pc := 139) hE dX4_worksOnWay_139 rfl ?_
    refine si_gR (pc := 140) hE dX4_worksOnWay_140 (Or.inl q301) zfo_20 ?_
    refine si_iload (pc := 143) hE dX4_worksOnWay_143 ?_
    refine si_iconst (pc := 145) hE dX4_worksOnWay_145 (by decide) ?_
    refine si_iadd (pc := 146) hE dX4_worksOnWay_146 ?_
    refine si_hv (pc := 147) (n := 1) hE dX4_worksOnWay_147 ⟨cal_V (recvO cls18) (eJ2_get g) (Or.inl ⟨rfl, rfl⟩) q980 q139 q998 q978 q979 ⟨by decide +kernel, by decide +kernel⟩ nJ2_get (by decide) (by decide), trivial⟩ (si_out hE rfl) ?_
    refine si_castI (pc := 150) hE dX4_worksOnWay_150 q1529 ?_
    refine si_hv (pc := 153) (n := 0) hE dX4_worksOnWay_153 ⟨cal_V (recvO cls19) (eJ13_intValue g) (Or.inl ⟨rfl, rfl⟩) q993 q151 q1530 q991 q992 ⟨by decide +kernel, by decide +kernel⟩ nJ13_intValue (by decide) (by decide), ⟨cal_V recv60 (eJ13_intValue g) (Or.inl ⟨rfl, rfl⟩) q993 q151 q1530 q991 q992 ⟨by decide +kernel, by decide +kernel⟩ nJ13_intValue (by decide) (by decide), trivial⟩⟩ (si_out hE rfl) ?_
    refine si_iload_n (pc := 156) hE dX4_worksOnWay_156 rfl ?_
    refine si_iload_n (pc := 157) hE dX4_worksOnWay_157 rfl ?_
    refine si_hv (pc := 158) (n := 4) hE dX4_worksOnWay_158 ⟨cal_V (recvO cls3) (eX4_between g) (Or.inl ⟨rfl, rfl⟩) q1538 q136 q1535 q1537 qs40 ⟨by decide +kernel, by decide +kernel⟩ nX4_between (by decide) (by decide), trivial⟩ (si_out hE rfl) ?_
    refine si_iadd (pc := 161) hE dX4_worksOnWay_161 ?_
    refine si_istore_n (pc := 162) hE dX4_worksOnWay_162 rfl (by decide) ?_
    exact (h163 J5 hJ5)
  have h20 : ∀ (J5 : Cont AH) (hJ5 : E J5 5), E (bX4_worksOnWay_20 g.2.1 R J5) 20 := by
    intro J5 hJ5
    unfold bX4_worksOnWay_20
    refine si_fix hE (fun J20 hJ20 => ?_)
    refine si_iload (pc := 20) hE dX4_worksOnWay_20 ?_
    refine si_aload_n (pc := 22) hE dX4_worksOnWay_22 rfl ?_
    refine si_gR (pc := 23) hE dX4_worksOnWay_23 (Or.inl q289) zfo_17 ?_
    refine si_aload_n (pc := 26) hE dX4_worksOnWay_26 rfl ?_
    refine si_gR (pc := 27) hE dX4_worksOnWay_27 (Or.inl q301) zfo_20 ?_
    refine si_iload (pc := 30) hE dX4_worksOnWay_30 ?_
    refine si_hv (pc := 32) (n := 1) hE dX4_worksOnWay_32 ⟨cal_V (recvO cls18) (eJ2_get g) (Or.inl ⟨rfl, rfl⟩) q980 q139 q998 q978 q979 ⟨by decide +kernel, by decide +kernel⟩ nJ2_get (by decide) (by decide), trivial⟩ (si_out hE rfl) ?_
    refine si_castI (pc := 35) hE dX4_worksOnWay_35 q1529 ?_
    refine si_hv (pc := 38) (n := 0) hE dX4_worksOnWay_38 ⟨cal_V (recvO cls19) (eJ13_intValue g) (Or.inl ⟨rfl, rfl⟩) q993 q151 q1530 q991 q992 ⟨by decide +kernel, by decide +kernel⟩ nJ13_intValue (by decide) (by decide), ⟨cal_V recv60 (eJ13_intValue g) (Or.inl ⟨rfl, rfl⟩) q993 q151 q1530 q991 q992 ⟨by decide +kernel, by decide +kernel⟩ nJ13_intValue (by decide) (by decide), trivial⟩⟩ (si_out hE rfl) ?_
    refine si_hv (pc := 41) (n := 1) hE dX4_worksOnWay_41 ⟨cal_V (recvO cls18) (eJ2_get g) (Or.inl ⟨rfl, rfl⟩) q980 q139 q998 q978 q979 ⟨by decide +kernel, by decide +kernel⟩ nJ2_get (by decide) (by decide), trivial⟩ (si_out hE rfl) ?_
    refine si_cast (pc := 44) hE dX4_worksOnWay_44 q263 zco_1 ?_
    refine si_hv (pc := 47) (n := 0) hE dX4_worksOnWay_47 ⟨cal_V (recvO cls18) (eJ2_size g) (Or.inl ⟨rfl, rfl⟩) q501 q139 q999 q499 q500 ⟨by decide +kernel, by decide +kernel⟩ nJ2_size (by decide) (by decide), trivial⟩ (si_out hE rfl) ?_
    refine si_icmp_ge (pc := 50) hE dX4_worksOnWay_50 (by decide) (h108 J5 hJ5) ?_
    refine si_aload_n (pc := 53) hE dX4_worksOnWay_53 rfl ?_
    refine si_gR (pc := 54) hE dX4_worksOnWay_54 (Or.inl q289) zfo_17 ?_
    refine si_aload_n (pc := 57) hE dX4_worksOnWay_57 rfl ?_
    refine si_gR (pc := 58) hE dX4_worksOnWay_58 (Or.inl q301) zfo_20 ?_
    refine si_iload (pc := 61) hE dX4_worksOnWay_61 ?_
    refine si_hv (pc := 63) (n := 1) hE dX4_worksOnWay_63 ⟨cal_V (recvO cls18) (eJ2_get g) (Or.inl ⟨rfl, rfl⟩) q980 q139 q998 q978 q979 ⟨by decide +kernel, by decide +kernel⟩ nJ2_get (by decide) (by decide), trivial⟩ (si_out hE rfl) ?_
    refine si_castI (pc := 66) hE dX4_worksOnWay_66 q1529 ?_
    refine si_hv (pc := 69) (n := 0) hE dX4_worksOnWay_69 ⟨cal_V (recvO cls19) (eJ13_intValue g) (Or.inl ⟨rfl, rfl⟩) q993 q151 q1530 q991 q992 ⟨by decide +kernel, by decide +kernel⟩ nJ13_intValue (by decide) (by decide), ⟨cal_V recv60 (eJ13_intValue g) (Or.inl ⟨rfl, rfl⟩) q993 q151 q1530 q991 q992 ⟨by decide +kernel, by decide +kernel⟩ nJ13_intValue (by decide) (by decide), trivial⟩⟩ (si_out hE rfl) ?_
    refine si_hv (pc := 72) (n := 1) hE dX4_worksOnWay_72 ⟨cal_V (recvO cls18) (eJ2_get g) (Or.inl ⟨rfl, rfl⟩) q980 q139 q998 q978 q979 ⟨by decide +kernel, by decide +kernel⟩ nJ2_get (by decide) (by decide), trivial⟩ (si_out hE rfl) ?_
    refine si_cast (pc := 75) hE dX4_worksOnWay_75 q263 zco_1 ?_
    refine si_iload (pc := 78) hE dX4_worksOnWay_78 ?_
    refine si_hv (pc := 80) (n := 1) hE dX4_worksOnWay_80 ⟨cal_V (recvO cls18) (eJ2_get g) (Or.inl ⟨rfl, rfl⟩) q980 q139 q998 q978 q979 ⟨by decide +kernel, by decide +kernel⟩ nJ2_get (by decide) (by decide), trivial⟩ (si_out hE rfl) ?_
    refine si_cast (pc := 83) hE dX4_worksOnWay_83 q1029 zco_2 ?_
    refine si_astore (pc := 86) hE dX4_worksOnWay_86 (by decide) ?_
    refine si_iload_n (pc := 88) hE dX4_worksOnWay_88 rfl ?_
    refine si_aload_n (pc := 89) hE dX4_worksOnWay_89 rfl ?_
    refine si_iload_n (pc := 90) hE dX4_worksOnWay_90 rfl ?_
    refine si_aload (pc := 91) hE dX4_worksOnWay_91 ?_
    refine si_gI (pc := 93) hE dX4_worksOnWay_93 (Or.inr ⟨_, q750⟩) zfo_55 ?_
    refine si_iload_n (pc := 96) hE dX4_worksOnWay_96 rfl ?_
    refine si_hv (pc := 97) (n := 3) hE dX4_worksOnWay_97 ⟨cal_V (recvO cls3) (eX4_worksAt g) (Or.inl ⟨rfl, rfl⟩) q1534 q136 q1531 q1532 q1533 ⟨by decide +kernel, by decide +kernel⟩ nX4_worksAt (by decide) (by decide), trivial⟩ (si_out hE rfl) ?_
    refine si_iadd (pc := 100) hE dX4_worksOnWay_100 ?_
    refine si_istore_n (pc := 101) hE dX4_worksOnWay_101 rfl (by decide) ?_
    refine si_iinc (pc := 102) hE dX4_worksOnWay_102 (by decide) (by decide) ?_
    exact si_goto (pc := 105) hE dX4_worksOnWay_105 (by decide) (si_kill hE hJ20)
  have h5 : E (bX4_worksOnWay_5 g.2.1 R) 5 := by
    unfold bX4_worksOnWay_5
    refine si_fix hE (fun J5 hJ5 => ?_)
    refine si_iload (pc := 5) hE dX4_worksOnWay_5 ?_
    refine si_aload_n (pc := 7) hE dX4_worksOnWay_7 rfl ?_
    refine si_gR (pc := 8) hE dX4_worksOnWay_8 (Or.inl q301) zfo_20 ?_
    refine si_hv (pc := 11) (n := 0) hE dX4_worksOnWay_11 ⟨cal_V (recvO cls18) (eJ2_size g) (Or.inl ⟨rfl, rfl⟩) q501 q139 q999 q499 q500 ⟨by decide +kernel, by decide +kernel⟩ nJ2_size (by decide) (by decide), trivial⟩ (si_out hE rfl) ?_
    refine si_icmp_ge (pc := 14) hE dX4_worksOnWay_14 (by decide) h169 ?_
    refine si_iconst (pc := 17) hE dX4_worksOnWay_17 (by decide) ?_
    refine si_istore (pc := 18) hE dX4_worksOnWay_18 (by decide) ?_
    exact (si_kill hE (h20 J5 hJ5))
  have h0 : E (bX4_worksOnWay_0 g.2.1 R) 0 := by
    unfold bX4_worksOnWay_0
    refine si_iconst (pc := 0) hE dX4_worksOnWay_0 (by decide) ?_
    refine si_istore_n (pc := 1) hE dX4_worksOnWay_1 rfl (by decide) ?_
    refine si_iconst (pc := 2) hE dX4_worksOnWay_2 (by decide) ?_
    refine si_istore (pc := 3) hE dX4_worksOnWay_3 (by decide) ?_
    exact (si_kill hE h5)
  exact h0
def bX0_works_24 (κ : Nat → Option Nat) (R : Ret AH) : Cont AH :=
    o_ireturn R
def bX0_works_23 (κ : Nat → Option Nat) (R : Ret AH) : Cont AH :=
    o_ic (-1) <|
    (bX0_works_24 κ R)
def bX0_works_0 (κ : Nat → Option Nat) (R : Ret AH) : Cont AH :=
    o_al 0 <|
    o_il 1 <|
    o_il 2 <|
    o_il 3 <|
    o_call 4 (hvc [(1, pX0_isPlaced κ)]) (fun _ a σ => R (.inr a) σ) <|
    o_if_eq (bX0_works_23 κ R) <|
    o_al 0 <|
    o_il 1 <|
    o_call 2 (hvc [(1, pX0_of κ)]) (fun _ a σ => R (.inr a) σ) <|
    o_il 2 <|
    o_il 3 <|
    o_call 3 (hvc [(4, pX4_worksOnWay κ)]) (fun _ a σ => R (.inr a) σ) <|
    (bX0_works_24 κ R)
def pX0_works (κ : Nat → Option Nat) : PT AH := fun as σ Q => (lg_sl as).length ≤ 4 ∧ bX0_works_0 κ Q (entP 4 as) [] σ
theorem nX0_works : parN yX0_works 3 := by unfold parN; decide +kernel
set_option maxHeartbeats 4000000 in
theorem eX0_works (g : GC) : CT (wC g) yX0_works (Cond.code yX0_works cX0_works 4 (some .int)) 6 137 (pX0_works g.2.1) := by
  refine CT.of (wC_ok g) (cc := cX0_works) (nL := 4) (ret := (some .int)) (ht := []) (by decide +kernel) (Or.inl ⟨rfl, rfl⟩) (B := bX0_works_0 g.2.1) (fun R E X hE => ?_)
  have h24 : E (bX0_works_24 g.2.1 R) 24 := by
    unfold bX0_works_24
    exact si_ireturn (pc := 24) hE dX0_works_24
  have h23 : E (bX0_works_23 g.2.1 R) 23 := by
    unfold bX0_works_23
    refine si_iconst (pc := 23) hE dX0_works_23 (by decide) ?_
    exact h24
  have h0 : E (bX0_works_0 g.2.1 R) 0 := by
    unfold bX0_works_0
    refine si_aload_n (pc := 0) hE dX0_works_0 rfl ?_
    refine si_iload_n (pc := 1) hE dX0_works_1 rfl ?_
    refine si_iload_n (pc := 2) hE dX0_works_2 rfl ?_
    refine si_iload_n (pc := 3) hE dX0_works_3 rfl ?_
    refine si_hv (pc := 4) (n := 3) hE dX0_works_4 ⟨cal_V (recvO cls0) (eX0_isPlaced g) (Or.inl ⟨rfl, rfl⟩) q1346 q132 q1343 q1345 qs35 ⟨by decide +kernel, by decide +kernel⟩ nX0_isPlaced (by decide) (by decide), trivial⟩ (si_out hE rfl) ?_
    refine si_if_eq (pc := 7) hE dX0_works_7 (by decide) h23 ?_
    refine si_aload_n (pc := 10) hE dX0_works_10 rfl ?_
    refine si_iload_n (pc := 11) hE dX0_works_11 rfl ?_
    refine si_hv (pc := 12) (n := 1) hE dX0_works_12 ⟨cal_V (recvO cls0) (eX0_of g) (Or.inl ⟨rfl, rfl⟩) q1258 q132 q1255 q1257 qs32 ⟨by decide +kernel, by decide +kernel⟩ nX0_of (by decide) (by decide), trivial⟩ (si_out hE rfl) ?_
    refine si_iload_n (pc := 15) hE dX0_works_15 rfl ?_
    refine si_iload_n (pc := 16) hE dX0_works_16 rfl ?_
    refine si_hv (pc := 17) (n := 2) hE dX0_works_17 ⟨cal_V (recvO cls3) (eX4_worksOnWay g) (Or.inl ⟨rfl, rfl⟩) q1528 q136 q1525 q1526 q1527 ⟨by decide +kernel, by decide +kernel⟩ nX4_worksOnWay (by decide) (by decide), trivial⟩ (si_out hE rfl) ?_
    exact si_goto (pc := 20) hE dX0_works_20 (by decide) h24
  exact h0
def bX4_hasT_2_25 (κ : Nat → Option Nat) (R : Ret AH) : Cont AH :=
    o_zreturn R
def bX4_hasT_2_24 (κ : Nat → Option Nat) (R : Ret AH) : Cont AH :=
    o_ic 0 <|
    (bX4_hasT_2_25 κ R)
def bX4_hasT_2_0 (κ : Nat → Option Nat) (R : Ret AH) : Cont AH :=
    o_al 1 <|
    o_ifnull (bX4_hasT_2_24 κ R) <|
    o_al 1 <|
    o_gI 0 [17] <|
    o_if_eq (bX4_hasT_2_24 κ R) <|
    o_al 1 <|
    o_gI 1 [17] <|
    o_ic 15 <|
    o_icmp_le (bX4_hasT_2_24 κ R) <|
    o_ic 1 <|
    (bX4_hasT_2_25 κ R)
def pX4_hasT_2 (κ : Nat → Option Nat) : PT AH := fun as σ Q => (lg_sl as).length ≤ 2 ∧ bX4_hasT_2_0 κ Q (entP 2 as) [] σ
theorem nX4_hasT_2 : parN yX4_hasT_2 1 := by unfold parN; decide +kernel
set_option maxHeartbeats 4000000 in
theorem eX4_hasT_2 (g : GC) : CT (wC g) yX4_hasT_2 (Cond.code yX4_hasT_2 cX4_hasT_2 2 (some .boolean)) 0 0 (pX4_hasT_2 g.2.1) := by
  refine CT.of (wC_ok g) (cc := cX4_hasT_2) (nL := 2) (ret := (some .boolean)) (ht := []) (by decide +kernel) (Or.inl ⟨rfl, rfl⟩) (B := bX4_hasT_2_0 g.2.1) (fun R E X hE => ?_)
  have h25 : E (bX4_hasT_2_25 g.2.1 R) 25 := by
    unfold bX4_hasT_2_25
    exact si_zreturn (pc := 25) hE dX4_hasT_2_25
  have h24 : E (bX4_hasT_2_24 g.2.1 R) 24 := by
    unfold bX4_hasT_2_24
    refine si_iconst (pc := 24) hE dX4_hasT_2_24 (by decide) ?_
    exact h25
  have h0 : E (bX4_hasT_2_0 g.2.1 R) 0 := by
    unfold bX4_hasT_2_0
    refine si_aload_n (pc := 0) hE dX4_hasT_2_0 rfl ?_
    refine si_ifnull (pc := 1) hE dX4_hasT_2_1 (by decide) h24 ?_
    refine si_aload_n (pc := 4) hE dX4_hasT_2_4 rfl ?_
    refine si_gI (pc := 5) hE dX4_hasT_2_5 (Or.inr ⟨_, q727⟩) zfo_32 ?_
    refine si_if_eq (pc := 8) hE dX4_hasT_2_8 (by decide) h24 ?_
    refine si_aload_n (pc := 11) hE dX4_hasT_2_11 rfl ?_
    refine si_gI (pc := 12) hE dX4_hasT_2_12 (Or.inr ⟨_, q731⟩) zfo_33 ?_
    refine si_bipush (pc := 15) hE dX4_hasT_2_15 (by decide) ?_
    refine si_icmp_le (pc := 17) hE dX4_hasT_2_17 (by decide) h24 ?_
    refine si_iconst (pc := 20) hE dX4_hasT_2_20 (by decide) ?_
    exact si_goto (pc := 21) hE dX4_hasT_2_21 (by decide) h25
  exact h0
def bX4_hasT_233 (κ : Nat → Option Nat) (R : Ret AH) : Cont AH :=
    o_il 1 <|
    o_zreturn R
def bX4_hasT_227 (κ : Nat → Option Nat) (R : Ret AH) (J4 : Cont AH) : Cont AH :=
    o_iinc 2 1 <|
    (o_kill [3, 4] J4)
def bX4_hasT_225 (κ : Nat → Option Nat) (R : Ret AH) (J4 : Cont AH) : Cont AH :=
    o_ior <|
    o_is 1 <|
    (bX4_hasT_227 κ R J4)
def bX4_hasT_220 (κ : Nat → Option Nat) (R : Ret AH) (J4 : Cont AH) : Cont AH :=
    o_ic 1 <|
    (bX4_hasT_225 κ R J4)
def bX4_hasT_224 (κ : Nat → Option Nat) (R : Ret AH) (J4 : Cont AH) : Cont AH :=
    o_ic 0 <|
    (bX4_hasT_225 κ R J4)
def bX4_hasT_182 (κ : Nat → Option Nat) (R : Ret AH) (J4 : Cont AH) : Cont AH :=
    o_al 3 <|
    o_inst [12] [7, 8, 9, 10, 11, 13, 14] <|
    o_if_eq (bX4_hasT_227 κ R J4) <|
    o_al 3 <|
    o_cast [12] <|
    o_as 4 <|
    o_il 1 <|
    o_al 0 <|
    o_al 4 <|
    o_gR 4 [12] <|
    o_call 2 (hvc [(4, pX4_hasT_2 κ)]) (fun _ a σ => R (.inr a) σ) <|
    o_if_ne (bX4_hasT_220 κ R J4) <|
    o_al 0 <|
    o_al 4 <|
    o_gR 5 [12] <|
    o_call 2 (hvc [(4, pX4_hasT_2 κ)]) (fun _ a σ => R (.inr a) σ) <|
    o_if_eq (bX4_hasT_224 κ R J4) <|
    (bX4_hasT_220 κ R J4)
def bX4_hasT_157 (κ : Nat → Option Nat) (R : Ret AH) (J4 : Cont AH) : Cont AH :=
    o_al 3 <|
    o_inst [10] [7, 8, 9, 11, 12, 13, 14] <|
    o_if_eq (bX4_hasT_182 κ R J4) <|
    o_al 3 <|
    o_cast [10] <|
    o_as 4 <|
    o_il 1 <|
    o_al 0 <|
    o_al 4 <|
    o_gR 4 [10] <|
    o_call 2 (hvc [(4, pX4_hasT_2 κ)]) (fun _ a σ => R (.inr a) σ) <|
    o_ior <|
    o_is 1 <|
    (bX4_hasT_182 κ R J4)
def bX4_hasT_155 (κ : Nat → Option Nat) (R : Ret AH) (J4 : Cont AH) : Cont AH :=
    o_ior <|
    o_is 1 <|
    (bX4_hasT_157 κ R J4)
def bX4_hasT_150 (κ : Nat → Option Nat) (R : Ret AH) (J4 : Cont AH) : Cont AH :=
    o_ic 1 <|
    (bX4_hasT_155 κ R J4)
def bX4_hasT_154 (κ : Nat → Option Nat) (R : Ret AH) (J4 : Cont AH) : Cont AH :=
    o_ic 0 <|
    (bX4_hasT_155 κ R J4)
def bX4_hasT_112 (κ : Nat → Option Nat) (R : Ret AH) (J4 : Cont AH) : Cont AH :=
    o_al 3 <|
    o_inst [9] [7, 8, 10, 11, 12, 13, 14] <|
    o_if_eq (bX4_hasT_157 κ R J4) <|
    o_al 3 <|
    o_cast [9] <|
    o_as 4 <|
    o_il 1 <|
    o_al 0 <|
    o_al 4 <|
    o_gR 5 [9] <|
    o_call 2 (hvc [(4, pX4_hasT_2 κ)]) (fun _ a σ => R (.inr a) σ) <|
    o_if_ne (bX4_hasT_150 κ R J4) <|
    o_al 0 <|
    o_al 4 <|
    o_gR 6 [9] <|
    o_call 2 (hvc [(4, pX4_hasT_2 κ)]) (fun _ a σ => R (.inr a) σ) <|
    o_if_eq (bX4_hasT_154 κ R J4) <|
    (bX4_hasT_150 κ R J4)
def bX4_hasT_87 (κ : Nat → Option Nat) (R : Ret AH) (J4 : Cont AH) : Cont AH :=
    o_al 3 <|
    o_inst [8] [7, 9, 10, 11, 12, 13, 14] <|
    o_if_eq (bX4_hasT_112 κ R J4) <|
    o_al 3 <|
    o_cast [8] <|
    o_as 4 <|
    o_il 1 <|
    o_al 0 <|
    o_al 4 <|
    o_gR 5 [8] <|
    o_call 2 (hvc [(4, pX4_hasT_2 κ)]) (fun _ a σ => R (.inr a) σ) <|
    o_ior <|
    o_is 1 <|
    (bX4_hasT_112 κ R J4)
def bX4_hasT_85 (κ : Nat → Option Nat) (R : Ret AH) (J4 : Cont AH) : Cont AH :=
    o_ior <|
    o_is 1 <|
    (bX4_hasT_87 κ R J4)
def bX4_hasT_80 (κ : Nat → Option Nat) (R : Ret AH) (J4 : Cont AH) : Cont AH :=
    o_ic 1 <|
    (bX4_hasT_85 κ R J4)
def bX4_hasT_84 (κ : Nat → Option Nat) (R : Ret AH) (J4 : Cont AH) : Cont AH :=
    o_ic 0 <|
    (bX4_hasT_85 κ R J4)
def bX4_hasT_42 (κ : Nat → Option Nat) (R : Ret AH) (J4 : Cont AH) : Cont AH :=
    o_ior <|
    o_is 1 <|
    o_al 3 <|
    o_call 1 (hvc [(7, pX15_works κ), (8, pX6_works κ), (9, pX6_works κ), (10, pX6_works κ), (11, pX6_works κ), (12, pX6_works κ), (13, pX6_works κ), (14, pX6_works κ)]) (fun _ a σ => R (.inr a) σ) <|
    o_ifnull (bX4_hasT_87 κ R J4) <|
    o_il 1 <|
    o_al 0 <|
    o_al 3 <|
    o_call 1 (hvc [(7, pX15_works κ), (8, pX6_works κ), (9, pX6_works κ), (10, pX6_works κ), (11, pX6_works κ), (12, pX6_works κ), (13, pX6_works κ), (14, pX6_works κ)]) (fun _ a σ => R (.inr a) σ) <|
    o_call 1 (hvc [(15, pX19_first κ), (16, pX17_first κ)]) (fun _ a σ => R (.inr a) σ) <|
    o_call 2 (hvc [(4, pX4_hasT_2 κ)]) (fun _ a σ => R (.inr a) σ) <|
    o_if_ne (bX4_hasT_80 κ R J4) <|
    o_al 0 <|
    o_al 3 <|
    o_call 1 (hvc [(7, pX15_works κ), (8, pX6_works κ), (9, pX6_works κ), (10, pX6_works κ), (11, pX6_works κ), (12, pX6_works κ), (13, pX6_works κ), (14, pX6_works κ)]) (fun _ a σ => R (.inr a) σ) <|
    o_call 1 (hvc [(15, pX19_second κ), (16, pX17_second κ)]) (fun _ a σ => R (.inr a) σ) <|
    o_call 2 (hvc [(4, pX4_hasT_2 κ)]) (fun _ a σ => R (.inr a) σ) <|
    o_if_eq (bX4_hasT_84 κ R J4) <|
    (bX4_hasT_80 κ R J4)
def bX4_hasT_41 (κ : Nat → Option Nat) (R : Ret AH) (J4 : Cont AH) : Cont AH :=
    o_ic 0 <|
    (bX4_hasT_42 κ R J4)
def bX4_hasT_4 (κ : Nat → Option Nat) (R : Ret AH) : Cont AH :=
    fixC fun J4 =>
    o_il 2 <|
    o_al 0 <|
    o_gR 1 [4] <|
    o_call 1 (hvc [(19, pJ2_size κ)]) (fun _ a σ => R (.inr a) σ) <|
    o_icmp_ge (bX4_hasT_233 κ R) <|
    o_al 0 <|
    o_gR 1 [4] <|
    o_il 2 <|
    o_call 2 (hvc [(19, pJ2_get κ)]) (fun _ a σ => R (.inr a) σ) <|
    o_cast [7, 8, 9, 10, 11, 12, 13, 14] <|
    o_as 3 <|
    o_il 1 <|
    o_al 3 <|
    o_call 1 (hvc [(7, pX14_sets κ), (8, pX14_sets κ), (9, pX6_sets κ), (10, pX6_sets κ), (11, pX6_sets κ), (12, pX6_sets κ), (13, pX6_sets κ), (14, pX6_sets κ)]) (fun _ a σ => R (.inr a) σ) <|
    o_ic 15 <|
    o_icmp_le (bX4_hasT_41 κ R J4) <|
    o_ic 1 <|
    (bX4_hasT_42 κ R J4)
def bX4_hasT_0 (κ : Nat → Option Nat) (R : Ret AH) : Cont AH :=
    o_ic 0 <|
    o_is 1 <|
    o_ic 0 <|
    o_is 2 <|
    (o_kill [3, 4] (bX4_hasT_4 κ R))
def pX4_hasT (κ : Nat → Option Nat) : PT AH := fun as σ Q => (lg_sl as).length ≤ 5 ∧ bX4_hasT_0 κ Q (entP 5 as) [] σ
theorem nX4_hasT : parN yX4_hasT 0 := by unfold parN; decide +kernel
set_option maxHeartbeats 4000000 in
theorem eX4_hasT (g : GC) : CT (wC g) yX4_hasT (Cond.code yX4_hasT cX4_hasT 5 (some .boolean)) 3 64 (pX4_hasT g.2.1) := by
  refine CT.of (wC_ok g) (cc := cX4_hasT) (nL := 5) (ret := (some .boolean)) (ht := []) (by decide +kernel) (Or.inl ⟨rfl, rfl⟩) (B := bX4_hasT_0 g.2.1) (fun R E X hE => ?_)
  have h233 : E (bX4_hasT_233 g.2.1 R) 233 := by
    unfold bX4_hasT_233
    refine si_iload_n (pc := 233) hE dX4_hasT_233 rfl ?_
    exact si_zreturn (pc := 234) hE dX4_hasT_234
  have h227 : ∀ (J4 : Cont AH) (hJ4 : E J4 4), E (bX4_hasT_227 g.2.1 R J4) 227 := by
    intro J4 hJ4
    unfold bX4_hasT_227
    refine si_iinc (pc := 227) hE dX4_hasT_227 (by decide) (by decide) ?_
    exact si_goto (pc := 230) hE dX4_hasT_230 (by decide) (si_kill hE hJ4)
  have h225 : ∀ (J4 : Cont AH) (hJ4 : E J4 4), E (bX4_hasT_225 g.2.1 R J4) 225 := by
    intro J4 hJ4
    unfold bX4_hasT_225
    refine si_ior (pc := 225) hE dX4_hasT_225 ?_
    refine si_istore_n (pc := 226) hE dX4_hasT_226 rfl (by decide) ?_
    exact (h227 J4 hJ4)
  have h220 : ∀ (J4 : Cont AH) (hJ4 : E J4 4), E (bX4_hasT_220 g.2.1 R J4) 220 := by
    intro J4 hJ4
    unfold bX4_hasT_220
    refine si_iconst (pc := 220) hE dX4_hasT_220 (by decide) ?_
    exact si_goto (pc := 221) hE dX4_hasT_221 (by decide) (h225 J4 hJ4)
  have h224 : ∀ (J4 : Cont AH) (hJ4 : E J4 4), E (bX4_hasT_224 g.2.1 R J4) 224 := by
    intro J4 hJ4
    unfold bX4_hasT_224
    refine si_iconst (pc := 224) hE dX4_hasT_224 (by decide) ?_
    exact (h225 J4 hJ4)
  have h182 : ∀ (J4 : Cont AH) (hJ4 : E J4 4), E (bX4_hasT_182 g.2.1 R J4) 182 := by
    intro J4 hJ4
    unfold bX4_hasT_182
    refine si_aload_n (pc := 182) hE dX4_hasT_182 rfl ?_
    refine si_inst (pc := 183) hE dX4_hasT_183 q1558 zco_8 zno_3 ?_
    refine si_if_eq (pc := 186) hE dX4_hasT_186 (by decide) (h227 J4 hJ4) ?_
    refine si_aload_n (pc := 189) hE dX4_hasT_189 rfl ?_
    refine si_cast (pc := 190) hE dX4_hasT_190 q1558 zco_8 ?_
    refine si_astore (pc := 193) hE dX4_hasT_193 (by decide) ?_
    refine si_iload_n (pc := 195) hE dX4_hasT_195 rfl ?_
    refine si_aload_n (pc := 196) hE dX4_hasT_196 rfl ?_
    refine si_aload (pc := 197) hE dX4_hasT_197 ?_
    refine si_gR (pc := 199) hE dX4_hasT_199 (Or.inr ⟨_, q823⟩) zfo_38 ?_
    refine si_hv (pc := 202) (n := 1) hE dX4_hasT_202 ⟨cal_V (recvO cls3) (eX4_hasT_2 g) (Or.inl ⟨rfl, rfl⟩) q1553 q136 q1550 q1552 qs41 ⟨by decide +kernel, by decide +kernel⟩ nX4_hasT_2 (by decide) (by decide), trivial⟩ (si_out hE rfl) ?_
    refine si_if_ne (pc := 205) hE dX4_hasT_205 (by decide) (h220 J4 hJ4) ?_
    refine si_aload_n (pc := 208) hE dX4_hasT_208 rfl ?_
    refine si_aload (pc := 209) hE dX4_hasT_209 ?_
    refine si_gR (pc := 211) hE dX4_hasT_211 (Or.inr ⟨_, q827⟩) zfo_39 ?_
    refine si_hv (pc := 214) (n := 1) hE dX4_hasT_214 ⟨cal_V (recvO cls3) (eX4_hasT_2 g) (Or.inl ⟨rfl, rfl⟩) q1553 q136 q1550 q1552 qs41 ⟨by decide +kernel, by decide +kernel⟩ nX4_hasT_2 (by decide) (by decide), trivial⟩ (si_out hE rfl) ?_
    refine si_if_eq (pc := 217) hE dX4_hasT_217 (by decide) (h224 J4 hJ4) ?_
    exact (h220 J4 hJ4)
  have h157 : ∀ (J4 : Cont AH) (hJ4 : E J4 4), E (bX4_hasT_157 g.2.1 R J4) 157 := by
    intro J4 hJ4
    unfold bX4_hasT_157
    refine si_aload_n (pc := 157) hE dX4_hasT_157 rfl ?_
    refine si_inst (pc := 158) hE dX4_hasT_158 q1557 zco_9 zno_4 ?_
    refine si_if_eq (pc := 161) hE dX4_hasT_161 (by decide) (h182 J4 hJ4) ?_
    refine si_aload_n (pc := 164) hE dX4_hasT_164 rfl ?_
    refine si_cast (pc := 165) hE dX4_hasT_165 q1557 zco_9 ?_
    refine si_astore (pc := 168) hE dX4_hasT_168 (by decide) ?_
    refine si_iload_n (pc := 170) hE dX4_hasT_170 rfl ?_
    refine si_aload_n (pc := 171) hE dX4_hasT_171 rfl ?_
    refine si_aload (pc := 172) hE dX4_hasT_172 ?_
    refine si_gR (pc := 174) hE dX4_hasT_174 (Or.inr ⟨_, q748⟩) zfo_36 ?_
    refine si_hv (pc := 177) (n := 1) hE dX4_hasT_177 ⟨cal_V (recvO cls3) (eX4_hasT_2 g) (Or.inl ⟨rfl, rfl⟩) q1553 q136 q1550 q1552 qs41 ⟨by decide +kernel, by decide +kernel⟩ nX4_hasT_2 (by decide) (by decide), trivial⟩ (si_out hE rfl) ?_
    refine si_ior (pc := 180) hE dX4_hasT_180 ?_
    refine si_istore_n (pc := 181) hE dX4_hasT_181 rfl (by decide) ?_
    exact (h182 J4 hJ4)
  have h155 : ∀ (J4 : Cont AH) (hJ4 : E J4 4), E (bX4_hasT_155 g.2.1 R J4) 155 := by
    intro J4 hJ4
    unfold bX4_hasT_155
    refine si_ior (pc := 155) hE dX4_hasT_155 ?_
    refine si_istore_n (pc := 156) hE dX4_hasT_156 rfl (by decide) ?_
    exact (h157 J4 hJ4)
  have h150 : ∀ (J4 : Cont AH) (hJ4 : E J4 4), E (bX4_hasT_150 g.2.1 R J4) 150 := by
    intro J4 hJ4
    unfold bX4_hasT_150
    refine si_iconst (pc := 150) hE dX4_hasT_150 (by decide) ?_
    exact si_goto (pc := 151) hE dX4_hasT_151 (by decide) (h155 J4 hJ4)
  have h154 : ∀ (J4 : Cont AH) (hJ4 : E J4 4), E (bX4_hasT_154 g.2.1 R J4) 154 := by
    intro J4 hJ4
    unfold bX4_hasT_154
    refine si_iconst (pc := 154) hE dX4_hasT_154 (by decide) ?_
    exact (h155 J4 hJ4)
  have h112 : ∀ (J4 : Cont AH) (hJ4 : E J4 4), E (bX4_hasT_112 g.2.1 R J4) 112 := by
    intro J4 hJ4
    unfold bX4_hasT_112
    refine si_aload_n (pc := 112) hE dX4_hasT_112 rfl ?_
    refine si_inst (pc := 113) hE dX4_hasT_113 q1556 zco_10 zno_5 ?_
    refine si_if_eq (pc := 116) hE dX4_hasT_116 (by decide) (h157 J4 hJ4) ?_
    refine si_aload_n (pc := 119) hE dX4_hasT_119 rfl ?_
    refine si_cast (pc := 120) hE dX4_hasT_120 q1556 zco_10 ?_
    refine si_astore (pc := 123) hE dX4_hasT_123 (by decide) ?_
    refine si_iload_n (pc := 125) hE dX4_hasT_125 rfl ?_
    refine si_aload_n (pc := 126) hE dX4_hasT_126 rfl ?_
    refine si_aload (pc := 127) hE dX4_hasT_127 ?_
    refine si_gR (pc := 129) hE dX4_hasT_129 (Or.inr ⟨_, q859⟩) zfo_43 ?_
    refine si_hv (pc := 132) (n := 1) hE dX4_hasT_132 ⟨cal_V (recvO cls3) (eX4_hasT_2 g) (Or.inl ⟨rfl, rfl⟩) q1553 q136 q1550 q1552 qs41 ⟨by decide +kernel, by decide +kernel⟩ nX4_hasT_2 (by decide) (by decide), trivial⟩ (si_out hE rfl) ?_
    refine si_if_ne (pc := 135) hE dX4_hasT_135 (by decide) (h150 J4 hJ4) ?_
    refine si_aload_n (pc := 138) hE dX4_hasT_138 rfl ?_
    refine si_aload (pc := 139) hE dX4_hasT_139 ?_
    refine si_gR (pc := 141) hE dX4_hasT_141 (Or.inr ⟨_, q863⟩) zfo_44 ?_
    refine si_hv (pc := 144) (n := 1) hE dX4_hasT_144 ⟨cal_V (recvO cls3) (eX4_hasT_2 g) (Or.inl ⟨rfl, rfl⟩) q1553 q136 q1550 q1552 qs41 ⟨by decide +kernel, by decide +kernel⟩ nX4_hasT_2 (by decide) (by decide), trivial⟩ (si_out hE rfl) ?_
    refine si_if_eq (pc := 147) hE dX4_hasT_147 (by decide) (h154 J4 hJ4) ?_
    exact (h150 J4 hJ4)
  have h87 : ∀ (J4 : Cont AH) (hJ4 : E J4 4), E (bX4_hasT_87 g.2.1 R J4) 87 := by
    intro J4 hJ4
    unfold bX4_hasT_87
    refine si_aload_n (pc := 87) hE dX4_hasT_87 rfl ?_
    refine si_inst (pc := 88) hE dX4_hasT_88 q1555 zco_11 zno_6 ?_
    refine si_if_eq (pc := 91) hE dX4_hasT_91 (by decide) (h112 J4 hJ4) ?_
    refine si_aload_n (pc := 94) hE dX4_hasT_94 rfl ?_
    refine si_cast (pc := 95) hE dX4_hasT_95 q1555 zco_11 ?_
    refine si_astore (pc := 98) hE dX4_hasT_98 (by decide) ?_
    refine si_iload_n (pc := 100) hE dX4_hasT_100 rfl ?_
    refine si_aload_n (pc := 101) hE dX4_hasT_101 rfl ?_
    refine si_aload (pc := 102) hE dX4_hasT_102 ?_
    refine si_gR (pc := 104) hE dX4_hasT_104 (Or.inr ⟨_, q945⟩) zfo_50 ?_
    refine si_hv (pc := 107) (n := 1) hE dX4_hasT_107 ⟨cal_V (recvO cls3) (eX4_hasT_2 g) (Or.inl ⟨rfl, rfl⟩) q1553 q136 q1550 q1552 qs41 ⟨by decide +kernel, by decide +kernel⟩ nX4_hasT_2 (by decide) (by decide), trivial⟩ (si_out hE rfl) ?_
    refine si_ior (pc := 110) hE dX4_hasT_110 ?_
    refine si_istore_n (pc := 111) hE dX4_hasT_111 rfl (by decide) ?_
    exact (h112 J4 hJ4)
  have h85 : ∀ (J4 : Cont AH) (hJ4 : E J4 4), E (bX4_hasT_85 g.2.1 R J4) 85 := by
    intro J4 hJ4
    unfold bX4_hasT_85
    refine si_ior (pc := 85) hE dX4_hasT_85 ?_
    refine si_istore_n (pc := 86) hE dX4_hasT_86 rfl (by decide) ?_
    exact (h87 J4 hJ4)
  have h80 : ∀ (J4 : Cont AH) (hJ4 : E J4 4), E (bX4_hasT_80 g.2.1 R J4) 80 := by
    intro J4 hJ4
    unfold bX4_hasT_80
    refine si_iconst (pc := 80) hE dX4_hasT_80 (by decide) ?_
    exact si_goto (pc := 81) hE dX4_hasT_81 (by decide) (h85 J4 hJ4)
  have h84 : ∀ (J4 : Cont AH) (hJ4 : E J4 4), E (bX4_hasT_84 g.2.1 R J4) 84 := by
    intro J4 hJ4
    unfold bX4_hasT_84
    refine si_iconst (pc := 84) hE dX4_hasT_84 (by decide) ?_
    exact (h85 J4 hJ4)
  have h42 : ∀ (J4 : Cont AH) (hJ4 : E J4 4), E (bX4_hasT_42 g.2.1 R J4) 42 := by
    intro J4 hJ4
    unfold bX4_hasT_42
    refine si_ior (pc := 42) hE dX4_hasT_42 ?_
    refine si_istore_n (pc := 43) hE dX4_hasT_43 rfl (by decide) ?_
    refine si_aload_n (pc := 44) hE dX4_hasT_44 rfl ?_
    refine si_hv (pc := 45) (n := 0) hE dX4_hasT_45 ⟨cal_U (x := xm_4) (recvO cls6) (eX15_works g) (Or.inl ⟨rfl, rfl⟩) q1083 q165 q1073 q1075 (Or.inr ⟨_, _, _, q1074, q1086⟩) ⟨by decide +kernel, by decide +kernel⟩ q1081 q1082 xp_4 (by decide) (by decide), ⟨cal_V (recvO cls7) (eX6_works g) (Or.inl ⟨rfl, rfl⟩) q1086 q156 q1073 q1074 q1080 ⟨by decide +kernel, by decide +kernel⟩ nX6_works (by decide) (by decide), ⟨cal_V (recvO cls8) (eX6_works g) (Or.inl ⟨rfl, rfl⟩) q1086 q156 q1073 q1074 q1085 ⟨by decide +kernel, by decide +kernel⟩ nX6_works (by decide) (by decide), ⟨cal_V (recvO cls9) (eX6_works g) (Or.inl ⟨rfl, rfl⟩) q1086 q156 q1073 q1074 q1084 ⟨by decide +kernel, by decide +kernel⟩ nX6_works (by decide) (by decide), ⟨cal_V (recvO cls10) (eX6_works g) (Or.inl ⟨rfl, rfl⟩) q1086 q156 q1073 q1074 q1076 ⟨by decide +kernel, by decide +kernel⟩ nX6_works (by decide) (by decide), ⟨cal_V (recvO cls11) (eX6_works g) (Or.inl ⟨rfl, rfl⟩) q1086 q156 q1073 q1074 q1077 ⟨by decide +kernel, by decide +kernel⟩ nX6_works (by decide) (by decide), ⟨cal_V (recvO cls12) (eX6_works g) (Or.inl ⟨rfl, rfl⟩) q1086 q156 q1073 q1074 q1078 ⟨by decide +kernel, by decide +kernel⟩ nX6_works (by decide) (by decide), ⟨cal_V (recvO cls13) (eX6_works g) (Or.inl ⟨rfl, rfl⟩) q1086 q156 q1073 q1074 q1079 ⟨by decide +kernel, by decide +kernel⟩ nX6_works (by decide) (by decide), trivial⟩⟩⟩⟩⟩⟩⟩⟩ (si_out hE rfl) ?_
    refine si_ifnull (pc := 48) hE dX4_hasT_48 (by decide) (h87 J4 hJ4) ?_
    refine si_iload_n (pc := 51) hE dX4_hasT_51 rfl ?_
    refine si_aload_n (pc := 52) hE dX4_hasT_52 rfl ?_
    refine si_aload_n (pc := 53) hE dX4_hasT_53 rfl ?_
    refine si_hv (pc := 54) (n := 0) hE dX4_hasT_54 ⟨cal_U (x := xm_4) (recvO cls6) (eX15_works g) (Or.inl ⟨rfl, rfl⟩) q1083 q165 q1073 q1075 (Or.inr ⟨_, _, _, q1074, q1086⟩) ⟨by decide +kernel, by decide +kernel⟩ q1081 q1082 xp_4 (by decide) (by decide), ⟨cal_V (recvO cls7) (eX6_works g) (Or.inl ⟨rfl, rfl⟩) q1086 q156 q1073 q1074 q1080 ⟨by decide +kernel, by decide +kernel⟩ nX6_works (by decide) (by decide), ⟨cal_V (recvO cls8) (eX6_works g) (Or.inl ⟨rfl, rfl⟩) q1086 q156 q1073 q1074 q1085 ⟨by decide +kernel, by decide +kernel⟩ nX6_works (by decide) (by decide), ⟨cal_V (recvO cls9) (eX6_works g) (Or.inl ⟨rfl, rfl⟩) q1086 q156 q1073 q1074 q1084 ⟨by decide +kernel, by decide +kernel⟩ nX6_works (by decide) (by decide), ⟨cal_V (recvO cls10) (eX6_works g) (Or.inl ⟨rfl, rfl⟩) q1086 q156 q1073 q1074 q1076 ⟨by decide +kernel, by decide +kernel⟩ nX6_works (by decide) (by decide), ⟨cal_V (recvO cls11) (eX6_works g) (Or.inl ⟨rfl, rfl⟩) q1086 q156 q1073 q1074 q1077 ⟨by decide +kernel, by decide +kernel⟩ nX6_works (by decide) (by decide), ⟨cal_V (recvO cls12) (eX6_works g) (Or.inl ⟨rfl, rfl⟩) q1086 q156 q1073 q1074 q1078 ⟨by decide +kernel, by decide +kernel⟩ nX6_works (by decide) (by decide), ⟨cal_V (recvO cls13) (eX6_works g) (Or.inl ⟨rfl, rfl⟩) q1086 q156 q1073 q1074 q1079 ⟨by decide +kernel, by decide +kernel⟩ nX6_works (by decide) (by decide), trivial⟩⟩⟩⟩⟩⟩⟩⟩ (si_out hE rfl) ?_
    refine si_hv (pc := 57) (n := 0) hE dX4_hasT_57 ⟨cal_U (x := xm_6) (recvO cls14) (eX19_first g) (Or.inl ⟨rfl, rfl⟩) q1151 q169 q1549 q1148 (Or.inl q1147) ⟨by decide +kernel, by decide +kernel⟩ q1149 q1150 xp_6 (by decide) (by decide), ⟨cal_U (x := xm_6) (recvO cls15) (eX17_first g) (Or.inl ⟨rfl, rfl⟩) q1154 q167 q1549 q1148 (Or.inl q1147) ⟨by decide +kernel, by decide +kernel⟩ q1152 q1153 xp_6 (by decide) (by decide), trivial⟩⟩ (si_out hE rfl) ?_
    refine si_hv (pc := 60) (n := 1) hE dX4_hasT_60 ⟨cal_V (recvO cls3) (eX4_hasT_2 g) (Or.inl ⟨rfl, rfl⟩) q1553 q136 q1550 q1552 qs41 ⟨by decide +kernel, by decide +kernel⟩ nX4_hasT_2 (by decide) (by decide), trivial⟩ (si_out hE rfl) ?_
    refine si_if_ne (pc := 63) hE dX4_hasT_63 (by decide) (h80 J4 hJ4) ?_
    refine si_aload_n (pc := 66) hE dX4_hasT_66 rfl ?_
    refine si_aload_n (pc := 67) hE dX4_hasT_67 rfl ?_
    refine si_hv (pc := 68) (n := 0) hE dX4_hasT_68 ⟨cal_U (x := xm_4) (recvO cls6) (eX15_works g) (Or.inl ⟨rfl, rfl⟩) q1083 q165 q1073 q1075 (Or.inr ⟨_, _, _, q1074, q1086⟩) ⟨by decide +kernel, by decide +kernel⟩ q1081 q1082 xp_4 (by decide) (by decide), ⟨cal_V (recvO cls7) (eX6_works g) (Or.inl ⟨rfl, rfl⟩) q1086 q156 q1073 q1074 q1080 ⟨by decide +kernel, by decide +kernel⟩ nX6_works (by decide) (by decide), ⟨cal_V (recvO cls8) (eX6_works g) (Or.inl ⟨rfl, rfl⟩) q1086 q156 q1073 q1074 q1085 ⟨by decide +kernel, by decide +kernel⟩ nX6_works (by decide) (by decide), ⟨cal_V (recvO cls9) (eX6_works g) (Or.inl ⟨rfl, rfl⟩) q1086 q156 q1073 q1074 q1084 ⟨by decide +kernel, by decide +kernel⟩ nX6_works (by decide) (by decide), ⟨cal_V (recvO cls10) (eX6_works g) (Or.inl ⟨rfl, rfl⟩) q1086 q156 q1073 q1074 q1076 ⟨by decide +kernel, by decide +kernel⟩ nX6_works (by decide) (by decide), ⟨cal_V (recvO cls11) (eX6_works g) (Or.inl ⟨rfl, rfl⟩) q1086 q156 q1073 q1074 q1077 ⟨by decide +kernel, by decide +kernel⟩ nX6_works (by decide) (by decide), ⟨cal_V (recvO cls12) (eX6_works g) (Or.inl ⟨rfl, rfl⟩) q1086 q156 q1073 q1074 q1078 ⟨by decide +kernel, by decide +kernel⟩ nX6_works (by decide) (by decide), ⟨cal_V (recvO cls13) (eX6_works g) (Or.inl ⟨rfl, rfl⟩) q1086 q156 q1073 q1074 q1079 ⟨by decide +kernel, by decide +kernel⟩ nX6_works (by decide) (by decide), trivial⟩⟩⟩⟩⟩⟩⟩⟩ (si_out hE rfl) ?_
    refine si_hv (pc := 71) (n := 0) hE dX4_hasT_71 ⟨cal_U (x := xm_5) (recvO cls14) (eX19_second g) (Or.inl ⟨rfl, rfl⟩) q1164 q169 q1554 q1161 (Or.inl q1160) ⟨by decide +kernel, by decide +kernel⟩ q1162 q1163 xp_5 (by decide) (by decide), ⟨cal_U (x := xm_5) (recvO cls15) (eX17_second g) (Or.inl ⟨rfl, rfl⟩) q1167 q167 q1554 q1161 (Or.inl q1160) ⟨by decide +kernel, by decide +kernel⟩ q1165 q1166 xp_5 (by decide) (by decide), trivial⟩⟩ (si_out hE rfl) ?_
    refine si_hv (pc := 74) (n := 1) hE dX4_hasT_74 ⟨cal_V (recvO cls3) (eX4_hasT_2 g) (Or.inl ⟨rfl, rfl⟩) q1553 q136 q1550 q1552 qs41 ⟨by decide +kernel, by decide +kernel⟩ nX4_hasT_2 (by decide) (by decide), trivial⟩ (si_out hE rfl) ?_
    refine si_if_eq (pc := 77) hE dX4_hasT_77 (by decide) (h84 J4 hJ4) ?_
    exact (h80 J4 hJ4)
  have h41 : ∀ (J4 : Cont AH) (hJ4 : E J4 4), E (bX4_hasT_41 g.2.1 R J4) 41 := by
    intro J4 hJ4
    unfold bX4_hasT_41
    refine si_iconst (pc := 41) hE dX4_hasT_41 (by decide) ?_
    exact (h42 J4 hJ4)
  have h4 : E (bX4_hasT_4 g.2.1 R) 4 := by
    unfold bX4_hasT_4
    refine si_fix hE (fun J4 hJ4 => ?_)
    refine si_iload_n (pc := 4) hE dX4_hasT_4 rfl ?_
    refine si_aload_n (pc := 5) hE dX4_hasT_5 rfl ?_
    refine si_gR (pc := 6) hE dX4_hasT_6 (Or.inl q293) zfo_18 ?_
    refine si_hv (pc := 9) (n := 0) hE dX4_hasT_9 ⟨cal_V (recvO cls18) (eJ2_size g) (Or.inl ⟨rfl, rfl⟩) q501 q139 q999 q499 q500 ⟨by decide +kernel, by decide +kernel⟩ nJ2_size (by decide) (by decide), trivial⟩ (si_out hE rfl) ?_
    refine si_icmp_ge (pc := 12) hE dX4_hasT_12 (by decide) h233 ?_
    refine si_aload_n (pc := 15) hE dX4_hasT_15 rfl ?_
    refine si_gR (pc := 16) hE dX4_hasT_16 (Or.inl q293) zfo_18 ?_
    refine si_iload_n (pc := 19) hE dX4_hasT_19 rfl ?_
    refine si_hv (pc := 20) (n := 1) hE dX4_hasT_20 ⟨cal_V (recvO cls18) (eJ2_get g) (Or.inl ⟨rfl, rfl⟩) q980 q139 q998 q978 q979 ⟨by decide +kernel, by decide +kernel⟩ nJ2_get (by decide) (by decide), trivial⟩ (si_out hE rfl) ?_
    refine si_cast (pc := 23) hE dX4_hasT_23 q1029 zco_2 ?_
    refine si_astore_n (pc := 26) hE dX4_hasT_26 rfl (by decide) ?_
    refine si_iload_n (pc := 27) hE dX4_hasT_27 rfl ?_
    refine si_aload_n (pc := 28) hE dX4_hasT_28 rfl ?_
    refine si_hv (pc := 29) (n := 0) hE dX4_hasT_29 ⟨cal_U (x := xm_9) (recvO cls6) (eX14_sets g) (Or.inl ⟨rfl, rfl⟩) q1135 q164 q1548 q1128 (Or.inr ⟨_, _, _, q1127, q1139⟩) ⟨by decide +kernel, by decide +kernel⟩ q1136 q1134 xp_9 (by decide) (by decide), ⟨cal_U (x := xm_9) (recvO cls7) (eX14_sets g) (Or.inl ⟨rfl, rfl⟩) q1135 q164 q1548 q1128 (Or.inr ⟨_, _, _, q1127, q1139⟩) ⟨by decide +kernel, by decide +kernel⟩ q1133 q1134 xp_9 (by decide) (by decide), ⟨cal_V (recvO cls8) (eX6_sets g) (Or.inl ⟨rfl, rfl⟩) q1139 q156 q1548 q1127 q1138 ⟨by decide +kernel, by decide +kernel⟩ nX6_sets (by decide) (by decide), ⟨cal_V (recvO cls9) (eX6_sets g) (Or.inl ⟨rfl, rfl⟩) q1139 q156 q1548 q1127 q1137 ⟨by decide +kernel, by decide +kernel⟩ nX6_sets (by decide) (by decide), ⟨cal_V (recvO cls10) (eX6_sets g) (Or.inl ⟨rfl, rfl⟩) q1139 q156 q1548 q1127 q1129 ⟨by decide +kernel, by decide +kernel⟩ nX6_sets (by decide) (by decide), ⟨cal_V (recvO cls11) (eX6_sets g) (Or.inl ⟨rfl, rfl⟩) q1139 q156 q1548 q1127 q1130 ⟨by decide +kernel, by decide +kernel⟩ nX6_sets (by decide) (by decide), ⟨cal_V (recvO cls12) (eX6_sets g) (Or.inl ⟨rfl, rfl⟩) q1139 q156 q1548 q1127 q1131 ⟨by decide +kernel, by decide +kernel⟩ nX6_sets (by decide) (by decide), ⟨cal_V (recvO cls13) (eX6_sets g) (Or.inl ⟨rfl, rfl⟩) q1139 q156 q1548 q1127 q1132 ⟨by decide +kernel, by decide +kernel⟩ nX6_sets (by decide) (by decide), trivial⟩⟩⟩⟩⟩⟩⟩⟩ (si_out hE rfl) ?_
    refine si_bipush (pc := 32) hE dX4_hasT_32 (by decide) ?_
    refine si_icmp_le (pc := 34) hE dX4_hasT_34 (by decide) (h41 J4 hJ4) ?_
    refine si_iconst (pc := 37) hE dX4_hasT_37 (by decide) ?_
    exact si_goto (pc := 38) hE dX4_hasT_38 (by decide) (h42 J4 hJ4)
  have h0 : E (bX4_hasT_0 g.2.1 R) 0 := by
    unfold bX4_hasT_0
    refine si_iconst (pc := 0) hE dX4_hasT_0 (by decide) ?_
    refine si_istore_n (pc := 1) hE dX4_hasT_1 rfl (by decide) ?_
    refine si_iconst (pc := 2) hE dX4_hasT_2 (by decide) ?_
    refine si_istore_n (pc := 3) hE dX4_hasT_3 rfl (by decide) ?_
    exact (si_kill hE h4)
  exact h0
def bX1_put_2_21 (κ : Nat → Option Nat) (R : Ret AH) : Cont AH :=
    o_al 0 <|
    o_dup <|
    o_gI 2 [2] <|
    o_ic 1 <|
    o_iadd <|
    o_pI 2 [2] <|
    o_return R
def bX1_put_2_0 (κ : Nat → Option Nat) (R : Ret AH) : Cont AH :=
    o_al 0 <|
    o_gI 2 [2] <|
    o_ic 3000 <|
    o_icmp_ge (bX1_put_2_21 κ R) <|
    o_al 0 <|
    o_gR 0 [2] <|
    o_al 0 <|
    o_gI 2 [2] <|
    o_il 1 <|
    o_i2b <|
    o_sB <|
    (bX1_put_2_21 κ R)
def pX1_put_2 (κ : Nat → Option Nat) : PT AH := fun as σ Q => (lg_sl as).length ≤ 2 ∧ bX1_put_2_0 κ Q (entP 2 as) [] σ
theorem nX1_put_2 : parN yX1_put_2 1 := by unfold parN; decide +kernel
set_option maxHeartbeats 4000000 in
theorem eX1_put_2 (g : GC) : CT (wC g) yX1_put_2 (Cond.code yX1_put_2 cX1_put_2 2 none) 0 0 (pX1_put_2 g.2.1) := by
  refine CT.of (wC_ok g) (cc := cX1_put_2) (nL := 2) (ret := none) (ht := []) (by decide +kernel) (Or.inl ⟨rfl, rfl⟩) (B := bX1_put_2_0 g.2.1) (fun R E X hE => ?_)
  have h21 : E (bX1_put_2_21 g.2.1 R) 21 := by
    unfold bX1_put_2_21
    refine si_aload_n (pc := 21) hE dX1_put_2_21 rfl ?_
    refine si_dup (pc := 22) hE dX1_put_2_22 ?_
    refine si_gI (pc := 23) hE dX1_put_2_23 (Or.inl q193) zfo_83 ?_
    refine si_iconst (pc := 26) hE dX1_put_2_26 (by decide) ?_
    refine si_iadd (pc := 27) hE dX1_put_2_27 ?_
    refine si_pI (pc := 28) hE dX1_put_2_28 (Or.inl q193) zfo_83 ?_
    exact si_return (pc := 31) hE dX1_put_2_31
  have h0 : E (bX1_put_2_0 g.2.1 R) 0 := by
    unfold bX1_put_2_0
    refine si_aload_n (pc := 0) hE dX1_put_2_0 rfl ?_
    refine si_gI (pc := 1) hE dX1_put_2_1 (Or.inl q193) zfo_83 ?_
    refine si_sipush (pc := 4) hE dX1_put_2_4 (by decide) ?_
    refine si_icmp_ge (pc := 7) hE dX1_put_2_7 (by decide) h21 ?_
    refine si_aload_n (pc := 10) hE dX1_put_2_10 rfl ?_
    refine si_gR (pc := 11) hE dX1_put_2_11 (Or.inl q190) zfo_10 ?_
    refine si_aload_n (pc := 14) hE dX1_put_2_14 rfl ?_
    refine si_gI (pc := 15) hE dX1_put_2_15 (Or.inl q193) zfo_83 ?_
    refine si_iload_n (pc := 18) hE dX1_put_2_18 rfl ?_
    refine si_i2b (pc := 19) hE dX1_put_2_19 ?_
    refine si_bastore (pc := 20) hE dX1_put_2_20 ?_
    exact h21
  exact h0
def bX1_put_25 (κ : Nat → Option Nat) (R : Ret AH) : Cont AH :=
    o_al 0 <|
    o_areturn R
def bX1_put_2 (κ : Nat → Option Nat) (R : Ret AH) : Cont AH :=
    fixC fun J2 =>
    o_il 2 <|
    o_al 1 <|
    o_call 1 (hvc [(61, pJ3_length κ)]) (fun _ a σ => R (.inr a) σ) <|
    o_icmp_ge (bX1_put_25 κ R) <|
    o_al 0 <|
    o_al 1 <|
    o_il 2 <|
    o_call 2 (hvc [(61, pJ3_charAt κ)]) (fun _ a σ => R (.inr a) σ) <|
    o_call 2 (hvc [(2, pX1_put_2 κ)]) (fun _ a σ => R (.inr a) σ) <|
    o_iinc 2 1 <|
    J2
def bX1_put_0 (κ : Nat → Option Nat) (R : Ret AH) : Cont AH :=
    o_ic 0 <|
    o_is 2 <|
    (bX1_put_2 κ R)
def pX1_put (κ : Nat → Option Nat) : PT AH := fun as σ Q => (lg_sl as).length ≤ 3 ∧ bX1_put_0 κ Q (entP 3 as) [] σ
theorem nX1_put : parN yX1_put 1 := by unfold parN; decide +kernel
set_option maxHeartbeats 4000000 in
theorem eX1_put (g : GC) : CT (wC g) yX1_put (Cond.code yX1_put cX1_put 3 (some (.object "LateAndEarly$Text"))) 4 85 (pX1_put g.2.1) := by
  refine CT.of (wC_ok g) (cc := cX1_put) (nL := 3) (ret := (some (.object "LateAndEarly$Text"))) (ht := []) (by decide +kernel) (Or.inl ⟨rfl, rfl⟩) (B := bX1_put_0 g.2.1) (fun R E X hE => ?_)
  have h25 : E (bX1_put_25 g.2.1 R) 25 := by
    unfold bX1_put_25
    refine si_aload_n (pc := 25) hE dX1_put_25 rfl ?_
    exact si_areturn (pc := 26) hE (Or.inl ⟨_, rfl⟩) dX1_put_26
  have h2 : E (bX1_put_2 g.2.1 R) 2 := by
    unfold bX1_put_2
    refine si_fix hE (fun J2 hJ2 => ?_)
    refine si_iload_n (pc := 2) hE dX1_put_2 rfl ?_
    refine si_aload_n (pc := 3) hE dX1_put_3 rfl ?_
    refine si_hv (pc := 4) (n := 0) hE dX1_put_4 ⟨cal_V recv61 (eJ3_length g) (Or.inl ⟨rfl, rfl⟩) q425 q140 q1577 q423 q424 ⟨by decide +kernel, by decide +kernel⟩ nJ3_length (by decide) (by decide), trivial⟩ (si_out hE rfl) ?_
    refine si_icmp_ge (pc := 7) hE dX1_put_7 (by decide) h25 ?_
    refine si_aload_n (pc := 10) hE dX1_put_10 rfl ?_
    refine si_aload_n (pc := 11) hE dX1_put_11 rfl ?_
    refine si_iload_n (pc := 12) hE dX1_put_12 rfl ?_
    refine si_hv (pc := 13) (n := 1) hE dX1_put_13 ⟨cal_V recv61 (eJ3_charAt g) (Or.inl ⟨rfl, rfl⟩) q684 q140 q1578 q682 q683 ⟨by decide +kernel, by decide +kernel⟩ nJ3_charAt (by decide) (by decide), trivial⟩ (si_out hE rfl) ?_
    refine si_hv (pc := 16) (n := 1) hE dX1_put_16 ⟨cal_V (recvO cls1) (eX1_put_2 g) (Or.inl ⟨rfl, rfl⟩) q1582 q133 q1579 q1581 qs44 ⟨by decide +kernel, by decide +kernel⟩ nX1_put_2 (by decide) (by decide), trivial⟩ (si_out hE rfl) ?_
    refine si_iinc (pc := 19) hE dX1_put_19 (by decide) (by decide) ?_
    exact si_goto (pc := 22) hE dX1_put_22 (by decide) hJ2
  have h0 : E (bX1_put_0 g.2.1 R) 0 := by
    unfold bX1_put_0
    refine si_iconst (pc := 0) hE dX1_put_0 (by decide) ?_
    refine si_istore_n (pc := 1) hE dX1_put_1 rfl (by decide) ?_
    exact h2
  exact h0
def bX1_put_3_59 (κ : Nat → Option Nat) (R : Ret AH) : Cont AH :=
    o_al 0 <|
    o_areturn R
def bX1_put_3_33 (κ : Nat → Option Nat) (R : Ret AH) : Cont AH :=
    fixC fun J33 =>
    o_il 3 <|
    o_if_le (bX1_put_3_59 κ R) <|
    o_al 0 <|
    o_ic 48 <|
    o_il 2 <|
    o_il 3 <|
    o_idiv <|
    o_ic 10 <|
    o_irem <|
    o_iadd <|
    o_i2c <|
    o_call 2 (hvc [(2, pX1_put_2 κ)]) (fun _ a σ => R (.inr a) σ) <|
    o_il 3 <|
    o_ic 10 <|
    o_idiv <|
    o_is 3 <|
    (o_kill [1] J33)
def bX1_put_3_17 (κ : Nat → Option Nat) (R : Ret AH) : Cont AH :=
    fixC fun J17 =>
    o_il 2 <|
    o_il 3 <|
    o_idiv <|
    o_ic 9 <|
    o_icmp_le (o_kill [1] (bX1_put_3_33 κ R)) <|
    o_il 3 <|
    o_ic 10 <|
    o_imul <|
    o_is 3 <|
    (o_kill [1] J17)
def bX1_put_3_10 (κ : Nat → Option Nat) (R : Ret AH) : Cont AH :=
    o_il 1 <|
    o_mabs <|
    o_is 2 <|
    o_ic 1 <|
    o_is 3 <|
    (o_kill [1] (bX1_put_3_17 κ R))
def bX1_put_3_0 (κ : Nat → Option Nat) (R : Ret AH) : Cont AH :=
    o_il 1 <|
    o_if_ge (bX1_put_3_10 κ R) <|
    o_al 0 <|
    o_ic 45 <|
    o_call 2 (hvc [(2, pX1_put_2 κ)]) (fun _ a σ => R (.inr a) σ) <|
    (bX1_put_3_10 κ R)
def pX1_put_3 (κ : Nat → Option Nat) : PT AH := fun as σ Q => (lg_sl as).length ≤ 4 ∧ bX1_put_3_0 κ Q (entP 4 as) [] σ
theorem nX1_put_3 : parN yX1_put_3 1 := by unfold parN; decide +kernel
set_option maxHeartbeats 4000000 in
theorem eX1_put_3 (g : GC) : CT (wC g) yX1_put_3 (Cond.code yX1_put_3 cX1_put_3 4 (some (.object "LateAndEarly$Text"))) 1 21 (pX1_put_3 g.2.1) := by
  refine CT.of (wC_ok g) (cc := cX1_put_3) (nL := 4) (ret := (some (.object "LateAndEarly$Text"))) (ht := []) (by decide +kernel) (Or.inl ⟨rfl, rfl⟩) (B := bX1_put_3_0 g.2.1) (fun R E X hE => ?_)
  have h59 : E (bX1_put_3_59 g.2.1 R) 59 := by
    unfold bX1_put_3_59
    refine si_aload_n (pc := 59) hE dX1_put_3_59 rfl ?_
    exact si_areturn (pc := 60) hE (Or.inl ⟨_, rfl⟩) dX1_put_3_60
  have h33 : E (bX1_put_3_33 g.2.1 R) 33 := by
    unfold bX1_put_3_33
    refine si_fix hE (fun J33 hJ33 => ?_)
    refine si_iload_n (pc := 33) hE dX1_put_3_33 rfl ?_
    refine si_if_le (pc := 34) hE dX1_put_3_34 (by decide) h59 ?_
    refine si_aload_n (pc := 37) hE dX1_put_3_37 rfl ?_
    refine si_bipush (pc := 38) hE dX1_put_3_38 (by decide) ?_
    refine si_iload_n (pc := 40) hE dX1_put_3_40 rfl ?_
    refine si_iload_n (pc := 41) hE dX1_put_3_41 rfl ?_
    refine si_idiv (pc := 42) hE dX1_put_3_42 ?_
    refine si_bipush (pc := 43) hE dX1_put_3_43 (by decide) ?_
    refine si_irem (pc := 45) hE dX1_put_3_45 ?_
    refine si_iadd (pc := 46) hE dX1_put_3_46 ?_
    refine si_i2c (pc := 47) hE dX1_put_3_47 ?_
    refine si_hv (pc := 48) (n := 1) hE dX1_put_3_48 ⟨cal_V (recvO cls1) (eX1_put_2 g) (Or.inl ⟨rfl, rfl⟩) q1582 q133 q1579 q1581 qs44 ⟨by decide +kernel, by decide +kernel⟩ nX1_put_2 (by decide) (by decide), trivial⟩ (si_out hE rfl) ?_
    refine si_iload_n (pc := 51) hE dX1_put_3_51 rfl ?_
    refine si_bipush (pc := 52) hE dX1_put_3_52 (by decide) ?_
    refine si_idiv (pc := 54) hE dX1_put_3_54 ?_
    refine si_istore_n (pc := 55) hE dX1_put_3_55 rfl (by decide) ?_
    exact si_goto (pc := 56) hE dX1_put_3_56 (by decide) (si_kill hE hJ33)
  have h17 : E (bX1_put_3_17 g.2.1 R) 17 := by
    unfold bX1_put_3_17
    refine si_fix hE (fun J17 hJ17 => ?_)
    refine si_iload_n (pc := 17) hE dX1_put_3_17 rfl ?_
    refine si_iload_n (pc := 18) hE dX1_put_3_18 rfl ?_
    refine si_idiv (pc := 19) hE dX1_put_3_19 ?_
    refine si_bipush (pc := 20) hE dX1_put_3_20 (by decide) ?_
    refine si_icmp_le (pc := 22) hE dX1_put_3_22 (by decide) (si_kill hE h33) ?_
    refine si_iload_n (pc := 25) hE dX1_put_3_25 rfl ?_
    refine si_bipush (pc := 26) hE dX1_put_3_26 (by decide) ?_
    refine si_imul (pc := 28) hE dX1_put_3_28 ?_
    refine si_istore_n (pc := 29) hE dX1_put_3_29 rfl (by decide) ?_
    exact si_goto (pc := 30) hE dX1_put_3_30 (by decide) (si_kill hE hJ17)
  have h10 : E (bX1_put_3_10 g.2.1 R) 10 := by
    unfold bX1_put_3_10
    refine si_iload_n (pc := 10) hE dX1_put_3_10 rfl ?_
    refine si_mabs (pc := 11) hE dX1_put_3_11 q1587 q1588 q142 q1589 (by decide) (by decide) ?_
    refine si_istore_n (pc := 14) hE dX1_put_3_14 rfl (by decide) ?_
    refine si_iconst (pc := 15) hE dX1_put_3_15 (by decide) ?_
    refine si_istore_n (pc := 16) hE dX1_put_3_16 rfl (by decide) ?_
    exact (si_kill hE h17)
  have h0 : E (bX1_put_3_0 g.2.1 R) 0 := by
    unfold bX1_put_3_0
    refine si_iload_n (pc := 0) hE dX1_put_3_0 rfl ?_
    refine si_if_ge (pc := 1) hE dX1_put_3_1 (by decide) h10 ?_
    refine si_aload_n (pc := 4) hE dX1_put_3_4 rfl ?_
    refine si_bipush (pc := 5) hE dX1_put_3_5 (by decide) ?_
    refine si_hv (pc := 7) (n := 1) hE dX1_put_3_7 ⟨cal_V (recvO cls1) (eX1_put_2 g) (Or.inl ⟨rfl, rfl⟩) q1582 q133 q1579 q1581 qs44 ⟨by decide +kernel, by decide +kernel⟩ nX1_put_2 (by decide) (by decide), trivial⟩ (si_out hE rfl) ?_
    exact h10
  exact h0
def bX1_head_0 (κ : Nat → Option Nat) (R : Ret AH) : Cont AH :=
    o_al 0 <|
    o_cst κ 6 <|
    o_call 2 (hvc [(2, pX1_put κ)]) (fun _ a σ => R (.inr a) σ) <|
    o_il 1 <|
    o_call 2 (hvc [(2, pX1_put_3 κ)]) (fun _ a σ => R (.inr a) σ) <|
    o_cst κ 7 <|
    o_call 2 (hvc [(2, pX1_put κ)]) (fun _ a σ => R (.inr a) σ) <|
    o_pop <|
    o_return R
def pX1_head (κ : Nat → Option Nat) : PT AH := fun as σ Q => (lg_sl as).length ≤ 2 ∧ bX1_head_0 κ Q (entP 2 as) [] σ
theorem nX1_head : parN yX1_head 1 := by unfold parN; decide +kernel
set_option maxHeartbeats 4000000 in
theorem eX1_head (g : GC) : CT (wC g) yX1_head (Cond.code yX1_head cX1_head 2 none) 5 107 (pX1_head g.2.1) := by
  refine CT.of (wC_ok g) (cc := cX1_head) (nL := 2) (ret := none) (ht := []) (by decide +kernel) (Or.inl ⟨rfl, rfl⟩) (B := bX1_head_0 g.2.1) (fun R E X hE => ?_)
  have h0 : E (bX1_head_0 g.2.1 R) 0 := by
    unfold bX1_head_0
    refine si_aload_n (pc := 0) hE dX1_head_0 rfl ?_
    refine si_ldcS (pc := 1) (k := 6) hE dX1_head_1 rfl ?_
    refine si_hv (pc := 3) (n := 1) hE dX1_head_3 ⟨cal_V (recvO cls1) (eX1_put g) (Or.inl ⟨rfl, rfl⟩) q1576 q133 q1573 q1575 qs43 ⟨by decide +kernel, by decide +kernel⟩ nX1_put (by decide) (by decide), trivial⟩ (si_out hE rfl) ?_
    refine si_iload_n (pc := 6) hE dX1_head_6 rfl ?_
    refine si_hv (pc := 7) (n := 1) hE dX1_head_7 ⟨cal_V (recvO cls1) (eX1_put_3 g) (Or.inl ⟨rfl, rfl⟩) q1586 q133 q1583 q1585 qs45 ⟨by decide +kernel, by decide +kernel⟩ nX1_put_3 (by decide) (by decide), trivial⟩ (si_out hE rfl) ?_
    refine si_ldcS (pc := 10) (k := 7) hE dX1_head_10 rfl ?_
    refine si_hv (pc := 12) (n := 1) hE dX1_head_12 ⟨cal_V (recvO cls1) (eX1_put g) (Or.inl ⟨rfl, rfl⟩) q1576 q133 q1573 q1575 qs43 ⟨by decide +kernel, by decide +kernel⟩ nX1_put (by decide) (by decide), trivial⟩ (si_out hE rfl) ?_
    refine si_pop (pc := 15) hE dX1_head_15 ?_
    exact si_return (pc := 16) hE dX1_head_16
  exact h0
def bX1_name_32 (κ : Nat → Option Nat) (R : Ret AH) : Cont AH :=
    o_areturn R
def bX1_name_19 (κ : Nat → Option Nat) (R : Ret AH) : Cont AH :=
    o_al 0 <|
    o_cst κ 13 <|
    o_call 2 (hvc [(2, pX1_put κ)]) (fun _ a σ => R (.inr a) σ) <|
    o_il 1 <|
    o_ic 16 <|
    o_isub <|
    o_call 2 (hvc [(2, pX1_put_3 κ)]) (fun _ a σ => R (.inr a) σ) <|
    (bX1_name_32 κ R)
def bX1_name_0 (κ : Nat → Option Nat) (R : Ret AH) : Cont AH :=
    o_il 1 <|
    o_ic 16 <|
    o_icmp_ge (bX1_name_19 κ R) <|
    o_al 0 <|
    o_cst κ 12 <|
    o_call 2 (hvc [(2, pX1_put κ)]) (fun _ a σ => R (.inr a) σ) <|
    o_il 1 <|
    o_call 2 (hvc [(2, pX1_put_3 κ)]) (fun _ a σ => R (.inr a) σ) <|
    (bX1_name_32 κ R)
def pX1_name (κ : Nat → Option Nat) : PT AH := fun as σ Q => (lg_sl as).length ≤ 2 ∧ bX1_name_0 κ Q (entP 2 as) [] σ
theorem nX1_name : parN yX1_name 1 := by unfold parN; decide +kernel
set_option maxHeartbeats 4000000 in
theorem eX1_name (g : GC) : CT (wC g) yX1_name (Cond.code yX1_name cX1_name 2 (some (.object "LateAndEarly$Text"))) 5 107 (pX1_name g.2.1) := by
  refine CT.of (wC_ok g) (cc := cX1_name) (nL := 2) (ret := (some (.object "LateAndEarly$Text"))) (ht := []) (by decide +kernel) (Or.inl ⟨rfl, rfl⟩) (B := bX1_name_0 g.2.1) (fun R E X hE => ?_)
  have h32 : E (bX1_name_32 g.2.1 R) 32 := by
    unfold bX1_name_32
    exact si_areturn (pc := 32) hE (Or.inl ⟨_, rfl⟩) dX1_name_32
  have h19 : E (bX1_name_19 g.2.1 R) 19 := by
    unfold bX1_name_19
    refine si_aload_n (pc := 19) hE dX1_name_19 rfl ?_
    refine si_ldcS (pc := 20) (k := 13) hE dX1_name_20 rfl ?_
    refine si_hv (pc := 22) (n := 1) hE dX1_name_22 ⟨cal_V (recvO cls1) (eX1_put g) (Or.inl ⟨rfl, rfl⟩) q1576 q133 q1573 q1575 qs43 ⟨by decide +kernel, by decide +kernel⟩ nX1_put (by decide) (by decide), trivial⟩ (si_out hE rfl) ?_
    refine si_iload_n (pc := 25) hE dX1_name_25 rfl ?_
    refine si_bipush (pc := 26) hE dX1_name_26 (by decide) ?_
    refine si_isub (pc := 28) hE dX1_name_28 ?_
    refine si_hv (pc := 29) (n := 1) hE dX1_name_29 ⟨cal_V (recvO cls1) (eX1_put_3 g) (Or.inl ⟨rfl, rfl⟩) q1586 q133 q1583 q1585 qs45 ⟨by decide +kernel, by decide +kernel⟩ nX1_put_3 (by decide) (by decide), trivial⟩ (si_out hE rfl) ?_
    exact h32
  have h0 : E (bX1_name_0 g.2.1 R) 0 := by
    unfold bX1_name_0
    refine si_iload_n (pc := 0) hE dX1_name_0 rfl ?_
    refine si_bipush (pc := 1) hE dX1_name_1 (by decide) ?_
    refine si_icmp_ge (pc := 3) hE dX1_name_3 (by decide) h19 ?_
    refine si_aload_n (pc := 6) hE dX1_name_6 rfl ?_
    refine si_ldcS (pc := 7) (k := 12) hE dX1_name_7 rfl ?_
    refine si_hv (pc := 9) (n := 1) hE dX1_name_9 ⟨cal_V (recvO cls1) (eX1_put g) (Or.inl ⟨rfl, rfl⟩) q1576 q133 q1573 q1575 qs43 ⟨by decide +kernel, by decide +kernel⟩ nX1_put (by decide) (by decide), trivial⟩ (si_out hE rfl) ?_
    refine si_iload_n (pc := 12) hE dX1_name_12 rfl ?_
    refine si_hv (pc := 13) (n := 1) hE dX1_name_13 ⟨cal_V (recvO cls1) (eX1_put_3 g) (Or.inl ⟨rfl, rfl⟩) q1586 q133 q1583 q1585 qs45 ⟨by decide +kernel, by decide +kernel⟩ nX1_put_3 (by decide) (by decide), trivial⟩ (si_out hE rfl) ?_
    exact si_goto (pc := 16) hE dX1_name_16 (by decide) h32
  exact h0
def bX1_put_5_26 (κ : Nat → Option Nat) (R : Ret AH) : Cont AH :=
    o_areturn R
def bX1_put_5_18 (κ : Nat → Option Nat) (R : Ret AH) : Cont AH :=
    o_al 0 <|
    o_al 1 <|
    o_gI 1 [17] <|
    o_call 2 (hvc [(2, pX1_put_3 κ)]) (fun _ a σ => R (.inr a) σ) <|
    (bX1_put_5_26 κ R)
def bX1_put_5_0 (κ : Nat → Option Nat) (R : Ret AH) : Cont AH :=
    o_al 1 <|
    o_gI 0 [17] <|
    o_if_eq (bX1_put_5_18 κ R) <|
    o_al 0 <|
    o_al 1 <|
    o_gI 1 [17] <|
    o_call 2 (hvc [(2, pX1_name κ)]) (fun _ a σ => R (.inr a) σ) <|
    (bX1_put_5_26 κ R)
def pX1_put_5 (κ : Nat → Option Nat) : PT AH := fun as σ Q => (lg_sl as).length ≤ 2 ∧ bX1_put_5_0 κ Q (entP 2 as) [] σ
theorem nX1_put_5 : parN yX1_put_5 1 := by unfold parN; decide +kernel
set_option maxHeartbeats 4000000 in
theorem eX1_put_5 (g : GC) : CT (wC g) yX1_put_5 (Cond.code yX1_put_5 cX1_put_5 2 (some (.object "LateAndEarly$Text"))) 6 128 (pX1_put_5 g.2.1) := by
  refine CT.of (wC_ok g) (cc := cX1_put_5) (nL := 2) (ret := (some (.object "LateAndEarly$Text"))) (ht := []) (by decide +kernel) (Or.inl ⟨rfl, rfl⟩) (B := bX1_put_5_0 g.2.1) (fun R E X hE => ?_)
  have h26 : E (bX1_put_5_26 g.2.1 R) 26 := by
    unfold bX1_put_5_26
    exact si_areturn (pc := 26) hE (Or.inl ⟨_, rfl⟩) dX1_put_5_26
  have h18 : E (bX1_put_5_18 g.2.1 R) 18 := by
    unfold bX1_put_5_18
    refine si_aload_n (pc := 18) hE dX1_put_5_18 rfl ?_
    refine si_aload_n (pc := 19) hE dX1_put_5_19 rfl ?_
    refine si_gI (pc := 20) hE dX1_put_5_20 (Or.inr ⟨_, q730⟩) zfo_33 ?_
    refine si_hv (pc := 23) (n := 1) hE dX1_put_5_23 ⟨cal_V (recvO cls1) (eX1_put_3 g) (Or.inl ⟨rfl, rfl⟩) q1586 q133 q1583 q1585 qs45 ⟨by decide +kernel, by decide +kernel⟩ nX1_put_3 (by decide) (by decide), trivial⟩ (si_out hE rfl) ?_
    exact h26
  have h0 : E (bX1_put_5_0 g.2.1 R) 0 := by
    unfold bX1_put_5_0
    refine si_aload_n (pc := 0) hE dX1_put_5_0 rfl ?_
    refine si_gI (pc := 1) hE dX1_put_5_1 (Or.inr ⟨_, q726⟩) zfo_32 ?_
    refine si_if_eq (pc := 4) hE dX1_put_5_4 (by decide) h18 ?_
    refine si_aload_n (pc := 7) hE dX1_put_5_7 rfl ?_
    refine si_aload_n (pc := 8) hE dX1_put_5_8 rfl ?_
    refine si_gI (pc := 9) hE dX1_put_5_9 (Or.inr ⟨_, q730⟩) zfo_33 ?_
    refine si_hv (pc := 12) (n := 1) hE dX1_put_5_12 ⟨cal_V (recvO cls1) (eX1_name g) (Or.inl ⟨rfl, rfl⟩) q1617 q133 q1614 q1616 qs50 ⟨by decide +kernel, by decide +kernel⟩ nX1_name (by decide) (by decide), trivial⟩ (si_out hE rfl) ?_
    exact si_goto (pc := 15) hE dX1_put_5_15 (by decide) h26
  exact h0
def bX1_put_4_43 (κ : Nat → Option Nat) (R : Ret AH) : Cont AH :=
    o_al 0 <|
    o_al 1 <|
    o_call 1 (hvc [(15, pX19_first κ), (16, pX17_first κ)]) (fun _ a σ => R (.inr a) σ) <|
    o_call 2 (hvc [(2, pX1_put_5 κ)]) (fun _ a σ => R (.inr a) σ) <|
    o_cst κ 15 <|
    o_call 2 (hvc [(2, pX1_put κ)]) (fun _ a σ => R (.inr a) σ) <|
    o_pop <|
    o_al 0 <|
    o_al 1 <|
    o_call 1 (hvc [(15, pX19_sign κ), (16, pX17_sign κ)]) (fun _ a σ => R (.inr a) σ) <|
    o_i2c <|
    o_call 2 (hvc [(2, pX1_put_2 κ)]) (fun _ a σ => R (.inr a) σ) <|
    o_al 0 <|
    o_cst κ 15 <|
    o_call 2 (hvc [(2, pX1_put κ)]) (fun _ a σ => R (.inr a) σ) <|
    o_al 1 <|
    o_call 1 (hvc [(15, pX19_second κ), (16, pX17_second κ)]) (fun _ a σ => R (.inr a) σ) <|
    o_call 2 (hvc [(2, pX1_put_5 κ)]) (fun _ a σ => R (.inr a) σ) <|
    o_areturn R
def bX1_put_4_0 (κ : Nat → Option Nat) (R : Ret AH) : Cont AH :=
    o_al 1 <|
    o_inst [16] [15] <|
    o_if_eq (bX1_put_4_43 κ R) <|
    o_al 1 <|
    o_cast [16] <|
    o_as 2 <|
    o_al 0 <|
    o_cst κ 10 <|
    o_call 2 (hvc [(2, pX1_put κ)]) (fun _ a σ => R (.inr a) σ) <|
    o_al 2 <|
    o_gI 1 [16] <|
    o_call 2 (hvc [(2, pX1_put_3 κ)]) (fun _ a σ => R (.inr a) σ) <|
    o_cst κ 11 <|
    o_call 2 (hvc [(2, pX1_put κ)]) (fun _ a σ => R (.inr a) σ) <|
    o_al 2 <|
    o_gR 2 [16] <|
    o_call 2 (hvc [(2, pX1_put_5 κ)]) (fun _ a σ => R (.inr a) σ) <|
    o_cst κ 14 <|
    o_call 2 (hvc [(2, pX1_put κ)]) (fun _ a σ => R (.inr a) σ) <|
    o_areturn R
def pX1_put_4 (κ : Nat → Option Nat) : PT AH := fun as σ Q => (lg_sl as).length ≤ 3 ∧ bX1_put_4_0 κ Q (entP 3 as) [] σ
theorem nX1_put_4 : parN yX1_put_4 1 := by unfold parN; decide +kernel
set_option maxHeartbeats 4000000 in
theorem eX1_put_4 (g : GC) : CT (wC g) yX1_put_4 (Cond.code yX1_put_4 cX1_put_4 3 (some (.object "LateAndEarly$Text"))) 7 149 (pX1_put_4 g.2.1) := by
  refine CT.of (wC_ok g) (cc := cX1_put_4) (nL := 3) (ret := (some (.object "LateAndEarly$Text"))) (ht := []) (by decide +kernel) (Or.inl ⟨rfl, rfl⟩) (B := bX1_put_4_0 g.2.1) (fun R E X hE => ?_)
  have h43 : E (bX1_put_4_43 g.2.1 R) 43 := by
    unfold bX1_put_4_43
    refine si_aload_n (pc := 43) hE dX1_put_4_43 rfl ?_
    refine si_aload_n (pc := 44) hE dX1_put_4_44 rfl ?_
    refine si_hv (pc := 45) (n := 0) hE dX1_put_4_45 ⟨cal_U (x := xm_6) (recvO cls14) (eX19_first g) (Or.inl ⟨rfl, rfl⟩) q1151 q169 q1621 q1148 (Or.inl q1147) ⟨by decide +kernel, by decide +kernel⟩ q1149 q1150 xp_6 (by decide) (by decide), ⟨cal_U (x := xm_6) (recvO cls15) (eX17_first g) (Or.inl ⟨rfl, rfl⟩) q1154 q167 q1621 q1148 (Or.inl q1147) ⟨by decide +kernel, by decide +kernel⟩ q1152 q1153 xp_6 (by decide) (by decide), trivial⟩⟩ (si_out hE rfl) ?_
    refine si_hv (pc := 48) (n := 1) hE dX1_put_4_48 ⟨cal_V (recvO cls1) (eX1_put_5 g) (Or.inl ⟨rfl, rfl⟩) q1613 q133 q1610 q1612 qs49 ⟨by decide +kernel, by decide +kernel⟩ nX1_put_5 (by decide) (by decide), trivial⟩ (si_out hE rfl) ?_
    refine si_ldcS (pc := 51) (k := 15) hE dX1_put_4_51 rfl ?_
    refine si_hv (pc := 53) (n := 1) hE dX1_put_4_53 ⟨cal_V (recvO cls1) (eX1_put g) (Or.inl ⟨rfl, rfl⟩) q1576 q133 q1573 q1575 qs43 ⟨by decide +kernel, by decide +kernel⟩ nX1_put (by decide) (by decide), trivial⟩ (si_out hE rfl) ?_
    refine si_pop (pc := 56) hE dX1_put_4_56 ?_
    refine si_aload_n (pc := 57) hE dX1_put_4_57 rfl ?_
    refine si_aload_n (pc := 58) hE dX1_put_4_58 rfl ?_
    refine si_hv (pc := 59) (n := 0) hE dX1_put_4_59 ⟨cal_U (x := xm_13) (recvO cls14) (eX19_sign g) (Or.inl ⟨rfl, rfl⟩) q1311 q169 q1623 q1308 (Or.inl q1307) ⟨by decide +kernel, by decide +kernel⟩ q1309 q1310 xp_13 (by decide) (by decide), ⟨cal_U (x := xm_13) (recvO cls15) (eX17_sign g) (Or.inl ⟨rfl, rfl⟩) q1314 q167 q1623 q1308 (Or.inl q1307) ⟨by decide +kernel, by decide +kernel⟩ q1312 q1313 xp_13 (by decide) (by decide), trivial⟩⟩ (si_out hE rfl) ?_
    refine si_i2c (pc := 62) hE dX1_put_4_62 ?_
    refine si_hv (pc := 63) (n := 1) hE dX1_put_4_63 ⟨cal_V (recvO cls1) (eX1_put_2 g) (Or.inl ⟨rfl, rfl⟩) q1582 q133 q1579 q1581 qs44 ⟨by decide +kernel, by decide +kernel⟩ nX1_put_2 (by decide) (by decide), trivial⟩ (si_out hE rfl) ?_
    refine si_aload_n (pc := 66) hE dX1_put_4_66 rfl ?_
    refine si_ldcS (pc := 67) (k := 15) hE dX1_put_4_67 rfl ?_
    refine si_hv (pc := 69) (n := 1) hE dX1_put_4_69 ⟨cal_V (recvO cls1) (eX1_put g) (Or.inl ⟨rfl, rfl⟩) q1576 q133 q1573 q1575 qs43 ⟨by decide +kernel, by decide +kernel⟩ nX1_put (by decide) (by decide), trivial⟩ (si_out hE rfl) ?_
    refine si_aload_n (pc := 72) hE dX1_put_4_72 rfl ?_
    refine si_hv (pc := 73) (n := 0) hE dX1_put_4_73 ⟨cal_U (x := xm_5) (recvO cls14) (eX19_second g) (Or.inl ⟨rfl, rfl⟩) q1164 q169 q1624 q1161 (Or.inl q1160) ⟨by decide +kernel, by decide +kernel⟩ q1162 q1163 xp_5 (by decide) (by decide), ⟨cal_U (x := xm_5) (recvO cls15) (eX17_second g) (Or.inl ⟨rfl, rfl⟩) q1167 q167 q1624 q1161 (Or.inl q1160) ⟨by decide +kernel, by decide +kernel⟩ q1165 q1166 xp_5 (by decide) (by decide), trivial⟩⟩ (si_out hE rfl) ?_
    refine si_hv (pc := 76) (n := 1) hE dX1_put_4_76 ⟨cal_V (recvO cls1) (eX1_put_5 g) (Or.inl ⟨rfl, rfl⟩) q1613 q133 q1610 q1612 qs49 ⟨by decide +kernel, by decide +kernel⟩ nX1_put_5 (by decide) (by decide), trivial⟩ (si_out hE rfl) ?_
    exact si_areturn (pc := 79) hE (Or.inl ⟨_, rfl⟩) dX1_put_4_79
  have h0 : E (bX1_put_4_0 g.2.1 R) 0 := by
    unfold bX1_put_4_0
    refine si_aload_n (pc := 0) hE dX1_put_4_0 rfl ?_
    refine si_inst (pc := 1) hE dX1_put_4_1 q1607 zco_4 zno_2 ?_
    refine si_if_eq (pc := 4) hE dX1_put_4_4 (by decide) h43 ?_
    refine si_aload_n (pc := 7) hE dX1_put_4_7 rfl ?_
    refine si_cast (pc := 8) hE dX1_put_4_8 q1607 zco_4 ?_
    refine si_astore_n (pc := 11) hE dX1_put_4_11 rfl (by decide) ?_
    refine si_aload_n (pc := 12) hE dX1_put_4_12 rfl ?_
    refine si_ldcS (pc := 13) (k := 10) hE dX1_put_4_13 rfl ?_
    refine si_hv (pc := 15) (n := 1) hE dX1_put_4_15 ⟨cal_V (recvO cls1) (eX1_put g) (Or.inl ⟨rfl, rfl⟩) q1576 q133 q1573 q1575 qs43 ⟨by decide +kernel, by decide +kernel⟩ nX1_put (by decide) (by decide), trivial⟩ (si_out hE rfl) ?_
    refine si_aload_n (pc := 18) hE dX1_put_4_18 rfl ?_
    refine si_gI (pc := 19) hE dX1_put_4_19 (Or.inr ⟨_, q893⟩) zfo_46 ?_
    refine si_hv (pc := 22) (n := 1) hE dX1_put_4_22 ⟨cal_V (recvO cls1) (eX1_put_3 g) (Or.inl ⟨rfl, rfl⟩) q1586 q133 q1583 q1585 qs45 ⟨by decide +kernel, by decide +kernel⟩ nX1_put_3 (by decide) (by decide), trivial⟩ (si_out hE rfl) ?_
    refine si_ldcS (pc := 25) (k := 11) hE dX1_put_4_25 rfl ?_
    refine si_hv (pc := 27) (n := 1) hE dX1_put_4_27 ⟨cal_V (recvO cls1) (eX1_put g) (Or.inl ⟨rfl, rfl⟩) q1576 q133 q1573 q1575 qs43 ⟨by decide +kernel, by decide +kernel⟩ nX1_put (by decide) (by decide), trivial⟩ (si_out hE rfl) ?_
    refine si_aload_n (pc := 30) hE dX1_put_4_30 rfl ?_
    refine si_gR (pc := 31) hE dX1_put_4_31 (Or.inr ⟨_, q896⟩) zfo_47 ?_
    refine si_hv (pc := 34) (n := 1) hE dX1_put_4_34 ⟨cal_V (recvO cls1) (eX1_put_5 g) (Or.inl ⟨rfl, rfl⟩) q1613 q133 q1610 q1612 qs49 ⟨by decide +kernel, by decide +kernel⟩ nX1_put_5 (by decide) (by decide), trivial⟩ (si_out hE rfl) ?_
    refine si_ldcS (pc := 37) (k := 14) hE dX1_put_4_37 rfl ?_
    refine si_hv (pc := 39) (n := 1) hE dX1_put_4_39 ⟨cal_V (recvO cls1) (eX1_put g) (Or.inl ⟨rfl, rfl⟩) q1576 q133 q1573 q1575 qs43 ⟨by decide +kernel, by decide +kernel⟩ nX1_put (by decide) (by decide), trivial⟩ (si_out hE rfl) ?_
    exact si_areturn (pc := 42) hE (Or.inl ⟨_, rfl⟩) dX1_put_4_42
  exact h0
def bX1_ends_0 (κ : Nat → Option Nat) (R : Ret AH) : Cont AH :=
    o_al 0 <|
    o_cst κ 16 <|
    o_call 2 (hvc [(2, pX1_put κ)]) (fun _ a σ => R (.inr a) σ) <|
    o_pop <|
    o_return R
def pX1_ends (κ : Nat → Option Nat) : PT AH := fun as σ Q => (lg_sl as).length ≤ 1 ∧ bX1_ends_0 κ Q (entP 1 as) [] σ
theorem nX1_ends : parN yX1_ends 0 := by unfold parN; decide +kernel
set_option maxHeartbeats 4000000 in
theorem eX1_ends (g : GC) : CT (wC g) yX1_ends (Cond.code yX1_ends cX1_ends 1 none) 5 107 (pX1_ends g.2.1) := by
  refine CT.of (wC_ok g) (cc := cX1_ends) (nL := 1) (ret := none) (ht := []) (by decide +kernel) (Or.inl ⟨rfl, rfl⟩) (B := bX1_ends_0 g.2.1) (fun R E X hE => ?_)
  have h0 : E (bX1_ends_0 g.2.1 R) 0 := by
    unfold bX1_ends_0
    refine si_aload_n (pc := 0) hE dX1_ends_0 rfl ?_
    refine si_ldcS (pc := 1) (k := 16) hE dX1_ends_1 rfl ?_
    refine si_hv (pc := 3) (n := 1) hE dX1_ends_3 ⟨cal_V (recvO cls1) (eX1_put g) (Or.inl ⟨rfl, rfl⟩) q1576 q133 q1573 q1575 qs43 ⟨by decide +kernel, by decide +kernel⟩ nX1_put (by decide) (by decide), trivial⟩ (si_out hE rfl) ?_
    refine si_pop (pc := 6) hE dX1_ends_6 ?_
    exact si_return (pc := 7) hE dX1_ends_7
  exact h0
def bX1_sets_84 (κ : Nat → Option Nat) (R : Ret AH) : Cont AH :=
    o_return R
def bX1_sets_78 (κ : Nat → Option Nat) (R : Ret AH) (J3 : Cont AH) : Cont AH :=
    o_iinc 4 1 <|
    (o_kill [5] J3)
def bX1_sets_51 (κ : Nat → Option Nat) (R : Ret AH) (J3 : Cont AH) : Cont AH :=
    o_al 0 <|
    o_cst κ 8 <|
    o_call 2 (hvc [(2, pX1_put κ)]) (fun _ a σ => R (.inr a) σ) <|
    o_al 5 <|
    o_gI 0 [15, 16] <|
    o_call 2 (hvc [(2, pX1_put_3 κ)]) (fun _ a σ => R (.inr a) σ) <|
    o_cst κ 9 <|
    o_call 2 (hvc [(2, pX1_put κ)]) (fun _ a σ => R (.inr a) σ) <|
    o_al 5 <|
    o_call 2 (hvc [(2, pX1_put_4 κ)]) (fun _ a σ => R (.inr a) σ) <|
    o_call 1 (hvc [(2, pX1_ends κ)]) (fun _ a σ => R (.inr a) σ) <|
    (bX1_sets_78 κ R J3)
def bX1_sets_3 (κ : Nat → Option Nat) (R : Ret AH) : Cont AH :=
    fixC fun J3 =>
    o_il 4 <|
    o_al 1 <|
    o_gR 2 [4] <|
    o_call 1 (hvc [(19, pJ2_size κ)]) (fun _ a σ => R (.inr a) σ) <|
    o_icmp_ge (bX1_sets_84 κ R) <|
    o_al 1 <|
    o_gR 2 [4] <|
    o_il 4 <|
    o_call 2 (hvc [(19, pJ2_get κ)]) (fun _ a σ => R (.inr a) σ) <|
    o_cast [15, 16] <|
    o_as 5 <|
    o_al 1 <|
    o_il 2 <|
    o_il 3 <|
    o_call 3 (hvc [(4, pX4_setAt κ)]) (fun _ a σ => R (.inr a) σ) <|
    o_al 5 <|
    o_gI 0 [15, 16] <|
    o_lshr <|
    o_lc 1 <|
    o_land <|
    o_lc 0 <|
    o_lcmp <|
    o_if_ne (bX1_sets_51 κ R J3) <|
    (bX1_sets_78 κ R J3)
def bX1_sets_0 (κ : Nat → Option Nat) (R : Ret AH) : Cont AH :=
    o_ic 0 <|
    o_is 4 <|
    (o_kill [5] (bX1_sets_3 κ R))
def pX1_sets (κ : Nat → Option Nat) : PT AH := fun as σ Q => (lg_sl as).length ≤ 6 ∧ bX1_sets_0 κ Q (entP 6 as) [] σ
theorem nX1_sets : parN yX1_sets 3 := by unfold parN; decide +kernel
set_option maxHeartbeats 4000000 in
theorem eX1_sets (g : GC) : CT (wC g) yX1_sets (Cond.code yX1_sets cX1_sets 6 none) 8 171 (pX1_sets g.2.1) := by
  refine CT.of (wC_ok g) (cc := cX1_sets) (nL := 6) (ret := none) (ht := []) (by decide +kernel) (Or.inl ⟨rfl, rfl⟩) (B := bX1_sets_0 g.2.1) (fun R E X hE => ?_)
  have h84 : E (bX1_sets_84 g.2.1 R) 84 := by
    unfold bX1_sets_84
    exact si_return (pc := 84) hE dX1_sets_84
  have h78 : ∀ (J3 : Cont AH) (hJ3 : E J3 3), E (bX1_sets_78 g.2.1 R J3) 78 := by
    intro J3 hJ3
    unfold bX1_sets_78
    refine si_iinc (pc := 78) hE dX1_sets_78 (by decide) (by decide) ?_
    exact si_goto (pc := 81) hE dX1_sets_81 (by decide) (si_kill hE hJ3)
  have h51 : ∀ (J3 : Cont AH) (hJ3 : E J3 3), E (bX1_sets_51 g.2.1 R J3) 51 := by
    intro J3 hJ3
    unfold bX1_sets_51
    refine si_aload_n (pc := 51) hE dX1_sets_51 rfl ?_
    refine si_ldcS (pc := 52) (k := 8) hE dX1_sets_52 rfl ?_
    refine si_hv (pc := 54) (n := 1) hE dX1_sets_54 ⟨cal_V (recvO cls1) (eX1_put g) (Or.inl ⟨rfl, rfl⟩) q1576 q133 q1573 q1575 qs43 ⟨by decide +kernel, by decide +kernel⟩ nX1_put (by decide) (by decide), trivial⟩ (si_out hE rfl) ?_
    refine si_aload (pc := 57) hE dX1_sets_57 ?_
    refine si_gI (pc := 59) hE dX1_sets_59 (Or.inr ⟨_, q900⟩) zfo_45 ?_
    refine si_hv (pc := 62) (n := 1) hE dX1_sets_62 ⟨cal_V (recvO cls1) (eX1_put_3 g) (Or.inl ⟨rfl, rfl⟩) q1586 q133 q1583 q1585 qs45 ⟨by decide +kernel, by decide +kernel⟩ nX1_put_3 (by decide) (by decide), trivial⟩ (si_out hE rfl) ?_
    refine si_ldcS (pc := 65) (k := 9) hE dX1_sets_65 rfl ?_
    refine si_hv (pc := 67) (n := 1) hE dX1_sets_67 ⟨cal_V (recvO cls1) (eX1_put g) (Or.inl ⟨rfl, rfl⟩) q1576 q133 q1573 q1575 qs43 ⟨by decide +kernel, by decide +kernel⟩ nX1_put (by decide) (by decide), trivial⟩ (si_out hE rfl) ?_
    refine si_aload (pc := 70) hE dX1_sets_70 ?_
    refine si_hv (pc := 72) (n := 1) hE dX1_sets_72 ⟨cal_V (recvO cls1) (eX1_put_4 g) (Or.inl ⟨rfl, rfl⟩) q1606 q133 q1603 q1605 qs48 ⟨by decide +kernel, by decide +kernel⟩ nX1_put_4 (by decide) (by decide), trivial⟩ (si_out hE rfl) ?_
    refine si_hv (pc := 75) (n := 0) hE dX1_sets_75 ⟨cal_V (recvO cls1) (eX1_ends g) (Or.inl ⟨rfl, rfl⟩) q1628 q133 q1625 q1627 qs51 ⟨by decide +kernel, by decide +kernel⟩ nX1_ends (by decide) (by decide), trivial⟩ (si_out hE rfl) ?_
    exact (h78 J3 hJ3)
  have h3 : E (bX1_sets_3 g.2.1 R) 3 := by
    unfold bX1_sets_3
    refine si_fix hE (fun J3 hJ3 => ?_)
    refine si_iload (pc := 3) hE dX1_sets_3 ?_
    refine si_aload_n (pc := 5) hE dX1_sets_5 rfl ?_
    refine si_gR (pc := 6) hE dX1_sets_6 (Or.inr ⟨_, q300⟩) zfo_19 ?_
    refine si_hv (pc := 9) (n := 0) hE dX1_sets_9 ⟨cal_V (recvO cls18) (eJ2_size g) (Or.inl ⟨rfl, rfl⟩) q501 q139 q1563 q499 q500 ⟨by decide +kernel, by decide +kernel⟩ nJ2_size (by decide) (by decide), trivial⟩ (si_out hE rfl) ?_
    refine si_icmp_ge (pc := 12) hE dX1_sets_12 (by decide) h84 ?_
    refine si_aload_n (pc := 15) hE dX1_sets_15 rfl ?_
    refine si_gR (pc := 16) hE dX1_sets_16 (Or.inr ⟨_, q300⟩) zfo_19 ?_
    refine si_iload (pc := 19) hE dX1_sets_19 ?_
    refine si_hv (pc := 21) (n := 1) hE dX1_sets_21 ⟨cal_V (recvO cls18) (eJ2_get g) (Or.inl ⟨rfl, rfl⟩) q980 q139 q1564 q978 q979 ⟨by decide +kernel, by decide +kernel⟩ nJ2_get (by decide) (by decide), trivial⟩ (si_out hE rfl) ?_
    refine si_cast (pc := 24) hE dX1_sets_24 q1600 zco_5 ?_
    refine si_astore (pc := 27) hE dX1_sets_27 (by decide) ?_
    refine si_aload_n (pc := 29) hE dX1_sets_29 rfl ?_
    refine si_iload_n (pc := 30) hE dX1_sets_30 rfl ?_
    refine si_iload_n (pc := 31) hE dX1_sets_31 rfl ?_
    refine si_hv (pc := 32) (n := 2) hE dX1_sets_32 ⟨cal_V (recvO cls3) (eX4_setAt g) (Or.inl ⟨rfl, rfl⟩) q1350 q136 q1567 q1348 q1349 ⟨by decide +kernel, by decide +kernel⟩ nX4_setAt (by decide) (by decide), trivial⟩ (si_out hE rfl) ?_
    refine si_aload (pc := 35) hE dX1_sets_35 ?_
    refine si_gI (pc := 37) hE dX1_sets_37 (Or.inr ⟨_, q900⟩) zfo_45 ?_
    refine si_lshr (pc := 40) hE dX1_sets_40 ?_
    refine si_lconst (pc := 41) hE dX1_sets_41 (by decide) ?_
    refine si_land (pc := 42) hE dX1_sets_42 ?_
    refine si_lconst (pc := 43) hE dX1_sets_43 (by decide) ?_
    refine si_lcmp (pc := 44) hE dX1_sets_44 ?_
    refine si_if_ne (pc := 45) hE dX1_sets_45 (by decide) (h51 J3 hJ3) ?_
    exact si_goto (pc := 48) hE dX1_sets_48 (by decide) (h78 J3 hJ3)
  have h0 : E (bX1_sets_0 g.2.1 R) 0 := by
    unfold bX1_sets_0
    refine si_iconst (pc := 0) hE dX1_sets_0 (by decide) ?_
    refine si_istore (pc := 1) hE dX1_sets_1 (by decide) ?_
    exact (si_kill hE h3)
  exact h0
def bX1_way_60 (κ : Nat → Option Nat) (R : Ret AH) : Cont AH :=
    o_call 2 (hvc [(2, pX1_put_3 κ)]) (fun _ a σ => R (.inr a) σ) <|
    o_areturn R
def bX1_way_55 (κ : Nat → Option Nat) (R : Ret AH) : Cont AH :=
    o_al 2 <|
    o_il 3 <|
    o_call 2 (hvc [(11, pX11_way κ), (12, pX12_way κ), (13, pX10_way κ)]) (fun _ a σ => R (.inr a) σ) <|
    (bX1_way_60 κ R)
def bX1_way_0 (κ : Nat → Option Nat) (R : Ret AH) : Cont AH :=
    o_al 2 <|
    o_gR 2 [11, 12, 13] <|
    o_il 3 <|
    o_call 2 (hvc [(19, pJ2_get κ)]) (fun _ a σ => R (.inr a) σ) <|
    o_cast [7, 8, 9, 10, 11, 12, 13, 14] <|
    o_as 4 <|
    o_al 0 <|
    o_cst κ 22 <|
    o_call 2 (hvc [(2, pX1_put κ)]) (fun _ a σ => R (.inr a) σ) <|
    o_al 4 <|
    o_call 1 (hvc [(7, pX15_kind κ), (8, pX18_kind κ), (9, pX13_kind κ), (10, pX7_kind κ), (11, pX11_kind κ), (12, pX12_kind κ), (13, pX10_kind κ), (14, pX20_kind κ)]) (fun _ a σ => R (.inr a) σ) <|
    o_ic 7 <|
    o_icmp_ne (bX1_way_55 κ R) <|
    o_al 0 <|
    o_gR 1 [2] <|
    o_al 4 <|
    o_gI 0 [7, 8, 9, 10, 11, 12, 13, 14] <|
    o_aI 100 <|
    o_if_le (bX1_way_55 κ R) <|
    o_al 0 <|
    o_gR 1 [2] <|
    o_al 4 <|
    o_gI 0 [7, 8, 9, 10, 11, 12, 13, 14] <|
    o_aI 100 <|
    (bX1_way_60 κ R)
def pX1_way (κ : Nat → Option Nat) : PT AH := fun as σ Q => (lg_sl as).length ≤ 5 ∧ bX1_way_0 κ Q (entP 5 as) [] σ
theorem nX1_way : parN yX1_way 3 := by unfold parN; decide +kernel
set_option maxHeartbeats 4000000 in
theorem eX1_way (g : GC) : CT (wC g) yX1_way (Cond.code yX1_way cX1_way 5 (some (.object "LateAndEarly$Text"))) 5 107 (pX1_way g.2.1) := by
  refine CT.of (wC_ok g) (cc := cX1_way) (nL := 5) (ret := (some (.object "LateAndEarly$Text"))) (ht := []) (by decide +kernel) (Or.inl ⟨rfl, rfl⟩) (B := bX1_way_0 g.2.1) (fun R E X hE => ?_)
  have h60 : E (bX1_way_60 g.2.1 R) 60 := by
    unfold bX1_way_60
    refine si_hv (pc := 60) (n := 1) hE dX1_way_60 ⟨cal_V (recvO cls1) (eX1_put_3 g) (Or.inl ⟨rfl, rfl⟩) q1586 q133 q1583 q1585 qs45 ⟨by decide +kernel, by decide +kernel⟩ nX1_put_3 (by decide) (by decide), trivial⟩ (si_out hE rfl) ?_
    exact si_areturn (pc := 63) hE (Or.inl ⟨_, rfl⟩) dX1_way_63
  have h55 : E (bX1_way_55 g.2.1 R) 55 := by
    unfold bX1_way_55
    refine si_aload_n (pc := 55) hE dX1_way_55 rfl ?_
    refine si_iload_n (pc := 56) hE dX1_way_56 rfl ?_
    refine si_hv (pc := 57) (n := 1) hE dX1_way_57 ⟨cal_U (x := xm_1) (recvO cls10) (eX11_way g) (Or.inl ⟨rfl, rfl⟩) q1018 q161 q1646 q1015 (Or.inl q1014) ⟨by decide +kernel, by decide +kernel⟩ q1016 q1017 xp_1 (by decide) (by decide), ⟨cal_U (x := xm_1) (recvO cls11) (eX12_way g) (Or.inl ⟨rfl, rfl⟩) q1021 q162 q1646 q1015 (Or.inl q1014) ⟨by decide +kernel, by decide +kernel⟩ q1019 q1020 xp_1 (by decide) (by decide), ⟨cal_U (x := xm_1) (recvO cls12) (eX10_way g) (Or.inl ⟨rfl, rfl⟩) q1024 q160 q1646 q1015 (Or.inl q1014) ⟨by decide +kernel, by decide +kernel⟩ q1022 q1023 xp_1 (by decide) (by decide), trivial⟩⟩⟩ (si_out hE rfl) ?_
    exact h60
  have h0 : E (bX1_way_0 g.2.1 R) 0 := by
    unfold bX1_way_0
    refine si_aload_n (pc := 0) hE dX1_way_0 rfl ?_
    refine si_gR (pc := 1) hE dX1_way_1 (Or.inl q760) zfo_82 ?_
    refine si_iload_n (pc := 4) hE dX1_way_4 rfl ?_
    refine si_hv (pc := 5) (n := 1) hE dX1_way_5 ⟨cal_V (recvO cls18) (eJ2_get g) (Or.inl ⟨rfl, rfl⟩) q980 q139 q1564 q978 q979 ⟨by decide +kernel, by decide +kernel⟩ nJ2_get (by decide) (by decide), trivial⟩ (si_out hE rfl) ?_
    refine si_cast (pc := 8) hE dX1_way_8 q1565 zco_2 ?_
    refine si_astore (pc := 11) hE dX1_way_11 (by decide) ?_
    refine si_aload_n (pc := 13) hE dX1_way_13 rfl ?_
    refine si_ldcS (pc := 14) (k := 22) hE dX1_way_14 rfl ?_
    refine si_hv (pc := 16) (n := 1) hE dX1_way_16 ⟨cal_V (recvO cls1) (eX1_put g) (Or.inl ⟨rfl, rfl⟩) q1576 q133 q1573 q1575 qs43 ⟨by decide +kernel, by decide +kernel⟩ nX1_put (by decide) (by decide), trivial⟩ (si_out hE rfl) ?_
    refine si_aload (pc := 19) hE dX1_way_19 ?_
    refine si_hv (pc := 21) (n := 0) hE dX1_way_21 ⟨cal_U (x := xm_12) (recvO cls6) (eX15_kind g) (Or.inl ⟨rfl, rfl⟩) q1289 q165 q1566 q1271 (Or.inl q1270) ⟨by decide +kernel, by decide +kernel⟩ q1287 q1288 xp_12 (by decide) (by decide), ⟨cal_U (x := xm_12) (recvO cls7) (eX18_kind g) (Or.inl ⟨rfl, rfl⟩) q1286 q168 q1566 q1271 (Or.inl q1270) ⟨by decide +kernel, by decide +kernel⟩ q1284 q1285 xp_12 (by decide) (by decide), ⟨cal_U (x := xm_12) (recvO cls8) (eX13_kind g) (Or.inl ⟨rfl, rfl⟩) q1295 q163 q1566 q1271 (Or.inl q1270) ⟨by decide +kernel, by decide +kernel⟩ q1293 q1294 xp_12 (by decide) (by decide), ⟨cal_U (x := xm_12) (recvO cls9) (eX7_kind g) (Or.inl ⟨rfl, rfl⟩) q1292 q157 q1566 q1271 (Or.inl q1270) ⟨by decide +kernel, by decide +kernel⟩ q1290 q1291 xp_12 (by decide) (by decide), ⟨cal_U (x := xm_12) (recvO cls10) (eX11_kind g) (Or.inl ⟨rfl, rfl⟩) q1274 q161 q1566 q1271 (Or.inl q1270) ⟨by decide +kernel, by decide +kernel⟩ q1272 q1273 xp_12 (by decide) (by decide), ⟨cal_U (x := xm_12) (recvO cls11) (eX12_kind g) (Or.inl ⟨rfl, rfl⟩) q1277 q162 q1566 q1271 (Or.inl q1270) ⟨by decide +kernel, by decide +kernel⟩ q1275 q1276 xp_12 (by decide) (by decide), ⟨cal_U (x := xm_12) (recvO cls12) (eX10_kind g) (Or.inl ⟨rfl, rfl⟩) q1280 q160 q1566 q1271 (Or.inl q1270) ⟨by decide +kernel, by decide +kernel⟩ q1278 q1279 xp_12 (by decide) (by decide), ⟨cal_U (x := xm_12) (recvO cls13) (eX20_kind g) (Or.inl ⟨rfl, rfl⟩) q1283 q171 q1566 q1271 (Or.inl q1270) ⟨by decide +kernel, by decide +kernel⟩ q1281 q1282 xp_12 (by decide) (by decide), trivial⟩⟩⟩⟩⟩⟩⟩⟩ (si_out hE rfl) ?_
    refine si_bipush (pc := 24) hE dX1_way_24 (by decide) ?_
    refine si_icmp_ne (pc := 26) hE dX1_way_26 (by decide) h55 ?_
    refine si_aload_n (pc := 29) hE dX1_way_29 rfl ?_
    refine si_gR (pc := 30) hE dX1_way_30 (Or.inl q192) zfo_11 ?_
    refine si_aload (pc := 33) hE dX1_way_33 ?_
    refine si_gI (pc := 35) hE dX1_way_35 (Or.inr ⟨_, q752⟩) zfo_55 ?_
    refine si_iaload (pc := 38) hE dX1_way_38 ?_
    refine si_if_le (pc := 39) hE dX1_way_39 (by decide) h55 ?_
    refine si_aload_n (pc := 42) hE dX1_way_42 rfl ?_
    refine si_gR (pc := 43) hE dX1_way_43 (Or.inl q192) zfo_11 ?_
    refine si_aload (pc := 46) hE dX1_way_46 ?_
    refine si_gI (pc := 48) hE dX1_way_48 (Or.inr ⟨_, q752⟩) zfo_55 ?_
    refine si_iaload (pc := 51) hE dX1_way_51 ?_
    exact si_goto (pc := 52) hE dX1_way_52 (by decide) h60
  exact h0
def bX1_node_326 (κ : Nat → Option Nat) (R : Ret AH) : Cont AH :=
    o_al 0 <|
    o_call 1 (hvc [(2, pX1_ends κ)]) (fun _ a σ => R (.inr a) σ) <|
    o_return R
def bX1_node_319 (κ : Nat → Option Nat) (R : Ret AH) : Cont AH :=
    o_al 0 <|
    o_cst κ 24 <|
    o_call 2 (hvc [(2, pX1_put κ)]) (fun _ a σ => R (.inr a) σ) <|
    o_pop <|
    (bX1_node_326 κ R)
def bX1_node_289 (κ : Nat → Option Nat) (R : Ret AH) : Cont AH :=
    o_al 3 <|
    o_inst [11] [7, 8, 9, 10, 12, 13, 14] <|
    o_if_eq (bX1_node_319 κ R) <|
    o_al 3 <|
    o_cast [11] <|
    o_as 9 <|
    o_al 0 <|
    o_cst κ 23 <|
    o_call 2 (hvc [(2, pX1_put κ)]) (fun _ a σ => R (.inr a) σ) <|
    o_al 1 <|
    o_al 9 <|
    o_ic 0 <|
    o_call 4 (hvc [(2, pX1_way κ)]) (fun _ a σ => R (.inr a) σ) <|
    o_pop <|
    (bX1_node_326 κ R)
def bX1_node_231 (κ : Nat → Option Nat) (R : Ret AH) : Cont AH :=
    o_al 3 <|
    o_inst [12] [7, 8, 9, 10, 11, 13, 14] <|
    o_if_eq (bX1_node_289 κ R) <|
    o_al 3 <|
    o_cast [12] <|
    o_as 8 <|
    o_al 0 <|
    o_cst κ 20 <|
    o_call 2 (hvc [(2, pX1_put κ)]) (fun _ a σ => R (.inr a) σ) <|
    o_al 8 <|
    o_gR 4 [12] <|
    o_call 2 (hvc [(2, pX1_put_5 κ)]) (fun _ a σ => R (.inr a) σ) <|
    o_cst κ 21 <|
    o_call 2 (hvc [(2, pX1_put κ)]) (fun _ a σ => R (.inr a) σ) <|
    o_al 8 <|
    o_gR 5 [12] <|
    o_call 2 (hvc [(2, pX1_put_5 κ)]) (fun _ a σ => R (.inr a) σ) <|
    o_al 1 <|
    o_al 8 <|
    o_ic 0 <|
    o_call 4 (hvc [(2, pX1_way κ)]) (fun _ a σ => R (.inr a) σ) <|
    o_al 1 <|
    o_al 8 <|
    o_ic 1 <|
    o_call 4 (hvc [(2, pX1_way κ)]) (fun _ a σ => R (.inr a) σ) <|
    o_pop <|
    (bX1_node_326 κ R)
def bX1_node_200 (κ : Nat → Option Nat) (R : Ret AH) : Cont AH :=
    o_al 3 <|
    o_inst [10] [7, 8, 9, 11, 12, 13, 14] <|
    o_if_eq (bX1_node_231 κ R) <|
    o_al 3 <|
    o_cast [10] <|
    o_as 7 <|
    o_al 0 <|
    o_cst κ 19 <|
    o_call 2 (hvc [(2, pX1_put κ)]) (fun _ a σ => R (.inr a) σ) <|
    o_al 7 <|
    o_gR 4 [10] <|
    o_call 2 (hvc [(2, pX1_put_5 κ)]) (fun _ a σ => R (.inr a) σ) <|
    o_pop <|
    (bX1_node_326 κ R)
def bX1_node_143 (κ : Nat → Option Nat) (R : Ret AH) : Cont AH :=
    o_al 3 <|
    o_inst [9] [7, 8, 10, 11, 12, 13, 14] <|
    o_if_eq (bX1_node_200 κ R) <|
    o_al 3 <|
    o_cast [9] <|
    o_as 6 <|
    o_al 0 <|
    o_cst κ 10 <|
    o_call 2 (hvc [(2, pX1_put κ)]) (fun _ a σ => R (.inr a) σ) <|
    o_al 6 <|
    o_gI 4 [9] <|
    o_call 2 (hvc [(2, pX1_put_3 κ)]) (fun _ a σ => R (.inr a) σ) <|
    o_cst κ 11 <|
    o_call 2 (hvc [(2, pX1_put κ)]) (fun _ a σ => R (.inr a) σ) <|
    o_al 6 <|
    o_gR 5 [9] <|
    o_call 2 (hvc [(2, pX1_put_5 κ)]) (fun _ a σ => R (.inr a) σ) <|
    o_cst κ 18 <|
    o_call 2 (hvc [(2, pX1_put κ)]) (fun _ a σ => R (.inr a) σ) <|
    o_al 6 <|
    o_gR 6 [9] <|
    o_call 2 (hvc [(2, pX1_put_5 κ)]) (fun _ a σ => R (.inr a) σ) <|
    o_pop <|
    (bX1_node_326 κ R)
def bX1_node_104 (κ : Nat → Option Nat) (R : Ret AH) : Cont AH :=
    o_al 3 <|
    o_inst [8] [7, 9, 10, 11, 12, 13, 14] <|
    o_if_eq (bX1_node_143 κ R) <|
    o_al 3 <|
    o_cast [8] <|
    o_as 5 <|
    o_al 0 <|
    o_al 5 <|
    o_gI 4 [8] <|
    o_call 2 (hvc [(2, pX1_name κ)]) (fun _ a σ => R (.inr a) σ) <|
    o_cst κ 9 <|
    o_call 2 (hvc [(2, pX1_put κ)]) (fun _ a σ => R (.inr a) σ) <|
    o_al 5 <|
    o_gR 5 [8] <|
    o_call 2 (hvc [(2, pX1_put_5 κ)]) (fun _ a σ => R (.inr a) σ) <|
    o_pop <|
    (bX1_node_326 κ R)
def bX1_node_91 (κ : Nat → Option Nat) (R : Ret AH) : Cont AH :=
    o_al 0 <|
    o_al 4 <|
    o_gR 5 [7] <|
    o_call 2 (hvc [(2, pX1_put_4 κ)]) (fun _ a σ => R (.inr a) σ) <|
    o_pop <|
    (bX1_node_326 κ R)
def bX1_node_0 (κ : Nat → Option Nat) (R : Ret AH) : Cont AH :=
    o_al 0 <|
    o_al 1 <|
    o_il 2 <|
    o_al 3 <|
    o_gI 0 [7, 8, 9, 10, 11, 12, 13, 14] <|
    o_call 4 (hvc [(2, pX1_sets κ)]) (fun _ a σ => R (.inr a) σ) <|
    o_al 0 <|
    o_cst κ 17 <|
    o_call 2 (hvc [(2, pX1_put κ)]) (fun _ a σ => R (.inr a) σ) <|
    o_pop <|
    o_al 3 <|
    o_inst [7] [8, 9, 10, 11, 12, 13, 14] <|
    o_if_eq (bX1_node_104 κ R) <|
    o_al 3 <|
    o_cast [7] <|
    o_as 4 <|
    o_al 0 <|
    o_al 4 <|
    o_gI 4 [7] <|
    o_call 2 (hvc [(2, pX1_name κ)]) (fun _ a σ => R (.inr a) σ) <|
    o_cst κ 9 <|
    o_call 2 (hvc [(2, pX1_put κ)]) (fun _ a σ => R (.inr a) σ) <|
    o_pop <|
    o_al 1 <|
    o_il 2 <|
    o_al 3 <|
    o_gI 0 [7, 8, 9, 10, 11, 12, 13, 14] <|
    o_call 3 (hvc [(4, pX4_takenAt κ)]) (fun _ a σ => R (.inr a) σ) <|
    o_al 4 <|
    o_gR 5 [7] <|
    o_gI 0 [15, 16] <|
    o_lshr <|
    o_lc 1 <|
    o_land <|
    o_lc 1 <|
    o_lcmp <|
    o_if_ne (bX1_node_91 κ R) <|
    o_al 0 <|
    o_cst κ 13 <|
    o_call 2 (hvc [(2, pX1_put κ)]) (fun _ a σ => R (.inr a) σ) <|
    o_al 4 <|
    o_gR 5 [7] <|
    o_gI 0 [15, 16] <|
    o_call 2 (hvc [(2, pX1_put_3 κ)]) (fun _ a σ => R (.inr a) σ) <|
    o_pop <|
    (bX1_node_326 κ R)
def pX1_node (κ : Nat → Option Nat) : PT AH := fun as σ Q => (lg_sl as).length ≤ 10 ∧ bX1_node_0 κ Q (entP 10 as) [] σ
theorem nX1_node : parN yX1_node 3 := by unfold parN; decide +kernel
set_option maxHeartbeats 4000000 in
theorem eX1_node (g : GC) : CT (wC g) yX1_node (Cond.code yX1_node cX1_node 10 none) 9 196 (pX1_node g.2.1) := by
  refine CT.of (wC_ok g) (cc := cX1_node) (nL := 10) (ret := none) (ht := []) (by decide +kernel) (Or.inl ⟨rfl, rfl⟩) (B := bX1_node_0 g.2.1) (fun R E X hE => ?_)
  have h326 : E (bX1_node_326 g.2.1 R) 326 := by
    unfold bX1_node_326
    refine si_aload_n (pc := 326) hE dX1_node_326 rfl ?_
    refine si_hv (pc := 327) (n := 0) hE dX1_node_327 ⟨cal_V (recvO cls1) (eX1_ends g) (Or.inl ⟨rfl, rfl⟩) q1628 q133 q1625 q1627 qs51 ⟨by decide +kernel, by decide +kernel⟩ nX1_ends (by decide) (by decide), trivial⟩ (si_out hE rfl) ?_
    exact si_return (pc := 330) hE dX1_node_330
  have h319 : E (bX1_node_319 g.2.1 R) 319 := by
    unfold bX1_node_319
    refine si_aload_n (pc := 319) hE dX1_node_319 rfl ?_
    refine si_ldcS (pc := 320) (k := 24) hE dX1_node_320 rfl ?_
    refine si_hv (pc := 322) (n := 1) hE dX1_node_322 ⟨cal_V (recvO cls1) (eX1_put g) (Or.inl ⟨rfl, rfl⟩) q1576 q133 q1573 q1575 qs43 ⟨by decide +kernel, by decide +kernel⟩ nX1_put (by decide) (by decide), trivial⟩ (si_out hE rfl) ?_
    refine si_pop (pc := 325) hE dX1_node_325 ?_
    exact h326
  have h289 : E (bX1_node_289 g.2.1 R) 289 := by
    unfold bX1_node_289
    refine si_aload_n (pc := 289) hE dX1_node_289 rfl ?_
    refine si_inst (pc := 290) hE dX1_node_290 q1647 zco_12 zno_8 ?_
    refine si_if_eq (pc := 293) hE dX1_node_293 (by decide) h319 ?_
    refine si_aload_n (pc := 296) hE dX1_node_296 rfl ?_
    refine si_cast (pc := 297) hE dX1_node_297 q1647 zco_12 ?_
    refine si_astore (pc := 300) hE dX1_node_300 (by decide) ?_
    refine si_aload_n (pc := 302) hE dX1_node_302 rfl ?_
    refine si_ldcS (pc := 303) (k := 23) hE dX1_node_303 rfl ?_
    refine si_hv (pc := 305) (n := 1) hE dX1_node_305 ⟨cal_V (recvO cls1) (eX1_put g) (Or.inl ⟨rfl, rfl⟩) q1576 q133 q1573 q1575 qs43 ⟨by decide +kernel, by decide +kernel⟩ nX1_put (by decide) (by decide), trivial⟩ (si_out hE rfl) ?_
    refine si_aload_n (pc := 308) hE dX1_node_308 rfl ?_
    refine si_aload (pc := 309) hE dX1_node_309 ?_
    refine si_iconst (pc := 311) hE dX1_node_311 (by decide) ?_
    refine si_hv (pc := 312) (n := 3) hE dX1_node_312 ⟨cal_V (recvO cls1) (eX1_way g) (Or.inl ⟨rfl, rfl⟩) q1644 q133 q1641 q1643 qs52 ⟨by decide +kernel, by decide +kernel⟩ nX1_way (by decide) (by decide), trivial⟩ (si_out hE rfl) ?_
    refine si_pop (pc := 315) hE dX1_node_315 ?_
    exact si_goto (pc := 316) hE dX1_node_316 (by decide) h326
  have h231 : E (bX1_node_231 g.2.1 R) 231 := by
    unfold bX1_node_231
    refine si_aload_n (pc := 231) hE dX1_node_231 rfl ?_
    refine si_inst (pc := 232) hE dX1_node_232 q1638 zco_8 zno_3 ?_
    refine si_if_eq (pc := 235) hE dX1_node_235 (by decide) h289 ?_
    refine si_aload_n (pc := 238) hE dX1_node_238 rfl ?_
    refine si_cast (pc := 239) hE dX1_node_239 q1638 zco_8 ?_
    refine si_astore (pc := 242) hE dX1_node_242 (by decide) ?_
    refine si_aload_n (pc := 244) hE dX1_node_244 rfl ?_
    refine si_ldcS (pc := 245) (k := 20) hE dX1_node_245 rfl ?_
    refine si_hv (pc := 247) (n := 1) hE dX1_node_247 ⟨cal_V (recvO cls1) (eX1_put g) (Or.inl ⟨rfl, rfl⟩) q1576 q133 q1573 q1575 qs43 ⟨by decide +kernel, by decide +kernel⟩ nX1_put (by decide) (by decide), trivial⟩ (si_out hE rfl) ?_
    refine si_aload (pc := 250) hE dX1_node_250 ?_
    refine si_gR (pc := 252) hE dX1_node_252 (Or.inr ⟨_, q824⟩) zfo_38 ?_
    refine si_hv (pc := 255) (n := 1) hE dX1_node_255 ⟨cal_V (recvO cls1) (eX1_put_5 g) (Or.inl ⟨rfl, rfl⟩) q1613 q133 q1610 q1612 qs49 ⟨by decide +kernel, by decide +kernel⟩ nX1_put_5 (by decide) (by decide), trivial⟩ (si_out hE rfl) ?_
    refine si_ldcS (pc := 258) (k := 21) hE dX1_node_258 rfl ?_
    refine si_hv (pc := 260) (n := 1) hE dX1_node_260 ⟨cal_V (recvO cls1) (eX1_put g) (Or.inl ⟨rfl, rfl⟩) q1576 q133 q1573 q1575 qs43 ⟨by decide +kernel, by decide +kernel⟩ nX1_put (by decide) (by decide), trivial⟩ (si_out hE rfl) ?_
    refine si_aload (pc := 263) hE dX1_node_263 ?_
    refine si_gR (pc := 265) hE dX1_node_265 (Or.inr ⟨_, q828⟩) zfo_39 ?_
    refine si_hv (pc := 268) (n := 1) hE dX1_node_268 ⟨cal_V (recvO cls1) (eX1_put_5 g) (Or.inl ⟨rfl, rfl⟩) q1613 q133 q1610 q1612 qs49 ⟨by decide +kernel, by decide +kernel⟩ nX1_put_5 (by decide) (by decide), trivial⟩ (si_out hE rfl) ?_
    refine si_aload_n (pc := 271) hE dX1_node_271 rfl ?_
    refine si_aload (pc := 272) hE dX1_node_272 ?_
    refine si_iconst (pc := 274) hE dX1_node_274 (by decide) ?_
    refine si_hv (pc := 275) (n := 3) hE dX1_node_275 ⟨cal_V (recvO cls1) (eX1_way g) (Or.inl ⟨rfl, rfl⟩) q1644 q133 q1641 q1643 qs52 ⟨by decide +kernel, by decide +kernel⟩ nX1_way (by decide) (by decide), trivial⟩ (si_out hE rfl) ?_
    refine si_aload_n (pc := 278) hE dX1_node_278 rfl ?_
    refine si_aload (pc := 279) hE dX1_node_279 ?_
    refine si_iconst (pc := 281) hE dX1_node_281 (by decide) ?_
    refine si_hv (pc := 282) (n := 3) hE dX1_node_282 ⟨cal_V (recvO cls1) (eX1_way g) (Or.inl ⟨rfl, rfl⟩) q1644 q133 q1641 q1643 qs52 ⟨by decide +kernel, by decide +kernel⟩ nX1_way (by decide) (by decide), trivial⟩ (si_out hE rfl) ?_
    refine si_pop (pc := 285) hE dX1_node_285 ?_
    exact si_goto (pc := 286) hE dX1_node_286 (by decide) h326
  have h200 : E (bX1_node_200 g.2.1 R) 200 := by
    unfold bX1_node_200
    refine si_aload_n (pc := 200) hE dX1_node_200 rfl ?_
    refine si_inst (pc := 201) hE dX1_node_201 q1636 zco_9 zno_4 ?_
    refine si_if_eq (pc := 204) hE dX1_node_204 (by decide) h231 ?_
    refine si_aload_n (pc := 207) hE dX1_node_207 rfl ?_
    refine si_cast (pc := 208) hE dX1_node_208 q1636 zco_9 ?_
    refine si_astore (pc := 211) hE dX1_node_211 (by decide) ?_
    refine si_aload_n (pc := 213) hE dX1_node_213 rfl ?_
    refine si_ldcS (pc := 214) (k := 19) hE dX1_node_214 rfl ?_
    refine si_hv (pc := 216) (n := 1) hE dX1_node_216 ⟨cal_V (recvO cls1) (eX1_put g) (Or.inl ⟨rfl, rfl⟩) q1576 q133 q1573 q1575 qs43 ⟨by decide +kernel, by decide +kernel⟩ nX1_put (by decide) (by decide), trivial⟩ (si_out hE rfl) ?_
    refine si_aload (pc := 219) hE dX1_node_219 ?_
    refine si_gR (pc := 221) hE dX1_node_221 (Or.inr ⟨_, q749⟩) zfo_36 ?_
    refine si_hv (pc := 224) (n := 1) hE dX1_node_224 ⟨cal_V (recvO cls1) (eX1_put_5 g) (Or.inl ⟨rfl, rfl⟩) q1613 q133 q1610 q1612 qs49 ⟨by decide +kernel, by decide +kernel⟩ nX1_put_5 (by decide) (by decide), trivial⟩ (si_out hE rfl) ?_
    refine si_pop (pc := 227) hE dX1_node_227 ?_
    exact si_goto (pc := 228) hE dX1_node_228 (by decide) h326
  have h143 : E (bX1_node_143 g.2.1 R) 143 := by
    unfold bX1_node_143
    refine si_aload_n (pc := 143) hE dX1_node_143 rfl ?_
    refine si_inst (pc := 144) hE dX1_node_144 q1634 zco_10 zno_5 ?_
    refine si_if_eq (pc := 147) hE dX1_node_147 (by decide) h200 ?_
    refine si_aload_n (pc := 150) hE dX1_node_150 rfl ?_
    refine si_cast (pc := 151) hE dX1_node_151 q1634 zco_10 ?_
    refine si_astore (pc := 154) hE dX1_node_154 (by decide) ?_
    refine si_aload_n (pc := 156) hE dX1_node_156 rfl ?_
    refine si_ldcS (pc := 157) (k := 10) hE dX1_node_157 rfl ?_
    refine si_hv (pc := 159) (n := 1) hE dX1_node_159 ⟨cal_V (recvO cls1) (eX1_put g) (Or.inl ⟨rfl, rfl⟩) q1576 q133 q1573 q1575 qs43 ⟨by decide +kernel, by decide +kernel⟩ nX1_put (by decide) (by decide), trivial⟩ (si_out hE rfl) ?_
    refine si_aload (pc := 162) hE dX1_node_162 ?_
    refine si_gI (pc := 164) hE dX1_node_164 (Or.inr ⟨_, q856⟩) zfo_42 ?_
    refine si_hv (pc := 167) (n := 1) hE dX1_node_167 ⟨cal_V (recvO cls1) (eX1_put_3 g) (Or.inl ⟨rfl, rfl⟩) q1586 q133 q1583 q1585 qs45 ⟨by decide +kernel, by decide +kernel⟩ nX1_put_3 (by decide) (by decide), trivial⟩ (si_out hE rfl) ?_
    refine si_ldcS (pc := 170) (k := 11) hE dX1_node_170 rfl ?_
    refine si_hv (pc := 172) (n := 1) hE dX1_node_172 ⟨cal_V (recvO cls1) (eX1_put g) (Or.inl ⟨rfl, rfl⟩) q1576 q133 q1573 q1575 qs43 ⟨by decide +kernel, by decide +kernel⟩ nX1_put (by decide) (by decide), trivial⟩ (si_out hE rfl) ?_
    refine si_aload (pc := 175) hE dX1_node_175 ?_
    refine si_gR (pc := 177) hE dX1_node_177 (Or.inr ⟨_, q860⟩) zfo_43 ?_
    refine si_hv (pc := 180) (n := 1) hE dX1_node_180 ⟨cal_V (recvO cls1) (eX1_put_5 g) (Or.inl ⟨rfl, rfl⟩) q1613 q133 q1610 q1612 qs49 ⟨by decide +kernel, by decide +kernel⟩ nX1_put_5 (by decide) (by decide), trivial⟩ (si_out hE rfl) ?_
    refine si_ldcS (pc := 183) (k := 18) hE dX1_node_183 rfl ?_
    refine si_hv (pc := 185) (n := 1) hE dX1_node_185 ⟨cal_V (recvO cls1) (eX1_put g) (Or.inl ⟨rfl, rfl⟩) q1576 q133 q1573 q1575 qs43 ⟨by decide +kernel, by decide +kernel⟩ nX1_put (by decide) (by decide), trivial⟩ (si_out hE rfl) ?_
    refine si_aload (pc := 188) hE dX1_node_188 ?_
    refine si_gR (pc := 190) hE dX1_node_190 (Or.inr ⟨_, q864⟩) zfo_44 ?_
    refine si_hv (pc := 193) (n := 1) hE dX1_node_193 ⟨cal_V (recvO cls1) (eX1_put_5 g) (Or.inl ⟨rfl, rfl⟩) q1613 q133 q1610 q1612 qs49 ⟨by decide +kernel, by decide +kernel⟩ nX1_put_5 (by decide) (by decide), trivial⟩ (si_out hE rfl) ?_
    refine si_pop (pc := 196) hE dX1_node_196 ?_
    exact si_goto (pc := 197) hE dX1_node_197 (by decide) h326
  have h104 : E (bX1_node_104 g.2.1 R) 104 := by
    unfold bX1_node_104
    refine si_aload_n (pc := 104) hE dX1_node_104 rfl ?_
    refine si_inst (pc := 105) hE dX1_node_105 q1633 zco_11 zno_6 ?_
    refine si_if_eq (pc := 108) hE dX1_node_108 (by decide) h143 ?_
    refine si_aload_n (pc := 111) hE dX1_node_111 rfl ?_
    refine si_cast (pc := 112) hE dX1_node_112 q1633 zco_11 ?_
    refine si_astore (pc := 115) hE dX1_node_115 (by decide) ?_
    refine si_aload_n (pc := 117) hE dX1_node_117 rfl ?_
    refine si_aload (pc := 118) hE dX1_node_118 ?_
    refine si_gI (pc := 120) hE dX1_node_120 (Or.inl q926) zfo_77 ?_
    refine si_hv (pc := 123) (n := 1) hE dX1_node_123 ⟨cal_V (recvO cls1) (eX1_name g) (Or.inl ⟨rfl, rfl⟩) q1617 q133 q1614 q1616 qs50 ⟨by decide +kernel, by decide +kernel⟩ nX1_name (by decide) (by decide), trivial⟩ (si_out hE rfl) ?_
    refine si_ldcS (pc := 126) (k := 9) hE dX1_node_126 rfl ?_
    refine si_hv (pc := 128) (n := 1) hE dX1_node_128 ⟨cal_V (recvO cls1) (eX1_put g) (Or.inl ⟨rfl, rfl⟩) q1576 q133 q1573 q1575 qs43 ⟨by decide +kernel, by decide +kernel⟩ nX1_put (by decide) (by decide), trivial⟩ (si_out hE rfl) ?_
    refine si_aload (pc := 131) hE dX1_node_131 ?_
    refine si_gR (pc := 133) hE dX1_node_133 (Or.inr ⟨_, q946⟩) zfo_50 ?_
    refine si_hv (pc := 136) (n := 1) hE dX1_node_136 ⟨cal_V (recvO cls1) (eX1_put_5 g) (Or.inl ⟨rfl, rfl⟩) q1613 q133 q1610 q1612 qs49 ⟨by decide +kernel, by decide +kernel⟩ nX1_put_5 (by decide) (by decide), trivial⟩ (si_out hE rfl) ?_
    refine si_pop (pc := 139) hE dX1_node_139 ?_
    exact si_goto (pc := 140) hE dX1_node_140 (by decide) h326
  have h91 : E (bX1_node_91 g.2.1 R) 91 := by
    unfold bX1_node_91
    refine si_aload_n (pc := 91) hE dX1_node_91 rfl ?_
    refine si_aload (pc := 92) hE dX1_node_92 ?_
    refine si_gR (pc := 94) hE dX1_node_94 (Or.inr ⟨_, q919⟩) zfo_49 ?_
    refine si_hv (pc := 97) (n := 1) hE dX1_node_97 ⟨cal_V (recvO cls1) (eX1_put_4 g) (Or.inl ⟨rfl, rfl⟩) q1606 q133 q1603 q1605 qs48 ⟨by decide +kernel, by decide +kernel⟩ nX1_put_4 (by decide) (by decide), trivial⟩ (si_out hE rfl) ?_
    refine si_pop (pc := 100) hE dX1_node_100 ?_
    exact si_goto (pc := 101) hE dX1_node_101 (by decide) h326
  have h0 : E (bX1_node_0 g.2.1 R) 0 := by
    unfold bX1_node_0
    refine si_aload_n (pc := 0) hE dX1_node_0 rfl ?_
    refine si_aload_n (pc := 1) hE dX1_node_1 rfl ?_
    refine si_iload_n (pc := 2) hE dX1_node_2 rfl ?_
    refine si_aload_n (pc := 3) hE dX1_node_3 rfl ?_
    refine si_gI (pc := 4) hE dX1_node_4 (Or.inr ⟨_, q752⟩) zfo_55 ?_
    refine si_hv (pc := 7) (n := 3) hE dX1_node_7 ⟨cal_V (recvO cls1) (eX1_sets g) (Or.inl ⟨rfl, rfl⟩) q1599 q133 q1596 q1598 qs47 ⟨by decide +kernel, by decide +kernel⟩ nX1_sets (by decide) (by decide), trivial⟩ (si_out hE rfl) ?_
    refine si_aload_n (pc := 10) hE dX1_node_10 rfl ?_
    refine si_ldcS (pc := 11) (k := 17) hE dX1_node_11 rfl ?_
    refine si_hv (pc := 13) (n := 1) hE dX1_node_13 ⟨cal_V (recvO cls1) (eX1_put g) (Or.inl ⟨rfl, rfl⟩) q1576 q133 q1573 q1575 qs43 ⟨by decide +kernel, by decide +kernel⟩ nX1_put (by decide) (by decide), trivial⟩ (si_out hE rfl) ?_
    refine si_pop (pc := 16) hE dX1_node_16 ?_
    refine si_aload_n (pc := 17) hE dX1_node_17 rfl ?_
    refine si_inst (pc := 18) hE dX1_node_18 q1631 zco_6 zno_7 ?_
    refine si_if_eq (pc := 21) hE dX1_node_21 (by decide) h104 ?_
    refine si_aload_n (pc := 24) hE dX1_node_24 rfl ?_
    refine si_cast (pc := 25) hE dX1_node_25 q1631 zco_6 ?_
    refine si_astore (pc := 28) hE dX1_node_28 (by decide) ?_
    refine si_aload_n (pc := 30) hE dX1_node_30 rfl ?_
    refine si_aload (pc := 31) hE dX1_node_31 ?_
    refine si_gI (pc := 33) hE dX1_node_33 (Or.inl q925) zfo_78 ?_
    refine si_hv (pc := 36) (n := 1) hE dX1_node_36 ⟨cal_V (recvO cls1) (eX1_name g) (Or.inl ⟨rfl, rfl⟩) q1617 q133 q1614 q1616 qs50 ⟨by decide +kernel, by decide +kernel⟩ nX1_name (by decide) (by decide), trivial⟩ (si_out hE rfl) ?_
    refine si_ldcS (pc := 39) (k := 9) hE dX1_node_39 rfl ?_
    refine si_hv (pc := 41) (n := 1) hE dX1_node_41 ⟨cal_V (recvO cls1) (eX1_put g) (Or.inl ⟨rfl, rfl⟩) q1576 q133 q1573 q1575 qs43 ⟨by decide +kernel, by decide +kernel⟩ nX1_put (by decide) (by decide), trivial⟩ (si_out hE rfl) ?_
    refine si_pop (pc := 44) hE dX1_node_44 ?_
    refine si_aload_n (pc := 45) hE dX1_node_45 rfl ?_
    refine si_iload_n (pc := 46) hE dX1_node_46 rfl ?_
    refine si_aload_n (pc := 47) hE dX1_node_47 rfl ?_
    refine si_gI (pc := 48) hE dX1_node_48 (Or.inr ⟨_, q752⟩) zfo_55 ?_
    refine si_hv (pc := 51) (n := 2) hE dX1_node_51 ⟨cal_V (recvO cls3) (eX4_takenAt g) (Or.inl ⟨rfl, rfl⟩) q1354 q136 q1632 q1352 q1353 ⟨by decide +kernel, by decide +kernel⟩ nX4_takenAt (by decide) (by decide), trivial⟩ (si_out hE rfl) ?_
    refine si_aload (pc := 54) hE dX1_node_54 ?_
    refine si_gR (pc := 56) hE dX1_node_56 (Or.inr ⟨_, q919⟩) zfo_49 ?_
    refine si_gI (pc := 59) hE dX1_node_59 (Or.inr ⟨_, q900⟩) zfo_45 ?_
    refine si_lshr (pc := 62) hE dX1_node_62 ?_
    refine si_lconst (pc := 63) hE dX1_node_63 (by decide) ?_
    refine si_land (pc := 64) hE dX1_node_64 ?_
    refine si_lconst (pc := 65) hE dX1_node_65 (by decide) ?_
    refine si_lcmp (pc := 66) hE dX1_node_66 ?_
    refine si_if_ne (pc := 67) hE dX1_node_67 (by decide) h91 ?_
    refine si_aload_n (pc := 70) hE dX1_node_70 rfl ?_
    refine si_ldcS (pc := 71) (k := 13) hE dX1_node_71 rfl ?_
    refine si_hv (pc := 73) (n := 1) hE dX1_node_73 ⟨cal_V (recvO cls1) (eX1_put g) (Or.inl ⟨rfl, rfl⟩) q1576 q133 q1573 q1575 qs43 ⟨by decide +kernel, by decide +kernel⟩ nX1_put (by decide) (by decide), trivial⟩ (si_out hE rfl) ?_
    refine si_aload (pc := 76) hE dX1_node_76 ?_
    refine si_gR (pc := 78) hE dX1_node_78 (Or.inr ⟨_, q919⟩) zfo_49 ?_
    refine si_gI (pc := 81) hE dX1_node_81 (Or.inr ⟨_, q900⟩) zfo_45 ?_
    refine si_hv (pc := 84) (n := 1) hE dX1_node_84 ⟨cal_V (recvO cls1) (eX1_put_3 g) (Or.inl ⟨rfl, rfl⟩) q1586 q133 q1583 q1585 qs45 ⟨by decide +kernel, by decide +kernel⟩ nX1_put_3 (by decide) (by decide), trivial⟩ (si_out hE rfl) ?_
    refine si_pop (pc := 87) hE dX1_node_87 ?_
    exact si_goto (pc := 88) hE dX1_node_88 (by decide) h326
  exact h0
def bX1_of_292 (κ : Nat → Option Nat) (R : Ret AH) : Cont AH :=
    o_al 0 <|
    o_gI 2 [2] <|
    o_ireturn R
def bX1_of_286 (κ : Nat → Option Nat) (R : Ret AH) (J202 : Cont AH) : Cont AH :=
    o_iinc 4 1 <|
    (o_kill [3, 5, 6] J202)
def bX1_of_244 (κ : Nat → Option Nat) (R : Ret AH) (J202 : Cont AH) : Cont AH :=
    o_al 0 <|
    o_al 0 <|
    o_gR 1 [2] <|
    o_al 5 <|
    o_gI 0 [7, 8, 9, 10, 11, 12, 13, 14] <|
    o_aI 100 <|
    o_call 2 (hvc [(2, pX1_head κ)]) (fun _ a σ => R (.inr a) σ) <|
    o_al 0 <|
    o_al 1 <|
    o_il 2 <|
    o_al 5 <|
    o_gI 0 [7, 8, 9, 10, 11, 12, 13, 14] <|
    o_call 4 (hvc [(2, pX1_sets κ)]) (fun _ a σ => R (.inr a) σ) <|
    o_al 0 <|
    o_cst κ 25 <|
    o_call 2 (hvc [(2, pX1_put κ)]) (fun _ a σ => R (.inr a) σ) <|
    o_al 5 <|
    o_gI 1 [7, 8, 9, 10, 11, 12, 13, 14] <|
    o_call 2 (hvc [(2, pX1_put_3 κ)]) (fun _ a σ => R (.inr a) σ) <|
    o_call 1 (hvc [(2, pX1_ends κ)]) (fun _ a σ => R (.inr a) σ) <|
    (bX1_of_286 κ R J202)
def bX1_of_202 (κ : Nat → Option Nat) (R : Ret AH) : Cont AH :=
    fixC fun J202 =>
    o_il 4 <|
    o_al 1 <|
    o_gR 1 [4] <|
    o_call 1 (hvc [(19, pJ2_size κ)]) (fun _ a σ => R (.inr a) σ) <|
    o_icmp_ge (bX1_of_292 κ R) <|
    o_al 1 <|
    o_gR 1 [4] <|
    o_il 4 <|
    o_call 2 (hvc [(19, pJ2_get κ)]) (fun _ a σ => R (.inr a) σ) <|
    o_cast [7, 8, 9, 10, 11, 12, 13, 14] <|
    o_as 5 <|
    o_al 0 <|
    o_gR 1 [2] <|
    o_al 5 <|
    o_gI 0 [7, 8, 9, 10, 11, 12, 13, 14] <|
    o_aI 100 <|
    o_if_ne (bX1_of_244 κ R J202) <|
    (bX1_of_286 κ R J202)
def bX1_of_199 (κ : Nat → Option Nat) (R : Ret AH) : Cont AH :=
    o_ic 0 <|
    o_is 4 <|
    (o_kill [3, 5, 6] (bX1_of_202 κ R))
def bX1_of_193 (κ : Nat → Option Nat) (R : Ret AH) (J116 : Cont AH) : Cont AH :=
    o_iinc 4 1 <|
    (o_kill [3, 5, 6] J116)
def bX1_of_137 (κ : Nat → Option Nat) (R : Ret AH) (J116 : Cont AH) : Cont AH :=
    fixC fun J137 =>
    o_il 5 <|
    o_al 1 <|
    o_gR 0 [4] <|
    o_il 4 <|
    o_call 2 (hvc [(19, pJ2_get κ)]) (fun _ a σ => R (.inr a) σ) <|
    o_cast [19] <|
    o_call 1 (hvc [(19, pJ2_size κ)]) (fun _ a σ => R (.inr a) σ) <|
    o_icmp_ge (bX1_of_193 κ R J116) <|
    o_al 1 <|
    o_gR 0 [4] <|
    o_il 4 <|
    o_call 2 (hvc [(19, pJ2_get κ)]) (fun _ a σ => R (.inr a) σ) <|
    o_cast [19] <|
    o_il 5 <|
    o_call 2 (hvc [(19, pJ2_get κ)]) (fun _ a σ => R (.inr a) σ) <|
    o_cast [7, 8, 9, 10, 11, 12, 13, 14] <|
    o_as 6 <|
    o_al 0 <|
    o_al 1 <|
    o_il 2 <|
    o_al 6 <|
    o_call 4 (hvc [(2, pX1_node κ)]) (fun _ a σ => R (.inr a) σ) <|
    o_iinc 5 1 <|
    (o_kill [3, 6] J137)
def bX1_of_116 (κ : Nat → Option Nat) (R : Ret AH) : Cont AH :=
    fixC fun J116 =>
    o_il 4 <|
    o_al 1 <|
    o_gR 0 [4] <|
    o_call 1 (hvc [(19, pJ2_size κ)]) (fun _ a σ => R (.inr a) σ) <|
    o_icmp_ge (bX1_of_199 κ R) <|
    o_al 0 <|
    o_il 4 <|
    o_call 2 (hvc [(2, pX1_head κ)]) (fun _ a σ => R (.inr a) σ) <|
    o_ic 0 <|
    o_is 5 <|
    (o_kill [3, 6] (bX1_of_137 κ R J116))
def bX1_of_113 (κ : Nat → Option Nat) (R : Ret AH) : Cont AH :=
    o_ic 0 <|
    o_is 4 <|
    (o_kill [3, 5, 6] (bX1_of_116 κ R))
def bX1_of_105 (κ : Nat → Option Nat) (R : Ret AH) (J16 : Cont AH) : Cont AH :=
    o_iadd <|
    o_is 3 <|
    o_iinc 4 1 <|
    (o_kill [5, 6] J16)
def bX1_of_104 (κ : Nat → Option Nat) (R : Ret AH) (J16 : Cont AH) : Cont AH :=
    o_ic 0 <|
    (bX1_of_105 κ R J16)
def bX1_of_93 (κ : Nat → Option Nat) (R : Ret AH) (J16 : Cont AH) : Cont AH :=
    o_sI 100 <|
    o_il 3 <|
    o_il 6 <|
    o_if_eq (bX1_of_104 κ R J16) <|
    o_ic 1 <|
    (bX1_of_105 κ R J16)
def bX1_of_92 (κ : Nat → Option Nat) (R : Ret AH) (J16 : Cont AH) : Cont AH :=
    o_ic 0 <|
    (bX1_of_93 κ R J16)
def bX1_of_72 (κ : Nat → Option Nat) (R : Ret AH) (J16 : Cont AH) : Cont AH :=
    o_is 6 <|
    o_al 0 <|
    o_gR 1 [2] <|
    o_al 5 <|
    o_gI 0 [7, 8, 9, 10, 11, 12, 13, 14] <|
    o_il 6 <|
    o_if_eq (bX1_of_92 κ R J16) <|
    o_il 3 <|
    (bX1_of_93 κ R J16)
def bX1_of_71 (κ : Nat → Option Nat) (R : Ret AH) (J16 : Cont AH) : Cont AH :=
    o_ic 0 <|
    (bX1_of_72 κ R J16)
def bX1_of_16 (κ : Nat → Option Nat) (R : Ret AH) : Cont AH :=
    fixC fun J16 =>
    o_il 4 <|
    o_al 1 <|
    o_gR 1 [4] <|
    o_call 1 (hvc [(19, pJ2_size κ)]) (fun _ a σ => R (.inr a) σ) <|
    o_icmp_ge (bX1_of_113 κ R) <|
    o_al 1 <|
    o_gR 1 [4] <|
    o_il 4 <|
    o_call 2 (hvc [(19, pJ2_get κ)]) (fun _ a σ => R (.inr a) σ) <|
    o_cast [7, 8, 9, 10, 11, 12, 13, 14] <|
    o_as 5 <|
    o_al 5 <|
    o_call 1 (hvc [(7, pX15_kind κ), (8, pX18_kind κ), (9, pX13_kind κ), (10, pX7_kind κ), (11, pX11_kind κ), (12, pX12_kind κ), (13, pX10_kind κ), (14, pX20_kind κ)]) (fun _ a σ => R (.inr a) σ) <|
    o_ic 7 <|
    o_icmp_ne (bX1_of_71 κ R J16) <|
    o_al 1 <|
    o_il 2 <|
    o_al 5 <|
    o_gI 0 [7, 8, 9, 10, 11, 12, 13, 14] <|
    o_call 3 (hvc [(4, pX4_setAt κ)]) (fun _ a σ => R (.inr a) σ) <|
    o_lc 0 <|
    o_lcmp <|
    o_if_eq (bX1_of_71 κ R J16) <|
    o_ic 1 <|
    (bX1_of_72 κ R J16)
def bX1_of_0 (κ : Nat → Option Nat) (R : Ret AH) : Cont AH :=
    o_al 0 <|
    o_ic 0 <|
    o_pI 2 [2] <|
    o_al 1 <|
    o_gR 0 [4] <|
    o_call 1 (hvc [(19, pJ2_size κ)]) (fun _ a σ => R (.inr a) σ) <|
    o_is 3 <|
    o_ic 0 <|
    o_is 4 <|
    (o_kill [5, 6] (bX1_of_16 κ R))
def pX1_of (κ : Nat → Option Nat) : PT AH := fun as σ Q => (lg_sl as).length ≤ 7 ∧ bX1_of_0 κ Q (entP 7 as) [] σ
theorem nX1_of : parN yX1_of 2 := by unfold parN; decide +kernel
set_option maxHeartbeats 4000000 in
theorem eX1_of (g : GC) : CT (wC g) yX1_of (Cond.code yX1_of cX1_of 7 (some .int)) 10 225 (pX1_of g.2.1) := by
  refine CT.of (wC_ok g) (cc := cX1_of) (nL := 7) (ret := (some .int)) (ht := []) (by decide +kernel) (Or.inl ⟨rfl, rfl⟩) (B := bX1_of_0 g.2.1) (fun R E X hE => ?_)
  have h292 : E (bX1_of_292 g.2.1 R) 292 := by
    unfold bX1_of_292
    refine si_aload_n (pc := 292) hE dX1_of_292 rfl ?_
    refine si_gI (pc := 293) hE dX1_of_293 (Or.inl q193) zfo_83 ?_
    exact si_ireturn (pc := 296) hE dX1_of_296
  have h286 : ∀ (J202 : Cont AH) (hJ202 : E J202 202), E (bX1_of_286 g.2.1 R J202) 286 := by
    intro J202 hJ202
    unfold bX1_of_286
    refine si_iinc (pc := 286) hE dX1_of_286 (by decide) (by decide) ?_
    exact si_goto (pc := 289) hE dX1_of_289 (by decide) (si_kill hE hJ202)
  have h244 : ∀ (J202 : Cont AH) (hJ202 : E J202 202), E (bX1_of_244 g.2.1 R J202) 244 := by
    intro J202 hJ202
    unfold bX1_of_244
    refine si_aload_n (pc := 244) hE dX1_of_244 rfl ?_
    refine si_aload_n (pc := 245) hE dX1_of_245 rfl ?_
    refine si_gR (pc := 246) hE dX1_of_246 (Or.inl q192) zfo_11 ?_
    refine si_aload (pc := 249) hE dX1_of_249 ?_
    refine si_gI (pc := 251) hE dX1_of_251 (Or.inr ⟨_, q752⟩) zfo_55 ?_
    refine si_iaload (pc := 254) hE dX1_of_254 ?_
    refine si_hv (pc := 255) (n := 1) hE dX1_of_255 ⟨cal_V (recvO cls1) (eX1_head g) (Or.inl ⟨rfl, rfl⟩) q1571 q133 q1568 q1570 qs42 ⟨by decide +kernel, by decide +kernel⟩ nX1_head (by decide) (by decide), trivial⟩ (si_out hE rfl) ?_
    refine si_aload_n (pc := 258) hE dX1_of_258 rfl ?_
    refine si_aload_n (pc := 259) hE dX1_of_259 rfl ?_
    refine si_iload_n (pc := 260) hE dX1_of_260 rfl ?_
    refine si_aload (pc := 261) hE dX1_of_261 ?_
    refine si_gI (pc := 263) hE dX1_of_263 (Or.inr ⟨_, q752⟩) zfo_55 ?_
    refine si_hv (pc := 266) (n := 3) hE dX1_of_266 ⟨cal_V (recvO cls1) (eX1_sets g) (Or.inl ⟨rfl, rfl⟩) q1599 q133 q1596 q1598 qs47 ⟨by decide +kernel, by decide +kernel⟩ nX1_sets (by decide) (by decide), trivial⟩ (si_out hE rfl) ?_
    refine si_aload_n (pc := 269) hE dX1_of_269 rfl ?_
    refine si_ldcS (pc := 270) (k := 25) hE dX1_of_270 rfl ?_
    refine si_hv (pc := 272) (n := 1) hE dX1_of_272 ⟨cal_V (recvO cls1) (eX1_put g) (Or.inl ⟨rfl, rfl⟩) q1576 q133 q1573 q1575 qs43 ⟨by decide +kernel, by decide +kernel⟩ nX1_put (by decide) (by decide), trivial⟩ (si_out hE rfl) ?_
    refine si_aload (pc := 275) hE dX1_of_275 ?_
    refine si_gI (pc := 277) hE dX1_of_277 (Or.inr ⟨_, q757⟩) zfo_56 ?_
    refine si_hv (pc := 280) (n := 1) hE dX1_of_280 ⟨cal_V (recvO cls1) (eX1_put_3 g) (Or.inl ⟨rfl, rfl⟩) q1586 q133 q1583 q1585 qs45 ⟨by decide +kernel, by decide +kernel⟩ nX1_put_3 (by decide) (by decide), trivial⟩ (si_out hE rfl) ?_
    refine si_hv (pc := 283) (n := 0) hE dX1_of_283 ⟨cal_V (recvO cls1) (eX1_ends g) (Or.inl ⟨rfl, rfl⟩) q1628 q133 q1625 q1627 qs51 ⟨by decide +kernel, by decide +kernel⟩ nX1_ends (by decide) (by decide), trivial⟩ (si_out hE rfl) ?_
    exact (h286 J202 hJ202)
  have h202 : E (bX1_of_202 g.2.1 R) 202 := by
    unfold bX1_of_202
    refine si_fix hE (fun J202 hJ202 => ?_)
    refine si_iload (pc := 202) hE dX1_of_202 ?_
    refine si_aload_n (pc := 204) hE dX1_of_204 rfl ?_
    refine si_gR (pc := 205) hE dX1_of_205 (Or.inr ⟨_, q296⟩) zfo_18 ?_
    refine si_hv (pc := 208) (n := 0) hE dX1_of_208 ⟨cal_V (recvO cls18) (eJ2_size g) (Or.inl ⟨rfl, rfl⟩) q501 q139 q1563 q499 q500 ⟨by decide +kernel, by decide +kernel⟩ nJ2_size (by decide) (by decide), trivial⟩ (si_out hE rfl) ?_
    refine si_icmp_ge (pc := 211) hE dX1_of_211 (by decide) h292 ?_
    refine si_aload_n (pc := 214) hE dX1_of_214 rfl ?_
    refine si_gR (pc := 215) hE dX1_of_215 (Or.inr ⟨_, q296⟩) zfo_18 ?_
    refine si_iload (pc := 218) hE dX1_of_218 ?_
    refine si_hv (pc := 220) (n := 1) hE dX1_of_220 ⟨cal_V (recvO cls18) (eJ2_get g) (Or.inl ⟨rfl, rfl⟩) q980 q139 q1564 q978 q979 ⟨by decide +kernel, by decide +kernel⟩ nJ2_get (by decide) (by decide), trivial⟩ (si_out hE rfl) ?_
    refine si_cast (pc := 223) hE dX1_of_223 q1565 zco_2 ?_
    refine si_astore (pc := 226) hE dX1_of_226 (by decide) ?_
    refine si_aload_n (pc := 228) hE dX1_of_228 rfl ?_
    refine si_gR (pc := 229) hE dX1_of_229 (Or.inl q192) zfo_11 ?_
    refine si_aload (pc := 232) hE dX1_of_232 ?_
    refine si_gI (pc := 234) hE dX1_of_234 (Or.inr ⟨_, q752⟩) zfo_55 ?_
    refine si_iaload (pc := 237) hE dX1_of_237 ?_
    refine si_if_ne (pc := 238) hE dX1_of_238 (by decide) (h244 J202 hJ202) ?_
    exact si_goto (pc := 241) hE dX1_of_241 (by decide) (h286 J202 hJ202)
  have h199 : E (bX1_of_199 g.2.1 R) 199 := by
    unfold bX1_of_199
    refine si_iconst (pc := 199) hE dX1_of_199 (by decide) ?_
    refine si_istore (pc := 200) hE dX1_of_200 (by decide) ?_
    exact (si_kill hE h202)
  have h193 : ∀ (J116 : Cont AH) (hJ116 : E J116 116), E (bX1_of_193 g.2.1 R J116) 193 := by
    intro J116 hJ116
    unfold bX1_of_193
    refine si_iinc (pc := 193) hE dX1_of_193 (by decide) (by decide) ?_
    exact si_goto (pc := 196) hE dX1_of_196 (by decide) (si_kill hE hJ116)
  have h137 : ∀ (J116 : Cont AH) (hJ116 : E J116 116), E (bX1_of_137 g.2.1 R J116) 137 := by
    intro J116 hJ116
    unfold bX1_of_137
    refine si_fix hE (fun J137 hJ137 => ?_)
    refine si_iload (pc := 137) hE dX1_of_137 ?_
    refine si_aload_n (pc := 139) hE dX1_of_139 rfl ?_
    refine si_gR (pc := 140) hE dX1_of_140 (Or.inr ⟨_, q291⟩) zfo_17 ?_
    refine si_iload (pc := 143) hE dX1_of_143 ?_
    refine si_hv (pc := 145) (n := 1) hE dX1_of_145 ⟨cal_V (recvO cls18) (eJ2_get g) (Or.inl ⟨rfl, rfl⟩) q980 q139 q1564 q978 q979 ⟨by decide +kernel, by decide +kernel⟩ nJ2_get (by decide) (by decide), trivial⟩ (si_out hE rfl) ?_
    refine si_cast (pc := 148) hE dX1_of_148 q1591 zco_1 ?_
    refine si_hv (pc := 151) (n := 0) hE dX1_of_151 ⟨cal_V (recvO cls18) (eJ2_size g) (Or.inl ⟨rfl, rfl⟩) q501 q139 q1563 q499 q500 ⟨by decide +kernel, by decide +kernel⟩ nJ2_size (by decide) (by decide), trivial⟩ (si_out hE rfl) ?_
    refine si_icmp_ge (pc := 154) hE dX1_of_154 (by decide) (h193 J116 hJ116) ?_
    refine si_aload_n (pc := 157) hE dX1_of_157 rfl ?_
    refine si_gR (pc := 158) hE dX1_of_158 (Or.inr ⟨_, q291⟩) zfo_17 ?_
    refine si_iload (pc := 161) hE dX1_of_161 ?_
    refine si_hv (pc := 163) (n := 1) hE dX1_of_163 ⟨cal_V (recvO cls18) (eJ2_get g) (Or.inl ⟨rfl, rfl⟩) q980 q139 q1564 q978 q979 ⟨by decide +kernel, by decide +kernel⟩ nJ2_get (by decide) (by decide), trivial⟩ (si_out hE rfl) ?_
    refine si_cast (pc := 166) hE dX1_of_166 q1591 zco_1 ?_
    refine si_iload (pc := 169) hE dX1_of_169 ?_
    refine si_hv (pc := 171) (n := 1) hE dX1_of_171 ⟨cal_V (recvO cls18) (eJ2_get g) (Or.inl ⟨rfl, rfl⟩) q980 q139 q1564 q978 q979 ⟨by decide +kernel, by decide +kernel⟩ nJ2_get (by decide) (by decide), trivial⟩ (si_out hE rfl) ?_
    refine si_cast (pc := 174) hE dX1_of_174 q1565 zco_2 ?_
    refine si_astore (pc := 177) hE dX1_of_177 (by decide) ?_
    refine si_aload_n (pc := 179) hE dX1_of_179 rfl ?_
    refine si_aload_n (pc := 180) hE dX1_of_180 rfl ?_
    refine si_iload_n (pc := 181) hE dX1_of_181 rfl ?_
    refine si_aload (pc := 182) hE dX1_of_182 ?_
    refine si_hv (pc := 184) (n := 3) hE dX1_of_184 ⟨cal_V (recvO cls1) (eX1_node g) (Or.inl ⟨rfl, rfl⟩) q1595 q133 q1592 q1594 qs46 ⟨by decide +kernel, by decide +kernel⟩ nX1_node (by decide) (by decide), trivial⟩ (si_out hE rfl) ?_
    refine si_iinc (pc := 187) hE dX1_of_187 (by decide) (by decide) ?_
    exact si_goto (pc := 190) hE dX1_of_190 (by decide) (si_kill hE hJ137)
  have h116 : E (bX1_of_116 g.2.1 R) 116 := by
    unfold bX1_of_116
    refine si_fix hE (fun J116 hJ116 => ?_)
    refine si_iload (pc := 116) hE dX1_of_116 ?_
    refine si_aload_n (pc := 118) hE dX1_of_118 rfl ?_
    refine si_gR (pc := 119) hE dX1_of_119 (Or.inr ⟨_, q291⟩) zfo_17 ?_
    refine si_hv (pc := 122) (n := 0) hE dX1_of_122 ⟨cal_V (recvO cls18) (eJ2_size g) (Or.inl ⟨rfl, rfl⟩) q501 q139 q1563 q499 q500 ⟨by decide +kernel, by decide +kernel⟩ nJ2_size (by decide) (by decide), trivial⟩ (si_out hE rfl) ?_
    refine si_icmp_ge (pc := 125) hE dX1_of_125 (by decide) h199 ?_
    refine si_aload_n (pc := 128) hE dX1_of_128 rfl ?_
    refine si_iload (pc := 129) hE dX1_of_129 ?_
    refine si_hv (pc := 131) (n := 1) hE dX1_of_131 ⟨cal_V (recvO cls1) (eX1_head g) (Or.inl ⟨rfl, rfl⟩) q1571 q133 q1568 q1570 qs42 ⟨by decide +kernel, by decide +kernel⟩ nX1_head (by decide) (by decide), trivial⟩ (si_out hE rfl) ?_
    refine si_iconst (pc := 134) hE dX1_of_134 (by decide) ?_
    refine si_istore (pc := 135) hE dX1_of_135 (by decide) ?_
    exact (si_kill hE (h137 J116 hJ116))
  have h113 : E (bX1_of_113 g.2.1 R) 113 := by
    unfold bX1_of_113
    refine si_iconst (pc := 113) hE dX1_of_113 (by decide) ?_
    refine si_istore (pc := 114) hE dX1_of_114 (by decide) ?_
    exact (si_kill hE h116)
  have h105 : ∀ (J16 : Cont AH) (hJ16 : E J16 16), E (bX1_of_105 g.2.1 R J16) 105 := by
    intro J16 hJ16
    unfold bX1_of_105
    refine si_iadd (pc := 105) hE dX1_of_105 ?_
    refine si_istore_n (pc := 106) hE dX1_of_106 rfl (by decide) ?_
    refine si_iinc (pc := 107) hE dX1_of_107 (by decide) (by decide) ?_
    exact si_goto (pc := 110) hE dX1_of_110 (by decide) (si_kill hE hJ16)
  have h104 : ∀ (J16 : Cont AH) (hJ16 : E J16 16), E (bX1_of_104 g.2.1 R J16) 104 := by
    intro J16 hJ16
    unfold bX1_of_104
    refine si_iconst (pc := 104) hE dX1_of_104 (by decide) ?_
    exact (h105 J16 hJ16)
  have h93 : ∀ (J16 : Cont AH) (hJ16 : E J16 16), E (bX1_of_93 g.2.1 R J16) 93 := by
    intro J16 hJ16
    unfold bX1_of_93
    refine si_iastore (pc := 93) hE dX1_of_93 ?_
    refine si_iload_n (pc := 94) hE dX1_of_94 rfl ?_
    refine si_iload (pc := 95) hE dX1_of_95 ?_
    refine si_if_eq (pc := 97) hE dX1_of_97 (by decide) (h104 J16 hJ16) ?_
    refine si_iconst (pc := 100) hE dX1_of_100 (by decide) ?_
    exact si_goto (pc := 101) hE dX1_of_101 (by decide) (h105 J16 hJ16)
  have h92 : ∀ (J16 : Cont AH) (hJ16 : E J16 16), E (bX1_of_92 g.2.1 R J16) 92 := by
    intro J16 hJ16
    unfold bX1_of_92
    refine si_iconst (pc := 92) hE dX1_of_92 (by decide) ?_
    exact (h93 J16 hJ16)
  have h72 : ∀ (J16 : Cont AH) (hJ16 : E J16 16), E (bX1_of_72 g.2.1 R J16) 72 := by
    intro J16 hJ16
    unfold bX1_of_72
    refine si_istore (pc := 72) hE dX1_of_72 (by decide) ?_
    refine si_aload_n (pc := 74) hE dX1_of_74 rfl ?_
    refine si_gR (pc := 75) hE dX1_of_75 (Or.inl q192) zfo_11 ?_
    refine si_aload (pc := 78) hE dX1_of_78 ?_
    refine si_gI (pc := 80) hE dX1_of_80 (Or.inr ⟨_, q752⟩) zfo_55 ?_
    refine si_iload (pc := 83) hE dX1_of_83 ?_
    refine si_if_eq (pc := 85) hE dX1_of_85 (by decide) (h92 J16 hJ16) ?_
    refine si_iload_n (pc := 88) hE dX1_of_88 rfl ?_
    exact si_goto (pc := 89) hE dX1_of_89 (by decide) (h93 J16 hJ16)
  have h71 : ∀ (J16 : Cont AH) (hJ16 : E J16 16), E (bX1_of_71 g.2.1 R J16) 71 := by
    intro J16 hJ16
    unfold bX1_of_71
    refine si_iconst (pc := 71) hE dX1_of_71 (by decide) ?_
    exact (h72 J16 hJ16)
  have h16 : E (bX1_of_16 g.2.1 R) 16 := by
    unfold bX1_of_16
    refine si_fix hE (fun J16 hJ16 => ?_)
    refine si_iload (pc := 16) hE dX1_of_16 ?_
    refine si_aload_n (pc := 18) hE dX1_of_18 rfl ?_
    refine si_gR (pc := 19) hE dX1_of_19 (Or.inr ⟨_, q296⟩) zfo_18 ?_
    refine si_hv (pc := 22) (n := 0) hE dX1_of_22 ⟨cal_V (recvO cls18) (eJ2_size g) (Or.inl ⟨rfl, rfl⟩) q501 q139 q1563 q499 q500 ⟨by decide +kernel, by decide +kernel⟩ nJ2_size (by decide) (by decide), trivial⟩ (si_out hE rfl) ?_
    refine si_icmp_ge (pc := 25) hE dX1_of_25 (by decide) h113 ?_
    refine si_aload_n (pc := 28) hE dX1_of_28 rfl ?_
    refine si_gR (pc := 29) hE dX1_of_29 (Or.inr ⟨_, q296⟩) zfo_18 ?_
    refine si_iload (pc := 32) hE dX1_of_32 ?_
    refine si_hv (pc := 34) (n := 1) hE dX1_of_34 ⟨cal_V (recvO cls18) (eJ2_get g) (Or.inl ⟨rfl, rfl⟩) q980 q139 q1564 q978 q979 ⟨by decide +kernel, by decide +kernel⟩ nJ2_get (by decide) (by decide), trivial⟩ (si_out hE rfl) ?_
    refine si_cast (pc := 37) hE dX1_of_37 q1565 zco_2 ?_
    refine si_astore (pc := 40) hE dX1_of_40 (by decide) ?_
    refine si_aload (pc := 42) hE dX1_of_42 ?_
    refine si_hv (pc := 44) (n := 0) hE dX1_of_44 ⟨cal_U (x := xm_12) (recvO cls6) (eX15_kind g) (Or.inl ⟨rfl, rfl⟩) q1289 q165 q1566 q1271 (Or.inl q1270) ⟨by decide +kernel, by decide +kernel⟩ q1287 q1288 xp_12 (by decide) (by decide), ⟨cal_U (x := xm_12) (recvO cls7) (eX18_kind g) (Or.inl ⟨rfl, rfl⟩) q1286 q168 q1566 q1271 (Or.inl q1270) ⟨by decide +kernel, by decide +kernel⟩ q1284 q1285 xp_12 (by decide) (by decide), ⟨cal_U (x := xm_12) (recvO cls8) (eX13_kind g) (Or.inl ⟨rfl, rfl⟩) q1295 q163 q1566 q1271 (Or.inl q1270) ⟨by decide +kernel, by decide +kernel⟩ q1293 q1294 xp_12 (by decide) (by decide), ⟨cal_U (x := xm_12) (recvO cls9) (eX7_kind g) (Or.inl ⟨rfl, rfl⟩) q1292 q157 q1566 q1271 (Or.inl q1270) ⟨by decide +kernel, by decide +kernel⟩ q1290 q1291 xp_12 (by decide) (by decide), ⟨cal_U (x := xm_12) (recvO cls10) (eX11_kind g) (Or.inl ⟨rfl, rfl⟩) q1274 q161 q1566 q1271 (Or.inl q1270) ⟨by decide +kernel, by decide +kernel⟩ q1272 q1273 xp_12 (by decide) (by decide), ⟨cal_U (x := xm_12) (recvO cls11) (eX12_kind g) (Or.inl ⟨rfl, rfl⟩) q1277 q162 q1566 q1271 (Or.inl q1270) ⟨by decide +kernel, by decide +kernel⟩ q1275 q1276 xp_12 (by decide) (by decide), ⟨cal_U (x := xm_12) (recvO cls12) (eX10_kind g) (Or.inl ⟨rfl, rfl⟩) q1280 q160 q1566 q1271 (Or.inl q1270) ⟨by decide +kernel, by decide +kernel⟩ q1278 q1279 xp_12 (by decide) (by decide), ⟨cal_U (x := xm_12) (recvO cls13) (eX20_kind g) (Or.inl ⟨rfl, rfl⟩) q1283 q171 q1566 q1271 (Or.inl q1270) ⟨by decide +kernel, by decide +kernel⟩ q1281 q1282 xp_12 (by decide) (by decide), trivial⟩⟩⟩⟩⟩⟩⟩⟩ (si_out hE rfl) ?_
    refine si_bipush (pc := 47) hE dX1_of_47 (by decide) ?_
    refine si_icmp_ne (pc := 49) hE dX1_of_49 (by decide) (h71 J16 hJ16) ?_
    refine si_aload_n (pc := 52) hE dX1_of_52 rfl ?_
    refine si_iload_n (pc := 53) hE dX1_of_53 rfl ?_
    refine si_aload (pc := 54) hE dX1_of_54 ?_
    refine si_gI (pc := 56) hE dX1_of_56 (Or.inr ⟨_, q752⟩) zfo_55 ?_
    refine si_hv (pc := 59) (n := 2) hE dX1_of_59 ⟨cal_V (recvO cls3) (eX4_setAt g) (Or.inl ⟨rfl, rfl⟩) q1350 q136 q1567 q1348 q1349 ⟨by decide +kernel, by decide +kernel⟩ nX4_setAt (by decide) (by decide), trivial⟩ (si_out hE rfl) ?_
    refine si_lconst (pc := 62) hE dX1_of_62 (by decide) ?_
    refine si_lcmp (pc := 63) hE dX1_of_63 ?_
    refine si_if_eq (pc := 64) hE dX1_of_64 (by decide) (h71 J16 hJ16) ?_
    refine si_iconst (pc := 67) hE dX1_of_67 (by decide) ?_
    exact si_goto (pc := 68) hE dX1_of_68 (by decide) (h72 J16 hJ16)
  have h0 : E (bX1_of_0 g.2.1 R) 0 := by
    unfold bX1_of_0
    refine si_aload_n (pc := 0) hE dX1_of_0 rfl ?_
    refine si_iconst (pc := 1) hE dX1_of_1 (by decide) ?_
    refine si_pI (pc := 2) hE dX1_of_2 (Or.inl q193) zfo_83 ?_
    refine si_aload_n (pc := 5) hE dX1_of_5 rfl ?_
    refine si_gR (pc := 6) hE dX1_of_6 (Or.inr ⟨_, q291⟩) zfo_17 ?_
    refine si_hv (pc := 9) (n := 0) hE dX1_of_9 ⟨cal_V (recvO cls18) (eJ2_size g) (Or.inl ⟨rfl, rfl⟩) q501 q139 q1563 q499 q500 ⟨by decide +kernel, by decide +kernel⟩ nJ2_size (by decide) (by decide), trivial⟩ (si_out hE rfl) ?_
    refine si_istore_n (pc := 12) hE dX1_of_12 rfl (by decide) ?_
    refine si_iconst (pc := 13) hE dX1_of_13 (by decide) ?_
    refine si_istore (pc := 14) hE dX1_of_14 (by decide) ?_
    exact (si_kill hE h16)
  exact h0
def bX0_write_17 (κ : Nat → Option Nat) (R : Ret AH) : Cont AH :=
    o_ic (-1) <|
    o_ireturn R
def bX0_write_93 (κ : Nat → Option Nat) (R : Ret AH) : Cont AH :=
    o_al 0 <|
    o_il 3 <|
    o_pI 1 [1] <|
    o_il 3 <|
    o_ireturn R
def bX0_write_64 (κ : Nat → Option Nat) (R : Ret AH) : Cont AH :=
    fixC fun J64 =>
    o_il 4 <|
    o_il 3 <|
    o_icmp_ge (bX0_write_93 κ R) <|
    o_al 0 <|
    o_gR 0 [1] <|
    o_il 4 <|
    o_al 0 <|
    o_gR 6 [1] <|
    o_gR 0 [2] <|
    o_il 4 <|
    o_aI 102 <|
    o_sB <|
    o_iinc 4 1 <|
    (o_kill [1, 2] J64)
def bX0_write_61 (κ : Nat → Option Nat) (R : Ret AH) : Cont AH :=
    o_ic 0 <|
    o_is 4 <|
    (o_kill [1, 2] (bX0_write_64 κ R))
def bX0_write_37 (κ : Nat → Option Nat) (R : Ret AH) : Cont AH :=
    o_al 0 <|
    o_gR 6 [1] <|
    o_al 0 <|
    o_il 1 <|
    o_call 2 (hvc [(1, pX0_of κ)]) (fun _ a σ => R (.inr a) σ) <|
    o_il 2 <|
    o_call 3 (hvc [(2, pX1_of κ)]) (fun _ a σ => R (.inr a) σ) <|
    o_is 3 <|
    o_il 3 <|
    o_ic 3000 <|
    o_icmp_le (bX0_write_61 κ R) <|
    o_ic (-3) <|
    o_ireturn R
def bX0_write_19 (κ : Nat → Option Nat) (R : Ret AH) : Cont AH :=
    o_il 2 <|
    o_if_le (bX0_write_37 κ R) <|
    o_al 0 <|
    o_il 1 <|
    o_call 2 (hvc [(1, pX0_of κ)]) (fun _ a σ => R (.inr a) σ) <|
    o_call 1 (hvc [(4, pX4_hasT κ)]) (fun _ a σ => R (.inr a) σ) <|
    o_if_eq (bX0_write_37 κ R) <|
    o_ic (-4) <|
    o_ireturn R
def bX0_write_0 (κ : Nat → Option Nat) (R : Ret AH) : Cont AH :=
    o_al 0 <|
    o_il 1 <|
    o_call 2 (hvc [(1, pX0_of κ)]) (fun _ a σ => R (.inr a) σ) <|
    o_ifnull (bX0_write_17 κ R) <|
    o_il 2 <|
    o_ic 0 <|
    o_ic 2 <|
    o_call 3 (pX0_in κ) (fun _ a σ => R (.inr a) σ) <|
    o_if_ne (bX0_write_19 κ R) <|
    (bX0_write_17 κ R)
def pX0_write (κ : Nat → Option Nat) : PT AH := fun as σ Q => (lg_sl as).length ≤ 5 ∧ bX0_write_0 κ Q (entP 5 as) [] σ
theorem nX0_write : parN yX0_write 2 := by unfold parN; decide +kernel
set_option maxHeartbeats 4000000 in
theorem eX0_write (g : GC) : CT (wC g) yX0_write (Cond.code yX0_write cX0_write 5 (some .int)) 11 251 (pX0_write g.2.1) := by
  refine CT.of (wC_ok g) (cc := cX0_write) (nL := 5) (ret := (some .int)) (ht := []) (by decide +kernel) (Or.inl ⟨rfl, rfl⟩) (B := bX0_write_0 g.2.1) (fun R E X hE => ?_)
  have h17 : E (bX0_write_17 g.2.1 R) 17 := by
    unfold bX0_write_17
    refine si_iconst (pc := 17) hE dX0_write_17 (by decide) ?_
    exact si_ireturn (pc := 18) hE dX0_write_18
  have h93 : E (bX0_write_93 g.2.1 R) 93 := by
    unfold bX0_write_93
    refine si_aload_n (pc := 93) hE dX0_write_93 rfl ?_
    refine si_iload_n (pc := 94) hE dX0_write_94 rfl ?_
    refine si_pI (pc := 95) hE dX0_write_95 (Or.inl q209) zfo_16 ?_
    refine si_iload_n (pc := 98) hE dX0_write_98 rfl ?_
    exact si_ireturn (pc := 99) hE dX0_write_99
  have h64 : E (bX0_write_64 g.2.1 R) 64 := by
    unfold bX0_write_64
    refine si_fix hE (fun J64 hJ64 => ?_)
    refine si_iload (pc := 64) hE dX0_write_64 ?_
    refine si_iload_n (pc := 66) hE dX0_write_66 rfl ?_
    refine si_icmp_ge (pc := 67) hE dX0_write_67 (by decide) h93 ?_
    refine si_aload_n (pc := 70) hE dX0_write_70 rfl ?_
    refine si_gR (pc := 71) hE dX0_write_71 (Or.inl q206) zfo_12 ?_
    refine si_iload (pc := 74) hE dX0_write_74 ?_
    refine si_aload_n (pc := 76) hE dX0_write_76 rfl ?_
    refine si_gR (pc := 77) hE dX0_write_77 (Or.inl q215) zfo_15 ?_
    refine si_gR (pc := 80) hE dX0_write_80 (Or.inr ⟨_, q191⟩) zfo_10 ?_
    refine si_iload (pc := 83) hE dX0_write_83 ?_
    refine si_baload (pc := 85) hE dX0_write_85 ?_
    refine si_bastore (pc := 86) hE dX0_write_86 ?_
    refine si_iinc (pc := 87) hE dX0_write_87 (by decide) (by decide) ?_
    exact si_goto (pc := 90) hE dX0_write_90 (by decide) (si_kill hE hJ64)
  have h61 : E (bX0_write_61 g.2.1 R) 61 := by
    unfold bX0_write_61
    refine si_iconst (pc := 61) hE dX0_write_61 (by decide) ?_
    refine si_istore (pc := 62) hE dX0_write_62 (by decide) ?_
    exact (si_kill hE h64)
  have h37 : E (bX0_write_37 g.2.1 R) 37 := by
    unfold bX0_write_37
    refine si_aload_n (pc := 37) hE dX0_write_37 rfl ?_
    refine si_gR (pc := 38) hE dX0_write_38 (Or.inl q215) zfo_15 ?_
    refine si_aload_n (pc := 41) hE dX0_write_41 rfl ?_
    refine si_iload_n (pc := 42) hE dX0_write_42 rfl ?_
    refine si_hv (pc := 43) (n := 1) hE dX0_write_43 ⟨cal_V (recvO cls0) (eX0_of g) (Or.inl ⟨rfl, rfl⟩) q1258 q132 q1255 q1257 qs32 ⟨by decide +kernel, by decide +kernel⟩ nX0_of (by decide) (by decide), trivial⟩ (si_out hE rfl) ?_
    refine si_iload_n (pc := 46) hE dX0_write_46 rfl ?_
    refine si_hv (pc := 47) (n := 2) hE dX0_write_47 ⟨cal_V (recvO cls1) (eX1_of g) (Or.inl ⟨rfl, rfl⟩) q1562 q133 q1559 q1560 q1561 ⟨by decide +kernel, by decide +kernel⟩ nX1_of (by decide) (by decide), trivial⟩ (si_out hE rfl) ?_
    refine si_istore_n (pc := 50) hE dX0_write_50 rfl (by decide) ?_
    refine si_iload_n (pc := 51) hE dX0_write_51 rfl ?_
    refine si_sipush (pc := 52) hE dX0_write_52 (by decide) ?_
    refine si_icmp_le (pc := 55) hE dX0_write_55 (by decide) h61 ?_
    refine si_bipush (pc := 58) hE dX0_write_58 (by decide) ?_
    exact si_ireturn (pc := 60) hE dX0_write_60
  have h19 : E (bX0_write_19 g.2.1 R) 19 := by
    unfold bX0_write_19
    refine si_iload_n (pc := 19) hE dX0_write_19 rfl ?_
    refine si_if_le (pc := 20) hE dX0_write_20 (by decide) h37 ?_
    refine si_aload_n (pc := 23) hE dX0_write_23 rfl ?_
    refine si_iload_n (pc := 24) hE dX0_write_24 rfl ?_
    refine si_hv (pc := 25) (n := 1) hE dX0_write_25 ⟨cal_V (recvO cls0) (eX0_of g) (Or.inl ⟨rfl, rfl⟩) q1258 q132 q1255 q1257 qs32 ⟨by decide +kernel, by decide +kernel⟩ nX0_of (by decide) (by decide), trivial⟩ (si_out hE rfl) ?_
    refine si_hv (pc := 28) (n := 0) hE dX0_write_28 ⟨cal_V (recvO cls3) (eX4_hasT g) (Or.inl ⟨rfl, rfl⟩) q1547 q136 q1544 q1545 q1546 ⟨by decide +kernel, by decide +kernel⟩ nX4_hasT (by decide) (by decide), trivial⟩ (si_out hE rfl) ?_
    refine si_if_eq (pc := 31) hE dX0_write_31 (by decide) h37 ?_
    refine si_bipush (pc := 34) hE dX0_write_34 (by decide) ?_
    exact si_ireturn (pc := 36) hE dX0_write_36
  have h0 : E (bX0_write_0 g.2.1 R) 0 := by
    unfold bX0_write_0
    refine si_aload_n (pc := 0) hE dX0_write_0 rfl ?_
    refine si_iload_n (pc := 1) hE dX0_write_1 rfl ?_
    refine si_hv (pc := 2) (n := 1) hE dX0_write_2 ⟨cal_V (recvO cls0) (eX0_of g) (Or.inl ⟨rfl, rfl⟩) q1258 q132 q1255 q1257 qs32 ⟨by decide +kernel, by decide +kernel⟩ nX0_of (by decide) (by decide), trivial⟩ (si_out hE rfl) ?_
    refine si_ifnull (pc := 5) hE dX0_write_5 (by decide) h17 ?_
    refine si_iload_n (pc := 8) hE dX0_write_8 rfl ?_
    refine si_iconst (pc := 9) hE dX0_write_9 (by decide) ?_
    refine si_iconst (pc := 10) hE dX0_write_10 (by decide) ?_
    refine si_hs (pc := 11) (n := 3) hE dX0_write_11 (cal_S (eX0_in g) (Or.inl ⟨rfl, rfl⟩) q250 q132 q248 q249 ⟨by decide +kernel, by decide +kernel⟩ nX0_in (by decide) (by decide)) (si_out hE rfl) ?_
    refine si_if_ne (pc := 14) hE dX0_write_14 (by decide) h19 ?_
    exact h17
  exact h0
def bX16_isBold_0 (κ : Nat → Option Nat) (R : Ret AH) : Cont AH :=
    o_ic 0 <|
    o_zreturn R
def pX16_isBold (κ : Nat → Option Nat) : PT AH := fun as σ Q => (lg_sl as).length ≤ 1 ∧ bX16_isBold_0 κ Q (entP 1 as) [] σ
theorem nX16_isBold : parN yX16_isBold 0 := by unfold parN; decide +kernel
set_option maxHeartbeats 4000000 in
theorem eX16_isBold (g : GC) : CT (wC g) yX16_isBold (Cond.code yX16_isBold cX16_isBold 1 (some .boolean)) 0 0 (pX16_isBold g.2.1) := by
  refine CT.of (wC_ok g) (cc := cX16_isBold) (nL := 1) (ret := (some .boolean)) (ht := []) (by decide +kernel) (Or.inl ⟨rfl, rfl⟩) (B := bX16_isBold_0 g.2.1) (fun R E X hE => ?_)
  have h0 : E (bX16_isBold_0 g.2.1 R) 0 := by
    unfold bX16_isBold_0
    refine si_iconst (pc := 0) hE dX16_isBold_0 (by decide) ?_
    exact si_zreturn (pc := 1) hE dX16_isBold_1
  exact h0
