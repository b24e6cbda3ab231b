/-! LateAndEarly -/
set_option maxRecDepth 100000
def RX0 : String := "LateAndEarly"
def TX0 : u_T := fun k => match k with
  | 0 => ("LateAndEarly", "tape", "[B", true)
  | 1 => ("LateAndEarly", "taped", "I", false)
  | 2 => ("LateAndEarly", "begins", "[I", true)
  | 3 => ("LateAndEarly", "places", "[LLateAndEarly$Routine;", true)
  | 4 => ("LateAndEarly", "wrong", "I", false)
  | 5 => ("LateAndEarly", "ran", "LLateAndEarly$Run;", false)
  | _ => ("LateAndEarly", "text", "LLateAndEarly$Text;", true)
def tyX0 : Nat → FieldType := fun k => match k with
  | 0 => .array .byte
  | 1 => .int
  | 2 => .array .int
  | 3 => .array (.object "LateAndEarly$Routine")
  | 4 => .int
  | 5 => .object "LateAndEarly$Run"
  | _ => .object "LateAndEarly$Text"
abbrev wsX00 : List Cond := u_ws RX0 TX0 7
theorem nmX0 : ∀ a, a < 7 → ∀ b, b < 7 → a ≠ b → (TX0 a).2.1 ≠ (TX0 b).2.1 := by decide +kernel
theorem tyX0_ok : ∀ k, k < 7 → parseFieldDescriptor (TX0 k).2.2.1 = some (tyX0 k) := by decide +kernel
abbrev cX0_init : ByteArray := prog_1_method_2_code
def yX0_init : MethodName := ⟨RX0, "<init>", "()V"⟩
def dkwX0_init_1 : List UInt8 := [189, 0, 17, 181, 0, 19, 42, 187, 0, 23, 89, 42, 183, 0, 25, 181, 0, 28, 177]
abbrev dktX0_init_1 : List UInt8 := dkwX0_init_1 ++ []
def dkwX0_init_0 : List UInt8 := [42, 183, 0, 1, 42, 17, 11, 184, 188, 8, 181, 0, 9, 42, 16, 48, 188, 10, 181, 0, 13, 42, 7]
abbrev dktX0_init_0 : List UInt8 := dkwX0_init_0 ++ dktX0_init_1
theorem dksX0_init_0 : cX0_init.data.toList.drop 0 = dktX0_init_0 := by decide +kernel
theorem dksX0_init_1 : cX0_init.data.toList.drop 23 = dktX0_init_1 := dk_seg dksX0_init_0 23 rfl rfl
theorem dX0_init_0 : decode cX0_init 0 = .ok (.aload_n 0, 1) := dk_42 (dk_at dksX0_init_0 0 rfl rfl)
theorem dX0_init_1 : decode cX0_init 1 = .ok (.invokespecial 1, 3) := dk_183 0 1 (dk_at dksX0_init_0 1 rfl rfl)
theorem dX0_init_4 : decode cX0_init 4 = .ok (.aload_n 0, 1) := dk_42 (dk_at dksX0_init_0 4 rfl rfl)
theorem dX0_init_5 : decode cX0_init 5 = .ok (.sipush 3000, 3) := dk_17 11 184 (dk_at dksX0_init_0 5 rfl rfl)
theorem dX0_init_8 : decode cX0_init 8 = .ok (.newarray .byte, 2) := dk_188_8 (dk_at dksX0_init_0 8 rfl rfl)
theorem dX0_init_10 : decode cX0_init 10 = .ok (.putfield 9, 3) := dk_181 0 9 (dk_at dksX0_init_0 10 rfl rfl)
theorem dX0_init_13 : decode cX0_init 13 = .ok (.aload_n 0, 1) := dk_42 (dk_at dksX0_init_0 13 rfl rfl)
theorem dX0_init_14 : decode cX0_init 14 = .ok (.bipush 48, 2) := dk_16 48 (dk_at dksX0_init_0 14 rfl rfl)
theorem dX0_init_16 : decode cX0_init 16 = .ok (.newarray .int, 2) := dk_188_10 (dk_at dksX0_init_0 16 rfl rfl)
theorem dX0_init_18 : decode cX0_init 18 = .ok (.putfield 13, 3) := dk_181 0 13 (dk_at dksX0_init_0 18 rfl rfl)
theorem dX0_init_21 : decode cX0_init 21 = .ok (.aload_n 0, 1) := dk_42 (dk_at dksX0_init_0 21 rfl rfl)
theorem dX0_init_22 : decode cX0_init 22 = .ok (.iconst 4, 1) := dk_7 (dk_at dksX0_init_0 22 rfl rfl)
theorem dX0_init_23 : decode cX0_init 23 = .ok (.anewarray 17, 3) := dk_189 0 17 (dk_at dksX0_init_1 0 rfl rfl)
theorem dX0_init_26 : decode cX0_init 26 = .ok (.putfield 19, 3) := dk_181 0 19 (dk_at dksX0_init_1 3 rfl rfl)
theorem dX0_init_29 : decode cX0_init 29 = .ok (.aload_n 0, 1) := dk_42 (dk_at dksX0_init_1 6 rfl rfl)
theorem dX0_init_30 : decode cX0_init 30 = .ok (.new 23, 3) := dk_187 0 23 (dk_at dksX0_init_1 7 rfl rfl)
theorem dX0_init_33 : decode cX0_init 33 = .ok (.dup, 1) := dk_89 (dk_at dksX0_init_1 10 rfl rfl)
theorem dX0_init_34 : decode cX0_init 34 = .ok (.aload_n 0, 1) := dk_42 (dk_at dksX0_init_1 11 rfl rfl)
theorem dX0_init_35 : decode cX0_init 35 = .ok (.invokespecial 25, 3) := dk_183 0 25 (dk_at dksX0_init_1 12 rfl rfl)
theorem dX0_init_38 : decode cX0_init 38 = .ok (.putfield 28, 3) := dk_181 0 28 (dk_at dksX0_init_1 15 rfl rfl)
theorem dX0_init_41 : decode cX0_init 41 = .ok (.return_, 1) := dk_177 (dk_at dksX0_init_1 18 rfl rfl)
abbrev cX0_feed : ByteArray := prog_1_method_3_code
def yX0_feed : MethodName := ⟨RX0, "feed", "(JI)I"⟩
def dkwX0_feed_3 : List UInt8 := [167, 255, 220, 42, 180, 0, 32, 172]
abbrev dktX0_feed_3 : List UInt8 := dkwX0_feed_3 ++ []
def dkwX0_feed_2 : List UInt8 := [31, 16, 8, 21, 4, 104, 123, 136, 145, 84, 42, 89, 180, 0, 32, 4, 96, 181, 0, 32, 132, 4, 255]
abbrev dktX0_feed_2 : List UInt8 := dkwX0_feed_2 ++ dktX0_feed_3
def dkwX0_feed_1 : List UInt8 := [164, 0, 6, 16, 253, 172, 29, 4, 100, 54, 4, 21, 4, 155, 0, 37, 42, 180, 0, 9, 42, 180, 0, 32]
abbrev dktX0_feed_1 : List UInt8 := dkwX0_feed_1 ++ dktX0_feed_2
def dkwX0_feed_0 : List UInt8 := [29, 4, 161, 0, 9, 29, 16, 8, 164, 0, 6, 16, 254, 172, 42, 180, 0, 32, 29, 96, 17, 11, 184]
abbrev dktX0_feed_0 : List UInt8 := dkwX0_feed_0 ++ dktX0_feed_1
theorem dksX0_feed_0 : cX0_feed.data.toList.drop 0 = dktX0_feed_0 := by decide +kernel
theorem dksX0_feed_1 : cX0_feed.data.toList.drop 23 = dktX0_feed_1 := dk_seg dksX0_feed_0 23 rfl rfl
theorem dksX0_feed_2 : cX0_feed.data.toList.drop 47 = dktX0_feed_2 := dk_seg dksX0_feed_1 24 rfl rfl
theorem dksX0_feed_3 : cX0_feed.data.toList.drop 70 = dktX0_feed_3 := dk_seg dksX0_feed_2 23 rfl rfl
theorem dX0_feed_0 : decode cX0_feed 0 = .ok (.iload_n 3, 1) := dk_29 (dk_at dksX0_feed_0 0 rfl rfl)
theorem dX0_feed_1 : decode cX0_feed 1 = .ok (.iconst 1, 1) := dk_4 (dk_at dksX0_feed_0 1 rfl rfl)
theorem dX0_feed_2 : decode cX0_feed 2 = .ok (.if_icmp .lt 9, 3) := dk_161 0 9 (dk_at dksX0_feed_0 2 rfl rfl)
theorem dX0_feed_5 : decode cX0_feed 5 = .ok (.iload_n 3, 1) := dk_29 (dk_at dksX0_feed_0 5 rfl rfl)
theorem dX0_feed_6 : decode cX0_feed 6 = .ok (.bipush 8, 2) := dk_16 8 (dk_at dksX0_feed_0 6 rfl rfl)
theorem dX0_feed_8 : decode cX0_feed 8 = .ok (.if_icmp .le 6, 3) := dk_164 0 6 (dk_at dksX0_feed_0 8 rfl rfl)
theorem dX0_feed_11 : decode cX0_feed 11 = .ok (.bipush (-2), 2) := dk_16 254 (dk_at dksX0_feed_0 11 rfl rfl)
theorem dX0_feed_13 : decode cX0_feed 13 = .ok (.ireturn, 1) := dk_172 (dk_at dksX0_feed_0 13 rfl rfl)
theorem dX0_feed_14 : decode cX0_feed 14 = .ok (.aload_n 0, 1) := dk_42 (dk_at dksX0_feed_0 14 rfl rfl)
theorem dX0_feed_15 : decode cX0_feed 15 = .ok (.getfield 32, 3) := dk_180 0 32 (dk_at dksX0_feed_0 15 rfl rfl)
theorem dX0_feed_18 : decode cX0_feed 18 = .ok (.iload_n 3, 1) := dk_29 (dk_at dksX0_feed_0 18 rfl rfl)
theorem dX0_feed_19 : decode cX0_feed 19 = .ok (.iadd, 1) := dk_96 (dk_at dksX0_feed_0 19 rfl rfl)
theorem dX0_feed_20 : decode cX0_feed 20 = .ok (.sipush 3000, 3) := dk_17 11 184 (dk_at dksX0_feed_0 20 rfl rfl)
theorem dX0_feed_23 : decode cX0_feed 23 = .ok (.if_icmp .le 6, 3) := dk_164 0 6 (dk_at dksX0_feed_1 0 rfl rfl)
theorem dX0_feed_26 : decode cX0_feed 26 = .ok (.bipush (-3), 2) := dk_16 253 (dk_at dksX0_feed_1 3 rfl rfl)
theorem dX0_feed_28 : decode cX0_feed 28 = .ok (.ireturn, 1) := dk_172 (dk_at dksX0_feed_1 5 rfl rfl)
theorem dX0_feed_29 : decode cX0_feed 29 = .ok (.iload_n 3, 1) := dk_29 (dk_at dksX0_feed_1 6 rfl rfl)
theorem dX0_feed_30 : decode cX0_feed 30 = .ok (.iconst 1, 1) := dk_4 (dk_at dksX0_feed_1 7 rfl rfl)
theorem dX0_feed_31 : decode cX0_feed 31 = .ok (.isub, 1) := dk_100 (dk_at dksX0_feed_1 8 rfl rfl)
theorem dX0_feed_32 : decode cX0_feed 32 = .ok (.istore 4, 2) := dk_54 4 (dk_at dksX0_feed_1 9 rfl rfl)
theorem dX0_feed_34 : decode cX0_feed 34 = .ok (.iload 4, 2) := dk_21 4 (dk_at dksX0_feed_1 11 rfl rfl)
theorem dX0_feed_36 : decode cX0_feed 36 = .ok (.ifCond .lt 37, 3) := dk_155 0 37 (dk_at dksX0_feed_1 13 rfl rfl)
theorem dX0_feed_39 : decode cX0_feed 39 = .ok (.aload_n 0, 1) := dk_42 (dk_at dksX0_feed_1 16 rfl rfl)
theorem dX0_feed_40 : decode cX0_feed 40 = .ok (.getfield 9, 3) := dk_180 0 9 (dk_at dksX0_feed_1 17 rfl rfl)
theorem dX0_feed_43 : decode cX0_feed 43 = .ok (.aload_n 0, 1) := dk_42 (dk_at dksX0_feed_1 20 rfl rfl)
theorem dX0_feed_44 : decode cX0_feed 44 = .ok (.getfield 32, 3) := dk_180 0 32 (dk_at dksX0_feed_1 21 rfl rfl)
theorem dX0_feed_47 : decode cX0_feed 47 = .ok (.lload_n 1, 1) := dk_31 (dk_at dksX0_feed_2 0 rfl rfl)
theorem dX0_feed_48 : decode cX0_feed 48 = .ok (.bipush 8, 2) := dk_16 8 (dk_at dksX0_feed_2 1 rfl rfl)
theorem dX0_feed_50 : decode cX0_feed 50 = .ok (.iload 4, 2) := dk_21 4 (dk_at dksX0_feed_2 3 rfl rfl)
theorem dX0_feed_52 : decode cX0_feed 52 = .ok (.imul, 1) := dk_104 (dk_at dksX0_feed_2 5 rfl rfl)
theorem dX0_feed_53 : decode cX0_feed 53 = .ok (.lshr, 1) := dk_123 (dk_at dksX0_feed_2 6 rfl rfl)
theorem dX0_feed_54 : decode cX0_feed 54 = .ok (.l2i, 1) := dk_136 (dk_at dksX0_feed_2 7 rfl rfl)
theorem dX0_feed_55 : decode cX0_feed 55 = .ok (.i2b, 1) := dk_145 (dk_at dksX0_feed_2 8 rfl rfl)
theorem dX0_feed_56 : decode cX0_feed 56 = .ok (.bastore, 1) := dk_84 (dk_at dksX0_feed_2 9 rfl rfl)
theorem dX0_feed_57 : decode cX0_feed 57 = .ok (.aload_n 0, 1) := dk_42 (dk_at dksX0_feed_2 10 rfl rfl)
theorem dX0_feed_58 : decode cX0_feed 58 = .ok (.dup, 1) := dk_89 (dk_at dksX0_feed_2 11 rfl rfl)
theorem dX0_feed_59 : decode cX0_feed 59 = .ok (.getfield 32, 3) := dk_180 0 32 (dk_at dksX0_feed_2 12 rfl rfl)
theorem dX0_feed_62 : decode cX0_feed 62 = .ok (.iconst 1, 1) := dk_4 (dk_at dksX0_feed_2 15 rfl rfl)
theorem dX0_feed_63 : decode cX0_feed 63 = .ok (.iadd, 1) := dk_96 (dk_at dksX0_feed_2 16 rfl rfl)
theorem dX0_feed_64 : decode cX0_feed 64 = .ok (.putfield 32, 3) := dk_181 0 32 (dk_at dksX0_feed_2 17 rfl rfl)
theorem dX0_feed_67 : decode cX0_feed 67 = .ok (.iinc 4 (-1), 3) := dk_132 4 255 (dk_at dksX0_feed_2 20 rfl rfl)
theorem dX0_feed_70 : decode cX0_feed 70 = .ok (.goto (-36), 3) := dk_167 255 220 (dk_at dksX0_feed_3 0 rfl rfl)
theorem dX0_feed_73 : decode cX0_feed 73 = .ok (.aload_n 0, 1) := dk_42 (dk_at dksX0_feed_3 3 rfl rfl)
theorem dX0_feed_74 : decode cX0_feed 74 = .ok (.getfield 32, 3) := dk_180 0 32 (dk_at dksX0_feed_3 4 rfl rfl)
theorem dX0_feed_77 : decode cX0_feed 77 = .ok (.ireturn, 1) := dk_172 (dk_at dksX0_feed_3 7 rfl rfl)
abbrev cX0_cut : ByteArray := prog_1_method_4_code
def yX0_cut : MethodName := ⟨RX0, "cut", "(I)I"⟩
def dkwX0_cut_0 : List UInt8 := [27, 155, 0, 11, 27, 42, 180, 0, 32, 164, 0, 6, 16, 254, 172, 42, 27, 181, 0, 32, 27, 172]
abbrev dktX0_cut_0 : List UInt8 := dkwX0_cut_0 ++ []
theorem dksX0_cut_0 : cX0_cut.data.toList.drop 0 = dktX0_cut_0 := by decide +kernel
theorem dX0_cut_0 : decode cX0_cut 0 = .ok (.iload_n 1, 1) := dk_27 (dk_at dksX0_cut_0 0 rfl rfl)
theorem dX0_cut_1 : decode cX0_cut 1 = .ok (.ifCond .lt 11, 3) := dk_155 0 11 (dk_at dksX0_cut_0 1 rfl rfl)
theorem dX0_cut_4 : decode cX0_cut 4 = .ok (.iload_n 1, 1) := dk_27 (dk_at dksX0_cut_0 4 rfl rfl)
theorem dX0_cut_5 : decode cX0_cut 5 = .ok (.aload_n 0, 1) := dk_42 (dk_at dksX0_cut_0 5 rfl rfl)
theorem dX0_cut_6 : decode cX0_cut 6 = .ok (.getfield 32, 3) := dk_180 0 32 (dk_at dksX0_cut_0 6 rfl rfl)
theorem dX0_cut_9 : decode cX0_cut 9 = .ok (.if_icmp .le 6, 3) := dk_164 0 6 (dk_at dksX0_cut_0 9 rfl rfl)
theorem dX0_cut_12 : decode cX0_cut 12 = .ok (.bipush (-2), 2) := dk_16 254 (dk_at dksX0_cut_0 12 rfl rfl)
theorem dX0_cut_14 : decode cX0_cut 14 = .ok (.ireturn, 1) := dk_172 (dk_at dksX0_cut_0 14 rfl rfl)
theorem dX0_cut_15 : decode cX0_cut 15 = .ok (.aload_n 0, 1) := dk_42 (dk_at dksX0_cut_0 15 rfl rfl)
theorem dX0_cut_16 : decode cX0_cut 16 = .ok (.iload_n 1, 1) := dk_27 (dk_at dksX0_cut_0 16 rfl rfl)
theorem dX0_cut_17 : decode cX0_cut 17 = .ok (.putfield 32, 3) := dk_181 0 32 (dk_at dksX0_cut_0 17 rfl rfl)
theorem dX0_cut_20 : decode cX0_cut 20 = .ok (.iload_n 1, 1) := dk_27 (dk_at dksX0_cut_0 20 rfl rfl)
theorem dX0_cut_21 : decode cX0_cut 21 = .ok (.ireturn, 1) := dk_172 (dk_at dksX0_cut_0 21 rfl rfl)
abbrev cX0_tape : ByteArray := prog_1_method_5_code
def yX0_tape : MethodName := ⟨RX0, "tape", "(I)I"⟩
def dkwX0_tape_1 : List UInt8 := [167, 0, 4, 2, 172]
abbrev dktX0_tape_1 : List UInt8 := dkwX0_tape_1 ++ []
def dkwX0_tape_0 : List UInt8 := [27, 155, 0, 24, 27, 42, 180, 0, 32, 162, 0, 16, 42, 180, 0, 9, 27, 51, 17, 0, 255, 126]
abbrev dktX0_tape_0 : List UInt8 := dkwX0_tape_0 ++ dktX0_tape_1
theorem dksX0_tape_0 : cX0_tape.data.toList.drop 0 = dktX0_tape_0 := by decide +kernel
theorem dksX0_tape_1 : cX0_tape.data.toList.drop 22 = dktX0_tape_1 := dk_seg dksX0_tape_0 22 rfl rfl
theorem dX0_tape_0 : decode cX0_tape 0 = .ok (.iload_n 1, 1) := dk_27 (dk_at dksX0_tape_0 0 rfl rfl)
theorem dX0_tape_1 : decode cX0_tape 1 = .ok (.ifCond .lt 24, 3) := dk_155 0 24 (dk_at dksX0_tape_0 1 rfl rfl)
theorem dX0_tape_4 : decode cX0_tape 4 = .ok (.iload_n 1, 1) := dk_27 (dk_at dksX0_tape_0 4 rfl rfl)
theorem dX0_tape_5 : decode cX0_tape 5 = .ok (.aload_n 0, 1) := dk_42 (dk_at dksX0_tape_0 5 rfl rfl)
theorem dX0_tape_6 : decode cX0_tape 6 = .ok (.getfield 32, 3) := dk_180 0 32 (dk_at dksX0_tape_0 6 rfl rfl)
theorem dX0_tape_9 : decode cX0_tape 9 = .ok (.if_icmp .ge 16, 3) := dk_162 0 16 (dk_at dksX0_tape_0 9 rfl rfl)
theorem dX0_tape_12 : decode cX0_tape 12 = .ok (.aload_n 0, 1) := dk_42 (dk_at dksX0_tape_0 12 rfl rfl)
theorem dX0_tape_13 : decode cX0_tape 13 = .ok (.getfield 9, 3) := dk_180 0 9 (dk_at dksX0_tape_0 13 rfl rfl)
theorem dX0_tape_16 : decode cX0_tape 16 = .ok (.iload_n 1, 1) := dk_27 (dk_at dksX0_tape_0 16 rfl rfl)
theorem dX0_tape_17 : decode cX0_tape 17 = .ok (.baload, 1) := dk_51 (dk_at dksX0_tape_0 17 rfl rfl)
theorem dX0_tape_18 : decode cX0_tape 18 = .ok (.sipush 255, 3) := dk_17 0 255 (dk_at dksX0_tape_0 18 rfl rfl)
theorem dX0_tape_21 : decode cX0_tape 21 = .ok (.iand, 1) := dk_126 (dk_at dksX0_tape_0 21 rfl rfl)
theorem dX0_tape_22 : decode cX0_tape 22 = .ok (.goto 4, 3) := dk_167 0 4 (dk_at dksX0_tape_1 0 rfl rfl)
theorem dX0_tape_25 : decode cX0_tape 25 = .ok (.iconst (-1), 1) := dk_2 (dk_at dksX0_tape_1 3 rfl rfl)
theorem dX0_tape_26 : decode cX0_tape 26 = .ok (.ireturn, 1) := dk_172 (dk_at dksX0_tape_1 4 rfl rfl)
abbrev cX0_parse : ByteArray := prog_1_method_7_code
def yX0_parse : MethodName := ⟨RX0, "parse", "(I)I"⟩
def dkwX0_parse_3 : List UInt8 := [181, 0, 32, 42, 44, 180, 0, 68, 181, 0, 40, 16, 246, 44, 180, 0, 71, 100, 172]
abbrev dktX0_parse_3 : List UInt8 := dkwX0_parse_3 ++ []
def dkwX0_parse_2 : List UInt8 := [44, 182, 0, 60, 42, 180, 0, 19, 27, 44, 83, 44, 180, 0, 63, 182, 0, 54, 172, 77, 42, 3]
abbrev dktX0_parse_2 : List UInt8 := dkwX0_parse_2 ++ dktX0_parse_3
def dkwX0_parse_1 : List UInt8 := [182, 0, 46, 77, 42, 3, 181, 0, 32, 44, 180, 0, 50, 182, 0, 54, 16, 32, 164, 0, 6, 16, 253, 172]
abbrev dktX0_parse_1 : List UInt8 := dkwX0_parse_1 ++ dktX0_parse_2
def dkwX0_parse_0 : List UInt8 := [27, 3, 6, 184, 0, 36, 154, 0, 5, 2, 172, 42, 3, 181, 0, 40, 187, 0, 43, 89, 42, 183, 0, 45]
abbrev dktX0_parse_0 : List UInt8 := dkwX0_parse_0 ++ dktX0_parse_1
theorem dksX0_parse_0 : cX0_parse.data.toList.drop 0 = dktX0_parse_0 := by decide +kernel
theorem dksX0_parse_1 : cX0_parse.data.toList.drop 24 = dktX0_parse_1 := dk_seg dksX0_parse_0 24 rfl rfl
theorem dksX0_parse_2 : cX0_parse.data.toList.drop 48 = dktX0_parse_2 := dk_seg dksX0_parse_1 24 rfl rfl
theorem dksX0_parse_3 : cX0_parse.data.toList.drop 70 = dktX0_parse_3 := dk_seg dksX0_parse_2 22 rfl rfl
theorem dX0_parse_0 : decode cX0_parse 0 = .ok (.iload_n 1, 1) := dk_27 (dk_at dksX0_parse_0 0 rfl rfl)
theorem dX0_parse_1 : decode cX0_parse 1 = .ok (.iconst 0, 1) := dk_3 (dk_at dksX0_parse_0 1 rfl rfl)
theorem dX0_parse_2 : decode cX0_parse 2 = .ok (.iconst 3, 1) := dk_6 (dk_at dksX0_parse_0 2 rfl rfl)
theorem dX0_parse_3 : decode cX0_parse 3 = .ok (.invokestatic 36, 3) := dk_184 0 36 (dk_at dksX0_parse_0 3 rfl rfl)
theorem dX0_parse_6 : decode cX0_parse 6 = .ok (.ifCond .ne 5, 3) := dk_154 0 5 (dk_at dksX0_parse_0 6 rfl rfl)
theorem dX0_parse_9 : decode cX0_parse 9 = .ok (.iconst (-1), 1) := dk_2 (dk_at dksX0_parse_0 9 rfl rfl)
theorem dX0_parse_10 : decode cX0_parse 10 = .ok (.ireturn, 1) := dk_172 (dk_at dksX0_parse_0 10 rfl rfl)
theorem dX0_parse_11 : decode cX0_parse 11 = .ok (.aload_n 0, 1) := dk_42 (dk_at dksX0_parse_0 11 rfl rfl)
theorem dX0_parse_12 : decode cX0_parse 12 = .ok (.iconst 0, 1) := dk_3 (dk_at dksX0_parse_0 12 rfl rfl)
theorem dX0_parse_13 : decode cX0_parse 13 = .ok (.putfield 40, 3) := dk_181 0 40 (dk_at dksX0_parse_0 13 rfl rfl)
theorem dX0_parse_16 : decode cX0_parse 16 = .ok (.new 43, 3) := dk_187 0 43 (dk_at dksX0_parse_0 16 rfl rfl)
theorem dX0_parse_19 : decode cX0_parse 19 = .ok (.dup, 1) := dk_89 (dk_at dksX0_parse_0 19 rfl rfl)
theorem dX0_parse_20 : decode cX0_parse 20 = .ok (.aload_n 0, 1) := dk_42 (dk_at dksX0_parse_0 20 rfl rfl)
theorem dX0_parse_21 : decode cX0_parse 21 = .ok (.invokespecial 45, 3) := dk_183 0 45 (dk_at dksX0_parse_0 21 rfl rfl)
theorem dX0_parse_24 : decode cX0_parse 24 = .ok (.invokevirtual 46, 3) := dk_182 0 46 (dk_at dksX0_parse_1 0 rfl rfl)
theorem dX0_parse_27 : decode cX0_parse 27 = .ok (.astore_n 2, 1) := dk_77 (dk_at dksX0_parse_1 3 rfl rfl)
theorem dX0_parse_28 : decode cX0_parse 28 = .ok (.aload_n 0, 1) := dk_42 (dk_at dksX0_parse_1 4 rfl rfl)
theorem dX0_parse_29 : decode cX0_parse 29 = .ok (.iconst 0, 1) := dk_3 (dk_at dksX0_parse_1 5 rfl rfl)
theorem dX0_parse_30 : decode cX0_parse 30 = .ok (.putfield 32, 3) := dk_181 0 32 (dk_at dksX0_parse_1 6 rfl rfl)
theorem dX0_parse_33 : decode cX0_parse 33 = .ok (.aload_n 2, 1) := dk_44 (dk_at dksX0_parse_1 9 rfl rfl)
theorem dX0_parse_34 : decode cX0_parse 34 = .ok (.getfield 50, 3) := dk_180 0 50 (dk_at dksX0_parse_1 10 rfl rfl)
theorem dX0_parse_37 : decode cX0_parse 37 = .ok (.invokevirtual 54, 3) := dk_182 0 54 (dk_at dksX0_parse_1 13 rfl rfl)
theorem dX0_parse_40 : decode cX0_parse 40 = .ok (.bipush 32, 2) := dk_16 32 (dk_at dksX0_parse_1 16 rfl rfl)
theorem dX0_parse_42 : decode cX0_parse 42 = .ok (.if_icmp .le 6, 3) := dk_164 0 6 (dk_at dksX0_parse_1 18 rfl rfl)
theorem dX0_parse_45 : decode cX0_parse 45 = .ok (.bipush (-3), 2) := dk_16 253 (dk_at dksX0_parse_1 21 rfl rfl)
theorem dX0_parse_47 : decode cX0_parse 47 = .ok (.ireturn, 1) := dk_172 (dk_at dksX0_parse_1 23 rfl rfl)
theorem dX0_parse_48 : decode cX0_parse 48 = .ok (.aload_n 2, 1) := dk_44 (dk_at dksX0_parse_2 0 rfl rfl)
theorem dX0_parse_49 : decode cX0_parse 49 = .ok (.invokevirtual 60, 3) := dk_182 0 60 (dk_at dksX0_parse_2 1 rfl rfl)
theorem dX0_parse_52 : decode cX0_parse 52 = .ok (.aload_n 0, 1) := dk_42 (dk_at dksX0_parse_2 4 rfl rfl)
theorem dX0_parse_53 : decode cX0_parse 53 = .ok (.getfield 19, 3) := dk_180 0 19 (dk_at dksX0_parse_2 5 rfl rfl)
theorem dX0_parse_56 : decode cX0_parse 56 = .ok (.iload_n 1, 1) := dk_27 (dk_at dksX0_parse_2 8 rfl rfl)
theorem dX0_parse_57 : decode cX0_parse 57 = .ok (.aload_n 2, 1) := dk_44 (dk_at dksX0_parse_2 9 rfl rfl)
theorem dX0_parse_58 : decode cX0_parse 58 = .ok (.aastore, 1) := dk_83 (dk_at dksX0_parse_2 10 rfl rfl)
theorem dX0_parse_59 : decode cX0_parse 59 = .ok (.aload_n 2, 1) := dk_44 (dk_at dksX0_parse_2 11 rfl rfl)
theorem dX0_parse_60 : decode cX0_parse 60 = .ok (.getfield 63, 3) := dk_180 0 63 (dk_at dksX0_parse_2 12 rfl rfl)
theorem dX0_parse_63 : decode cX0_parse 63 = .ok (.invokevirtual 54, 3) := dk_182 0 54 (dk_at dksX0_parse_2 15 rfl rfl)
theorem dX0_parse_66 : decode cX0_parse 66 = .ok (.ireturn, 1) := dk_172 (dk_at dksX0_parse_2 18 rfl rfl)
theorem dX0_parse_67 : decode cX0_parse 67 = .ok (.astore_n 2, 1) := dk_77 (dk_at dksX0_parse_2 19 rfl rfl)
theorem dX0_parse_68 : decode cX0_parse 68 = .ok (.aload_n 0, 1) := dk_42 (dk_at dksX0_parse_2 20 rfl rfl)
theorem dX0_parse_69 : decode cX0_parse 69 = .ok (.iconst 0, 1) := dk_3 (dk_at dksX0_parse_2 21 rfl rfl)
theorem dX0_parse_70 : decode cX0_parse 70 = .ok (.putfield 32, 3) := dk_181 0 32 (dk_at dksX0_parse_3 0 rfl rfl)
theorem dX0_parse_73 : decode cX0_parse 73 = .ok (.aload_n 0, 1) := dk_42 (dk_at dksX0_parse_3 3 rfl rfl)
theorem dX0_parse_74 : decode cX0_parse 74 = .ok (.aload_n 2, 1) := dk_44 (dk_at dksX0_parse_3 4 rfl rfl)
theorem dX0_parse_75 : decode cX0_parse 75 = .ok (.getfield 68, 3) := dk_180 0 68 (dk_at dksX0_parse_3 5 rfl rfl)
theorem dX0_parse_78 : decode cX0_parse 78 = .ok (.putfield 40, 3) := dk_181 0 40 (dk_at dksX0_parse_3 8 rfl rfl)
theorem dX0_parse_81 : decode cX0_parse 81 = .ok (.bipush (-10), 2) := dk_16 246 (dk_at dksX0_parse_3 11 rfl rfl)
theorem dX0_parse_83 : decode cX0_parse 83 = .ok (.aload_n 2, 1) := dk_44 (dk_at dksX0_parse_3 13 rfl rfl)
theorem dX0_parse_84 : decode cX0_parse 84 = .ok (.getfield 71, 3) := dk_180 0 71 (dk_at dksX0_parse_3 14 rfl rfl)
theorem dX0_parse_87 : decode cX0_parse 87 = .ok (.isub, 1) := dk_100 (dk_at dksX0_parse_3 17 rfl rfl)
theorem dX0_parse_88 : decode cX0_parse 88 = .ok (.ireturn, 1) := dk_172 (dk_at dksX0_parse_3 18 rfl rfl)
abbrev cX0_in : ByteArray := prog_1_method_1_code
def yX0_in : MethodName := ⟨RX0, "in", "(III)Z"⟩
def dkwX0_in_0 : List UInt8 := [26, 27, 161, 0, 12, 26, 28, 163, 0, 7, 4, 167, 0, 4, 3, 172]
abbrev dktX0_in_0 : List UInt8 := dkwX0_in_0 ++ []
theorem dksX0_in_0 : cX0_in.data.toList.drop 0 = dktX0_in_0 := by decide +kernel
theorem dX0_in_0 : decode cX0_in 0 = .ok (.iload_n 0, 1) := dk_26 (dk_at dksX0_in_0 0 rfl rfl)
theorem dX0_in_1 : decode cX0_in 1 = .ok (.iload_n 1, 1) := dk_27 (dk_at dksX0_in_0 1 rfl rfl)
theorem dX0_in_2 : decode cX0_in 2 = .ok (.if_icmp .lt 12, 3) := dk_161 0 12 (dk_at dksX0_in_0 2 rfl rfl)
theorem dX0_in_5 : decode cX0_in 5 = .ok (.iload_n 0, 1) := dk_26 (dk_at dksX0_in_0 5 rfl rfl)
theorem dX0_in_6 : decode cX0_in 6 = .ok (.iload_n 2, 1) := dk_28 (dk_at dksX0_in_0 6 rfl rfl)
theorem dX0_in_7 : decode cX0_in 7 = .ok (.if_icmp .gt 7, 3) := dk_163 0 7 (dk_at dksX0_in_0 7 rfl rfl)
theorem dX0_in_10 : decode cX0_in 10 = .ok (.iconst 1, 1) := dk_4 (dk_at dksX0_in_0 10 rfl rfl)
theorem dX0_in_11 : decode cX0_in 11 = .ok (.goto 4, 3) := dk_167 0 4 (dk_at dksX0_in_0 11 rfl rfl)
theorem dX0_in_14 : decode cX0_in 14 = .ok (.iconst 0, 1) := dk_3 (dk_at dksX0_in_0 14 rfl rfl)
theorem dX0_in_15 : decode cX0_in 15 = .ok (.ireturn, 1) := dk_172 (dk_at dksX0_in_0 15 rfl rfl)
abbrev cX0_wrong : ByteArray := prog_1_method_8_code
def yX0_wrong : MethodName := ⟨RX0, "wrong", "()I"⟩
theorem dX0_wrong_0 : decode cX0_wrong 0 = .ok (.aload_n 0, 1) := by decide +kernel
theorem dX0_wrong_1 : decode cX0_wrong 1 = .ok (.getfield 40, 3) := by decide +kernel
theorem dX0_wrong_4 : decode cX0_wrong 4 = .ok (.ireturn, 1) := by decide +kernel
abbrev cX0_about : ByteArray := prog_1_method_9_code
def yX0_about : MethodName := ⟨RX0, "about", "(II)I"⟩
def dkwX0_about_3 : List UInt8 := [45, 180, 0, 81, 172, 45, 180, 0, 84, 172, 2, 172]
abbrev dktX0_about_3 : List UInt8 := dkwX0_about_3 ++ []
def dkwX0_about_2 : List UInt8 := [45, 180, 0, 78, 182, 0, 54, 172, 45, 180, 0, 63, 182, 0, 54, 172, 45, 180, 0, 50, 182, 0, 54, 172]
abbrev dktX0_about_2 : List UInt8 := dkwX0_about_2 ++ dktX0_about_3
def dkwX0_about_1 : List UInt8 := [170, 0, 0, 0, 0, 0, 69, 0, 0, 0, 0, 0, 0, 0, 4, 0, 0, 0, 35, 0, 0, 0, 43, 0, 0, 0, 51, 0, 0, 0, 59, 0, 0, 0, 64]
abbrev dktX0_about_1 : List UInt8 := dkwX0_about_1 ++ dktX0_about_2
def dkwX0_about_0 : List UInt8 := [42, 27, 182, 0, 74, 78, 45, 199, 0, 5, 2, 172, 28]
abbrev dktX0_about_0 : List UInt8 := dkwX0_about_0 ++ dktX0_about_1
theorem dksX0_about_0 : cX0_about.data.toList.drop 0 = dktX0_about_0 := by decide +kernel
theorem dksX0_about_1 : cX0_about.data.toList.drop 13 = dktX0_about_1 := dk_seg dksX0_about_0 13 rfl rfl
theorem dksX0_about_2 : cX0_about.data.toList.drop 48 = dktX0_about_2 := dk_seg dksX0_about_1 35 rfl rfl
theorem dksX0_about_3 : cX0_about.data.toList.drop 72 = dktX0_about_3 := dk_seg dksX0_about_2 24 rfl rfl
theorem dX0_about_0 : decode cX0_about 0 = .ok (.aload_n 0, 1) := dk_42 (dk_at dksX0_about_0 0 rfl rfl)
theorem dX0_about_1 : decode cX0_about 1 = .ok (.iload_n 1, 1) := dk_27 (dk_at dksX0_about_0 1 rfl rfl)
theorem dX0_about_2 : decode cX0_about 2 = .ok (.invokevirtual 74, 3) := dk_182 0 74 (dk_at dksX0_about_0 2 rfl rfl)
theorem dX0_about_5 : decode cX0_about 5 = .ok (.astore_n 3, 1) := dk_78 (dk_at dksX0_about_0 5 rfl rfl)
theorem dX0_about_6 : decode cX0_about 6 = .ok (.aload_n 3, 1) := dk_45 (dk_at dksX0_about_0 6 rfl rfl)
theorem dX0_about_7 : decode cX0_about 7 = .ok (.ifnonnull 5, 3) := dk_199 0 5 (dk_at dksX0_about_0 7 rfl rfl)
theorem dX0_about_10 : decode cX0_about 10 = .ok (.iconst (-1), 1) := dk_2 (dk_at dksX0_about_0 10 rfl rfl)
theorem dX0_about_11 : decode cX0_about 11 = .ok (.ireturn, 1) := dk_172 (dk_at dksX0_about_0 11 rfl rfl)
theorem dX0_about_12 : decode cX0_about 12 = .ok (.iload_n 2, 1) := dk_28 (dk_at dksX0_about_0 12 rfl rfl)
theorem dX0_about_13 : decode cX0_about 13 = .ok (.tableswitch 69 0 4 #[35, 43, 51, 59, 64], 35) := by decide +kernel
theorem dX0_about_48 : decode cX0_about 48 = .ok (.aload_n 3, 1) := dk_45 (dk_at dksX0_about_2 0 rfl rfl)
theorem dX0_about_49 : decode cX0_about 49 = .ok (.getfield 78, 3) := dk_180 0 78 (dk_at dksX0_about_2 1 rfl rfl)
theorem dX0_about_52 : decode cX0_about 52 = .ok (.invokevirtual 54, 3) := dk_182 0 54 (dk_at dksX0_about_2 4 rfl rfl)
theorem dX0_about_55 : decode cX0_about 55 = .ok (.ireturn, 1) := dk_172 (dk_at dksX0_about_2 7 rfl rfl)
theorem dX0_about_56 : decode cX0_about 56 = .ok (.aload_n 3, 1) := dk_45 (dk_at dksX0_about_2 8 rfl rfl)
theorem dX0_about_57 : decode cX0_about 57 = .ok (.getfield 63, 3) := dk_180 0 63 (dk_at dksX0_about_2 9 rfl rfl)
theorem dX0_about_60 : decode cX0_about 60 = .ok (.invokevirtual 54, 3) := dk_182 0 54 (dk_at dksX0_about_2 12 rfl rfl)
theorem dX0_about_63 : decode cX0_about 63 = .ok (.ireturn, 1) := dk_172 (dk_at dksX0_about_2 15 rfl rfl)
theorem dX0_about_64 : decode cX0_about 64 = .ok (.aload_n 3, 1) := dk_45 (dk_at dksX0_about_2 16 rfl rfl)
theorem dX0_about_65 : decode cX0_about 65 = .ok (.getfield 50, 3) := dk_180 0 50 (dk_at dksX0_about_2 17 rfl rfl)
theorem dX0_about_68 : decode cX0_about 68 = .ok (.invokevirtual 54, 3) := dk_182 0 54 (dk_at dksX0_about_2 20 rfl rfl)
theorem dX0_about_71 : decode cX0_about 71 = .ok (.ireturn, 1) := dk_172 (dk_at dksX0_about_2 23 rfl rfl)
theorem dX0_about_72 : decode cX0_about 72 = .ok (.aload_n 3, 1) := dk_45 (dk_at dksX0_about_3 0 rfl rfl)
theorem dX0_about_73 : decode cX0_about 73 = .ok (.getfield 81, 3) := dk_180 0 81 (dk_at dksX0_about_3 1 rfl rfl)
theorem dX0_about_76 : decode cX0_about 76 = .ok (.ireturn, 1) := dk_172 (dk_at dksX0_about_3 4 rfl rfl)
theorem dX0_about_77 : decode cX0_about 77 = .ok (.aload_n 3, 1) := dk_45 (dk_at dksX0_about_3 5 rfl rfl)
theorem dX0_about_78 : decode cX0_about 78 = .ok (.getfield 84, 3) := dk_180 0 84 (dk_at dksX0_about_3 6 rfl rfl)
theorem dX0_about_81 : decode cX0_about 81 = .ok (.ireturn, 1) := dk_172 (dk_at dksX0_about_3 9 rfl rfl)
theorem dX0_about_82 : decode cX0_about 82 = .ok (.iconst (-1), 1) := dk_2 (dk_at dksX0_about_3 10 rfl rfl)
theorem dX0_about_83 : decode cX0_about 83 = .ok (.ireturn, 1) := dk_172 (dk_at dksX0_about_3 11 rfl rfl)
abbrev cX0_of : ByteArray := prog_1_method_6_code
def yX0_of : MethodName := ⟨RX0, "of", "(I)LLateAndEarly$Routine;"⟩
def dkwX0_of_0 : List UInt8 := [27, 3, 6, 184, 0, 36, 153, 0, 12, 42, 180, 0, 19, 27, 50, 167, 0, 4, 1, 176]
abbrev dktX0_of_0 : List UInt8 := dkwX0_of_0 ++ []
theorem dksX0_of_0 : cX0_of.data.toList.drop 0 = dktX0_of_0 := by decide +kernel
theorem dX0_of_0 : decode cX0_of 0 = .ok (.iload_n 1, 1) := dk_27 (dk_at dksX0_of_0 0 rfl rfl)
theorem dX0_of_1 : decode cX0_of 1 = .ok (.iconst 0, 1) := dk_3 (dk_at dksX0_of_0 1 rfl rfl)
theorem dX0_of_2 : decode cX0_of 2 = .ok (.iconst 3, 1) := dk_6 (dk_at dksX0_of_0 2 rfl rfl)
theorem dX0_of_3 : decode cX0_of 3 = .ok (.invokestatic 36, 3) := dk_184 0 36 (dk_at dksX0_of_0 3 rfl rfl)
theorem dX0_of_6 : decode cX0_of 6 = .ok (.ifCond .eq 12, 3) := dk_153 0 12 (dk_at dksX0_of_0 6 rfl rfl)
theorem dX0_of_9 : decode cX0_of 9 = .ok (.aload_n 0, 1) := dk_42 (dk_at dksX0_of_0 9 rfl rfl)
theorem dX0_of_10 : decode cX0_of 10 = .ok (.getfield 19, 3) := dk_180 0 19 (dk_at dksX0_of_0 10 rfl rfl)
theorem dX0_of_13 : decode cX0_of 13 = .ok (.iload_n 1, 1) := dk_27 (dk_at dksX0_of_0 13 rfl rfl)
theorem dX0_of_14 : decode cX0_of 14 = .ok (.aaload, 1) := dk_50 (dk_at dksX0_of_0 14 rfl rfl)
theorem dX0_of_15 : decode cX0_of 15 = .ok (.goto 4, 3) := dk_167 0 4 (dk_at dksX0_of_0 15 rfl rfl)
theorem dX0_of_18 : decode cX0_of 18 = .ok (.aconst_null, 1) := dk_1 (dk_at dksX0_of_0 18 rfl rfl)
theorem dX0_of_19 : decode cX0_of 19 = .ok (.areturn, 1) := dk_176 (dk_at dksX0_of_0 19 rfl rfl)
abbrev cX0_node : ByteArray := prog_1_method_12_code
def yX0_node : MethodName := ⟨RX0, "node", "(III)I"⟩
def dkwX0_node_5 : List UInt8 := [180, 0, 115, 182, 0, 54, 172, 2, 172]
abbrev dktX0_node_5 : List UInt8 := dkwX0_node_5 ++ []
def dkwX0_node_4 : List UInt8 := [25, 4, 180, 0, 111, 29, 6, 100, 182, 0, 87, 192, 0, 91, 180, 0, 114, 167, 0, 4, 2, 172, 25, 4]
abbrev dktX0_node_4 : List UInt8 := dkwX0_node_4 ++ dktX0_node_5
def dkwX0_node_3 : List UInt8 := [25, 4, 182, 0, 104, 180, 0, 108, 172, 29, 6, 100, 25, 4, 180, 0, 111, 182, 0, 54, 162, 0, 23]
abbrev dktX0_node_3 : List UInt8 := dkwX0_node_3 ++ dktX0_node_4
def dkwX0_node_2 : List UInt8 := [25, 4, 182, 0, 99, 172, 25, 4, 180, 0, 101, 172, 25, 4, 182, 0, 104, 199, 0, 7, 2, 167, 0, 11]
abbrev dktX0_node_2 : List UInt8 := dkwX0_node_2 ++ dktX0_node_3
def dkwX0_node_1 : List UInt8 := [170, 0, 0, 0, 0, 0, 0, 118, 0, 0, 0, 0, 0, 0, 0, 5, 0, 0, 0, 40, 0, 0, 0, 46, 0, 0, 0, 52, 0, 0, 0, 73, 0, 0, 0, 73, 0, 0, 0, 109]
abbrev dktX0_node_1 : List UInt8 := dkwX0_node_1 ++ dktX0_node_2
def dkwX0_node_0 : List UInt8 := [42, 27, 28, 182, 0, 95, 58, 4, 25, 4, 199, 0, 5, 2, 172, 29]
abbrev dktX0_node_0 : List UInt8 := dkwX0_node_0 ++ dktX0_node_1
theorem dksX0_node_0 : cX0_node.data.toList.drop 0 = dktX0_node_0 := by decide +kernel
theorem dksX0_node_1 : cX0_node.data.toList.drop 16 = dktX0_node_1 := dk_seg dksX0_node_0 16 rfl rfl
theorem dksX0_node_2 : cX0_node.data.toList.drop 56 = dktX0_node_2 := dk_seg dksX0_node_1 40 rfl rfl
theorem dksX0_node_3 : cX0_node.data.toList.drop 80 = dktX0_node_3 := dk_seg dksX0_node_2 24 rfl rfl
theorem dksX0_node_4 : cX0_node.data.toList.drop 103 = dktX0_node_4 := dk_seg dksX0_node_3 23 rfl rfl
theorem dksX0_node_5 : cX0_node.data.toList.drop 127 = dktX0_node_5 := dk_seg dksX0_node_4 24 rfl rfl
theorem dX0_node_0 : decode cX0_node 0 = .ok (.aload_n 0, 1) := dk_42 (dk_at dksX0_node_0 0 rfl rfl)
theorem dX0_node_1 : decode cX0_node 1 = .ok (.iload_n 1, 1) := dk_27 (dk_at dksX0_node_0 1 rfl rfl)
theorem dX0_node_2 : decode cX0_node 2 = .ok (.iload_n 2, 1) := dk_28 (dk_at dksX0_node_0 2 rfl rfl)
theorem dX0_node_3 : decode cX0_node 3 = .ok (.invokevirtual 95, 3) := dk_182 0 95 (dk_at dksX0_node_0 3 rfl rfl)
theorem dX0_node_6 : decode cX0_node 6 = .ok (.astore 4, 2) := dk_58 4 (dk_at dksX0_node_0 6 rfl rfl)
theorem dX0_node_8 : decode cX0_node 8 = .ok (.aload 4, 2) := dk_25 4 (dk_at dksX0_node_0 8 rfl rfl)
theorem dX0_node_10 : decode cX0_node 10 = .ok (.ifnonnull 5, 3) := dk_199 0 5 (dk_at dksX0_node_0 10 rfl rfl)
theorem dX0_node_13 : decode cX0_node 13 = .ok (.iconst (-1), 1) := dk_2 (dk_at dksX0_node_0 13 rfl rfl)
theorem dX0_node_14 : decode cX0_node 14 = .ok (.ireturn, 1) := dk_172 (dk_at dksX0_node_0 14 rfl rfl)
theorem dX0_node_15 : decode cX0_node 15 = .ok (.iload_n 3, 1) := dk_29 (dk_at dksX0_node_0 15 rfl rfl)
theorem dX0_node_16 : decode cX0_node 16 = .ok (.tableswitch 118 0 5 #[40, 46, 52, 73, 73, 109], 40) := by decide +kernel
theorem dX0_node_56 : decode cX0_node 56 = .ok (.aload 4, 2) := dk_25 4 (dk_at dksX0_node_2 0 rfl rfl)
theorem dX0_node_58 : decode cX0_node 58 = .ok (.invokevirtual 99, 3) := dk_182 0 99 (dk_at dksX0_node_2 2 rfl rfl)
theorem dX0_node_61 : decode cX0_node 61 = .ok (.ireturn, 1) := dk_172 (dk_at dksX0_node_2 5 rfl rfl)
theorem dX0_node_62 : decode cX0_node 62 = .ok (.aload 4, 2) := dk_25 4 (dk_at dksX0_node_2 6 rfl rfl)
theorem dX0_node_64 : decode cX0_node 64 = .ok (.getfield 101, 3) := dk_180 0 101 (dk_at dksX0_node_2 8 rfl rfl)
theorem dX0_node_67 : decode cX0_node 67 = .ok (.ireturn, 1) := dk_172 (dk_at dksX0_node_2 11 rfl rfl)
theorem dX0_node_68 : decode cX0_node 68 = .ok (.aload 4, 2) := dk_25 4 (dk_at dksX0_node_2 12 rfl rfl)
theorem dX0_node_70 : decode cX0_node 70 = .ok (.invokevirtual 104, 3) := dk_182 0 104 (dk_at dksX0_node_2 14 rfl rfl)
theorem dX0_node_73 : decode cX0_node 73 = .ok (.ifnonnull 7, 3) := dk_199 0 7 (dk_at dksX0_node_2 17 rfl rfl)
theorem dX0_node_76 : decode cX0_node 76 = .ok (.iconst (-1), 1) := dk_2 (dk_at dksX0_node_2 20 rfl rfl)
theorem dX0_node_77 : decode cX0_node 77 = .ok (.goto 11, 3) := dk_167 0 11 (dk_at dksX0_node_2 21 rfl rfl)
theorem dX0_node_80 : decode cX0_node 80 = .ok (.aload 4, 2) := dk_25 4 (dk_at dksX0_node_3 0 rfl rfl)
theorem dX0_node_82 : decode cX0_node 82 = .ok (.invokevirtual 104, 3) := dk_182 0 104 (dk_at dksX0_node_3 2 rfl rfl)
theorem dX0_node_85 : decode cX0_node 85 = .ok (.getfield 108, 3) := dk_180 0 108 (dk_at dksX0_node_3 5 rfl rfl)
theorem dX0_node_88 : decode cX0_node 88 = .ok (.ireturn, 1) := dk_172 (dk_at dksX0_node_3 8 rfl rfl)
theorem dX0_node_89 : decode cX0_node 89 = .ok (.iload_n 3, 1) := dk_29 (dk_at dksX0_node_3 9 rfl rfl)
theorem dX0_node_90 : decode cX0_node 90 = .ok (.iconst 3, 1) := dk_6 (dk_at dksX0_node_3 10 rfl rfl)
theorem dX0_node_91 : decode cX0_node 91 = .ok (.isub, 1) := dk_100 (dk_at dksX0_node_3 11 rfl rfl)
theorem dX0_node_92 : decode cX0_node 92 = .ok (.aload 4, 2) := dk_25 4 (dk_at dksX0_node_3 12 rfl rfl)
theorem dX0_node_94 : decode cX0_node 94 = .ok (.getfield 111, 3) := dk_180 0 111 (dk_at dksX0_node_3 14 rfl rfl)
theorem dX0_node_97 : decode cX0_node 97 = .ok (.invokevirtual 54, 3) := dk_182 0 54 (dk_at dksX0_node_3 17 rfl rfl)
theorem dX0_node_100 : decode cX0_node 100 = .ok (.if_icmp .ge 23, 3) := dk_162 0 23 (dk_at dksX0_node_3 20 rfl rfl)
theorem dX0_node_103 : decode cX0_node 103 = .ok (.aload 4, 2) := dk_25 4 (dk_at dksX0_node_4 0 rfl rfl)
theorem dX0_node_105 : decode cX0_node 105 = .ok (.getfield 111, 3) := dk_180 0 111 (dk_at dksX0_node_4 2 rfl rfl)
theorem dX0_node_108 : decode cX0_node 108 = .ok (.iload_n 3, 1) := dk_29 (dk_at dksX0_node_4 5 rfl rfl)
theorem dX0_node_109 : decode cX0_node 109 = .ok (.iconst 3, 1) := dk_6 (dk_at dksX0_node_4 6 rfl rfl)
theorem dX0_node_110 : decode cX0_node 110 = .ok (.isub, 1) := dk_100 (dk_at dksX0_node_4 7 rfl rfl)
theorem dX0_node_111 : decode cX0_node 111 = .ok (.invokevirtual 87, 3) := dk_182 0 87 (dk_at dksX0_node_4 8 rfl rfl)
theorem dX0_node_114 : decode cX0_node 114 = .ok (.checkcast 91, 3) := dk_192 0 91 (dk_at dksX0_node_4 11 rfl rfl)
theorem dX0_node_117 : decode cX0_node 117 = .ok (.getfield 114, 3) := dk_180 0 114 (dk_at dksX0_node_4 14 rfl rfl)
theorem dX0_node_120 : decode cX0_node 120 = .ok (.goto 4, 3) := dk_167 0 4 (dk_at dksX0_node_4 17 rfl rfl)
theorem dX0_node_123 : decode cX0_node 123 = .ok (.iconst (-1), 1) := dk_2 (dk_at dksX0_node_4 20 rfl rfl)
theorem dX0_node_124 : decode cX0_node 124 = .ok (.ireturn, 1) := dk_172 (dk_at dksX0_node_4 21 rfl rfl)
theorem dX0_node_125 : decode cX0_node 125 = .ok (.aload 4, 2) := dk_25 4 (dk_at dksX0_node_4 22 rfl rfl)
theorem dX0_node_127 : decode cX0_node 127 = .ok (.getfield 115, 3) := dk_180 0 115 (dk_at dksX0_node_5 0 rfl rfl)
theorem dX0_node_130 : decode cX0_node 130 = .ok (.invokevirtual 54, 3) := dk_182 0 54 (dk_at dksX0_node_5 3 rfl rfl)
theorem dX0_node_133 : decode cX0_node 133 = .ok (.ireturn, 1) := dk_172 (dk_at dksX0_node_5 6 rfl rfl)
theorem dX0_node_134 : decode cX0_node 134 = .ok (.iconst (-1), 1) := dk_2 (dk_at dksX0_node_5 7 rfl rfl)
theorem dX0_node_135 : decode cX0_node 135 = .ok (.ireturn, 1) := dk_172 (dk_at dksX0_node_5 8 rfl rfl)
abbrev cX0_nodeOf : ByteArray := prog_1_method_10_code
def yX0_nodeOf : MethodName := ⟨RX0, "nodeOf", "(II)LLateAndEarly$Node;"⟩
def dkwX0_nodeOf_2 : List UInt8 := [192, 0, 91, 176]
abbrev dktX0_nodeOf_2 : List UInt8 := dkwX0_nodeOf_2 ++ []
def dkwX0_nodeOf_1 : List UInt8 := [184, 0, 36, 154, 0, 7, 1, 167, 0, 18, 42, 27, 182, 0, 74, 180, 0, 63, 28, 182, 0, 87]
abbrev dktX0_nodeOf_1 : List UInt8 := dkwX0_nodeOf_1 ++ dktX0_nodeOf_2
def dkwX0_nodeOf_0 : List UInt8 := [42, 27, 182, 0, 74, 198, 0, 24, 28, 3, 42, 27, 182, 0, 74, 180, 0, 63, 182, 0, 54, 4, 100]
abbrev dktX0_nodeOf_0 : List UInt8 := dkwX0_nodeOf_0 ++ dktX0_nodeOf_1
theorem dksX0_nodeOf_0 : cX0_nodeOf.data.toList.drop 0 = dktX0_nodeOf_0 := by decide +kernel
theorem dksX0_nodeOf_1 : cX0_nodeOf.data.toList.drop 23 = dktX0_nodeOf_1 := dk_seg dksX0_nodeOf_0 23 rfl rfl
theorem dksX0_nodeOf_2 : cX0_nodeOf.data.toList.drop 45 = dktX0_nodeOf_2 := dk_seg dksX0_nodeOf_1 22 rfl rfl
theorem dX0_nodeOf_0 : decode cX0_nodeOf 0 = .ok (.aload_n 0, 1) := dk_42 (dk_at dksX0_nodeOf_0 0 rfl rfl)
theorem dX0_nodeOf_1 : decode cX0_nodeOf 1 = .ok (.iload_n 1, 1) := dk_27 (dk_at dksX0_nodeOf_0 1 rfl rfl)
theorem dX0_nodeOf_2 : decode cX0_nodeOf 2 = .ok (.invokevirtual 74, 3) := dk_182 0 74 (dk_at dksX0_nodeOf_0 2 rfl rfl)
theorem dX0_nodeOf_5 : decode cX0_nodeOf 5 = .ok (.ifnull 24, 3) := dk_198 0 24 (dk_at dksX0_nodeOf_0 5 rfl rfl)
theorem dX0_nodeOf_8 : decode cX0_nodeOf 8 = .ok (.iload_n 2, 1) := dk_28 (dk_at dksX0_nodeOf_0 8 rfl rfl)
theorem dX0_nodeOf_9 : decode cX0_nodeOf 9 = .ok (.iconst 0, 1) := dk_3 (dk_at dksX0_nodeOf_0 9 rfl rfl)
theorem dX0_nodeOf_10 : decode cX0_nodeOf 10 = .ok (.aload_n 0, 1) := dk_42 (dk_at dksX0_nodeOf_0 10 rfl rfl)
theorem dX0_nodeOf_11 : decode cX0_nodeOf 11 = .ok (.iload_n 1, 1) := dk_27 (dk_at dksX0_nodeOf_0 11 rfl rfl)
theorem dX0_nodeOf_12 : decode cX0_nodeOf 12 = .ok (.invokevirtual 74, 3) := dk_182 0 74 (dk_at dksX0_nodeOf_0 12 rfl rfl)
theorem dX0_nodeOf_15 : decode cX0_nodeOf 15 = .ok (.getfield 63, 3) := dk_180 0 63 (dk_at dksX0_nodeOf_0 15 rfl rfl)
theorem dX0_nodeOf_18 : decode cX0_nodeOf 18 = .ok (.invokevirtual 54, 3) := dk_182 0 54 (dk_at dksX0_nodeOf_0 18 rfl rfl)
theorem dX0_nodeOf_21 : decode cX0_nodeOf 21 = .ok (.iconst 1, 1) := dk_4 (dk_at dksX0_nodeOf_0 21 rfl rfl)
theorem dX0_nodeOf_22 : decode cX0_nodeOf 22 = .ok (.isub, 1) := dk_100 (dk_at dksX0_nodeOf_0 22 rfl rfl)
theorem dX0_nodeOf_23 : decode cX0_nodeOf 23 = .ok (.invokestatic 36, 3) := dk_184 0 36 (dk_at dksX0_nodeOf_1 0 rfl rfl)
theorem dX0_nodeOf_26 : decode cX0_nodeOf 26 = .ok (.ifCond .ne 7, 3) := dk_154 0 7 (dk_at dksX0_nodeOf_1 3 rfl rfl)
theorem dX0_nodeOf_29 : decode cX0_nodeOf 29 = .ok (.aconst_null, 1) := dk_1 (dk_at dksX0_nodeOf_1 6 rfl rfl)
theorem dX0_nodeOf_30 : decode cX0_nodeOf 30 = .ok (.goto 18, 3) := dk_167 0 18 (dk_at dksX0_nodeOf_1 7 rfl rfl)
theorem dX0_nodeOf_33 : decode cX0_nodeOf 33 = .ok (.aload_n 0, 1) := dk_42 (dk_at dksX0_nodeOf_1 10 rfl rfl)
theorem dX0_nodeOf_34 : decode cX0_nodeOf 34 = .ok (.iload_n 1, 1) := dk_27 (dk_at dksX0_nodeOf_1 11 rfl rfl)
theorem dX0_nodeOf_35 : decode cX0_nodeOf 35 = .ok (.invokevirtual 74, 3) := dk_182 0 74 (dk_at dksX0_nodeOf_1 12 rfl rfl)
theorem dX0_nodeOf_38 : decode cX0_nodeOf 38 = .ok (.getfield 63, 3) := dk_180 0 63 (dk_at dksX0_nodeOf_1 15 rfl rfl)
theorem dX0_nodeOf_41 : decode cX0_nodeOf 41 = .ok (.iload_n 2, 1) := dk_28 (dk_at dksX0_nodeOf_1 18 rfl rfl)
theorem dX0_nodeOf_42 : decode cX0_nodeOf 42 = .ok (.invokevirtual 87, 3) := dk_182 0 87 (dk_at dksX0_nodeOf_1 19 rfl rfl)
theorem dX0_nodeOf_45 : decode cX0_nodeOf 45 = .ok (.checkcast 91, 3) := dk_192 0 91 (dk_at dksX0_nodeOf_2 0 rfl rfl)
theorem dX0_nodeOf_48 : decode cX0_nodeOf 48 = .ok (.areturn, 1) := dk_176 (dk_at dksX0_nodeOf_2 3 rfl rfl)
abbrev cX0_sum : ByteArray := prog_1_method_13_code
def yX0_sum : MethodName := ⟨RX0, "sum", "(III)I"⟩
def dkwX0_sum_6 : List UInt8 := [167, 255, 206, 21, 5, 172, 2, 172]
abbrev dktX0_sum_6 : List UInt8 := dkwX0_sum_6 ++ []
def dkwX0_sum_5 : List UInt8 := [182, 0, 87, 192, 0, 91, 58, 7, 25, 7, 182, 0, 104, 25, 4, 166, 0, 6, 132, 5, 1, 132, 6, 1]
abbrev dktX0_sum_5 : List UInt8 := dkwX0_sum_5 ++ dktX0_sum_6
def dkwX0_sum_4 : List UInt8 := [182, 0, 74, 180, 0, 63, 182, 0, 54, 162, 0, 40, 42, 27, 182, 0, 74, 180, 0, 63, 21, 6]
abbrev dktX0_sum_4 : List UInt8 := dkwX0_sum_4 ++ dktX0_sum_5
def dkwX0_sum_3 : List UInt8 := [182, 0, 137, 153, 0, 7, 4, 167, 0, 4, 3, 172, 3, 54, 5, 3, 54, 6, 21, 6, 42, 27]
abbrev dktX0_sum_3 : List UInt8 := dkwX0_sum_3 ++ dktX0_sum_4
def dkwX0_sum_2 : List UInt8 := [25, 4, 182, 0, 122, 172, 25, 4, 182, 0, 125, 172, 25, 4, 182, 0, 128, 182, 0, 132, 172, 25, 4]
abbrev dktX0_sum_2 : List UInt8 := dkwX0_sum_2 ++ dktX0_sum_3
def dkwX0_sum_1 : List UInt8 := [170, 0, 0, 0, 0, 0, 0, 133, 0, 0, 0, 0, 0, 0, 0, 4, 0, 0, 0, 36, 0, 0, 0, 42, 0, 0, 0, 48, 0, 0, 0, 57, 0, 0, 0, 71]
abbrev dktX0_sum_1 : List UInt8 := dkwX0_sum_1 ++ dktX0_sum_2
def dkwX0_sum_0 : List UInt8 := [42, 27, 28, 182, 0, 118, 58, 4, 25, 4, 199, 0, 5, 2, 172, 29]
abbrev dktX0_sum_0 : List UInt8 := dkwX0_sum_0 ++ dktX0_sum_1
theorem dksX0_sum_0 : cX0_sum.data.toList.drop 0 = dktX0_sum_0 := by decide +kernel
theorem dksX0_sum_1 : cX0_sum.data.toList.drop 16 = dktX0_sum_1 := dk_seg dksX0_sum_0 16 rfl rfl
theorem dksX0_sum_2 : cX0_sum.data.toList.drop 52 = dktX0_sum_2 := dk_seg dksX0_sum_1 36 rfl rfl
theorem dksX0_sum_3 : cX0_sum.data.toList.drop 75 = dktX0_sum_3 := dk_seg dksX0_sum_2 23 rfl rfl
theorem dksX0_sum_4 : cX0_sum.data.toList.drop 97 = dktX0_sum_4 := dk_seg dksX0_sum_3 22 rfl rfl
theorem dksX0_sum_5 : cX0_sum.data.toList.drop 119 = dktX0_sum_5 := dk_seg dksX0_sum_4 22 rfl rfl
theorem dksX0_sum_6 : cX0_sum.data.toList.drop 143 = dktX0_sum_6 := dk_seg dksX0_sum_5 24 rfl rfl
theorem dX0_sum_0 : decode cX0_sum 0 = .ok (.aload_n 0, 1) := dk_42 (dk_at dksX0_sum_0 0 rfl rfl)
theorem dX0_sum_1 : decode cX0_sum 1 = .ok (.iload_n 1, 1) := dk_27 (dk_at dksX0_sum_0 1 rfl rfl)
theorem dX0_sum_2 : decode cX0_sum 2 = .ok (.iload_n 2, 1) := dk_28 (dk_at dksX0_sum_0 2 rfl rfl)
theorem dX0_sum_3 : decode cX0_sum 3 = .ok (.invokevirtual 118, 3) := dk_182 0 118 (dk_at dksX0_sum_0 3 rfl rfl)
theorem dX0_sum_6 : decode cX0_sum 6 = .ok (.astore 4, 2) := dk_58 4 (dk_at dksX0_sum_0 6 rfl rfl)
theorem dX0_sum_8 : decode cX0_sum 8 = .ok (.aload 4, 2) := dk_25 4 (dk_at dksX0_sum_0 8 rfl rfl)
theorem dX0_sum_10 : decode cX0_sum 10 = .ok (.ifnonnull 5, 3) := dk_199 0 5 (dk_at dksX0_sum_0 10 rfl rfl)
theorem dX0_sum_13 : decode cX0_sum 13 = .ok (.iconst (-1), 1) := dk_2 (dk_at dksX0_sum_0 13 rfl rfl)
theorem dX0_sum_14 : decode cX0_sum 14 = .ok (.ireturn, 1) := dk_172 (dk_at dksX0_sum_0 14 rfl rfl)
theorem dX0_sum_15 : decode cX0_sum 15 = .ok (.iload_n 3, 1) := dk_29 (dk_at dksX0_sum_0 15 rfl rfl)
theorem dX0_sum_16 : decode cX0_sum 16 = .ok (.tableswitch 133 0 4 #[36, 42, 48, 57, 71], 36) := by decide +kernel
theorem dX0_sum_52 : decode cX0_sum 52 = .ok (.aload 4, 2) := dk_25 4 (dk_at dksX0_sum_2 0 rfl rfl)
theorem dX0_sum_54 : decode cX0_sum 54 = .ok (.invokevirtual 122, 3) := dk_182 0 122 (dk_at dksX0_sum_2 2 rfl rfl)
theorem dX0_sum_57 : decode cX0_sum 57 = .ok (.ireturn, 1) := dk_172 (dk_at dksX0_sum_2 5 rfl rfl)
theorem dX0_sum_58 : decode cX0_sum 58 = .ok (.aload 4, 2) := dk_25 4 (dk_at dksX0_sum_2 6 rfl rfl)
theorem dX0_sum_60 : decode cX0_sum 60 = .ok (.invokevirtual 125, 3) := dk_182 0 125 (dk_at dksX0_sum_2 8 rfl rfl)
theorem dX0_sum_63 : decode cX0_sum 63 = .ok (.ireturn, 1) := dk_172 (dk_at dksX0_sum_2 11 rfl rfl)
theorem dX0_sum_64 : decode cX0_sum 64 = .ok (.aload 4, 2) := dk_25 4 (dk_at dksX0_sum_2 12 rfl rfl)
theorem dX0_sum_66 : decode cX0_sum 66 = .ok (.invokevirtual 128, 3) := dk_182 0 128 (dk_at dksX0_sum_2 14 rfl rfl)
theorem dX0_sum_69 : decode cX0_sum 69 = .ok (.invokevirtual 132, 3) := dk_182 0 132 (dk_at dksX0_sum_2 17 rfl rfl)
theorem dX0_sum_72 : decode cX0_sum 72 = .ok (.ireturn, 1) := dk_172 (dk_at dksX0_sum_2 20 rfl rfl)
theorem dX0_sum_73 : decode cX0_sum 73 = .ok (.aload 4, 2) := dk_25 4 (dk_at dksX0_sum_2 21 rfl rfl)
theorem dX0_sum_75 : decode cX0_sum 75 = .ok (.invokevirtual 137, 3) := dk_182 0 137 (dk_at dksX0_sum_3 0 rfl rfl)
theorem dX0_sum_78 : decode cX0_sum 78 = .ok (.ifCond .eq 7, 3) := dk_153 0 7 (dk_at dksX0_sum_3 3 rfl rfl)
theorem dX0_sum_81 : decode cX0_sum 81 = .ok (.iconst 1, 1) := dk_4 (dk_at dksX0_sum_3 6 rfl rfl)
theorem dX0_sum_82 : decode cX0_sum 82 = .ok (.goto 4, 3) := dk_167 0 4 (dk_at dksX0_sum_3 7 rfl rfl)
theorem dX0_sum_85 : decode cX0_sum 85 = .ok (.iconst 0, 1) := dk_3 (dk_at dksX0_sum_3 10 rfl rfl)
theorem dX0_sum_86 : decode cX0_sum 86 = .ok (.ireturn, 1) := dk_172 (dk_at dksX0_sum_3 11 rfl rfl)
theorem dX0_sum_87 : decode cX0_sum 87 = .ok (.iconst 0, 1) := dk_3 (dk_at dksX0_sum_3 12 rfl rfl)
theorem dX0_sum_88 : decode cX0_sum 88 = .ok (.istore 5, 2) := dk_54 5 (dk_at dksX0_sum_3 13 rfl rfl)
theorem dX0_sum_90 : decode cX0_sum 90 = .ok (.iconst 0, 1) := dk_3 (dk_at dksX0_sum_3 15 rfl rfl)
theorem dX0_sum_91 : decode cX0_sum 91 = .ok (.istore 6, 2) := dk_54 6 (dk_at dksX0_sum_3 16 rfl rfl)
theorem dX0_sum_93 : decode cX0_sum 93 = .ok (.iload 6, 2) := dk_21 6 (dk_at dksX0_sum_3 18 rfl rfl)
theorem dX0_sum_95 : decode cX0_sum 95 = .ok (.aload_n 0, 1) := dk_42 (dk_at dksX0_sum_3 20 rfl rfl)
theorem dX0_sum_96 : decode cX0_sum 96 = .ok (.iload_n 1, 1) := dk_27 (dk_at dksX0_sum_3 21 rfl rfl)
theorem dX0_sum_97 : decode cX0_sum 97 = .ok (.invokevirtual 74, 3) := dk_182 0 74 (dk_at dksX0_sum_4 0 rfl rfl)
theorem dX0_sum_100 : decode cX0_sum 100 = .ok (.getfield 63, 3) := dk_180 0 63 (dk_at dksX0_sum_4 3 rfl rfl)
theorem dX0_sum_103 : decode cX0_sum 103 = .ok (.invokevirtual 54, 3) := dk_182 0 54 (dk_at dksX0_sum_4 6 rfl rfl)
theorem dX0_sum_106 : decode cX0_sum 106 = .ok (.if_icmp .ge 40, 3) := dk_162 0 40 (dk_at dksX0_sum_4 9 rfl rfl)
theorem dX0_sum_109 : decode cX0_sum 109 = .ok (.aload_n 0, 1) := dk_42 (dk_at dksX0_sum_4 12 rfl rfl)
theorem dX0_sum_110 : decode cX0_sum 110 = .ok (.iload_n 1, 1) := dk_27 (dk_at dksX0_sum_4 13 rfl rfl)
theorem dX0_sum_111 : decode cX0_sum 111 = .ok (.invokevirtual 74, 3) := dk_182 0 74 (dk_at dksX0_sum_4 14 rfl rfl)
theorem dX0_sum_114 : decode cX0_sum 114 = .ok (.getfield 63, 3) := dk_180 0 63 (dk_at dksX0_sum_4 17 rfl rfl)
theorem dX0_sum_117 : decode cX0_sum 117 = .ok (.iload 6, 2) := dk_21 6 (dk_at dksX0_sum_4 20 rfl rfl)
theorem dX0_sum_119 : decode cX0_sum 119 = .ok (.invokevirtual 87, 3) := dk_182 0 87 (dk_at dksX0_sum_5 0 rfl rfl)
theorem dX0_sum_122 : decode cX0_sum 122 = .ok (.checkcast 91, 3) := dk_192 0 91 (dk_at dksX0_sum_5 3 rfl rfl)
theorem dX0_sum_125 : decode cX0_sum 125 = .ok (.astore 7, 2) := dk_58 7 (dk_at dksX0_sum_5 6 rfl rfl)
theorem dX0_sum_127 : decode cX0_sum 127 = .ok (.aload 7, 2) := dk_25 7 (dk_at dksX0_sum_5 8 rfl rfl)
theorem dX0_sum_129 : decode cX0_sum 129 = .ok (.invokevirtual 104, 3) := dk_182 0 104 (dk_at dksX0_sum_5 10 rfl rfl)
theorem dX0_sum_132 : decode cX0_sum 132 = .ok (.aload 4, 2) := dk_25 4 (dk_at dksX0_sum_5 13 rfl rfl)
theorem dX0_sum_134 : decode cX0_sum 134 = .ok (.if_acmp .ne 6, 3) := dk_166 0 6 (dk_at dksX0_sum_5 15 rfl rfl)
theorem dX0_sum_137 : decode cX0_sum 137 = .ok (.iinc 5 1, 3) := dk_132 5 1 (dk_at dksX0_sum_5 18 rfl rfl)
theorem dX0_sum_140 : decode cX0_sum 140 = .ok (.iinc 6 1, 3) := dk_132 6 1 (dk_at dksX0_sum_5 21 rfl rfl)
theorem dX0_sum_143 : decode cX0_sum 143 = .ok (.goto (-50), 3) := dk_167 255 206 (dk_at dksX0_sum_6 0 rfl rfl)
theorem dX0_sum_146 : decode cX0_sum 146 = .ok (.iload 5, 2) := dk_21 5 (dk_at dksX0_sum_6 3 rfl rfl)
theorem dX0_sum_148 : decode cX0_sum 148 = .ok (.ireturn, 1) := dk_172 (dk_at dksX0_sum_6 5 rfl rfl)
theorem dX0_sum_149 : decode cX0_sum 149 = .ok (.iconst (-1), 1) := dk_2 (dk_at dksX0_sum_6 6 rfl rfl)
theorem dX0_sum_150 : decode cX0_sum 150 = .ok (.ireturn, 1) := dk_172 (dk_at dksX0_sum_6 7 rfl rfl)
abbrev cX0_sumOf : ByteArray := prog_1_method_11_code
def yX0_sumOf : MethodName := ⟨RX0, "sumOf", "(II)LLateAndEarly$Sum;"⟩
def dkwX0_sumOf_2 : List UInt8 := [192, 0, 93, 176]
abbrev dktX0_sumOf_2 : List UInt8 := dkwX0_sumOf_2 ++ []
def dkwX0_sumOf_1 : List UInt8 := [184, 0, 36, 154, 0, 7, 1, 167, 0, 18, 42, 27, 182, 0, 74, 180, 0, 50, 28, 182, 0, 87]
abbrev dktX0_sumOf_1 : List UInt8 := dkwX0_sumOf_1 ++ dktX0_sumOf_2
def dkwX0_sumOf_0 : List UInt8 := [42, 27, 182, 0, 74, 198, 0, 24, 28, 3, 42, 27, 182, 0, 74, 180, 0, 50, 182, 0, 54, 4, 100]
abbrev dktX0_sumOf_0 : List UInt8 := dkwX0_sumOf_0 ++ dktX0_sumOf_1
theorem dksX0_sumOf_0 : cX0_sumOf.data.toList.drop 0 = dktX0_sumOf_0 := by decide +kernel
theorem dksX0_sumOf_1 : cX0_sumOf.data.toList.drop 23 = dktX0_sumOf_1 := dk_seg dksX0_sumOf_0 23 rfl rfl
theorem dksX0_sumOf_2 : cX0_sumOf.data.toList.drop 45 = dktX0_sumOf_2 := dk_seg dksX0_sumOf_1 22 rfl rfl
theorem dX0_sumOf_0 : decode cX0_sumOf 0 = .ok (.aload_n 0, 1) := dk_42 (dk_at dksX0_sumOf_0 0 rfl rfl)
theorem dX0_sumOf_1 : decode cX0_sumOf 1 = .ok (.iload_n 1, 1) := dk_27 (dk_at dksX0_sumOf_0 1 rfl rfl)
theorem dX0_sumOf_2 : decode cX0_sumOf 2 = .ok (.invokevirtual 74, 3) := dk_182 0 74 (dk_at dksX0_sumOf_0 2 rfl rfl)
theorem dX0_sumOf_5 : decode cX0_sumOf 5 = .ok (.ifnull 24, 3) := dk_198 0 24 (dk_at dksX0_sumOf_0 5 rfl rfl)
theorem dX0_sumOf_8 : decode cX0_sumOf 8 = .ok (.iload_n 2, 1) := dk_28 (dk_at dksX0_sumOf_0 8 rfl rfl)
theorem dX0_sumOf_9 : decode cX0_sumOf 9 = .ok (.iconst 0, 1) := dk_3 (dk_at dksX0_sumOf_0 9 rfl rfl)
theorem dX0_sumOf_10 : decode cX0_sumOf 10 = .ok (.aload_n 0, 1) := dk_42 (dk_at dksX0_sumOf_0 10 rfl rfl)
theorem dX0_sumOf_11 : decode cX0_sumOf 11 = .ok (.iload_n 1, 1) := dk_27 (dk_at dksX0_sumOf_0 11 rfl rfl)
theorem dX0_sumOf_12 : decode cX0_sumOf 12 = .ok (.invokevirtual 74, 3) := dk_182 0 74 (dk_at dksX0_sumOf_0 12 rfl rfl)
theorem dX0_sumOf_15 : decode cX0_sumOf 15 = .ok (.getfield 50, 3) := dk_180 0 50 (dk_at dksX0_sumOf_0 15 rfl rfl)
theorem dX0_sumOf_18 : decode cX0_sumOf 18 = .ok (.invokevirtual 54, 3) := dk_182 0 54 (dk_at dksX0_sumOf_0 18 rfl rfl)
theorem dX0_sumOf_21 : decode cX0_sumOf 21 = .ok (.iconst 1, 1) := dk_4 (dk_at dksX0_sumOf_0 21 rfl rfl)
theorem dX0_sumOf_22 : decode cX0_sumOf 22 = .ok (.isub, 1) := dk_100 (dk_at dksX0_sumOf_0 22 rfl rfl)
theorem dX0_sumOf_23 : decode cX0_sumOf 23 = .ok (.invokestatic 36, 3) := dk_184 0 36 (dk_at dksX0_sumOf_1 0 rfl rfl)
theorem dX0_sumOf_26 : decode cX0_sumOf 26 = .ok (.ifCond .ne 7, 3) := dk_154 0 7 (dk_at dksX0_sumOf_1 3 rfl rfl)
theorem dX0_sumOf_29 : decode cX0_sumOf 29 = .ok (.aconst_null, 1) := dk_1 (dk_at dksX0_sumOf_1 6 rfl rfl)
theorem dX0_sumOf_30 : decode cX0_sumOf 30 = .ok (.goto 18, 3) := dk_167 0 18 (dk_at dksX0_sumOf_1 7 rfl rfl)
theorem dX0_sumOf_33 : decode cX0_sumOf 33 = .ok (.aload_n 0, 1) := dk_42 (dk_at dksX0_sumOf_1 10 rfl rfl)
theorem dX0_sumOf_34 : decode cX0_sumOf 34 = .ok (.iload_n 1, 1) := dk_27 (dk_at dksX0_sumOf_1 11 rfl rfl)
theorem dX0_sumOf_35 : decode cX0_sumOf 35 = .ok (.invokevirtual 74, 3) := dk_182 0 74 (dk_at dksX0_sumOf_1 12 rfl rfl)
theorem dX0_sumOf_38 : decode cX0_sumOf 38 = .ok (.getfield 50, 3) := dk_180 0 50 (dk_at dksX0_sumOf_1 15 rfl rfl)
theorem dX0_sumOf_41 : decode cX0_sumOf 41 = .ok (.iload_n 2, 1) := dk_28 (dk_at dksX0_sumOf_1 18 rfl rfl)
theorem dX0_sumOf_42 : decode cX0_sumOf 42 = .ok (.invokevirtual 87, 3) := dk_182 0 87 (dk_at dksX0_sumOf_1 19 rfl rfl)
theorem dX0_sumOf_45 : decode cX0_sumOf 45 = .ok (.checkcast 93, 3) := dk_192 0 93 (dk_at dksX0_sumOf_2 0 rfl rfl)
theorem dX0_sumOf_48 : decode cX0_sumOf 48 = .ok (.areturn, 1) := dk_176 (dk_at dksX0_sumOf_2 3 rfl rfl)
abbrev cX0_at : ByteArray := prog_1_method_14_code
def yX0_at : MethodName := ⟨RX0, "at", "(IIII)I"⟩
def dkwX0_at_5 : List UInt8 := [28, 123, 10, 127, 136, 172]
abbrev dktX0_at_5 : List UInt8 := dkwX0_at_5 ++ []
def dkwX0_at_4 : List UInt8 := [25, 5, 180, 0, 160, 83, 89, 16, 7, 25, 5, 180, 0, 163, 83, 58, 6, 25, 6, 21, 4, 50, 29, 47]
abbrev dktX0_at_4 : List UInt8 := dkwX0_at_4 ++ dktX0_at_5
def dkwX0_at_3 : List UInt8 := [180, 0, 151, 83, 89, 7, 25, 5, 180, 0, 154, 83, 89, 8, 25, 5, 180, 0, 157, 83, 89, 16, 6]
abbrev dktX0_at_3 : List UInt8 := dkwX0_at_3 ++ dktX0_at_4
def dkwX0_at_2 : List UInt8 := [180, 0, 143, 83, 89, 4, 25, 5, 180, 0, 145, 83, 89, 5, 25, 5, 180, 0, 148, 83, 89, 6, 25, 5]
abbrev dktX0_at_2 : List UInt8 := dkwX0_at_2 ++ dktX0_at_3
def dkwX0_at_1 : List UInt8 := [184, 0, 36, 154, 0, 5, 2, 172, 42, 27, 182, 0, 74, 58, 5, 16, 8, 189, 0, 141, 89, 3, 25, 5]
abbrev dktX0_at_1 : List UInt8 := dkwX0_at_1 ++ dktX0_at_2
def dkwX0_at_0 : List UInt8 := [42, 27, 28, 182, 0, 118, 198, 0, 23, 42, 27, 29, 182, 0, 95, 198, 0, 14, 21, 4, 3, 16, 7]
abbrev dktX0_at_0 : List UInt8 := dkwX0_at_0 ++ dktX0_at_1
theorem dksX0_at_0 : cX0_at.data.toList.drop 0 = dktX0_at_0 := by decide +kernel
theorem dksX0_at_1 : cX0_at.data.toList.drop 23 = dktX0_at_1 := dk_seg dksX0_at_0 23 rfl rfl
theorem dksX0_at_2 : cX0_at.data.toList.drop 47 = dktX0_at_2 := dk_seg dksX0_at_1 24 rfl rfl
theorem dksX0_at_3 : cX0_at.data.toList.drop 71 = dktX0_at_3 := dk_seg dksX0_at_2 24 rfl rfl
theorem dksX0_at_4 : cX0_at.data.toList.drop 94 = dktX0_at_4 := dk_seg dksX0_at_3 23 rfl rfl
theorem dksX0_at_5 : cX0_at.data.toList.drop 118 = dktX0_at_5 := dk_seg dksX0_at_4 24 rfl rfl
theorem dX0_at_0 : decode cX0_at 0 = .ok (.aload_n 0, 1) := dk_42 (dk_at dksX0_at_0 0 rfl rfl)
theorem dX0_at_1 : decode cX0_at 1 = .ok (.iload_n 1, 1) := dk_27 (dk_at dksX0_at_0 1 rfl rfl)
theorem dX0_at_2 : decode cX0_at 2 = .ok (.iload_n 2, 1) := dk_28 (dk_at dksX0_at_0 2 rfl rfl)
theorem dX0_at_3 : decode cX0_at 3 = .ok (.invokevirtual 118, 3) := dk_182 0 118 (dk_at dksX0_at_0 3 rfl rfl)
theorem dX0_at_6 : decode cX0_at 6 = .ok (.ifnull 23, 3) := dk_198 0 23 (dk_at dksX0_at_0 6 rfl rfl)
theorem dX0_at_9 : decode cX0_at 9 = .ok (.aload_n 0, 1) := dk_42 (dk_at dksX0_at_0 9 rfl rfl)
theorem dX0_at_10 : decode cX0_at 10 = .ok (.iload_n 1, 1) := dk_27 (dk_at dksX0_at_0 10 rfl rfl)
theorem dX0_at_11 : decode cX0_at 11 = .ok (.iload_n 3, 1) := dk_29 (dk_at dksX0_at_0 11 rfl rfl)
theorem dX0_at_12 : decode cX0_at 12 = .ok (.invokevirtual 95, 3) := dk_182 0 95 (dk_at dksX0_at_0 12 rfl rfl)
theorem dX0_at_15 : decode cX0_at 15 = .ok (.ifnull 14, 3) := dk_198 0 14 (dk_at dksX0_at_0 15 rfl rfl)
theorem dX0_at_18 : decode cX0_at 18 = .ok (.iload 4, 2) := dk_21 4 (dk_at dksX0_at_0 18 rfl rfl)
theorem dX0_at_20 : decode cX0_at 20 = .ok (.iconst 0, 1) := dk_3 (dk_at dksX0_at_0 20 rfl rfl)
theorem dX0_at_21 : decode cX0_at 21 = .ok (.bipush 7, 2) := dk_16 7 (dk_at dksX0_at_0 21 rfl rfl)
theorem dX0_at_23 : decode cX0_at 23 = .ok (.invokestatic 36, 3) := dk_184 0 36 (dk_at dksX0_at_1 0 rfl rfl)
theorem dX0_at_26 : decode cX0_at 26 = .ok (.ifCond .ne 5, 3) := dk_154 0 5 (dk_at dksX0_at_1 3 rfl rfl)
theorem dX0_at_29 : decode cX0_at 29 = .ok (.iconst (-1), 1) := dk_2 (dk_at dksX0_at_1 6 rfl rfl)
theorem dX0_at_30 : decode cX0_at 30 = .ok (.ireturn, 1) := dk_172 (dk_at dksX0_at_1 7 rfl rfl)
theorem dX0_at_31 : decode cX0_at 31 = .ok (.aload_n 0, 1) := dk_42 (dk_at dksX0_at_1 8 rfl rfl)
theorem dX0_at_32 : decode cX0_at 32 = .ok (.iload_n 1, 1) := dk_27 (dk_at dksX0_at_1 9 rfl rfl)
theorem dX0_at_33 : decode cX0_at 33 = .ok (.invokevirtual 74, 3) := dk_182 0 74 (dk_at dksX0_at_1 10 rfl rfl)
theorem dX0_at_36 : decode cX0_at 36 = .ok (.astore 5, 2) := dk_58 5 (dk_at dksX0_at_1 13 rfl rfl)
theorem dX0_at_38 : decode cX0_at 38 = .ok (.bipush 8, 2) := dk_16 8 (dk_at dksX0_at_1 15 rfl rfl)
theorem dX0_at_40 : decode cX0_at 40 = .ok (.anewarray 141, 3) := dk_189 0 141 (dk_at dksX0_at_1 17 rfl rfl)
theorem dX0_at_43 : decode cX0_at 43 = .ok (.dup, 1) := dk_89 (dk_at dksX0_at_1 20 rfl rfl)
theorem dX0_at_44 : decode cX0_at 44 = .ok (.iconst 0, 1) := dk_3 (dk_at dksX0_at_1 21 rfl rfl)
theorem dX0_at_45 : decode cX0_at 45 = .ok (.aload 5, 2) := dk_25 5 (dk_at dksX0_at_1 22 rfl rfl)
theorem dX0_at_47 : decode cX0_at 47 = .ok (.getfield 143, 3) := dk_180 0 143 (dk_at dksX0_at_2 0 rfl rfl)
theorem dX0_at_50 : decode cX0_at 50 = .ok (.aastore, 1) := dk_83 (dk_at dksX0_at_2 3 rfl rfl)
theorem dX0_at_51 : decode cX0_at 51 = .ok (.dup, 1) := dk_89 (dk_at dksX0_at_2 4 rfl rfl)
theorem dX0_at_52 : decode cX0_at 52 = .ok (.iconst 1, 1) := dk_4 (dk_at dksX0_at_2 5 rfl rfl)
theorem dX0_at_53 : decode cX0_at 53 = .ok (.aload 5, 2) := dk_25 5 (dk_at dksX0_at_2 6 rfl rfl)
theorem dX0_at_55 : decode cX0_at 55 = .ok (.getfield 145, 3) := dk_180 0 145 (dk_at dksX0_at_2 8 rfl rfl)
theorem dX0_at_58 : decode cX0_at 58 = .ok (.aastore, 1) := dk_83 (dk_at dksX0_at_2 11 rfl rfl)
theorem dX0_at_59 : decode cX0_at 59 = .ok (.dup, 1) := dk_89 (dk_at dksX0_at_2 12 rfl rfl)
theorem dX0_at_60 : decode cX0_at 60 = .ok (.iconst 2, 1) := dk_5 (dk_at dksX0_at_2 13 rfl rfl)
theorem dX0_at_61 : decode cX0_at 61 = .ok (.aload 5, 2) := dk_25 5 (dk_at dksX0_at_2 14 rfl rfl)
theorem dX0_at_63 : decode cX0_at 63 = .ok (.getfield 148, 3) := dk_180 0 148 (dk_at dksX0_at_2 16 rfl rfl)
theorem dX0_at_66 : decode cX0_at 66 = .ok (.aastore, 1) := dk_83 (dk_at dksX0_at_2 19 rfl rfl)
theorem dX0_at_67 : decode cX0_at 67 = .ok (.dup, 1) := dk_89 (dk_at dksX0_at_2 20 rfl rfl)
theorem dX0_at_68 : decode cX0_at 68 = .ok (.iconst 3, 1) := dk_6 (dk_at dksX0_at_2 21 rfl rfl)
theorem dX0_at_69 : decode cX0_at 69 = .ok (.aload 5, 2) := dk_25 5 (dk_at dksX0_at_2 22 rfl rfl)
theorem dX0_at_71 : decode cX0_at 71 = .ok (.getfield 151, 3) := dk_180 0 151 (dk_at dksX0_at_3 0 rfl rfl)
theorem dX0_at_74 : decode cX0_at 74 = .ok (.aastore, 1) := dk_83 (dk_at dksX0_at_3 3 rfl rfl)
theorem dX0_at_75 : decode cX0_at 75 = .ok (.dup, 1) := dk_89 (dk_at dksX0_at_3 4 rfl rfl)
theorem dX0_at_76 : decode cX0_at 76 = .ok (.iconst 4, 1) := dk_7 (dk_at dksX0_at_3 5 rfl rfl)
theorem dX0_at_77 : decode cX0_at 77 = .ok (.aload 5, 2) := dk_25 5 (dk_at dksX0_at_3 6 rfl rfl)
theorem dX0_at_79 : decode cX0_at 79 = .ok (.getfield 154, 3) := dk_180 0 154 (dk_at dksX0_at_3 8 rfl rfl)
theorem dX0_at_82 : decode cX0_at 82 = .ok (.aastore, 1) := dk_83 (dk_at dksX0_at_3 11 rfl rfl)
theorem dX0_at_83 : decode cX0_at 83 = .ok (.dup, 1) := dk_89 (dk_at dksX0_at_3 12 rfl rfl)
theorem dX0_at_84 : decode cX0_at 84 = .ok (.iconst 5, 1) := dk_8 (dk_at dksX0_at_3 13 rfl rfl)
theorem dX0_at_85 : decode cX0_at 85 = .ok (.aload 5, 2) := dk_25 5 (dk_at dksX0_at_3 14 rfl rfl)
theorem dX0_at_87 : decode cX0_at 87 = .ok (.getfield 157, 3) := dk_180 0 157 (dk_at dksX0_at_3 16 rfl rfl)
theorem dX0_at_90 : decode cX0_at 90 = .ok (.aastore, 1) := dk_83 (dk_at dksX0_at_3 19 rfl rfl)
theorem dX0_at_91 : decode cX0_at 91 = .ok (.dup, 1) := dk_89 (dk_at dksX0_at_3 20 rfl rfl)
theorem dX0_at_92 : decode cX0_at 92 = .ok (.bipush 6, 2) := dk_16 6 (dk_at dksX0_at_3 21 rfl rfl)
theorem dX0_at_94 : decode cX0_at 94 = .ok (.aload 5, 2) := dk_25 5 (dk_at dksX0_at_4 0 rfl rfl)
theorem dX0_at_96 : decode cX0_at 96 = .ok (.getfield 160, 3) := dk_180 0 160 (dk_at dksX0_at_4 2 rfl rfl)
theorem dX0_at_99 : decode cX0_at 99 = .ok (.aastore, 1) := dk_83 (dk_at dksX0_at_4 5 rfl rfl)
theorem dX0_at_100 : decode cX0_at 100 = .ok (.dup, 1) := dk_89 (dk_at dksX0_at_4 6 rfl rfl)
theorem dX0_at_101 : decode cX0_at 101 = .ok (.bipush 7, 2) := dk_16 7 (dk_at dksX0_at_4 7 rfl rfl)
theorem dX0_at_103 : decode cX0_at 103 = .ok (.aload 5, 2) := dk_25 5 (dk_at dksX0_at_4 9 rfl rfl)
theorem dX0_at_105 : decode cX0_at 105 = .ok (.getfield 163, 3) := dk_180 0 163 (dk_at dksX0_at_4 11 rfl rfl)
theorem dX0_at_108 : decode cX0_at 108 = .ok (.aastore, 1) := dk_83 (dk_at dksX0_at_4 14 rfl rfl)
theorem dX0_at_109 : decode cX0_at 109 = .ok (.astore 6, 2) := dk_58 6 (dk_at dksX0_at_4 15 rfl rfl)
theorem dX0_at_111 : decode cX0_at 111 = .ok (.aload 6, 2) := dk_25 6 (dk_at dksX0_at_4 17 rfl rfl)
theorem dX0_at_113 : decode cX0_at 113 = .ok (.iload 4, 2) := dk_21 4 (dk_at dksX0_at_4 19 rfl rfl)
theorem dX0_at_115 : decode cX0_at 115 = .ok (.aaload, 1) := dk_50 (dk_at dksX0_at_4 21 rfl rfl)
theorem dX0_at_116 : decode cX0_at 116 = .ok (.iload_n 3, 1) := dk_29 (dk_at dksX0_at_4 22 rfl rfl)
theorem dX0_at_117 : decode cX0_at 117 = .ok (.laload, 1) := dk_47 (dk_at dksX0_at_4 23 rfl rfl)
theorem dX0_at_118 : decode cX0_at 118 = .ok (.iload_n 2, 1) := dk_28 (dk_at dksX0_at_5 0 rfl rfl)
theorem dX0_at_119 : decode cX0_at 119 = .ok (.lshr, 1) := dk_123 (dk_at dksX0_at_5 1 rfl rfl)
theorem dX0_at_120 : decode cX0_at 120 = .ok (.lconst 1, 1) := dk_10 (dk_at dksX0_at_5 2 rfl rfl)
theorem dX0_at_121 : decode cX0_at 121 = .ok (.land, 1) := dk_127 (dk_at dksX0_at_5 3 rfl rfl)
theorem dX0_at_122 : decode cX0_at 122 = .ok (.l2i, 1) := dk_136 (dk_at dksX0_at_5 4 rfl rfl)
theorem dX0_at_123 : decode cX0_at 123 = .ok (.ireturn, 1) := dk_172 (dk_at dksX0_at_5 5 rfl rfl)
abbrev cX0_placed : ByteArray := prog_1_method_16_code
def yX0_placed : MethodName := ⟨RX0, "placed", "(IIIII)I"⟩
def dkwX0_placed_3 : List UInt8 := [167, 0, 12, 25, 6, 28, 182, 0, 176, 21, 4, 47, 55, 7, 22, 7, 29, 123, 10, 127, 136, 172]
abbrev dktX0_placed_3 : List UInt8 := dkwX0_placed_3 ++ []
def dkwX0_placed_2 : List UInt8 := [21, 4, 182, 0, 169, 167, 0, 29, 21, 5, 4, 160, 0, 14, 25, 6, 28, 21, 4, 182, 0, 173]
abbrev dktX0_placed_2 : List UInt8 := dkwX0_placed_2 ++ dktX0_placed_3
def dkwX0_placed_1 : List UInt8 := [184, 0, 36, 154, 0, 5, 2, 172, 42, 27, 182, 0, 74, 58, 6, 21, 5, 154, 0, 14, 25, 6, 28]
abbrev dktX0_placed_1 : List UInt8 := dkwX0_placed_1 ++ dktX0_placed_2
def dkwX0_placed_0 : List UInt8 := [42, 27, 28, 29, 182, 0, 166, 153, 0, 23, 42, 27, 21, 4, 182, 0, 95, 198, 0, 13, 21, 5, 3, 5]
abbrev dktX0_placed_0 : List UInt8 := dkwX0_placed_0 ++ dktX0_placed_1
theorem dksX0_placed_0 : cX0_placed.data.toList.drop 0 = dktX0_placed_0 := by decide +kernel
theorem dksX0_placed_1 : cX0_placed.data.toList.drop 24 = dktX0_placed_1 := dk_seg dksX0_placed_0 24 rfl rfl
theorem dksX0_placed_2 : cX0_placed.data.toList.drop 47 = dktX0_placed_2 := dk_seg dksX0_placed_1 23 rfl rfl
theorem dksX0_placed_3 : cX0_placed.data.toList.drop 69 = dktX0_placed_3 := dk_seg dksX0_placed_2 22 rfl rfl
theorem dX0_placed_0 : decode cX0_placed 0 = .ok (.aload_n 0, 1) := dk_42 (dk_at dksX0_placed_0 0 rfl rfl)
theorem dX0_placed_1 : decode cX0_placed 1 = .ok (.iload_n 1, 1) := dk_27 (dk_at dksX0_placed_0 1 rfl rfl)
theorem dX0_placed_2 : decode cX0_placed 2 = .ok (.iload_n 2, 1) := dk_28 (dk_at dksX0_placed_0 2 rfl rfl)
theorem dX0_placed_3 : decode cX0_placed 3 = .ok (.iload_n 3, 1) := dk_29 (dk_at dksX0_placed_0 3 rfl rfl)
theorem dX0_placed_4 : decode cX0_placed 4 = .ok (.invokevirtual 166, 3) := dk_182 0 166 (dk_at dksX0_placed_0 4 rfl rfl)
theorem dX0_placed_7 : decode cX0_placed 7 = .ok (.ifCond .eq 23, 3) := dk_153 0 23 (dk_at dksX0_placed_0 7 rfl rfl)
theorem dX0_placed_10 : decode cX0_placed 10 = .ok (.aload_n 0, 1) := dk_42 (dk_at dksX0_placed_0 10 rfl rfl)
theorem dX0_placed_11 : decode cX0_placed 11 = .ok (.iload_n 1, 1) := dk_27 (dk_at dksX0_placed_0 11 rfl rfl)
theorem dX0_placed_12 : decode cX0_placed 12 = .ok (.iload 4, 2) := dk_21 4 (dk_at dksX0_placed_0 12 rfl rfl)
theorem dX0_placed_14 : decode cX0_placed 14 = .ok (.invokevirtual 95, 3) := dk_182 0 95 (dk_at dksX0_placed_0 14 rfl rfl)
theorem dX0_placed_17 : decode cX0_placed 17 = .ok (.ifnull 13, 3) := dk_198 0 13 (dk_at dksX0_placed_0 17 rfl rfl)
theorem dX0_placed_20 : decode cX0_placed 20 = .ok (.iload 5, 2) := dk_21 5 (dk_at dksX0_placed_0 20 rfl rfl)
theorem dX0_placed_22 : decode cX0_placed 22 = .ok (.iconst 0, 1) := dk_3 (dk_at dksX0_placed_0 22 rfl rfl)
theorem dX0_placed_23 : decode cX0_placed 23 = .ok (.iconst 2, 1) := dk_5 (dk_at dksX0_placed_0 23 rfl rfl)
theorem dX0_placed_24 : decode cX0_placed 24 = .ok (.invokestatic 36, 3) := dk_184 0 36 (dk_at dksX0_placed_1 0 rfl rfl)
theorem dX0_placed_27 : decode cX0_placed 27 = .ok (.ifCond .ne 5, 3) := dk_154 0 5 (dk_at dksX0_placed_1 3 rfl rfl)
theorem dX0_placed_30 : decode cX0_placed 30 = .ok (.iconst (-1), 1) := dk_2 (dk_at dksX0_placed_1 6 rfl rfl)
theorem dX0_placed_31 : decode cX0_placed 31 = .ok (.ireturn, 1) := dk_172 (dk_at dksX0_placed_1 7 rfl rfl)
theorem dX0_placed_32 : decode cX0_placed 32 = .ok (.aload_n 0, 1) := dk_42 (dk_at dksX0_placed_1 8 rfl rfl)
theorem dX0_placed_33 : decode cX0_placed 33 = .ok (.iload_n 1, 1) := dk_27 (dk_at dksX0_placed_1 9 rfl rfl)
theorem dX0_placed_34 : decode cX0_placed 34 = .ok (.invokevirtual 74, 3) := dk_182 0 74 (dk_at dksX0_placed_1 10 rfl rfl)
theorem dX0_placed_37 : decode cX0_placed 37 = .ok (.astore 6, 2) := dk_58 6 (dk_at dksX0_placed_1 13 rfl rfl)
theorem dX0_placed_39 : decode cX0_placed 39 = .ok (.iload 5, 2) := dk_21 5 (dk_at dksX0_placed_1 15 rfl rfl)
theorem dX0_placed_41 : decode cX0_placed 41 = .ok (.ifCond .ne 14, 3) := dk_154 0 14 (dk_at dksX0_placed_1 17 rfl rfl)
theorem dX0_placed_44 : decode cX0_placed 44 = .ok (.aload 6, 2) := dk_25 6 (dk_at dksX0_placed_1 20 rfl rfl)
theorem dX0_placed_46 : decode cX0_placed 46 = .ok (.iload_n 2, 1) := dk_28 (dk_at dksX0_placed_1 22 rfl rfl)
theorem dX0_placed_47 : decode cX0_placed 47 = .ok (.iload 4, 2) := dk_21 4 (dk_at dksX0_placed_2 0 rfl rfl)
theorem dX0_placed_49 : decode cX0_placed 49 = .ok (.invokevirtual 169, 3) := dk_182 0 169 (dk_at dksX0_placed_2 2 rfl rfl)
theorem dX0_placed_52 : decode cX0_placed 52 = .ok (.goto 29, 3) := dk_167 0 29 (dk_at dksX0_placed_2 5 rfl rfl)
theorem dX0_placed_55 : decode cX0_placed 55 = .ok (.iload 5, 2) := dk_21 5 (dk_at dksX0_placed_2 8 rfl rfl)
theorem dX0_placed_57 : decode cX0_placed 57 = .ok (.iconst 1, 1) := dk_4 (dk_at dksX0_placed_2 10 rfl rfl)
theorem dX0_placed_58 : decode cX0_placed 58 = .ok (.if_icmp .ne 14, 3) := dk_160 0 14 (dk_at dksX0_placed_2 11 rfl rfl)
theorem dX0_placed_61 : decode cX0_placed 61 = .ok (.aload 6, 2) := dk_25 6 (dk_at dksX0_placed_2 14 rfl rfl)
theorem dX0_placed_63 : decode cX0_placed 63 = .ok (.iload_n 2, 1) := dk_28 (dk_at dksX0_placed_2 16 rfl rfl)
theorem dX0_placed_64 : decode cX0_placed 64 = .ok (.iload 4, 2) := dk_21 4 (dk_at dksX0_placed_2 17 rfl rfl)
theorem dX0_placed_66 : decode cX0_placed 66 = .ok (.invokevirtual 173, 3) := dk_182 0 173 (dk_at dksX0_placed_2 19 rfl rfl)
theorem dX0_placed_69 : decode cX0_placed 69 = .ok (.goto 12, 3) := dk_167 0 12 (dk_at dksX0_placed_3 0 rfl rfl)
theorem dX0_placed_72 : decode cX0_placed 72 = .ok (.aload 6, 2) := dk_25 6 (dk_at dksX0_placed_3 3 rfl rfl)
theorem dX0_placed_74 : decode cX0_placed 74 = .ok (.iload_n 2, 1) := dk_28 (dk_at dksX0_placed_3 5 rfl rfl)
theorem dX0_placed_75 : decode cX0_placed 75 = .ok (.invokevirtual 176, 3) := dk_182 0 176 (dk_at dksX0_placed_3 6 rfl rfl)
theorem dX0_placed_78 : decode cX0_placed 78 = .ok (.iload 4, 2) := dk_21 4 (dk_at dksX0_placed_3 9 rfl rfl)
theorem dX0_placed_80 : decode cX0_placed 80 = .ok (.laload, 1) := dk_47 (dk_at dksX0_placed_3 11 rfl rfl)
theorem dX0_placed_81 : decode cX0_placed 81 = .ok (.lstore 7, 2) := dk_55 7 (dk_at dksX0_placed_3 12 rfl rfl)
theorem dX0_placed_83 : decode cX0_placed 83 = .ok (.lload 7, 2) := dk_22 7 (dk_at dksX0_placed_3 14 rfl rfl)
theorem dX0_placed_85 : decode cX0_placed 85 = .ok (.iload_n 3, 1) := dk_29 (dk_at dksX0_placed_3 16 rfl rfl)
theorem dX0_placed_86 : decode cX0_placed 86 = .ok (.lshr, 1) := dk_123 (dk_at dksX0_placed_3 17 rfl rfl)
theorem dX0_placed_87 : decode cX0_placed 87 = .ok (.lconst 1, 1) := dk_10 (dk_at dksX0_placed_3 18 rfl rfl)
theorem dX0_placed_88 : decode cX0_placed 88 = .ok (.land, 1) := dk_127 (dk_at dksX0_placed_3 19 rfl rfl)
theorem dX0_placed_89 : decode cX0_placed 89 = .ok (.l2i, 1) := dk_136 (dk_at dksX0_placed_3 20 rfl rfl)
theorem dX0_placed_90 : decode cX0_placed 90 = .ok (.ireturn, 1) := dk_172 (dk_at dksX0_placed_3 21 rfl rfl)
abbrev cX0_isPlaced : ByteArray := prog_1_method_15_code
def yX0_isPlaced : MethodName := ⟨RX0, "isPlaced", "(III)Z"⟩
def dkwX0_isPlaced_0 : List UInt8 := [42, 27, 29, 182, 0, 118, 198, 0, 16, 28, 3, 5, 184, 0, 36, 153, 0, 7, 4, 167, 0, 4, 3, 172]
abbrev dktX0_isPlaced_0 : List UInt8 := dkwX0_isPlaced_0 ++ []
theorem dksX0_isPlaced_0 : cX0_isPlaced.data.toList.drop 0 = dktX0_isPlaced_0 := by decide +kernel
theorem dX0_isPlaced_0 : decode cX0_isPlaced 0 = .ok (.aload_n 0, 1) := dk_42 (dk_at dksX0_isPlaced_0 0 rfl rfl)
theorem dX0_isPlaced_1 : decode cX0_isPlaced 1 = .ok (.iload_n 1, 1) := dk_27 (dk_at dksX0_isPlaced_0 1 rfl rfl)
theorem dX0_isPlaced_2 : decode cX0_isPlaced 2 = .ok (.iload_n 3, 1) := dk_29 (dk_at dksX0_isPlaced_0 2 rfl rfl)
theorem dX0_isPlaced_3 : decode cX0_isPlaced 3 = .ok (.invokevirtual 118, 3) := dk_182 0 118 (dk_at dksX0_isPlaced_0 3 rfl rfl)
theorem dX0_isPlaced_6 : decode cX0_isPlaced 6 = .ok (.ifnull 16, 3) := dk_198 0 16 (dk_at dksX0_isPlaced_0 6 rfl rfl)
theorem dX0_isPlaced_9 : decode cX0_isPlaced 9 = .ok (.iload_n 2, 1) := dk_28 (dk_at dksX0_isPlaced_0 9 rfl rfl)
theorem dX0_isPlaced_10 : decode cX0_isPlaced 10 = .ok (.iconst 0, 1) := dk_3 (dk_at dksX0_isPlaced_0 10 rfl rfl)
theorem dX0_isPlaced_11 : decode cX0_isPlaced 11 = .ok (.iconst 2, 1) := dk_5 (dk_at dksX0_isPlaced_0 11 rfl rfl)
theorem dX0_isPlaced_12 : decode cX0_isPlaced 12 = .ok (.invokestatic 36, 3) := dk_184 0 36 (dk_at dksX0_isPlaced_0 12 rfl rfl)
theorem dX0_isPlaced_15 : decode cX0_isPlaced 15 = .ok (.ifCond .eq 7, 3) := dk_153 0 7 (dk_at dksX0_isPlaced_0 15 rfl rfl)
theorem dX0_isPlaced_18 : decode cX0_isPlaced 18 = .ok (.iconst 1, 1) := dk_4 (dk_at dksX0_isPlaced_0 18 rfl rfl)
theorem dX0_isPlaced_19 : decode cX0_isPlaced 19 = .ok (.goto 4, 3) := dk_167 0 4 (dk_at dksX0_isPlaced_0 19 rfl rfl)
theorem dX0_isPlaced_22 : decode cX0_isPlaced 22 = .ok (.iconst 0, 1) := dk_3 (dk_at dksX0_isPlaced_0 22 rfl rfl)
theorem dX0_isPlaced_23 : decode cX0_isPlaced 23 = .ok (.ireturn, 1) := dk_172 (dk_at dksX0_isPlaced_0 23 rfl rfl)
abbrev cX0_life : ByteArray := prog_1_method_17_code
def yX0_life : MethodName := ⟨RX0, "life", "(III)I"⟩
def dkwX0_life_2 : List UInt8 := [21, 4, 22, 8, 29, 123, 10, 127, 136, 96, 54, 4, 132, 7, 1, 167, 255, 227, 21, 4, 172]
abbrev dktX0_life_2 : List UInt8 := dkwX0_life_2 ++ []
def dkwX0_life_1 : List UInt8 := [58, 5, 25, 5, 190, 54, 6, 3, 54, 7, 21, 7, 21, 6, 162, 0, 28, 25, 5, 21, 7, 47, 55, 8]
abbrev dktX0_life_1 : List UInt8 := dkwX0_life_1 ++ dktX0_life_2
def dkwX0_life_0 : List UInt8 := [42, 27, 28, 29, 182, 0, 166, 154, 0, 5, 2, 172, 3, 54, 4, 42, 27, 182, 0, 74, 28, 182, 0, 176]
abbrev dktX0_life_0 : List UInt8 := dkwX0_life_0 ++ dktX0_life_1
theorem dksX0_life_0 : cX0_life.data.toList.drop 0 = dktX0_life_0 := by decide +kernel
theorem dksX0_life_1 : cX0_life.data.toList.drop 24 = dktX0_life_1 := dk_seg dksX0_life_0 24 rfl rfl
theorem dksX0_life_2 : cX0_life.data.toList.drop 48 = dktX0_life_2 := dk_seg dksX0_life_1 24 rfl rfl
theorem dX0_life_0 : decode cX0_life 0 = .ok (.aload_n 0, 1) := dk_42 (dk_at dksX0_life_0 0 rfl rfl)
theorem dX0_life_1 : decode cX0_life 1 = .ok (.iload_n 1, 1) := dk_27 (dk_at dksX0_life_0 1 rfl rfl)
theorem dX0_life_2 : decode cX0_life 2 = .ok (.iload_n 2, 1) := dk_28 (dk_at dksX0_life_0 2 rfl rfl)
theorem dX0_life_3 : decode cX0_life 3 = .ok (.iload_n 3, 1) := dk_29 (dk_at dksX0_life_0 3 rfl rfl)
theorem dX0_life_4 : decode cX0_life 4 = .ok (.invokevirtual 166, 3) := dk_182 0 166 (dk_at dksX0_life_0 4 rfl rfl)
theorem dX0_life_7 : decode cX0_life 7 = .ok (.ifCond .ne 5, 3) := dk_154 0 5 (dk_at dksX0_life_0 7 rfl rfl)
theorem dX0_life_10 : decode cX0_life 10 = .ok (.iconst (-1), 1) := dk_2 (dk_at dksX0_life_0 10 rfl rfl)
theorem dX0_life_11 : decode cX0_life 11 = .ok (.ireturn, 1) := dk_172 (dk_at dksX0_life_0 11 rfl rfl)
theorem dX0_life_12 : decode cX0_life 12 = .ok (.iconst 0, 1) := dk_3 (dk_at dksX0_life_0 12 rfl rfl)
theorem dX0_life_13 : decode cX0_life 13 = .ok (.istore 4, 2) := dk_54 4 (dk_at dksX0_life_0 13 rfl rfl)
theorem dX0_life_15 : decode cX0_life 15 = .ok (.aload_n 0, 1) := dk_42 (dk_at dksX0_life_0 15 rfl rfl)
theorem dX0_life_16 : decode cX0_life 16 = .ok (.iload_n 1, 1) := dk_27 (dk_at dksX0_life_0 16 rfl rfl)
theorem dX0_life_17 : decode cX0_life 17 = .ok (.invokevirtual 74, 3) := dk_182 0 74 (dk_at dksX0_life_0 17 rfl rfl)
theorem dX0_life_20 : decode cX0_life 20 = .ok (.iload_n 2, 1) := dk_28 (dk_at dksX0_life_0 20 rfl rfl)
theorem dX0_life_21 : decode cX0_life 21 = .ok (.invokevirtual 176, 3) := dk_182 0 176 (dk_at dksX0_life_0 21 rfl rfl)
theorem dX0_life_24 : decode cX0_life 24 = .ok (.astore 5, 2) := dk_58 5 (dk_at dksX0_life_1 0 rfl rfl)
theorem dX0_life_26 : decode cX0_life 26 = .ok (.aload 5, 2) := dk_25 5 (dk_at dksX0_life_1 2 rfl rfl)
theorem dX0_life_28 : decode cX0_life 28 = .ok (.arraylength, 1) := dk_190 (dk_at dksX0_life_1 4 rfl rfl)
theorem dX0_life_29 : decode cX0_life 29 = .ok (.istore 6, 2) := dk_54 6 (dk_at dksX0_life_1 5 rfl rfl)
theorem dX0_life_31 : decode cX0_life 31 = .ok (.iconst 0, 1) := dk_3 (dk_at dksX0_life_1 7 rfl rfl)
theorem dX0_life_32 : decode cX0_life 32 = .ok (.istore 7, 2) := dk_54 7 (dk_at dksX0_life_1 8 rfl rfl)
theorem dX0_life_34 : decode cX0_life 34 = .ok (.iload 7, 2) := dk_21 7 (dk_at dksX0_life_1 10 rfl rfl)
theorem dX0_life_36 : decode cX0_life 36 = .ok (.iload 6, 2) := dk_21 6 (dk_at dksX0_life_1 12 rfl rfl)
theorem dX0_life_38 : decode cX0_life 38 = .ok (.if_icmp .ge 28, 3) := dk_162 0 28 (dk_at dksX0_life_1 14 rfl rfl)
theorem dX0_life_41 : decode cX0_life 41 = .ok (.aload 5, 2) := dk_25 5 (dk_at dksX0_life_1 17 rfl rfl)
theorem dX0_life_43 : decode cX0_life 43 = .ok (.iload 7, 2) := dk_21 7 (dk_at dksX0_life_1 19 rfl rfl)
theorem dX0_life_45 : decode cX0_life 45 = .ok (.laload, 1) := dk_47 (dk_at dksX0_life_1 21 rfl rfl)
theorem dX0_life_46 : decode cX0_life 46 = .ok (.lstore 8, 2) := dk_55 8 (dk_at dksX0_life_1 22 rfl rfl)
theorem dX0_life_48 : decode cX0_life 48 = .ok (.iload 4, 2) := dk_21 4 (dk_at dksX0_life_2 0 rfl rfl)
theorem dX0_life_50 : decode cX0_life 50 = .ok (.lload 8, 2) := dk_22 8 (dk_at dksX0_life_2 2 rfl rfl)
theorem dX0_life_52 : decode cX0_life 52 = .ok (.iload_n 3, 1) := dk_29 (dk_at dksX0_life_2 4 rfl rfl)
theorem dX0_life_53 : decode cX0_life 53 = .ok (.lshr, 1) := dk_123 (dk_at dksX0_life_2 5 rfl rfl)
theorem dX0_life_54 : decode cX0_life 54 = .ok (.lconst 1, 1) := dk_10 (dk_at dksX0_life_2 6 rfl rfl)
theorem dX0_life_55 : decode cX0_life 55 = .ok (.land, 1) := dk_127 (dk_at dksX0_life_2 7 rfl rfl)
theorem dX0_life_56 : decode cX0_life 56 = .ok (.l2i, 1) := dk_136 (dk_at dksX0_life_2 8 rfl rfl)
theorem dX0_life_57 : decode cX0_life 57 = .ok (.iadd, 1) := dk_96 (dk_at dksX0_life_2 9 rfl rfl)
theorem dX0_life_58 : decode cX0_life 58 = .ok (.istore 4, 2) := dk_54 4 (dk_at dksX0_life_2 10 rfl rfl)
theorem dX0_life_60 : decode cX0_life 60 = .ok (.iinc 7 1, 3) := dk_132 7 1 (dk_at dksX0_life_2 12 rfl rfl)
theorem dX0_life_63 : decode cX0_life 63 = .ok (.goto (-29), 3) := dk_167 255 227 (dk_at dksX0_life_2 15 rfl rfl)
theorem dX0_life_66 : decode cX0_life 66 = .ok (.iload 4, 2) := dk_21 4 (dk_at dksX0_life_2 18 rfl rfl)
theorem dX0_life_68 : decode cX0_life 68 = .ok (.ireturn, 1) := dk_172 (dk_at dksX0_life_2 20 rfl rfl)
abbrev cX0_places : ByteArray := prog_1_method_18_code
def yX0_places : MethodName := ⟨RX0, "places", "(IIII)I"⟩
def dkwX0_places_3 : List UInt8 := [182, 0, 173, 29, 123, 10, 127, 136, 96, 54, 6, 132, 7, 1, 167, 255, 206, 21, 6, 172]
abbrev dktX0_places_3 : List UInt8 := dkwX0_places_3 ++ []
def dkwX0_places_2 : List UInt8 := [21, 6, 21, 4, 154, 0, 14, 25, 5, 28, 21, 7, 182, 0, 169, 167, 0, 11, 25, 5, 28, 21, 7]
abbrev dktX0_places_2 : List UInt8 := dkwX0_places_2 ++ dktX0_places_3
def dkwX0_places_1 : List UInt8 := [182, 0, 74, 58, 5, 3, 54, 6, 3, 54, 7, 21, 7, 25, 5, 180, 0, 63, 182, 0, 54, 162, 0, 43]
abbrev dktX0_places_1 : List UInt8 := dkwX0_places_1 ++ dktX0_places_2
def dkwX0_places_0 : List UInt8 := [42, 27, 28, 29, 182, 0, 166, 153, 0, 13, 21, 4, 3, 4, 184, 0, 36, 154, 0, 5, 2, 172, 42, 27]
abbrev dktX0_places_0 : List UInt8 := dkwX0_places_0 ++ dktX0_places_1
theorem dksX0_places_0 : cX0_places.data.toList.drop 0 = dktX0_places_0 := by decide +kernel
theorem dksX0_places_1 : cX0_places.data.toList.drop 24 = dktX0_places_1 := dk_seg dksX0_places_0 24 rfl rfl
theorem dksX0_places_2 : cX0_places.data.toList.drop 48 = dktX0_places_2 := dk_seg dksX0_places_1 24 rfl rfl
theorem dksX0_places_3 : cX0_places.data.toList.drop 71 = dktX0_places_3 := dk_seg dksX0_places_2 23 rfl rfl
theorem dX0_places_0 : decode cX0_places 0 = .ok (.aload_n 0, 1) := dk_42 (dk_at dksX0_places_0 0 rfl rfl)
theorem dX0_places_1 : decode cX0_places 1 = .ok (.iload_n 1, 1) := dk_27 (dk_at dksX0_places_0 1 rfl rfl)
theorem dX0_places_2 : decode cX0_places 2 = .ok (.iload_n 2, 1) := dk_28 (dk_at dksX0_places_0 2 rfl rfl)
theorem dX0_places_3 : decode cX0_places 3 = .ok (.iload_n 3, 1) := dk_29 (dk_at dksX0_places_0 3 rfl rfl)
theorem dX0_places_4 : decode cX0_places 4 = .ok (.invokevirtual 166, 3) := dk_182 0 166 (dk_at dksX0_places_0 4 rfl rfl)
theorem dX0_places_7 : decode cX0_places 7 = .ok (.ifCond .eq 13, 3) := dk_153 0 13 (dk_at dksX0_places_0 7 rfl rfl)
theorem dX0_places_10 : decode cX0_places 10 = .ok (.iload 4, 2) := dk_21 4 (dk_at dksX0_places_0 10 rfl rfl)
theorem dX0_places_12 : decode cX0_places 12 = .ok (.iconst 0, 1) := dk_3 (dk_at dksX0_places_0 12 rfl rfl)
theorem dX0_places_13 : decode cX0_places 13 = .ok (.iconst 1, 1) := dk_4 (dk_at dksX0_places_0 13 rfl rfl)
theorem dX0_places_14 : decode cX0_places 14 = .ok (.invokestatic 36, 3) := dk_184 0 36 (dk_at dksX0_places_0 14 rfl rfl)
theorem dX0_places_17 : decode cX0_places 17 = .ok (.ifCond .ne 5, 3) := dk_154 0 5 (dk_at dksX0_places_0 17 rfl rfl)
theorem dX0_places_20 : decode cX0_places 20 = .ok (.iconst (-1), 1) := dk_2 (dk_at dksX0_places_0 20 rfl rfl)
theorem dX0_places_21 : decode cX0_places 21 = .ok (.ireturn, 1) := dk_172 (dk_at dksX0_places_0 21 rfl rfl)
theorem dX0_places_22 : decode cX0_places 22 = .ok (.aload_n 0, 1) := dk_42 (dk_at dksX0_places_0 22 rfl rfl)
theorem dX0_places_23 : decode cX0_places 23 = .ok (.iload_n 1, 1) := dk_27 (dk_at dksX0_places_0 23 rfl rfl)
theorem dX0_places_24 : decode cX0_places 24 = .ok (.invokevirtual 74, 3) := dk_182 0 74 (dk_at dksX0_places_1 0 rfl rfl)
theorem dX0_places_27 : decode cX0_places 27 = .ok (.astore 5, 2) := dk_58 5 (dk_at dksX0_places_1 3 rfl rfl)
theorem dX0_places_29 : decode cX0_places 29 = .ok (.iconst 0, 1) := dk_3 (dk_at dksX0_places_1 5 rfl rfl)
theorem dX0_places_30 : decode cX0_places 30 = .ok (.istore 6, 2) := dk_54 6 (dk_at dksX0_places_1 6 rfl rfl)
theorem dX0_places_32 : decode cX0_places 32 = .ok (.iconst 0, 1) := dk_3 (dk_at dksX0_places_1 8 rfl rfl)
theorem dX0_places_33 : decode cX0_places 33 = .ok (.istore 7, 2) := dk_54 7 (dk_at dksX0_places_1 9 rfl rfl)
theorem dX0_places_35 : decode cX0_places 35 = .ok (.iload 7, 2) := dk_21 7 (dk_at dksX0_places_1 11 rfl rfl)
theorem dX0_places_37 : decode cX0_places 37 = .ok (.aload 5, 2) := dk_25 5 (dk_at dksX0_places_1 13 rfl rfl)
theorem dX0_places_39 : decode cX0_places 39 = .ok (.getfield 63, 3) := dk_180 0 63 (dk_at dksX0_places_1 15 rfl rfl)
theorem dX0_places_42 : decode cX0_places 42 = .ok (.invokevirtual 54, 3) := dk_182 0 54 (dk_at dksX0_places_1 18 rfl rfl)
theorem dX0_places_45 : decode cX0_places 45 = .ok (.if_icmp .ge 43, 3) := dk_162 0 43 (dk_at dksX0_places_1 21 rfl rfl)
theorem dX0_places_48 : decode cX0_places 48 = .ok (.iload 6, 2) := dk_21 6 (dk_at dksX0_places_2 0 rfl rfl)
theorem dX0_places_50 : decode cX0_places 50 = .ok (.iload 4, 2) := dk_21 4 (dk_at dksX0_places_2 2 rfl rfl)
theorem dX0_places_52 : decode cX0_places 52 = .ok (.ifCond .ne 14, 3) := dk_154 0 14 (dk_at dksX0_places_2 4 rfl rfl)
theorem dX0_places_55 : decode cX0_places 55 = .ok (.aload 5, 2) := dk_25 5 (dk_at dksX0_places_2 7 rfl rfl)
theorem dX0_places_57 : decode cX0_places 57 = .ok (.iload_n 2, 1) := dk_28 (dk_at dksX0_places_2 9 rfl rfl)
theorem dX0_places_58 : decode cX0_places 58 = .ok (.iload 7, 2) := dk_21 7 (dk_at dksX0_places_2 10 rfl rfl)
theorem dX0_places_60 : decode cX0_places 60 = .ok (.invokevirtual 169, 3) := dk_182 0 169 (dk_at dksX0_places_2 12 rfl rfl)
theorem dX0_places_63 : decode cX0_places 63 = .ok (.goto 11, 3) := dk_167 0 11 (dk_at dksX0_places_2 15 rfl rfl)
theorem dX0_places_66 : decode cX0_places 66 = .ok (.aload 5, 2) := dk_25 5 (dk_at dksX0_places_2 18 rfl rfl)
theorem dX0_places_68 : decode cX0_places 68 = .ok (.iload_n 2, 1) := dk_28 (dk_at dksX0_places_2 20 rfl rfl)
theorem dX0_places_69 : decode cX0_places 69 = .ok (.iload 7, 2) := dk_21 7 (dk_at dksX0_places_2 21 rfl rfl)
theorem dX0_places_71 : decode cX0_places 71 = .ok (.invokevirtual 173, 3) := dk_182 0 173 (dk_at dksX0_places_3 0 rfl rfl)
theorem dX0_places_74 : decode cX0_places 74 = .ok (.iload_n 3, 1) := dk_29 (dk_at dksX0_places_3 3 rfl rfl)
theorem dX0_places_75 : decode cX0_places 75 = .ok (.lshr, 1) := dk_123 (dk_at dksX0_places_3 4 rfl rfl)
theorem dX0_places_76 : decode cX0_places 76 = .ok (.lconst 1, 1) := dk_10 (dk_at dksX0_places_3 5 rfl rfl)
theorem dX0_places_77 : decode cX0_places 77 = .ok (.land, 1) := dk_127 (dk_at dksX0_places_3 6 rfl rfl)
theorem dX0_places_78 : decode cX0_places 78 = .ok (.l2i, 1) := dk_136 (dk_at dksX0_places_3 7 rfl rfl)
theorem dX0_places_79 : decode cX0_places 79 = .ok (.iadd, 1) := dk_96 (dk_at dksX0_places_3 8 rfl rfl)
theorem dX0_places_80 : decode cX0_places 80 = .ok (.istore 6, 2) := dk_54 6 (dk_at dksX0_places_3 9 rfl rfl)
theorem dX0_places_82 : decode cX0_places 82 = .ok (.iinc 7 1, 3) := dk_132 7 1 (dk_at dksX0_places_3 11 rfl rfl)
theorem dX0_places_85 : decode cX0_places 85 = .ok (.goto (-50), 3) := dk_167 255 206 (dk_at dksX0_places_3 14 rfl rfl)
theorem dX0_places_88 : decode cX0_places 88 = .ok (.iload 6, 2) := dk_21 6 (dk_at dksX0_places_3 17 rfl rfl)
theorem dX0_places_90 : decode cX0_places 90 = .ok (.ireturn, 1) := dk_172 (dk_at dksX0_places_3 19 rfl rfl)
abbrev cX0_name : ByteArray := prog_1_method_19_code
def yX0_name : MethodName := ⟨RX0, "name", "(II)I"⟩
def dkwX0_name_1 : List UInt8 := [28, 79, 29, 172]
abbrev dktX0_name_1 : List UInt8 := dkwX0_name_1 ++ []
def dkwX0_name_0 : List UInt8 := [27, 3, 16, 47, 184, 0, 36, 154, 0, 5, 3, 172, 42, 180, 0, 13, 27, 46, 62, 42, 180, 0, 13, 27]
abbrev dktX0_name_0 : List UInt8 := dkwX0_name_0 ++ dktX0_name_1
theorem dksX0_name_0 : cX0_name.data.toList.drop 0 = dktX0_name_0 := by decide +kernel
theorem dksX0_name_1 : cX0_name.data.toList.drop 24 = dktX0_name_1 := dk_seg dksX0_name_0 24 rfl rfl
theorem dX0_name_0 : decode cX0_name 0 = .ok (.iload_n 1, 1) := dk_27 (dk_at dksX0_name_0 0 rfl rfl)
theorem dX0_name_1 : decode cX0_name 1 = .ok (.iconst 0, 1) := dk_3 (dk_at dksX0_name_0 1 rfl rfl)
theorem dX0_name_2 : decode cX0_name 2 = .ok (.bipush 47, 2) := dk_16 47 (dk_at dksX0_name_0 2 rfl rfl)
theorem dX0_name_4 : decode cX0_name 4 = .ok (.invokestatic 36, 3) := dk_184 0 36 (dk_at dksX0_name_0 4 rfl rfl)
theorem dX0_name_7 : decode cX0_name 7 = .ok (.ifCond .ne 5, 3) := dk_154 0 5 (dk_at dksX0_name_0 7 rfl rfl)
theorem dX0_name_10 : decode cX0_name 10 = .ok (.iconst 0, 1) := dk_3 (dk_at dksX0_name_0 10 rfl rfl)
theorem dX0_name_11 : decode cX0_name 11 = .ok (.ireturn, 1) := dk_172 (dk_at dksX0_name_0 11 rfl rfl)
theorem dX0_name_12 : decode cX0_name 12 = .ok (.aload_n 0, 1) := dk_42 (dk_at dksX0_name_0 12 rfl rfl)
theorem dX0_name_13 : decode cX0_name 13 = .ok (.getfield 13, 3) := dk_180 0 13 (dk_at dksX0_name_0 13 rfl rfl)
theorem dX0_name_16 : decode cX0_name 16 = .ok (.iload_n 1, 1) := dk_27 (dk_at dksX0_name_0 16 rfl rfl)
theorem dX0_name_17 : decode cX0_name 17 = .ok (.iaload, 1) := dk_46 (dk_at dksX0_name_0 17 rfl rfl)
theorem dX0_name_18 : decode cX0_name 18 = .ok (.istore_n 3, 1) := dk_62 (dk_at dksX0_name_0 18 rfl rfl)
theorem dX0_name_19 : decode cX0_name 19 = .ok (.aload_n 0, 1) := dk_42 (dk_at dksX0_name_0 19 rfl rfl)
theorem dX0_name_20 : decode cX0_name 20 = .ok (.getfield 13, 3) := dk_180 0 13 (dk_at dksX0_name_0 20 rfl rfl)
theorem dX0_name_23 : decode cX0_name 23 = .ok (.iload_n 1, 1) := dk_27 (dk_at dksX0_name_0 23 rfl rfl)
theorem dX0_name_24 : decode cX0_name 24 = .ok (.iload_n 2, 1) := dk_28 (dk_at dksX0_name_1 0 rfl rfl)
theorem dX0_name_25 : decode cX0_name 25 = .ok (.iastore, 1) := dk_79 (dk_at dksX0_name_1 1 rfl rfl)
theorem dX0_name_26 : decode cX0_name 26 = .ok (.iload_n 3, 1) := dk_29 (dk_at dksX0_name_1 2 rfl rfl)
theorem dX0_name_27 : decode cX0_name 27 = .ok (.ireturn, 1) := dk_172 (dk_at dksX0_name_1 3 rfl rfl)
abbrev cX0_run : ByteArray := prog_1_method_20_code
def yX0_run : MethodName := ⟨RX0, "run", "(II)I"⟩
def dkwX0_run_2 : List UInt8 := [180, 0, 192, 172]
abbrev dktX0_run_2 : List UInt8 := dkwX0_run_2 ++ []
def dkwX0_run_1 : List UInt8 := [42, 42, 27, 182, 0, 74, 28, 183, 0, 182, 181, 0, 185, 42, 180, 0, 185, 182, 0, 189, 42, 180, 0, 185]
abbrev dktX0_run_1 : List UInt8 := dkwX0_run_1 ++ dktX0_run_2
def dkwX0_run_0 : List UInt8 := [42, 27, 182, 0, 74, 198, 0, 12, 28, 3, 5, 184, 0, 36, 154, 0, 5, 2, 172, 42, 187, 0, 180, 89]
abbrev dktX0_run_0 : List UInt8 := dkwX0_run_0 ++ dktX0_run_1
theorem dksX0_run_0 : cX0_run.data.toList.drop 0 = dktX0_run_0 := by decide +kernel
theorem dksX0_run_1 : cX0_run.data.toList.drop 24 = dktX0_run_1 := dk_seg dksX0_run_0 24 rfl rfl
theorem dksX0_run_2 : cX0_run.data.toList.drop 48 = dktX0_run_2 := dk_seg dksX0_run_1 24 rfl rfl
theorem dX0_run_0 : decode cX0_run 0 = .ok (.aload_n 0, 1) := dk_42 (dk_at dksX0_run_0 0 rfl rfl)
theorem dX0_run_1 : decode cX0_run 1 = .ok (.iload_n 1, 1) := dk_27 (dk_at dksX0_run_0 1 rfl rfl)
theorem dX0_run_2 : decode cX0_run 2 = .ok (.invokevirtual 74, 3) := dk_182 0 74 (dk_at dksX0_run_0 2 rfl rfl)
theorem dX0_run_5 : decode cX0_run 5 = .ok (.ifnull 12, 3) := dk_198 0 12 (dk_at dksX0_run_0 5 rfl rfl)
theorem dX0_run_8 : decode cX0_run 8 = .ok (.iload_n 2, 1) := dk_28 (dk_at dksX0_run_0 8 rfl rfl)
theorem dX0_run_9 : decode cX0_run 9 = .ok (.iconst 0, 1) := dk_3 (dk_at dksX0_run_0 9 rfl rfl)
theorem dX0_run_10 : decode cX0_run 10 = .ok (.iconst 2, 1) := dk_5 (dk_at dksX0_run_0 10 rfl rfl)
theorem dX0_run_11 : decode cX0_run 11 = .ok (.invokestatic 36, 3) := dk_184 0 36 (dk_at dksX0_run_0 11 rfl rfl)
theorem dX0_run_14 : decode cX0_run 14 = .ok (.ifCond .ne 5, 3) := dk_154 0 5 (dk_at dksX0_run_0 14 rfl rfl)
theorem dX0_run_17 : decode cX0_run 17 = .ok (.iconst (-1), 1) := dk_2 (dk_at dksX0_run_0 17 rfl rfl)
theorem dX0_run_18 : decode cX0_run 18 = .ok (.ireturn, 1) := dk_172 (dk_at dksX0_run_0 18 rfl rfl)
theorem dX0_run_19 : decode cX0_run 19 = .ok (.aload_n 0, 1) := dk_42 (dk_at dksX0_run_0 19 rfl rfl)
theorem dX0_run_20 : decode cX0_run 20 = .ok (.new 180, 3) := dk_187 0 180 (dk_at dksX0_run_0 20 rfl rfl)
theorem dX0_run_23 : decode cX0_run 23 = .ok (.dup, 1) := dk_89 (dk_at dksX0_run_0 23 rfl rfl)
theorem dX0_run_24 : decode cX0_run 24 = .ok (.aload_n 0, 1) := dk_42 (dk_at dksX0_run_1 0 rfl rfl)
theorem dX0_run_25 : decode cX0_run 25 = .ok (.aload_n 0, 1) := dk_42 (dk_at dksX0_run_1 1 rfl rfl)
theorem dX0_run_26 : decode cX0_run 26 = .ok (.iload_n 1, 1) := dk_27 (dk_at dksX0_run_1 2 rfl rfl)
theorem dX0_run_27 : decode cX0_run 27 = .ok (.invokevirtual 74, 3) := dk_182 0 74 (dk_at dksX0_run_1 3 rfl rfl)
theorem dX0_run_30 : decode cX0_run 30 = .ok (.iload_n 2, 1) := dk_28 (dk_at dksX0_run_1 6 rfl rfl)
theorem dX0_run_31 : decode cX0_run 31 = .ok (.invokespecial 182, 3) := dk_183 0 182 (dk_at dksX0_run_1 7 rfl rfl)
theorem dX0_run_34 : decode cX0_run 34 = .ok (.putfield 185, 3) := dk_181 0 185 (dk_at dksX0_run_1 10 rfl rfl)
theorem dX0_run_37 : decode cX0_run 37 = .ok (.aload_n 0, 1) := dk_42 (dk_at dksX0_run_1 13 rfl rfl)
theorem dX0_run_38 : decode cX0_run 38 = .ok (.getfield 185, 3) := dk_180 0 185 (dk_at dksX0_run_1 14 rfl rfl)
theorem dX0_run_41 : decode cX0_run 41 = .ok (.invokevirtual 189, 3) := dk_182 0 189 (dk_at dksX0_run_1 17 rfl rfl)
theorem dX0_run_44 : decode cX0_run 44 = .ok (.aload_n 0, 1) := dk_42 (dk_at dksX0_run_1 20 rfl rfl)
theorem dX0_run_45 : decode cX0_run 45 = .ok (.getfield 185, 3) := dk_180 0 185 (dk_at dksX0_run_1 21 rfl rfl)
theorem dX0_run_48 : decode cX0_run 48 = .ok (.getfield 192, 3) := dk_180 0 192 (dk_at dksX0_run_2 0 rfl rfl)
theorem dX0_run_51 : decode cX0_run 51 = .ok (.ireturn, 1) := dk_172 (dk_at dksX0_run_2 3 rfl rfl)
abbrev cX0_ran : ByteArray := prog_1_method_21_code
def yX0_ran : MethodName := ⟨RX0, "ran", "(I)I"⟩
def dkwX0_ran_5 : List UInt8 := [180, 0, 185, 180, 0, 204, 172]
abbrev dktX0_ran_5 : List UInt8 := dkwX0_ran_5 ++ []
def dkwX0_ran_4 : List UInt8 := [180, 0, 198, 167, 0, 25, 27, 5, 160, 0, 13, 42, 180, 0, 185, 180, 0, 201, 167, 0, 10, 42]
abbrev dktX0_ran_4 : List UInt8 := dkwX0_ran_4 ++ dktX0_ran_5
def dkwX0_ran_3 : List UInt8 := [154, 0, 13, 42, 180, 0, 185, 180, 0, 192, 167, 0, 40, 27, 4, 160, 0, 13, 42, 180, 0, 185]
abbrev dktX0_ran_3 : List UInt8 := dkwX0_ran_3 ++ dktX0_ran_4
def dkwX0_ran_2 : List UInt8 := [162, 0, 20, 45, 21, 5, 46, 54, 6, 28, 21, 6, 96, 61, 132, 5, 1, 167, 255, 235, 28, 172, 27]
abbrev dktX0_ran_2 : List UInt8 := dkwX0_ran_2 ++ dktX0_ran_3
def dkwX0_ran_1 : List UInt8 := [160, 0, 46, 3, 61, 42, 180, 0, 185, 180, 0, 195, 78, 45, 190, 54, 4, 3, 54, 5, 21, 5, 21, 4]
abbrev dktX0_ran_1 : List UInt8 := dkwX0_ran_1 ++ dktX0_ran_2
def dkwX0_ran_0 : List UInt8 := [27, 3, 7, 184, 0, 36, 154, 0, 5, 2, 172, 42, 180, 0, 185, 199, 0, 5, 3, 172, 27, 7]
abbrev dktX0_ran_0 : List UInt8 := dkwX0_ran_0 ++ dktX0_ran_1
theorem dksX0_ran_0 : cX0_ran.data.toList.drop 0 = dktX0_ran_0 := by decide +kernel
theorem dksX0_ran_1 : cX0_ran.data.toList.drop 22 = dktX0_ran_1 := dk_seg dksX0_ran_0 22 rfl rfl
theorem dksX0_ran_2 : cX0_ran.data.toList.drop 46 = dktX0_ran_2 := dk_seg dksX0_ran_1 24 rfl rfl
theorem dksX0_ran_3 : cX0_ran.data.toList.drop 69 = dktX0_ran_3 := dk_seg dksX0_ran_2 23 rfl rfl
theorem dksX0_ran_4 : cX0_ran.data.toList.drop 91 = dktX0_ran_4 := dk_seg dksX0_ran_3 22 rfl rfl
theorem dksX0_ran_5 : cX0_ran.data.toList.drop 113 = dktX0_ran_5 := dk_seg dksX0_ran_4 22 rfl rfl
theorem dX0_ran_0 : decode cX0_ran 0 = .ok (.iload_n 1, 1) := dk_27 (dk_at dksX0_ran_0 0 rfl rfl)
theorem dX0_ran_1 : decode cX0_ran 1 = .ok (.iconst 0, 1) := dk_3 (dk_at dksX0_ran_0 1 rfl rfl)
theorem dX0_ran_2 : decode cX0_ran 2 = .ok (.iconst 4, 1) := dk_7 (dk_at dksX0_ran_0 2 rfl rfl)
theorem dX0_ran_3 : decode cX0_ran 3 = .ok (.invokestatic 36, 3) := dk_184 0 36 (dk_at dksX0_ran_0 3 rfl rfl)
theorem dX0_ran_6 : decode cX0_ran 6 = .ok (.ifCond .ne 5, 3) := dk_154 0 5 (dk_at dksX0_ran_0 6 rfl rfl)
theorem dX0_ran_9 : decode cX0_ran 9 = .ok (.iconst (-1), 1) := dk_2 (dk_at dksX0_ran_0 9 rfl rfl)
theorem dX0_ran_10 : decode cX0_ran 10 = .ok (.ireturn, 1) := dk_172 (dk_at dksX0_ran_0 10 rfl rfl)
theorem dX0_ran_11 : decode cX0_ran 11 = .ok (.aload_n 0, 1) := dk_42 (dk_at dksX0_ran_0 11 rfl rfl)
theorem dX0_ran_12 : decode cX0_ran 12 = .ok (.getfield 185, 3) := dk_180 0 185 (dk_at dksX0_ran_0 12 rfl rfl)
theorem dX0_ran_15 : decode cX0_ran 15 = .ok (.ifnonnull 5, 3) := dk_199 0 5 (dk_at dksX0_ran_0 15 rfl rfl)
theorem dX0_ran_18 : decode cX0_ran 18 = .ok (.iconst 0, 1) := dk_3 (dk_at dksX0_ran_0 18 rfl rfl)
theorem dX0_ran_19 : decode cX0_ran 19 = .ok (.ireturn, 1) := dk_172 (dk_at dksX0_ran_0 19 rfl rfl)
theorem dX0_ran_20 : decode cX0_ran 20 = .ok (.iload_n 1, 1) := dk_27 (dk_at dksX0_ran_0 20 rfl rfl)
theorem dX0_ran_21 : decode cX0_ran 21 = .ok (.iconst 4, 1) := dk_7 (dk_at dksX0_ran_0 21 rfl rfl)
theorem dX0_ran_22 : decode cX0_ran 22 = .ok (.if_icmp .ne 46, 3) := dk_160 0 46 (dk_at dksX0_ran_1 0 rfl rfl)
theorem dX0_ran_25 : decode cX0_ran 25 = .ok (.iconst 0, 1) := dk_3 (dk_at dksX0_ran_1 3 rfl rfl)
theorem dX0_ran_26 : decode cX0_ran 26 = .ok (.istore_n 2, 1) := dk_61 (dk_at dksX0_ran_1 4 rfl rfl)
theorem dX0_ran_27 : decode cX0_ran 27 = .ok (.aload_n 0, 1) := dk_42 (dk_at dksX0_ran_1 5 rfl rfl)
theorem dX0_ran_28 : decode cX0_ran 28 = .ok (.getfield 185, 3) := dk_180 0 185 (dk_at dksX0_ran_1 6 rfl rfl)
theorem dX0_ran_31 : decode cX0_ran 31 = .ok (.getfield 195, 3) := dk_180 0 195 (dk_at dksX0_ran_1 9 rfl rfl)
theorem dX0_ran_34 : decode cX0_ran 34 = .ok (.astore_n 3, 1) := dk_78 (dk_at dksX0_ran_1 12 rfl rfl)
theorem dX0_ran_35 : decode cX0_ran 35 = .ok (.aload_n 3, 1) := dk_45 (dk_at dksX0_ran_1 13 rfl rfl)
theorem dX0_ran_36 : decode cX0_ran 36 = .ok (.arraylength, 1) := dk_190 (dk_at dksX0_ran_1 14 rfl rfl)
theorem dX0_ran_37 : decode cX0_ran 37 = .ok (.istore 4, 2) := dk_54 4 (dk_at dksX0_ran_1 15 rfl rfl)
theorem dX0_ran_39 : decode cX0_ran 39 = .ok (.iconst 0, 1) := dk_3 (dk_at dksX0_ran_1 17 rfl rfl)
theorem dX0_ran_40 : decode cX0_ran 40 = .ok (.istore 5, 2) := dk_54 5 (dk_at dksX0_ran_1 18 rfl rfl)
theorem dX0_ran_42 : decode cX0_ran 42 = .ok (.iload 5, 2) := dk_21 5 (dk_at dksX0_ran_1 20 rfl rfl)
theorem dX0_ran_44 : decode cX0_ran 44 = .ok (.iload 4, 2) := dk_21 4 (dk_at dksX0_ran_1 22 rfl rfl)
theorem dX0_ran_46 : decode cX0_ran 46 = .ok (.if_icmp .ge 20, 3) := dk_162 0 20 (dk_at dksX0_ran_2 0 rfl rfl)
theorem dX0_ran_49 : decode cX0_ran 49 = .ok (.aload_n 3, 1) := dk_45 (dk_at dksX0_ran_2 3 rfl rfl)
theorem dX0_ran_50 : decode cX0_ran 50 = .ok (.iload 5, 2) := dk_21 5 (dk_at dksX0_ran_2 4 rfl rfl)
theorem dX0_ran_52 : decode cX0_ran 52 = .ok (.iaload, 1) := dk_46 (dk_at dksX0_ran_2 6 rfl rfl)
theorem dX0_ran_53 : decode cX0_ran 53 = .ok (.istore 6, 2) := dk_54 6 (dk_at dksX0_ran_2 7 rfl rfl)
theorem dX0_ran_55 : decode cX0_ran 55 = .ok (.iload_n 2, 1) := dk_28 (dk_at dksX0_ran_2 9 rfl rfl)
theorem dX0_ran_56 : decode cX0_ran 56 = .ok (.iload 6, 2) := dk_21 6 (dk_at dksX0_ran_2 10 rfl rfl)
theorem dX0_ran_58 : decode cX0_ran 58 = .ok (.iadd, 1) := dk_96 (dk_at dksX0_ran_2 12 rfl rfl)
theorem dX0_ran_59 : decode cX0_ran 59 = .ok (.istore_n 2, 1) := dk_61 (dk_at dksX0_ran_2 13 rfl rfl)
theorem dX0_ran_60 : decode cX0_ran 60 = .ok (.iinc 5 1, 3) := dk_132 5 1 (dk_at dksX0_ran_2 14 rfl rfl)
theorem dX0_ran_63 : decode cX0_ran 63 = .ok (.goto (-21), 3) := dk_167 255 235 (dk_at dksX0_ran_2 17 rfl rfl)
theorem dX0_ran_66 : decode cX0_ran 66 = .ok (.iload_n 2, 1) := dk_28 (dk_at dksX0_ran_2 20 rfl rfl)
theorem dX0_ran_67 : decode cX0_ran 67 = .ok (.ireturn, 1) := dk_172 (dk_at dksX0_ran_2 21 rfl rfl)
theorem dX0_ran_68 : decode cX0_ran 68 = .ok (.iload_n 1, 1) := dk_27 (dk_at dksX0_ran_2 22 rfl rfl)
theorem dX0_ran_69 : decode cX0_ran 69 = .ok (.ifCond .ne 13, 3) := dk_154 0 13 (dk_at dksX0_ran_3 0 rfl rfl)
theorem dX0_ran_72 : decode cX0_ran 72 = .ok (.aload_n 0, 1) := dk_42 (dk_at dksX0_ran_3 3 rfl rfl)
theorem dX0_ran_73 : decode cX0_ran 73 = .ok (.getfield 185, 3) := dk_180 0 185 (dk_at dksX0_ran_3 4 rfl rfl)
theorem dX0_ran_76 : decode cX0_ran 76 = .ok (.getfield 192, 3) := dk_180 0 192 (dk_at dksX0_ran_3 7 rfl rfl)
theorem dX0_ran_79 : decode cX0_ran 79 = .ok (.goto 40, 3) := dk_167 0 40 (dk_at dksX0_ran_3 10 rfl rfl)
theorem dX0_ran_82 : decode cX0_ran 82 = .ok (.iload_n 1, 1) := dk_27 (dk_at dksX0_ran_3 13 rfl rfl)
theorem dX0_ran_83 : decode cX0_ran 83 = .ok (.iconst 1, 1) := dk_4 (dk_at dksX0_ran_3 14 rfl rfl)
theorem dX0_ran_84 : decode cX0_ran 84 = .ok (.if_icmp .ne 13, 3) := dk_160 0 13 (dk_at dksX0_ran_3 15 rfl rfl)
theorem dX0_ran_87 : decode cX0_ran 87 = .ok (.aload_n 0, 1) := dk_42 (dk_at dksX0_ran_3 18 rfl rfl)
theorem dX0_ran_88 : decode cX0_ran 88 = .ok (.getfield 185, 3) := dk_180 0 185 (dk_at dksX0_ran_3 19 rfl rfl)
theorem dX0_ran_91 : decode cX0_ran 91 = .ok (.getfield 198, 3) := dk_180 0 198 (dk_at dksX0_ran_4 0 rfl rfl)
theorem dX0_ran_94 : decode cX0_ran 94 = .ok (.goto 25, 3) := dk_167 0 25 (dk_at dksX0_ran_4 3 rfl rfl)
theorem dX0_ran_97 : decode cX0_ran 97 = .ok (.iload_n 1, 1) := dk_27 (dk_at dksX0_ran_4 6 rfl rfl)
theorem dX0_ran_98 : decode cX0_ran 98 = .ok (.iconst 2, 1) := dk_5 (dk_at dksX0_ran_4 7 rfl rfl)
theorem dX0_ran_99 : decode cX0_ran 99 = .ok (.if_icmp .ne 13, 3) := dk_160 0 13 (dk_at dksX0_ran_4 8 rfl rfl)
theorem dX0_ran_102 : decode cX0_ran 102 = .ok (.aload_n 0, 1) := dk_42 (dk_at dksX0_ran_4 11 rfl rfl)
theorem dX0_ran_103 : decode cX0_ran 103 = .ok (.getfield 185, 3) := dk_180 0 185 (dk_at dksX0_ran_4 12 rfl rfl)
theorem dX0_ran_106 : decode cX0_ran 106 = .ok (.getfield 201, 3) := dk_180 0 201 (dk_at dksX0_ran_4 15 rfl rfl)
theorem dX0_ran_109 : decode cX0_ran 109 = .ok (.goto 10, 3) := dk_167 0 10 (dk_at dksX0_ran_4 18 rfl rfl)
theorem dX0_ran_112 : decode cX0_ran 112 = .ok (.aload_n 0, 1) := dk_42 (dk_at dksX0_ran_4 21 rfl rfl)
theorem dX0_ran_113 : decode cX0_ran 113 = .ok (.getfield 185, 3) := dk_180 0 185 (dk_at dksX0_ran_5 0 rfl rfl)
theorem dX0_ran_116 : decode cX0_ran 116 = .ok (.getfield 204, 3) := dk_180 0 204 (dk_at dksX0_ran_5 3 rfl rfl)
theorem dX0_ran_119 : decode cX0_ran 119 = .ok (.ireturn, 1) := dk_172 (dk_at dksX0_ran_5 6 rfl rfl)
abbrev cX0_told : ByteArray := prog_1_method_22_code
def yX0_told : MethodName := ⟨RX0, "told", "(I)I"⟩
def dkwX0_told_1 : List UInt8 := [16, 100, 162, 0, 15, 42, 180, 0, 185, 180, 0, 205, 27, 46, 167, 0, 4, 3, 172]
abbrev dktX0_told_1 : List UInt8 := dkwX0_told_1 ++ []
def dkwX0_told_0 : List UInt8 := [42, 180, 0, 185, 198, 0, 36, 27, 155, 0, 32, 27, 42, 180, 0, 185, 180, 0, 201, 162, 0, 21, 27]
abbrev dktX0_told_0 : List UInt8 := dkwX0_told_0 ++ dktX0_told_1
theorem dksX0_told_0 : cX0_told.data.toList.drop 0 = dktX0_told_0 := by decide +kernel
theorem dksX0_told_1 : cX0_told.data.toList.drop 23 = dktX0_told_1 := dk_seg dksX0_told_0 23 rfl rfl
theorem dX0_told_0 : decode cX0_told 0 = .ok (.aload_n 0, 1) := dk_42 (dk_at dksX0_told_0 0 rfl rfl)
theorem dX0_told_1 : decode cX0_told 1 = .ok (.getfield 185, 3) := dk_180 0 185 (dk_at dksX0_told_0 1 rfl rfl)
theorem dX0_told_4 : decode cX0_told 4 = .ok (.ifnull 36, 3) := dk_198 0 36 (dk_at dksX0_told_0 4 rfl rfl)
theorem dX0_told_7 : decode cX0_told 7 = .ok (.iload_n 1, 1) := dk_27 (dk_at dksX0_told_0 7 rfl rfl)
theorem dX0_told_8 : decode cX0_told 8 = .ok (.ifCond .lt 32, 3) := dk_155 0 32 (dk_at dksX0_told_0 8 rfl rfl)
theorem dX0_told_11 : decode cX0_told 11 = .ok (.iload_n 1, 1) := dk_27 (dk_at dksX0_told_0 11 rfl rfl)
theorem dX0_told_12 : decode cX0_told 12 = .ok (.aload_n 0, 1) := dk_42 (dk_at dksX0_told_0 12 rfl rfl)
theorem dX0_told_13 : decode cX0_told 13 = .ok (.getfield 185, 3) := dk_180 0 185 (dk_at dksX0_told_0 13 rfl rfl)
theorem dX0_told_16 : decode cX0_told 16 = .ok (.getfield 201, 3) := dk_180 0 201 (dk_at dksX0_told_0 16 rfl rfl)
theorem dX0_told_19 : decode cX0_told 19 = .ok (.if_icmp .ge 21, 3) := dk_162 0 21 (dk_at dksX0_told_0 19 rfl rfl)
theorem dX0_told_22 : decode cX0_told 22 = .ok (.iload_n 1, 1) := dk_27 (dk_at dksX0_told_0 22 rfl rfl)
theorem dX0_told_23 : decode cX0_told 23 = .ok (.bipush 100, 2) := dk_16 100 (dk_at dksX0_told_1 0 rfl rfl)
theorem dX0_told_25 : decode cX0_told 25 = .ok (.if_icmp .ge 15, 3) := dk_162 0 15 (dk_at dksX0_told_1 2 rfl rfl)
theorem dX0_told_28 : decode cX0_told 28 = .ok (.aload_n 0, 1) := dk_42 (dk_at dksX0_told_1 5 rfl rfl)
theorem dX0_told_29 : decode cX0_told 29 = .ok (.getfield 185, 3) := dk_180 0 185 (dk_at dksX0_told_1 6 rfl rfl)
theorem dX0_told_32 : decode cX0_told 32 = .ok (.getfield 205, 3) := dk_180 0 205 (dk_at dksX0_told_1 9 rfl rfl)
theorem dX0_told_35 : decode cX0_told 35 = .ok (.iload_n 1, 1) := dk_27 (dk_at dksX0_told_1 12 rfl rfl)
theorem dX0_told_36 : decode cX0_told 36 = .ok (.iaload, 1) := dk_46 (dk_at dksX0_told_1 13 rfl rfl)
theorem dX0_told_37 : decode cX0_told 37 = .ok (.goto 4, 3) := dk_167 0 4 (dk_at dksX0_told_1 14 rfl rfl)
theorem dX0_told_40 : decode cX0_told 40 = .ok (.iconst 0, 1) := dk_3 (dk_at dksX0_told_1 17 rfl rfl)
theorem dX0_told_41 : decode cX0_told 41 = .ok (.ireturn, 1) := dk_172 (dk_at dksX0_told_1 18 rfl rfl)
abbrev cX0_value : ByteArray := prog_1_method_23_code
def yX0_value : MethodName := ⟨RX0, "value", "(I)I"⟩
def dkwX0_value_1 : List UInt8 := [27, 46, 167, 0, 4, 3, 172]
abbrev dktX0_value_1 : List UInt8 := dkwX0_value_1 ++ []
def dkwX0_value_0 : List UInt8 := [42, 180, 0, 185, 198, 0, 25, 27, 3, 16, 47, 184, 0, 36, 153, 0, 15, 42, 180, 0, 185, 180, 0, 207]
abbrev dktX0_value_0 : List UInt8 := dkwX0_value_0 ++ dktX0_value_1
theorem dksX0_value_0 : cX0_value.data.toList.drop 0 = dktX0_value_0 := by decide +kernel
theorem dksX0_value_1 : cX0_value.data.toList.drop 24 = dktX0_value_1 := dk_seg dksX0_value_0 24 rfl rfl
theorem dX0_value_0 : decode cX0_value 0 = .ok (.aload_n 0, 1) := dk_42 (dk_at dksX0_value_0 0 rfl rfl)
theorem dX0_value_1 : decode cX0_value 1 = .ok (.getfield 185, 3) := dk_180 0 185 (dk_at dksX0_value_0 1 rfl rfl)
theorem dX0_value_4 : decode cX0_value 4 = .ok (.ifnull 25, 3) := dk_198 0 25 (dk_at dksX0_value_0 4 rfl rfl)
theorem dX0_value_7 : decode cX0_value 7 = .ok (.iload_n 1, 1) := dk_27 (dk_at dksX0_value_0 7 rfl rfl)
theorem dX0_value_8 : decode cX0_value 8 = .ok (.iconst 0, 1) := dk_3 (dk_at dksX0_value_0 8 rfl rfl)
theorem dX0_value_9 : decode cX0_value 9 = .ok (.bipush 47, 2) := dk_16 47 (dk_at dksX0_value_0 9 rfl rfl)
theorem dX0_value_11 : decode cX0_value 11 = .ok (.invokestatic 36, 3) := dk_184 0 36 (dk_at dksX0_value_0 11 rfl rfl)
theorem dX0_value_14 : decode cX0_value 14 = .ok (.ifCond .eq 15, 3) := dk_153 0 15 (dk_at dksX0_value_0 14 rfl rfl)
theorem dX0_value_17 : decode cX0_value 17 = .ok (.aload_n 0, 1) := dk_42 (dk_at dksX0_value_0 17 rfl rfl)
theorem dX0_value_18 : decode cX0_value 18 = .ok (.getfield 185, 3) := dk_180 0 185 (dk_at dksX0_value_0 18 rfl rfl)
theorem dX0_value_21 : decode cX0_value 21 = .ok (.getfield 207, 3) := dk_180 0 207 (dk_at dksX0_value_0 21 rfl rfl)
theorem dX0_value_24 : decode cX0_value 24 = .ok (.iload_n 1, 1) := dk_27 (dk_at dksX0_value_1 0 rfl rfl)
theorem dX0_value_25 : decode cX0_value 25 = .ok (.iaload, 1) := dk_46 (dk_at dksX0_value_1 1 rfl rfl)
theorem dX0_value_26 : decode cX0_value 26 = .ok (.goto 4, 3) := dk_167 0 4 (dk_at dksX0_value_1 2 rfl rfl)
theorem dX0_value_29 : decode cX0_value 29 = .ok (.iconst 0, 1) := dk_3 (dk_at dksX0_value_1 5 rfl rfl)
theorem dX0_value_30 : decode cX0_value 30 = .ok (.ireturn, 1) := dk_172 (dk_at dksX0_value_1 6 rfl rfl)
abbrev cX0_row : ByteArray := prog_1_method_24_code
def yX0_row : MethodName := ⟨RX0, "row", "(II)I"⟩
def dkwX0_row_1 : List UInt8 := [153, 0, 17, 42, 180, 0, 185, 180, 0, 210, 27, 50, 28, 46, 167, 0, 4, 3, 172]
abbrev dktX0_row_1 : List UInt8 := dkwX0_row_1 ++ []
def dkwX0_row_0 : List UInt8 := [42, 180, 0, 185, 198, 0, 36, 27, 3, 4, 184, 0, 36, 153, 0, 27, 28, 3, 16, 7, 184, 0, 36]
abbrev dktX0_row_0 : List UInt8 := dkwX0_row_0 ++ dktX0_row_1
theorem dksX0_row_0 : cX0_row.data.toList.drop 0 = dktX0_row_0 := by decide +kernel
theorem dksX0_row_1 : cX0_row.data.toList.drop 23 = dktX0_row_1 := dk_seg dksX0_row_0 23 rfl rfl
theorem dX0_row_0 : decode cX0_row 0 = .ok (.aload_n 0, 1) := dk_42 (dk_at dksX0_row_0 0 rfl rfl)
theorem dX0_row_1 : decode cX0_row 1 = .ok (.getfield 185, 3) := dk_180 0 185 (dk_at dksX0_row_0 1 rfl rfl)
theorem dX0_row_4 : decode cX0_row 4 = .ok (.ifnull 36, 3) := dk_198 0 36 (dk_at dksX0_row_0 4 rfl rfl)
theorem dX0_row_7 : decode cX0_row 7 = .ok (.iload_n 1, 1) := dk_27 (dk_at dksX0_row_0 7 rfl rfl)
theorem dX0_row_8 : decode cX0_row 8 = .ok (.iconst 0, 1) := dk_3 (dk_at dksX0_row_0 8 rfl rfl)
theorem dX0_row_9 : decode cX0_row 9 = .ok (.iconst 1, 1) := dk_4 (dk_at dksX0_row_0 9 rfl rfl)
theorem dX0_row_10 : decode cX0_row 10 = .ok (.invokestatic 36, 3) := dk_184 0 36 (dk_at dksX0_row_0 10 rfl rfl)
theorem dX0_row_13 : decode cX0_row 13 = .ok (.ifCond .eq 27, 3) := dk_153 0 27 (dk_at dksX0_row_0 13 rfl rfl)
theorem dX0_row_16 : decode cX0_row 16 = .ok (.iload_n 2, 1) := dk_28 (dk_at dksX0_row_0 16 rfl rfl)
theorem dX0_row_17 : decode cX0_row 17 = .ok (.iconst 0, 1) := dk_3 (dk_at dksX0_row_0 17 rfl rfl)
theorem dX0_row_18 : decode cX0_row 18 = .ok (.bipush 7, 2) := dk_16 7 (dk_at dksX0_row_0 18 rfl rfl)
theorem dX0_row_20 : decode cX0_row 20 = .ok (.invokestatic 36, 3) := dk_184 0 36 (dk_at dksX0_row_0 20 rfl rfl)
theorem dX0_row_23 : decode cX0_row 23 = .ok (.ifCond .eq 17, 3) := dk_153 0 17 (dk_at dksX0_row_1 0 rfl rfl)
theorem dX0_row_26 : decode cX0_row 26 = .ok (.aload_n 0, 1) := dk_42 (dk_at dksX0_row_1 3 rfl rfl)
theorem dX0_row_27 : decode cX0_row 27 = .ok (.getfield 185, 3) := dk_180 0 185 (dk_at dksX0_row_1 4 rfl rfl)
theorem dX0_row_30 : decode cX0_row 30 = .ok (.getfield 210, 3) := dk_180 0 210 (dk_at dksX0_row_1 7 rfl rfl)
theorem dX0_row_33 : decode cX0_row 33 = .ok (.iload_n 1, 1) := dk_27 (dk_at dksX0_row_1 10 rfl rfl)
theorem dX0_row_34 : decode cX0_row 34 = .ok (.aaload, 1) := dk_50 (dk_at dksX0_row_1 11 rfl rfl)
theorem dX0_row_35 : decode cX0_row 35 = .ok (.iload_n 2, 1) := dk_28 (dk_at dksX0_row_1 12 rfl rfl)
theorem dX0_row_36 : decode cX0_row 36 = .ok (.iaload, 1) := dk_46 (dk_at dksX0_row_1 13 rfl rfl)
theorem dX0_row_37 : decode cX0_row 37 = .ok (.goto 4, 3) := dk_167 0 4 (dk_at dksX0_row_1 14 rfl rfl)
theorem dX0_row_40 : decode cX0_row 40 = .ok (.iconst 0, 1) := dk_3 (dk_at dksX0_row_1 17 rfl rfl)
theorem dX0_row_41 : decode cX0_row 41 = .ok (.ireturn, 1) := dk_172 (dk_at dksX0_row_1 18 rfl rfl)
abbrev cX0_worked : ByteArray := prog_1_method_25_code
def yX0_worked : MethodName := ⟨RX0, "worked", "(I)I"⟩
def dkwX0_worked_1 : List UInt8 := [180, 0, 185, 180, 0, 195, 27, 46, 172]
abbrev dktX0_worked_1 : List UInt8 := dkwX0_worked_1 ++ []
def dkwX0_worked_0 : List UInt8 := [27, 3, 16, 31, 184, 0, 36, 154, 0, 5, 2, 172, 42, 180, 0, 185, 199, 0, 7, 3, 167, 0, 12, 42]
abbrev dktX0_worked_0 : List UInt8 := dkwX0_worked_0 ++ dktX0_worked_1
theorem dksX0_worked_0 : cX0_worked.data.toList.drop 0 = dktX0_worked_0 := by decide +kernel
theorem dksX0_worked_1 : cX0_worked.data.toList.drop 24 = dktX0_worked_1 := dk_seg dksX0_worked_0 24 rfl rfl
theorem dX0_worked_0 : decode cX0_worked 0 = .ok (.iload_n 1, 1) := dk_27 (dk_at dksX0_worked_0 0 rfl rfl)
theorem dX0_worked_1 : decode cX0_worked 1 = .ok (.iconst 0, 1) := dk_3 (dk_at dksX0_worked_0 1 rfl rfl)
theorem dX0_worked_2 : decode cX0_worked 2 = .ok (.bipush 31, 2) := dk_16 31 (dk_at dksX0_worked_0 2 rfl rfl)
theorem dX0_worked_4 : decode cX0_worked 4 = .ok (.invokestatic 36, 3) := dk_184 0 36 (dk_at dksX0_worked_0 4 rfl rfl)
theorem dX0_worked_7 : decode cX0_worked 7 = .ok (.ifCond .ne 5, 3) := dk_154 0 5 (dk_at dksX0_worked_0 7 rfl rfl)
theorem dX0_worked_10 : decode cX0_worked 10 = .ok (.iconst (-1), 1) := dk_2 (dk_at dksX0_worked_0 10 rfl rfl)
theorem dX0_worked_11 : decode cX0_worked 11 = .ok (.ireturn, 1) := dk_172 (dk_at dksX0_worked_0 11 rfl rfl)
theorem dX0_worked_12 : decode cX0_worked 12 = .ok (.aload_n 0, 1) := dk_42 (dk_at dksX0_worked_0 12 rfl rfl)
theorem dX0_worked_13 : decode cX0_worked 13 = .ok (.getfield 185, 3) := dk_180 0 185 (dk_at dksX0_worked_0 13 rfl rfl)
theorem dX0_worked_16 : decode cX0_worked 16 = .ok (.ifnonnull 7, 3) := dk_199 0 7 (dk_at dksX0_worked_0 16 rfl rfl)
theorem dX0_worked_19 : decode cX0_worked 19 = .ok (.iconst 0, 1) := dk_3 (dk_at dksX0_worked_0 19 rfl rfl)
theorem dX0_worked_20 : decode cX0_worked 20 = .ok (.goto 12, 3) := dk_167 0 12 (dk_at dksX0_worked_0 20 rfl rfl)
theorem dX0_worked_23 : decode cX0_worked 23 = .ok (.aload_n 0, 1) := dk_42 (dk_at dksX0_worked_0 23 rfl rfl)
theorem dX0_worked_24 : decode cX0_worked 24 = .ok (.getfield 185, 3) := dk_180 0 185 (dk_at dksX0_worked_1 0 rfl rfl)
theorem dX0_worked_27 : decode cX0_worked 27 = .ok (.getfield 195, 3) := dk_180 0 195 (dk_at dksX0_worked_1 3 rfl rfl)
theorem dX0_worked_30 : decode cX0_worked 30 = .ok (.iload_n 1, 1) := dk_27 (dk_at dksX0_worked_1 6 rfl rfl)
theorem dX0_worked_31 : decode cX0_worked 31 = .ok (.iaload, 1) := dk_46 (dk_at dksX0_worked_1 7 rfl rfl)
theorem dX0_worked_32 : decode cX0_worked 32 = .ok (.ireturn, 1) := dk_172 (dk_at dksX0_worked_1 8 rfl rfl)
abbrev cX0_step : ByteArray := prog_1_method_26_code
def yX0_step : MethodName := ⟨RX0, "step", "(II)I"⟩
def dkwX0_step_7 : List UInt8 := [87, 21, 4, 4, 96, 172]
abbrev dktX0_step_7 : List UInt8 := dkwX0_step_7 ++ []
def dkwX0_step_6 : List UInt8 := [16, 254, 172, 21, 4, 16, 60, 160, 0, 6, 16, 253, 172, 45, 180, 0, 214, 28, 184, 0, 234, 182, 0, 238]
abbrev dktX0_step_6 : List UInt8 := dkwX0_step_6 ++ dktX0_step_7
def dkwX0_step_5 : List UInt8 := [28, 160, 0, 7, 4, 167, 0, 4, 3, 128, 54, 5, 132, 6, 1, 167, 255, 184, 21, 5, 154, 0, 6]
abbrev dktX0_step_5 : List UInt8 := dkwX0_step_5 ++ dktX0_step_6
def dkwX0_step_4 : List UInt8 := [180, 0, 214, 21, 4, 4, 100, 182, 0, 87, 192, 0, 217, 182, 0, 219, 182, 0, 222, 21, 6, 182, 0, 231]
abbrev dktX0_step_4 : List UInt8 := dkwX0_step_4 ++ dktX0_step_5
def dkwX0_step_3 : List UInt8 := [100, 182, 0, 87, 192, 0, 217, 182, 0, 219, 182, 0, 222, 182, 0, 226, 162, 0, 49, 21, 5, 45, 45]
abbrev dktX0_step_3 : List UInt8 := dkwX0_step_3 ++ dktX0_step_4
def dkwX0_step_2 : List UInt8 := [167, 0, 4, 3, 54, 5, 21, 4, 158, 0, 81, 3, 54, 6, 21, 6, 45, 45, 180, 0, 214, 21, 4, 4]
abbrev dktX0_step_2 : List UInt8 := dkwX0_step_2 ++ dktX0_step_3
def dkwX0_step_1 : List UInt8 := [154, 0, 5, 2, 172, 45, 180, 0, 214, 182, 0, 54, 54, 4, 21, 4, 154, 0, 11, 28, 154, 0, 7, 4]
abbrev dktX0_step_1 : List UInt8 := dkwX0_step_1 ++ dktX0_step_2
def dkwX0_step_0 : List UInt8 := [42, 27, 182, 0, 74, 78, 45, 198, 0, 20, 28, 3, 45, 180, 0, 78, 182, 0, 54, 4, 100, 184, 0, 36]
abbrev dktX0_step_0 : List UInt8 := dkwX0_step_0 ++ dktX0_step_1
theorem dksX0_step_0 : cX0_step.data.toList.drop 0 = dktX0_step_0 := by decide +kernel
theorem dksX0_step_1 : cX0_step.data.toList.drop 24 = dktX0_step_1 := dk_seg dksX0_step_0 24 rfl rfl
theorem dksX0_step_2 : cX0_step.data.toList.drop 48 = dktX0_step_2 := dk_seg dksX0_step_1 24 rfl rfl
theorem dksX0_step_3 : cX0_step.data.toList.drop 72 = dktX0_step_3 := dk_seg dksX0_step_2 24 rfl rfl
theorem dksX0_step_4 : cX0_step.data.toList.drop 95 = dktX0_step_4 := dk_seg dksX0_step_3 23 rfl rfl
theorem dksX0_step_5 : cX0_step.data.toList.drop 119 = dktX0_step_5 := dk_seg dksX0_step_4 24 rfl rfl
theorem dksX0_step_6 : cX0_step.data.toList.drop 142 = dktX0_step_6 := dk_seg dksX0_step_5 23 rfl rfl
theorem dksX0_step_7 : cX0_step.data.toList.drop 166 = dktX0_step_7 := dk_seg dksX0_step_6 24 rfl rfl
theorem dX0_step_0 : decode cX0_step 0 = .ok (.aload_n 0, 1) := dk_42 (dk_at dksX0_step_0 0 rfl rfl)
theorem dX0_step_1 : decode cX0_step 1 = .ok (.iload_n 1, 1) := dk_27 (dk_at dksX0_step_0 1 rfl rfl)
theorem dX0_step_2 : decode cX0_step 2 = .ok (.invokevirtual 74, 3) := dk_182 0 74 (dk_at dksX0_step_0 2 rfl rfl)
theorem dX0_step_5 : decode cX0_step 5 = .ok (.astore_n 3, 1) := dk_78 (dk_at dksX0_step_0 5 rfl rfl)
theorem dX0_step_6 : decode cX0_step 6 = .ok (.aload_n 3, 1) := dk_45 (dk_at dksX0_step_0 6 rfl rfl)
theorem dX0_step_7 : decode cX0_step 7 = .ok (.ifnull 20, 3) := dk_198 0 20 (dk_at dksX0_step_0 7 rfl rfl)
theorem dX0_step_10 : decode cX0_step 10 = .ok (.iload_n 2, 1) := dk_28 (dk_at dksX0_step_0 10 rfl rfl)
theorem dX0_step_11 : decode cX0_step 11 = .ok (.iconst 0, 1) := dk_3 (dk_at dksX0_step_0 11 rfl rfl)
theorem dX0_step_12 : decode cX0_step 12 = .ok (.aload_n 3, 1) := dk_45 (dk_at dksX0_step_0 12 rfl rfl)
theorem dX0_step_13 : decode cX0_step 13 = .ok (.getfield 78, 3) := dk_180 0 78 (dk_at dksX0_step_0 13 rfl rfl)
theorem dX0_step_16 : decode cX0_step 16 = .ok (.invokevirtual 54, 3) := dk_182 0 54 (dk_at dksX0_step_0 16 rfl rfl)
theorem dX0_step_19 : decode cX0_step 19 = .ok (.iconst 1, 1) := dk_4 (dk_at dksX0_step_0 19 rfl rfl)
theorem dX0_step_20 : decode cX0_step 20 = .ok (.isub, 1) := dk_100 (dk_at dksX0_step_0 20 rfl rfl)
theorem dX0_step_21 : decode cX0_step 21 = .ok (.invokestatic 36, 3) := dk_184 0 36 (dk_at dksX0_step_0 21 rfl rfl)
theorem dX0_step_24 : decode cX0_step 24 = .ok (.ifCond .ne 5, 3) := dk_154 0 5 (dk_at dksX0_step_1 0 rfl rfl)
theorem dX0_step_27 : decode cX0_step 27 = .ok (.iconst (-1), 1) := dk_2 (dk_at dksX0_step_1 3 rfl rfl)
theorem dX0_step_28 : decode cX0_step 28 = .ok (.ireturn, 1) := dk_172 (dk_at dksX0_step_1 4 rfl rfl)
theorem dX0_step_29 : decode cX0_step 29 = .ok (.aload_n 3, 1) := dk_45 (dk_at dksX0_step_1 5 rfl rfl)
theorem dX0_step_30 : decode cX0_step 30 = .ok (.getfield 214, 3) := dk_180 0 214 (dk_at dksX0_step_1 6 rfl rfl)
theorem dX0_step_33 : decode cX0_step 33 = .ok (.invokevirtual 54, 3) := dk_182 0 54 (dk_at dksX0_step_1 9 rfl rfl)
theorem dX0_step_36 : decode cX0_step 36 = .ok (.istore 4, 2) := dk_54 4 (dk_at dksX0_step_1 12 rfl rfl)
theorem dX0_step_38 : decode cX0_step 38 = .ok (.iload 4, 2) := dk_21 4 (dk_at dksX0_step_1 14 rfl rfl)
theorem dX0_step_40 : decode cX0_step 40 = .ok (.ifCond .ne 11, 3) := dk_154 0 11 (dk_at dksX0_step_1 16 rfl rfl)
theorem dX0_step_43 : decode cX0_step 43 = .ok (.iload_n 2, 1) := dk_28 (dk_at dksX0_step_1 19 rfl rfl)
theorem dX0_step_44 : decode cX0_step 44 = .ok (.ifCond .ne 7, 3) := dk_154 0 7 (dk_at dksX0_step_1 20 rfl rfl)
theorem dX0_step_47 : decode cX0_step 47 = .ok (.iconst 1, 1) := dk_4 (dk_at dksX0_step_1 23 rfl rfl)
theorem dX0_step_48 : decode cX0_step 48 = .ok (.goto 4, 3) := dk_167 0 4 (dk_at dksX0_step_2 0 rfl rfl)
theorem dX0_step_51 : decode cX0_step 51 = .ok (.iconst 0, 1) := dk_3 (dk_at dksX0_step_2 3 rfl rfl)
theorem dX0_step_52 : decode cX0_step 52 = .ok (.istore 5, 2) := dk_54 5 (dk_at dksX0_step_2 4 rfl rfl)
theorem dX0_step_54 : decode cX0_step 54 = .ok (.iload 4, 2) := dk_21 4 (dk_at dksX0_step_2 6 rfl rfl)
theorem dX0_step_56 : decode cX0_step 56 = .ok (.ifCond .le 81, 3) := dk_158 0 81 (dk_at dksX0_step_2 8 rfl rfl)
theorem dX0_step_59 : decode cX0_step 59 = .ok (.iconst 0, 1) := dk_3 (dk_at dksX0_step_2 11 rfl rfl)
theorem dX0_step_60 : decode cX0_step 60 = .ok (.istore 6, 2) := dk_54 6 (dk_at dksX0_step_2 12 rfl rfl)
theorem dX0_step_62 : decode cX0_step 62 = .ok (.iload 6, 2) := dk_21 6 (dk_at dksX0_step_2 14 rfl rfl)
theorem dX0_step_64 : decode cX0_step 64 = .ok (.aload_n 3, 1) := dk_45 (dk_at dksX0_step_2 16 rfl rfl)
theorem dX0_step_65 : decode cX0_step 65 = .ok (.aload_n 3, 1) := dk_45 (dk_at dksX0_step_2 17 rfl rfl)
theorem dX0_step_66 : decode cX0_step 66 = .ok (.getfield 214, 3) := dk_180 0 214 (dk_at dksX0_step_2 18 rfl rfl)
theorem dX0_step_69 : decode cX0_step 69 = .ok (.iload 4, 2) := dk_21 4 (dk_at dksX0_step_2 21 rfl rfl)
theorem dX0_step_71 : decode cX0_step 71 = .ok (.iconst 1, 1) := dk_4 (dk_at dksX0_step_2 23 rfl rfl)
theorem dX0_step_72 : decode cX0_step 72 = .ok (.isub, 1) := dk_100 (dk_at dksX0_step_3 0 rfl rfl)
theorem dX0_step_73 : decode cX0_step 73 = .ok (.invokevirtual 87, 3) := dk_182 0 87 (dk_at dksX0_step_3 1 rfl rfl)
theorem dX0_step_76 : decode cX0_step 76 = .ok (.checkcast 217, 3) := dk_192 0 217 (dk_at dksX0_step_3 4 rfl rfl)
theorem dX0_step_79 : decode cX0_step 79 = .ok (.invokevirtual 219, 3) := dk_182 0 219 (dk_at dksX0_step_3 7 rfl rfl)
theorem dX0_step_82 : decode cX0_step 82 = .ok (.invokevirtual 222, 3) := dk_182 0 222 (dk_at dksX0_step_3 10 rfl rfl)
theorem dX0_step_85 : decode cX0_step 85 = .ok (.invokevirtual 226, 3) := dk_182 0 226 (dk_at dksX0_step_3 13 rfl rfl)
theorem dX0_step_88 : decode cX0_step 88 = .ok (.if_icmp .ge 49, 3) := dk_162 0 49 (dk_at dksX0_step_3 16 rfl rfl)
theorem dX0_step_91 : decode cX0_step 91 = .ok (.iload 5, 2) := dk_21 5 (dk_at dksX0_step_3 19 rfl rfl)
theorem dX0_step_93 : decode cX0_step 93 = .ok (.aload_n 3, 1) := dk_45 (dk_at dksX0_step_3 21 rfl rfl)
theorem dX0_step_94 : decode cX0_step 94 = .ok (.aload_n 3, 1) := dk_45 (dk_at dksX0_step_3 22 rfl rfl)
theorem dX0_step_95 : decode cX0_step 95 = .ok (.getfield 214, 3) := dk_180 0 214 (dk_at dksX0_step_4 0 rfl rfl)
theorem dX0_step_98 : decode cX0_step 98 = .ok (.iload 4, 2) := dk_21 4 (dk_at dksX0_step_4 3 rfl rfl)
theorem dX0_step_100 : decode cX0_step 100 = .ok (.iconst 1, 1) := dk_4 (dk_at dksX0_step_4 5 rfl rfl)
theorem dX0_step_101 : decode cX0_step 101 = .ok (.isub, 1) := dk_100 (dk_at dksX0_step_4 6 rfl rfl)
theorem dX0_step_102 : decode cX0_step 102 = .ok (.invokevirtual 87, 3) := dk_182 0 87 (dk_at dksX0_step_4 7 rfl rfl)
theorem dX0_step_105 : decode cX0_step 105 = .ok (.checkcast 217, 3) := dk_192 0 217 (dk_at dksX0_step_4 10 rfl rfl)
theorem dX0_step_108 : decode cX0_step 108 = .ok (.invokevirtual 219, 3) := dk_182 0 219 (dk_at dksX0_step_4 13 rfl rfl)
theorem dX0_step_111 : decode cX0_step 111 = .ok (.invokevirtual 222, 3) := dk_182 0 222 (dk_at dksX0_step_4 16 rfl rfl)
theorem dX0_step_114 : decode cX0_step 114 = .ok (.iload 6, 2) := dk_21 6 (dk_at dksX0_step_4 19 rfl rfl)
theorem dX0_step_116 : decode cX0_step 116 = .ok (.invokevirtual 231, 3) := dk_182 0 231 (dk_at dksX0_step_4 21 rfl rfl)
theorem dX0_step_119 : decode cX0_step 119 = .ok (.iload_n 2, 1) := dk_28 (dk_at dksX0_step_5 0 rfl rfl)
theorem dX0_step_120 : decode cX0_step 120 = .ok (.if_icmp .ne 7, 3) := dk_160 0 7 (dk_at dksX0_step_5 1 rfl rfl)
theorem dX0_step_123 : decode cX0_step 123 = .ok (.iconst 1, 1) := dk_4 (dk_at dksX0_step_5 4 rfl rfl)
theorem dX0_step_124 : decode cX0_step 124 = .ok (.goto 4, 3) := dk_167 0 4 (dk_at dksX0_step_5 5 rfl rfl)
theorem dX0_step_127 : decode cX0_step 127 = .ok (.iconst 0, 1) := dk_3 (dk_at dksX0_step_5 8 rfl rfl)
theorem dX0_step_128 : decode cX0_step 128 = .ok (.ior, 1) := dk_128 (dk_at dksX0_step_5 9 rfl rfl)
theorem dX0_step_129 : decode cX0_step 129 = .ok (.istore 5, 2) := dk_54 5 (dk_at dksX0_step_5 10 rfl rfl)
theorem dX0_step_131 : decode cX0_step 131 = .ok (.iinc 6 1, 3) := dk_132 6 1 (dk_at dksX0_step_5 12 rfl rfl)
theorem dX0_step_134 : decode cX0_step 134 = .ok (.goto (-72), 3) := dk_167 255 184 (dk_at dksX0_step_5 15 rfl rfl)
theorem dX0_step_137 : decode cX0_step 137 = .ok (.iload 5, 2) := dk_21 5 (dk_at dksX0_step_5 18 rfl rfl)
theorem dX0_step_139 : decode cX0_step 139 = .ok (.ifCond .ne 6, 3) := dk_154 0 6 (dk_at dksX0_step_5 20 rfl rfl)
theorem dX0_step_142 : decode cX0_step 142 = .ok (.bipush (-2), 2) := dk_16 254 (dk_at dksX0_step_6 0 rfl rfl)
theorem dX0_step_144 : decode cX0_step 144 = .ok (.ireturn, 1) := dk_172 (dk_at dksX0_step_6 2 rfl rfl)
theorem dX0_step_145 : decode cX0_step 145 = .ok (.iload 4, 2) := dk_21 4 (dk_at dksX0_step_6 3 rfl rfl)
theorem dX0_step_147 : decode cX0_step 147 = .ok (.bipush 60, 2) := dk_16 60 (dk_at dksX0_step_6 5 rfl rfl)
theorem dX0_step_149 : decode cX0_step 149 = .ok (.if_icmp .ne 6, 3) := dk_160 0 6 (dk_at dksX0_step_6 7 rfl rfl)
theorem dX0_step_152 : decode cX0_step 152 = .ok (.bipush (-3), 2) := dk_16 253 (dk_at dksX0_step_6 10 rfl rfl)
theorem dX0_step_154 : decode cX0_step 154 = .ok (.ireturn, 1) := dk_172 (dk_at dksX0_step_6 12 rfl rfl)
theorem dX0_step_155 : decode cX0_step 155 = .ok (.aload_n 3, 1) := dk_45 (dk_at dksX0_step_6 13 rfl rfl)
theorem dX0_step_156 : decode cX0_step 156 = .ok (.getfield 214, 3) := dk_180 0 214 (dk_at dksX0_step_6 14 rfl rfl)
theorem dX0_step_159 : decode cX0_step 159 = .ok (.iload_n 2, 1) := dk_28 (dk_at dksX0_step_6 17 rfl rfl)
theorem dX0_step_160 : decode cX0_step 160 = .ok (.invokestatic 234, 3) := dk_184 0 234 (dk_at dksX0_step_6 18 rfl rfl)
theorem dX0_step_163 : decode cX0_step 163 = .ok (.invokevirtual 238, 3) := dk_182 0 238 (dk_at dksX0_step_6 21 rfl rfl)
theorem dX0_step_166 : decode cX0_step 166 = .ok (.pop, 1) := dk_87 (dk_at dksX0_step_7 0 rfl rfl)
theorem dX0_step_167 : decode cX0_step 167 = .ok (.iload 4, 2) := dk_21 4 (dk_at dksX0_step_7 1 rfl rfl)
theorem dX0_step_169 : decode cX0_step 169 = .ok (.iconst 1, 1) := dk_4 (dk_at dksX0_step_7 3 rfl rfl)
theorem dX0_step_170 : decode cX0_step 170 = .ok (.iadd, 1) := dk_96 (dk_at dksX0_step_7 4 rfl rfl)
theorem dX0_step_171 : decode cX0_step 171 = .ok (.ireturn, 1) := dk_172 (dk_at dksX0_step_7 5 rfl rfl)
abbrev cX0_home : ByteArray := prog_1_method_27_code
def yX0_home : MethodName := ⟨RX0, "home", "(I)I"⟩
def dkwX0_home_1 : List UInt8 := [182, 0, 74, 180, 0, 214, 182, 0, 242, 28, 172]
abbrev dktX0_home_1 : List UInt8 := dkwX0_home_1 ++ []
def dkwX0_home_0 : List UInt8 := [42, 27, 182, 0, 74, 199, 0, 5, 2, 172, 42, 27, 182, 0, 74, 180, 0, 214, 182, 0, 54, 61, 42, 27]
abbrev dktX0_home_0 : List UInt8 := dkwX0_home_0 ++ dktX0_home_1
theorem dksX0_home_0 : cX0_home.data.toList.drop 0 = dktX0_home_0 := by decide +kernel
theorem dksX0_home_1 : cX0_home.data.toList.drop 24 = dktX0_home_1 := dk_seg dksX0_home_0 24 rfl rfl
theorem dX0_home_0 : decode cX0_home 0 = .ok (.aload_n 0, 1) := dk_42 (dk_at dksX0_home_0 0 rfl rfl)
theorem dX0_home_1 : decode cX0_home 1 = .ok (.iload_n 1, 1) := dk_27 (dk_at dksX0_home_0 1 rfl rfl)
theorem dX0_home_2 : decode cX0_home 2 = .ok (.invokevirtual 74, 3) := dk_182 0 74 (dk_at dksX0_home_0 2 rfl rfl)
theorem dX0_home_5 : decode cX0_home 5 = .ok (.ifnonnull 5, 3) := dk_199 0 5 (dk_at dksX0_home_0 5 rfl rfl)
theorem dX0_home_8 : decode cX0_home 8 = .ok (.iconst (-1), 1) := dk_2 (dk_at dksX0_home_0 8 rfl rfl)
theorem dX0_home_9 : decode cX0_home 9 = .ok (.ireturn, 1) := dk_172 (dk_at dksX0_home_0 9 rfl rfl)
theorem dX0_home_10 : decode cX0_home 10 = .ok (.aload_n 0, 1) := dk_42 (dk_at dksX0_home_0 10 rfl rfl)
theorem dX0_home_11 : decode cX0_home 11 = .ok (.iload_n 1, 1) := dk_27 (dk_at dksX0_home_0 11 rfl rfl)
theorem dX0_home_12 : decode cX0_home 12 = .ok (.invokevirtual 74, 3) := dk_182 0 74 (dk_at dksX0_home_0 12 rfl rfl)
theorem dX0_home_15 : decode cX0_home 15 = .ok (.getfield 214, 3) := dk_180 0 214 (dk_at dksX0_home_0 15 rfl rfl)
theorem dX0_home_18 : decode cX0_home 18 = .ok (.invokevirtual 54, 3) := dk_182 0 54 (dk_at dksX0_home_0 18 rfl rfl)
theorem dX0_home_21 : decode cX0_home 21 = .ok (.istore_n 2, 1) := dk_61 (dk_at dksX0_home_0 21 rfl rfl)
theorem dX0_home_22 : decode cX0_home 22 = .ok (.aload_n 0, 1) := dk_42 (dk_at dksX0_home_0 22 rfl rfl)
theorem dX0_home_23 : decode cX0_home 23 = .ok (.iload_n 1, 1) := dk_27 (dk_at dksX0_home_0 23 rfl rfl)
theorem dX0_home_24 : decode cX0_home 24 = .ok (.invokevirtual 74, 3) := dk_182 0 74 (dk_at dksX0_home_1 0 rfl rfl)
theorem dX0_home_27 : decode cX0_home 27 = .ok (.getfield 214, 3) := dk_180 0 214 (dk_at dksX0_home_1 3 rfl rfl)
theorem dX0_home_30 : decode cX0_home 30 = .ok (.invokevirtual 242, 3) := dk_182 0 242 (dk_at dksX0_home_1 6 rfl rfl)
theorem dX0_home_33 : decode cX0_home 33 = .ok (.iload_n 2, 1) := dk_28 (dk_at dksX0_home_1 9 rfl rfl)
theorem dX0_home_34 : decode cX0_home 34 = .ok (.ireturn, 1) := dk_172 (dk_at dksX0_home_1 10 rfl rfl)
abbrev cX0_works : ByteArray := prog_1_method_28_code
def yX0_works : MethodName := ⟨RX0, "works", "(III)I"⟩
def dkwX0_works_1 : List UInt8 := [172]
abbrev dktX0_works_1 : List UInt8 := dkwX0_works_1 ++ []
def dkwX0_works_0 : List UInt8 := [42, 27, 28, 29, 182, 0, 166, 153, 0, 16, 42, 27, 182, 0, 74, 28, 29, 182, 0, 245, 167, 0, 4, 2]
abbrev dktX0_works_0 : List UInt8 := dkwX0_works_0 ++ dktX0_works_1
theorem dksX0_works_0 : cX0_works.data.toList.drop 0 = dktX0_works_0 := by decide +kernel
theorem dksX0_works_1 : cX0_works.data.toList.drop 24 = dktX0_works_1 := dk_seg dksX0_works_0 24 rfl rfl
theorem dX0_works_0 : decode cX0_works 0 = .ok (.aload_n 0, 1) := dk_42 (dk_at dksX0_works_0 0 rfl rfl)
theorem dX0_works_1 : decode cX0_works 1 = .ok (.iload_n 1, 1) := dk_27 (dk_at dksX0_works_0 1 rfl rfl)
theorem dX0_works_2 : decode cX0_works 2 = .ok (.iload_n 2, 1) := dk_28 (dk_at dksX0_works_0 2 rfl rfl)
theorem dX0_works_3 : decode cX0_works 3 = .ok (.iload_n 3, 1) := dk_29 (dk_at dksX0_works_0 3 rfl rfl)
theorem dX0_works_4 : decode cX0_works 4 = .ok (.invokevirtual 166, 3) := dk_182 0 166 (dk_at dksX0_works_0 4 rfl rfl)
theorem dX0_works_7 : decode cX0_works 7 = .ok (.ifCond .eq 16, 3) := dk_153 0 16 (dk_at dksX0_works_0 7 rfl rfl)
theorem dX0_works_10 : decode cX0_works 10 = .ok (.aload_n 0, 1) := dk_42 (dk_at dksX0_works_0 10 rfl rfl)
theorem dX0_works_11 : decode cX0_works 11 = .ok (.iload_n 1, 1) := dk_27 (dk_at dksX0_works_0 11 rfl rfl)
theorem dX0_works_12 : decode cX0_works 12 = .ok (.invokevirtual 74, 3) := dk_182 0 74 (dk_at dksX0_works_0 12 rfl rfl)
theorem dX0_works_15 : decode cX0_works 15 = .ok (.iload_n 2, 1) := dk_28 (dk_at dksX0_works_0 15 rfl rfl)
theorem dX0_works_16 : decode cX0_works 16 = .ok (.iload_n 3, 1) := dk_29 (dk_at dksX0_works_0 16 rfl rfl)
theorem dX0_works_17 : decode cX0_works 17 = .ok (.invokevirtual 245, 3) := dk_182 0 245 (dk_at dksX0_works_0 17 rfl rfl)
theorem dX0_works_20 : decode cX0_works 20 = .ok (.goto 4, 3) := dk_167 0 4 (dk_at dksX0_works_0 20 rfl rfl)
theorem dX0_works_23 : decode cX0_works 23 = .ok (.iconst (-1), 1) := dk_2 (dk_at dksX0_works_0 23 rfl rfl)
theorem dX0_works_24 : decode cX0_works 24 = .ok (.ireturn, 1) := dk_172 (dk_at dksX0_works_1 0 rfl rfl)
abbrev cX0_write : ByteArray := prog_1_method_29_code
def yX0_write : MethodName := ⟨RX0, "write", "(II)I"⟩
def dkwX0_write_4 : List UInt8 := [181, 0, 32, 29, 172]
abbrev dktX0_write_4 : List UInt8 := dkwX0_write_4 ++ []
def dkwX0_write_3 : List UInt8 := [180, 0, 9, 21, 4, 42, 180, 0, 28, 180, 0, 255, 21, 4, 51, 84, 132, 4, 1, 167, 255, 230, 42, 29]
abbrev dktX0_write_3 : List UInt8 := dkwX0_write_3 ++ dktX0_write_4
def dkwX0_write_2 : List UInt8 := [182, 0, 252, 62, 29, 17, 11, 184, 164, 0, 6, 16, 253, 172, 3, 54, 4, 21, 4, 29, 162, 0, 26, 42]
abbrev dktX0_write_2 : List UInt8 := dkwX0_write_2 ++ dktX0_write_3
def dkwX0_write_1 : List UInt8 := [27, 182, 0, 74, 182, 0, 249, 153, 0, 6, 16, 252, 172, 42, 180, 0, 28, 42, 27, 182, 0, 74, 28]
abbrev dktX0_write_1 : List UInt8 := dkwX0_write_1 ++ dktX0_write_2
def dkwX0_write_0 : List UInt8 := [42, 27, 182, 0, 74, 198, 0, 12, 28, 3, 5, 184, 0, 36, 154, 0, 5, 2, 172, 28, 158, 0, 17, 42]
abbrev dktX0_write_0 : List UInt8 := dkwX0_write_0 ++ dktX0_write_1
theorem dksX0_write_0 : cX0_write.data.toList.drop 0 = dktX0_write_0 := by decide +kernel
theorem dksX0_write_1 : cX0_write.data.toList.drop 24 = dktX0_write_1 := dk_seg dksX0_write_0 24 rfl rfl
theorem dksX0_write_2 : cX0_write.data.toList.drop 47 = dktX0_write_2 := dk_seg dksX0_write_1 23 rfl rfl
theorem dksX0_write_3 : cX0_write.data.toList.drop 71 = dktX0_write_3 := dk_seg dksX0_write_2 24 rfl rfl
theorem dksX0_write_4 : cX0_write.data.toList.drop 95 = dktX0_write_4 := dk_seg dksX0_write_3 24 rfl rfl
theorem dX0_write_0 : decode cX0_write 0 = .ok (.aload_n 0, 1) := dk_42 (dk_at dksX0_write_0 0 rfl rfl)
theorem dX0_write_1 : decode cX0_write 1 = .ok (.iload_n 1, 1) := dk_27 (dk_at dksX0_write_0 1 rfl rfl)
theorem dX0_write_2 : decode cX0_write 2 = .ok (.invokevirtual 74, 3) := dk_182 0 74 (dk_at dksX0_write_0 2 rfl rfl)
theorem dX0_write_5 : decode cX0_write 5 = .ok (.ifnull 12, 3) := dk_198 0 12 (dk_at dksX0_write_0 5 rfl rfl)
theorem dX0_write_8 : decode cX0_write 8 = .ok (.iload_n 2, 1) := dk_28 (dk_at dksX0_write_0 8 rfl rfl)
theorem dX0_write_9 : decode cX0_write 9 = .ok (.iconst 0, 1) := dk_3 (dk_at dksX0_write_0 9 rfl rfl)
theorem dX0_write_10 : decode cX0_write 10 = .ok (.iconst 2, 1) := dk_5 (dk_at dksX0_write_0 10 rfl rfl)
theorem dX0_write_11 : decode cX0_write 11 = .ok (.invokestatic 36, 3) := dk_184 0 36 (dk_at dksX0_write_0 11 rfl rfl)
theorem dX0_write_14 : decode cX0_write 14 = .ok (.ifCond .ne 5, 3) := dk_154 0 5 (dk_at dksX0_write_0 14 rfl rfl)
theorem dX0_write_17 : decode cX0_write 17 = .ok (.iconst (-1), 1) := dk_2 (dk_at dksX0_write_0 17 rfl rfl)
theorem dX0_write_18 : decode cX0_write 18 = .ok (.ireturn, 1) := dk_172 (dk_at dksX0_write_0 18 rfl rfl)
theorem dX0_write_19 : decode cX0_write 19 = .ok (.iload_n 2, 1) := dk_28 (dk_at dksX0_write_0 19 rfl rfl)
theorem dX0_write_20 : decode cX0_write 20 = .ok (.ifCond .le 17, 3) := dk_158 0 17 (dk_at dksX0_write_0 20 rfl rfl)
theorem dX0_write_23 : decode cX0_write 23 = .ok (.aload_n 0, 1) := dk_42 (dk_at dksX0_write_0 23 rfl rfl)
theorem dX0_write_24 : decode cX0_write 24 = .ok (.iload_n 1, 1) := dk_27 (dk_at dksX0_write_1 0 rfl rfl)
theorem dX0_write_25 : decode cX0_write 25 = .ok (.invokevirtual 74, 3) := dk_182 0 74 (dk_at dksX0_write_1 1 rfl rfl)
theorem dX0_write_28 : decode cX0_write 28 = .ok (.invokevirtual 249, 3) := dk_182 0 249 (dk_at dksX0_write_1 4 rfl rfl)
theorem dX0_write_31 : decode cX0_write 31 = .ok (.ifCond .eq 6, 3) := dk_153 0 6 (dk_at dksX0_write_1 7 rfl rfl)
theorem dX0_write_34 : decode cX0_write 34 = .ok (.bipush (-4), 2) := dk_16 252 (dk_at dksX0_write_1 10 rfl rfl)
theorem dX0_write_36 : decode cX0_write 36 = .ok (.ireturn, 1) := dk_172 (dk_at dksX0_write_1 12 rfl rfl)
theorem dX0_write_37 : decode cX0_write 37 = .ok (.aload_n 0, 1) := dk_42 (dk_at dksX0_write_1 13 rfl rfl)
theorem dX0_write_38 : decode cX0_write 38 = .ok (.getfield 28, 3) := dk_180 0 28 (dk_at dksX0_write_1 14 rfl rfl)
theorem dX0_write_41 : decode cX0_write 41 = .ok (.aload_n 0, 1) := dk_42 (dk_at dksX0_write_1 17 rfl rfl)
theorem dX0_write_42 : decode cX0_write 42 = .ok (.iload_n 1, 1) := dk_27 (dk_at dksX0_write_1 18 rfl rfl)
theorem dX0_write_43 : decode cX0_write 43 = .ok (.invokevirtual 74, 3) := dk_182 0 74 (dk_at dksX0_write_1 19 rfl rfl)
theorem dX0_write_46 : decode cX0_write 46 = .ok (.iload_n 2, 1) := dk_28 (dk_at dksX0_write_1 22 rfl rfl)
theorem dX0_write_47 : decode cX0_write 47 = .ok (.invokevirtual 252, 3) := dk_182 0 252 (dk_at dksX0_write_2 0 rfl rfl)
theorem dX0_write_50 : decode cX0_write 50 = .ok (.istore_n 3, 1) := dk_62 (dk_at dksX0_write_2 3 rfl rfl)
theorem dX0_write_51 : decode cX0_write 51 = .ok (.iload_n 3, 1) := dk_29 (dk_at dksX0_write_2 4 rfl rfl)
theorem dX0_write_52 : decode cX0_write 52 = .ok (.sipush 3000, 3) := dk_17 11 184 (dk_at dksX0_write_2 5 rfl rfl)
theorem dX0_write_55 : decode cX0_write 55 = .ok (.if_icmp .le 6, 3) := dk_164 0 6 (dk_at dksX0_write_2 8 rfl rfl)
theorem dX0_write_58 : decode cX0_write 58 = .ok (.bipush (-3), 2) := dk_16 253 (dk_at dksX0_write_2 11 rfl rfl)
theorem dX0_write_60 : decode cX0_write 60 = .ok (.ireturn, 1) := dk_172 (dk_at dksX0_write_2 13 rfl rfl)
theorem dX0_write_61 : decode cX0_write 61 = .ok (.iconst 0, 1) := dk_3 (dk_at dksX0_write_2 14 rfl rfl)
theorem dX0_write_62 : decode cX0_write 62 = .ok (.istore 4, 2) := dk_54 4 (dk_at dksX0_write_2 15 rfl rfl)
theorem dX0_write_64 : decode cX0_write 64 = .ok (.iload 4, 2) := dk_21 4 (dk_at dksX0_write_2 17 rfl rfl)
theorem dX0_write_66 : decode cX0_write 66 = .ok (.iload_n 3, 1) := dk_29 (dk_at dksX0_write_2 19 rfl rfl)
theorem dX0_write_67 : decode cX0_write 67 = .ok (.if_icmp .ge 26, 3) := dk_162 0 26 (dk_at dksX0_write_2 20 rfl rfl)
theorem dX0_write_70 : decode cX0_write 70 = .ok (.aload_n 0, 1) := dk_42 (dk_at dksX0_write_2 23 rfl rfl)
theorem dX0_write_71 : decode cX0_write 71 = .ok (.getfield 9, 3) := dk_180 0 9 (dk_at dksX0_write_3 0 rfl rfl)
theorem dX0_write_74 : decode cX0_write 74 = .ok (.iload 4, 2) := dk_21 4 (dk_at dksX0_write_3 3 rfl rfl)
theorem dX0_write_76 : decode cX0_write 76 = .ok (.aload_n 0, 1) := dk_42 (dk_at dksX0_write_3 5 rfl rfl)
theorem dX0_write_77 : decode cX0_write 77 = .ok (.getfield 28, 3) := dk_180 0 28 (dk_at dksX0_write_3 6 rfl rfl)
theorem dX0_write_80 : decode cX0_write 80 = .ok (.getfield 255, 3) := dk_180 0 255 (dk_at dksX0_write_3 9 rfl rfl)
theorem dX0_write_83 : decode cX0_write 83 = .ok (.iload 4, 2) := dk_21 4 (dk_at dksX0_write_3 12 rfl rfl)
theorem dX0_write_85 : decode cX0_write 85 = .ok (.baload, 1) := dk_51 (dk_at dksX0_write_3 14 rfl rfl)
theorem dX0_write_86 : decode cX0_write 86 = .ok (.bastore, 1) := dk_84 (dk_at dksX0_write_3 15 rfl rfl)
theorem dX0_write_87 : decode cX0_write 87 = .ok (.iinc 4 1, 3) := dk_132 4 1 (dk_at dksX0_write_3 16 rfl rfl)
theorem dX0_write_90 : decode cX0_write 90 = .ok (.goto (-26), 3) := dk_167 255 230 (dk_at dksX0_write_3 19 rfl rfl)
theorem dX0_write_93 : decode cX0_write 93 = .ok (.aload_n 0, 1) := dk_42 (dk_at dksX0_write_3 22 rfl rfl)
theorem dX0_write_94 : decode cX0_write 94 = .ok (.iload_n 3, 1) := dk_29 (dk_at dksX0_write_3 23 rfl rfl)
theorem dX0_write_95 : decode cX0_write 95 = .ok (.putfield 32, 3) := dk_181 0 32 (dk_at dksX0_write_4 0 rfl rfl)
theorem dX0_write_98 : decode cX0_write 98 = .ok (.iload_n 3, 1) := dk_29 (dk_at dksX0_write_4 3 rfl rfl)
theorem dX0_write_99 : decode cX0_write 99 = .ok (.ireturn, 1) := dk_172 (dk_at dksX0_write_4 4 rfl rfl)
theorem q132 : (Jvm.Cond.initialized "LateAndEarly") ∈ lw_all := lw_g (lw_at lw_m1 1 rfl) rfl
theorem q175 : (Jvm.Cond.instantiable "LateAndEarly" (7 : Nat)) ∈ lw_all := lw_g (lw_at lw_m1 44 rfl) rfl
theorem q177 : (Jvm.Cond.instanceMethod ({ cls := "LateAndEarly", name := "<init>", desc := "()V" } : Jvm.MethodName)) ∈ lw_all := lw_g (lw_at lw_m1 46 rfl) rfl
theorem q178 : (Jvm.Cond.code ({ cls := "LateAndEarly", name := "<init>", desc := "()V" } : Jvm.MethodName) prog_1_method_2_code (1 : Nat) (Option.none : Option Jvm.ClassFile.FieldType)) ∈ lw_all := lw_g (lw_at lw_m1 47 rfl) rfl
theorem q179 : (Jvm.Cond.methodLink "LateAndEarly" (1 : Nat) ({ cls := "java/lang/Object", name := "<init>", desc := "()V" } : Jvm.MethodName)) ∈ lw_all := lw_g (lw_at lw_m1 48 rfl) rfl
theorem q182 : (Jvm.Cond.classLink "LateAndEarly" (17 : Nat) "LateAndEarly$Routine") ∈ lw_all := lw_g (lw_at lw_m1 51 rfl) rfl
theorem q184 : (Jvm.Cond.classLink "LateAndEarly" (23 : Nat) "LateAndEarly$Text") ∈ lw_all := lw_g (lw_at lw_m1 53 rfl) rfl
theorem q186 : (Jvm.Cond.methodLinkNest "LateAndEarly" (25 : Nat) ({ cls := "LateAndEarly$Text", name := "<init>", desc := "(LLateAndEarly;)V" } : Jvm.MethodName) "LateAndEarly") ∈ lw_tbl := lw_at lw_m1 55 rfl
theorem q191 : (Jvm.Cond.fieldLinkNest "LateAndEarly" (255 : Nat) "LateAndEarly$Text" "row" "[B" "LateAndEarly") ∈ lw_tbl := lw_at lw_m1 60 rfl
theorem q206 : (Jvm.Cond.fieldLink "LateAndEarly" (9 : Nat) "LateAndEarly" "tape" "[B") ∈ lw_all := lw_g (lw_at lw_m1 75 rfl) rfl
theorem q209 : (Jvm.Cond.fieldLink "LateAndEarly" (32 : Nat) "LateAndEarly" "taped" "I") ∈ lw_all := lw_g (lw_at lw_m1 78 rfl) rfl
theorem q211 : (Jvm.Cond.fieldLink "LateAndEarly" (13 : Nat) "LateAndEarly" "begins" "[I") ∈ lw_all := lw_g (lw_at lw_m1 80 rfl) rfl
theorem q212 : (Jvm.Cond.fieldLink "LateAndEarly" (19 : Nat) "LateAndEarly" "places" "[LLateAndEarly$Routine;") ∈ lw_all := lw_g (lw_at lw_m1 81 rfl) rfl
theorem q213 : (Jvm.Cond.fieldLink "LateAndEarly" (40 : Nat) "LateAndEarly" "wrong" "I") ∈ lw_all := lw_g (lw_at lw_m1 82 rfl) rfl
theorem q214 : (Jvm.Cond.fieldLink "LateAndEarly" (185 : Nat) "LateAndEarly" "ran" "LLateAndEarly$Run;") ∈ lw_all := lw_g (lw_at lw_m1 83 rfl) rfl
theorem q215 : (Jvm.Cond.fieldLink "LateAndEarly" (28 : Nat) "LateAndEarly" "text" "LLateAndEarly$Text;") ∈ lw_all := lw_g (lw_at lw_m1 84 rfl) rfl
theorem q216 : (Jvm.Cond.laysFinal "LateAndEarly" "LateAndEarly" "tape" "[B") ∈ lw_all := lw_g (lw_at lw_m1 85 rfl) rfl
theorem q217 : (Jvm.Cond.soleField "LateAndEarly" "tape") ∈ lw_all := lw_g (lw_at lw_m1 86 rfl) rfl
theorem q218 : (Jvm.Cond.lays "LateAndEarly" "LateAndEarly" "taped" "I") ∈ lw_all := lw_g (lw_at lw_m1 87 rfl) rfl
theorem q219 : (Jvm.Cond.soleField "LateAndEarly" "taped") ∈ lw_all := lw_g (lw_at lw_m1 88 rfl) rfl
theorem q220 : (Jvm.Cond.laysFinal "LateAndEarly" "LateAndEarly" "begins" "[I") ∈ lw_all := lw_g (lw_at lw_m1 89 rfl) rfl
theorem q221 : (Jvm.Cond.soleField "LateAndEarly" "begins") ∈ lw_all := lw_g (lw_at lw_m1 90 rfl) rfl
theorem q222 : (Jvm.Cond.laysFinal "LateAndEarly" "LateAndEarly" "places" "[LLateAndEarly$Routine;") ∈ lw_all := lw_g (lw_at lw_m1 91 rfl) rfl
theorem q223 : (Jvm.Cond.soleField "LateAndEarly" "places") ∈ lw_all := lw_g (lw_at lw_m1 92 rfl) rfl
theorem q224 : (Jvm.Cond.lays "LateAndEarly" "LateAndEarly" "wrong" "I") ∈ lw_all := lw_g (lw_at lw_m1 93 rfl) rfl
theorem q225 : (Jvm.Cond.soleField "LateAndEarly" "wrong") ∈ lw_all := lw_g (lw_at lw_m1 94 rfl) rfl
theorem q226 : (Jvm.Cond.lays "LateAndEarly" "LateAndEarly" "ran" "LLateAndEarly$Run;") ∈ lw_all := lw_g (lw_at lw_m1 95 rfl) rfl
theorem q227 : (Jvm.Cond.soleField "LateAndEarly" "ran") ∈ lw_all := lw_g (lw_at lw_m1 96 rfl) rfl
theorem q228 : (Jvm.Cond.laysFinal "LateAndEarly" "LateAndEarly" "text" "LLateAndEarly$Text;") ∈ lw_all := lw_g (lw_at lw_m1 97 rfl) rfl
theorem q229 : (Jvm.Cond.soleField "LateAndEarly" "text") ∈ lw_all := lw_g (lw_at lw_m1 98 rfl) rfl
theorem q230 : (Jvm.Cond.superclass "LateAndEarly" "java/lang/Object") ∈ lw_all := lw_g (lw_at lw_m1 99 rfl) rfl
theorem q232 : (Jvm.Cond.instanceMethod ({ cls := "LateAndEarly", name := "feed", desc := "(JI)I" } : Jvm.MethodName)) ∈ lw_all := lw_g (lw_at lw_m1 101 rfl) rfl
theorem q233 : (Jvm.Cond.selects "LateAndEarly" ({ cls := "LateAndEarly", name := "feed", desc := "(JI)I" } : Jvm.MethodName) ({ cls := "LateAndEarly", name := "feed", desc := "(JI)I" } : Jvm.MethodName)) ∈ lw_all := lw_g (lw_at lw_m1 102 rfl) rfl
theorem q234 : (Jvm.Cond.code ({ cls := "LateAndEarly", name := "feed", desc := "(JI)I" } : Jvm.MethodName) prog_1_method_3_code (5 : Nat) (Option.some Jvm.ClassFile.FieldType.int)) ∈ lw_all := lw_g (lw_at lw_m1 103 rfl) rfl
theorem q236 : (Jvm.Cond.instanceMethod ({ cls := "LateAndEarly", name := "cut", desc := "(I)I" } : Jvm.MethodName)) ∈ lw_all := lw_g (lw_at lw_m1 105 rfl) rfl
theorem q237 : (Jvm.Cond.selects "LateAndEarly" ({ cls := "LateAndEarly", name := "cut", desc := "(I)I" } : Jvm.MethodName) ({ cls := "LateAndEarly", name := "cut", desc := "(I)I" } : Jvm.MethodName)) ∈ lw_all := lw_g (lw_at lw_m1 106 rfl) rfl
theorem q238 : (Jvm.Cond.code ({ cls := "LateAndEarly", name := "cut", desc := "(I)I" } : Jvm.MethodName) prog_1_method_4_code (2 : Nat) (Option.some Jvm.ClassFile.FieldType.int)) ∈ lw_all := lw_g (lw_at lw_m1 107 rfl) rfl
theorem q240 : (Jvm.Cond.instanceMethod ({ cls := "LateAndEarly", name := "tape", desc := "(I)I" } : Jvm.MethodName)) ∈ lw_all := lw_g (lw_at lw_m1 109 rfl) rfl
theorem q241 : (Jvm.Cond.selects "LateAndEarly" ({ cls := "LateAndEarly", name := "tape", desc := "(I)I" } : Jvm.MethodName) ({ cls := "LateAndEarly", name := "tape", desc := "(I)I" } : Jvm.MethodName)) ∈ lw_all := lw_g (lw_at lw_m1 110 rfl) rfl
theorem q242 : (Jvm.Cond.code ({ cls := "LateAndEarly", name := "tape", desc := "(I)I" } : Jvm.MethodName) prog_1_method_5_code (2 : Nat) (Option.some Jvm.ClassFile.FieldType.int)) ∈ lw_all := lw_g (lw_at lw_m1 111 rfl) rfl
theorem q244 : (Jvm.Cond.instanceMethod ({ cls := "LateAndEarly", name := "parse", desc := "(I)I" } : Jvm.MethodName)) ∈ lw_all := lw_g (lw_at lw_m1 113 rfl) rfl
theorem q245 : (Jvm.Cond.selects "LateAndEarly" ({ cls := "LateAndEarly", name := "parse", desc := "(I)I" } : Jvm.MethodName) ({ cls := "LateAndEarly", name := "parse", desc := "(I)I" } : Jvm.MethodName)) ∈ lw_all := lw_g (lw_at lw_m1 114 rfl) rfl
theorem q246 : (Jvm.Cond.codeWith ({ cls := "LateAndEarly", name := "parse", desc := "(I)I" } : Jvm.MethodName) prog_1_method_7_code (3 : Nat) (Option.some Jvm.ClassFile.FieldType.int) [((16 : Nat), (47 : Nat), (67 : Nat), (66 : Nat)), ((48 : Nat), (66 : Nat), (67 : Nat), (66 : Nat))]) ∈ lw_all := lw_g (lw_at lw_m1 115 rfl) rfl
theorem q247 : (Jvm.Cond.classLink "LateAndEarly" (66 : Nat) "LateAndEarly$Fault") ∈ lw_all := lw_g (lw_at lw_m1 116 rfl) rfl
theorem q248 : (Jvm.Cond.methodLink "LateAndEarly" (36 : Nat) ({ cls := "LateAndEarly", name := "in", desc := "(III)Z" } : Jvm.MethodName)) ∈ lw_all := lw_g (lw_at lw_m1 117 rfl) rfl
theorem q249 : (Jvm.Cond.static ({ cls := "LateAndEarly", name := "in", desc := "(III)Z" } : Jvm.MethodName)) ∈ lw_all := lw_g (lw_at lw_m1 118 rfl) rfl
theorem q250 : (Jvm.Cond.code ({ cls := "LateAndEarly", name := "in", desc := "(III)Z" } : Jvm.MethodName) prog_1_method_1_code (3 : Nat) (Option.some Jvm.ClassFile.FieldType.boolean)) ∈ lw_all := lw_g (lw_at lw_m1 119 rfl) rfl
theorem q251 : (Jvm.Cond.classLink "LateAndEarly" (43 : Nat) "LateAndEarly$Reader") ∈ lw_all := lw_g (lw_at lw_m1 120 rfl) rfl
theorem q253 : (Jvm.Cond.methodLinkNest "LateAndEarly" (45 : Nat) ({ cls := "LateAndEarly$Reader", name := "<init>", desc := "(LLateAndEarly;)V" } : Jvm.MethodName) "LateAndEarly") ∈ lw_tbl := lw_at lw_m1 122 rfl
theorem q290 : (Jvm.Cond.fieldLinkNest "LateAndEarly" (78 : Nat) "LateAndEarly$Routine" "blocks" "Ljava/util/ArrayList;" "LateAndEarly") ∈ lw_tbl := lw_at lw_m1 159 rfl
theorem q295 : (Jvm.Cond.fieldLinkNest "LateAndEarly" (63 : Nat) "LateAndEarly$Routine" "nodes" "Ljava/util/ArrayList;" "LateAndEarly") ∈ lw_tbl := lw_at lw_m1 164 rfl
theorem q299 : (Jvm.Cond.fieldLinkNest "LateAndEarly" (50 : Nat) "LateAndEarly$Routine" "sums" "Ljava/util/ArrayList;" "LateAndEarly") ∈ lw_tbl := lw_at lw_m1 168 rfl
theorem q302 : (Jvm.Cond.fieldLinkNest "LateAndEarly" (214 : Nat) "LateAndEarly$Routine" "way" "Ljava/util/ArrayList;" "LateAndEarly") ∈ lw_tbl := lw_at lw_m1 171 rfl
theorem q304 : (Jvm.Cond.fieldLinkNest "LateAndEarly" (84 : Nat) "LateAndEarly$Routine" "lines" "I" "LateAndEarly") ∈ lw_tbl := lw_at lw_m1 173 rfl
theorem q307 : (Jvm.Cond.fieldLinkNest "LateAndEarly" (81 : Nat) "LateAndEarly$Routine" "onWays" "I" "LateAndEarly") ∈ lw_tbl := lw_at lw_m1 176 rfl
theorem q309 : (Jvm.Cond.fieldLinkNest "LateAndEarly" (143 : Nat) "LateAndEarly$Routine" "works" "[J" "LateAndEarly") ∈ lw_tbl := lw_at lw_m1 178 rfl
theorem q311 : (Jvm.Cond.fieldLinkNest "LateAndEarly" (145 : Nat) "LateAndEarly$Routine" "kills" "[J" "LateAndEarly") ∈ lw_tbl := lw_at lw_m1 180 rfl
theorem q313 : (Jvm.Cond.fieldLinkNest "LateAndEarly" (148 : Nat) "LateAndEarly$Routine" "wanted" "[J" "LateAndEarly") ∈ lw_tbl := lw_at lw_m1 182 rfl
theorem q315 : (Jvm.Cond.fieldLinkNest "LateAndEarly" (151 : Nat) "LateAndEarly$Routine" "there" "[J" "LateAndEarly") ∈ lw_tbl := lw_at lw_m1 184 rfl
theorem q317 : (Jvm.Cond.fieldLinkNest "LateAndEarly" (154 : Nat) "LateAndEarly$Routine" "early" "[J" "LateAndEarly") ∈ lw_tbl := lw_at lw_m1 186 rfl
theorem q319 : (Jvm.Cond.fieldLinkNest "LateAndEarly" (157 : Nat) "LateAndEarly$Routine" "delayed" "[J" "LateAndEarly") ∈ lw_tbl := lw_at lw_m1 188 rfl
theorem q321 : (Jvm.Cond.fieldLinkNest "LateAndEarly" (160 : Nat) "LateAndEarly$Routine" "latest" "[J" "LateAndEarly") ∈ lw_tbl := lw_at lw_m1 190 rfl
theorem q322 : (Jvm.Cond.fieldLinkNest "LateAndEarly" (163 : Nat) "LateAndEarly$Routine" "alone" "[J" "LateAndEarly") ∈ lw_tbl := lw_at lw_m1 191 rfl
theorem q383 : (Jvm.Cond.methodLink "LateAndEarly" (46 : Nat) ({ cls := "LateAndEarly$Reader", name := "read", desc := "()LLateAndEarly$Routine;" } : Jvm.MethodName)) ∈ lw_all := lw_g (lw_at lw_m2 12 rfl) rfl
theorem q559 : (Jvm.Cond.fieldLinkNest "LateAndEarly" (68 : Nat) "LateAndEarly$Fault" "kind" "I" "LateAndEarly") ∈ lw_tbl := lw_at lw_m2 188 rfl
theorem q561 : (Jvm.Cond.fieldLinkNest "LateAndEarly" (71 : Nat) "LateAndEarly$Fault" "place" "I" "LateAndEarly") ∈ lw_tbl := lw_at lw_m2 190 rfl
theorem q633 : (Jvm.Cond.selects "LateAndEarly" ({ cls := "java/lang/Object", name := "getClass", desc := "()Ljava/lang/Class;" } : Jvm.MethodName) ({ cls := "java/lang/Object", name := "getClass", desc := "()Ljava/lang/Class;" } : Jvm.MethodName)) ∈ lw_all := lw_g (lw_at lw_m3 22 rfl) rfl
theorem q753 : (Jvm.Cond.fieldLinkNest "LateAndEarly" (114 : Nat) "LateAndEarly$Node" "number" "I" "LateAndEarly") ∈ lw_tbl := lw_at lw_m3 142 rfl
theorem q756 : (Jvm.Cond.fieldLinkNest "LateAndEarly" (101 : Nat) "LateAndEarly$Node" "block" "I" "LateAndEarly") ∈ lw_tbl := lw_at lw_m3 145 rfl
theorem q762 : (Jvm.Cond.fieldLink "LateAndEarly" (111 : Nat) "LateAndEarly$Node" "next" "Ljava/util/ArrayList;") ∈ lw_all := lw_g (lw_at lw_m3 151 rfl) rfl
theorem q766 : (Jvm.Cond.fieldLink "LateAndEarly" (115 : Nat) "LateAndEarly$Node" "before" "Ljava/util/ArrayList;") ∈ lw_all := lw_g (lw_at lw_m3 155 rfl) rfl
theorem q901 : (Jvm.Cond.fieldLinkNest "LateAndEarly" (108 : Nat) "LateAndEarly$Sum" "number" "I" "LateAndEarly") ∈ lw_tbl := lw_at lw_m4 50 rfl
theorem q1109 : (Jvm.Cond.methodLink "LateAndEarly" (54 : Nat) ({ cls := "java/util/ArrayList", name := "size", desc := "()I" } : Jvm.MethodName)) ∈ lw_all := lw_g (lw_at lw_m5 18 rfl) rfl
theorem q1110 : (Jvm.Cond.methodLink "LateAndEarly" (60 : Nat) ({ cls := "LateAndEarly$Routine", name := "study", desc := "()V" } : Jvm.MethodName)) ∈ lw_all := lw_g (lw_at lw_m5 19 rfl) rfl
theorem q1248 : (Jvm.Cond.instanceMethod ({ cls := "LateAndEarly", name := "wrong", desc := "()I" } : Jvm.MethodName)) ∈ lw_all := lw_g (lw_at lw_m5 157 rfl) rfl
theorem q1249 : (Jvm.Cond.selects "LateAndEarly" ({ cls := "LateAndEarly", name := "wrong", desc := "()I" } : Jvm.MethodName) ({ cls := "LateAndEarly", name := "wrong", desc := "()I" } : Jvm.MethodName)) ∈ lw_all := lw_g (lw_at lw_m5 158 rfl) rfl
theorem q1250 : (Jvm.Cond.code ({ cls := "LateAndEarly", name := "wrong", desc := "()I" } : Jvm.MethodName) prog_1_method_8_code (1 : Nat) (Option.some Jvm.ClassFile.FieldType.int)) ∈ lw_all := lw_g (lw_at lw_m5 159 rfl) rfl
theorem q1252 : (Jvm.Cond.instanceMethod ({ cls := "LateAndEarly", name := "about", desc := "(II)I" } : Jvm.MethodName)) ∈ lw_all := lw_g (lw_at lw_m5 161 rfl) rfl
theorem q1253 : (Jvm.Cond.selects "LateAndEarly" ({ cls := "LateAndEarly", name := "about", desc := "(II)I" } : Jvm.MethodName) ({ cls := "LateAndEarly", name := "about", desc := "(II)I" } : Jvm.MethodName)) ∈ lw_all := lw_g (lw_at lw_m5 162 rfl) rfl
theorem q1254 : (Jvm.Cond.code ({ cls := "LateAndEarly", name := "about", desc := "(II)I" } : Jvm.MethodName) prog_1_method_9_code (4 : Nat) (Option.some Jvm.ClassFile.FieldType.int)) ∈ lw_all := lw_g (lw_at lw_m5 163 rfl) rfl
theorem q1255 : (Jvm.Cond.methodLink "LateAndEarly" (74 : Nat) ({ cls := "LateAndEarly", name := "of", desc := "(I)LLateAndEarly$Routine;" } : Jvm.MethodName)) ∈ lw_all := lw_g (lw_at lw_m5 164 rfl) rfl
theorem q1256 : (Jvm.Cond.privateMethod ({ cls := "LateAndEarly", name := "of", desc := "(I)LLateAndEarly$Routine;" } : Jvm.MethodName)) ∈ lw_tbl := lw_at lw_m5 165 rfl
theorem q1257 : (Jvm.Cond.instanceMethod ({ cls := "LateAndEarly", name := "of", desc := "(I)LLateAndEarly$Routine;" } : Jvm.MethodName)) ∈ lw_all := lw_g (lw_at lw_m5 166 rfl) rfl
theorem q1258 : (Jvm.Cond.code ({ cls := "LateAndEarly", name := "of", desc := "(I)LLateAndEarly$Routine;" } : Jvm.MethodName) prog_1_method_6_code (2 : Nat) (Option.some (Jvm.ClassFile.FieldType.object "LateAndEarly$Routine"))) ∈ lw_all := lw_g (lw_at lw_m5 167 rfl) rfl
theorem q1260 : (Jvm.Cond.instanceMethod ({ cls := "LateAndEarly", name := "node", desc := "(III)I" } : Jvm.MethodName)) ∈ lw_all := lw_g (lw_at lw_m5 169 rfl) rfl
theorem q1261 : (Jvm.Cond.selects "LateAndEarly" ({ cls := "LateAndEarly", name := "node", desc := "(III)I" } : Jvm.MethodName) ({ cls := "LateAndEarly", name := "node", desc := "(III)I" } : Jvm.MethodName)) ∈ lw_all := lw_g (lw_at lw_m5 170 rfl) rfl
theorem q1262 : (Jvm.Cond.code ({ cls := "LateAndEarly", name := "node", desc := "(III)I" } : Jvm.MethodName) prog_1_method_12_code (5 : Nat) (Option.some Jvm.ClassFile.FieldType.int)) ∈ lw_all := lw_g (lw_at lw_m5 171 rfl) rfl
theorem q1263 : (Jvm.Cond.methodLink "LateAndEarly" (95 : Nat) ({ cls := "LateAndEarly", name := "nodeOf", desc := "(II)LLateAndEarly$Node;" } : Jvm.MethodName)) ∈ lw_all := lw_g (lw_at lw_m5 172 rfl) rfl
theorem q1264 : (Jvm.Cond.privateMethod ({ cls := "LateAndEarly", name := "nodeOf", desc := "(II)LLateAndEarly$Node;" } : Jvm.MethodName)) ∈ lw_tbl := lw_at lw_m5 173 rfl
theorem q1265 : (Jvm.Cond.instanceMethod ({ cls := "LateAndEarly", name := "nodeOf", desc := "(II)LLateAndEarly$Node;" } : Jvm.MethodName)) ∈ lw_all := lw_g (lw_at lw_m5 174 rfl) rfl
theorem q1266 : (Jvm.Cond.code ({ cls := "LateAndEarly", name := "nodeOf", desc := "(II)LLateAndEarly$Node;" } : Jvm.MethodName) prog_1_method_10_code (3 : Nat) (Option.some (Jvm.ClassFile.FieldType.object "LateAndEarly$Node"))) ∈ lw_all := lw_g (lw_at lw_m5 175 rfl) rfl
theorem q1267 : (Jvm.Cond.methodLink "LateAndEarly" (87 : Nat) ({ cls := "java/util/ArrayList", name := "get", desc := "(I)Ljava/lang/Object;" } : Jvm.MethodName)) ∈ lw_all := lw_g (lw_at lw_m5 176 rfl) rfl
theorem q1268 : (Jvm.Cond.classLink "LateAndEarly" (91 : Nat) "LateAndEarly$Node") ∈ lw_all := lw_g (lw_at lw_m5 177 rfl) rfl
theorem q1269 : (Jvm.Cond.methodLink "LateAndEarly" (99 : Nat) ({ cls := "LateAndEarly$Node", name := "kind", desc := "()I" } : Jvm.MethodName)) ∈ lw_all := lw_g (lw_at lw_m5 178 rfl) rfl
theorem q1296 : (Jvm.Cond.methodLink "LateAndEarly" (104 : Nat) ({ cls := "LateAndEarly$Node", name := "works", desc := "()LLateAndEarly$Sum;" } : Jvm.MethodName)) ∈ lw_all := lw_g (lw_at lw_m5 205 rfl) rfl
theorem q1298 : (Jvm.Cond.instanceMethod ({ cls := "LateAndEarly", name := "sum", desc := "(III)I" } : Jvm.MethodName)) ∈ lw_all := lw_g (lw_at lw_m5 207 rfl) rfl
theorem q1299 : (Jvm.Cond.selects "LateAndEarly" ({ cls := "LateAndEarly", name := "sum", desc := "(III)I" } : Jvm.MethodName) ({ cls := "LateAndEarly", name := "sum", desc := "(III)I" } : Jvm.MethodName)) ∈ lw_all := lw_g (lw_at lw_m5 208 rfl) rfl
theorem q1300 : (Jvm.Cond.code ({ cls := "LateAndEarly", name := "sum", desc := "(III)I" } : Jvm.MethodName) prog_1_method_13_code (8 : Nat) (Option.some Jvm.ClassFile.FieldType.int)) ∈ lw_all := lw_g (lw_at lw_m5 209 rfl) rfl
theorem q1301 : (Jvm.Cond.methodLink "LateAndEarly" (118 : Nat) ({ cls := "LateAndEarly", name := "sumOf", desc := "(II)LLateAndEarly$Sum;" } : Jvm.MethodName)) ∈ lw_all := lw_g (lw_at lw_m5 210 rfl) rfl
theorem q1302 : (Jvm.Cond.privateMethod ({ cls := "LateAndEarly", name := "sumOf", desc := "(II)LLateAndEarly$Sum;" } : Jvm.MethodName)) ∈ lw_tbl := lw_at lw_m5 211 rfl
theorem q1303 : (Jvm.Cond.instanceMethod ({ cls := "LateAndEarly", name := "sumOf", desc := "(II)LLateAndEarly$Sum;" } : Jvm.MethodName)) ∈ lw_all := lw_g (lw_at lw_m5 212 rfl) rfl
theorem q1304 : (Jvm.Cond.code ({ cls := "LateAndEarly", name := "sumOf", desc := "(II)LLateAndEarly$Sum;" } : Jvm.MethodName) prog_1_method_11_code (3 : Nat) (Option.some (Jvm.ClassFile.FieldType.object "LateAndEarly$Sum"))) ∈ lw_all := lw_g (lw_at lw_m5 213 rfl) rfl
theorem q1305 : (Jvm.Cond.classLink "LateAndEarly" (93 : Nat) "LateAndEarly$Sum") ∈ lw_all := lw_g (lw_at lw_m5 214 rfl) rfl
theorem q1306 : (Jvm.Cond.methodLink "LateAndEarly" (122 : Nat) ({ cls := "LateAndEarly$Sum", name := "sign", desc := "()I" } : Jvm.MethodName)) ∈ lw_all := lw_g (lw_at lw_m5 215 rfl) rfl
theorem q1315 : (Jvm.Cond.methodLink "LateAndEarly" (125 : Nat) ({ cls := "LateAndEarly$Sum", name := "toldFirst", desc := "()I" } : Jvm.MethodName)) ∈ lw_all := lw_g (lw_at lw_m5 224 rfl) rfl
theorem q1330 : (Jvm.Cond.methodLink "LateAndEarly" (128 : Nat) ({ cls := "LateAndEarly$Sum", name := "second", desc := "()LLateAndEarly$Operand;" } : Jvm.MethodName)) ∈ lw_all := lw_g (lw_at lw_m5 239 rfl) rfl
theorem q1331 : (Jvm.Cond.methodLink "LateAndEarly" (132 : Nat) ({ cls := "LateAndEarly$Operand", name := "told", desc := "()I" } : Jvm.MethodName)) ∈ lw_all := lw_g (lw_at lw_m6 0 rfl) rfl
theorem q1332 : (Jvm.Cond.methodLink "LateAndEarly" (137 : Nat) ({ cls := "LateAndEarly$Sum", name := "isBold", desc := "()Z" } : Jvm.MethodName)) ∈ lw_all := lw_g (lw_at lw_m6 1 rfl) rfl
theorem q1334 : (Jvm.Cond.instanceMethod ({ cls := "LateAndEarly", name := "at", desc := "(IIII)I" } : Jvm.MethodName)) ∈ lw_all := lw_g (lw_at lw_m6 3 rfl) rfl
theorem q1335 : (Jvm.Cond.selects "LateAndEarly" ({ cls := "LateAndEarly", name := "at", desc := "(IIII)I" } : Jvm.MethodName) ({ cls := "LateAndEarly", name := "at", desc := "(IIII)I" } : Jvm.MethodName)) ∈ lw_all := lw_g (lw_at lw_m6 4 rfl) rfl
theorem q1336 : (Jvm.Cond.code ({ cls := "LateAndEarly", name := "at", desc := "(IIII)I" } : Jvm.MethodName) prog_1_method_14_code (7 : Nat) (Option.some Jvm.ClassFile.FieldType.int)) ∈ lw_all := lw_g (lw_at lw_m6 5 rfl) rfl
theorem q1337 : (Jvm.Cond.classLink "LateAndEarly" (141 : Nat) "[J") ∈ lw_all := lw_g (lw_at lw_m6 6 rfl) rfl
theorem q1340 : (Jvm.Cond.instanceMethod ({ cls := "LateAndEarly", name := "placed", desc := "(IIIII)I" } : Jvm.MethodName)) ∈ lw_all := lw_g (lw_at lw_m6 9 rfl) rfl
theorem q1341 : (Jvm.Cond.selects "LateAndEarly" ({ cls := "LateAndEarly", name := "placed", desc := "(IIIII)I" } : Jvm.MethodName) ({ cls := "LateAndEarly", name := "placed", desc := "(IIIII)I" } : Jvm.MethodName)) ∈ lw_all := lw_g (lw_at lw_m6 10 rfl) rfl
theorem q1342 : (Jvm.Cond.code ({ cls := "LateAndEarly", name := "placed", desc := "(IIIII)I" } : Jvm.MethodName) prog_1_method_16_code (9 : Nat) (Option.some Jvm.ClassFile.FieldType.int)) ∈ lw_all := lw_g (lw_at lw_m6 11 rfl) rfl
theorem q1343 : (Jvm.Cond.methodLink "LateAndEarly" (166 : Nat) ({ cls := "LateAndEarly", name := "isPlaced", desc := "(III)Z" } : Jvm.MethodName)) ∈ lw_all := lw_g (lw_at lw_m6 12 rfl) rfl
theorem q1344 : (Jvm.Cond.privateMethod ({ cls := "LateAndEarly", name := "isPlaced", desc := "(III)Z" } : Jvm.MethodName)) ∈ lw_tbl := lw_at lw_m6 13 rfl
theorem q1345 : (Jvm.Cond.instanceMethod ({ cls := "LateAndEarly", name := "isPlaced", desc := "(III)Z" } : Jvm.MethodName)) ∈ lw_all := lw_g (lw_at lw_m6 14 rfl) rfl
theorem q1346 : (Jvm.Cond.code ({ cls := "LateAndEarly", name := "isPlaced", desc := "(III)Z" } : Jvm.MethodName) prog_1_method_15_code (4 : Nat) (Option.some Jvm.ClassFile.FieldType.boolean)) ∈ lw_all := lw_g (lw_at lw_m6 15 rfl) rfl
theorem q1347 : (Jvm.Cond.methodLink "LateAndEarly" (169 : Nat) ({ cls := "LateAndEarly$Routine", name := "setAt", desc := "(II)J" } : Jvm.MethodName)) ∈ lw_all := lw_g (lw_at lw_m6 16 rfl) rfl
theorem q1351 : (Jvm.Cond.methodLink "LateAndEarly" (173 : Nat) ({ cls := "LateAndEarly$Routine", name := "takenAt", desc := "(II)J" } : Jvm.MethodName)) ∈ lw_all := lw_g (lw_at lw_m6 20 rfl) rfl
theorem q1355 : (Jvm.Cond.methodLink "LateAndEarly" (176 : Nat) ({ cls := "LateAndEarly$Routine", name := "alive", desc := "(I)[J" } : Jvm.MethodName)) ∈ lw_all := lw_g (lw_at lw_m6 24 rfl) rfl
theorem q1362 : (Jvm.Cond.instanceMethod ({ cls := "LateAndEarly", name := "life", desc := "(III)I" } : Jvm.MethodName)) ∈ lw_all := lw_g (lw_at lw_m6 31 rfl) rfl
theorem q1363 : (Jvm.Cond.selects "LateAndEarly" ({ cls := "LateAndEarly", name := "life", desc := "(III)I" } : Jvm.MethodName) ({ cls := "LateAndEarly", name := "life", desc := "(III)I" } : Jvm.MethodName)) ∈ lw_all := lw_g (lw_at lw_m6 32 rfl) rfl
theorem q1364 : (Jvm.Cond.code ({ cls := "LateAndEarly", name := "life", desc := "(III)I" } : Jvm.MethodName) prog_1_method_17_code (10 : Nat) (Option.some Jvm.ClassFile.FieldType.int)) ∈ lw_all := lw_g (lw_at lw_m6 33 rfl) rfl
theorem q1366 : (Jvm.Cond.instanceMethod ({ cls := "LateAndEarly", name := "places", desc := "(IIII)I" } : Jvm.MethodName)) ∈ lw_all := lw_g (lw_at lw_m6 35 rfl) rfl
theorem q1367 : (Jvm.Cond.selects "LateAndEarly" ({ cls := "LateAndEarly", name := "places", desc := "(IIII)I" } : Jvm.MethodName) ({ cls := "LateAndEarly", name := "places", desc := "(IIII)I" } : Jvm.MethodName)) ∈ lw_all := lw_g (lw_at lw_m6 36 rfl) rfl
theorem q1368 : (Jvm.Cond.code ({ cls := "LateAndEarly", name := "places", desc := "(IIII)I" } : Jvm.MethodName) prog_1_method_18_code (8 : Nat) (Option.some Jvm.ClassFile.FieldType.int)) ∈ lw_all := lw_g (lw_at lw_m6 37 rfl) rfl
theorem q1370 : (Jvm.Cond.instanceMethod ({ cls := "LateAndEarly", name := "name", desc := "(II)I" } : Jvm.MethodName)) ∈ lw_all := lw_g (lw_at lw_m6 39 rfl) rfl
theorem q1371 : (Jvm.Cond.selects "LateAndEarly" ({ cls := "LateAndEarly", name := "name", desc := "(II)I" } : Jvm.MethodName) ({ cls := "LateAndEarly", name := "name", desc := "(II)I" } : Jvm.MethodName)) ∈ lw_all := lw_g (lw_at lw_m6 40 rfl) rfl
theorem q1372 : (Jvm.Cond.code ({ cls := "LateAndEarly", name := "name", desc := "(II)I" } : Jvm.MethodName) prog_1_method_19_code (4 : Nat) (Option.some Jvm.ClassFile.FieldType.int)) ∈ lw_all := lw_g (lw_at lw_m6 41 rfl) rfl
theorem q1374 : (Jvm.Cond.instanceMethod ({ cls := "LateAndEarly", name := "run", desc := "(II)I" } : Jvm.MethodName)) ∈ lw_all := lw_g (lw_at lw_m6 43 rfl) rfl
theorem q1375 : (Jvm.Cond.selects "LateAndEarly" ({ cls := "LateAndEarly", name := "run", desc := "(II)I" } : Jvm.MethodName) ({ cls := "LateAndEarly", name := "run", desc := "(II)I" } : Jvm.MethodName)) ∈ lw_all := lw_g (lw_at lw_m6 44 rfl) rfl
theorem q1376 : (Jvm.Cond.code ({ cls := "LateAndEarly", name := "run", desc := "(II)I" } : Jvm.MethodName) prog_1_method_20_code (3 : Nat) (Option.some Jvm.ClassFile.FieldType.int)) ∈ lw_all := lw_g (lw_at lw_m6 45 rfl) rfl
theorem q1377 : (Jvm.Cond.classLink "LateAndEarly" (180 : Nat) "LateAndEarly$Run") ∈ lw_all := lw_g (lw_at lw_m6 46 rfl) rfl
theorem q1379 : (Jvm.Cond.methodLink "LateAndEarly" (182 : Nat) ({ cls := "LateAndEarly$Run", name := "<init>", desc := "(LLateAndEarly;LLateAndEarly$Routine;I)V" } : Jvm.MethodName)) ∈ lw_all := lw_g (lw_at lw_m6 48 rfl) rfl
theorem q1388 : (Jvm.Cond.fieldLinkNest "LateAndEarly" (207 : Nat) "LateAndEarly$Run" "names" "[I" "LateAndEarly") ∈ lw_tbl := lw_at lw_m6 57 rfl
theorem q1391 : (Jvm.Cond.fieldLinkNest "LateAndEarly" (195 : Nat) "LateAndEarly$Run" "worked" "[I" "LateAndEarly") ∈ lw_tbl := lw_at lw_m6 60 rfl
theorem q1393 : (Jvm.Cond.fieldLinkNest "LateAndEarly" (205 : Nat) "LateAndEarly$Run" "told" "[I" "LateAndEarly") ∈ lw_tbl := lw_at lw_m6 62 rfl
theorem q1395 : (Jvm.Cond.fieldLinkNest "LateAndEarly" (210 : Nat) "LateAndEarly$Run" "rows" "[[I" "LateAndEarly") ∈ lw_tbl := lw_at lw_m6 64 rfl
theorem q1397 : (Jvm.Cond.fieldLinkNest "LateAndEarly" (192 : Nat) "LateAndEarly$Run" "how" "I" "LateAndEarly") ∈ lw_tbl := lw_at lw_m6 66 rfl
theorem q1399 : (Jvm.Cond.fieldLinkNest "LateAndEarly" (198 : Nat) "LateAndEarly$Run" "steps" "I" "LateAndEarly") ∈ lw_tbl := lw_at lw_m6 68 rfl
theorem q1401 : (Jvm.Cond.fieldLinkNest "LateAndEarly" (201 : Nat) "LateAndEarly$Run" "tolds" "I" "LateAndEarly") ∈ lw_tbl := lw_at lw_m6 70 rfl
theorem q1403 : (Jvm.Cond.fieldLinkNest "LateAndEarly" (204 : Nat) "LateAndEarly$Run" "block" "I" "LateAndEarly") ∈ lw_tbl := lw_at lw_m6 72 rfl
theorem q1430 : (Jvm.Cond.methodLink "LateAndEarly" (189 : Nat) ({ cls := "LateAndEarly$Run", name := "go", desc := "()V" } : Jvm.MethodName)) ∈ lw_all := lw_g (lw_at lw_m6 99 rfl) rfl
theorem q1483 : (Jvm.Cond.instanceMethod ({ cls := "LateAndEarly", name := "ran", desc := "(I)I" } : Jvm.MethodName)) ∈ lw_all := lw_g (lw_at lw_m6 152 rfl) rfl
theorem q1484 : (Jvm.Cond.selects "LateAndEarly" ({ cls := "LateAndEarly", name := "ran", desc := "(I)I" } : Jvm.MethodName) ({ cls := "LateAndEarly", name := "ran", desc := "(I)I" } : Jvm.MethodName)) ∈ lw_all := lw_g (lw_at lw_m6 153 rfl) rfl
theorem q1485 : (Jvm.Cond.code ({ cls := "LateAndEarly", name := "ran", desc := "(I)I" } : Jvm.MethodName) prog_1_method_21_code (7 : Nat) (Option.some Jvm.ClassFile.FieldType.int)) ∈ lw_all := lw_g (lw_at lw_m6 154 rfl) rfl
theorem q1487 : (Jvm.Cond.instanceMethod ({ cls := "LateAndEarly", name := "told", desc := "(I)I" } : Jvm.MethodName)) ∈ lw_all := lw_g (lw_at lw_m6 156 rfl) rfl
theorem q1488 : (Jvm.Cond.selects "LateAndEarly" ({ cls := "LateAndEarly", name := "told", desc := "(I)I" } : Jvm.MethodName) ({ cls := "LateAndEarly", name := "told", desc := "(I)I" } : Jvm.MethodName)) ∈ lw_all := lw_g (lw_at lw_m6 157 rfl) rfl
theorem q1489 : (Jvm.Cond.code ({ cls := "LateAndEarly", name := "told", desc := "(I)I" } : Jvm.MethodName) prog_1_method_22_code (2 : Nat) (Option.some Jvm.ClassFile.FieldType.int)) ∈ lw_all := lw_g (lw_at lw_m6 158 rfl) rfl
theorem q1491 : (Jvm.Cond.instanceMethod ({ cls := "LateAndEarly", name := "value", desc := "(I)I" } : Jvm.MethodName)) ∈ lw_all := lw_g (lw_at lw_m6 160 rfl) rfl
theorem q1492 : (Jvm.Cond.selects "LateAndEarly" ({ cls := "LateAndEarly", name := "value", desc := "(I)I" } : Jvm.MethodName) ({ cls := "LateAndEarly", name := "value", desc := "(I)I" } : Jvm.MethodName)) ∈ lw_all := lw_g (lw_at lw_m6 161 rfl) rfl
theorem q1493 : (Jvm.Cond.code ({ cls := "LateAndEarly", name := "value", desc := "(I)I" } : Jvm.MethodName) prog_1_method_23_code (2 : Nat) (Option.some Jvm.ClassFile.FieldType.int)) ∈ lw_all := lw_g (lw_at lw_m6 162 rfl) rfl
theorem q1495 : (Jvm.Cond.instanceMethod ({ cls := "LateAndEarly", name := "row", desc := "(II)I" } : Jvm.MethodName)) ∈ lw_all := lw_g (lw_at lw_m6 164 rfl) rfl
theorem q1496 : (Jvm.Cond.selects "LateAndEarly" ({ cls := "LateAndEarly", name := "row", desc := "(II)I" } : Jvm.MethodName) ({ cls := "LateAndEarly", name := "row", desc := "(II)I" } : Jvm.MethodName)) ∈ lw_all := lw_g (lw_at lw_m6 165 rfl) rfl
theorem q1497 : (Jvm.Cond.code ({ cls := "LateAndEarly", name := "row", desc := "(II)I" } : Jvm.MethodName) prog_1_method_24_code (3 : Nat) (Option.some Jvm.ClassFile.FieldType.int)) ∈ lw_all := lw_g (lw_at lw_m6 166 rfl) rfl
theorem q1499 : (Jvm.Cond.instanceMethod ({ cls := "LateAndEarly", name := "worked", desc := "(I)I" } : Jvm.MethodName)) ∈ lw_all := lw_g (lw_at lw_m6 168 rfl) rfl
theorem q1500 : (Jvm.Cond.selects "LateAndEarly" ({ cls := "LateAndEarly", name := "worked", desc := "(I)I" } : Jvm.MethodName) ({ cls := "LateAndEarly", name := "worked", desc := "(I)I" } : Jvm.MethodName)) ∈ lw_all := lw_g (lw_at lw_m6 169 rfl) rfl
theorem q1501 : (Jvm.Cond.code ({ cls := "LateAndEarly", name := "worked", desc := "(I)I" } : Jvm.MethodName) prog_1_method_25_code (2 : Nat) (Option.some Jvm.ClassFile.FieldType.int)) ∈ lw_all := lw_g (lw_at lw_m6 170 rfl) rfl
theorem q1503 : (Jvm.Cond.instanceMethod ({ cls := "LateAndEarly", name := "step", desc := "(II)I" } : Jvm.MethodName)) ∈ lw_all := lw_g (lw_at lw_m6 172 rfl) rfl
theorem q1504 : (Jvm.Cond.selects "LateAndEarly" ({ cls := "LateAndEarly", name := "step", desc := "(II)I" } : Jvm.MethodName) ({ cls := "LateAndEarly", name := "step", desc := "(II)I" } : Jvm.MethodName)) ∈ lw_all := lw_g (lw_at lw_m6 173 rfl) rfl
theorem q1505 : (Jvm.Cond.code ({ cls := "LateAndEarly", name := "step", desc := "(II)I" } : Jvm.MethodName) prog_1_method_26_code (7 : Nat) (Option.some Jvm.ClassFile.FieldType.int)) ∈ lw_all := lw_g (lw_at lw_m6 174 rfl) rfl
theorem q1506 : (Jvm.Cond.classLink "LateAndEarly" (217 : Nat) "java/lang/Integer") ∈ lw_all := lw_g (lw_at lw_m6 175 rfl) rfl
theorem q1507 : (Jvm.Cond.methodLink "LateAndEarly" (219 : Nat) ({ cls := "java/lang/Integer", name := "intValue", desc := "()I" } : Jvm.MethodName)) ∈ lw_all := lw_g (lw_at lw_m6 176 rfl) rfl
theorem q1508 : (Jvm.Cond.methodLink "LateAndEarly" (222 : Nat) ({ cls := "LateAndEarly$Routine", name := "end", desc := "(I)LLateAndEarly$End;" } : Jvm.MethodName)) ∈ lw_all := lw_g (lw_at lw_m6 177 rfl) rfl
theorem q1509 : (Jvm.Cond.methodLink "LateAndEarly" (226 : Nat) ({ cls := "LateAndEarly$End", name := "ways", desc := "()I" } : Jvm.MethodName)) ∈ lw_all := lw_g (lw_at lw_m6 178 rfl) rfl
theorem q1510 : (Jvm.Cond.methodLink "LateAndEarly" (231 : Nat) ({ cls := "LateAndEarly$End", name := "way", desc := "(I)I" } : Jvm.MethodName)) ∈ lw_all := lw_g (lw_at lw_m6 179 rfl) rfl
theorem q1511 : (Jvm.Cond.methodLink "LateAndEarly" (234 : Nat) ({ cls := "java/lang/Integer", name := "valueOf", desc := "(I)Ljava/lang/Integer;" } : Jvm.MethodName)) ∈ lw_all := lw_g (lw_at lw_m6 180 rfl) rfl
theorem q1512 : (Jvm.Cond.methodLink "LateAndEarly" (238 : Nat) ({ cls := "java/util/ArrayList", name := "add", desc := "(Ljava/lang/Object;)Z" } : Jvm.MethodName)) ∈ lw_all := lw_g (lw_at lw_m6 181 rfl) rfl
theorem q1514 : (Jvm.Cond.instanceMethod ({ cls := "LateAndEarly", name := "home", desc := "(I)I" } : Jvm.MethodName)) ∈ lw_all := lw_g (lw_at lw_m6 183 rfl) rfl
theorem q1515 : (Jvm.Cond.selects "LateAndEarly" ({ cls := "LateAndEarly", name := "home", desc := "(I)I" } : Jvm.MethodName) ({ cls := "LateAndEarly", name := "home", desc := "(I)I" } : Jvm.MethodName)) ∈ lw_all := lw_g (lw_at lw_m6 184 rfl) rfl
theorem q1516 : (Jvm.Cond.code ({ cls := "LateAndEarly", name := "home", desc := "(I)I" } : Jvm.MethodName) prog_1_method_27_code (3 : Nat) (Option.some Jvm.ClassFile.FieldType.int)) ∈ lw_all := lw_g (lw_at lw_m6 185 rfl) rfl
theorem q1517 : (Jvm.Cond.methodLink "LateAndEarly" (242 : Nat) ({ cls := "java/util/ArrayList", name := "clear", desc := "()V" } : Jvm.MethodName)) ∈ lw_all := lw_g (lw_at lw_m6 186 rfl) rfl
theorem q1522 : (Jvm.Cond.instanceMethod ({ cls := "LateAndEarly", name := "works", desc := "(III)I" } : Jvm.MethodName)) ∈ lw_all := lw_g (lw_at lw_m6 191 rfl) rfl
theorem q1523 : (Jvm.Cond.selects "LateAndEarly" ({ cls := "LateAndEarly", name := "works", desc := "(III)I" } : Jvm.MethodName) ({ cls := "LateAndEarly", name := "works", desc := "(III)I" } : Jvm.MethodName)) ∈ lw_all := lw_g (lw_at lw_m6 192 rfl) rfl
theorem q1524 : (Jvm.Cond.code ({ cls := "LateAndEarly", name := "works", desc := "(III)I" } : Jvm.MethodName) prog_1_method_28_code (4 : Nat) (Option.some Jvm.ClassFile.FieldType.int)) ∈ lw_all := lw_g (lw_at lw_m6 193 rfl) rfl
theorem q1525 : (Jvm.Cond.methodLink "LateAndEarly" (245 : Nat) ({ cls := "LateAndEarly$Routine", name := "worksOnWay", desc := "(II)I" } : Jvm.MethodName)) ∈ lw_all := lw_g (lw_at lw_m6 194 rfl) rfl
theorem q1541 : (Jvm.Cond.instanceMethod ({ cls := "LateAndEarly", name := "write", desc := "(II)I" } : Jvm.MethodName)) ∈ lw_all := lw_g (lw_at lw_m6 210 rfl) rfl
theorem q1542 : (Jvm.Cond.selects "LateAndEarly" ({ cls := "LateAndEarly", name := "write", desc := "(II)I" } : Jvm.MethodName) ({ cls := "LateAndEarly", name := "write", desc := "(II)I" } : Jvm.MethodName)) ∈ lw_all := lw_g (lw_at lw_m6 211 rfl) rfl
theorem q1543 : (Jvm.Cond.code ({ cls := "LateAndEarly", name := "write", desc := "(II)I" } : Jvm.MethodName) prog_1_method_29_code (5 : Nat) (Option.some Jvm.ClassFile.FieldType.int)) ∈ lw_all := lw_g (lw_at lw_m6 212 rfl) rfl
theorem q1544 : (Jvm.Cond.methodLink "LateAndEarly" (249 : Nat) ({ cls := "LateAndEarly$Routine", name := "hasT", desc := "()Z" } : Jvm.MethodName)) ∈ lw_all := lw_g (lw_at lw_m6 213 rfl) rfl
theorem q1559 : (Jvm.Cond.methodLink "LateAndEarly" (252 : Nat) ({ cls := "LateAndEarly$Text", name := "of", desc := "(LLateAndEarly$Routine;I)I" } : Jvm.MethodName)) ∈ lw_all := lw_g (lw_at lw_m6 228 rfl) rfl
theorem q2274 : (Jvm.Cond.castable "LateAndEarly" "java/lang/Object") ∈ lw_tbl := lw_at lw_m9 223 rfl
theorem in_X0 : ∀ w ∈ wsX00, w ∈ lw_all := lw_in wsX00 [216, 218, 220, 222, 224, 226, 228] (by decide +kernel) (by decide +kernel)
/-! LateAndEarly$Text -/
set_option maxRecDepth 100000
def RX1 : String := "LateAndEarly$Text"
def TX1 : u_T := fun k => match k with
  | 0 => ("LateAndEarly$Text", "row", "[B", true)
  | 1 => ("LateAndEarly$Text", "blockOf", "[I", true)
  | 2 => ("LateAndEarly$Text", "size", "I", false)
  | _ => ("LateAndEarly$Text", "this$0", "LLateAndEarly;", true)
def tyX1 : Nat → FieldType := fun k => match k with
  | 0 => .array .byte
  | 1 => .array .int
  | 2 => .int
  | _ => .object "LateAndEarly"
abbrev wsX10 : List Cond := u_ws RX1 TX1 4
theorem nmX1 : ∀ a, a < 4 → ∀ b, b < 4 → a ≠ b → (TX1 a).2.1 ≠ (TX1 b).2.1 := by decide +kernel
theorem tyX1_ok : ∀ k, k < 4 → parseFieldDescriptor (TX1 k).2.2.1 = some (tyX1 k) := by decide +kernel
abbrev cX1_init : ByteArray := prog_21_method_1_code
def yX1_init : MethodName := ⟨RX1, "<init>", "(LLateAndEarly;)V"⟩
def dkwX1_init_1 : List UInt8 := [181, 0, 19, 177]
abbrev dktX1_init_1 : List UInt8 := dkwX1_init_1 ++ []
def dkwX1_init_0 : List UInt8 := [42, 43, 181, 0, 3, 42, 183, 0, 9, 42, 17, 11, 184, 188, 8, 181, 0, 15, 42, 17, 1, 224, 188, 10]
abbrev dktX1_init_0 : List UInt8 := dkwX1_init_0 ++ dktX1_init_1
theorem dksX1_init_0 : cX1_init.data.toList.drop 0 = dktX1_init_0 := by decide +kernel
theorem dksX1_init_1 : cX1_init.data.toList.drop 24 = dktX1_init_1 := dk_seg dksX1_init_0 24 rfl rfl
theorem dX1_init_0 : decode cX1_init 0 = .ok (.aload_n 0, 1) := dk_42 (dk_at dksX1_init_0 0 rfl rfl)
theorem dX1_init_1 : decode cX1_init 1 = .ok (.aload_n 1, 1) := dk_43 (dk_at dksX1_init_0 1 rfl rfl)
theorem dX1_init_2 : decode cX1_init 2 = .ok (.putfield 3, 3) := dk_181 0 3 (dk_at dksX1_init_0 2 rfl rfl)
theorem dX1_init_5 : decode cX1_init 5 = .ok (.aload_n 0, 1) := dk_42 (dk_at dksX1_init_0 5 rfl rfl)
theorem dX1_init_6 : decode cX1_init 6 = .ok (.invokespecial 9, 3) := dk_183 0 9 (dk_at dksX1_init_0 6 rfl rfl)
theorem dX1_init_9 : decode cX1_init 9 = .ok (.aload_n 0, 1) := dk_42 (dk_at dksX1_init_0 9 rfl rfl)
theorem dX1_init_10 : decode cX1_init 10 = .ok (.sipush 3000, 3) := dk_17 11 184 (dk_at dksX1_init_0 10 rfl rfl)
theorem dX1_init_13 : decode cX1_init 13 = .ok (.newarray .byte, 2) := dk_188_8 (dk_at dksX1_init_0 13 rfl rfl)
theorem dX1_init_15 : decode cX1_init 15 = .ok (.putfield 15, 3) := dk_181 0 15 (dk_at dksX1_init_0 15 rfl rfl)
theorem dX1_init_18 : decode cX1_init 18 = .ok (.aload_n 0, 1) := dk_42 (dk_at dksX1_init_0 18 rfl rfl)
theorem dX1_init_19 : decode cX1_init 19 = .ok (.sipush 480, 3) := dk_17 1 224 (dk_at dksX1_init_0 19 rfl rfl)
theorem dX1_init_22 : decode cX1_init 22 = .ok (.newarray .int, 2) := dk_188_10 (dk_at dksX1_init_0 22 rfl rfl)
theorem dX1_init_24 : decode cX1_init 24 = .ok (.putfield 19, 3) := dk_181 0 19 (dk_at dksX1_init_1 0 rfl rfl)
theorem dX1_init_27 : decode cX1_init 27 = .ok (.return_, 1) := dk_177 (dk_at dksX1_init_1 3 rfl rfl)
abbrev cX1_of : ByteArray := prog_21_method_13_code
def yX1_of : MethodName := ⟨RX1, "of", "(LLateAndEarly$Routine;I)I"⟩
def dkwX1_of_12 : List UInt8 := [182, 0, 52, 182, 0, 133, 132, 4, 1, 167, 255, 169, 42, 180, 0, 23, 172]
abbrev dktX1_of_12 : List UInt8 := dkwX1_of_12 ++ []
def dkwX1_of_11 : List UInt8 := [42, 43, 28, 25, 5, 180, 0, 148, 182, 0, 152, 42, 18, 223, 182, 0, 49, 25, 5, 180, 0, 225]
abbrev dktX1_of_11 : List UInt8 := dkwX1_of_11 ++ dktX1_of_12
def dkwX1_of_10 : List UInt8 := [180, 0, 148, 46, 154, 0, 6, 167, 0, 45, 42, 42, 180, 0, 19, 25, 5, 180, 0, 148, 46, 182, 0, 215]
abbrev dktX1_of_10 : List UInt8 := dkwX1_of_10 ++ dktX1_of_11
def dkwX1_of_9 : List UInt8 := [162, 0, 81, 43, 180, 0, 212, 21, 4, 182, 0, 115, 192, 0, 141, 58, 5, 42, 180, 0, 19, 25, 5]
abbrev dktX1_of_9 : List UInt8 := dkwX1_of_9 ++ dktX1_of_10
def dkwX1_of_8 : List UInt8 := [132, 5, 1, 167, 255, 203, 132, 4, 1, 167, 255, 176, 3, 54, 4, 21, 4, 43, 180, 0, 212, 182, 0, 111]
abbrev dktX1_of_8 : List UInt8 := dkwX1_of_8 ++ dktX1_of_9
def dkwX1_of_7 : List UInt8 := [182, 0, 115, 192, 0, 112, 21, 5, 182, 0, 115, 192, 0, 141, 58, 6, 42, 43, 28, 25, 6, 182, 0, 219]
abbrev dktX1_of_7 : List UInt8 := dkwX1_of_7 ++ dktX1_of_8
def dkwX1_of_6 : List UInt8 := [180, 0, 209, 21, 4, 182, 0, 115, 192, 0, 112, 182, 0, 111, 162, 0, 39, 43, 180, 0, 209, 21, 4]
abbrev dktX1_of_6 : List UInt8 := dkwX1_of_6 ++ dktX1_of_7
def dkwX1_of_5 : List UInt8 := [21, 4, 43, 180, 0, 209, 182, 0, 111, 162, 0, 74, 42, 21, 4, 182, 0, 215, 3, 54, 5, 21, 5, 43]
abbrev dktX1_of_5 : List UInt8 := dkwX1_of_5 ++ dktX1_of_6
def dkwX1_of_4 : List UInt8 := [3, 79, 29, 21, 6, 153, 0, 7, 4, 167, 0, 4, 3, 96, 62, 132, 4, 1, 167, 255, 162, 3, 54, 4]
abbrev dktX1_of_4 : List UInt8 := dkwX1_of_4 ++ dktX1_of_5
def dkwX1_of_3 : List UInt8 := [167, 0, 4, 3, 54, 6, 42, 180, 0, 19, 25, 5, 180, 0, 148, 21, 6, 153, 0, 7, 29, 167, 0, 4]
abbrev dktX1_of_3 : List UInt8 := dkwX1_of_3 ++ dktX1_of_4
def dkwX1_of_2 : List UInt8 := [182, 0, 145, 16, 7, 160, 0, 22, 43, 28, 25, 5, 180, 0, 148, 182, 0, 119, 9, 148, 153, 0, 7, 4]
abbrev dktX1_of_2 : List UInt8 := dkwX1_of_2 ++ dktX1_of_3
def dkwX1_of_1 : List UInt8 := [182, 0, 111, 162, 0, 88, 43, 180, 0, 212, 21, 4, 182, 0, 115, 192, 0, 141, 58, 5, 25, 5]
abbrev dktX1_of_1 : List UInt8 := dkwX1_of_1 ++ dktX1_of_2
def dkwX1_of_0 : List UInt8 := [42, 3, 181, 0, 23, 43, 180, 0, 209, 182, 0, 111, 62, 3, 54, 4, 21, 4, 43, 180, 0, 212]
abbrev dktX1_of_0 : List UInt8 := dkwX1_of_0 ++ dktX1_of_1
theorem dksX1_of_0 : cX1_of.data.toList.drop 0 = dktX1_of_0 := by decide +kernel
theorem dksX1_of_1 : cX1_of.data.toList.drop 22 = dktX1_of_1 := dk_seg dksX1_of_0 22 rfl rfl
theorem dksX1_of_2 : cX1_of.data.toList.drop 44 = dktX1_of_2 := dk_seg dksX1_of_1 22 rfl rfl
theorem dksX1_of_3 : cX1_of.data.toList.drop 68 = dktX1_of_3 := dk_seg dksX1_of_2 24 rfl rfl
theorem dksX1_of_4 : cX1_of.data.toList.drop 92 = dktX1_of_4 := dk_seg dksX1_of_3 24 rfl rfl
theorem dksX1_of_5 : cX1_of.data.toList.drop 116 = dktX1_of_5 := dk_seg dksX1_of_4 24 rfl rfl
theorem dksX1_of_6 : cX1_of.data.toList.drop 140 = dktX1_of_6 := dk_seg dksX1_of_5 24 rfl rfl
theorem dksX1_of_7 : cX1_of.data.toList.drop 163 = dktX1_of_7 := dk_seg dksX1_of_6 23 rfl rfl
theorem dksX1_of_8 : cX1_of.data.toList.drop 187 = dktX1_of_8 := dk_seg dksX1_of_7 24 rfl rfl
theorem dksX1_of_9 : cX1_of.data.toList.drop 211 = dktX1_of_9 := dk_seg dksX1_of_8 24 rfl rfl
theorem dksX1_of_10 : cX1_of.data.toList.drop 234 = dktX1_of_10 := dk_seg dksX1_of_9 23 rfl rfl
theorem dksX1_of_11 : cX1_of.data.toList.drop 258 = dktX1_of_11 := dk_seg dksX1_of_10 24 rfl rfl
theorem dksX1_of_12 : cX1_of.data.toList.drop 280 = dktX1_of_12 := dk_seg dksX1_of_11 22 rfl rfl
theorem dX1_of_0 : decode cX1_of 0 = .ok (.aload_n 0, 1) := dk_42 (dk_at dksX1_of_0 0 rfl rfl)
theorem dX1_of_1 : decode cX1_of 1 = .ok (.iconst 0, 1) := dk_3 (dk_at dksX1_of_0 1 rfl rfl)
theorem dX1_of_2 : decode cX1_of 2 = .ok (.putfield 23, 3) := dk_181 0 23 (dk_at dksX1_of_0 2 rfl rfl)
theorem dX1_of_5 : decode cX1_of 5 = .ok (.aload_n 1, 1) := dk_43 (dk_at dksX1_of_0 5 rfl rfl)
theorem dX1_of_6 : decode cX1_of 6 = .ok (.getfield 209, 3) := dk_180 0 209 (dk_at dksX1_of_0 6 rfl rfl)
theorem dX1_of_9 : decode cX1_of 9 = .ok (.invokevirtual 111, 3) := dk_182 0 111 (dk_at dksX1_of_0 9 rfl rfl)
theorem dX1_of_12 : decode cX1_of 12 = .ok (.istore_n 3, 1) := dk_62 (dk_at dksX1_of_0 12 rfl rfl)
theorem dX1_of_13 : decode cX1_of 13 = .ok (.iconst 0, 1) := dk_3 (dk_at dksX1_of_0 13 rfl rfl)
theorem dX1_of_14 : decode cX1_of 14 = .ok (.istore 4, 2) := dk_54 4 (dk_at dksX1_of_0 14 rfl rfl)
theorem dX1_of_16 : decode cX1_of 16 = .ok (.iload 4, 2) := dk_21 4 (dk_at dksX1_of_0 16 rfl rfl)
theorem dX1_of_18 : decode cX1_of 18 = .ok (.aload_n 1, 1) := dk_43 (dk_at dksX1_of_0 18 rfl rfl)
theorem dX1_of_19 : decode cX1_of 19 = .ok (.getfield 212, 3) := dk_180 0 212 (dk_at dksX1_of_0 19 rfl rfl)
theorem dX1_of_22 : decode cX1_of 22 = .ok (.invokevirtual 111, 3) := dk_182 0 111 (dk_at dksX1_of_1 0 rfl rfl)
theorem dX1_of_25 : decode cX1_of 25 = .ok (.if_icmp .ge 88, 3) := dk_162 0 88 (dk_at dksX1_of_1 3 rfl rfl)
theorem dX1_of_28 : decode cX1_of 28 = .ok (.aload_n 1, 1) := dk_43 (dk_at dksX1_of_1 6 rfl rfl)
theorem dX1_of_29 : decode cX1_of 29 = .ok (.getfield 212, 3) := dk_180 0 212 (dk_at dksX1_of_1 7 rfl rfl)
theorem dX1_of_32 : decode cX1_of 32 = .ok (.iload 4, 2) := dk_21 4 (dk_at dksX1_of_1 10 rfl rfl)
theorem dX1_of_34 : decode cX1_of 34 = .ok (.invokevirtual 115, 3) := dk_182 0 115 (dk_at dksX1_of_1 12 rfl rfl)
theorem dX1_of_37 : decode cX1_of 37 = .ok (.checkcast 141, 3) := dk_192 0 141 (dk_at dksX1_of_1 15 rfl rfl)
theorem dX1_of_40 : decode cX1_of 40 = .ok (.astore 5, 2) := dk_58 5 (dk_at dksX1_of_1 18 rfl rfl)
theorem dX1_of_42 : decode cX1_of 42 = .ok (.aload 5, 2) := dk_25 5 (dk_at dksX1_of_1 20 rfl rfl)
theorem dX1_of_44 : decode cX1_of 44 = .ok (.invokevirtual 145, 3) := dk_182 0 145 (dk_at dksX1_of_2 0 rfl rfl)
theorem dX1_of_47 : decode cX1_of 47 = .ok (.bipush 7, 2) := dk_16 7 (dk_at dksX1_of_2 3 rfl rfl)
theorem dX1_of_49 : decode cX1_of 49 = .ok (.if_icmp .ne 22, 3) := dk_160 0 22 (dk_at dksX1_of_2 5 rfl rfl)
theorem dX1_of_52 : decode cX1_of 52 = .ok (.aload_n 1, 1) := dk_43 (dk_at dksX1_of_2 8 rfl rfl)
theorem dX1_of_53 : decode cX1_of 53 = .ok (.iload_n 2, 1) := dk_28 (dk_at dksX1_of_2 9 rfl rfl)
theorem dX1_of_54 : decode cX1_of 54 = .ok (.aload 5, 2) := dk_25 5 (dk_at dksX1_of_2 10 rfl rfl)
theorem dX1_of_56 : decode cX1_of 56 = .ok (.getfield 148, 3) := dk_180 0 148 (dk_at dksX1_of_2 12 rfl rfl)
theorem dX1_of_59 : decode cX1_of 59 = .ok (.invokevirtual 119, 3) := dk_182 0 119 (dk_at dksX1_of_2 15 rfl rfl)
theorem dX1_of_62 : decode cX1_of 62 = .ok (.lconst 0, 1) := dk_9 (dk_at dksX1_of_2 18 rfl rfl)
theorem dX1_of_63 : decode cX1_of 63 = .ok (.lcmp, 1) := dk_148 (dk_at dksX1_of_2 19 rfl rfl)
theorem dX1_of_64 : decode cX1_of 64 = .ok (.ifCond .eq 7, 3) := dk_153 0 7 (dk_at dksX1_of_2 20 rfl rfl)
theorem dX1_of_67 : decode cX1_of 67 = .ok (.iconst 1, 1) := dk_4 (dk_at dksX1_of_2 23 rfl rfl)
theorem dX1_of_68 : decode cX1_of 68 = .ok (.goto 4, 3) := dk_167 0 4 (dk_at dksX1_of_3 0 rfl rfl)
theorem dX1_of_71 : decode cX1_of 71 = .ok (.iconst 0, 1) := dk_3 (dk_at dksX1_of_3 3 rfl rfl)
theorem dX1_of_72 : decode cX1_of 72 = .ok (.istore 6, 2) := dk_54 6 (dk_at dksX1_of_3 4 rfl rfl)
theorem dX1_of_74 : decode cX1_of 74 = .ok (.aload_n 0, 1) := dk_42 (dk_at dksX1_of_3 6 rfl rfl)
theorem dX1_of_75 : decode cX1_of 75 = .ok (.getfield 19, 3) := dk_180 0 19 (dk_at dksX1_of_3 7 rfl rfl)
theorem dX1_of_78 : decode cX1_of 78 = .ok (.aload 5, 2) := dk_25 5 (dk_at dksX1_of_3 10 rfl rfl)
theorem dX1_of_80 : decode cX1_of 80 = .ok (.getfield 148, 3) := dk_180 0 148 (dk_at dksX1_of_3 12 rfl rfl)
theorem dX1_of_83 : decode cX1_of 83 = .ok (.iload 6, 2) := dk_21 6 (dk_at dksX1_of_3 15 rfl rfl)
theorem dX1_of_85 : decode cX1_of 85 = .ok (.ifCond .eq 7, 3) := dk_153 0 7 (dk_at dksX1_of_3 17 rfl rfl)
theorem dX1_of_88 : decode cX1_of 88 = .ok (.iload_n 3, 1) := dk_29 (dk_at dksX1_of_3 20 rfl rfl)
theorem dX1_of_89 : decode cX1_of 89 = .ok (.goto 4, 3) := dk_167 0 4 (dk_at dksX1_of_3 21 rfl rfl)
theorem dX1_of_92 : decode cX1_of 92 = .ok (.iconst 0, 1) := dk_3 (dk_at dksX1_of_4 0 rfl rfl)
theorem dX1_of_93 : decode cX1_of 93 = .ok (.iastore, 1) := dk_79 (dk_at dksX1_of_4 1 rfl rfl)
theorem dX1_of_94 : decode cX1_of 94 = .ok (.iload_n 3, 1) := dk_29 (dk_at dksX1_of_4 2 rfl rfl)
theorem dX1_of_95 : decode cX1_of 95 = .ok (.iload 6, 2) := dk_21 6 (dk_at dksX1_of_4 3 rfl rfl)
theorem dX1_of_97 : decode cX1_of 97 = .ok (.ifCond .eq 7, 3) := dk_153 0 7 (dk_at dksX1_of_4 5 rfl rfl)
theorem dX1_of_100 : decode cX1_of 100 = .ok (.iconst 1, 1) := dk_4 (dk_at dksX1_of_4 8 rfl rfl)
theorem dX1_of_101 : decode cX1_of 101 = .ok (.goto 4, 3) := dk_167 0 4 (dk_at dksX1_of_4 9 rfl rfl)
theorem dX1_of_104 : decode cX1_of 104 = .ok (.iconst 0, 1) := dk_3 (dk_at dksX1_of_4 12 rfl rfl)
theorem dX1_of_105 : decode cX1_of 105 = .ok (.iadd, 1) := dk_96 (dk_at dksX1_of_4 13 rfl rfl)
theorem dX1_of_106 : decode cX1_of 106 = .ok (.istore_n 3, 1) := dk_62 (dk_at dksX1_of_4 14 rfl rfl)
theorem dX1_of_107 : decode cX1_of 107 = .ok (.iinc 4 1, 3) := dk_132 4 1 (dk_at dksX1_of_4 15 rfl rfl)
theorem dX1_of_110 : decode cX1_of 110 = .ok (.goto (-94), 3) := dk_167 255 162 (dk_at dksX1_of_4 18 rfl rfl)
theorem dX1_of_113 : decode cX1_of 113 = .ok (.iconst 0, 1) := dk_3 (dk_at dksX1_of_4 21 rfl rfl)
theorem dX1_of_114 : decode cX1_of 114 = .ok (.istore 4, 2) := dk_54 4 (dk_at dksX1_of_4 22 rfl rfl)
theorem dX1_of_116 : decode cX1_of 116 = .ok (.iload 4, 2) := dk_21 4 (dk_at dksX1_of_5 0 rfl rfl)
theorem dX1_of_118 : decode cX1_of 118 = .ok (.aload_n 1, 1) := dk_43 (dk_at dksX1_of_5 2 rfl rfl)
theorem dX1_of_119 : decode cX1_of 119 = .ok (.getfield 209, 3) := dk_180 0 209 (dk_at dksX1_of_5 3 rfl rfl)
theorem dX1_of_122 : decode cX1_of 122 = .ok (.invokevirtual 111, 3) := dk_182 0 111 (dk_at dksX1_of_5 6 rfl rfl)
theorem dX1_of_125 : decode cX1_of 125 = .ok (.if_icmp .ge 74, 3) := dk_162 0 74 (dk_at dksX1_of_5 9 rfl rfl)
theorem dX1_of_128 : decode cX1_of 128 = .ok (.aload_n 0, 1) := dk_42 (dk_at dksX1_of_5 12 rfl rfl)
theorem dX1_of_129 : decode cX1_of 129 = .ok (.iload 4, 2) := dk_21 4 (dk_at dksX1_of_5 13 rfl rfl)
theorem dX1_of_131 : decode cX1_of 131 = .ok (.invokevirtual 215, 3) := dk_182 0 215 (dk_at dksX1_of_5 15 rfl rfl)
theorem dX1_of_134 : decode cX1_of 134 = .ok (.iconst 0, 1) := dk_3 (dk_at dksX1_of_5 18 rfl rfl)
theorem dX1_of_135 : decode cX1_of 135 = .ok (.istore 5, 2) := dk_54 5 (dk_at dksX1_of_5 19 rfl rfl)
theorem dX1_of_137 : decode cX1_of 137 = .ok (.iload 5, 2) := dk_21 5 (dk_at dksX1_of_5 21 rfl rfl)
theorem dX1_of_139 : decode cX1_of 139 = .ok (.aload_n 1, 1) := dk_43 (dk_at dksX1_of_5 23 rfl rfl)
theorem dX1_of_140 : decode cX1_of 140 = .ok (.getfield 209, 3) := dk_180 0 209 (dk_at dksX1_of_6 0 rfl rfl)
theorem dX1_of_143 : decode cX1_of 143 = .ok (.iload 4, 2) := dk_21 4 (dk_at dksX1_of_6 3 rfl rfl)
theorem dX1_of_145 : decode cX1_of 145 = .ok (.invokevirtual 115, 3) := dk_182 0 115 (dk_at dksX1_of_6 5 rfl rfl)
theorem dX1_of_148 : decode cX1_of 148 = .ok (.checkcast 112, 3) := dk_192 0 112 (dk_at dksX1_of_6 8 rfl rfl)
theorem dX1_of_151 : decode cX1_of 151 = .ok (.invokevirtual 111, 3) := dk_182 0 111 (dk_at dksX1_of_6 11 rfl rfl)
theorem dX1_of_154 : decode cX1_of 154 = .ok (.if_icmp .ge 39, 3) := dk_162 0 39 (dk_at dksX1_of_6 14 rfl rfl)
theorem dX1_of_157 : decode cX1_of 157 = .ok (.aload_n 1, 1) := dk_43 (dk_at dksX1_of_6 17 rfl rfl)
theorem dX1_of_158 : decode cX1_of 158 = .ok (.getfield 209, 3) := dk_180 0 209 (dk_at dksX1_of_6 18 rfl rfl)
theorem dX1_of_161 : decode cX1_of 161 = .ok (.iload 4, 2) := dk_21 4 (dk_at dksX1_of_6 21 rfl rfl)
theorem dX1_of_163 : decode cX1_of 163 = .ok (.invokevirtual 115, 3) := dk_182 0 115 (dk_at dksX1_of_7 0 rfl rfl)
theorem dX1_of_166 : decode cX1_of 166 = .ok (.checkcast 112, 3) := dk_192 0 112 (dk_at dksX1_of_7 3 rfl rfl)
theorem dX1_of_169 : decode cX1_of 169 = .ok (.iload 5, 2) := dk_21 5 (dk_at dksX1_of_7 6 rfl rfl)
theorem dX1_of_171 : decode cX1_of 171 = .ok (.invokevirtual 115, 3) := dk_182 0 115 (dk_at dksX1_of_7 8 rfl rfl)
theorem dX1_of_174 : decode cX1_of 174 = .ok (.checkcast 141, 3) := dk_192 0 141 (dk_at dksX1_of_7 11 rfl rfl)
theorem dX1_of_177 : decode cX1_of 177 = .ok (.astore 6, 2) := dk_58 6 (dk_at dksX1_of_7 14 rfl rfl)
theorem dX1_of_179 : decode cX1_of 179 = .ok (.aload_n 0, 1) := dk_42 (dk_at dksX1_of_7 16 rfl rfl)
theorem dX1_of_180 : decode cX1_of 180 = .ok (.aload_n 1, 1) := dk_43 (dk_at dksX1_of_7 17 rfl rfl)
theorem dX1_of_181 : decode cX1_of 181 = .ok (.iload_n 2, 1) := dk_28 (dk_at dksX1_of_7 18 rfl rfl)
theorem dX1_of_182 : decode cX1_of 182 = .ok (.aload 6, 2) := dk_25 6 (dk_at dksX1_of_7 19 rfl rfl)
theorem dX1_of_184 : decode cX1_of 184 = .ok (.invokevirtual 219, 3) := dk_182 0 219 (dk_at dksX1_of_7 21 rfl rfl)
theorem dX1_of_187 : decode cX1_of 187 = .ok (.iinc 5 1, 3) := dk_132 5 1 (dk_at dksX1_of_8 0 rfl rfl)
theorem dX1_of_190 : decode cX1_of 190 = .ok (.goto (-53), 3) := dk_167 255 203 (dk_at dksX1_of_8 3 rfl rfl)
theorem dX1_of_193 : decode cX1_of 193 = .ok (.iinc 4 1, 3) := dk_132 4 1 (dk_at dksX1_of_8 6 rfl rfl)
theorem dX1_of_196 : decode cX1_of 196 = .ok (.goto (-80), 3) := dk_167 255 176 (dk_at dksX1_of_8 9 rfl rfl)
theorem dX1_of_199 : decode cX1_of 199 = .ok (.iconst 0, 1) := dk_3 (dk_at dksX1_of_8 12 rfl rfl)
theorem dX1_of_200 : decode cX1_of 200 = .ok (.istore 4, 2) := dk_54 4 (dk_at dksX1_of_8 13 rfl rfl)
theorem dX1_of_202 : decode cX1_of 202 = .ok (.iload 4, 2) := dk_21 4 (dk_at dksX1_of_8 15 rfl rfl)
theorem dX1_of_204 : decode cX1_of 204 = .ok (.aload_n 1, 1) := dk_43 (dk_at dksX1_of_8 17 rfl rfl)
theorem dX1_of_205 : decode cX1_of 205 = .ok (.getfield 212, 3) := dk_180 0 212 (dk_at dksX1_of_8 18 rfl rfl)
theorem dX1_of_208 : decode cX1_of 208 = .ok (.invokevirtual 111, 3) := dk_182 0 111 (dk_at dksX1_of_8 21 rfl rfl)
theorem dX1_of_211 : decode cX1_of 211 = .ok (.if_icmp .ge 81, 3) := dk_162 0 81 (dk_at dksX1_of_9 0 rfl rfl)
theorem dX1_of_214 : decode cX1_of 214 = .ok (.aload_n 1, 1) := dk_43 (dk_at dksX1_of_9 3 rfl rfl)
theorem dX1_of_215 : decode cX1_of 215 = .ok (.getfield 212, 3) := dk_180 0 212 (dk_at dksX1_of_9 4 rfl rfl)
theorem dX1_of_218 : decode cX1_of 218 = .ok (.iload 4, 2) := dk_21 4 (dk_at dksX1_of_9 7 rfl rfl)
theorem dX1_of_220 : decode cX1_of 220 = .ok (.invokevirtual 115, 3) := dk_182 0 115 (dk_at dksX1_of_9 9 rfl rfl)
theorem dX1_of_223 : decode cX1_of 223 = .ok (.checkcast 141, 3) := dk_192 0 141 (dk_at dksX1_of_9 12 rfl rfl)
theorem dX1_of_226 : decode cX1_of 226 = .ok (.astore 5, 2) := dk_58 5 (dk_at dksX1_of_9 15 rfl rfl)
theorem dX1_of_228 : decode cX1_of 228 = .ok (.aload_n 0, 1) := dk_42 (dk_at dksX1_of_9 17 rfl rfl)
theorem dX1_of_229 : decode cX1_of 229 = .ok (.getfield 19, 3) := dk_180 0 19 (dk_at dksX1_of_9 18 rfl rfl)
theorem dX1_of_232 : decode cX1_of 232 = .ok (.aload 5, 2) := dk_25 5 (dk_at dksX1_of_9 21 rfl rfl)
theorem dX1_of_234 : decode cX1_of 234 = .ok (.getfield 148, 3) := dk_180 0 148 (dk_at dksX1_of_10 0 rfl rfl)
theorem dX1_of_237 : decode cX1_of 237 = .ok (.iaload, 1) := dk_46 (dk_at dksX1_of_10 3 rfl rfl)
theorem dX1_of_238 : decode cX1_of 238 = .ok (.ifCond .ne 6, 3) := dk_154 0 6 (dk_at dksX1_of_10 4 rfl rfl)
theorem dX1_of_241 : decode cX1_of 241 = .ok (.goto 45, 3) := dk_167 0 45 (dk_at dksX1_of_10 7 rfl rfl)
theorem dX1_of_244 : decode cX1_of 244 = .ok (.aload_n 0, 1) := dk_42 (dk_at dksX1_of_10 10 rfl rfl)
theorem dX1_of_245 : decode cX1_of 245 = .ok (.aload_n 0, 1) := dk_42 (dk_at dksX1_of_10 11 rfl rfl)
theorem dX1_of_246 : decode cX1_of 246 = .ok (.getfield 19, 3) := dk_180 0 19 (dk_at dksX1_of_10 12 rfl rfl)
theorem dX1_of_249 : decode cX1_of 249 = .ok (.aload 5, 2) := dk_25 5 (dk_at dksX1_of_10 15 rfl rfl)
theorem dX1_of_251 : decode cX1_of 251 = .ok (.getfield 148, 3) := dk_180 0 148 (dk_at dksX1_of_10 17 rfl rfl)
theorem dX1_of_254 : decode cX1_of 254 = .ok (.iaload, 1) := dk_46 (dk_at dksX1_of_10 20 rfl rfl)
theorem dX1_of_255 : decode cX1_of 255 = .ok (.invokevirtual 215, 3) := dk_182 0 215 (dk_at dksX1_of_10 21 rfl rfl)
theorem dX1_of_258 : decode cX1_of 258 = .ok (.aload_n 0, 1) := dk_42 (dk_at dksX1_of_11 0 rfl rfl)
theorem dX1_of_259 : decode cX1_of 259 = .ok (.aload_n 1, 1) := dk_43 (dk_at dksX1_of_11 1 rfl rfl)
theorem dX1_of_260 : decode cX1_of 260 = .ok (.iload_n 2, 1) := dk_28 (dk_at dksX1_of_11 2 rfl rfl)
theorem dX1_of_261 : decode cX1_of 261 = .ok (.aload 5, 2) := dk_25 5 (dk_at dksX1_of_11 3 rfl rfl)
theorem dX1_of_263 : decode cX1_of 263 = .ok (.getfield 148, 3) := dk_180 0 148 (dk_at dksX1_of_11 5 rfl rfl)
theorem dX1_of_266 : decode cX1_of 266 = .ok (.invokevirtual 152, 3) := dk_182 0 152 (dk_at dksX1_of_11 8 rfl rfl)
theorem dX1_of_269 : decode cX1_of 269 = .ok (.aload_n 0, 1) := dk_42 (dk_at dksX1_of_11 11 rfl rfl)
theorem dX1_of_270 : decode cX1_of 270 = .ok (.ldc 223, 2) := dk_18 223 (dk_at dksX1_of_11 12 rfl rfl)
theorem dX1_of_272 : decode cX1_of 272 = .ok (.invokevirtual 49, 3) := dk_182 0 49 (dk_at dksX1_of_11 14 rfl rfl)
theorem dX1_of_275 : decode cX1_of 275 = .ok (.aload 5, 2) := dk_25 5 (dk_at dksX1_of_11 17 rfl rfl)
theorem dX1_of_277 : decode cX1_of 277 = .ok (.getfield 225, 3) := dk_180 0 225 (dk_at dksX1_of_11 19 rfl rfl)
theorem dX1_of_280 : decode cX1_of 280 = .ok (.invokevirtual 52, 3) := dk_182 0 52 (dk_at dksX1_of_12 0 rfl rfl)
theorem dX1_of_283 : decode cX1_of 283 = .ok (.invokevirtual 133, 3) := dk_182 0 133 (dk_at dksX1_of_12 3 rfl rfl)
theorem dX1_of_286 : decode cX1_of 286 = .ok (.iinc 4 1, 3) := dk_132 4 1 (dk_at dksX1_of_12 6 rfl rfl)
theorem dX1_of_289 : decode cX1_of 289 = .ok (.goto (-87), 3) := dk_167 255 169 (dk_at dksX1_of_12 9 rfl rfl)
theorem dX1_of_292 : decode cX1_of 292 = .ok (.aload_n 0, 1) := dk_42 (dk_at dksX1_of_12 12 rfl rfl)
theorem dX1_of_293 : decode cX1_of 293 = .ok (.getfield 23, 3) := dk_180 0 23 (dk_at dksX1_of_12 13 rfl rfl)
theorem dX1_of_296 : decode cX1_of 296 = .ok (.ireturn, 1) := dk_172 (dk_at dksX1_of_12 16 rfl rfl)
abbrev cX1_head : ByteArray := prog_21_method_8_code
def yX1_head : MethodName := ⟨RX1, "head", "(I)V"⟩
def dkwX1_head_0 : List UInt8 := [42, 18, 99, 182, 0, 49, 27, 182, 0, 52, 18, 101, 182, 0, 49, 87, 177]
abbrev dktX1_head_0 : List UInt8 := dkwX1_head_0 ++ []
theorem dksX1_head_0 : cX1_head.data.toList.drop 0 = dktX1_head_0 := by decide +kernel
theorem dX1_head_0 : decode cX1_head 0 = .ok (.aload_n 0, 1) := dk_42 (dk_at dksX1_head_0 0 rfl rfl)
theorem dX1_head_1 : decode cX1_head 1 = .ok (.ldc 99, 2) := dk_18 99 (dk_at dksX1_head_0 1 rfl rfl)
theorem dX1_head_3 : decode cX1_head 3 = .ok (.invokevirtual 49, 3) := dk_182 0 49 (dk_at dksX1_head_0 3 rfl rfl)
theorem dX1_head_6 : decode cX1_head 6 = .ok (.iload_n 1, 1) := dk_27 (dk_at dksX1_head_0 6 rfl rfl)
theorem dX1_head_7 : decode cX1_head 7 = .ok (.invokevirtual 52, 3) := dk_182 0 52 (dk_at dksX1_head_0 7 rfl rfl)
theorem dX1_head_10 : decode cX1_head 10 = .ok (.ldc 101, 2) := dk_18 101 (dk_at dksX1_head_0 10 rfl rfl)
theorem dX1_head_12 : decode cX1_head 12 = .ok (.invokevirtual 49, 3) := dk_182 0 49 (dk_at dksX1_head_0 12 rfl rfl)
theorem dX1_head_15 : decode cX1_head 15 = .ok (.pop, 1) := dk_87 (dk_at dksX1_head_0 15 rfl rfl)
theorem dX1_head_16 : decode cX1_head 16 = .ok (.return_, 1) := dk_177 (dk_at dksX1_head_0 16 rfl rfl)
abbrev cX1_put : ByteArray := prog_21_method_3_code
def yX1_put : MethodName := ⟨RX1, "put", "(Ljava/lang/String;)LLateAndEarly$Text;"⟩
def dkwX1_put_1 : List UInt8 := [167, 255, 236, 42, 176]
abbrev dktX1_put_1 : List UInt8 := dkwX1_put_1 ++ []
def dkwX1_put_0 : List UInt8 := [3, 61, 28, 43, 182, 0, 27, 162, 0, 18, 42, 43, 28, 182, 0, 33, 182, 0, 37, 132, 2, 1]
abbrev dktX1_put_0 : List UInt8 := dkwX1_put_0 ++ dktX1_put_1
theorem dksX1_put_0 : cX1_put.data.toList.drop 0 = dktX1_put_0 := by decide +kernel
theorem dksX1_put_1 : cX1_put.data.toList.drop 22 = dktX1_put_1 := dk_seg dksX1_put_0 22 rfl rfl
theorem dX1_put_0 : decode cX1_put 0 = .ok (.iconst 0, 1) := dk_3 (dk_at dksX1_put_0 0 rfl rfl)
theorem dX1_put_1 : decode cX1_put 1 = .ok (.istore_n 2, 1) := dk_61 (dk_at dksX1_put_0 1 rfl rfl)
theorem dX1_put_2 : decode cX1_put 2 = .ok (.iload_n 2, 1) := dk_28 (dk_at dksX1_put_0 2 rfl rfl)
theorem dX1_put_3 : decode cX1_put 3 = .ok (.aload_n 1, 1) := dk_43 (dk_at dksX1_put_0 3 rfl rfl)
theorem dX1_put_4 : decode cX1_put 4 = .ok (.invokevirtual 27, 3) := dk_182 0 27 (dk_at dksX1_put_0 4 rfl rfl)
theorem dX1_put_7 : decode cX1_put 7 = .ok (.if_icmp .ge 18, 3) := dk_162 0 18 (dk_at dksX1_put_0 7 rfl rfl)
theorem dX1_put_10 : decode cX1_put 10 = .ok (.aload_n 0, 1) := dk_42 (dk_at dksX1_put_0 10 rfl rfl)
theorem dX1_put_11 : decode cX1_put 11 = .ok (.aload_n 1, 1) := dk_43 (dk_at dksX1_put_0 11 rfl rfl)
theorem dX1_put_12 : decode cX1_put 12 = .ok (.iload_n 2, 1) := dk_28 (dk_at dksX1_put_0 12 rfl rfl)
theorem dX1_put_13 : decode cX1_put 13 = .ok (.invokevirtual 33, 3) := dk_182 0 33 (dk_at dksX1_put_0 13 rfl rfl)
theorem dX1_put_16 : decode cX1_put 16 = .ok (.invokevirtual 37, 3) := dk_182 0 37 (dk_at dksX1_put_0 16 rfl rfl)
theorem dX1_put_19 : decode cX1_put 19 = .ok (.iinc 2 1, 3) := dk_132 2 1 (dk_at dksX1_put_0 19 rfl rfl)
theorem dX1_put_22 : decode cX1_put 22 = .ok (.goto (-20), 3) := dk_167 255 236 (dk_at dksX1_put_1 0 rfl rfl)
theorem dX1_put_25 : decode cX1_put 25 = .ok (.aload_n 0, 1) := dk_42 (dk_at dksX1_put_1 3 rfl rfl)
theorem dX1_put_26 : decode cX1_put 26 = .ok (.areturn, 1) := dk_176 (dk_at dksX1_put_1 4 rfl rfl)
abbrev cX1_put_2 : ByteArray := prog_21_method_2_code
def yX1_put_2 : MethodName := ⟨RX1, "put", "(C)V"⟩
def dkwX1_put_2_1 : List UInt8 := [180, 0, 23, 4, 96, 181, 0, 23, 177]
abbrev dktX1_put_2_1 : List UInt8 := dkwX1_put_2_1 ++ []
def dkwX1_put_2_0 : List UInt8 := [42, 180, 0, 23, 17, 11, 184, 162, 0, 14, 42, 180, 0, 15, 42, 180, 0, 23, 27, 145, 84, 42, 89]
abbrev dktX1_put_2_0 : List UInt8 := dkwX1_put_2_0 ++ dktX1_put_2_1
theorem dksX1_put_2_0 : cX1_put_2.data.toList.drop 0 = dktX1_put_2_0 := by decide +kernel
theorem dksX1_put_2_1 : cX1_put_2.data.toList.drop 23 = dktX1_put_2_1 := dk_seg dksX1_put_2_0 23 rfl rfl
theorem dX1_put_2_0 : decode cX1_put_2 0 = .ok (.aload_n 0, 1) := dk_42 (dk_at dksX1_put_2_0 0 rfl rfl)
theorem dX1_put_2_1 : decode cX1_put_2 1 = .ok (.getfield 23, 3) := dk_180 0 23 (dk_at dksX1_put_2_0 1 rfl rfl)
theorem dX1_put_2_4 : decode cX1_put_2 4 = .ok (.sipush 3000, 3) := dk_17 11 184 (dk_at dksX1_put_2_0 4 rfl rfl)
theorem dX1_put_2_7 : decode cX1_put_2 7 = .ok (.if_icmp .ge 14, 3) := dk_162 0 14 (dk_at dksX1_put_2_0 7 rfl rfl)
theorem dX1_put_2_10 : decode cX1_put_2 10 = .ok (.aload_n 0, 1) := dk_42 (dk_at dksX1_put_2_0 10 rfl rfl)
theorem dX1_put_2_11 : decode cX1_put_2 11 = .ok (.getfield 15, 3) := dk_180 0 15 (dk_at dksX1_put_2_0 11 rfl rfl)
theorem dX1_put_2_14 : decode cX1_put_2 14 = .ok (.aload_n 0, 1) := dk_42 (dk_at dksX1_put_2_0 14 rfl rfl)
theorem dX1_put_2_15 : decode cX1_put_2 15 = .ok (.getfield 23, 3) := dk_180 0 23 (dk_at dksX1_put_2_0 15 rfl rfl)
theorem dX1_put_2_18 : decode cX1_put_2 18 = .ok (.iload_n 1, 1) := dk_27 (dk_at dksX1_put_2_0 18 rfl rfl)
theorem dX1_put_2_19 : decode cX1_put_2 19 = .ok (.i2b, 1) := dk_145 (dk_at dksX1_put_2_0 19 rfl rfl)
theorem dX1_put_2_20 : decode cX1_put_2 20 = .ok (.bastore, 1) := dk_84 (dk_at dksX1_put_2_0 20 rfl rfl)
theorem dX1_put_2_21 : decode cX1_put_2 21 = .ok (.aload_n 0, 1) := dk_42 (dk_at dksX1_put_2_0 21 rfl rfl)
theorem dX1_put_2_22 : decode cX1_put_2 22 = .ok (.dup, 1) := dk_89 (dk_at dksX1_put_2_0 22 rfl rfl)
theorem dX1_put_2_23 : decode cX1_put_2 23 = .ok (.getfield 23, 3) := dk_180 0 23 (dk_at dksX1_put_2_1 0 rfl rfl)
theorem dX1_put_2_26 : decode cX1_put_2 26 = .ok (.iconst 1, 1) := dk_4 (dk_at dksX1_put_2_1 3 rfl rfl)
theorem dX1_put_2_27 : decode cX1_put_2 27 = .ok (.iadd, 1) := dk_96 (dk_at dksX1_put_2_1 4 rfl rfl)
theorem dX1_put_2_28 : decode cX1_put_2 28 = .ok (.putfield 23, 3) := dk_181 0 23 (dk_at dksX1_put_2_1 5 rfl rfl)
theorem dX1_put_2_31 : decode cX1_put_2 31 = .ok (.return_, 1) := dk_177 (dk_at dksX1_put_2_1 8 rfl rfl)
abbrev cX1_put_3 : ByteArray := prog_21_method_4_code
def yX1_put_3 : MethodName := ⟨RX1, "put", "(I)LLateAndEarly$Text;"⟩
def dkwX1_put_3_2 : List UInt8 := [96, 146, 182, 0, 37, 29, 16, 10, 108, 62, 167, 255, 233, 42, 176]
abbrev dktX1_put_3_2 : List UInt8 := dkwX1_put_3_2 ++ []
def dkwX1_put_3_1 : List UInt8 := [164, 0, 11, 29, 16, 10, 104, 62, 167, 255, 243, 29, 158, 0, 25, 42, 16, 48, 28, 29, 108, 16, 10, 112]
abbrev dktX1_put_3_1 : List UInt8 := dkwX1_put_3_1 ++ dktX1_put_3_2
def dkwX1_put_3_0 : List UInt8 := [27, 156, 0, 9, 42, 16, 45, 182, 0, 37, 27, 184, 0, 41, 61, 4, 62, 28, 29, 108, 16, 9]
abbrev dktX1_put_3_0 : List UInt8 := dkwX1_put_3_0 ++ dktX1_put_3_1
theorem dksX1_put_3_0 : cX1_put_3.data.toList.drop 0 = dktX1_put_3_0 := by decide +kernel
theorem dksX1_put_3_1 : cX1_put_3.data.toList.drop 22 = dktX1_put_3_1 := dk_seg dksX1_put_3_0 22 rfl rfl
theorem dksX1_put_3_2 : cX1_put_3.data.toList.drop 46 = dktX1_put_3_2 := dk_seg dksX1_put_3_1 24 rfl rfl
theorem dX1_put_3_0 : decode cX1_put_3 0 = .ok (.iload_n 1, 1) := dk_27 (dk_at dksX1_put_3_0 0 rfl rfl)
theorem dX1_put_3_1 : decode cX1_put_3 1 = .ok (.ifCond .ge 9, 3) := dk_156 0 9 (dk_at dksX1_put_3_0 1 rfl rfl)
theorem dX1_put_3_4 : decode cX1_put_3 4 = .ok (.aload_n 0, 1) := dk_42 (dk_at dksX1_put_3_0 4 rfl rfl)
theorem dX1_put_3_5 : decode cX1_put_3 5 = .ok (.bipush 45, 2) := dk_16 45 (dk_at dksX1_put_3_0 5 rfl rfl)
theorem dX1_put_3_7 : decode cX1_put_3 7 = .ok (.invokevirtual 37, 3) := dk_182 0 37 (dk_at dksX1_put_3_0 7 rfl rfl)
theorem dX1_put_3_10 : decode cX1_put_3 10 = .ok (.iload_n 1, 1) := dk_27 (dk_at dksX1_put_3_0 10 rfl rfl)
theorem dX1_put_3_11 : decode cX1_put_3 11 = .ok (.invokestatic 41, 3) := dk_184 0 41 (dk_at dksX1_put_3_0 11 rfl rfl)
theorem dX1_put_3_14 : decode cX1_put_3 14 = .ok (.istore_n 2, 1) := dk_61 (dk_at dksX1_put_3_0 14 rfl rfl)
theorem dX1_put_3_15 : decode cX1_put_3 15 = .ok (.iconst 1, 1) := dk_4 (dk_at dksX1_put_3_0 15 rfl rfl)
theorem dX1_put_3_16 : decode cX1_put_3 16 = .ok (.istore_n 3, 1) := dk_62 (dk_at dksX1_put_3_0 16 rfl rfl)
theorem dX1_put_3_17 : decode cX1_put_3 17 = .ok (.iload_n 2, 1) := dk_28 (dk_at dksX1_put_3_0 17 rfl rfl)
theorem dX1_put_3_18 : decode cX1_put_3 18 = .ok (.iload_n 3, 1) := dk_29 (dk_at dksX1_put_3_0 18 rfl rfl)
theorem dX1_put_3_19 : decode cX1_put_3 19 = .ok (.idiv, 1) := dk_108 (dk_at dksX1_put_3_0 19 rfl rfl)
theorem dX1_put_3_20 : decode cX1_put_3 20 = .ok (.bipush 9, 2) := dk_16 9 (dk_at dksX1_put_3_0 20 rfl rfl)
theorem dX1_put_3_22 : decode cX1_put_3 22 = .ok (.if_icmp .le 11, 3) := dk_164 0 11 (dk_at dksX1_put_3_1 0 rfl rfl)
theorem dX1_put_3_25 : decode cX1_put_3 25 = .ok (.iload_n 3, 1) := dk_29 (dk_at dksX1_put_3_1 3 rfl rfl)
theorem dX1_put_3_26 : decode cX1_put_3 26 = .ok (.bipush 10, 2) := dk_16 10 (dk_at dksX1_put_3_1 4 rfl rfl)
theorem dX1_put_3_28 : decode cX1_put_3 28 = .ok (.imul, 1) := dk_104 (dk_at dksX1_put_3_1 6 rfl rfl)
theorem dX1_put_3_29 : decode cX1_put_3 29 = .ok (.istore_n 3, 1) := dk_62 (dk_at dksX1_put_3_1 7 rfl rfl)
theorem dX1_put_3_30 : decode cX1_put_3 30 = .ok (.goto (-13), 3) := dk_167 255 243 (dk_at dksX1_put_3_1 8 rfl rfl)
theorem dX1_put_3_33 : decode cX1_put_3 33 = .ok (.iload_n 3, 1) := dk_29 (dk_at dksX1_put_3_1 11 rfl rfl)
theorem dX1_put_3_34 : decode cX1_put_3 34 = .ok (.ifCond .le 25, 3) := dk_158 0 25 (dk_at dksX1_put_3_1 12 rfl rfl)
theorem dX1_put_3_37 : decode cX1_put_3 37 = .ok (.aload_n 0, 1) := dk_42 (dk_at dksX1_put_3_1 15 rfl rfl)
theorem dX1_put_3_38 : decode cX1_put_3 38 = .ok (.bipush 48, 2) := dk_16 48 (dk_at dksX1_put_3_1 16 rfl rfl)
theorem dX1_put_3_40 : decode cX1_put_3 40 = .ok (.iload_n 2, 1) := dk_28 (dk_at dksX1_put_3_1 18 rfl rfl)
theorem dX1_put_3_41 : decode cX1_put_3 41 = .ok (.iload_n 3, 1) := dk_29 (dk_at dksX1_put_3_1 19 rfl rfl)
theorem dX1_put_3_42 : decode cX1_put_3 42 = .ok (.idiv, 1) := dk_108 (dk_at dksX1_put_3_1 20 rfl rfl)
theorem dX1_put_3_43 : decode cX1_put_3 43 = .ok (.bipush 10, 2) := dk_16 10 (dk_at dksX1_put_3_1 21 rfl rfl)
theorem dX1_put_3_45 : decode cX1_put_3 45 = .ok (.irem, 1) := dk_112 (dk_at dksX1_put_3_1 23 rfl rfl)
theorem dX1_put_3_46 : decode cX1_put_3 46 = .ok (.iadd, 1) := dk_96 (dk_at dksX1_put_3_2 0 rfl rfl)
theorem dX1_put_3_47 : decode cX1_put_3 47 = .ok (.i2c, 1) := dk_146 (dk_at dksX1_put_3_2 1 rfl rfl)
theorem dX1_put_3_48 : decode cX1_put_3 48 = .ok (.invokevirtual 37, 3) := dk_182 0 37 (dk_at dksX1_put_3_2 2 rfl rfl)
theorem dX1_put_3_51 : decode cX1_put_3 51 = .ok (.iload_n 3, 1) := dk_29 (dk_at dksX1_put_3_2 5 rfl rfl)
theorem dX1_put_3_52 : decode cX1_put_3 52 = .ok (.bipush 10, 2) := dk_16 10 (dk_at dksX1_put_3_2 6 rfl rfl)
theorem dX1_put_3_54 : decode cX1_put_3 54 = .ok (.idiv, 1) := dk_108 (dk_at dksX1_put_3_2 8 rfl rfl)
theorem dX1_put_3_55 : decode cX1_put_3 55 = .ok (.istore_n 3, 1) := dk_62 (dk_at dksX1_put_3_2 9 rfl rfl)
theorem dX1_put_3_56 : decode cX1_put_3 56 = .ok (.goto (-23), 3) := dk_167 255 233 (dk_at dksX1_put_3_2 10 rfl rfl)
theorem dX1_put_3_59 : decode cX1_put_3 59 = .ok (.aload_n 0, 1) := dk_42 (dk_at dksX1_put_3_2 13 rfl rfl)
theorem dX1_put_3_60 : decode cX1_put_3 60 = .ok (.areturn, 1) := dk_176 (dk_at dksX1_put_3_2 14 rfl rfl)
abbrev cX1_node : ByteArray := prog_21_method_12_code
def yX1_node : MethodName := ⟨RX1, "node", "(LLateAndEarly$Routine;ILLateAndEarly$Node;)V"⟩
def dkwX1_node_14 : List UInt8 := [182, 0, 133, 177]
abbrev dktX1_node_14 : List UInt8 := dkwX1_node_14 ++ []
def dkwX1_node_13 : List UInt8 := [182, 0, 49, 43, 25, 9, 3, 182, 0, 200, 87, 167, 0, 10, 42, 18, 207, 182, 0, 49, 87, 42]
abbrev dktX1_node_13 : List UInt8 := dkwX1_node_13 ++ dktX1_node_14
def dkwX1_node_12 : List UInt8 := [182, 0, 200, 87, 167, 0, 40, 45, 193, 0, 203, 153, 0, 26, 45, 192, 0, 203, 58, 9, 42, 18, 205]
abbrev dktX1_node_12 : List UInt8 := dkwX1_node_12 ++ dktX1_node_13
def dkwX1_node_11 : List UInt8 := [18, 196, 182, 0, 49, 25, 8, 180, 0, 198, 182, 0, 80, 43, 25, 8, 3, 182, 0, 200, 43, 25, 8, 4]
abbrev dktX1_node_11 : List UInt8 := dkwX1_node_11 ++ dktX1_node_12
def dkwX1_node_10 : List UInt8 := [153, 0, 54, 45, 192, 0, 189, 58, 8, 42, 18, 191, 182, 0, 49, 25, 8, 180, 0, 193, 182, 0, 80]
abbrev dktX1_node_10 : List UInt8 := dkwX1_node_10 ++ dktX1_node_11
def dkwX1_node_9 : List UInt8 := [58, 7, 42, 18, 186, 182, 0, 49, 25, 7, 180, 0, 188, 182, 0, 80, 87, 167, 0, 98, 45, 193, 0, 189]
abbrev dktX1_node_9 : List UInt8 := dkwX1_node_9 ++ dktX1_node_10
def dkwX1_node_8 : List UInt8 := [25, 6, 180, 0, 181, 182, 0, 80, 87, 167, 0, 129, 45, 193, 0, 184, 153, 0, 27, 45, 192, 0, 184]
abbrev dktX1_node_8 : List UInt8 := dkwX1_node_8 ++ dktX1_node_9
def dkwX1_node_7 : List UInt8 := [180, 0, 177, 182, 0, 52, 18, 74, 182, 0, 49, 25, 6, 180, 0, 178, 182, 0, 80, 18, 179, 182, 0, 49]
abbrev dktX1_node_7 : List UInt8 := dkwX1_node_7 ++ dktX1_node_8
def dkwX1_node_6 : List UInt8 := [167, 0, 186, 45, 193, 0, 175, 153, 0, 53, 45, 192, 0, 175, 58, 6, 42, 18, 70, 182, 0, 49, 25, 6]
abbrev dktX1_node_6 : List UInt8 := dkwX1_node_6 ++ dktX1_node_7
def dkwX1_node_5 : List UInt8 := [25, 5, 180, 0, 171, 182, 0, 65, 18, 128, 182, 0, 49, 25, 5, 180, 0, 172, 182, 0, 80, 87]
abbrev dktX1_node_5 : List UInt8 := dkwX1_node_5 ++ dktX1_node_6
def dkwX1_node_4 : List UInt8 := [180, 0, 165, 182, 0, 130, 87, 167, 0, 225, 45, 193, 0, 169, 153, 0, 35, 45, 192, 0, 169, 58, 5, 42]
abbrev dktX1_node_4 : List UInt8 := dkwX1_node_4 ++ dktX1_node_5
def dkwX1_node_3 : List UInt8 := [18, 55, 182, 0, 49, 25, 4, 180, 0, 165, 180, 0, 123, 182, 0, 52, 87, 167, 0, 238, 42, 25, 4]
abbrev dktX1_node_3 : List UInt8 := dkwX1_node_3 ++ dktX1_node_4
def dkwX1_node_2 : List UInt8 := [180, 0, 148, 182, 0, 162, 25, 4, 180, 0, 165, 180, 0, 123, 123, 10, 127, 10, 148, 154, 0, 24, 42]
abbrev dktX1_node_2 : List UInt8 := dkwX1_node_2 ++ dktX1_node_3
def dkwX1_node_1 : List UInt8 := [45, 192, 0, 158, 58, 4, 42, 25, 4, 180, 0, 160, 182, 0, 65, 18, 128, 182, 0, 49, 87, 43, 28, 45]
abbrev dktX1_node_1 : List UInt8 := dkwX1_node_1 ++ dktX1_node_2
def dkwX1_node_0 : List UInt8 := [42, 43, 28, 45, 180, 0, 148, 182, 0, 152, 42, 18, 156, 182, 0, 49, 87, 45, 193, 0, 158, 153, 0, 83]
abbrev dktX1_node_0 : List UInt8 := dkwX1_node_0 ++ dktX1_node_1
theorem dksX1_node_0 : cX1_node.data.toList.drop 0 = dktX1_node_0 := by decide +kernel
theorem dksX1_node_1 : cX1_node.data.toList.drop 24 = dktX1_node_1 := dk_seg dksX1_node_0 24 rfl rfl
theorem dksX1_node_2 : cX1_node.data.toList.drop 48 = dktX1_node_2 := dk_seg dksX1_node_1 24 rfl rfl
theorem dksX1_node_3 : cX1_node.data.toList.drop 71 = dktX1_node_3 := dk_seg dksX1_node_2 23 rfl rfl
theorem dksX1_node_4 : cX1_node.data.toList.drop 94 = dktX1_node_4 := dk_seg dksX1_node_3 23 rfl rfl
theorem dksX1_node_5 : cX1_node.data.toList.drop 118 = dktX1_node_5 := dk_seg dksX1_node_4 24 rfl rfl
theorem dksX1_node_6 : cX1_node.data.toList.drop 140 = dktX1_node_6 := dk_seg dksX1_node_5 22 rfl rfl
theorem dksX1_node_7 : cX1_node.data.toList.drop 164 = dktX1_node_7 := dk_seg dksX1_node_6 24 rfl rfl
theorem dksX1_node_8 : cX1_node.data.toList.drop 188 = dktX1_node_8 := dk_seg dksX1_node_7 24 rfl rfl
theorem dksX1_node_9 : cX1_node.data.toList.drop 211 = dktX1_node_9 := dk_seg dksX1_node_8 23 rfl rfl
theorem dksX1_node_10 : cX1_node.data.toList.drop 235 = dktX1_node_10 := dk_seg dksX1_node_9 24 rfl rfl
theorem dksX1_node_11 : cX1_node.data.toList.drop 258 = dktX1_node_11 := dk_seg dksX1_node_10 23 rfl rfl
theorem dksX1_node_12 : cX1_node.data.toList.drop 282 = dktX1_node_12 := dk_seg dksX1_node_11 24 rfl rfl
theorem dksX1_node_13 : cX1_node.data.toList.drop 305 = dktX1_node_13 := dk_seg dksX1_node_12 23 rfl rfl
theorem dksX1_node_14 : cX1_node.data.toList.drop 327 = dktX1_node_14 := dk_seg dksX1_node_13 22 rfl rfl
theorem dX1_node_0 : decode cX1_node 0 = .ok (.aload_n 0, 1) := dk_42 (dk_at dksX1_node_0 0 rfl rfl)
theorem dX1_node_1 : decode cX1_node 1 = .ok (.aload_n 1, 1) := dk_43 (dk_at dksX1_node_0 1 rfl rfl)
theorem dX1_node_2 : decode cX1_node 2 = .ok (.iload_n 2, 1) := dk_28 (dk_at dksX1_node_0 2 rfl rfl)
theorem dX1_node_3 : decode cX1_node 3 = .ok (.aload_n 3, 1) := dk_45 (dk_at dksX1_node_0 3 rfl rfl)
theorem dX1_node_4 : decode cX1_node 4 = .ok (.getfield 148, 3) := dk_180 0 148 (dk_at dksX1_node_0 4 rfl rfl)
theorem dX1_node_7 : decode cX1_node 7 = .ok (.invokevirtual 152, 3) := dk_182 0 152 (dk_at dksX1_node_0 7 rfl rfl)
theorem dX1_node_10 : decode cX1_node 10 = .ok (.aload_n 0, 1) := dk_42 (dk_at dksX1_node_0 10 rfl rfl)
theorem dX1_node_11 : decode cX1_node 11 = .ok (.ldc 156, 2) := dk_18 156 (dk_at dksX1_node_0 11 rfl rfl)
theorem dX1_node_13 : decode cX1_node 13 = .ok (.invokevirtual 49, 3) := dk_182 0 49 (dk_at dksX1_node_0 13 rfl rfl)
theorem dX1_node_16 : decode cX1_node 16 = .ok (.pop, 1) := dk_87 (dk_at dksX1_node_0 16 rfl rfl)
theorem dX1_node_17 : decode cX1_node 17 = .ok (.aload_n 3, 1) := dk_45 (dk_at dksX1_node_0 17 rfl rfl)
theorem dX1_node_18 : decode cX1_node 18 = .ok (.instanceof 158, 3) := dk_193 0 158 (dk_at dksX1_node_0 18 rfl rfl)
theorem dX1_node_21 : decode cX1_node 21 = .ok (.ifCond .eq 83, 3) := dk_153 0 83 (dk_at dksX1_node_0 21 rfl rfl)
theorem dX1_node_24 : decode cX1_node 24 = .ok (.aload_n 3, 1) := dk_45 (dk_at dksX1_node_1 0 rfl rfl)
theorem dX1_node_25 : decode cX1_node 25 = .ok (.checkcast 158, 3) := dk_192 0 158 (dk_at dksX1_node_1 1 rfl rfl)
theorem dX1_node_28 : decode cX1_node 28 = .ok (.astore 4, 2) := dk_58 4 (dk_at dksX1_node_1 4 rfl rfl)
theorem dX1_node_30 : decode cX1_node 30 = .ok (.aload_n 0, 1) := dk_42 (dk_at dksX1_node_1 6 rfl rfl)
theorem dX1_node_31 : decode cX1_node 31 = .ok (.aload 4, 2) := dk_25 4 (dk_at dksX1_node_1 7 rfl rfl)
theorem dX1_node_33 : decode cX1_node 33 = .ok (.getfield 160, 3) := dk_180 0 160 (dk_at dksX1_node_1 9 rfl rfl)
theorem dX1_node_36 : decode cX1_node 36 = .ok (.invokevirtual 65, 3) := dk_182 0 65 (dk_at dksX1_node_1 12 rfl rfl)
theorem dX1_node_39 : decode cX1_node 39 = .ok (.ldc 128, 2) := dk_18 128 (dk_at dksX1_node_1 15 rfl rfl)
theorem dX1_node_41 : decode cX1_node 41 = .ok (.invokevirtual 49, 3) := dk_182 0 49 (dk_at dksX1_node_1 17 rfl rfl)
theorem dX1_node_44 : decode cX1_node 44 = .ok (.pop, 1) := dk_87 (dk_at dksX1_node_1 20 rfl rfl)
theorem dX1_node_45 : decode cX1_node 45 = .ok (.aload_n 1, 1) := dk_43 (dk_at dksX1_node_1 21 rfl rfl)
theorem dX1_node_46 : decode cX1_node 46 = .ok (.iload_n 2, 1) := dk_28 (dk_at dksX1_node_1 22 rfl rfl)
theorem dX1_node_47 : decode cX1_node 47 = .ok (.aload_n 3, 1) := dk_45 (dk_at dksX1_node_1 23 rfl rfl)
theorem dX1_node_48 : decode cX1_node 48 = .ok (.getfield 148, 3) := dk_180 0 148 (dk_at dksX1_node_2 0 rfl rfl)
theorem dX1_node_51 : decode cX1_node 51 = .ok (.invokevirtual 162, 3) := dk_182 0 162 (dk_at dksX1_node_2 3 rfl rfl)
theorem dX1_node_54 : decode cX1_node 54 = .ok (.aload 4, 2) := dk_25 4 (dk_at dksX1_node_2 6 rfl rfl)
theorem dX1_node_56 : decode cX1_node 56 = .ok (.getfield 165, 3) := dk_180 0 165 (dk_at dksX1_node_2 8 rfl rfl)
theorem dX1_node_59 : decode cX1_node 59 = .ok (.getfield 123, 3) := dk_180 0 123 (dk_at dksX1_node_2 11 rfl rfl)
theorem dX1_node_62 : decode cX1_node 62 = .ok (.lshr, 1) := dk_123 (dk_at dksX1_node_2 14 rfl rfl)
theorem dX1_node_63 : decode cX1_node 63 = .ok (.lconst 1, 1) := dk_10 (dk_at dksX1_node_2 15 rfl rfl)
theorem dX1_node_64 : decode cX1_node 64 = .ok (.land, 1) := dk_127 (dk_at dksX1_node_2 16 rfl rfl)
theorem dX1_node_65 : decode cX1_node 65 = .ok (.lconst 1, 1) := dk_10 (dk_at dksX1_node_2 17 rfl rfl)
theorem dX1_node_66 : decode cX1_node 66 = .ok (.lcmp, 1) := dk_148 (dk_at dksX1_node_2 18 rfl rfl)
theorem dX1_node_67 : decode cX1_node 67 = .ok (.ifCond .ne 24, 3) := dk_154 0 24 (dk_at dksX1_node_2 19 rfl rfl)
theorem dX1_node_70 : decode cX1_node 70 = .ok (.aload_n 0, 1) := dk_42 (dk_at dksX1_node_2 22 rfl rfl)
theorem dX1_node_71 : decode cX1_node 71 = .ok (.ldc 55, 2) := dk_18 55 (dk_at dksX1_node_3 0 rfl rfl)
theorem dX1_node_73 : decode cX1_node 73 = .ok (.invokevirtual 49, 3) := dk_182 0 49 (dk_at dksX1_node_3 2 rfl rfl)
theorem dX1_node_76 : decode cX1_node 76 = .ok (.aload 4, 2) := dk_25 4 (dk_at dksX1_node_3 5 rfl rfl)
theorem dX1_node_78 : decode cX1_node 78 = .ok (.getfield 165, 3) := dk_180 0 165 (dk_at dksX1_node_3 7 rfl rfl)
theorem dX1_node_81 : decode cX1_node 81 = .ok (.getfield 123, 3) := dk_180 0 123 (dk_at dksX1_node_3 10 rfl rfl)
theorem dX1_node_84 : decode cX1_node 84 = .ok (.invokevirtual 52, 3) := dk_182 0 52 (dk_at dksX1_node_3 13 rfl rfl)
theorem dX1_node_87 : decode cX1_node 87 = .ok (.pop, 1) := dk_87 (dk_at dksX1_node_3 16 rfl rfl)
theorem dX1_node_88 : decode cX1_node 88 = .ok (.goto 238, 3) := dk_167 0 238 (dk_at dksX1_node_3 17 rfl rfl)
theorem dX1_node_91 : decode cX1_node 91 = .ok (.aload_n 0, 1) := dk_42 (dk_at dksX1_node_3 20 rfl rfl)
theorem dX1_node_92 : decode cX1_node 92 = .ok (.aload 4, 2) := dk_25 4 (dk_at dksX1_node_3 21 rfl rfl)
theorem dX1_node_94 : decode cX1_node 94 = .ok (.getfield 165, 3) := dk_180 0 165 (dk_at dksX1_node_4 0 rfl rfl)
theorem dX1_node_97 : decode cX1_node 97 = .ok (.invokevirtual 130, 3) := dk_182 0 130 (dk_at dksX1_node_4 3 rfl rfl)
theorem dX1_node_100 : decode cX1_node 100 = .ok (.pop, 1) := dk_87 (dk_at dksX1_node_4 6 rfl rfl)
theorem dX1_node_101 : decode cX1_node 101 = .ok (.goto 225, 3) := dk_167 0 225 (dk_at dksX1_node_4 7 rfl rfl)
theorem dX1_node_104 : decode cX1_node 104 = .ok (.aload_n 3, 1) := dk_45 (dk_at dksX1_node_4 10 rfl rfl)
theorem dX1_node_105 : decode cX1_node 105 = .ok (.instanceof 169, 3) := dk_193 0 169 (dk_at dksX1_node_4 11 rfl rfl)
theorem dX1_node_108 : decode cX1_node 108 = .ok (.ifCond .eq 35, 3) := dk_153 0 35 (dk_at dksX1_node_4 14 rfl rfl)
theorem dX1_node_111 : decode cX1_node 111 = .ok (.aload_n 3, 1) := dk_45 (dk_at dksX1_node_4 17 rfl rfl)
theorem dX1_node_112 : decode cX1_node 112 = .ok (.checkcast 169, 3) := dk_192 0 169 (dk_at dksX1_node_4 18 rfl rfl)
theorem dX1_node_115 : decode cX1_node 115 = .ok (.astore 5, 2) := dk_58 5 (dk_at dksX1_node_4 21 rfl rfl)
theorem dX1_node_117 : decode cX1_node 117 = .ok (.aload_n 0, 1) := dk_42 (dk_at dksX1_node_4 23 rfl rfl)
theorem dX1_node_118 : decode cX1_node 118 = .ok (.aload 5, 2) := dk_25 5 (dk_at dksX1_node_5 0 rfl rfl)
theorem dX1_node_120 : decode cX1_node 120 = .ok (.getfield 171, 3) := dk_180 0 171 (dk_at dksX1_node_5 2 rfl rfl)
theorem dX1_node_123 : decode cX1_node 123 = .ok (.invokevirtual 65, 3) := dk_182 0 65 (dk_at dksX1_node_5 5 rfl rfl)
theorem dX1_node_126 : decode cX1_node 126 = .ok (.ldc 128, 2) := dk_18 128 (dk_at dksX1_node_5 8 rfl rfl)
theorem dX1_node_128 : decode cX1_node 128 = .ok (.invokevirtual 49, 3) := dk_182 0 49 (dk_at dksX1_node_5 10 rfl rfl)
theorem dX1_node_131 : decode cX1_node 131 = .ok (.aload 5, 2) := dk_25 5 (dk_at dksX1_node_5 13 rfl rfl)
theorem dX1_node_133 : decode cX1_node 133 = .ok (.getfield 172, 3) := dk_180 0 172 (dk_at dksX1_node_5 15 rfl rfl)
theorem dX1_node_136 : decode cX1_node 136 = .ok (.invokevirtual 80, 3) := dk_182 0 80 (dk_at dksX1_node_5 18 rfl rfl)
theorem dX1_node_139 : decode cX1_node 139 = .ok (.pop, 1) := dk_87 (dk_at dksX1_node_5 21 rfl rfl)
theorem dX1_node_140 : decode cX1_node 140 = .ok (.goto 186, 3) := dk_167 0 186 (dk_at dksX1_node_6 0 rfl rfl)
theorem dX1_node_143 : decode cX1_node 143 = .ok (.aload_n 3, 1) := dk_45 (dk_at dksX1_node_6 3 rfl rfl)
theorem dX1_node_144 : decode cX1_node 144 = .ok (.instanceof 175, 3) := dk_193 0 175 (dk_at dksX1_node_6 4 rfl rfl)
theorem dX1_node_147 : decode cX1_node 147 = .ok (.ifCond .eq 53, 3) := dk_153 0 53 (dk_at dksX1_node_6 7 rfl rfl)
theorem dX1_node_150 : decode cX1_node 150 = .ok (.aload_n 3, 1) := dk_45 (dk_at dksX1_node_6 10 rfl rfl)
theorem dX1_node_151 : decode cX1_node 151 = .ok (.checkcast 175, 3) := dk_192 0 175 (dk_at dksX1_node_6 11 rfl rfl)
theorem dX1_node_154 : decode cX1_node 154 = .ok (.astore 6, 2) := dk_58 6 (dk_at dksX1_node_6 14 rfl rfl)
theorem dX1_node_156 : decode cX1_node 156 = .ok (.aload_n 0, 1) := dk_42 (dk_at dksX1_node_6 16 rfl rfl)
theorem dX1_node_157 : decode cX1_node 157 = .ok (.ldc 70, 2) := dk_18 70 (dk_at dksX1_node_6 17 rfl rfl)
theorem dX1_node_159 : decode cX1_node 159 = .ok (.invokevirtual 49, 3) := dk_182 0 49 (dk_at dksX1_node_6 19 rfl rfl)
theorem dX1_node_162 : decode cX1_node 162 = .ok (.aload 6, 2) := dk_25 6 (dk_at dksX1_node_6 22 rfl rfl)
theorem dX1_node_164 : decode cX1_node 164 = .ok (.getfield 177, 3) := dk_180 0 177 (dk_at dksX1_node_7 0 rfl rfl)
theorem dX1_node_167 : decode cX1_node 167 = .ok (.invokevirtual 52, 3) := dk_182 0 52 (dk_at dksX1_node_7 3 rfl rfl)
theorem dX1_node_170 : decode cX1_node 170 = .ok (.ldc 74, 2) := dk_18 74 (dk_at dksX1_node_7 6 rfl rfl)
theorem dX1_node_172 : decode cX1_node 172 = .ok (.invokevirtual 49, 3) := dk_182 0 49 (dk_at dksX1_node_7 8 rfl rfl)
theorem dX1_node_175 : decode cX1_node 175 = .ok (.aload 6, 2) := dk_25 6 (dk_at dksX1_node_7 11 rfl rfl)
theorem dX1_node_177 : decode cX1_node 177 = .ok (.getfield 178, 3) := dk_180 0 178 (dk_at dksX1_node_7 13 rfl rfl)
theorem dX1_node_180 : decode cX1_node 180 = .ok (.invokevirtual 80, 3) := dk_182 0 80 (dk_at dksX1_node_7 16 rfl rfl)
theorem dX1_node_183 : decode cX1_node 183 = .ok (.ldc 179, 2) := dk_18 179 (dk_at dksX1_node_7 19 rfl rfl)
theorem dX1_node_185 : decode cX1_node 185 = .ok (.invokevirtual 49, 3) := dk_182 0 49 (dk_at dksX1_node_7 21 rfl rfl)
theorem dX1_node_188 : decode cX1_node 188 = .ok (.aload 6, 2) := dk_25 6 (dk_at dksX1_node_8 0 rfl rfl)
theorem dX1_node_190 : decode cX1_node 190 = .ok (.getfield 181, 3) := dk_180 0 181 (dk_at dksX1_node_8 2 rfl rfl)
theorem dX1_node_193 : decode cX1_node 193 = .ok (.invokevirtual 80, 3) := dk_182 0 80 (dk_at dksX1_node_8 5 rfl rfl)
theorem dX1_node_196 : decode cX1_node 196 = .ok (.pop, 1) := dk_87 (dk_at dksX1_node_8 8 rfl rfl)
theorem dX1_node_197 : decode cX1_node 197 = .ok (.goto 129, 3) := dk_167 0 129 (dk_at dksX1_node_8 9 rfl rfl)
theorem dX1_node_200 : decode cX1_node 200 = .ok (.aload_n 3, 1) := dk_45 (dk_at dksX1_node_8 12 rfl rfl)
theorem dX1_node_201 : decode cX1_node 201 = .ok (.instanceof 184, 3) := dk_193 0 184 (dk_at dksX1_node_8 13 rfl rfl)
theorem dX1_node_204 : decode cX1_node 204 = .ok (.ifCond .eq 27, 3) := dk_153 0 27 (dk_at dksX1_node_8 16 rfl rfl)
theorem dX1_node_207 : decode cX1_node 207 = .ok (.aload_n 3, 1) := dk_45 (dk_at dksX1_node_8 19 rfl rfl)
theorem dX1_node_208 : decode cX1_node 208 = .ok (.checkcast 184, 3) := dk_192 0 184 (dk_at dksX1_node_8 20 rfl rfl)
theorem dX1_node_211 : decode cX1_node 211 = .ok (.astore 7, 2) := dk_58 7 (dk_at dksX1_node_9 0 rfl rfl)
theorem dX1_node_213 : decode cX1_node 213 = .ok (.aload_n 0, 1) := dk_42 (dk_at dksX1_node_9 2 rfl rfl)
theorem dX1_node_214 : decode cX1_node 214 = .ok (.ldc 186, 2) := dk_18 186 (dk_at dksX1_node_9 3 rfl rfl)
theorem dX1_node_216 : decode cX1_node 216 = .ok (.invokevirtual 49, 3) := dk_182 0 49 (dk_at dksX1_node_9 5 rfl rfl)
theorem dX1_node_219 : decode cX1_node 219 = .ok (.aload 7, 2) := dk_25 7 (dk_at dksX1_node_9 8 rfl rfl)
theorem dX1_node_221 : decode cX1_node 221 = .ok (.getfield 188, 3) := dk_180 0 188 (dk_at dksX1_node_9 10 rfl rfl)
theorem dX1_node_224 : decode cX1_node 224 = .ok (.invokevirtual 80, 3) := dk_182 0 80 (dk_at dksX1_node_9 13 rfl rfl)
theorem dX1_node_227 : decode cX1_node 227 = .ok (.pop, 1) := dk_87 (dk_at dksX1_node_9 16 rfl rfl)
theorem dX1_node_228 : decode cX1_node 228 = .ok (.goto 98, 3) := dk_167 0 98 (dk_at dksX1_node_9 17 rfl rfl)
theorem dX1_node_231 : decode cX1_node 231 = .ok (.aload_n 3, 1) := dk_45 (dk_at dksX1_node_9 20 rfl rfl)
theorem dX1_node_232 : decode cX1_node 232 = .ok (.instanceof 189, 3) := dk_193 0 189 (dk_at dksX1_node_9 21 rfl rfl)
theorem dX1_node_235 : decode cX1_node 235 = .ok (.ifCond .eq 54, 3) := dk_153 0 54 (dk_at dksX1_node_10 0 rfl rfl)
theorem dX1_node_238 : decode cX1_node 238 = .ok (.aload_n 3, 1) := dk_45 (dk_at dksX1_node_10 3 rfl rfl)
theorem dX1_node_239 : decode cX1_node 239 = .ok (.checkcast 189, 3) := dk_192 0 189 (dk_at dksX1_node_10 4 rfl rfl)
theorem dX1_node_242 : decode cX1_node 242 = .ok (.astore 8, 2) := dk_58 8 (dk_at dksX1_node_10 7 rfl rfl)
theorem dX1_node_244 : decode cX1_node 244 = .ok (.aload_n 0, 1) := dk_42 (dk_at dksX1_node_10 9 rfl rfl)
theorem dX1_node_245 : decode cX1_node 245 = .ok (.ldc 191, 2) := dk_18 191 (dk_at dksX1_node_10 10 rfl rfl)
theorem dX1_node_247 : decode cX1_node 247 = .ok (.invokevirtual 49, 3) := dk_182 0 49 (dk_at dksX1_node_10 12 rfl rfl)
theorem dX1_node_250 : decode cX1_node 250 = .ok (.aload 8, 2) := dk_25 8 (dk_at dksX1_node_10 15 rfl rfl)
theorem dX1_node_252 : decode cX1_node 252 = .ok (.getfield 193, 3) := dk_180 0 193 (dk_at dksX1_node_10 17 rfl rfl)
theorem dX1_node_255 : decode cX1_node 255 = .ok (.invokevirtual 80, 3) := dk_182 0 80 (dk_at dksX1_node_10 20 rfl rfl)
theorem dX1_node_258 : decode cX1_node 258 = .ok (.ldc 196, 2) := dk_18 196 (dk_at dksX1_node_11 0 rfl rfl)
theorem dX1_node_260 : decode cX1_node 260 = .ok (.invokevirtual 49, 3) := dk_182 0 49 (dk_at dksX1_node_11 2 rfl rfl)
theorem dX1_node_263 : decode cX1_node 263 = .ok (.aload 8, 2) := dk_25 8 (dk_at dksX1_node_11 5 rfl rfl)
theorem dX1_node_265 : decode cX1_node 265 = .ok (.getfield 198, 3) := dk_180 0 198 (dk_at dksX1_node_11 7 rfl rfl)
theorem dX1_node_268 : decode cX1_node 268 = .ok (.invokevirtual 80, 3) := dk_182 0 80 (dk_at dksX1_node_11 10 rfl rfl)
theorem dX1_node_271 : decode cX1_node 271 = .ok (.aload_n 1, 1) := dk_43 (dk_at dksX1_node_11 13 rfl rfl)
theorem dX1_node_272 : decode cX1_node 272 = .ok (.aload 8, 2) := dk_25 8 (dk_at dksX1_node_11 14 rfl rfl)
theorem dX1_node_274 : decode cX1_node 274 = .ok (.iconst 0, 1) := dk_3 (dk_at dksX1_node_11 16 rfl rfl)
theorem dX1_node_275 : decode cX1_node 275 = .ok (.invokevirtual 200, 3) := dk_182 0 200 (dk_at dksX1_node_11 17 rfl rfl)
theorem dX1_node_278 : decode cX1_node 278 = .ok (.aload_n 1, 1) := dk_43 (dk_at dksX1_node_11 20 rfl rfl)
theorem dX1_node_279 : decode cX1_node 279 = .ok (.aload 8, 2) := dk_25 8 (dk_at dksX1_node_11 21 rfl rfl)
theorem dX1_node_281 : decode cX1_node 281 = .ok (.iconst 1, 1) := dk_4 (dk_at dksX1_node_11 23 rfl rfl)
theorem dX1_node_282 : decode cX1_node 282 = .ok (.invokevirtual 200, 3) := dk_182 0 200 (dk_at dksX1_node_12 0 rfl rfl)
theorem dX1_node_285 : decode cX1_node 285 = .ok (.pop, 1) := dk_87 (dk_at dksX1_node_12 3 rfl rfl)
theorem dX1_node_286 : decode cX1_node 286 = .ok (.goto 40, 3) := dk_167 0 40 (dk_at dksX1_node_12 4 rfl rfl)
theorem dX1_node_289 : decode cX1_node 289 = .ok (.aload_n 3, 1) := dk_45 (dk_at dksX1_node_12 7 rfl rfl)
theorem dX1_node_290 : decode cX1_node 290 = .ok (.instanceof 203, 3) := dk_193 0 203 (dk_at dksX1_node_12 8 rfl rfl)
theorem dX1_node_293 : decode cX1_node 293 = .ok (.ifCond .eq 26, 3) := dk_153 0 26 (dk_at dksX1_node_12 11 rfl rfl)
theorem dX1_node_296 : decode cX1_node 296 = .ok (.aload_n 3, 1) := dk_45 (dk_at dksX1_node_12 14 rfl rfl)
theorem dX1_node_297 : decode cX1_node 297 = .ok (.checkcast 203, 3) := dk_192 0 203 (dk_at dksX1_node_12 15 rfl rfl)
theorem dX1_node_300 : decode cX1_node 300 = .ok (.astore 9, 2) := dk_58 9 (dk_at dksX1_node_12 18 rfl rfl)
theorem dX1_node_302 : decode cX1_node 302 = .ok (.aload_n 0, 1) := dk_42 (dk_at dksX1_node_12 20 rfl rfl)
theorem dX1_node_303 : decode cX1_node 303 = .ok (.ldc 205, 2) := dk_18 205 (dk_at dksX1_node_12 21 rfl rfl)
theorem dX1_node_305 : decode cX1_node 305 = .ok (.invokevirtual 49, 3) := dk_182 0 49 (dk_at dksX1_node_13 0 rfl rfl)
theorem dX1_node_308 : decode cX1_node 308 = .ok (.aload_n 1, 1) := dk_43 (dk_at dksX1_node_13 3 rfl rfl)
theorem dX1_node_309 : decode cX1_node 309 = .ok (.aload 9, 2) := dk_25 9 (dk_at dksX1_node_13 4 rfl rfl)
theorem dX1_node_311 : decode cX1_node 311 = .ok (.iconst 0, 1) := dk_3 (dk_at dksX1_node_13 6 rfl rfl)
theorem dX1_node_312 : decode cX1_node 312 = .ok (.invokevirtual 200, 3) := dk_182 0 200 (dk_at dksX1_node_13 7 rfl rfl)
theorem dX1_node_315 : decode cX1_node 315 = .ok (.pop, 1) := dk_87 (dk_at dksX1_node_13 10 rfl rfl)
theorem dX1_node_316 : decode cX1_node 316 = .ok (.goto 10, 3) := dk_167 0 10 (dk_at dksX1_node_13 11 rfl rfl)
theorem dX1_node_319 : decode cX1_node 319 = .ok (.aload_n 0, 1) := dk_42 (dk_at dksX1_node_13 14 rfl rfl)
theorem dX1_node_320 : decode cX1_node 320 = .ok (.ldc 207, 2) := dk_18 207 (dk_at dksX1_node_13 15 rfl rfl)
theorem dX1_node_322 : decode cX1_node 322 = .ok (.invokevirtual 49, 3) := dk_182 0 49 (dk_at dksX1_node_13 17 rfl rfl)
theorem dX1_node_325 : decode cX1_node 325 = .ok (.pop, 1) := dk_87 (dk_at dksX1_node_13 20 rfl rfl)
theorem dX1_node_326 : decode cX1_node 326 = .ok (.aload_n 0, 1) := dk_42 (dk_at dksX1_node_13 21 rfl rfl)
theorem dX1_node_327 : decode cX1_node 327 = .ok (.invokevirtual 133, 3) := dk_182 0 133 (dk_at dksX1_node_14 0 rfl rfl)
theorem dX1_node_330 : decode cX1_node 330 = .ok (.return_, 1) := dk_177 (dk_at dksX1_node_14 3 rfl rfl)
abbrev cX1_sets : ByteArray := prog_21_method_10_code
def yX1_sets : MethodName := ⟨RX1, "sets", "(LLateAndEarly$Routine;II)V"⟩
def dkwX1_sets_3 : List UInt8 := [182, 0, 130, 182, 0, 133, 132, 4, 1, 167, 255, 178, 177]
abbrev dktX1_sets_3 : List UInt8 := dkwX1_sets_3 ++ []
def dkwX1_sets_2 : List UInt8 := [167, 0, 30, 42, 18, 126, 182, 0, 49, 25, 5, 180, 0, 123, 182, 0, 52, 18, 128, 182, 0, 49, 25, 5]
abbrev dktX1_sets_2 : List UInt8 := dkwX1_sets_2 ++ dktX1_sets_3
def dkwX1_sets_1 : List UInt8 := [192, 0, 86, 58, 5, 43, 28, 29, 182, 0, 119, 25, 5, 180, 0, 123, 123, 10, 127, 9, 148, 154, 0, 6]
abbrev dktX1_sets_1 : List UInt8 := dkwX1_sets_1 ++ dktX1_sets_2
def dkwX1_sets_0 : List UInt8 := [3, 54, 4, 21, 4, 43, 180, 0, 105, 182, 0, 111, 162, 0, 72, 43, 180, 0, 105, 21, 4, 182, 0, 115]
abbrev dktX1_sets_0 : List UInt8 := dkwX1_sets_0 ++ dktX1_sets_1
theorem dksX1_sets_0 : cX1_sets.data.toList.drop 0 = dktX1_sets_0 := by decide +kernel
theorem dksX1_sets_1 : cX1_sets.data.toList.drop 24 = dktX1_sets_1 := dk_seg dksX1_sets_0 24 rfl rfl
theorem dksX1_sets_2 : cX1_sets.data.toList.drop 48 = dktX1_sets_2 := dk_seg dksX1_sets_1 24 rfl rfl
theorem dksX1_sets_3 : cX1_sets.data.toList.drop 72 = dktX1_sets_3 := dk_seg dksX1_sets_2 24 rfl rfl
theorem dX1_sets_0 : decode cX1_sets 0 = .ok (.iconst 0, 1) := dk_3 (dk_at dksX1_sets_0 0 rfl rfl)
theorem dX1_sets_1 : decode cX1_sets 1 = .ok (.istore 4, 2) := dk_54 4 (dk_at dksX1_sets_0 1 rfl rfl)
theorem dX1_sets_3 : decode cX1_sets 3 = .ok (.iload 4, 2) := dk_21 4 (dk_at dksX1_sets_0 3 rfl rfl)
theorem dX1_sets_5 : decode cX1_sets 5 = .ok (.aload_n 1, 1) := dk_43 (dk_at dksX1_sets_0 5 rfl rfl)
theorem dX1_sets_6 : decode cX1_sets 6 = .ok (.getfield 105, 3) := dk_180 0 105 (dk_at dksX1_sets_0 6 rfl rfl)
theorem dX1_sets_9 : decode cX1_sets 9 = .ok (.invokevirtual 111, 3) := dk_182 0 111 (dk_at dksX1_sets_0 9 rfl rfl)
theorem dX1_sets_12 : decode cX1_sets 12 = .ok (.if_icmp .ge 72, 3) := dk_162 0 72 (dk_at dksX1_sets_0 12 rfl rfl)
theorem dX1_sets_15 : decode cX1_sets 15 = .ok (.aload_n 1, 1) := dk_43 (dk_at dksX1_sets_0 15 rfl rfl)
theorem dX1_sets_16 : decode cX1_sets 16 = .ok (.getfield 105, 3) := dk_180 0 105 (dk_at dksX1_sets_0 16 rfl rfl)
theorem dX1_sets_19 : decode cX1_sets 19 = .ok (.iload 4, 2) := dk_21 4 (dk_at dksX1_sets_0 19 rfl rfl)
theorem dX1_sets_21 : decode cX1_sets 21 = .ok (.invokevirtual 115, 3) := dk_182 0 115 (dk_at dksX1_sets_0 21 rfl rfl)
theorem dX1_sets_24 : decode cX1_sets 24 = .ok (.checkcast 86, 3) := dk_192 0 86 (dk_at dksX1_sets_1 0 rfl rfl)
theorem dX1_sets_27 : decode cX1_sets 27 = .ok (.astore 5, 2) := dk_58 5 (dk_at dksX1_sets_1 3 rfl rfl)
theorem dX1_sets_29 : decode cX1_sets 29 = .ok (.aload_n 1, 1) := dk_43 (dk_at dksX1_sets_1 5 rfl rfl)
theorem dX1_sets_30 : decode cX1_sets 30 = .ok (.iload_n 2, 1) := dk_28 (dk_at dksX1_sets_1 6 rfl rfl)
theorem dX1_sets_31 : decode cX1_sets 31 = .ok (.iload_n 3, 1) := dk_29 (dk_at dksX1_sets_1 7 rfl rfl)
theorem dX1_sets_32 : decode cX1_sets 32 = .ok (.invokevirtual 119, 3) := dk_182 0 119 (dk_at dksX1_sets_1 8 rfl rfl)
theorem dX1_sets_35 : decode cX1_sets 35 = .ok (.aload 5, 2) := dk_25 5 (dk_at dksX1_sets_1 11 rfl rfl)
theorem dX1_sets_37 : decode cX1_sets 37 = .ok (.getfield 123, 3) := dk_180 0 123 (dk_at dksX1_sets_1 13 rfl rfl)
theorem dX1_sets_40 : decode cX1_sets 40 = .ok (.lshr, 1) := dk_123 (dk_at dksX1_sets_1 16 rfl rfl)
theorem dX1_sets_41 : decode cX1_sets 41 = .ok (.lconst 1, 1) := dk_10 (dk_at dksX1_sets_1 17 rfl rfl)
theorem dX1_sets_42 : decode cX1_sets 42 = .ok (.land, 1) := dk_127 (dk_at dksX1_sets_1 18 rfl rfl)
theorem dX1_sets_43 : decode cX1_sets 43 = .ok (.lconst 0, 1) := dk_9 (dk_at dksX1_sets_1 19 rfl rfl)
theorem dX1_sets_44 : decode cX1_sets 44 = .ok (.lcmp, 1) := dk_148 (dk_at dksX1_sets_1 20 rfl rfl)
theorem dX1_sets_45 : decode cX1_sets 45 = .ok (.ifCond .ne 6, 3) := dk_154 0 6 (dk_at dksX1_sets_1 21 rfl rfl)
theorem dX1_sets_48 : decode cX1_sets 48 = .ok (.goto 30, 3) := dk_167 0 30 (dk_at dksX1_sets_2 0 rfl rfl)
theorem dX1_sets_51 : decode cX1_sets 51 = .ok (.aload_n 0, 1) := dk_42 (dk_at dksX1_sets_2 3 rfl rfl)
theorem dX1_sets_52 : decode cX1_sets 52 = .ok (.ldc 126, 2) := dk_18 126 (dk_at dksX1_sets_2 4 rfl rfl)
theorem dX1_sets_54 : decode cX1_sets 54 = .ok (.invokevirtual 49, 3) := dk_182 0 49 (dk_at dksX1_sets_2 6 rfl rfl)
theorem dX1_sets_57 : decode cX1_sets 57 = .ok (.aload 5, 2) := dk_25 5 (dk_at dksX1_sets_2 9 rfl rfl)
theorem dX1_sets_59 : decode cX1_sets 59 = .ok (.getfield 123, 3) := dk_180 0 123 (dk_at dksX1_sets_2 11 rfl rfl)
theorem dX1_sets_62 : decode cX1_sets 62 = .ok (.invokevirtual 52, 3) := dk_182 0 52 (dk_at dksX1_sets_2 14 rfl rfl)
theorem dX1_sets_65 : decode cX1_sets 65 = .ok (.ldc 128, 2) := dk_18 128 (dk_at dksX1_sets_2 17 rfl rfl)
theorem dX1_sets_67 : decode cX1_sets 67 = .ok (.invokevirtual 49, 3) := dk_182 0 49 (dk_at dksX1_sets_2 19 rfl rfl)
theorem dX1_sets_70 : decode cX1_sets 70 = .ok (.aload 5, 2) := dk_25 5 (dk_at dksX1_sets_2 22 rfl rfl)
theorem dX1_sets_72 : decode cX1_sets 72 = .ok (.invokevirtual 130, 3) := dk_182 0 130 (dk_at dksX1_sets_3 0 rfl rfl)
theorem dX1_sets_75 : decode cX1_sets 75 = .ok (.invokevirtual 133, 3) := dk_182 0 133 (dk_at dksX1_sets_3 3 rfl rfl)
theorem dX1_sets_78 : decode cX1_sets 78 = .ok (.iinc 4 1, 3) := dk_132 4 1 (dk_at dksX1_sets_3 6 rfl rfl)
theorem dX1_sets_81 : decode cX1_sets 81 = .ok (.goto (-78), 3) := dk_167 255 178 (dk_at dksX1_sets_3 9 rfl rfl)
theorem dX1_sets_84 : decode cX1_sets 84 = .ok (.return_, 1) := dk_177 (dk_at dksX1_sets_3 12 rfl rfl)
abbrev cX1_put_4 : ByteArray := prog_21_method_7_code
def yX1_put_4 : MethodName := ⟨RX1, "put", "(LLateAndEarly$Sum;)LLateAndEarly$Text;"⟩
def dkwX1_put_4_3 : List UInt8 := [182, 0, 49, 43, 182, 0, 96, 182, 0, 80, 176]
abbrev dktX1_put_4_3 : List UInt8 := dkwX1_put_4_3 ++ []
def dkwX1_put_4_2 : List UInt8 := [182, 0, 85, 182, 0, 80, 18, 91, 182, 0, 49, 87, 42, 43, 182, 0, 93, 146, 182, 0, 37, 42, 18, 91]
abbrev dktX1_put_4_2 : List UInt8 := dkwX1_put_4_2 ++ dktX1_put_4_3
def dkwX1_put_4_1 : List UInt8 := [182, 0, 52, 18, 74, 182, 0, 49, 44, 180, 0, 76, 182, 0, 80, 18, 83, 182, 0, 49, 176, 42, 43]
abbrev dktX1_put_4_1 : List UInt8 := dkwX1_put_4_1 ++ dktX1_put_4_2
def dkwX1_put_4_0 : List UInt8 := [43, 193, 0, 68, 153, 0, 39, 43, 192, 0, 68, 77, 42, 18, 70, 182, 0, 49, 44, 180, 0, 72]
abbrev dktX1_put_4_0 : List UInt8 := dkwX1_put_4_0 ++ dktX1_put_4_1
theorem dksX1_put_4_0 : cX1_put_4.data.toList.drop 0 = dktX1_put_4_0 := by decide +kernel
theorem dksX1_put_4_1 : cX1_put_4.data.toList.drop 22 = dktX1_put_4_1 := dk_seg dksX1_put_4_0 22 rfl rfl
theorem dksX1_put_4_2 : cX1_put_4.data.toList.drop 45 = dktX1_put_4_2 := dk_seg dksX1_put_4_1 23 rfl rfl
theorem dksX1_put_4_3 : cX1_put_4.data.toList.drop 69 = dktX1_put_4_3 := dk_seg dksX1_put_4_2 24 rfl rfl
theorem dX1_put_4_0 : decode cX1_put_4 0 = .ok (.aload_n 1, 1) := dk_43 (dk_at dksX1_put_4_0 0 rfl rfl)
theorem dX1_put_4_1 : decode cX1_put_4 1 = .ok (.instanceof 68, 3) := dk_193 0 68 (dk_at dksX1_put_4_0 1 rfl rfl)
theorem dX1_put_4_4 : decode cX1_put_4 4 = .ok (.ifCond .eq 39, 3) := dk_153 0 39 (dk_at dksX1_put_4_0 4 rfl rfl)
theorem dX1_put_4_7 : decode cX1_put_4 7 = .ok (.aload_n 1, 1) := dk_43 (dk_at dksX1_put_4_0 7 rfl rfl)
theorem dX1_put_4_8 : decode cX1_put_4 8 = .ok (.checkcast 68, 3) := dk_192 0 68 (dk_at dksX1_put_4_0 8 rfl rfl)
theorem dX1_put_4_11 : decode cX1_put_4 11 = .ok (.astore_n 2, 1) := dk_77 (dk_at dksX1_put_4_0 11 rfl rfl)
theorem dX1_put_4_12 : decode cX1_put_4 12 = .ok (.aload_n 0, 1) := dk_42 (dk_at dksX1_put_4_0 12 rfl rfl)
theorem dX1_put_4_13 : decode cX1_put_4 13 = .ok (.ldc 70, 2) := dk_18 70 (dk_at dksX1_put_4_0 13 rfl rfl)
theorem dX1_put_4_15 : decode cX1_put_4 15 = .ok (.invokevirtual 49, 3) := dk_182 0 49 (dk_at dksX1_put_4_0 15 rfl rfl)
theorem dX1_put_4_18 : decode cX1_put_4 18 = .ok (.aload_n 2, 1) := dk_44 (dk_at dksX1_put_4_0 18 rfl rfl)
theorem dX1_put_4_19 : decode cX1_put_4 19 = .ok (.getfield 72, 3) := dk_180 0 72 (dk_at dksX1_put_4_0 19 rfl rfl)
theorem dX1_put_4_22 : decode cX1_put_4 22 = .ok (.invokevirtual 52, 3) := dk_182 0 52 (dk_at dksX1_put_4_1 0 rfl rfl)
theorem dX1_put_4_25 : decode cX1_put_4 25 = .ok (.ldc 74, 2) := dk_18 74 (dk_at dksX1_put_4_1 3 rfl rfl)
theorem dX1_put_4_27 : decode cX1_put_4 27 = .ok (.invokevirtual 49, 3) := dk_182 0 49 (dk_at dksX1_put_4_1 5 rfl rfl)
theorem dX1_put_4_30 : decode cX1_put_4 30 = .ok (.aload_n 2, 1) := dk_44 (dk_at dksX1_put_4_1 8 rfl rfl)
theorem dX1_put_4_31 : decode cX1_put_4 31 = .ok (.getfield 76, 3) := dk_180 0 76 (dk_at dksX1_put_4_1 9 rfl rfl)
theorem dX1_put_4_34 : decode cX1_put_4 34 = .ok (.invokevirtual 80, 3) := dk_182 0 80 (dk_at dksX1_put_4_1 12 rfl rfl)
theorem dX1_put_4_37 : decode cX1_put_4 37 = .ok (.ldc 83, 2) := dk_18 83 (dk_at dksX1_put_4_1 15 rfl rfl)
theorem dX1_put_4_39 : decode cX1_put_4 39 = .ok (.invokevirtual 49, 3) := dk_182 0 49 (dk_at dksX1_put_4_1 17 rfl rfl)
theorem dX1_put_4_42 : decode cX1_put_4 42 = .ok (.areturn, 1) := dk_176 (dk_at dksX1_put_4_1 20 rfl rfl)
theorem dX1_put_4_43 : decode cX1_put_4 43 = .ok (.aload_n 0, 1) := dk_42 (dk_at dksX1_put_4_1 21 rfl rfl)
theorem dX1_put_4_44 : decode cX1_put_4 44 = .ok (.aload_n 1, 1) := dk_43 (dk_at dksX1_put_4_1 22 rfl rfl)
theorem dX1_put_4_45 : decode cX1_put_4 45 = .ok (.invokevirtual 85, 3) := dk_182 0 85 (dk_at dksX1_put_4_2 0 rfl rfl)
theorem dX1_put_4_48 : decode cX1_put_4 48 = .ok (.invokevirtual 80, 3) := dk_182 0 80 (dk_at dksX1_put_4_2 3 rfl rfl)
theorem dX1_put_4_51 : decode cX1_put_4 51 = .ok (.ldc 91, 2) := dk_18 91 (dk_at dksX1_put_4_2 6 rfl rfl)
theorem dX1_put_4_53 : decode cX1_put_4 53 = .ok (.invokevirtual 49, 3) := dk_182 0 49 (dk_at dksX1_put_4_2 8 rfl rfl)
theorem dX1_put_4_56 : decode cX1_put_4 56 = .ok (.pop, 1) := dk_87 (dk_at dksX1_put_4_2 11 rfl rfl)
theorem dX1_put_4_57 : decode cX1_put_4 57 = .ok (.aload_n 0, 1) := dk_42 (dk_at dksX1_put_4_2 12 rfl rfl)
theorem dX1_put_4_58 : decode cX1_put_4 58 = .ok (.aload_n 1, 1) := dk_43 (dk_at dksX1_put_4_2 13 rfl rfl)
theorem dX1_put_4_59 : decode cX1_put_4 59 = .ok (.invokevirtual 93, 3) := dk_182 0 93 (dk_at dksX1_put_4_2 14 rfl rfl)
theorem dX1_put_4_62 : decode cX1_put_4 62 = .ok (.i2c, 1) := dk_146 (dk_at dksX1_put_4_2 17 rfl rfl)
theorem dX1_put_4_63 : decode cX1_put_4 63 = .ok (.invokevirtual 37, 3) := dk_182 0 37 (dk_at dksX1_put_4_2 18 rfl rfl)
theorem dX1_put_4_66 : decode cX1_put_4 66 = .ok (.aload_n 0, 1) := dk_42 (dk_at dksX1_put_4_2 21 rfl rfl)
theorem dX1_put_4_67 : decode cX1_put_4 67 = .ok (.ldc 91, 2) := dk_18 91 (dk_at dksX1_put_4_2 22 rfl rfl)
theorem dX1_put_4_69 : decode cX1_put_4 69 = .ok (.invokevirtual 49, 3) := dk_182 0 49 (dk_at dksX1_put_4_3 0 rfl rfl)
theorem dX1_put_4_72 : decode cX1_put_4 72 = .ok (.aload_n 1, 1) := dk_43 (dk_at dksX1_put_4_3 3 rfl rfl)
theorem dX1_put_4_73 : decode cX1_put_4 73 = .ok (.invokevirtual 96, 3) := dk_182 0 96 (dk_at dksX1_put_4_3 4 rfl rfl)
theorem dX1_put_4_76 : decode cX1_put_4 76 = .ok (.invokevirtual 80, 3) := dk_182 0 80 (dk_at dksX1_put_4_3 7 rfl rfl)
theorem dX1_put_4_79 : decode cX1_put_4 79 = .ok (.areturn, 1) := dk_176 (dk_at dksX1_put_4_3 10 rfl rfl)
abbrev cX1_put_5 : ByteArray := prog_21_method_6_code
def yX1_put_5 : MethodName := ⟨RX1, "put", "(LLateAndEarly$Operand;)LLateAndEarly$Text;"⟩
def dkwX1_put_5_1 : List UInt8 := [182, 0, 52, 176]
abbrev dktX1_put_5_1 : List UInt8 := dkwX1_put_5_1 ++ []
def dkwX1_put_5_0 : List UInt8 := [43, 180, 0, 57, 153, 0, 14, 42, 43, 180, 0, 63, 182, 0, 65, 167, 0, 11, 42, 43, 180, 0, 63]
abbrev dktX1_put_5_0 : List UInt8 := dkwX1_put_5_0 ++ dktX1_put_5_1
theorem dksX1_put_5_0 : cX1_put_5.data.toList.drop 0 = dktX1_put_5_0 := by decide +kernel
theorem dksX1_put_5_1 : cX1_put_5.data.toList.drop 23 = dktX1_put_5_1 := dk_seg dksX1_put_5_0 23 rfl rfl
theorem dX1_put_5_0 : decode cX1_put_5 0 = .ok (.aload_n 1, 1) := dk_43 (dk_at dksX1_put_5_0 0 rfl rfl)
theorem dX1_put_5_1 : decode cX1_put_5 1 = .ok (.getfield 57, 3) := dk_180 0 57 (dk_at dksX1_put_5_0 1 rfl rfl)
theorem dX1_put_5_4 : decode cX1_put_5 4 = .ok (.ifCond .eq 14, 3) := dk_153 0 14 (dk_at dksX1_put_5_0 4 rfl rfl)
theorem dX1_put_5_7 : decode cX1_put_5 7 = .ok (.aload_n 0, 1) := dk_42 (dk_at dksX1_put_5_0 7 rfl rfl)
theorem dX1_put_5_8 : decode cX1_put_5 8 = .ok (.aload_n 1, 1) := dk_43 (dk_at dksX1_put_5_0 8 rfl rfl)
theorem dX1_put_5_9 : decode cX1_put_5 9 = .ok (.getfield 63, 3) := dk_180 0 63 (dk_at dksX1_put_5_0 9 rfl rfl)
theorem dX1_put_5_12 : decode cX1_put_5 12 = .ok (.invokevirtual 65, 3) := dk_182 0 65 (dk_at dksX1_put_5_0 12 rfl rfl)
theorem dX1_put_5_15 : decode cX1_put_5 15 = .ok (.goto 11, 3) := dk_167 0 11 (dk_at dksX1_put_5_0 15 rfl rfl)
theorem dX1_put_5_18 : decode cX1_put_5 18 = .ok (.aload_n 0, 1) := dk_42 (dk_at dksX1_put_5_0 18 rfl rfl)
theorem dX1_put_5_19 : decode cX1_put_5 19 = .ok (.aload_n 1, 1) := dk_43 (dk_at dksX1_put_5_0 19 rfl rfl)
theorem dX1_put_5_20 : decode cX1_put_5 20 = .ok (.getfield 63, 3) := dk_180 0 63 (dk_at dksX1_put_5_0 20 rfl rfl)
theorem dX1_put_5_23 : decode cX1_put_5 23 = .ok (.invokevirtual 52, 3) := dk_182 0 52 (dk_at dksX1_put_5_1 0 rfl rfl)
theorem dX1_put_5_26 : decode cX1_put_5 26 = .ok (.areturn, 1) := dk_176 (dk_at dksX1_put_5_1 3 rfl rfl)
abbrev cX1_name : ByteArray := prog_21_method_5_code
def yX1_name : MethodName := ⟨RX1, "name", "(I)LLateAndEarly$Text;"⟩
def dkwX1_name_1 : List UInt8 := [182, 0, 49, 27, 16, 16, 100, 182, 0, 52, 176]
abbrev dktX1_name_1 : List UInt8 := dkwX1_name_1 ++ []
def dkwX1_name_0 : List UInt8 := [27, 16, 16, 162, 0, 16, 42, 18, 47, 182, 0, 49, 27, 182, 0, 52, 167, 0, 16, 42, 18, 55]
abbrev dktX1_name_0 : List UInt8 := dkwX1_name_0 ++ dktX1_name_1
theorem dksX1_name_0 : cX1_name.data.toList.drop 0 = dktX1_name_0 := by decide +kernel
theorem dksX1_name_1 : cX1_name.data.toList.drop 22 = dktX1_name_1 := dk_seg dksX1_name_0 22 rfl rfl
theorem dX1_name_0 : decode cX1_name 0 = .ok (.iload_n 1, 1) := dk_27 (dk_at dksX1_name_0 0 rfl rfl)
theorem dX1_name_1 : decode cX1_name 1 = .ok (.bipush 16, 2) := dk_16 16 (dk_at dksX1_name_0 1 rfl rfl)
theorem dX1_name_3 : decode cX1_name 3 = .ok (.if_icmp .ge 16, 3) := dk_162 0 16 (dk_at dksX1_name_0 3 rfl rfl)
theorem dX1_name_6 : decode cX1_name 6 = .ok (.aload_n 0, 1) := dk_42 (dk_at dksX1_name_0 6 rfl rfl)
theorem dX1_name_7 : decode cX1_name 7 = .ok (.ldc 47, 2) := dk_18 47 (dk_at dksX1_name_0 7 rfl rfl)
theorem dX1_name_9 : decode cX1_name 9 = .ok (.invokevirtual 49, 3) := dk_182 0 49 (dk_at dksX1_name_0 9 rfl rfl)
theorem dX1_name_12 : decode cX1_name 12 = .ok (.iload_n 1, 1) := dk_27 (dk_at dksX1_name_0 12 rfl rfl)
theorem dX1_name_13 : decode cX1_name 13 = .ok (.invokevirtual 52, 3) := dk_182 0 52 (dk_at dksX1_name_0 13 rfl rfl)
theorem dX1_name_16 : decode cX1_name 16 = .ok (.goto 16, 3) := dk_167 0 16 (dk_at dksX1_name_0 16 rfl rfl)
theorem dX1_name_19 : decode cX1_name 19 = .ok (.aload_n 0, 1) := dk_42 (dk_at dksX1_name_0 19 rfl rfl)
theorem dX1_name_20 : decode cX1_name 20 = .ok (.ldc 55, 2) := dk_18 55 (dk_at dksX1_name_0 20 rfl rfl)
theorem dX1_name_22 : decode cX1_name 22 = .ok (.invokevirtual 49, 3) := dk_182 0 49 (dk_at dksX1_name_1 0 rfl rfl)
theorem dX1_name_25 : decode cX1_name 25 = .ok (.iload_n 1, 1) := dk_27 (dk_at dksX1_name_1 3 rfl rfl)
theorem dX1_name_26 : decode cX1_name 26 = .ok (.bipush 16, 2) := dk_16 16 (dk_at dksX1_name_1 4 rfl rfl)
theorem dX1_name_28 : decode cX1_name 28 = .ok (.isub, 1) := dk_100 (dk_at dksX1_name_1 6 rfl rfl)
theorem dX1_name_29 : decode cX1_name 29 = .ok (.invokevirtual 52, 3) := dk_182 0 52 (dk_at dksX1_name_1 7 rfl rfl)
theorem dX1_name_32 : decode cX1_name 32 = .ok (.areturn, 1) := dk_176 (dk_at dksX1_name_1 10 rfl rfl)
abbrev cX1_ends : ByteArray := prog_21_method_9_code
def yX1_ends : MethodName := ⟨RX1, "ends", "()V"⟩
def dkwX1_ends_0 : List UInt8 := [42, 18, 103, 182, 0, 49, 87, 177]
abbrev dktX1_ends_0 : List UInt8 := dkwX1_ends_0 ++ []
theorem dksX1_ends_0 : cX1_ends.data.toList.drop 0 = dktX1_ends_0 := by decide +kernel
theorem dX1_ends_0 : decode cX1_ends 0 = .ok (.aload_n 0, 1) := dk_42 (dk_at dksX1_ends_0 0 rfl rfl)
theorem dX1_ends_1 : decode cX1_ends 1 = .ok (.ldc 103, 2) := dk_18 103 (dk_at dksX1_ends_0 1 rfl rfl)
theorem dX1_ends_3 : decode cX1_ends 3 = .ok (.invokevirtual 49, 3) := dk_182 0 49 (dk_at dksX1_ends_0 3 rfl rfl)
theorem dX1_ends_6 : decode cX1_ends 6 = .ok (.pop, 1) := dk_87 (dk_at dksX1_ends_0 6 rfl rfl)
theorem dX1_ends_7 : decode cX1_ends 7 = .ok (.return_, 1) := dk_177 (dk_at dksX1_ends_0 7 rfl rfl)
abbrev cX1_way : ByteArray := prog_21_method_11_code
def yX1_way : MethodName := ⟨RX1, "way", "(LLateAndEarly$Routine;LLateAndEarly$End;I)LLateAndEarly$Text;"⟩
def dkwX1_way_2 : List UInt8 := [180, 0, 148, 46, 167, 0, 8, 44, 29, 182, 0, 149, 182, 0, 52, 176]
abbrev dktX1_way_2 : List UInt8 := dkwX1_way_2 ++ []
def dkwX1_way_1 : List UInt8 := [16, 7, 160, 0, 29, 42, 180, 0, 19, 25, 4, 180, 0, 148, 46, 158, 0, 16, 42, 180, 0, 19, 25, 4]
abbrev dktX1_way_1 : List UInt8 := dkwX1_way_1 ++ dktX1_way_2
def dkwX1_way_0 : List UInt8 := [44, 180, 0, 136, 29, 182, 0, 115, 192, 0, 141, 58, 4, 42, 18, 143, 182, 0, 49, 25, 4, 182, 0, 145]
abbrev dktX1_way_0 : List UInt8 := dkwX1_way_0 ++ dktX1_way_1
theorem dksX1_way_0 : cX1_way.data.toList.drop 0 = dktX1_way_0 := by decide +kernel
theorem dksX1_way_1 : cX1_way.data.toList.drop 24 = dktX1_way_1 := dk_seg dksX1_way_0 24 rfl rfl
theorem dksX1_way_2 : cX1_way.data.toList.drop 48 = dktX1_way_2 := dk_seg dksX1_way_1 24 rfl rfl
theorem dX1_way_0 : decode cX1_way 0 = .ok (.aload_n 2, 1) := dk_44 (dk_at dksX1_way_0 0 rfl rfl)
theorem dX1_way_1 : decode cX1_way 1 = .ok (.getfield 136, 3) := dk_180 0 136 (dk_at dksX1_way_0 1 rfl rfl)
theorem dX1_way_4 : decode cX1_way 4 = .ok (.iload_n 3, 1) := dk_29 (dk_at dksX1_way_0 4 rfl rfl)
theorem dX1_way_5 : decode cX1_way 5 = .ok (.invokevirtual 115, 3) := dk_182 0 115 (dk_at dksX1_way_0 5 rfl rfl)
theorem dX1_way_8 : decode cX1_way 8 = .ok (.checkcast 141, 3) := dk_192 0 141 (dk_at dksX1_way_0 8 rfl rfl)
theorem dX1_way_11 : decode cX1_way 11 = .ok (.astore 4, 2) := dk_58 4 (dk_at dksX1_way_0 11 rfl rfl)
theorem dX1_way_13 : decode cX1_way 13 = .ok (.aload_n 0, 1) := dk_42 (dk_at dksX1_way_0 13 rfl rfl)
theorem dX1_way_14 : decode cX1_way 14 = .ok (.ldc 143, 2) := dk_18 143 (dk_at dksX1_way_0 14 rfl rfl)
theorem dX1_way_16 : decode cX1_way 16 = .ok (.invokevirtual 49, 3) := dk_182 0 49 (dk_at dksX1_way_0 16 rfl rfl)
theorem dX1_way_19 : decode cX1_way 19 = .ok (.aload 4, 2) := dk_25 4 (dk_at dksX1_way_0 19 rfl rfl)
theorem dX1_way_21 : decode cX1_way 21 = .ok (.invokevirtual 145, 3) := dk_182 0 145 (dk_at dksX1_way_0 21 rfl rfl)
theorem dX1_way_24 : decode cX1_way 24 = .ok (.bipush 7, 2) := dk_16 7 (dk_at dksX1_way_1 0 rfl rfl)
theorem dX1_way_26 : decode cX1_way 26 = .ok (.if_icmp .ne 29, 3) := dk_160 0 29 (dk_at dksX1_way_1 2 rfl rfl)
theorem dX1_way_29 : decode cX1_way 29 = .ok (.aload_n 0, 1) := dk_42 (dk_at dksX1_way_1 5 rfl rfl)
theorem dX1_way_30 : decode cX1_way 30 = .ok (.getfield 19, 3) := dk_180 0 19 (dk_at dksX1_way_1 6 rfl rfl)
theorem dX1_way_33 : decode cX1_way 33 = .ok (.aload 4, 2) := dk_25 4 (dk_at dksX1_way_1 9 rfl rfl)
theorem dX1_way_35 : decode cX1_way 35 = .ok (.getfield 148, 3) := dk_180 0 148 (dk_at dksX1_way_1 11 rfl rfl)
theorem dX1_way_38 : decode cX1_way 38 = .ok (.iaload, 1) := dk_46 (dk_at dksX1_way_1 14 rfl rfl)
theorem dX1_way_39 : decode cX1_way 39 = .ok (.ifCond .le 16, 3) := dk_158 0 16 (dk_at dksX1_way_1 15 rfl rfl)
theorem dX1_way_42 : decode cX1_way 42 = .ok (.aload_n 0, 1) := dk_42 (dk_at dksX1_way_1 18 rfl rfl)
theorem dX1_way_43 : decode cX1_way 43 = .ok (.getfield 19, 3) := dk_180 0 19 (dk_at dksX1_way_1 19 rfl rfl)
theorem dX1_way_46 : decode cX1_way 46 = .ok (.aload 4, 2) := dk_25 4 (dk_at dksX1_way_1 22 rfl rfl)
theorem dX1_way_48 : decode cX1_way 48 = .ok (.getfield 148, 3) := dk_180 0 148 (dk_at dksX1_way_2 0 rfl rfl)
theorem dX1_way_51 : decode cX1_way 51 = .ok (.iaload, 1) := dk_46 (dk_at dksX1_way_2 3 rfl rfl)
theorem dX1_way_52 : decode cX1_way 52 = .ok (.goto 8, 3) := dk_167 0 8 (dk_at dksX1_way_2 4 rfl rfl)
theorem dX1_way_55 : decode cX1_way 55 = .ok (.aload_n 2, 1) := dk_44 (dk_at dksX1_way_2 7 rfl rfl)
theorem dX1_way_56 : decode cX1_way 56 = .ok (.iload_n 3, 1) := dk_29 (dk_at dksX1_way_2 8 rfl rfl)
theorem dX1_way_57 : decode cX1_way 57 = .ok (.invokevirtual 149, 3) := dk_182 0 149 (dk_at dksX1_way_2 9 rfl rfl)
theorem dX1_way_60 : decode cX1_way 60 = .ok (.invokevirtual 52, 3) := dk_182 0 52 (dk_at dksX1_way_2 12 rfl rfl)
theorem dX1_way_63 : decode cX1_way 63 = .ok (.areturn, 1) := dk_176 (dk_at dksX1_way_2 15 rfl rfl)
theorem q133 : (Jvm.Cond.initialized "LateAndEarly$Text") ∈ lw_all := lw_g (lw_at lw_m1 2 rfl) rfl
theorem q185 : (Jvm.Cond.instantiable "LateAndEarly$Text" (4 : Nat)) ∈ lw_all := lw_g (lw_at lw_m1 54 rfl) rfl
theorem q187 : (Jvm.Cond.instanceMethod ({ cls := "LateAndEarly$Text", name := "<init>", desc := "(LLateAndEarly;)V" } : Jvm.MethodName)) ∈ lw_all := lw_g (lw_at lw_m1 56 rfl) rfl
theorem q188 : (Jvm.Cond.code ({ cls := "LateAndEarly$Text", name := "<init>", desc := "(LLateAndEarly;)V" } : Jvm.MethodName) prog_21_method_1_code (2 : Nat) (Option.none : Option Jvm.ClassFile.FieldType)) ∈ lw_all := lw_g (lw_at lw_m1 57 rfl) rfl
theorem q189 : (Jvm.Cond.methodLink "LateAndEarly$Text" (9 : Nat) ({ cls := "java/lang/Object", name := "<init>", desc := "()V" } : Jvm.MethodName)) ∈ lw_all := lw_g (lw_at lw_m1 58 rfl) rfl
theorem q190 : (Jvm.Cond.fieldLink "LateAndEarly$Text" (15 : Nat) "LateAndEarly$Text" "row" "[B") ∈ lw_all := lw_g (lw_at lw_m1 59 rfl) rfl
theorem q192 : (Jvm.Cond.fieldLink "LateAndEarly$Text" (19 : Nat) "LateAndEarly$Text" "blockOf" "[I") ∈ lw_all := lw_g (lw_at lw_m1 61 rfl) rfl
theorem q193 : (Jvm.Cond.fieldLink "LateAndEarly$Text" (23 : Nat) "LateAndEarly$Text" "size" "I") ∈ lw_all := lw_g (lw_at lw_m1 62 rfl) rfl
theorem q194 : (Jvm.Cond.fieldLink "LateAndEarly$Text" (3 : Nat) "LateAndEarly$Text" "this$0" "LLateAndEarly;") ∈ lw_all := lw_g (lw_at lw_m1 63 rfl) rfl
theorem q195 : (Jvm.Cond.laysFinal "LateAndEarly$Text" "LateAndEarly$Text" "row" "[B") ∈ lw_all := lw_g (lw_at lw_m1 64 rfl) rfl
theorem q196 : (Jvm.Cond.soleField "LateAndEarly$Text" "row") ∈ lw_all := lw_g (lw_at lw_m1 65 rfl) rfl
theorem q197 : (Jvm.Cond.laysFinal "LateAndEarly$Text" "LateAndEarly$Text" "blockOf" "[I") ∈ lw_all := lw_g (lw_at lw_m1 66 rfl) rfl
theorem q198 : (Jvm.Cond.soleField "LateAndEarly$Text" "blockOf") ∈ lw_all := lw_g (lw_at lw_m1 67 rfl) rfl
theorem q199 : (Jvm.Cond.lays "LateAndEarly$Text" "LateAndEarly$Text" "size" "I") ∈ lw_all := lw_g (lw_at lw_m1 68 rfl) rfl
theorem q200 : (Jvm.Cond.soleField "LateAndEarly$Text" "size") ∈ lw_all := lw_g (lw_at lw_m1 69 rfl) rfl
theorem q201 : (Jvm.Cond.laysFinal "LateAndEarly$Text" "LateAndEarly$Text" "this$0" "LLateAndEarly;") ∈ lw_all := lw_g (lw_at lw_m1 70 rfl) rfl
theorem q202 : (Jvm.Cond.soleField "LateAndEarly$Text" "this$0") ∈ lw_all := lw_g (lw_at lw_m1 71 rfl) rfl
theorem q203 : (Jvm.Cond.superclass "LateAndEarly$Text" "java/lang/Object") ∈ lw_all := lw_g (lw_at lw_m1 72 rfl) rfl
theorem q291 : (Jvm.Cond.fieldLinkNest "LateAndEarly$Text" (209 : Nat) "LateAndEarly$Routine" "blocks" "Ljava/util/ArrayList;" "LateAndEarly") ∈ lw_tbl := lw_at lw_m1 160 rfl
theorem q296 : (Jvm.Cond.fieldLinkNest "LateAndEarly$Text" (212 : Nat) "LateAndEarly$Routine" "nodes" "Ljava/util/ArrayList;" "LateAndEarly") ∈ lw_tbl := lw_at lw_m1 165 rfl
theorem q300 : (Jvm.Cond.fieldLinkNest "LateAndEarly$Text" (105 : Nat) "LateAndEarly$Routine" "sums" "Ljava/util/ArrayList;" "LateAndEarly") ∈ lw_tbl := lw_at lw_m1 169 rfl
theorem q649 : (Jvm.Cond.selects "LateAndEarly$Text" ({ cls := "java/lang/Object", name := "getClass", desc := "()Ljava/lang/Class;" } : Jvm.MethodName) ({ cls := "java/lang/Object", name := "getClass", desc := "()Ljava/lang/Class;" } : Jvm.MethodName)) ∈ lw_all := lw_g (lw_at lw_m3 38 rfl) rfl
theorem q726 : (Jvm.Cond.fieldLinkNest "LateAndEarly$Text" (57 : Nat) "LateAndEarly$Operand" "isName" "Z" "LateAndEarly") ∈ lw_tbl := lw_at lw_m3 115 rfl
theorem q730 : (Jvm.Cond.fieldLinkNest "LateAndEarly$Text" (63 : Nat) "LateAndEarly$Operand" "v" "I" "LateAndEarly") ∈ lw_tbl := lw_at lw_m3 119 rfl
theorem q749 : (Jvm.Cond.fieldLinkNest "LateAndEarly$Text" (188 : Nat) "LateAndEarly$Tell" "what" "LLateAndEarly$Operand;" "LateAndEarly") ∈ lw_tbl := lw_at lw_m3 138 rfl
theorem q752 : (Jvm.Cond.fieldLinkNest "LateAndEarly$Text" (148 : Nat) "LateAndEarly$Node" "number" "I" "LateAndEarly") ∈ lw_tbl := lw_at lw_m3 141 rfl
theorem q757 : (Jvm.Cond.fieldLinkNest "LateAndEarly$Text" (225 : Nat) "LateAndEarly$Node" "block" "I" "LateAndEarly") ∈ lw_tbl := lw_at lw_m3 146 rfl
theorem q760 : (Jvm.Cond.fieldLink "LateAndEarly$Text" (136 : Nat) "LateAndEarly$End" "next" "Ljava/util/ArrayList;") ∈ lw_all := lw_g (lw_at lw_m3 149 rfl) rfl
theorem q824 : (Jvm.Cond.fieldLinkNest "LateAndEarly$Text" (193 : Nat) "LateAndEarly$If" "a" "LLateAndEarly$Operand;" "LateAndEarly") ∈ lw_tbl := lw_at lw_m3 213 rfl
theorem q828 : (Jvm.Cond.fieldLinkNest "LateAndEarly$Text" (198 : Nat) "LateAndEarly$If" "b" "LLateAndEarly$Operand;" "LateAndEarly") ∈ lw_tbl := lw_at lw_m3 217 rfl
theorem q856 : (Jvm.Cond.fieldLinkNest "LateAndEarly$Text" (177 : Nat) "LateAndEarly$Write" "row" "I" "LateAndEarly") ∈ lw_tbl := lw_at lw_m4 5 rfl
theorem q860 : (Jvm.Cond.fieldLinkNest "LateAndEarly$Text" (178 : Nat) "LateAndEarly$Write" "at" "LLateAndEarly$Operand;" "LateAndEarly") ∈ lw_tbl := lw_at lw_m4 9 rfl
theorem q864 : (Jvm.Cond.fieldLinkNest "LateAndEarly$Text" (181 : Nat) "LateAndEarly$Write" "what" "LLateAndEarly$Operand;" "LateAndEarly") ∈ lw_tbl := lw_at lw_m4 13 rfl
theorem q893 : (Jvm.Cond.fieldLinkNest "LateAndEarly$Text" (72 : Nat) "LateAndEarly$Read" "row" "I" "LateAndEarly") ∈ lw_tbl := lw_at lw_m4 42 rfl
theorem q896 : (Jvm.Cond.fieldLinkNest "LateAndEarly$Text" (76 : Nat) "LateAndEarly$Read" "at" "LLateAndEarly$Operand;" "LateAndEarly") ∈ lw_tbl := lw_at lw_m4 45 rfl
theorem q900 : (Jvm.Cond.fieldLinkNest "LateAndEarly$Text" (123 : Nat) "LateAndEarly$Sum" "number" "I" "LateAndEarly") ∈ lw_tbl := lw_at lw_m4 49 rfl
theorem q919 : (Jvm.Cond.fieldLinkNest "LateAndEarly$Text" (165 : Nat) "LateAndEarly$SetSum" "sum" "LLateAndEarly$Sum;" "LateAndEarly") ∈ lw_tbl := lw_at lw_m4 68 rfl
theorem q925 : (Jvm.Cond.fieldLink "LateAndEarly$Text" (160 : Nat) "LateAndEarly$SetSum" "name" "I") ∈ lw_all := lw_g (lw_at lw_m4 74 rfl) rfl
theorem q926 : (Jvm.Cond.fieldLink "LateAndEarly$Text" (171 : Nat) "LateAndEarly$SetOperand" "name" "I") ∈ lw_all := lw_g (lw_at lw_m4 75 rfl) rfl
theorem q946 : (Jvm.Cond.fieldLinkNest "LateAndEarly$Text" (172 : Nat) "LateAndEarly$SetOperand" "from" "LLateAndEarly$Operand;" "LateAndEarly") ∈ lw_tbl := lw_at lw_m4 95 rfl
theorem q1560 : (Jvm.Cond.instanceMethod ({ cls := "LateAndEarly$Text", name := "of", desc := "(LLateAndEarly$Routine;I)I" } : Jvm.MethodName)) ∈ lw_all := lw_g (lw_at lw_m6 229 rfl) rfl
theorem q1561 : (Jvm.Cond.selects "LateAndEarly$Text" ({ cls := "LateAndEarly$Text", name := "of", desc := "(LLateAndEarly$Routine;I)I" } : Jvm.MethodName) ({ cls := "LateAndEarly$Text", name := "of", desc := "(LLateAndEarly$Routine;I)I" } : Jvm.MethodName)) ∈ lw_all := lw_g (lw_at lw_m6 230 rfl) rfl
theorem q1562 : (Jvm.Cond.code ({ cls := "LateAndEarly$Text", name := "of", desc := "(LLateAndEarly$Routine;I)I" } : Jvm.MethodName) prog_21_method_13_code (7 : Nat) (Option.some Jvm.ClassFile.FieldType.int)) ∈ lw_all := lw_g (lw_at lw_m6 231 rfl) rfl
theorem q1563 : (Jvm.Cond.methodLink "LateAndEarly$Text" (111 : Nat) ({ cls := "java/util/ArrayList", name := "size", desc := "()I" } : Jvm.MethodName)) ∈ lw_all := lw_g (lw_at lw_m6 232 rfl) rfl
theorem q1564 : (Jvm.Cond.methodLink "LateAndEarly$Text" (115 : Nat) ({ cls := "java/util/ArrayList", name := "get", desc := "(I)Ljava/lang/Object;" } : Jvm.MethodName)) ∈ lw_all := lw_g (lw_at lw_m6 233 rfl) rfl
theorem q1565 : (Jvm.Cond.classLink "LateAndEarly$Text" (141 : Nat) "LateAndEarly$Node") ∈ lw_all := lw_g (lw_at lw_m6 234 rfl) rfl
theorem q1566 : (Jvm.Cond.methodLink "LateAndEarly$Text" (145 : Nat) ({ cls := "LateAndEarly$Node", name := "kind", desc := "()I" } : Jvm.MethodName)) ∈ lw_all := lw_g (lw_at lw_m6 235 rfl) rfl
theorem q1567 : (Jvm.Cond.methodLink "LateAndEarly$Text" (119 : Nat) ({ cls := "LateAndEarly$Routine", name := "setAt", desc := "(II)J" } : Jvm.MethodName)) ∈ lw_all := lw_g (lw_at lw_m6 236 rfl) rfl
theorem q1568 : (Jvm.Cond.methodLink "LateAndEarly$Text" (215 : Nat) ({ cls := "LateAndEarly$Text", name := "head", desc := "(I)V" } : Jvm.MethodName)) ∈ lw_all := lw_g (lw_at lw_m6 237 rfl) rfl
theorem q1569 : (Jvm.Cond.privateMethod ({ cls := "LateAndEarly$Text", name := "head", desc := "(I)V" } : Jvm.MethodName)) ∈ lw_tbl := lw_at lw_m6 238 rfl
theorem q1570 : (Jvm.Cond.instanceMethod ({ cls := "LateAndEarly$Text", name := "head", desc := "(I)V" } : Jvm.MethodName)) ∈ lw_all := lw_g (lw_at lw_m6 239 rfl) rfl
theorem q1571 : (Jvm.Cond.code ({ cls := "LateAndEarly$Text", name := "head", desc := "(I)V" } : Jvm.MethodName) prog_21_method_8_code (2 : Nat) (Option.none : Option Jvm.ClassFile.FieldType)) ∈ lw_all := lw_g (lw_at lw_m7 0 rfl) rfl
theorem q1572 : (Jvm.Cond.stringRef "LateAndEarly$Text" (99 : Nat) "b") ∈ lw_tbl := lw_at lw_m7 1 rfl
theorem q1573 : (Jvm.Cond.methodLink "LateAndEarly$Text" (49 : Nat) ({ cls := "LateAndEarly$Text", name := "put", desc := "(Ljava/lang/String;)LLateAndEarly$Text;" } : Jvm.MethodName)) ∈ lw_all := lw_g (lw_at lw_m7 2 rfl) rfl
theorem q1574 : (Jvm.Cond.privateMethod ({ cls := "LateAndEarly$Text", name := "put", desc := "(Ljava/lang/String;)LLateAndEarly$Text;" } : Jvm.MethodName)) ∈ lw_tbl := lw_at lw_m7 3 rfl
theorem q1575 : (Jvm.Cond.instanceMethod ({ cls := "LateAndEarly$Text", name := "put", desc := "(Ljava/lang/String;)LLateAndEarly$Text;" } : Jvm.MethodName)) ∈ lw_all := lw_g (lw_at lw_m7 4 rfl) rfl
theorem q1576 : (Jvm.Cond.code ({ cls := "LateAndEarly$Text", name := "put", desc := "(Ljava/lang/String;)LLateAndEarly$Text;" } : Jvm.MethodName) prog_21_method_3_code (3 : Nat) (Option.some (Jvm.ClassFile.FieldType.object "LateAndEarly$Text"))) ∈ lw_all := lw_g (lw_at lw_m7 5 rfl) rfl
theorem q1577 : (Jvm.Cond.methodLink "LateAndEarly$Text" (27 : Nat) ({ cls := "java/lang/String", name := "length", desc := "()I" } : Jvm.MethodName)) ∈ lw_all := lw_g (lw_at lw_m7 6 rfl) rfl
theorem q1578 : (Jvm.Cond.methodLink "LateAndEarly$Text" (33 : Nat) ({ cls := "java/lang/String", name := "charAt", desc := "(I)C" } : Jvm.MethodName)) ∈ lw_all := lw_g (lw_at lw_m7 7 rfl) rfl
theorem q1579 : (Jvm.Cond.methodLink "LateAndEarly$Text" (37 : Nat) ({ cls := "LateAndEarly$Text", name := "put", desc := "(C)V" } : Jvm.MethodName)) ∈ lw_all := lw_g (lw_at lw_m7 8 rfl) rfl
theorem q1580 : (Jvm.Cond.privateMethod ({ cls := "LateAndEarly$Text", name := "put", desc := "(C)V" } : Jvm.MethodName)) ∈ lw_tbl := lw_at lw_m7 9 rfl
theorem q1581 : (Jvm.Cond.instanceMethod ({ cls := "LateAndEarly$Text", name := "put", desc := "(C)V" } : Jvm.MethodName)) ∈ lw_all := lw_g (lw_at lw_m7 10 rfl) rfl
theorem q1582 : (Jvm.Cond.code ({ cls := "LateAndEarly$Text", name := "put", desc := "(C)V" } : Jvm.MethodName) prog_21_method_2_code (2 : Nat) (Option.none : Option Jvm.ClassFile.FieldType)) ∈ lw_all := lw_g (lw_at lw_m7 11 rfl) rfl
theorem q1583 : (Jvm.Cond.methodLink "LateAndEarly$Text" (52 : Nat) ({ cls := "LateAndEarly$Text", name := "put", desc := "(I)LLateAndEarly$Text;" } : Jvm.MethodName)) ∈ lw_all := lw_g (lw_at lw_m7 12 rfl) rfl
theorem q1584 : (Jvm.Cond.privateMethod ({ cls := "LateAndEarly$Text", name := "put", desc := "(I)LLateAndEarly$Text;" } : Jvm.MethodName)) ∈ lw_tbl := lw_at lw_m7 13 rfl
theorem q1585 : (Jvm.Cond.instanceMethod ({ cls := "LateAndEarly$Text", name := "put", desc := "(I)LLateAndEarly$Text;" } : Jvm.MethodName)) ∈ lw_all := lw_g (lw_at lw_m7 14 rfl) rfl
theorem q1586 : (Jvm.Cond.code ({ cls := "LateAndEarly$Text", name := "put", desc := "(I)LLateAndEarly$Text;" } : Jvm.MethodName) prog_21_method_4_code (4 : Nat) (Option.some (Jvm.ClassFile.FieldType.object "LateAndEarly$Text"))) ∈ lw_all := lw_g (lw_at lw_m7 15 rfl) rfl
theorem q1587 : (Jvm.Cond.methodLink "LateAndEarly$Text" (41 : Nat) ({ cls := "java/lang/Math", name := "abs", desc := "(I)I" } : Jvm.MethodName)) ∈ lw_all := lw_g (lw_at lw_m7 16 rfl) rfl
theorem q1590 : (Jvm.Cond.stringRef "LateAndEarly$Text" (101 : Nat) ":\n") ∈ lw_tbl := lw_at lw_m7 19 rfl
theorem q1591 : (Jvm.Cond.classLink "LateAndEarly$Text" (112 : Nat) "java/util/ArrayList") ∈ lw_all := lw_g (lw_at lw_m7 20 rfl) rfl
theorem q1592 : (Jvm.Cond.methodLink "LateAndEarly$Text" (219 : Nat) ({ cls := "LateAndEarly$Text", name := "node", desc := "(LLateAndEarly$Routine;ILLateAndEarly$Node;)V" } : Jvm.MethodName)) ∈ lw_all := lw_g (lw_at lw_m7 21 rfl) rfl
theorem q1593 : (Jvm.Cond.privateMethod ({ cls := "LateAndEarly$Text", name := "node", desc := "(LLateAndEarly$Routine;ILLateAndEarly$Node;)V" } : Jvm.MethodName)) ∈ lw_tbl := lw_at lw_m7 22 rfl
theorem q1594 : (Jvm.Cond.instanceMethod ({ cls := "LateAndEarly$Text", name := "node", desc := "(LLateAndEarly$Routine;ILLateAndEarly$Node;)V" } : Jvm.MethodName)) ∈ lw_all := lw_g (lw_at lw_m7 23 rfl) rfl
theorem q1595 : (Jvm.Cond.code ({ cls := "LateAndEarly$Text", name := "node", desc := "(LLateAndEarly$Routine;ILLateAndEarly$Node;)V" } : Jvm.MethodName) prog_21_method_12_code (10 : Nat) (Option.none : Option Jvm.ClassFile.FieldType)) ∈ lw_all := lw_g (lw_at lw_m7 24 rfl) rfl
theorem q1596 : (Jvm.Cond.methodLink "LateAndEarly$Text" (152 : Nat) ({ cls := "LateAndEarly$Text", name := "sets", desc := "(LLateAndEarly$Routine;II)V" } : Jvm.MethodName)) ∈ lw_all := lw_g (lw_at lw_m7 25 rfl) rfl
theorem q1597 : (Jvm.Cond.privateMethod ({ cls := "LateAndEarly$Text", name := "sets", desc := "(LLateAndEarly$Routine;II)V" } : Jvm.MethodName)) ∈ lw_tbl := lw_at lw_m7 26 rfl
theorem q1598 : (Jvm.Cond.instanceMethod ({ cls := "LateAndEarly$Text", name := "sets", desc := "(LLateAndEarly$Routine;II)V" } : Jvm.MethodName)) ∈ lw_all := lw_g (lw_at lw_m7 27 rfl) rfl
theorem q1599 : (Jvm.Cond.code ({ cls := "LateAndEarly$Text", name := "sets", desc := "(LLateAndEarly$Routine;II)V" } : Jvm.MethodName) prog_21_method_10_code (6 : Nat) (Option.none : Option Jvm.ClassFile.FieldType)) ∈ lw_all := lw_g (lw_at lw_m7 28 rfl) rfl
theorem q1600 : (Jvm.Cond.classLink "LateAndEarly$Text" (86 : Nat) "LateAndEarly$Sum") ∈ lw_all := lw_g (lw_at lw_m7 29 rfl) rfl
theorem q1601 : (Jvm.Cond.stringRef "LateAndEarly$Text" (126 : Nat) "  t") ∈ lw_tbl := lw_at lw_m7 30 rfl
theorem q1602 : (Jvm.Cond.stringRef "LateAndEarly$Text" (128 : Nat) " = ") ∈ lw_tbl := lw_at lw_m7 31 rfl
theorem q1603 : (Jvm.Cond.methodLink "LateAndEarly$Text" (130 : Nat) ({ cls := "LateAndEarly$Text", name := "put", desc := "(LLateAndEarly$Sum;)LLateAndEarly$Text;" } : Jvm.MethodName)) ∈ lw_all := lw_g (lw_at lw_m7 32 rfl) rfl
theorem q1604 : (Jvm.Cond.privateMethod ({ cls := "LateAndEarly$Text", name := "put", desc := "(LLateAndEarly$Sum;)LLateAndEarly$Text;" } : Jvm.MethodName)) ∈ lw_tbl := lw_at lw_m7 33 rfl
theorem q1605 : (Jvm.Cond.instanceMethod ({ cls := "LateAndEarly$Text", name := "put", desc := "(LLateAndEarly$Sum;)LLateAndEarly$Text;" } : Jvm.MethodName)) ∈ lw_all := lw_g (lw_at lw_m7 34 rfl) rfl
theorem q1606 : (Jvm.Cond.code ({ cls := "LateAndEarly$Text", name := "put", desc := "(LLateAndEarly$Sum;)LLateAndEarly$Text;" } : Jvm.MethodName) prog_21_method_7_code (3 : Nat) (Option.some (Jvm.ClassFile.FieldType.object "LateAndEarly$Text"))) ∈ lw_all := lw_g (lw_at lw_m7 35 rfl) rfl
theorem q1607 : (Jvm.Cond.classLink "LateAndEarly$Text" (68 : Nat) "LateAndEarly$Read") ∈ lw_all := lw_g (lw_at lw_m7 36 rfl) rfl
theorem q1608 : (Jvm.Cond.stringRef "LateAndEarly$Text" (70 : Nat) "\x72") ∈ lw_tbl := lw_at lw_m7 37 rfl
theorem q1609 : (Jvm.Cond.stringRef "LateAndEarly$Text" (74 : Nat) " [ ") ∈ lw_tbl := lw_at lw_m7 38 rfl
theorem q1610 : (Jvm.Cond.methodLink "LateAndEarly$Text" (80 : Nat) ({ cls := "LateAndEarly$Text", name := "put", desc := "(LLateAndEarly$Operand;)LLateAndEarly$Text;" } : Jvm.MethodName)) ∈ lw_all := lw_g (lw_at lw_m7 39 rfl) rfl
theorem q1611 : (Jvm.Cond.privateMethod ({ cls := "LateAndEarly$Text", name := "put", desc := "(LLateAndEarly$Operand;)LLateAndEarly$Text;" } : Jvm.MethodName)) ∈ lw_tbl := lw_at lw_m7 40 rfl
theorem q1612 : (Jvm.Cond.instanceMethod ({ cls := "LateAndEarly$Text", name := "put", desc := "(LLateAndEarly$Operand;)LLateAndEarly$Text;" } : Jvm.MethodName)) ∈ lw_all := lw_g (lw_at lw_m7 41 rfl) rfl
theorem q1613 : (Jvm.Cond.code ({ cls := "LateAndEarly$Text", name := "put", desc := "(LLateAndEarly$Operand;)LLateAndEarly$Text;" } : Jvm.MethodName) prog_21_method_6_code (2 : Nat) (Option.some (Jvm.ClassFile.FieldType.object "LateAndEarly$Text"))) ∈ lw_all := lw_g (lw_at lw_m7 42 rfl) rfl
theorem q1614 : (Jvm.Cond.methodLink "LateAndEarly$Text" (65 : Nat) ({ cls := "LateAndEarly$Text", name := "name", desc := "(I)LLateAndEarly$Text;" } : Jvm.MethodName)) ∈ lw_all := lw_g (lw_at lw_m7 43 rfl) rfl
theorem q1615 : (Jvm.Cond.privateMethod ({ cls := "LateAndEarly$Text", name := "name", desc := "(I)LLateAndEarly$Text;" } : Jvm.MethodName)) ∈ lw_tbl := lw_at lw_m7 44 rfl
theorem q1616 : (Jvm.Cond.instanceMethod ({ cls := "LateAndEarly$Text", name := "name", desc := "(I)LLateAndEarly$Text;" } : Jvm.MethodName)) ∈ lw_all := lw_g (lw_at lw_m7 45 rfl) rfl
theorem q1617 : (Jvm.Cond.code ({ cls := "LateAndEarly$Text", name := "name", desc := "(I)LLateAndEarly$Text;" } : Jvm.MethodName) prog_21_method_5_code (2 : Nat) (Option.some (Jvm.ClassFile.FieldType.object "LateAndEarly$Text"))) ∈ lw_all := lw_g (lw_at lw_m7 46 rfl) rfl
theorem q1618 : (Jvm.Cond.stringRef "LateAndEarly$Text" (47 : Nat) "v") ∈ lw_tbl := lw_at lw_m7 47 rfl
theorem q1619 : (Jvm.Cond.stringRef "LateAndEarly$Text" (55 : Nat) "t") ∈ lw_tbl := lw_at lw_m7 48 rfl
theorem q1620 : (Jvm.Cond.stringRef "LateAndEarly$Text" (83 : Nat) " ]") ∈ lw_tbl := lw_at lw_m7 49 rfl
theorem q1621 : (Jvm.Cond.methodLink "LateAndEarly$Text" (85 : Nat) ({ cls := "LateAndEarly$Sum", name := "first", desc := "()LLateAndEarly$Operand;" } : Jvm.MethodName)) ∈ lw_all := lw_g (lw_at lw_m7 50 rfl) rfl
theorem q1622 : (Jvm.Cond.stringRef "LateAndEarly$Text" (91 : Nat) " ") ∈ lw_tbl := lw_at lw_m7 51 rfl
theorem q1623 : (Jvm.Cond.methodLink "LateAndEarly$Text" (93 : Nat) ({ cls := "LateAndEarly$Sum", name := "sign", desc := "()I" } : Jvm.MethodName)) ∈ lw_all := lw_g (lw_at lw_m7 52 rfl) rfl
theorem q1624 : (Jvm.Cond.methodLink "LateAndEarly$Text" (96 : Nat) ({ cls := "LateAndEarly$Sum", name := "second", desc := "()LLateAndEarly$Operand;" } : Jvm.MethodName)) ∈ lw_all := lw_g (lw_at lw_m7 53 rfl) rfl
theorem q1625 : (Jvm.Cond.methodLink "LateAndEarly$Text" (133 : Nat) ({ cls := "LateAndEarly$Text", name := "ends", desc := "()V" } : Jvm.MethodName)) ∈ lw_all := lw_g (lw_at lw_m7 54 rfl) rfl
theorem q1626 : (Jvm.Cond.privateMethod ({ cls := "LateAndEarly$Text", name := "ends", desc := "()V" } : Jvm.MethodName)) ∈ lw_tbl := lw_at lw_m7 55 rfl
theorem q1627 : (Jvm.Cond.instanceMethod ({ cls := "LateAndEarly$Text", name := "ends", desc := "()V" } : Jvm.MethodName)) ∈ lw_all := lw_g (lw_at lw_m7 56 rfl) rfl
theorem q1628 : (Jvm.Cond.code ({ cls := "LateAndEarly$Text", name := "ends", desc := "()V" } : Jvm.MethodName) prog_21_method_9_code (1 : Nat) (Option.none : Option Jvm.ClassFile.FieldType)) ∈ lw_all := lw_g (lw_at lw_m7 57 rfl) rfl
theorem q1629 : (Jvm.Cond.stringRef "LateAndEarly$Text" (103 : Nat) ";\n") ∈ lw_tbl := lw_at lw_m7 58 rfl
theorem q1630 : (Jvm.Cond.stringRef "LateAndEarly$Text" (156 : Nat) "  ") ∈ lw_tbl := lw_at lw_m7 59 rfl
theorem q1631 : (Jvm.Cond.classLink "LateAndEarly$Text" (158 : Nat) "LateAndEarly$SetSum") ∈ lw_all := lw_g (lw_at lw_m7 60 rfl) rfl
theorem q1632 : (Jvm.Cond.methodLink "LateAndEarly$Text" (162 : Nat) ({ cls := "LateAndEarly$Routine", name := "takenAt", desc := "(II)J" } : Jvm.MethodName)) ∈ lw_all := lw_g (lw_at lw_m7 61 rfl) rfl
theorem q1633 : (Jvm.Cond.classLink "LateAndEarly$Text" (169 : Nat) "LateAndEarly$SetOperand") ∈ lw_all := lw_g (lw_at lw_m7 62 rfl) rfl
theorem q1634 : (Jvm.Cond.classLink "LateAndEarly$Text" (175 : Nat) "LateAndEarly$Write") ∈ lw_all := lw_g (lw_at lw_m7 63 rfl) rfl
theorem q1635 : (Jvm.Cond.stringRef "LateAndEarly$Text" (179 : Nat) " ] = ") ∈ lw_tbl := lw_at lw_m7 64 rfl
theorem q1636 : (Jvm.Cond.classLink "LateAndEarly$Text" (184 : Nat) "LateAndEarly$Tell") ∈ lw_all := lw_g (lw_at lw_m7 65 rfl) rfl
theorem q1637 : (Jvm.Cond.stringRef "LateAndEarly$Text" (186 : Nat) "tell ") ∈ lw_tbl := lw_at lw_m7 66 rfl
theorem q1638 : (Jvm.Cond.classLink "LateAndEarly$Text" (189 : Nat) "LateAndEarly$If") ∈ lw_all := lw_g (lw_at lw_m7 67 rfl) rfl
theorem q1639 : (Jvm.Cond.stringRef "LateAndEarly$Text" (191 : Nat) "if ") ∈ lw_tbl := lw_at lw_m7 68 rfl
theorem q1640 : (Jvm.Cond.stringRef "LateAndEarly$Text" (196 : Nat) " < ") ∈ lw_tbl := lw_at lw_m7 69 rfl
theorem q1641 : (Jvm.Cond.methodLink "LateAndEarly$Text" (200 : Nat) ({ cls := "LateAndEarly$Text", name := "way", desc := "(LLateAndEarly$Routine;LLateAndEarly$End;I)LLateAndEarly$Text;" } : Jvm.MethodName)) ∈ lw_all := lw_g (lw_at lw_m7 70 rfl) rfl
theorem q1642 : (Jvm.Cond.privateMethod ({ cls := "LateAndEarly$Text", name := "way", desc := "(LLateAndEarly$Routine;LLateAndEarly$End;I)LLateAndEarly$Text;" } : Jvm.MethodName)) ∈ lw_tbl := lw_at lw_m7 71 rfl
theorem q1643 : (Jvm.Cond.instanceMethod ({ cls := "LateAndEarly$Text", name := "way", desc := "(LLateAndEarly$Routine;LLateAndEarly$End;I)LLateAndEarly$Text;" } : Jvm.MethodName)) ∈ lw_all := lw_g (lw_at lw_m7 72 rfl) rfl
theorem q1644 : (Jvm.Cond.code ({ cls := "LateAndEarly$Text", name := "way", desc := "(LLateAndEarly$Routine;LLateAndEarly$End;I)LLateAndEarly$Text;" } : Jvm.MethodName) prog_21_method_11_code (5 : Nat) (Option.some (Jvm.ClassFile.FieldType.object "LateAndEarly$Text"))) ∈ lw_all := lw_g (lw_at lw_m7 73 rfl) rfl
theorem q1645 : (Jvm.Cond.stringRef "LateAndEarly$Text" (143 : Nat) " b") ∈ lw_tbl := lw_at lw_m7 74 rfl
theorem q1646 : (Jvm.Cond.methodLink "LateAndEarly$Text" (149 : Nat) ({ cls := "LateAndEarly$End", name := "way", desc := "(I)I" } : Jvm.MethodName)) ∈ lw_all := lw_g (lw_at lw_m7 75 rfl) rfl
theorem q1647 : (Jvm.Cond.classLink "LateAndEarly$Text" (203 : Nat) "LateAndEarly$Go") ∈ lw_all := lw_g (lw_at lw_m7 76 rfl) rfl
theorem q1648 : (Jvm.Cond.stringRef "LateAndEarly$Text" (205 : Nat) "go") ∈ lw_tbl := lw_at lw_m7 77 rfl
theorem q1649 : (Jvm.Cond.stringRef "LateAndEarly$Text" (207 : Nat) "leave") ∈ lw_tbl := lw_at lw_m7 78 rfl
theorem q1650 : (Jvm.Cond.stringRef "LateAndEarly$Text" (223 : Nat) "  go b") ∈ lw_tbl := lw_at lw_m7 79 rfl
theorem q2275 : (Jvm.Cond.castable "LateAndEarly$Text" "java/lang/Object") ∈ lw_tbl := lw_at lw_m9 224 rfl
theorem in_X1 : ∀ w ∈ wsX10, w ∈ lw_all := lw_in wsX10 [195, 197, 199, 201] (by decide +kernel) (by decide +kernel)
/-! LateAndEarly$Reader -/
set_option maxRecDepth 100000
def RX3 : String := "LateAndEarly$Reader"
def TX3 : u_T := fun k => match k with
  | 0 => ("LateAndEarly$Reader", "\x72", "LLateAndEarly$Routine;", true)
  | 1 => ("LateAndEarly$Reader", "kind", "I", false)
  | 2 => ("LateAndEarly$Reader", "from", "I", false)
  | 3 => ("LateAndEarly$Reader", "behind", "I", false)
  | 4 => ("LateAndEarly$Reader", "number", "I", false)
  | 5 => ("LateAndEarly$Reader", "named", "Ljava/util/ArrayList;", true)
  | 6 => ("LateAndEarly$Reader", "namedAt", "Ljava/util/ArrayList;", true)
  | 7 => ("LateAndEarly$Reader", "headAt", "Ljava/util/ArrayList;", true)
  | _ => ("LateAndEarly$Reader", "this$0", "LLateAndEarly;", true)
def tyX3 : Nat → FieldType := fun k => match k with
  | 0 => .object "LateAndEarly$Routine"
  | 1 => .int
  | 2 => .int
  | 3 => .int
  | 4 => .int
  | 5 => .object "java/util/ArrayList"
  | 6 => .object "java/util/ArrayList"
  | 7 => .object "java/util/ArrayList"
  | _ => .object "LateAndEarly"
abbrev wsX30 : List Cond := u_ws RX3 TX3 9
theorem nmX3 : ∀ a, a < 9 → ∀ b, b < 9 → a ≠ b → (TX3 a).2.1 ≠ (TX3 b).2.1 := by decide +kernel
theorem tyX3_ok : ∀ k, k < 9 → parseFieldDescriptor (TX3 k).2.2.1 = some (tyX3 k) := by decide +kernel
abbrev cX3_init : ByteArray := prog_12_method_1_code
def yX3_init : MethodName := ⟨RX3, "<init>", "(LLateAndEarly;)V"⟩
def dkwX3_init_2 : List UInt8 := [183, 0, 24, 181, 0, 32, 177]
abbrev dktX3_init_2 : List UInt8 := dkwX3_init_2 ++ []
def dkwX3_init_1 : List UInt8 := [89, 183, 0, 24, 181, 0, 25, 42, 187, 0, 22, 89, 183, 0, 24, 181, 0, 29, 42, 187, 0, 22, 89]
abbrev dktX3_init_1 : List UInt8 := dkwX3_init_1 ++ dktX3_init_2
def dkwX3_init_0 : List UInt8 := [42, 43, 181, 0, 3, 42, 183, 0, 9, 42, 187, 0, 15, 89, 183, 0, 17, 181, 0, 18, 42, 187, 0, 22]
abbrev dktX3_init_0 : List UInt8 := dkwX3_init_0 ++ dktX3_init_1
theorem dksX3_init_0 : cX3_init.data.toList.drop 0 = dktX3_init_0 := by decide +kernel
theorem dksX3_init_1 : cX3_init.data.toList.drop 24 = dktX3_init_1 := dk_seg dksX3_init_0 24 rfl rfl
theorem dksX3_init_2 : cX3_init.data.toList.drop 47 = dktX3_init_2 := dk_seg dksX3_init_1 23 rfl rfl
theorem dX3_init_0 : decode cX3_init 0 = .ok (.aload_n 0, 1) := dk_42 (dk_at dksX3_init_0 0 rfl rfl)
theorem dX3_init_1 : decode cX3_init 1 = .ok (.aload_n 1, 1) := dk_43 (dk_at dksX3_init_0 1 rfl rfl)
theorem dX3_init_2 : decode cX3_init 2 = .ok (.putfield 3, 3) := dk_181 0 3 (dk_at dksX3_init_0 2 rfl rfl)
theorem dX3_init_5 : decode cX3_init 5 = .ok (.aload_n 0, 1) := dk_42 (dk_at dksX3_init_0 5 rfl rfl)
theorem dX3_init_6 : decode cX3_init 6 = .ok (.invokespecial 9, 3) := dk_183 0 9 (dk_at dksX3_init_0 6 rfl rfl)
theorem dX3_init_9 : decode cX3_init 9 = .ok (.aload_n 0, 1) := dk_42 (dk_at dksX3_init_0 9 rfl rfl)
theorem dX3_init_10 : decode cX3_init 10 = .ok (.new 15, 3) := dk_187 0 15 (dk_at dksX3_init_0 10 rfl rfl)
theorem dX3_init_13 : decode cX3_init 13 = .ok (.dup, 1) := dk_89 (dk_at dksX3_init_0 13 rfl rfl)
theorem dX3_init_14 : decode cX3_init 14 = .ok (.invokespecial 17, 3) := dk_183 0 17 (dk_at dksX3_init_0 14 rfl rfl)
theorem dX3_init_17 : decode cX3_init 17 = .ok (.putfield 18, 3) := dk_181 0 18 (dk_at dksX3_init_0 17 rfl rfl)
theorem dX3_init_20 : decode cX3_init 20 = .ok (.aload_n 0, 1) := dk_42 (dk_at dksX3_init_0 20 rfl rfl)
theorem dX3_init_21 : decode cX3_init 21 = .ok (.new 22, 3) := dk_187 0 22 (dk_at dksX3_init_0 21 rfl rfl)
theorem dX3_init_24 : decode cX3_init 24 = .ok (.dup, 1) := dk_89 (dk_at dksX3_init_1 0 rfl rfl)
theorem dX3_init_25 : decode cX3_init 25 = .ok (.invokespecial 24, 3) := dk_183 0 24 (dk_at dksX3_init_1 1 rfl rfl)
theorem dX3_init_28 : decode cX3_init 28 = .ok (.putfield 25, 3) := dk_181 0 25 (dk_at dksX3_init_1 4 rfl rfl)
theorem dX3_init_31 : decode cX3_init 31 = .ok (.aload_n 0, 1) := dk_42 (dk_at dksX3_init_1 7 rfl rfl)
theorem dX3_init_32 : decode cX3_init 32 = .ok (.new 22, 3) := dk_187 0 22 (dk_at dksX3_init_1 8 rfl rfl)
theorem dX3_init_35 : decode cX3_init 35 = .ok (.dup, 1) := dk_89 (dk_at dksX3_init_1 11 rfl rfl)
theorem dX3_init_36 : decode cX3_init 36 = .ok (.invokespecial 24, 3) := dk_183 0 24 (dk_at dksX3_init_1 12 rfl rfl)
theorem dX3_init_39 : decode cX3_init 39 = .ok (.putfield 29, 3) := dk_181 0 29 (dk_at dksX3_init_1 15 rfl rfl)
theorem dX3_init_42 : decode cX3_init 42 = .ok (.aload_n 0, 1) := dk_42 (dk_at dksX3_init_1 18 rfl rfl)
theorem dX3_init_43 : decode cX3_init 43 = .ok (.new 22, 3) := dk_187 0 22 (dk_at dksX3_init_1 19 rfl rfl)
theorem dX3_init_46 : decode cX3_init 46 = .ok (.dup, 1) := dk_89 (dk_at dksX3_init_1 22 rfl rfl)
theorem dX3_init_47 : decode cX3_init 47 = .ok (.invokespecial 24, 3) := dk_183 0 24 (dk_at dksX3_init_2 0 rfl rfl)
theorem dX3_init_50 : decode cX3_init 50 = .ok (.putfield 32, 3) := dk_181 0 32 (dk_at dksX3_init_2 3 rfl rfl)
theorem dX3_init_53 : decode cX3_init 53 = .ok (.return_, 1) := dk_177 (dk_at dksX3_init_2 6 rfl rfl)
abbrev cX3_read : ByteArray := prog_12_method_13_code
def yX3_read : MethodName := ⟨RX3, "read", "()LLateAndEarly$Routine;"⟩
def dkwX3_read_1 : List UInt8 := [182, 0, 110, 42, 180, 0, 18, 176]
abbrev dktX3_read_1 : List UInt8 := dkwX3_read_1 ++ []
def dkwX3_read_0 : List UInt8 := [42, 182, 0, 89, 42, 182, 0, 104, 42, 180, 0, 53, 154, 255, 248, 42, 182, 0, 107, 42, 180, 0, 18]
abbrev dktX3_read_0 : List UInt8 := dkwX3_read_0 ++ dktX3_read_1
theorem dksX3_read_0 : cX3_read.data.toList.drop 0 = dktX3_read_0 := by decide +kernel
theorem dksX3_read_1 : cX3_read.data.toList.drop 23 = dktX3_read_1 := dk_seg dksX3_read_0 23 rfl rfl
theorem dX3_read_0 : decode cX3_read 0 = .ok (.aload_n 0, 1) := dk_42 (dk_at dksX3_read_0 0 rfl rfl)
theorem dX3_read_1 : decode cX3_read 1 = .ok (.invokevirtual 89, 3) := dk_182 0 89 (dk_at dksX3_read_0 1 rfl rfl)
theorem dX3_read_4 : decode cX3_read 4 = .ok (.aload_n 0, 1) := dk_42 (dk_at dksX3_read_0 4 rfl rfl)
theorem dX3_read_5 : decode cX3_read 5 = .ok (.invokevirtual 104, 3) := dk_182 0 104 (dk_at dksX3_read_0 5 rfl rfl)
theorem dX3_read_8 : decode cX3_read 8 = .ok (.aload_n 0, 1) := dk_42 (dk_at dksX3_read_0 8 rfl rfl)
theorem dX3_read_9 : decode cX3_read 9 = .ok (.getfield 53, 3) := dk_180 0 53 (dk_at dksX3_read_0 9 rfl rfl)
theorem dX3_read_12 : decode cX3_read 12 = .ok (.ifCond .ne (-8), 3) := dk_154 255 248 (dk_at dksX3_read_0 12 rfl rfl)
theorem dX3_read_15 : decode cX3_read 15 = .ok (.aload_n 0, 1) := dk_42 (dk_at dksX3_read_0 15 rfl rfl)
theorem dX3_read_16 : decode cX3_read 16 = .ok (.invokevirtual 107, 3) := dk_182 0 107 (dk_at dksX3_read_0 16 rfl rfl)
theorem dX3_read_19 : decode cX3_read 19 = .ok (.aload_n 0, 1) := dk_42 (dk_at dksX3_read_0 19 rfl rfl)
theorem dX3_read_20 : decode cX3_read 20 = .ok (.getfield 18, 3) := dk_180 0 18 (dk_at dksX3_read_0 20 rfl rfl)
theorem dX3_read_23 : decode cX3_read 23 = .ok (.invokevirtual 110, 3) := dk_182 0 110 (dk_at dksX3_read_1 0 rfl rfl)
theorem dX3_read_26 : decode cX3_read 26 = .ok (.aload_n 0, 1) := dk_42 (dk_at dksX3_read_1 3 rfl rfl)
theorem dX3_read_27 : decode cX3_read 27 = .ok (.getfield 18, 3) := dk_180 0 18 (dk_at dksX3_read_1 4 rfl rfl)
theorem dX3_read_30 : decode cX3_read 30 = .ok (.areturn, 1) := dk_176 (dk_at dksX3_read_1 7 rfl rfl)
abbrev cX3_next : ByteArray := prog_12_method_5_code
def yX3_next : MethodName := ⟨RX3, "next", "()V"⟩
def dkwX3_next_6 : List UInt8 := [42, 180, 0, 46, 182, 0, 49, 182, 0, 68, 155, 0, 7, 7, 167, 0, 4, 4, 181, 0, 53, 177]
abbrev dktX3_next_6 : List UInt8 := dkwX3_next_6 ++ []
def dkwX3_next_5 : List UInt8 := [153, 0, 10, 42, 182, 0, 63, 167, 0, 38, 42, 89, 180, 0, 43, 4, 96, 181, 0, 43, 42, 18, 66, 42]
abbrev dktX3_next_5 : List UInt8 := dkwX3_next_5 ++ dktX3_next_6
def dkwX3_next_4 : List UInt8 := [180, 0, 46, 182, 0, 49, 182, 0, 56, 154, 0, 18, 42, 42, 42, 180, 0, 46, 182, 0, 49, 182, 0, 60]
abbrev dktX3_next_4 : List UInt8 := dkwX3_next_4 ++ dktX3_next_5
def dkwX3_next_3 : List UInt8 := [180, 0, 46, 42, 180, 0, 3, 180, 0, 35, 161, 0, 11, 42, 3, 181, 0, 53, 167, 0, 75, 42, 42, 42]
abbrev dktX3_next_3 : List UInt8 := dkwX3_next_3 ++ dktX3_next_4
def dkwX3_next_2 : List UInt8 := [42, 89, 180, 0, 46, 4, 96, 181, 0, 46, 167, 255, 206, 42, 42, 180, 0, 46, 181, 0, 43, 42]
abbrev dktX3_next_2 : List UInt8 := dkwX3_next_2 ++ dktX3_next_3
def dkwX3_next_1 : List UInt8 := [180, 0, 46, 182, 0, 49, 16, 32, 159, 0, 16, 42, 42, 180, 0, 46, 182, 0, 49, 16, 10, 160, 0, 16]
abbrev dktX3_next_1 : List UInt8 := dkwX3_next_1 ++ dktX3_next_2
def dkwX3_next_0 : List UInt8 := [42, 42, 180, 0, 43, 181, 0, 46, 42, 180, 0, 46, 42, 180, 0, 3, 180, 0, 35, 162, 0, 42, 42, 42]
abbrev dktX3_next_0 : List UInt8 := dkwX3_next_0 ++ dktX3_next_1
theorem dksX3_next_0 : cX3_next.data.toList.drop 0 = dktX3_next_0 := by decide +kernel
theorem dksX3_next_1 : cX3_next.data.toList.drop 24 = dktX3_next_1 := dk_seg dksX3_next_0 24 rfl rfl
theorem dksX3_next_2 : cX3_next.data.toList.drop 48 = dktX3_next_2 := dk_seg dksX3_next_1 24 rfl rfl
theorem dksX3_next_3 : cX3_next.data.toList.drop 70 = dktX3_next_3 := dk_seg dksX3_next_2 22 rfl rfl
theorem dksX3_next_4 : cX3_next.data.toList.drop 94 = dktX3_next_4 := dk_seg dksX3_next_3 24 rfl rfl
theorem dksX3_next_5 : cX3_next.data.toList.drop 118 = dktX3_next_5 := dk_seg dksX3_next_4 24 rfl rfl
theorem dksX3_next_6 : cX3_next.data.toList.drop 142 = dktX3_next_6 := dk_seg dksX3_next_5 24 rfl rfl
theorem dX3_next_0 : decode cX3_next 0 = .ok (.aload_n 0, 1) := dk_42 (dk_at dksX3_next_0 0 rfl rfl)
theorem dX3_next_1 : decode cX3_next 1 = .ok (.aload_n 0, 1) := dk_42 (dk_at dksX3_next_0 1 rfl rfl)
theorem dX3_next_2 : decode cX3_next 2 = .ok (.getfield 43, 3) := dk_180 0 43 (dk_at dksX3_next_0 2 rfl rfl)
theorem dX3_next_5 : decode cX3_next 5 = .ok (.putfield 46, 3) := dk_181 0 46 (dk_at dksX3_next_0 5 rfl rfl)
theorem dX3_next_8 : decode cX3_next 8 = .ok (.aload_n 0, 1) := dk_42 (dk_at dksX3_next_0 8 rfl rfl)
theorem dX3_next_9 : decode cX3_next 9 = .ok (.getfield 46, 3) := dk_180 0 46 (dk_at dksX3_next_0 9 rfl rfl)
theorem dX3_next_12 : decode cX3_next 12 = .ok (.aload_n 0, 1) := dk_42 (dk_at dksX3_next_0 12 rfl rfl)
theorem dX3_next_13 : decode cX3_next 13 = .ok (.getfield 3, 3) := dk_180 0 3 (dk_at dksX3_next_0 13 rfl rfl)
theorem dX3_next_16 : decode cX3_next 16 = .ok (.getfield 35, 3) := dk_180 0 35 (dk_at dksX3_next_0 16 rfl rfl)
theorem dX3_next_19 : decode cX3_next 19 = .ok (.if_icmp .ge 42, 3) := dk_162 0 42 (dk_at dksX3_next_0 19 rfl rfl)
theorem dX3_next_22 : decode cX3_next 22 = .ok (.aload_n 0, 1) := dk_42 (dk_at dksX3_next_0 22 rfl rfl)
theorem dX3_next_23 : decode cX3_next 23 = .ok (.aload_n 0, 1) := dk_42 (dk_at dksX3_next_0 23 rfl rfl)
theorem dX3_next_24 : decode cX3_next 24 = .ok (.getfield 46, 3) := dk_180 0 46 (dk_at dksX3_next_1 0 rfl rfl)
theorem dX3_next_27 : decode cX3_next 27 = .ok (.invokevirtual 49, 3) := dk_182 0 49 (dk_at dksX3_next_1 3 rfl rfl)
theorem dX3_next_30 : decode cX3_next 30 = .ok (.bipush 32, 2) := dk_16 32 (dk_at dksX3_next_1 6 rfl rfl)
theorem dX3_next_32 : decode cX3_next 32 = .ok (.if_icmp .eq 16, 3) := dk_159 0 16 (dk_at dksX3_next_1 8 rfl rfl)
theorem dX3_next_35 : decode cX3_next 35 = .ok (.aload_n 0, 1) := dk_42 (dk_at dksX3_next_1 11 rfl rfl)
theorem dX3_next_36 : decode cX3_next 36 = .ok (.aload_n 0, 1) := dk_42 (dk_at dksX3_next_1 12 rfl rfl)
theorem dX3_next_37 : decode cX3_next 37 = .ok (.getfield 46, 3) := dk_180 0 46 (dk_at dksX3_next_1 13 rfl rfl)
theorem dX3_next_40 : decode cX3_next 40 = .ok (.invokevirtual 49, 3) := dk_182 0 49 (dk_at dksX3_next_1 16 rfl rfl)
theorem dX3_next_43 : decode cX3_next 43 = .ok (.bipush 10, 2) := dk_16 10 (dk_at dksX3_next_1 19 rfl rfl)
theorem dX3_next_45 : decode cX3_next 45 = .ok (.if_icmp .ne 16, 3) := dk_160 0 16 (dk_at dksX3_next_1 21 rfl rfl)
theorem dX3_next_48 : decode cX3_next 48 = .ok (.aload_n 0, 1) := dk_42 (dk_at dksX3_next_2 0 rfl rfl)
theorem dX3_next_49 : decode cX3_next 49 = .ok (.dup, 1) := dk_89 (dk_at dksX3_next_2 1 rfl rfl)
theorem dX3_next_50 : decode cX3_next 50 = .ok (.getfield 46, 3) := dk_180 0 46 (dk_at dksX3_next_2 2 rfl rfl)
theorem dX3_next_53 : decode cX3_next 53 = .ok (.iconst 1, 1) := dk_4 (dk_at dksX3_next_2 5 rfl rfl)
theorem dX3_next_54 : decode cX3_next 54 = .ok (.iadd, 1) := dk_96 (dk_at dksX3_next_2 6 rfl rfl)
theorem dX3_next_55 : decode cX3_next 55 = .ok (.putfield 46, 3) := dk_181 0 46 (dk_at dksX3_next_2 7 rfl rfl)
theorem dX3_next_58 : decode cX3_next 58 = .ok (.goto (-50), 3) := dk_167 255 206 (dk_at dksX3_next_2 10 rfl rfl)
theorem dX3_next_61 : decode cX3_next 61 = .ok (.aload_n 0, 1) := dk_42 (dk_at dksX3_next_2 13 rfl rfl)
theorem dX3_next_62 : decode cX3_next 62 = .ok (.aload_n 0, 1) := dk_42 (dk_at dksX3_next_2 14 rfl rfl)
theorem dX3_next_63 : decode cX3_next 63 = .ok (.getfield 46, 3) := dk_180 0 46 (dk_at dksX3_next_2 15 rfl rfl)
theorem dX3_next_66 : decode cX3_next 66 = .ok (.putfield 43, 3) := dk_181 0 43 (dk_at dksX3_next_2 18 rfl rfl)
theorem dX3_next_69 : decode cX3_next 69 = .ok (.aload_n 0, 1) := dk_42 (dk_at dksX3_next_2 21 rfl rfl)
theorem dX3_next_70 : decode cX3_next 70 = .ok (.getfield 46, 3) := dk_180 0 46 (dk_at dksX3_next_3 0 rfl rfl)
theorem dX3_next_73 : decode cX3_next 73 = .ok (.aload_n 0, 1) := dk_42 (dk_at dksX3_next_3 3 rfl rfl)
theorem dX3_next_74 : decode cX3_next 74 = .ok (.getfield 3, 3) := dk_180 0 3 (dk_at dksX3_next_3 4 rfl rfl)
theorem dX3_next_77 : decode cX3_next 77 = .ok (.getfield 35, 3) := dk_180 0 35 (dk_at dksX3_next_3 7 rfl rfl)
theorem dX3_next_80 : decode cX3_next 80 = .ok (.if_icmp .lt 11, 3) := dk_161 0 11 (dk_at dksX3_next_3 10 rfl rfl)
theorem dX3_next_83 : decode cX3_next 83 = .ok (.aload_n 0, 1) := dk_42 (dk_at dksX3_next_3 13 rfl rfl)
theorem dX3_next_84 : decode cX3_next 84 = .ok (.iconst 0, 1) := dk_3 (dk_at dksX3_next_3 14 rfl rfl)
theorem dX3_next_85 : decode cX3_next 85 = .ok (.putfield 53, 3) := dk_181 0 53 (dk_at dksX3_next_3 15 rfl rfl)
theorem dX3_next_88 : decode cX3_next 88 = .ok (.goto 75, 3) := dk_167 0 75 (dk_at dksX3_next_3 18 rfl rfl)
theorem dX3_next_91 : decode cX3_next 91 = .ok (.aload_n 0, 1) := dk_42 (dk_at dksX3_next_3 21 rfl rfl)
theorem dX3_next_92 : decode cX3_next 92 = .ok (.aload_n 0, 1) := dk_42 (dk_at dksX3_next_3 22 rfl rfl)
theorem dX3_next_93 : decode cX3_next 93 = .ok (.aload_n 0, 1) := dk_42 (dk_at dksX3_next_3 23 rfl rfl)
theorem dX3_next_94 : decode cX3_next 94 = .ok (.getfield 46, 3) := dk_180 0 46 (dk_at dksX3_next_4 0 rfl rfl)
theorem dX3_next_97 : decode cX3_next 97 = .ok (.invokevirtual 49, 3) := dk_182 0 49 (dk_at dksX3_next_4 3 rfl rfl)
theorem dX3_next_100 : decode cX3_next 100 = .ok (.invokevirtual 56, 3) := dk_182 0 56 (dk_at dksX3_next_4 6 rfl rfl)
theorem dX3_next_103 : decode cX3_next 103 = .ok (.ifCond .ne 18, 3) := dk_154 0 18 (dk_at dksX3_next_4 9 rfl rfl)
theorem dX3_next_106 : decode cX3_next 106 = .ok (.aload_n 0, 1) := dk_42 (dk_at dksX3_next_4 12 rfl rfl)
theorem dX3_next_107 : decode cX3_next 107 = .ok (.aload_n 0, 1) := dk_42 (dk_at dksX3_next_4 13 rfl rfl)
theorem dX3_next_108 : decode cX3_next 108 = .ok (.aload_n 0, 1) := dk_42 (dk_at dksX3_next_4 14 rfl rfl)
theorem dX3_next_109 : decode cX3_next 109 = .ok (.getfield 46, 3) := dk_180 0 46 (dk_at dksX3_next_4 15 rfl rfl)
theorem dX3_next_112 : decode cX3_next 112 = .ok (.invokevirtual 49, 3) := dk_182 0 49 (dk_at dksX3_next_4 18 rfl rfl)
theorem dX3_next_115 : decode cX3_next 115 = .ok (.invokevirtual 60, 3) := dk_182 0 60 (dk_at dksX3_next_4 21 rfl rfl)
theorem dX3_next_118 : decode cX3_next 118 = .ok (.ifCond .eq 10, 3) := dk_153 0 10 (dk_at dksX3_next_5 0 rfl rfl)
theorem dX3_next_121 : decode cX3_next 121 = .ok (.aload_n 0, 1) := dk_42 (dk_at dksX3_next_5 3 rfl rfl)
theorem dX3_next_122 : decode cX3_next 122 = .ok (.invokevirtual 63, 3) := dk_182 0 63 (dk_at dksX3_next_5 4 rfl rfl)
theorem dX3_next_125 : decode cX3_next 125 = .ok (.goto 38, 3) := dk_167 0 38 (dk_at dksX3_next_5 7 rfl rfl)
theorem dX3_next_128 : decode cX3_next 128 = .ok (.aload_n 0, 1) := dk_42 (dk_at dksX3_next_5 10 rfl rfl)
theorem dX3_next_129 : decode cX3_next 129 = .ok (.dup, 1) := dk_89 (dk_at dksX3_next_5 11 rfl rfl)
theorem dX3_next_130 : decode cX3_next 130 = .ok (.getfield 43, 3) := dk_180 0 43 (dk_at dksX3_next_5 12 rfl rfl)
theorem dX3_next_133 : decode cX3_next 133 = .ok (.iconst 1, 1) := dk_4 (dk_at dksX3_next_5 15 rfl rfl)
theorem dX3_next_134 : decode cX3_next 134 = .ok (.iadd, 1) := dk_96 (dk_at dksX3_next_5 16 rfl rfl)
theorem dX3_next_135 : decode cX3_next 135 = .ok (.putfield 43, 3) := dk_181 0 43 (dk_at dksX3_next_5 17 rfl rfl)
theorem dX3_next_138 : decode cX3_next 138 = .ok (.aload_n 0, 1) := dk_42 (dk_at dksX3_next_5 20 rfl rfl)
theorem dX3_next_139 : decode cX3_next 139 = .ok (.ldc 66, 2) := dk_18 66 (dk_at dksX3_next_5 21 rfl rfl)
theorem dX3_next_141 : decode cX3_next 141 = .ok (.aload_n 0, 1) := dk_42 (dk_at dksX3_next_5 23 rfl rfl)
theorem dX3_next_142 : decode cX3_next 142 = .ok (.aload_n 0, 1) := dk_42 (dk_at dksX3_next_6 0 rfl rfl)
theorem dX3_next_143 : decode cX3_next 143 = .ok (.getfield 46, 3) := dk_180 0 46 (dk_at dksX3_next_6 1 rfl rfl)
theorem dX3_next_146 : decode cX3_next 146 = .ok (.invokevirtual 49, 3) := dk_182 0 49 (dk_at dksX3_next_6 4 rfl rfl)
theorem dX3_next_149 : decode cX3_next 149 = .ok (.invokevirtual 68, 3) := dk_182 0 68 (dk_at dksX3_next_6 7 rfl rfl)
theorem dX3_next_152 : decode cX3_next 152 = .ok (.ifCond .lt 7, 3) := dk_155 0 7 (dk_at dksX3_next_6 10 rfl rfl)
theorem dX3_next_155 : decode cX3_next 155 = .ok (.iconst 4, 1) := dk_7 (dk_at dksX3_next_6 13 rfl rfl)
theorem dX3_next_156 : decode cX3_next 156 = .ok (.goto 4, 3) := dk_167 0 4 (dk_at dksX3_next_6 14 rfl rfl)
theorem dX3_next_159 : decode cX3_next 159 = .ok (.iconst 1, 1) := dk_4 (dk_at dksX3_next_6 17 rfl rfl)
theorem dX3_next_160 : decode cX3_next 160 = .ok (.putfield 53, 3) := dk_181 0 53 (dk_at dksX3_next_6 18 rfl rfl)
theorem dX3_next_163 : decode cX3_next 163 = .ok (.return_, 1) := dk_177 (dk_at dksX3_next_6 21 rfl rfl)
abbrev cX3_at : ByteArray := prog_12_method_2_code
def yX3_at : MethodName := ⟨RX3, "at", "(I)I"⟩
def dkwX3_at_1 : List UInt8 := [167, 0, 4, 3, 172]
abbrev dktX3_at_1 : List UInt8 := dkwX3_at_1 ++ []
def dkwX3_at_0 : List UInt8 := [27, 42, 180, 0, 3, 180, 0, 35, 162, 0, 19, 42, 180, 0, 3, 180, 0, 39, 27, 51, 17, 0, 255, 126]
abbrev dktX3_at_0 : List UInt8 := dkwX3_at_0 ++ dktX3_at_1
theorem dksX3_at_0 : cX3_at.data.toList.drop 0 = dktX3_at_0 := by decide +kernel
theorem dksX3_at_1 : cX3_at.data.toList.drop 24 = dktX3_at_1 := dk_seg dksX3_at_0 24 rfl rfl
theorem dX3_at_0 : decode cX3_at 0 = .ok (.iload_n 1, 1) := dk_27 (dk_at dksX3_at_0 0 rfl rfl)
theorem dX3_at_1 : decode cX3_at 1 = .ok (.aload_n 0, 1) := dk_42 (dk_at dksX3_at_0 1 rfl rfl)
theorem dX3_at_2 : decode cX3_at 2 = .ok (.getfield 3, 3) := dk_180 0 3 (dk_at dksX3_at_0 2 rfl rfl)
theorem dX3_at_5 : decode cX3_at 5 = .ok (.getfield 35, 3) := dk_180 0 35 (dk_at dksX3_at_0 5 rfl rfl)
theorem dX3_at_8 : decode cX3_at 8 = .ok (.if_icmp .ge 19, 3) := dk_162 0 19 (dk_at dksX3_at_0 8 rfl rfl)
theorem dX3_at_11 : decode cX3_at 11 = .ok (.aload_n 0, 1) := dk_42 (dk_at dksX3_at_0 11 rfl rfl)
theorem dX3_at_12 : decode cX3_at 12 = .ok (.getfield 3, 3) := dk_180 0 3 (dk_at dksX3_at_0 12 rfl rfl)
theorem dX3_at_15 : decode cX3_at 15 = .ok (.getfield 39, 3) := dk_180 0 39 (dk_at dksX3_at_0 15 rfl rfl)
theorem dX3_at_18 : decode cX3_at 18 = .ok (.iload_n 1, 1) := dk_27 (dk_at dksX3_at_0 18 rfl rfl)
theorem dX3_at_19 : decode cX3_at 19 = .ok (.baload, 1) := dk_51 (dk_at dksX3_at_0 19 rfl rfl)
theorem dX3_at_20 : decode cX3_at 20 = .ok (.sipush 255, 3) := dk_17 0 255 (dk_at dksX3_at_0 20 rfl rfl)
theorem dX3_at_23 : decode cX3_at 23 = .ok (.iand, 1) := dk_126 (dk_at dksX3_at_0 23 rfl rfl)
theorem dX3_at_24 : decode cX3_at 24 = .ok (.goto 4, 3) := dk_167 0 4 (dk_at dksX3_at_1 0 rfl rfl)
theorem dX3_at_27 : decode cX3_at 27 = .ok (.iconst 0, 1) := dk_3 (dk_at dksX3_at_1 3 rfl rfl)
theorem dX3_at_28 : decode cX3_at 28 = .ok (.ireturn, 1) := dk_172 (dk_at dksX3_at_1 4 rfl rfl)
abbrev cX3_isLetter : ByteArray := prog_12_method_3_code
def yX3_isLetter : MethodName := ⟨RX3, "isLetter", "(I)Z"⟩
def dkwX3_isLetter_0 : List UInt8 := [27, 16, 97, 161, 0, 13, 27, 16, 122, 163, 0, 7, 4, 167, 0, 4, 3, 172]
abbrev dktX3_isLetter_0 : List UInt8 := dkwX3_isLetter_0 ++ []
theorem dksX3_isLetter_0 : cX3_isLetter.data.toList.drop 0 = dktX3_isLetter_0 := by decide +kernel
theorem dX3_isLetter_0 : decode cX3_isLetter 0 = .ok (.iload_n 1, 1) := dk_27 (dk_at dksX3_isLetter_0 0 rfl rfl)
theorem dX3_isLetter_1 : decode cX3_isLetter 1 = .ok (.bipush 97, 2) := dk_16 97 (dk_at dksX3_isLetter_0 1 rfl rfl)
theorem dX3_isLetter_3 : decode cX3_isLetter 3 = .ok (.if_icmp .lt 13, 3) := dk_161 0 13 (dk_at dksX3_isLetter_0 3 rfl rfl)
theorem dX3_isLetter_6 : decode cX3_isLetter 6 = .ok (.iload_n 1, 1) := dk_27 (dk_at dksX3_isLetter_0 6 rfl rfl)
theorem dX3_isLetter_7 : decode cX3_isLetter 7 = .ok (.bipush 122, 2) := dk_16 122 (dk_at dksX3_isLetter_0 7 rfl rfl)
theorem dX3_isLetter_9 : decode cX3_isLetter 9 = .ok (.if_icmp .gt 7, 3) := dk_163 0 7 (dk_at dksX3_isLetter_0 9 rfl rfl)
theorem dX3_isLetter_12 : decode cX3_isLetter 12 = .ok (.iconst 1, 1) := dk_4 (dk_at dksX3_isLetter_0 12 rfl rfl)
theorem dX3_isLetter_13 : decode cX3_isLetter 13 = .ok (.goto 4, 3) := dk_167 0 4 (dk_at dksX3_isLetter_0 13 rfl rfl)
theorem dX3_isLetter_16 : decode cX3_isLetter 16 = .ok (.iconst 0, 1) := dk_3 (dk_at dksX3_isLetter_0 16 rfl rfl)
theorem dX3_isLetter_17 : decode cX3_isLetter 17 = .ok (.ireturn, 1) := dk_172 (dk_at dksX3_isLetter_0 17 rfl rfl)
abbrev cX3_isDigit : ByteArray := prog_12_method_4_code
def yX3_isDigit : MethodName := ⟨RX3, "isDigit", "(I)Z"⟩
def dkwX3_isDigit_0 : List UInt8 := [27, 16, 48, 161, 0, 13, 27, 16, 57, 163, 0, 7, 4, 167, 0, 4, 3, 172]
abbrev dktX3_isDigit_0 : List UInt8 := dkwX3_isDigit_0 ++ []
theorem dksX3_isDigit_0 : cX3_isDigit.data.toList.drop 0 = dktX3_isDigit_0 := by decide +kernel
theorem dX3_isDigit_0 : decode cX3_isDigit 0 = .ok (.iload_n 1, 1) := dk_27 (dk_at dksX3_isDigit_0 0 rfl rfl)
theorem dX3_isDigit_1 : decode cX3_isDigit 1 = .ok (.bipush 48, 2) := dk_16 48 (dk_at dksX3_isDigit_0 1 rfl rfl)
theorem dX3_isDigit_3 : decode cX3_isDigit 3 = .ok (.if_icmp .lt 13, 3) := dk_161 0 13 (dk_at dksX3_isDigit_0 3 rfl rfl)
theorem dX3_isDigit_6 : decode cX3_isDigit 6 = .ok (.iload_n 1, 1) := dk_27 (dk_at dksX3_isDigit_0 6 rfl rfl)
theorem dX3_isDigit_7 : decode cX3_isDigit 7 = .ok (.bipush 57, 2) := dk_16 57 (dk_at dksX3_isDigit_0 7 rfl rfl)
theorem dX3_isDigit_9 : decode cX3_isDigit 9 = .ok (.if_icmp .gt 7, 3) := dk_163 0 7 (dk_at dksX3_isDigit_0 9 rfl rfl)
theorem dX3_isDigit_12 : decode cX3_isDigit 12 = .ok (.iconst 1, 1) := dk_4 (dk_at dksX3_isDigit_0 12 rfl rfl)
theorem dX3_isDigit_13 : decode cX3_isDigit 13 = .ok (.goto 4, 3) := dk_167 0 4 (dk_at dksX3_isDigit_0 13 rfl rfl)
theorem dX3_isDigit_16 : decode cX3_isDigit 16 = .ok (.iconst 0, 1) := dk_3 (dk_at dksX3_isDigit_0 16 rfl rfl)
theorem dX3_isDigit_17 : decode cX3_isDigit 17 = .ok (.ireturn, 1) := dk_172 (dk_at dksX3_isDigit_0 17 rfl rfl)
abbrev cX3_row : ByteArray := prog_12_method_6_code
def yX3_row : MethodName := ⟨RX3, "row", "()V"⟩
def dkwX3_row_8 : List UInt8 := [180, 0, 73, 104, 42, 21, 4, 182, 0, 49, 96, 16, 48, 100, 181, 0, 73, 132, 4, 1, 167, 255, 223, 177]
abbrev dktX3_row_8 : List UInt8 := dkwX3_row_8 ++ []
def dkwX3_row_7 : List UInt8 := [160, 0, 45, 42, 180, 0, 46, 54, 4, 21, 4, 42, 180, 0, 43, 162, 0, 30, 42, 16, 10, 42]
abbrev dktX3_row_7 : List UInt8 := dkwX3_row_7 ++ dktX3_row_8
def dkwX3_row_6 : List UInt8 := [27, 153, 0, 7, 5, 167, 0, 4, 6, 181, 0, 53, 42, 3, 181, 0, 73, 42, 180, 0, 53, 6]
abbrev dktX3_row_6 : List UInt8 := dkwX3_row_6 ++ dktX3_row_7
def dkwX3_row_5 : List UInt8 := [167, 0, 5, 16, 9, 163, 0, 7, 4, 167, 0, 4, 3, 126, 62, 42, 29, 154, 0, 7, 4, 167, 0, 12]
abbrev dktX3_row_5 : List UInt8 := dkwX3_row_5 ++ dktX3_row_6
def dkwX3_row_4 : List UInt8 := [96, 181, 0, 43, 167, 255, 174, 29, 42, 180, 0, 43, 42, 180, 0, 46, 100, 27, 153, 0, 8, 16, 8]
abbrev dktX3_row_4 : List UInt8 := dkwX3_row_4 ++ dktX3_row_5
def dkwX3_row_3 : List UInt8 := [3, 126, 62, 28, 42, 42, 42, 180, 0, 43, 182, 0, 49, 182, 0, 60, 128, 61, 42, 89, 180, 0, 43, 4]
abbrev dktX3_row_3 : List UInt8 := dkwX3_row_3 ++ dktX3_row_4
def dkwX3_row_2 : List UInt8 := [29, 28, 153, 0, 18, 42, 42, 42, 180, 0, 43, 182, 0, 49, 182, 0, 60, 153, 0, 7, 4, 167, 0, 4]
abbrev dktX3_row_2 : List UInt8 := dkwX3_row_2 ++ dktX3_row_3
def dkwX3_row_1 : List UInt8 := [182, 0, 49, 182, 0, 56, 154, 0, 18, 42, 42, 42, 180, 0, 43, 182, 0, 49, 182, 0, 60, 153, 0, 58]
abbrev dktX3_row_1 : List UInt8 := dkwX3_row_1 ++ dktX3_row_2
def dkwX3_row_0 : List UInt8 := [42, 42, 42, 180, 0, 46, 182, 0, 49, 182, 0, 56, 60, 3, 61, 4, 62, 42, 42, 42, 180, 0, 43]
abbrev dktX3_row_0 : List UInt8 := dkwX3_row_0 ++ dktX3_row_1
theorem dksX3_row_0 : cX3_row.data.toList.drop 0 = dktX3_row_0 := by decide +kernel
theorem dksX3_row_1 : cX3_row.data.toList.drop 23 = dktX3_row_1 := dk_seg dksX3_row_0 23 rfl rfl
theorem dksX3_row_2 : cX3_row.data.toList.drop 47 = dktX3_row_2 := dk_seg dksX3_row_1 24 rfl rfl
theorem dksX3_row_3 : cX3_row.data.toList.drop 71 = dktX3_row_3 := dk_seg dksX3_row_2 24 rfl rfl
theorem dksX3_row_4 : cX3_row.data.toList.drop 95 = dktX3_row_4 := dk_seg dksX3_row_3 24 rfl rfl
theorem dksX3_row_5 : cX3_row.data.toList.drop 118 = dktX3_row_5 := dk_seg dksX3_row_4 23 rfl rfl
theorem dksX3_row_6 : cX3_row.data.toList.drop 142 = dktX3_row_6 := dk_seg dksX3_row_5 24 rfl rfl
theorem dksX3_row_7 : cX3_row.data.toList.drop 164 = dktX3_row_7 := dk_seg dksX3_row_6 22 rfl rfl
theorem dksX3_row_8 : cX3_row.data.toList.drop 186 = dktX3_row_8 := dk_seg dksX3_row_7 22 rfl rfl
theorem dX3_row_0 : decode cX3_row 0 = .ok (.aload_n 0, 1) := dk_42 (dk_at dksX3_row_0 0 rfl rfl)
theorem dX3_row_1 : decode cX3_row 1 = .ok (.aload_n 0, 1) := dk_42 (dk_at dksX3_row_0 1 rfl rfl)
theorem dX3_row_2 : decode cX3_row 2 = .ok (.aload_n 0, 1) := dk_42 (dk_at dksX3_row_0 2 rfl rfl)
theorem dX3_row_3 : decode cX3_row 3 = .ok (.getfield 46, 3) := dk_180 0 46 (dk_at dksX3_row_0 3 rfl rfl)
theorem dX3_row_6 : decode cX3_row 6 = .ok (.invokevirtual 49, 3) := dk_182 0 49 (dk_at dksX3_row_0 6 rfl rfl)
theorem dX3_row_9 : decode cX3_row 9 = .ok (.invokevirtual 56, 3) := dk_182 0 56 (dk_at dksX3_row_0 9 rfl rfl)
theorem dX3_row_12 : decode cX3_row 12 = .ok (.istore_n 1, 1) := dk_60 (dk_at dksX3_row_0 12 rfl rfl)
theorem dX3_row_13 : decode cX3_row 13 = .ok (.iconst 0, 1) := dk_3 (dk_at dksX3_row_0 13 rfl rfl)
theorem dX3_row_14 : decode cX3_row 14 = .ok (.istore_n 2, 1) := dk_61 (dk_at dksX3_row_0 14 rfl rfl)
theorem dX3_row_15 : decode cX3_row 15 = .ok (.iconst 1, 1) := dk_4 (dk_at dksX3_row_0 15 rfl rfl)
theorem dX3_row_16 : decode cX3_row 16 = .ok (.istore_n 3, 1) := dk_62 (dk_at dksX3_row_0 16 rfl rfl)
theorem dX3_row_17 : decode cX3_row 17 = .ok (.aload_n 0, 1) := dk_42 (dk_at dksX3_row_0 17 rfl rfl)
theorem dX3_row_18 : decode cX3_row 18 = .ok (.aload_n 0, 1) := dk_42 (dk_at dksX3_row_0 18 rfl rfl)
theorem dX3_row_19 : decode cX3_row 19 = .ok (.aload_n 0, 1) := dk_42 (dk_at dksX3_row_0 19 rfl rfl)
theorem dX3_row_20 : decode cX3_row 20 = .ok (.getfield 43, 3) := dk_180 0 43 (dk_at dksX3_row_0 20 rfl rfl)
theorem dX3_row_23 : decode cX3_row 23 = .ok (.invokevirtual 49, 3) := dk_182 0 49 (dk_at dksX3_row_1 0 rfl rfl)
theorem dX3_row_26 : decode cX3_row 26 = .ok (.invokevirtual 56, 3) := dk_182 0 56 (dk_at dksX3_row_1 3 rfl rfl)
theorem dX3_row_29 : decode cX3_row 29 = .ok (.ifCond .ne 18, 3) := dk_154 0 18 (dk_at dksX3_row_1 6 rfl rfl)
theorem dX3_row_32 : decode cX3_row 32 = .ok (.aload_n 0, 1) := dk_42 (dk_at dksX3_row_1 9 rfl rfl)
theorem dX3_row_33 : decode cX3_row 33 = .ok (.aload_n 0, 1) := dk_42 (dk_at dksX3_row_1 10 rfl rfl)
theorem dX3_row_34 : decode cX3_row 34 = .ok (.aload_n 0, 1) := dk_42 (dk_at dksX3_row_1 11 rfl rfl)
theorem dX3_row_35 : decode cX3_row 35 = .ok (.getfield 43, 3) := dk_180 0 43 (dk_at dksX3_row_1 12 rfl rfl)
theorem dX3_row_38 : decode cX3_row 38 = .ok (.invokevirtual 49, 3) := dk_182 0 49 (dk_at dksX3_row_1 15 rfl rfl)
theorem dX3_row_41 : decode cX3_row 41 = .ok (.invokevirtual 60, 3) := dk_182 0 60 (dk_at dksX3_row_1 18 rfl rfl)
theorem dX3_row_44 : decode cX3_row 44 = .ok (.ifCond .eq 58, 3) := dk_153 0 58 (dk_at dksX3_row_1 21 rfl rfl)
theorem dX3_row_47 : decode cX3_row 47 = .ok (.iload_n 3, 1) := dk_29 (dk_at dksX3_row_2 0 rfl rfl)
theorem dX3_row_48 : decode cX3_row 48 = .ok (.iload_n 2, 1) := dk_28 (dk_at dksX3_row_2 1 rfl rfl)
theorem dX3_row_49 : decode cX3_row 49 = .ok (.ifCond .eq 18, 3) := dk_153 0 18 (dk_at dksX3_row_2 2 rfl rfl)
theorem dX3_row_52 : decode cX3_row 52 = .ok (.aload_n 0, 1) := dk_42 (dk_at dksX3_row_2 5 rfl rfl)
theorem dX3_row_53 : decode cX3_row 53 = .ok (.aload_n 0, 1) := dk_42 (dk_at dksX3_row_2 6 rfl rfl)
theorem dX3_row_54 : decode cX3_row 54 = .ok (.aload_n 0, 1) := dk_42 (dk_at dksX3_row_2 7 rfl rfl)
theorem dX3_row_55 : decode cX3_row 55 = .ok (.getfield 43, 3) := dk_180 0 43 (dk_at dksX3_row_2 8 rfl rfl)
theorem dX3_row_58 : decode cX3_row 58 = .ok (.invokevirtual 49, 3) := dk_182 0 49 (dk_at dksX3_row_2 11 rfl rfl)
theorem dX3_row_61 : decode cX3_row 61 = .ok (.invokevirtual 60, 3) := dk_182 0 60 (dk_at dksX3_row_2 14 rfl rfl)
theorem dX3_row_64 : decode cX3_row 64 = .ok (.ifCond .eq 7, 3) := dk_153 0 7 (dk_at dksX3_row_2 17 rfl rfl)
theorem dX3_row_67 : decode cX3_row 67 = .ok (.iconst 1, 1) := dk_4 (dk_at dksX3_row_2 20 rfl rfl)
theorem dX3_row_68 : decode cX3_row 68 = .ok (.goto 4, 3) := dk_167 0 4 (dk_at dksX3_row_2 21 rfl rfl)
theorem dX3_row_71 : decode cX3_row 71 = .ok (.iconst 0, 1) := dk_3 (dk_at dksX3_row_3 0 rfl rfl)
theorem dX3_row_72 : decode cX3_row 72 = .ok (.iand, 1) := dk_126 (dk_at dksX3_row_3 1 rfl rfl)
theorem dX3_row_73 : decode cX3_row 73 = .ok (.istore_n 3, 1) := dk_62 (dk_at dksX3_row_3 2 rfl rfl)
theorem dX3_row_74 : decode cX3_row 74 = .ok (.iload_n 2, 1) := dk_28 (dk_at dksX3_row_3 3 rfl rfl)
theorem dX3_row_75 : decode cX3_row 75 = .ok (.aload_n 0, 1) := dk_42 (dk_at dksX3_row_3 4 rfl rfl)
theorem dX3_row_76 : decode cX3_row 76 = .ok (.aload_n 0, 1) := dk_42 (dk_at dksX3_row_3 5 rfl rfl)
theorem dX3_row_77 : decode cX3_row 77 = .ok (.aload_n 0, 1) := dk_42 (dk_at dksX3_row_3 6 rfl rfl)
theorem dX3_row_78 : decode cX3_row 78 = .ok (.getfield 43, 3) := dk_180 0 43 (dk_at dksX3_row_3 7 rfl rfl)
theorem dX3_row_81 : decode cX3_row 81 = .ok (.invokevirtual 49, 3) := dk_182 0 49 (dk_at dksX3_row_3 10 rfl rfl)
theorem dX3_row_84 : decode cX3_row 84 = .ok (.invokevirtual 60, 3) := dk_182 0 60 (dk_at dksX3_row_3 13 rfl rfl)
theorem dX3_row_87 : decode cX3_row 87 = .ok (.ior, 1) := dk_128 (dk_at dksX3_row_3 16 rfl rfl)
theorem dX3_row_88 : decode cX3_row 88 = .ok (.istore_n 2, 1) := dk_61 (dk_at dksX3_row_3 17 rfl rfl)
theorem dX3_row_89 : decode cX3_row 89 = .ok (.aload_n 0, 1) := dk_42 (dk_at dksX3_row_3 18 rfl rfl)
theorem dX3_row_90 : decode cX3_row 90 = .ok (.dup, 1) := dk_89 (dk_at dksX3_row_3 19 rfl rfl)
theorem dX3_row_91 : decode cX3_row 91 = .ok (.getfield 43, 3) := dk_180 0 43 (dk_at dksX3_row_3 20 rfl rfl)
theorem dX3_row_94 : decode cX3_row 94 = .ok (.iconst 1, 1) := dk_4 (dk_at dksX3_row_3 23 rfl rfl)
theorem dX3_row_95 : decode cX3_row 95 = .ok (.iadd, 1) := dk_96 (dk_at dksX3_row_4 0 rfl rfl)
theorem dX3_row_96 : decode cX3_row 96 = .ok (.putfield 43, 3) := dk_181 0 43 (dk_at dksX3_row_4 1 rfl rfl)
theorem dX3_row_99 : decode cX3_row 99 = .ok (.goto (-82), 3) := dk_167 255 174 (dk_at dksX3_row_4 4 rfl rfl)
theorem dX3_row_102 : decode cX3_row 102 = .ok (.iload_n 3, 1) := dk_29 (dk_at dksX3_row_4 7 rfl rfl)
theorem dX3_row_103 : decode cX3_row 103 = .ok (.aload_n 0, 1) := dk_42 (dk_at dksX3_row_4 8 rfl rfl)
theorem dX3_row_104 : decode cX3_row 104 = .ok (.getfield 43, 3) := dk_180 0 43 (dk_at dksX3_row_4 9 rfl rfl)
theorem dX3_row_107 : decode cX3_row 107 = .ok (.aload_n 0, 1) := dk_42 (dk_at dksX3_row_4 12 rfl rfl)
theorem dX3_row_108 : decode cX3_row 108 = .ok (.getfield 46, 3) := dk_180 0 46 (dk_at dksX3_row_4 13 rfl rfl)
theorem dX3_row_111 : decode cX3_row 111 = .ok (.isub, 1) := dk_100 (dk_at dksX3_row_4 16 rfl rfl)
theorem dX3_row_112 : decode cX3_row 112 = .ok (.iload_n 1, 1) := dk_27 (dk_at dksX3_row_4 17 rfl rfl)
theorem dX3_row_113 : decode cX3_row 113 = .ok (.ifCond .eq 8, 3) := dk_153 0 8 (dk_at dksX3_row_4 18 rfl rfl)
theorem dX3_row_116 : decode cX3_row 116 = .ok (.bipush 8, 2) := dk_16 8 (dk_at dksX3_row_4 21 rfl rfl)
theorem dX3_row_118 : decode cX3_row 118 = .ok (.goto 5, 3) := dk_167 0 5 (dk_at dksX3_row_5 0 rfl rfl)
theorem dX3_row_121 : decode cX3_row 121 = .ok (.bipush 9, 2) := dk_16 9 (dk_at dksX3_row_5 3 rfl rfl)
theorem dX3_row_123 : decode cX3_row 123 = .ok (.if_icmp .gt 7, 3) := dk_163 0 7 (dk_at dksX3_row_5 5 rfl rfl)
theorem dX3_row_126 : decode cX3_row 126 = .ok (.iconst 1, 1) := dk_4 (dk_at dksX3_row_5 8 rfl rfl)
theorem dX3_row_127 : decode cX3_row 127 = .ok (.goto 4, 3) := dk_167 0 4 (dk_at dksX3_row_5 9 rfl rfl)
theorem dX3_row_130 : decode cX3_row 130 = .ok (.iconst 0, 1) := dk_3 (dk_at dksX3_row_5 12 rfl rfl)
theorem dX3_row_131 : decode cX3_row 131 = .ok (.iand, 1) := dk_126 (dk_at dksX3_row_5 13 rfl rfl)
theorem dX3_row_132 : decode cX3_row 132 = .ok (.istore_n 3, 1) := dk_62 (dk_at dksX3_row_5 14 rfl rfl)
theorem dX3_row_133 : decode cX3_row 133 = .ok (.aload_n 0, 1) := dk_42 (dk_at dksX3_row_5 15 rfl rfl)
theorem dX3_row_134 : decode cX3_row 134 = .ok (.iload_n 3, 1) := dk_29 (dk_at dksX3_row_5 16 rfl rfl)
theorem dX3_row_135 : decode cX3_row 135 = .ok (.ifCond .ne 7, 3) := dk_154 0 7 (dk_at dksX3_row_5 17 rfl rfl)
theorem dX3_row_138 : decode cX3_row 138 = .ok (.iconst 1, 1) := dk_4 (dk_at dksX3_row_5 20 rfl rfl)
theorem dX3_row_139 : decode cX3_row 139 = .ok (.goto 12, 3) := dk_167 0 12 (dk_at dksX3_row_5 21 rfl rfl)
theorem dX3_row_142 : decode cX3_row 142 = .ok (.iload_n 1, 1) := dk_27 (dk_at dksX3_row_6 0 rfl rfl)
theorem dX3_row_143 : decode cX3_row 143 = .ok (.ifCond .eq 7, 3) := dk_153 0 7 (dk_at dksX3_row_6 1 rfl rfl)
theorem dX3_row_146 : decode cX3_row 146 = .ok (.iconst 2, 1) := dk_5 (dk_at dksX3_row_6 4 rfl rfl)
theorem dX3_row_147 : decode cX3_row 147 = .ok (.goto 4, 3) := dk_167 0 4 (dk_at dksX3_row_6 5 rfl rfl)
theorem dX3_row_150 : decode cX3_row 150 = .ok (.iconst 3, 1) := dk_6 (dk_at dksX3_row_6 8 rfl rfl)
theorem dX3_row_151 : decode cX3_row 151 = .ok (.putfield 53, 3) := dk_181 0 53 (dk_at dksX3_row_6 9 rfl rfl)
theorem dX3_row_154 : decode cX3_row 154 = .ok (.aload_n 0, 1) := dk_42 (dk_at dksX3_row_6 12 rfl rfl)
theorem dX3_row_155 : decode cX3_row 155 = .ok (.iconst 0, 1) := dk_3 (dk_at dksX3_row_6 13 rfl rfl)
theorem dX3_row_156 : decode cX3_row 156 = .ok (.putfield 73, 3) := dk_181 0 73 (dk_at dksX3_row_6 14 rfl rfl)
theorem dX3_row_159 : decode cX3_row 159 = .ok (.aload_n 0, 1) := dk_42 (dk_at dksX3_row_6 17 rfl rfl)
theorem dX3_row_160 : decode cX3_row 160 = .ok (.getfield 53, 3) := dk_180 0 53 (dk_at dksX3_row_6 18 rfl rfl)
theorem dX3_row_163 : decode cX3_row 163 = .ok (.iconst 3, 1) := dk_6 (dk_at dksX3_row_6 21 rfl rfl)
theorem dX3_row_164 : decode cX3_row 164 = .ok (.if_icmp .ne 45, 3) := dk_160 0 45 (dk_at dksX3_row_7 0 rfl rfl)
theorem dX3_row_167 : decode cX3_row 167 = .ok (.aload_n 0, 1) := dk_42 (dk_at dksX3_row_7 3 rfl rfl)
theorem dX3_row_168 : decode cX3_row 168 = .ok (.getfield 46, 3) := dk_180 0 46 (dk_at dksX3_row_7 4 rfl rfl)
theorem dX3_row_171 : decode cX3_row 171 = .ok (.istore 4, 2) := dk_54 4 (dk_at dksX3_row_7 7 rfl rfl)
theorem dX3_row_173 : decode cX3_row 173 = .ok (.iload 4, 2) := dk_21 4 (dk_at dksX3_row_7 9 rfl rfl)
theorem dX3_row_175 : decode cX3_row 175 = .ok (.aload_n 0, 1) := dk_42 (dk_at dksX3_row_7 11 rfl rfl)
theorem dX3_row_176 : decode cX3_row 176 = .ok (.getfield 43, 3) := dk_180 0 43 (dk_at dksX3_row_7 12 rfl rfl)
theorem dX3_row_179 : decode cX3_row 179 = .ok (.if_icmp .ge 30, 3) := dk_162 0 30 (dk_at dksX3_row_7 15 rfl rfl)
theorem dX3_row_182 : decode cX3_row 182 = .ok (.aload_n 0, 1) := dk_42 (dk_at dksX3_row_7 18 rfl rfl)
theorem dX3_row_183 : decode cX3_row 183 = .ok (.bipush 10, 2) := dk_16 10 (dk_at dksX3_row_7 19 rfl rfl)
theorem dX3_row_185 : decode cX3_row 185 = .ok (.aload_n 0, 1) := dk_42 (dk_at dksX3_row_7 21 rfl rfl)
theorem dX3_row_186 : decode cX3_row 186 = .ok (.getfield 73, 3) := dk_180 0 73 (dk_at dksX3_row_8 0 rfl rfl)
theorem dX3_row_189 : decode cX3_row 189 = .ok (.imul, 1) := dk_104 (dk_at dksX3_row_8 3 rfl rfl)
theorem dX3_row_190 : decode cX3_row 190 = .ok (.aload_n 0, 1) := dk_42 (dk_at dksX3_row_8 4 rfl rfl)
theorem dX3_row_191 : decode cX3_row 191 = .ok (.iload 4, 2) := dk_21 4 (dk_at dksX3_row_8 5 rfl rfl)
theorem dX3_row_193 : decode cX3_row 193 = .ok (.invokevirtual 49, 3) := dk_182 0 49 (dk_at dksX3_row_8 7 rfl rfl)
theorem dX3_row_196 : decode cX3_row 196 = .ok (.iadd, 1) := dk_96 (dk_at dksX3_row_8 10 rfl rfl)
theorem dX3_row_197 : decode cX3_row 197 = .ok (.bipush 48, 2) := dk_16 48 (dk_at dksX3_row_8 11 rfl rfl)
theorem dX3_row_199 : decode cX3_row 199 = .ok (.isub, 1) := dk_100 (dk_at dksX3_row_8 13 rfl rfl)
theorem dX3_row_200 : decode cX3_row 200 = .ok (.putfield 73, 3) := dk_181 0 73 (dk_at dksX3_row_8 14 rfl rfl)
theorem dX3_row_203 : decode cX3_row 203 = .ok (.iinc 4 1, 3) := dk_132 4 1 (dk_at dksX3_row_8 17 rfl rfl)
theorem dX3_row_206 : decode cX3_row 206 = .ok (.goto (-33), 3) := dk_167 255 223 (dk_at dksX3_row_8 20 rfl rfl)
theorem dX3_row_209 : decode cX3_row 209 = .ok (.return_, 1) := dk_177 (dk_at dksX3_row_8 23 rfl rfl)
abbrev cX3_block : ByteArray := prog_12_method_14_code
def yX3_block : MethodName := ⟨RX3, "block", "()V"⟩
def dkwX3_block_9 : List UInt8 := [182, 0, 125, 87, 25, 5, 193, 0, 155, 62, 167, 255, 122, 177]
abbrev dktX3_block_9 : List UInt8 := dkwX3_block_9 ++ []
def dkwX3_block_8 : List UInt8 := [89, 180, 0, 148, 4, 96, 181, 0, 148, 42, 182, 0, 151, 58, 5, 42, 16, 59, 182, 0, 129, 44, 25, 5]
abbrev dktX3_block_8 : List UInt8 := dkwX3_block_8 ++ dktX3_block_9
def dkwX3_block_7 : List UInt8 := [191, 42, 180, 0, 18, 180, 0, 148, 17, 0, 160, 160, 0, 9, 42, 6, 182, 0, 85, 191, 42, 180, 0, 18]
abbrev dktX3_block_7 : List UInt8 := dkwX3_block_7 ++ dktX3_block_8
def dkwX3_block_6 : List UInt8 := [182, 0, 100, 2, 159, 0, 7, 4, 167, 0, 4, 3, 54, 4, 21, 4, 154, 0, 9, 42, 5, 182, 0, 85]
abbrev dktX3_block_6 : List UInt8 := dkwX3_block_6 ++ dktX3_block_7
def dkwX3_block_5 : List UInt8 := [154, 0, 31, 42, 18, 143, 182, 0, 135, 154, 0, 22, 42, 182, 0, 145, 2, 160, 0, 14, 42, 16, 114, 4]
abbrev dktX3_block_5 : List UInt8 := dkwX3_block_5 ++ dktX3_block_6
def dkwX3_block_4 : List UInt8 := [18, 133, 182, 0, 135, 154, 0, 49, 42, 18, 139, 182, 0, 135, 154, 0, 40, 42, 18, 141, 182, 0, 135]
abbrev dktX3_block_4 : List UInt8 := dkwX3_block_4 ++ dktX3_block_5
def dkwX3_block_3 : List UInt8 := [183, 0, 24, 77, 42, 180, 0, 18, 180, 0, 113, 44, 182, 0, 125, 87, 3, 62, 29, 154, 0, 136, 42]
abbrev dktX3_block_3 : List UInt8 := dkwX3_block_3 ++ dktX3_block_4
def dkwX3_block_2 : List UInt8 := [180, 0, 46, 184, 0, 119, 182, 0, 125, 87, 42, 182, 0, 89, 42, 16, 58, 182, 0, 129, 187, 0, 22, 89]
abbrev dktX3_block_2 : List UInt8 := dkwX3_block_2 ++ dktX3_block_3
def dkwX3_block_1 : List UInt8 := [42, 16, 98, 16, 39, 182, 0, 100, 159, 0, 9, 42, 5, 182, 0, 85, 191, 42, 180, 0, 32, 42]
abbrev dktX3_block_1 : List UInt8 := dkwX3_block_1 ++ dktX3_block_2
def dkwX3_block_0 : List UInt8 := [42, 180, 0, 18, 180, 0, 113, 182, 0, 116, 60, 27, 16, 40, 160, 0, 9, 42, 6, 182, 0, 85, 191, 27]
abbrev dktX3_block_0 : List UInt8 := dkwX3_block_0 ++ dktX3_block_1
theorem dksX3_block_0 : cX3_block.data.toList.drop 0 = dktX3_block_0 := by decide +kernel
theorem dksX3_block_1 : cX3_block.data.toList.drop 24 = dktX3_block_1 := dk_seg dksX3_block_0 24 rfl rfl
theorem dksX3_block_2 : cX3_block.data.toList.drop 46 = dktX3_block_2 := dk_seg dksX3_block_1 22 rfl rfl
theorem dksX3_block_3 : cX3_block.data.toList.drop 70 = dktX3_block_3 := dk_seg dksX3_block_2 24 rfl rfl
theorem dksX3_block_4 : cX3_block.data.toList.drop 93 = dktX3_block_4 := dk_seg dksX3_block_3 23 rfl rfl
theorem dksX3_block_5 : cX3_block.data.toList.drop 116 = dktX3_block_5 := dk_seg dksX3_block_4 23 rfl rfl
theorem dksX3_block_6 : cX3_block.data.toList.drop 140 = dktX3_block_6 := dk_seg dksX3_block_5 24 rfl rfl
theorem dksX3_block_7 : cX3_block.data.toList.drop 164 = dktX3_block_7 := dk_seg dksX3_block_6 24 rfl rfl
theorem dksX3_block_8 : cX3_block.data.toList.drop 188 = dktX3_block_8 := dk_seg dksX3_block_7 24 rfl rfl
theorem dksX3_block_9 : cX3_block.data.toList.drop 212 = dktX3_block_9 := dk_seg dksX3_block_8 24 rfl rfl
theorem dX3_block_0 : decode cX3_block 0 = .ok (.aload_n 0, 1) := dk_42 (dk_at dksX3_block_0 0 rfl rfl)
theorem dX3_block_1 : decode cX3_block 1 = .ok (.getfield 18, 3) := dk_180 0 18 (dk_at dksX3_block_0 1 rfl rfl)
theorem dX3_block_4 : decode cX3_block 4 = .ok (.getfield 113, 3) := dk_180 0 113 (dk_at dksX3_block_0 4 rfl rfl)
theorem dX3_block_7 : decode cX3_block 7 = .ok (.invokevirtual 116, 3) := dk_182 0 116 (dk_at dksX3_block_0 7 rfl rfl)
theorem dX3_block_10 : decode cX3_block 10 = .ok (.istore_n 1, 1) := dk_60 (dk_at dksX3_block_0 10 rfl rfl)
theorem dX3_block_11 : decode cX3_block 11 = .ok (.iload_n 1, 1) := dk_27 (dk_at dksX3_block_0 11 rfl rfl)
theorem dX3_block_12 : decode cX3_block 12 = .ok (.bipush 40, 2) := dk_16 40 (dk_at dksX3_block_0 12 rfl rfl)
theorem dX3_block_14 : decode cX3_block 14 = .ok (.if_icmp .ne 9, 3) := dk_160 0 9 (dk_at dksX3_block_0 14 rfl rfl)
theorem dX3_block_17 : decode cX3_block 17 = .ok (.aload_n 0, 1) := dk_42 (dk_at dksX3_block_0 17 rfl rfl)
theorem dX3_block_18 : decode cX3_block 18 = .ok (.iconst 3, 1) := dk_6 (dk_at dksX3_block_0 18 rfl rfl)
theorem dX3_block_19 : decode cX3_block 19 = .ok (.invokevirtual 85, 3) := dk_182 0 85 (dk_at dksX3_block_0 19 rfl rfl)
theorem dX3_block_22 : decode cX3_block 22 = .ok (.athrow, 1) := dk_191 (dk_at dksX3_block_0 22 rfl rfl)
theorem dX3_block_23 : decode cX3_block 23 = .ok (.iload_n 1, 1) := dk_27 (dk_at dksX3_block_0 23 rfl rfl)
theorem dX3_block_24 : decode cX3_block 24 = .ok (.aload_n 0, 1) := dk_42 (dk_at dksX3_block_1 0 rfl rfl)
theorem dX3_block_25 : decode cX3_block 25 = .ok (.bipush 98, 2) := dk_16 98 (dk_at dksX3_block_1 1 rfl rfl)
theorem dX3_block_27 : decode cX3_block 27 = .ok (.bipush 39, 2) := dk_16 39 (dk_at dksX3_block_1 3 rfl rfl)
theorem dX3_block_29 : decode cX3_block 29 = .ok (.invokevirtual 100, 3) := dk_182 0 100 (dk_at dksX3_block_1 5 rfl rfl)
theorem dX3_block_32 : decode cX3_block 32 = .ok (.if_icmp .eq 9, 3) := dk_159 0 9 (dk_at dksX3_block_1 8 rfl rfl)
theorem dX3_block_35 : decode cX3_block 35 = .ok (.aload_n 0, 1) := dk_42 (dk_at dksX3_block_1 11 rfl rfl)
theorem dX3_block_36 : decode cX3_block 36 = .ok (.iconst 2, 1) := dk_5 (dk_at dksX3_block_1 12 rfl rfl)
theorem dX3_block_37 : decode cX3_block 37 = .ok (.invokevirtual 85, 3) := dk_182 0 85 (dk_at dksX3_block_1 13 rfl rfl)
theorem dX3_block_40 : decode cX3_block 40 = .ok (.athrow, 1) := dk_191 (dk_at dksX3_block_1 16 rfl rfl)
theorem dX3_block_41 : decode cX3_block 41 = .ok (.aload_n 0, 1) := dk_42 (dk_at dksX3_block_1 17 rfl rfl)
theorem dX3_block_42 : decode cX3_block 42 = .ok (.getfield 32, 3) := dk_180 0 32 (dk_at dksX3_block_1 18 rfl rfl)
theorem dX3_block_45 : decode cX3_block 45 = .ok (.aload_n 0, 1) := dk_42 (dk_at dksX3_block_1 21 rfl rfl)
theorem dX3_block_46 : decode cX3_block 46 = .ok (.getfield 46, 3) := dk_180 0 46 (dk_at dksX3_block_2 0 rfl rfl)
theorem dX3_block_49 : decode cX3_block 49 = .ok (.invokestatic 119, 3) := dk_184 0 119 (dk_at dksX3_block_2 3 rfl rfl)
theorem dX3_block_52 : decode cX3_block 52 = .ok (.invokevirtual 125, 3) := dk_182 0 125 (dk_at dksX3_block_2 6 rfl rfl)
theorem dX3_block_55 : decode cX3_block 55 = .ok (.pop, 1) := dk_87 (dk_at dksX3_block_2 9 rfl rfl)
theorem dX3_block_56 : decode cX3_block 56 = .ok (.aload_n 0, 1) := dk_42 (dk_at dksX3_block_2 10 rfl rfl)
theorem dX3_block_57 : decode cX3_block 57 = .ok (.invokevirtual 89, 3) := dk_182 0 89 (dk_at dksX3_block_2 11 rfl rfl)
theorem dX3_block_60 : decode cX3_block 60 = .ok (.aload_n 0, 1) := dk_42 (dk_at dksX3_block_2 14 rfl rfl)
theorem dX3_block_61 : decode cX3_block 61 = .ok (.bipush 58, 2) := dk_16 58 (dk_at dksX3_block_2 15 rfl rfl)
theorem dX3_block_63 : decode cX3_block 63 = .ok (.invokevirtual 129, 3) := dk_182 0 129 (dk_at dksX3_block_2 17 rfl rfl)
theorem dX3_block_66 : decode cX3_block 66 = .ok (.new 22, 3) := dk_187 0 22 (dk_at dksX3_block_2 20 rfl rfl)
theorem dX3_block_69 : decode cX3_block 69 = .ok (.dup, 1) := dk_89 (dk_at dksX3_block_2 23 rfl rfl)
theorem dX3_block_70 : decode cX3_block 70 = .ok (.invokespecial 24, 3) := dk_183 0 24 (dk_at dksX3_block_3 0 rfl rfl)
theorem dX3_block_73 : decode cX3_block 73 = .ok (.astore_n 2, 1) := dk_77 (dk_at dksX3_block_3 3 rfl rfl)
theorem dX3_block_74 : decode cX3_block 74 = .ok (.aload_n 0, 1) := dk_42 (dk_at dksX3_block_3 4 rfl rfl)
theorem dX3_block_75 : decode cX3_block 75 = .ok (.getfield 18, 3) := dk_180 0 18 (dk_at dksX3_block_3 5 rfl rfl)
theorem dX3_block_78 : decode cX3_block 78 = .ok (.getfield 113, 3) := dk_180 0 113 (dk_at dksX3_block_3 8 rfl rfl)
theorem dX3_block_81 : decode cX3_block 81 = .ok (.aload_n 2, 1) := dk_44 (dk_at dksX3_block_3 11 rfl rfl)
theorem dX3_block_82 : decode cX3_block 82 = .ok (.invokevirtual 125, 3) := dk_182 0 125 (dk_at dksX3_block_3 12 rfl rfl)
theorem dX3_block_85 : decode cX3_block 85 = .ok (.pop, 1) := dk_87 (dk_at dksX3_block_3 15 rfl rfl)
theorem dX3_block_86 : decode cX3_block 86 = .ok (.iconst 0, 1) := dk_3 (dk_at dksX3_block_3 16 rfl rfl)
theorem dX3_block_87 : decode cX3_block 87 = .ok (.istore_n 3, 1) := dk_62 (dk_at dksX3_block_3 17 rfl rfl)
theorem dX3_block_88 : decode cX3_block 88 = .ok (.iload_n 3, 1) := dk_29 (dk_at dksX3_block_3 18 rfl rfl)
theorem dX3_block_89 : decode cX3_block 89 = .ok (.ifCond .ne 136, 3) := dk_154 0 136 (dk_at dksX3_block_3 19 rfl rfl)
theorem dX3_block_92 : decode cX3_block 92 = .ok (.aload_n 0, 1) := dk_42 (dk_at dksX3_block_3 22 rfl rfl)
theorem dX3_block_93 : decode cX3_block 93 = .ok (.ldc 133, 2) := dk_18 133 (dk_at dksX3_block_4 0 rfl rfl)
theorem dX3_block_95 : decode cX3_block 95 = .ok (.invokevirtual 135, 3) := dk_182 0 135 (dk_at dksX3_block_4 2 rfl rfl)
theorem dX3_block_98 : decode cX3_block 98 = .ok (.ifCond .ne 49, 3) := dk_154 0 49 (dk_at dksX3_block_4 5 rfl rfl)
theorem dX3_block_101 : decode cX3_block 101 = .ok (.aload_n 0, 1) := dk_42 (dk_at dksX3_block_4 8 rfl rfl)
theorem dX3_block_102 : decode cX3_block 102 = .ok (.ldc 139, 2) := dk_18 139 (dk_at dksX3_block_4 9 rfl rfl)
theorem dX3_block_104 : decode cX3_block 104 = .ok (.invokevirtual 135, 3) := dk_182 0 135 (dk_at dksX3_block_4 11 rfl rfl)
theorem dX3_block_107 : decode cX3_block 107 = .ok (.ifCond .ne 40, 3) := dk_154 0 40 (dk_at dksX3_block_4 14 rfl rfl)
theorem dX3_block_110 : decode cX3_block 110 = .ok (.aload_n 0, 1) := dk_42 (dk_at dksX3_block_4 17 rfl rfl)
theorem dX3_block_111 : decode cX3_block 111 = .ok (.ldc 141, 2) := dk_18 141 (dk_at dksX3_block_4 18 rfl rfl)
theorem dX3_block_113 : decode cX3_block 113 = .ok (.invokevirtual 135, 3) := dk_182 0 135 (dk_at dksX3_block_4 20 rfl rfl)
theorem dX3_block_116 : decode cX3_block 116 = .ok (.ifCond .ne 31, 3) := dk_154 0 31 (dk_at dksX3_block_5 0 rfl rfl)
theorem dX3_block_119 : decode cX3_block 119 = .ok (.aload_n 0, 1) := dk_42 (dk_at dksX3_block_5 3 rfl rfl)
theorem dX3_block_120 : decode cX3_block 120 = .ok (.ldc 143, 2) := dk_18 143 (dk_at dksX3_block_5 4 rfl rfl)
theorem dX3_block_122 : decode cX3_block 122 = .ok (.invokevirtual 135, 3) := dk_182 0 135 (dk_at dksX3_block_5 6 rfl rfl)
theorem dX3_block_125 : decode cX3_block 125 = .ok (.ifCond .ne 22, 3) := dk_154 0 22 (dk_at dksX3_block_5 9 rfl rfl)
theorem dX3_block_128 : decode cX3_block 128 = .ok (.aload_n 0, 1) := dk_42 (dk_at dksX3_block_5 12 rfl rfl)
theorem dX3_block_129 : decode cX3_block 129 = .ok (.invokevirtual 145, 3) := dk_182 0 145 (dk_at dksX3_block_5 13 rfl rfl)
theorem dX3_block_132 : decode cX3_block 132 = .ok (.iconst (-1), 1) := dk_2 (dk_at dksX3_block_5 16 rfl rfl)
theorem dX3_block_133 : decode cX3_block 133 = .ok (.if_icmp .ne 14, 3) := dk_160 0 14 (dk_at dksX3_block_5 17 rfl rfl)
theorem dX3_block_136 : decode cX3_block 136 = .ok (.aload_n 0, 1) := dk_42 (dk_at dksX3_block_5 20 rfl rfl)
theorem dX3_block_137 : decode cX3_block 137 = .ok (.bipush 114, 2) := dk_16 114 (dk_at dksX3_block_5 21 rfl rfl)
theorem dX3_block_139 : decode cX3_block 139 = .ok (.iconst 1, 1) := dk_4 (dk_at dksX3_block_5 23 rfl rfl)
theorem dX3_block_140 : decode cX3_block 140 = .ok (.invokevirtual 100, 3) := dk_182 0 100 (dk_at dksX3_block_6 0 rfl rfl)
theorem dX3_block_143 : decode cX3_block 143 = .ok (.iconst (-1), 1) := dk_2 (dk_at dksX3_block_6 3 rfl rfl)
theorem dX3_block_144 : decode cX3_block 144 = .ok (.if_icmp .eq 7, 3) := dk_159 0 7 (dk_at dksX3_block_6 4 rfl rfl)
theorem dX3_block_147 : decode cX3_block 147 = .ok (.iconst 1, 1) := dk_4 (dk_at dksX3_block_6 7 rfl rfl)
theorem dX3_block_148 : decode cX3_block 148 = .ok (.goto 4, 3) := dk_167 0 4 (dk_at dksX3_block_6 8 rfl rfl)
theorem dX3_block_151 : decode cX3_block 151 = .ok (.iconst 0, 1) := dk_3 (dk_at dksX3_block_6 11 rfl rfl)
theorem dX3_block_152 : decode cX3_block 152 = .ok (.istore 4, 2) := dk_54 4 (dk_at dksX3_block_6 12 rfl rfl)
theorem dX3_block_154 : decode cX3_block 154 = .ok (.iload 4, 2) := dk_21 4 (dk_at dksX3_block_6 14 rfl rfl)
theorem dX3_block_156 : decode cX3_block 156 = .ok (.ifCond .ne 9, 3) := dk_154 0 9 (dk_at dksX3_block_6 16 rfl rfl)
theorem dX3_block_159 : decode cX3_block 159 = .ok (.aload_n 0, 1) := dk_42 (dk_at dksX3_block_6 19 rfl rfl)
theorem dX3_block_160 : decode cX3_block 160 = .ok (.iconst 2, 1) := dk_5 (dk_at dksX3_block_6 20 rfl rfl)
theorem dX3_block_161 : decode cX3_block 161 = .ok (.invokevirtual 85, 3) := dk_182 0 85 (dk_at dksX3_block_6 21 rfl rfl)
theorem dX3_block_164 : decode cX3_block 164 = .ok (.athrow, 1) := dk_191 (dk_at dksX3_block_7 0 rfl rfl)
theorem dX3_block_165 : decode cX3_block 165 = .ok (.aload_n 0, 1) := dk_42 (dk_at dksX3_block_7 1 rfl rfl)
theorem dX3_block_166 : decode cX3_block 166 = .ok (.getfield 18, 3) := dk_180 0 18 (dk_at dksX3_block_7 2 rfl rfl)
theorem dX3_block_169 : decode cX3_block 169 = .ok (.getfield 148, 3) := dk_180 0 148 (dk_at dksX3_block_7 5 rfl rfl)
theorem dX3_block_172 : decode cX3_block 172 = .ok (.sipush 160, 3) := dk_17 0 160 (dk_at dksX3_block_7 8 rfl rfl)
theorem dX3_block_175 : decode cX3_block 175 = .ok (.if_icmp .ne 9, 3) := dk_160 0 9 (dk_at dksX3_block_7 11 rfl rfl)
theorem dX3_block_178 : decode cX3_block 178 = .ok (.aload_n 0, 1) := dk_42 (dk_at dksX3_block_7 14 rfl rfl)
theorem dX3_block_179 : decode cX3_block 179 = .ok (.iconst 3, 1) := dk_6 (dk_at dksX3_block_7 15 rfl rfl)
theorem dX3_block_180 : decode cX3_block 180 = .ok (.invokevirtual 85, 3) := dk_182 0 85 (dk_at dksX3_block_7 16 rfl rfl)
theorem dX3_block_183 : decode cX3_block 183 = .ok (.athrow, 1) := dk_191 (dk_at dksX3_block_7 19 rfl rfl)
theorem dX3_block_184 : decode cX3_block 184 = .ok (.aload_n 0, 1) := dk_42 (dk_at dksX3_block_7 20 rfl rfl)
theorem dX3_block_185 : decode cX3_block 185 = .ok (.getfield 18, 3) := dk_180 0 18 (dk_at dksX3_block_7 21 rfl rfl)
theorem dX3_block_188 : decode cX3_block 188 = .ok (.dup, 1) := dk_89 (dk_at dksX3_block_8 0 rfl rfl)
theorem dX3_block_189 : decode cX3_block 189 = .ok (.getfield 148, 3) := dk_180 0 148 (dk_at dksX3_block_8 1 rfl rfl)
theorem dX3_block_192 : decode cX3_block 192 = .ok (.iconst 1, 1) := dk_4 (dk_at dksX3_block_8 4 rfl rfl)
theorem dX3_block_193 : decode cX3_block 193 = .ok (.iadd, 1) := dk_96 (dk_at dksX3_block_8 5 rfl rfl)
theorem dX3_block_194 : decode cX3_block 194 = .ok (.putfield 148, 3) := dk_181 0 148 (dk_at dksX3_block_8 6 rfl rfl)
theorem dX3_block_197 : decode cX3_block 197 = .ok (.aload_n 0, 1) := dk_42 (dk_at dksX3_block_8 9 rfl rfl)
theorem dX3_block_198 : decode cX3_block 198 = .ok (.invokevirtual 151, 3) := dk_182 0 151 (dk_at dksX3_block_8 10 rfl rfl)
theorem dX3_block_201 : decode cX3_block 201 = .ok (.astore 5, 2) := dk_58 5 (dk_at dksX3_block_8 13 rfl rfl)
theorem dX3_block_203 : decode cX3_block 203 = .ok (.aload_n 0, 1) := dk_42 (dk_at dksX3_block_8 15 rfl rfl)
theorem dX3_block_204 : decode cX3_block 204 = .ok (.bipush 59, 2) := dk_16 59 (dk_at dksX3_block_8 16 rfl rfl)
theorem dX3_block_206 : decode cX3_block 206 = .ok (.invokevirtual 129, 3) := dk_182 0 129 (dk_at dksX3_block_8 18 rfl rfl)
theorem dX3_block_209 : decode cX3_block 209 = .ok (.aload_n 2, 1) := dk_44 (dk_at dksX3_block_8 21 rfl rfl)
theorem dX3_block_210 : decode cX3_block 210 = .ok (.aload 5, 2) := dk_25 5 (dk_at dksX3_block_8 22 rfl rfl)
theorem dX3_block_212 : decode cX3_block 212 = .ok (.invokevirtual 125, 3) := dk_182 0 125 (dk_at dksX3_block_9 0 rfl rfl)
theorem dX3_block_215 : decode cX3_block 215 = .ok (.pop, 1) := dk_87 (dk_at dksX3_block_9 3 rfl rfl)
theorem dX3_block_216 : decode cX3_block 216 = .ok (.aload 5, 2) := dk_25 5 (dk_at dksX3_block_9 4 rfl rfl)
theorem dX3_block_218 : decode cX3_block 218 = .ok (.instanceof 155, 3) := dk_193 0 155 (dk_at dksX3_block_9 6 rfl rfl)
theorem dX3_block_221 : decode cX3_block 221 = .ok (.istore_n 3, 1) := dk_62 (dk_at dksX3_block_9 9 rfl rfl)
theorem dX3_block_222 : decode cX3_block 222 = .ok (.goto (-134), 3) := dk_167 255 122 (dk_at dksX3_block_9 10 rfl rfl)
theorem dX3_block_225 : decode cX3_block 225 = .ok (.return_, 1) := dk_177 (dk_at dksX3_block_9 13 rfl rfl)
abbrev cX3_fault : ByteArray := prog_12_method_7_code
def yX3_fault : MethodName := ⟨RX3, "fault", "(I)LLateAndEarly$Fault;"⟩
def dkwX3_fault_1 : List UInt8 := [176]
abbrev dktX3_fault_1 : List UInt8 := dkwX3_fault_1 ++ []
def dkwX3_fault_0 : List UInt8 := [187, 0, 76, 89, 42, 180, 0, 53, 4, 160, 0, 7, 4, 167, 0, 4, 27, 42, 180, 0, 46, 183, 0, 78]
abbrev dktX3_fault_0 : List UInt8 := dkwX3_fault_0 ++ dktX3_fault_1
theorem dksX3_fault_0 : cX3_fault.data.toList.drop 0 = dktX3_fault_0 := by decide +kernel
theorem dksX3_fault_1 : cX3_fault.data.toList.drop 24 = dktX3_fault_1 := dk_seg dksX3_fault_0 24 rfl rfl
theorem dX3_fault_0 : decode cX3_fault 0 = .ok (.new 76, 3) := dk_187 0 76 (dk_at dksX3_fault_0 0 rfl rfl)
theorem dX3_fault_3 : decode cX3_fault 3 = .ok (.dup, 1) := dk_89 (dk_at dksX3_fault_0 3 rfl rfl)
theorem dX3_fault_4 : decode cX3_fault 4 = .ok (.aload_n 0, 1) := dk_42 (dk_at dksX3_fault_0 4 rfl rfl)
theorem dX3_fault_5 : decode cX3_fault 5 = .ok (.getfield 53, 3) := dk_180 0 53 (dk_at dksX3_fault_0 5 rfl rfl)
theorem dX3_fault_8 : decode cX3_fault 8 = .ok (.iconst 1, 1) := dk_4 (dk_at dksX3_fault_0 8 rfl rfl)
theorem dX3_fault_9 : decode cX3_fault 9 = .ok (.if_icmp .ne 7, 3) := dk_160 0 7 (dk_at dksX3_fault_0 9 rfl rfl)
theorem dX3_fault_12 : decode cX3_fault 12 = .ok (.iconst 1, 1) := dk_4 (dk_at dksX3_fault_0 12 rfl rfl)
theorem dX3_fault_13 : decode cX3_fault 13 = .ok (.goto 4, 3) := dk_167 0 4 (dk_at dksX3_fault_0 13 rfl rfl)
theorem dX3_fault_16 : decode cX3_fault 16 = .ok (.iload_n 1, 1) := dk_27 (dk_at dksX3_fault_0 16 rfl rfl)
theorem dX3_fault_17 : decode cX3_fault 17 = .ok (.aload_n 0, 1) := dk_42 (dk_at dksX3_fault_0 17 rfl rfl)
theorem dX3_fault_18 : decode cX3_fault 18 = .ok (.getfield 46, 3) := dk_180 0 46 (dk_at dksX3_fault_0 18 rfl rfl)
theorem dX3_fault_21 : decode cX3_fault 21 = .ok (.invokespecial 78, 3) := dk_183 0 78 (dk_at dksX3_fault_0 21 rfl rfl)
theorem dX3_fault_24 : decode cX3_fault 24 = .ok (.areturn, 1) := dk_176 (dk_at dksX3_fault_1 0 rfl rfl)
abbrev cX3_numbered : ByteArray := prog_12_method_11_code
def yX3_numbered : MethodName := ⟨RX3, "numbered", "(CI)I"⟩
def dkwX3_numbered_5 : List UInt8 := [163, 0, 9, 21, 4, 28, 164, 0, 7, 2, 167, 0, 5, 21, 4, 172]
abbrev dktX3_numbered_5 : List UInt8 := dkwX3_numbered_5 ++ []
def dkwX3_numbered_4 : List UInt8 := [132, 5, 1, 167, 255, 225, 42, 42, 180, 0, 46, 4, 96, 182, 0, 49, 16, 48, 160, 0, 8, 29, 5]
abbrev dktX3_numbered_4 : List UInt8 := dkwX3_numbered_4 ++ dktX3_numbered_5
def dkwX3_numbered_3 : List UInt8 := [16, 10, 21, 4, 104, 42, 42, 180, 0, 46, 21, 5, 96, 182, 0, 49, 96, 16, 48, 100, 54, 4]
abbrev dktX3_numbered_3 : List UInt8 := dkwX3_numbered_3 ++ dktX3_numbered_4
def dkwX3_numbered_2 : List UInt8 := [96, 182, 0, 49, 182, 0, 60, 154, 0, 5, 2, 172, 3, 54, 4, 4, 54, 5, 21, 5, 29, 162, 0, 31]
abbrev dktX3_numbered_2 : List UInt8 := dkwX3_numbered_2 ++ dktX3_numbered_3
def dkwX3_numbered_1 : List UInt8 := [182, 0, 49, 27, 160, 0, 30, 29, 5, 161, 0, 25, 29, 6, 163, 0, 20, 42, 42, 42, 180, 0, 46, 4]
abbrev dktX3_numbered_1 : List UInt8 := dkwX3_numbered_1 ++ dktX3_numbered_2
def dkwX3_numbered_0 : List UInt8 := [42, 180, 0, 43, 42, 180, 0, 46, 100, 62, 42, 180, 0, 53, 5, 160, 0, 42, 42, 42, 180, 0, 46]
abbrev dktX3_numbered_0 : List UInt8 := dkwX3_numbered_0 ++ dktX3_numbered_1
theorem dksX3_numbered_0 : cX3_numbered.data.toList.drop 0 = dktX3_numbered_0 := by decide +kernel
theorem dksX3_numbered_1 : cX3_numbered.data.toList.drop 23 = dktX3_numbered_1 := dk_seg dksX3_numbered_0 23 rfl rfl
theorem dksX3_numbered_2 : cX3_numbered.data.toList.drop 47 = dktX3_numbered_2 := dk_seg dksX3_numbered_1 24 rfl rfl
theorem dksX3_numbered_3 : cX3_numbered.data.toList.drop 71 = dktX3_numbered_3 := dk_seg dksX3_numbered_2 24 rfl rfl
theorem dksX3_numbered_4 : cX3_numbered.data.toList.drop 93 = dktX3_numbered_4 := dk_seg dksX3_numbered_3 22 rfl rfl
theorem dksX3_numbered_5 : cX3_numbered.data.toList.drop 116 = dktX3_numbered_5 := dk_seg dksX3_numbered_4 23 rfl rfl
theorem dX3_numbered_0 : decode cX3_numbered 0 = .ok (.aload_n 0, 1) := dk_42 (dk_at dksX3_numbered_0 0 rfl rfl)
theorem dX3_numbered_1 : decode cX3_numbered 1 = .ok (.getfield 43, 3) := dk_180 0 43 (dk_at dksX3_numbered_0 1 rfl rfl)
theorem dX3_numbered_4 : decode cX3_numbered 4 = .ok (.aload_n 0, 1) := dk_42 (dk_at dksX3_numbered_0 4 rfl rfl)
theorem dX3_numbered_5 : decode cX3_numbered 5 = .ok (.getfield 46, 3) := dk_180 0 46 (dk_at dksX3_numbered_0 5 rfl rfl)
theorem dX3_numbered_8 : decode cX3_numbered 8 = .ok (.isub, 1) := dk_100 (dk_at dksX3_numbered_0 8 rfl rfl)
theorem dX3_numbered_9 : decode cX3_numbered 9 = .ok (.istore_n 3, 1) := dk_62 (dk_at dksX3_numbered_0 9 rfl rfl)
theorem dX3_numbered_10 : decode cX3_numbered 10 = .ok (.aload_n 0, 1) := dk_42 (dk_at dksX3_numbered_0 10 rfl rfl)
theorem dX3_numbered_11 : decode cX3_numbered 11 = .ok (.getfield 53, 3) := dk_180 0 53 (dk_at dksX3_numbered_0 11 rfl rfl)
theorem dX3_numbered_14 : decode cX3_numbered 14 = .ok (.iconst 2, 1) := dk_5 (dk_at dksX3_numbered_0 14 rfl rfl)
theorem dX3_numbered_15 : decode cX3_numbered 15 = .ok (.if_icmp .ne 42, 3) := dk_160 0 42 (dk_at dksX3_numbered_0 15 rfl rfl)
theorem dX3_numbered_18 : decode cX3_numbered 18 = .ok (.aload_n 0, 1) := dk_42 (dk_at dksX3_numbered_0 18 rfl rfl)
theorem dX3_numbered_19 : decode cX3_numbered 19 = .ok (.aload_n 0, 1) := dk_42 (dk_at dksX3_numbered_0 19 rfl rfl)
theorem dX3_numbered_20 : decode cX3_numbered 20 = .ok (.getfield 46, 3) := dk_180 0 46 (dk_at dksX3_numbered_0 20 rfl rfl)
theorem dX3_numbered_23 : decode cX3_numbered 23 = .ok (.invokevirtual 49, 3) := dk_182 0 49 (dk_at dksX3_numbered_1 0 rfl rfl)
theorem dX3_numbered_26 : decode cX3_numbered 26 = .ok (.iload_n 1, 1) := dk_27 (dk_at dksX3_numbered_1 3 rfl rfl)
theorem dX3_numbered_27 : decode cX3_numbered 27 = .ok (.if_icmp .ne 30, 3) := dk_160 0 30 (dk_at dksX3_numbered_1 4 rfl rfl)
theorem dX3_numbered_30 : decode cX3_numbered 30 = .ok (.iload_n 3, 1) := dk_29 (dk_at dksX3_numbered_1 7 rfl rfl)
theorem dX3_numbered_31 : decode cX3_numbered 31 = .ok (.iconst 2, 1) := dk_5 (dk_at dksX3_numbered_1 8 rfl rfl)
theorem dX3_numbered_32 : decode cX3_numbered 32 = .ok (.if_icmp .lt 25, 3) := dk_161 0 25 (dk_at dksX3_numbered_1 9 rfl rfl)
theorem dX3_numbered_35 : decode cX3_numbered 35 = .ok (.iload_n 3, 1) := dk_29 (dk_at dksX3_numbered_1 12 rfl rfl)
theorem dX3_numbered_36 : decode cX3_numbered 36 = .ok (.iconst 3, 1) := dk_6 (dk_at dksX3_numbered_1 13 rfl rfl)
theorem dX3_numbered_37 : decode cX3_numbered 37 = .ok (.if_icmp .gt 20, 3) := dk_163 0 20 (dk_at dksX3_numbered_1 14 rfl rfl)
theorem dX3_numbered_40 : decode cX3_numbered 40 = .ok (.aload_n 0, 1) := dk_42 (dk_at dksX3_numbered_1 17 rfl rfl)
theorem dX3_numbered_41 : decode cX3_numbered 41 = .ok (.aload_n 0, 1) := dk_42 (dk_at dksX3_numbered_1 18 rfl rfl)
theorem dX3_numbered_42 : decode cX3_numbered 42 = .ok (.aload_n 0, 1) := dk_42 (dk_at dksX3_numbered_1 19 rfl rfl)
theorem dX3_numbered_43 : decode cX3_numbered 43 = .ok (.getfield 46, 3) := dk_180 0 46 (dk_at dksX3_numbered_1 20 rfl rfl)
theorem dX3_numbered_46 : decode cX3_numbered 46 = .ok (.iconst 1, 1) := dk_4 (dk_at dksX3_numbered_1 23 rfl rfl)
theorem dX3_numbered_47 : decode cX3_numbered 47 = .ok (.iadd, 1) := dk_96 (dk_at dksX3_numbered_2 0 rfl rfl)
theorem dX3_numbered_48 : decode cX3_numbered 48 = .ok (.invokevirtual 49, 3) := dk_182 0 49 (dk_at dksX3_numbered_2 1 rfl rfl)
theorem dX3_numbered_51 : decode cX3_numbered 51 = .ok (.invokevirtual 60, 3) := dk_182 0 60 (dk_at dksX3_numbered_2 4 rfl rfl)
theorem dX3_numbered_54 : decode cX3_numbered 54 = .ok (.ifCond .ne 5, 3) := dk_154 0 5 (dk_at dksX3_numbered_2 7 rfl rfl)
theorem dX3_numbered_57 : decode cX3_numbered 57 = .ok (.iconst (-1), 1) := dk_2 (dk_at dksX3_numbered_2 10 rfl rfl)
theorem dX3_numbered_58 : decode cX3_numbered 58 = .ok (.ireturn, 1) := dk_172 (dk_at dksX3_numbered_2 11 rfl rfl)
theorem dX3_numbered_59 : decode cX3_numbered 59 = .ok (.iconst 0, 1) := dk_3 (dk_at dksX3_numbered_2 12 rfl rfl)
theorem dX3_numbered_60 : decode cX3_numbered 60 = .ok (.istore 4, 2) := dk_54 4 (dk_at dksX3_numbered_2 13 rfl rfl)
theorem dX3_numbered_62 : decode cX3_numbered 62 = .ok (.iconst 1, 1) := dk_4 (dk_at dksX3_numbered_2 15 rfl rfl)
theorem dX3_numbered_63 : decode cX3_numbered 63 = .ok (.istore 5, 2) := dk_54 5 (dk_at dksX3_numbered_2 16 rfl rfl)
theorem dX3_numbered_65 : decode cX3_numbered 65 = .ok (.iload 5, 2) := dk_21 5 (dk_at dksX3_numbered_2 18 rfl rfl)
theorem dX3_numbered_67 : decode cX3_numbered 67 = .ok (.iload_n 3, 1) := dk_29 (dk_at dksX3_numbered_2 20 rfl rfl)
theorem dX3_numbered_68 : decode cX3_numbered 68 = .ok (.if_icmp .ge 31, 3) := dk_162 0 31 (dk_at dksX3_numbered_2 21 rfl rfl)
theorem dX3_numbered_71 : decode cX3_numbered 71 = .ok (.bipush 10, 2) := dk_16 10 (dk_at dksX3_numbered_3 0 rfl rfl)
theorem dX3_numbered_73 : decode cX3_numbered 73 = .ok (.iload 4, 2) := dk_21 4 (dk_at dksX3_numbered_3 2 rfl rfl)
theorem dX3_numbered_75 : decode cX3_numbered 75 = .ok (.imul, 1) := dk_104 (dk_at dksX3_numbered_3 4 rfl rfl)
theorem dX3_numbered_76 : decode cX3_numbered 76 = .ok (.aload_n 0, 1) := dk_42 (dk_at dksX3_numbered_3 5 rfl rfl)
theorem dX3_numbered_77 : decode cX3_numbered 77 = .ok (.aload_n 0, 1) := dk_42 (dk_at dksX3_numbered_3 6 rfl rfl)
theorem dX3_numbered_78 : decode cX3_numbered 78 = .ok (.getfield 46, 3) := dk_180 0 46 (dk_at dksX3_numbered_3 7 rfl rfl)
theorem dX3_numbered_81 : decode cX3_numbered 81 = .ok (.iload 5, 2) := dk_21 5 (dk_at dksX3_numbered_3 10 rfl rfl)
theorem dX3_numbered_83 : decode cX3_numbered 83 = .ok (.iadd, 1) := dk_96 (dk_at dksX3_numbered_3 12 rfl rfl)
theorem dX3_numbered_84 : decode cX3_numbered 84 = .ok (.invokevirtual 49, 3) := dk_182 0 49 (dk_at dksX3_numbered_3 13 rfl rfl)
theorem dX3_numbered_87 : decode cX3_numbered 87 = .ok (.iadd, 1) := dk_96 (dk_at dksX3_numbered_3 16 rfl rfl)
theorem dX3_numbered_88 : decode cX3_numbered 88 = .ok (.bipush 48, 2) := dk_16 48 (dk_at dksX3_numbered_3 17 rfl rfl)
theorem dX3_numbered_90 : decode cX3_numbered 90 = .ok (.isub, 1) := dk_100 (dk_at dksX3_numbered_3 19 rfl rfl)
theorem dX3_numbered_91 : decode cX3_numbered 91 = .ok (.istore 4, 2) := dk_54 4 (dk_at dksX3_numbered_3 20 rfl rfl)
theorem dX3_numbered_93 : decode cX3_numbered 93 = .ok (.iinc 5 1, 3) := dk_132 5 1 (dk_at dksX3_numbered_4 0 rfl rfl)
theorem dX3_numbered_96 : decode cX3_numbered 96 = .ok (.goto (-31), 3) := dk_167 255 225 (dk_at dksX3_numbered_4 3 rfl rfl)
theorem dX3_numbered_99 : decode cX3_numbered 99 = .ok (.aload_n 0, 1) := dk_42 (dk_at dksX3_numbered_4 6 rfl rfl)
theorem dX3_numbered_100 : decode cX3_numbered 100 = .ok (.aload_n 0, 1) := dk_42 (dk_at dksX3_numbered_4 7 rfl rfl)
theorem dX3_numbered_101 : decode cX3_numbered 101 = .ok (.getfield 46, 3) := dk_180 0 46 (dk_at dksX3_numbered_4 8 rfl rfl)
theorem dX3_numbered_104 : decode cX3_numbered 104 = .ok (.iconst 1, 1) := dk_4 (dk_at dksX3_numbered_4 11 rfl rfl)
theorem dX3_numbered_105 : decode cX3_numbered 105 = .ok (.iadd, 1) := dk_96 (dk_at dksX3_numbered_4 12 rfl rfl)
theorem dX3_numbered_106 : decode cX3_numbered 106 = .ok (.invokevirtual 49, 3) := dk_182 0 49 (dk_at dksX3_numbered_4 13 rfl rfl)
theorem dX3_numbered_109 : decode cX3_numbered 109 = .ok (.bipush 48, 2) := dk_16 48 (dk_at dksX3_numbered_4 16 rfl rfl)
theorem dX3_numbered_111 : decode cX3_numbered 111 = .ok (.if_icmp .ne 8, 3) := dk_160 0 8 (dk_at dksX3_numbered_4 18 rfl rfl)
theorem dX3_numbered_114 : decode cX3_numbered 114 = .ok (.iload_n 3, 1) := dk_29 (dk_at dksX3_numbered_4 21 rfl rfl)
theorem dX3_numbered_115 : decode cX3_numbered 115 = .ok (.iconst 2, 1) := dk_5 (dk_at dksX3_numbered_4 22 rfl rfl)
theorem dX3_numbered_116 : decode cX3_numbered 116 = .ok (.if_icmp .gt 9, 3) := dk_163 0 9 (dk_at dksX3_numbered_5 0 rfl rfl)
theorem dX3_numbered_119 : decode cX3_numbered 119 = .ok (.iload 4, 2) := dk_21 4 (dk_at dksX3_numbered_5 3 rfl rfl)
theorem dX3_numbered_121 : decode cX3_numbered 121 = .ok (.iload_n 2, 1) := dk_28 (dk_at dksX3_numbered_5 5 rfl rfl)
theorem dX3_numbered_122 : decode cX3_numbered 122 = .ok (.if_icmp .le 7, 3) := dk_164 0 7 (dk_at dksX3_numbered_5 6 rfl rfl)
theorem dX3_numbered_125 : decode cX3_numbered 125 = .ok (.iconst (-1), 1) := dk_2 (dk_at dksX3_numbered_5 9 rfl rfl)
theorem dX3_numbered_126 : decode cX3_numbered 126 = .ok (.goto 5, 3) := dk_167 0 5 (dk_at dksX3_numbered_5 10 rfl rfl)
theorem dX3_numbered_129 : decode cX3_numbered 129 = .ok (.iload 4, 2) := dk_21 4 (dk_at dksX3_numbered_5 13 rfl rfl)
theorem dX3_numbered_131 : decode cX3_numbered 131 = .ok (.ireturn, 1) := dk_172 (dk_at dksX3_numbered_5 15 rfl rfl)
abbrev cX3_sign : ByteArray := prog_12_method_9_code
def yX3_sign : MethodName := ⟨RX3, "sign", "(C)V"⟩
def dkwX3_sign_0 : List UInt8 := [42, 27, 182, 0, 81, 154, 0, 9, 42, 5, 182, 0, 85, 191, 42, 182, 0, 89, 177]
abbrev dktX3_sign_0 : List UInt8 := dkwX3_sign_0 ++ []
theorem dksX3_sign_0 : cX3_sign.data.toList.drop 0 = dktX3_sign_0 := by decide +kernel
theorem dX3_sign_0 : decode cX3_sign 0 = .ok (.aload_n 0, 1) := dk_42 (dk_at dksX3_sign_0 0 rfl rfl)
theorem dX3_sign_1 : decode cX3_sign 1 = .ok (.iload_n 1, 1) := dk_27 (dk_at dksX3_sign_0 1 rfl rfl)
theorem dX3_sign_2 : decode cX3_sign 2 = .ok (.invokevirtual 81, 3) := dk_182 0 81 (dk_at dksX3_sign_0 2 rfl rfl)
theorem dX3_sign_5 : decode cX3_sign 5 = .ok (.ifCond .ne 9, 3) := dk_154 0 9 (dk_at dksX3_sign_0 5 rfl rfl)
theorem dX3_sign_8 : decode cX3_sign 8 = .ok (.aload_n 0, 1) := dk_42 (dk_at dksX3_sign_0 8 rfl rfl)
theorem dX3_sign_9 : decode cX3_sign 9 = .ok (.iconst 2, 1) := dk_5 (dk_at dksX3_sign_0 9 rfl rfl)
theorem dX3_sign_10 : decode cX3_sign 10 = .ok (.invokevirtual 85, 3) := dk_182 0 85 (dk_at dksX3_sign_0 10 rfl rfl)
theorem dX3_sign_13 : decode cX3_sign 13 = .ok (.athrow, 1) := dk_191 (dk_at dksX3_sign_0 13 rfl rfl)
theorem dX3_sign_14 : decode cX3_sign 14 = .ok (.aload_n 0, 1) := dk_42 (dk_at dksX3_sign_0 14 rfl rfl)
theorem dX3_sign_15 : decode cX3_sign 15 = .ok (.invokevirtual 89, 3) := dk_182 0 89 (dk_at dksX3_sign_0 15 rfl rfl)
theorem dX3_sign_18 : decode cX3_sign 18 = .ok (.return_, 1) := dk_177 (dk_at dksX3_sign_0 18 rfl rfl)
abbrev cX3_isSign : ByteArray := prog_12_method_8_code
def yX3_isSign : MethodName := ⟨RX3, "isSign", "(C)Z"⟩
def dkwX3_isSign_1 : List UInt8 := [3, 172]
abbrev dktX3_isSign_1 : List UInt8 := dkwX3_isSign_1 ++ []
def dkwX3_isSign_0 : List UInt8 := [42, 180, 0, 53, 7, 160, 0, 19, 42, 42, 180, 0, 46, 182, 0, 49, 27, 160, 0, 7, 4, 167, 0, 4]
abbrev dktX3_isSign_0 : List UInt8 := dkwX3_isSign_0 ++ dktX3_isSign_1
theorem dksX3_isSign_0 : cX3_isSign.data.toList.drop 0 = dktX3_isSign_0 := by decide +kernel
theorem dksX3_isSign_1 : cX3_isSign.data.toList.drop 24 = dktX3_isSign_1 := dk_seg dksX3_isSign_0 24 rfl rfl
theorem dX3_isSign_0 : decode cX3_isSign 0 = .ok (.aload_n 0, 1) := dk_42 (dk_at dksX3_isSign_0 0 rfl rfl)
theorem dX3_isSign_1 : decode cX3_isSign 1 = .ok (.getfield 53, 3) := dk_180 0 53 (dk_at dksX3_isSign_0 1 rfl rfl)
theorem dX3_isSign_4 : decode cX3_isSign 4 = .ok (.iconst 4, 1) := dk_7 (dk_at dksX3_isSign_0 4 rfl rfl)
theorem dX3_isSign_5 : decode cX3_isSign 5 = .ok (.if_icmp .ne 19, 3) := dk_160 0 19 (dk_at dksX3_isSign_0 5 rfl rfl)
theorem dX3_isSign_8 : decode cX3_isSign 8 = .ok (.aload_n 0, 1) := dk_42 (dk_at dksX3_isSign_0 8 rfl rfl)
theorem dX3_isSign_9 : decode cX3_isSign 9 = .ok (.aload_n 0, 1) := dk_42 (dk_at dksX3_isSign_0 9 rfl rfl)
theorem dX3_isSign_10 : decode cX3_isSign 10 = .ok (.getfield 46, 3) := dk_180 0 46 (dk_at dksX3_isSign_0 10 rfl rfl)
theorem dX3_isSign_13 : decode cX3_isSign 13 = .ok (.invokevirtual 49, 3) := dk_182 0 49 (dk_at dksX3_isSign_0 13 rfl rfl)
theorem dX3_isSign_16 : decode cX3_isSign 16 = .ok (.iload_n 1, 1) := dk_27 (dk_at dksX3_isSign_0 16 rfl rfl)
theorem dX3_isSign_17 : decode cX3_isSign 17 = .ok (.if_icmp .ne 7, 3) := dk_160 0 7 (dk_at dksX3_isSign_0 17 rfl rfl)
theorem dX3_isSign_20 : decode cX3_isSign 20 = .ok (.iconst 1, 1) := dk_4 (dk_at dksX3_isSign_0 20 rfl rfl)
theorem dX3_isSign_21 : decode cX3_isSign 21 = .ok (.goto 4, 3) := dk_167 0 4 (dk_at dksX3_isSign_0 21 rfl rfl)
theorem dX3_isSign_24 : decode cX3_isSign 24 = .ok (.iconst 0, 1) := dk_3 (dk_at dksX3_isSign_1 0 rfl rfl)
theorem dX3_isSign_25 : decode cX3_isSign 25 = .ok (.ireturn, 1) := dk_172 (dk_at dksX3_isSign_1 1 rfl rfl)
abbrev cX3_isWord : ByteArray := prog_12_method_10_code
def yX3_isWord : MethodName := ⟨RX3, "isWord", "(Ljava/lang/String;)Z"⟩
def dkwX3_isWord_2 : List UInt8 := [182, 0, 96, 159, 0, 5, 3, 172, 132, 2, 1, 167, 255, 225, 4, 172]
abbrev dktX3_isWord_2 : List UInt8 := dkwX3_isWord_2 ++ []
def dkwX3_isWord_1 : List UInt8 := [3, 172, 3, 61, 28, 43, 182, 0, 92, 162, 0, 29, 42, 42, 180, 0, 46, 28, 96, 182, 0, 49, 43, 28]
abbrev dktX3_isWord_1 : List UInt8 := dkwX3_isWord_1 ++ dktX3_isWord_2
def dkwX3_isWord_0 : List UInt8 := [42, 180, 0, 53, 5, 160, 0, 19, 43, 182, 0, 92, 42, 180, 0, 43, 42, 180, 0, 46, 100, 159, 0, 5]
abbrev dktX3_isWord_0 : List UInt8 := dkwX3_isWord_0 ++ dktX3_isWord_1
theorem dksX3_isWord_0 : cX3_isWord.data.toList.drop 0 = dktX3_isWord_0 := by decide +kernel
theorem dksX3_isWord_1 : cX3_isWord.data.toList.drop 24 = dktX3_isWord_1 := dk_seg dksX3_isWord_0 24 rfl rfl
theorem dksX3_isWord_2 : cX3_isWord.data.toList.drop 48 = dktX3_isWord_2 := dk_seg dksX3_isWord_1 24 rfl rfl
theorem dX3_isWord_0 : decode cX3_isWord 0 = .ok (.aload_n 0, 1) := dk_42 (dk_at dksX3_isWord_0 0 rfl rfl)
theorem dX3_isWord_1 : decode cX3_isWord 1 = .ok (.getfield 53, 3) := dk_180 0 53 (dk_at dksX3_isWord_0 1 rfl rfl)
theorem dX3_isWord_4 : decode cX3_isWord 4 = .ok (.iconst 2, 1) := dk_5 (dk_at dksX3_isWord_0 4 rfl rfl)
theorem dX3_isWord_5 : decode cX3_isWord 5 = .ok (.if_icmp .ne 19, 3) := dk_160 0 19 (dk_at dksX3_isWord_0 5 rfl rfl)
theorem dX3_isWord_8 : decode cX3_isWord 8 = .ok (.aload_n 1, 1) := dk_43 (dk_at dksX3_isWord_0 8 rfl rfl)
theorem dX3_isWord_9 : decode cX3_isWord 9 = .ok (.invokevirtual 92, 3) := dk_182 0 92 (dk_at dksX3_isWord_0 9 rfl rfl)
theorem dX3_isWord_12 : decode cX3_isWord 12 = .ok (.aload_n 0, 1) := dk_42 (dk_at dksX3_isWord_0 12 rfl rfl)
theorem dX3_isWord_13 : decode cX3_isWord 13 = .ok (.getfield 43, 3) := dk_180 0 43 (dk_at dksX3_isWord_0 13 rfl rfl)
theorem dX3_isWord_16 : decode cX3_isWord 16 = .ok (.aload_n 0, 1) := dk_42 (dk_at dksX3_isWord_0 16 rfl rfl)
theorem dX3_isWord_17 : decode cX3_isWord 17 = .ok (.getfield 46, 3) := dk_180 0 46 (dk_at dksX3_isWord_0 17 rfl rfl)
theorem dX3_isWord_20 : decode cX3_isWord 20 = .ok (.isub, 1) := dk_100 (dk_at dksX3_isWord_0 20 rfl rfl)
theorem dX3_isWord_21 : decode cX3_isWord 21 = .ok (.if_icmp .eq 5, 3) := dk_159 0 5 (dk_at dksX3_isWord_0 21 rfl rfl)
theorem dX3_isWord_24 : decode cX3_isWord 24 = .ok (.iconst 0, 1) := dk_3 (dk_at dksX3_isWord_1 0 rfl rfl)
theorem dX3_isWord_25 : decode cX3_isWord 25 = .ok (.ireturn, 1) := dk_172 (dk_at dksX3_isWord_1 1 rfl rfl)
theorem dX3_isWord_26 : decode cX3_isWord 26 = .ok (.iconst 0, 1) := dk_3 (dk_at dksX3_isWord_1 2 rfl rfl)
theorem dX3_isWord_27 : decode cX3_isWord 27 = .ok (.istore_n 2, 1) := dk_61 (dk_at dksX3_isWord_1 3 rfl rfl)
theorem dX3_isWord_28 : decode cX3_isWord 28 = .ok (.iload_n 2, 1) := dk_28 (dk_at dksX3_isWord_1 4 rfl rfl)
theorem dX3_isWord_29 : decode cX3_isWord 29 = .ok (.aload_n 1, 1) := dk_43 (dk_at dksX3_isWord_1 5 rfl rfl)
theorem dX3_isWord_30 : decode cX3_isWord 30 = .ok (.invokevirtual 92, 3) := dk_182 0 92 (dk_at dksX3_isWord_1 6 rfl rfl)
theorem dX3_isWord_33 : decode cX3_isWord 33 = .ok (.if_icmp .ge 29, 3) := dk_162 0 29 (dk_at dksX3_isWord_1 9 rfl rfl)
theorem dX3_isWord_36 : decode cX3_isWord 36 = .ok (.aload_n 0, 1) := dk_42 (dk_at dksX3_isWord_1 12 rfl rfl)
theorem dX3_isWord_37 : decode cX3_isWord 37 = .ok (.aload_n 0, 1) := dk_42 (dk_at dksX3_isWord_1 13 rfl rfl)
theorem dX3_isWord_38 : decode cX3_isWord 38 = .ok (.getfield 46, 3) := dk_180 0 46 (dk_at dksX3_isWord_1 14 rfl rfl)
theorem dX3_isWord_41 : decode cX3_isWord 41 = .ok (.iload_n 2, 1) := dk_28 (dk_at dksX3_isWord_1 17 rfl rfl)
theorem dX3_isWord_42 : decode cX3_isWord 42 = .ok (.iadd, 1) := dk_96 (dk_at dksX3_isWord_1 18 rfl rfl)
theorem dX3_isWord_43 : decode cX3_isWord 43 = .ok (.invokevirtual 49, 3) := dk_182 0 49 (dk_at dksX3_isWord_1 19 rfl rfl)
theorem dX3_isWord_46 : decode cX3_isWord 46 = .ok (.aload_n 1, 1) := dk_43 (dk_at dksX3_isWord_1 22 rfl rfl)
theorem dX3_isWord_47 : decode cX3_isWord 47 = .ok (.iload_n 2, 1) := dk_28 (dk_at dksX3_isWord_1 23 rfl rfl)
theorem dX3_isWord_48 : decode cX3_isWord 48 = .ok (.invokevirtual 96, 3) := dk_182 0 96 (dk_at dksX3_isWord_2 0 rfl rfl)
theorem dX3_isWord_51 : decode cX3_isWord 51 = .ok (.if_icmp .eq 5, 3) := dk_159 0 5 (dk_at dksX3_isWord_2 3 rfl rfl)
theorem dX3_isWord_54 : decode cX3_isWord 54 = .ok (.iconst 0, 1) := dk_3 (dk_at dksX3_isWord_2 6 rfl rfl)
theorem dX3_isWord_55 : decode cX3_isWord 55 = .ok (.ireturn, 1) := dk_172 (dk_at dksX3_isWord_2 7 rfl rfl)
theorem dX3_isWord_56 : decode cX3_isWord 56 = .ok (.iinc 2 1, 3) := dk_132 2 1 (dk_at dksX3_isWord_2 8 rfl rfl)
theorem dX3_isWord_59 : decode cX3_isWord 59 = .ok (.goto (-31), 3) := dk_167 255 225 (dk_at dksX3_isWord_2 11 rfl rfl)
theorem dX3_isWord_62 : decode cX3_isWord 62 = .ok (.iconst 1, 1) := dk_4 (dk_at dksX3_isWord_2 14 rfl rfl)
theorem dX3_isWord_63 : decode cX3_isWord 63 = .ok (.ireturn, 1) := dk_172 (dk_at dksX3_isWord_2 15 rfl rfl)
abbrev cX3_nameHere : ByteArray := prog_12_method_12_code
def yX3_nameHere : MethodName := ⟨RX3, "nameHere", "()I"⟩
def dkwX3_nameHere_1 : List UInt8 := [167, 0, 16, 28, 2, 159, 0, 10, 16, 16, 28, 96, 167, 0, 4, 2, 172]
abbrev dktX3_nameHere_1 : List UInt8 := dkwX3_nameHere_1 ++ []
def dkwX3_nameHere_0 : List UInt8 := [42, 16, 118, 16, 15, 182, 0, 100, 60, 42, 16, 116, 16, 31, 182, 0, 100, 61, 27, 2, 159, 0, 7, 27]
abbrev dktX3_nameHere_0 : List UInt8 := dkwX3_nameHere_0 ++ dktX3_nameHere_1
theorem dksX3_nameHere_0 : cX3_nameHere.data.toList.drop 0 = dktX3_nameHere_0 := by decide +kernel
theorem dksX3_nameHere_1 : cX3_nameHere.data.toList.drop 24 = dktX3_nameHere_1 := dk_seg dksX3_nameHere_0 24 rfl rfl
theorem dX3_nameHere_0 : decode cX3_nameHere 0 = .ok (.aload_n 0, 1) := dk_42 (dk_at dksX3_nameHere_0 0 rfl rfl)
theorem dX3_nameHere_1 : decode cX3_nameHere 1 = .ok (.bipush 118, 2) := dk_16 118 (dk_at dksX3_nameHere_0 1 rfl rfl)
theorem dX3_nameHere_3 : decode cX3_nameHere 3 = .ok (.bipush 15, 2) := dk_16 15 (dk_at dksX3_nameHere_0 3 rfl rfl)
theorem dX3_nameHere_5 : decode cX3_nameHere 5 = .ok (.invokevirtual 100, 3) := dk_182 0 100 (dk_at dksX3_nameHere_0 5 rfl rfl)
theorem dX3_nameHere_8 : decode cX3_nameHere 8 = .ok (.istore_n 1, 1) := dk_60 (dk_at dksX3_nameHere_0 8 rfl rfl)
theorem dX3_nameHere_9 : decode cX3_nameHere 9 = .ok (.aload_n 0, 1) := dk_42 (dk_at dksX3_nameHere_0 9 rfl rfl)
theorem dX3_nameHere_10 : decode cX3_nameHere 10 = .ok (.bipush 116, 2) := dk_16 116 (dk_at dksX3_nameHere_0 10 rfl rfl)
theorem dX3_nameHere_12 : decode cX3_nameHere 12 = .ok (.bipush 31, 2) := dk_16 31 (dk_at dksX3_nameHere_0 12 rfl rfl)
theorem dX3_nameHere_14 : decode cX3_nameHere 14 = .ok (.invokevirtual 100, 3) := dk_182 0 100 (dk_at dksX3_nameHere_0 14 rfl rfl)
theorem dX3_nameHere_17 : decode cX3_nameHere 17 = .ok (.istore_n 2, 1) := dk_61 (dk_at dksX3_nameHere_0 17 rfl rfl)
theorem dX3_nameHere_18 : decode cX3_nameHere 18 = .ok (.iload_n 1, 1) := dk_27 (dk_at dksX3_nameHere_0 18 rfl rfl)
theorem dX3_nameHere_19 : decode cX3_nameHere 19 = .ok (.iconst (-1), 1) := dk_2 (dk_at dksX3_nameHere_0 19 rfl rfl)
theorem dX3_nameHere_20 : decode cX3_nameHere 20 = .ok (.if_icmp .eq 7, 3) := dk_159 0 7 (dk_at dksX3_nameHere_0 20 rfl rfl)
theorem dX3_nameHere_23 : decode cX3_nameHere 23 = .ok (.iload_n 1, 1) := dk_27 (dk_at dksX3_nameHere_0 23 rfl rfl)
theorem dX3_nameHere_24 : decode cX3_nameHere 24 = .ok (.goto 16, 3) := dk_167 0 16 (dk_at dksX3_nameHere_1 0 rfl rfl)
theorem dX3_nameHere_27 : decode cX3_nameHere 27 = .ok (.iload_n 2, 1) := dk_28 (dk_at dksX3_nameHere_1 3 rfl rfl)
theorem dX3_nameHere_28 : decode cX3_nameHere 28 = .ok (.iconst (-1), 1) := dk_2 (dk_at dksX3_nameHere_1 4 rfl rfl)
theorem dX3_nameHere_29 : decode cX3_nameHere 29 = .ok (.if_icmp .eq 10, 3) := dk_159 0 10 (dk_at dksX3_nameHere_1 5 rfl rfl)
theorem dX3_nameHere_32 : decode cX3_nameHere 32 = .ok (.bipush 16, 2) := dk_16 16 (dk_at dksX3_nameHere_1 8 rfl rfl)
theorem dX3_nameHere_34 : decode cX3_nameHere 34 = .ok (.iload_n 2, 1) := dk_28 (dk_at dksX3_nameHere_1 10 rfl rfl)
theorem dX3_nameHere_35 : decode cX3_nameHere 35 = .ok (.iadd, 1) := dk_96 (dk_at dksX3_nameHere_1 11 rfl rfl)
theorem dX3_nameHere_36 : decode cX3_nameHere 36 = .ok (.goto 4, 3) := dk_167 0 4 (dk_at dksX3_nameHere_1 12 rfl rfl)
theorem dX3_nameHere_39 : decode cX3_nameHere 39 = .ok (.iconst (-1), 1) := dk_2 (dk_at dksX3_nameHere_1 15 rfl rfl)
theorem dX3_nameHere_40 : decode cX3_nameHere 40 = .ok (.ireturn, 1) := dk_172 (dk_at dksX3_nameHere_1 16 rfl rfl)
abbrev cX3_line : ByteArray := prog_12_method_15_code
def yX3_line : MethodName := ⟨RX3, "line", "()LLateAndEarly$Node;"⟩
def dkwX3_line_4 : List UInt8 := [42, 182, 0, 180, 176, 42, 182, 0, 89, 42, 16, 61, 182, 0, 129, 42, 27, 182, 0, 183, 176]
abbrev dktX3_line_4 : List UInt8 := dkwX3_line_4 ++ []
def dkwX3_line_3 : List UInt8 := [42, 18, 141, 182, 0, 135, 153, 0, 8, 42, 182, 0, 177, 176, 42, 182, 0, 145, 60, 27, 2, 160, 0, 8]
abbrev dktX3_line_3 : List UInt8 := dkwX3_line_3 ++ dktX3_line_4
def dkwX3_line_2 : List UInt8 := [18, 139, 182, 0, 135, 153, 0, 19, 42, 182, 0, 89, 187, 0, 169, 89, 42, 182, 0, 171, 183, 0, 174, 176]
abbrev dktX3_line_2 : List UInt8 := dkwX3_line_2 ++ dktX3_line_3
def dkwX3_line_1 : List UInt8 := [176, 42, 18, 143, 182, 0, 135, 153, 0, 15, 42, 182, 0, 89, 187, 0, 166, 89, 183, 0, 168, 176, 42]
abbrev dktX3_line_1 : List UInt8 := dkwX3_line_1 ++ dktX3_line_2
def dkwX3_line_0 : List UInt8 := [42, 18, 133, 182, 0, 135, 153, 0, 19, 42, 182, 0, 89, 187, 0, 157, 89, 42, 182, 0, 159, 183, 0, 163]
abbrev dktX3_line_0 : List UInt8 := dkwX3_line_0 ++ dktX3_line_1
theorem dksX3_line_0 : cX3_line.data.toList.drop 0 = dktX3_line_0 := by decide +kernel
theorem dksX3_line_1 : cX3_line.data.toList.drop 24 = dktX3_line_1 := dk_seg dksX3_line_0 24 rfl rfl
theorem dksX3_line_2 : cX3_line.data.toList.drop 47 = dktX3_line_2 := dk_seg dksX3_line_1 23 rfl rfl
theorem dksX3_line_3 : cX3_line.data.toList.drop 71 = dktX3_line_3 := dk_seg dksX3_line_2 24 rfl rfl
theorem dksX3_line_4 : cX3_line.data.toList.drop 95 = dktX3_line_4 := dk_seg dksX3_line_3 24 rfl rfl
theorem dX3_line_0 : decode cX3_line 0 = .ok (.aload_n 0, 1) := dk_42 (dk_at dksX3_line_0 0 rfl rfl)
theorem dX3_line_1 : decode cX3_line 1 = .ok (.ldc 133, 2) := dk_18 133 (dk_at dksX3_line_0 1 rfl rfl)
theorem dX3_line_3 : decode cX3_line 3 = .ok (.invokevirtual 135, 3) := dk_182 0 135 (dk_at dksX3_line_0 3 rfl rfl)
theorem dX3_line_6 : decode cX3_line 6 = .ok (.ifCond .eq 19, 3) := dk_153 0 19 (dk_at dksX3_line_0 6 rfl rfl)
theorem dX3_line_9 : decode cX3_line 9 = .ok (.aload_n 0, 1) := dk_42 (dk_at dksX3_line_0 9 rfl rfl)
theorem dX3_line_10 : decode cX3_line 10 = .ok (.invokevirtual 89, 3) := dk_182 0 89 (dk_at dksX3_line_0 10 rfl rfl)
theorem dX3_line_13 : decode cX3_line 13 = .ok (.new 157, 3) := dk_187 0 157 (dk_at dksX3_line_0 13 rfl rfl)
theorem dX3_line_16 : decode cX3_line 16 = .ok (.dup, 1) := dk_89 (dk_at dksX3_line_0 16 rfl rfl)
theorem dX3_line_17 : decode cX3_line 17 = .ok (.aload_n 0, 1) := dk_42 (dk_at dksX3_line_0 17 rfl rfl)
theorem dX3_line_18 : decode cX3_line 18 = .ok (.invokevirtual 159, 3) := dk_182 0 159 (dk_at dksX3_line_0 18 rfl rfl)
theorem dX3_line_21 : decode cX3_line 21 = .ok (.invokespecial 163, 3) := dk_183 0 163 (dk_at dksX3_line_0 21 rfl rfl)
theorem dX3_line_24 : decode cX3_line 24 = .ok (.areturn, 1) := dk_176 (dk_at dksX3_line_1 0 rfl rfl)
theorem dX3_line_25 : decode cX3_line 25 = .ok (.aload_n 0, 1) := dk_42 (dk_at dksX3_line_1 1 rfl rfl)
theorem dX3_line_26 : decode cX3_line 26 = .ok (.ldc 143, 2) := dk_18 143 (dk_at dksX3_line_1 2 rfl rfl)
theorem dX3_line_28 : decode cX3_line 28 = .ok (.invokevirtual 135, 3) := dk_182 0 135 (dk_at dksX3_line_1 4 rfl rfl)
theorem dX3_line_31 : decode cX3_line 31 = .ok (.ifCond .eq 15, 3) := dk_153 0 15 (dk_at dksX3_line_1 7 rfl rfl)
theorem dX3_line_34 : decode cX3_line 34 = .ok (.aload_n 0, 1) := dk_42 (dk_at dksX3_line_1 10 rfl rfl)
theorem dX3_line_35 : decode cX3_line 35 = .ok (.invokevirtual 89, 3) := dk_182 0 89 (dk_at dksX3_line_1 11 rfl rfl)
theorem dX3_line_38 : decode cX3_line 38 = .ok (.new 166, 3) := dk_187 0 166 (dk_at dksX3_line_1 14 rfl rfl)
theorem dX3_line_41 : decode cX3_line 41 = .ok (.dup, 1) := dk_89 (dk_at dksX3_line_1 17 rfl rfl)
theorem dX3_line_42 : decode cX3_line 42 = .ok (.invokespecial 168, 3) := dk_183 0 168 (dk_at dksX3_line_1 18 rfl rfl)
theorem dX3_line_45 : decode cX3_line 45 = .ok (.areturn, 1) := dk_176 (dk_at dksX3_line_1 21 rfl rfl)
theorem dX3_line_46 : decode cX3_line 46 = .ok (.aload_n 0, 1) := dk_42 (dk_at dksX3_line_1 22 rfl rfl)
theorem dX3_line_47 : decode cX3_line 47 = .ok (.ldc 139, 2) := dk_18 139 (dk_at dksX3_line_2 0 rfl rfl)
theorem dX3_line_49 : decode cX3_line 49 = .ok (.invokevirtual 135, 3) := dk_182 0 135 (dk_at dksX3_line_2 2 rfl rfl)
theorem dX3_line_52 : decode cX3_line 52 = .ok (.ifCond .eq 19, 3) := dk_153 0 19 (dk_at dksX3_line_2 5 rfl rfl)
theorem dX3_line_55 : decode cX3_line 55 = .ok (.aload_n 0, 1) := dk_42 (dk_at dksX3_line_2 8 rfl rfl)
theorem dX3_line_56 : decode cX3_line 56 = .ok (.invokevirtual 89, 3) := dk_182 0 89 (dk_at dksX3_line_2 9 rfl rfl)
theorem dX3_line_59 : decode cX3_line 59 = .ok (.new 169, 3) := dk_187 0 169 (dk_at dksX3_line_2 12 rfl rfl)
theorem dX3_line_62 : decode cX3_line 62 = .ok (.dup, 1) := dk_89 (dk_at dksX3_line_2 15 rfl rfl)
theorem dX3_line_63 : decode cX3_line 63 = .ok (.aload_n 0, 1) := dk_42 (dk_at dksX3_line_2 16 rfl rfl)
theorem dX3_line_64 : decode cX3_line 64 = .ok (.invokevirtual 171, 3) := dk_182 0 171 (dk_at dksX3_line_2 17 rfl rfl)
theorem dX3_line_67 : decode cX3_line 67 = .ok (.invokespecial 174, 3) := dk_183 0 174 (dk_at dksX3_line_2 20 rfl rfl)
theorem dX3_line_70 : decode cX3_line 70 = .ok (.areturn, 1) := dk_176 (dk_at dksX3_line_2 23 rfl rfl)
theorem dX3_line_71 : decode cX3_line 71 = .ok (.aload_n 0, 1) := dk_42 (dk_at dksX3_line_3 0 rfl rfl)
theorem dX3_line_72 : decode cX3_line 72 = .ok (.ldc 141, 2) := dk_18 141 (dk_at dksX3_line_3 1 rfl rfl)
theorem dX3_line_74 : decode cX3_line 74 = .ok (.invokevirtual 135, 3) := dk_182 0 135 (dk_at dksX3_line_3 3 rfl rfl)
theorem dX3_line_77 : decode cX3_line 77 = .ok (.ifCond .eq 8, 3) := dk_153 0 8 (dk_at dksX3_line_3 6 rfl rfl)
theorem dX3_line_80 : decode cX3_line 80 = .ok (.aload_n 0, 1) := dk_42 (dk_at dksX3_line_3 9 rfl rfl)
theorem dX3_line_81 : decode cX3_line 81 = .ok (.invokevirtual 177, 3) := dk_182 0 177 (dk_at dksX3_line_3 10 rfl rfl)
theorem dX3_line_84 : decode cX3_line 84 = .ok (.areturn, 1) := dk_176 (dk_at dksX3_line_3 13 rfl rfl)
theorem dX3_line_85 : decode cX3_line 85 = .ok (.aload_n 0, 1) := dk_42 (dk_at dksX3_line_3 14 rfl rfl)
theorem dX3_line_86 : decode cX3_line 86 = .ok (.invokevirtual 145, 3) := dk_182 0 145 (dk_at dksX3_line_3 15 rfl rfl)
theorem dX3_line_89 : decode cX3_line 89 = .ok (.istore_n 1, 1) := dk_60 (dk_at dksX3_line_3 18 rfl rfl)
theorem dX3_line_90 : decode cX3_line 90 = .ok (.iload_n 1, 1) := dk_27 (dk_at dksX3_line_3 19 rfl rfl)
theorem dX3_line_91 : decode cX3_line 91 = .ok (.iconst (-1), 1) := dk_2 (dk_at dksX3_line_3 20 rfl rfl)
theorem dX3_line_92 : decode cX3_line 92 = .ok (.if_icmp .ne 8, 3) := dk_160 0 8 (dk_at dksX3_line_3 21 rfl rfl)
theorem dX3_line_95 : decode cX3_line 95 = .ok (.aload_n 0, 1) := dk_42 (dk_at dksX3_line_4 0 rfl rfl)
theorem dX3_line_96 : decode cX3_line 96 = .ok (.invokevirtual 180, 3) := dk_182 0 180 (dk_at dksX3_line_4 1 rfl rfl)
theorem dX3_line_99 : decode cX3_line 99 = .ok (.areturn, 1) := dk_176 (dk_at dksX3_line_4 4 rfl rfl)
theorem dX3_line_100 : decode cX3_line 100 = .ok (.aload_n 0, 1) := dk_42 (dk_at dksX3_line_4 5 rfl rfl)
theorem dX3_line_101 : decode cX3_line 101 = .ok (.invokevirtual 89, 3) := dk_182 0 89 (dk_at dksX3_line_4 6 rfl rfl)
theorem dX3_line_104 : decode cX3_line 104 = .ok (.aload_n 0, 1) := dk_42 (dk_at dksX3_line_4 9 rfl rfl)
theorem dX3_line_105 : decode cX3_line 105 = .ok (.bipush 61, 2) := dk_16 61 (dk_at dksX3_line_4 10 rfl rfl)
theorem dX3_line_107 : decode cX3_line 107 = .ok (.invokevirtual 129, 3) := dk_182 0 129 (dk_at dksX3_line_4 12 rfl rfl)
theorem dX3_line_110 : decode cX3_line 110 = .ok (.aload_n 0, 1) := dk_42 (dk_at dksX3_line_4 15 rfl rfl)
theorem dX3_line_111 : decode cX3_line 111 = .ok (.iload_n 1, 1) := dk_27 (dk_at dksX3_line_4 16 rfl rfl)
theorem dX3_line_112 : decode cX3_line 112 = .ok (.invokevirtual 183, 3) := dk_182 0 183 (dk_at dksX3_line_4 17 rfl rfl)
theorem dX3_line_115 : decode cX3_line 115 = .ok (.areturn, 1) := dk_176 (dk_at dksX3_line_4 20 rfl rfl)
abbrev cX3_operand : ByteArray := prog_12_method_20_code
def yX3_operand : MethodName := ⟨RX3, "operand", "()LLateAndEarly$Operand;"⟩
def dkwX3_operand_3 : List UInt8 := [182, 0, 89, 187, 0, 217, 89, 3, 29, 183, 0, 219, 176]
abbrev dktX3_operand_3 : List UInt8 := dkwX3_operand_3 ++ []
def dkwX3_operand_2 : List UInt8 := [5, 182, 0, 85, 191, 28, 153, 0, 11, 42, 180, 0, 73, 116, 167, 0, 7, 42, 180, 0, 73, 62, 42]
abbrev dktX3_operand_2 : List UInt8 := dkwX3_operand_2 ++ dktX3_operand_3
def dkwX3_operand_1 : List UInt8 := [42, 16, 45, 182, 0, 81, 61, 28, 153, 0, 7, 42, 182, 0, 89, 42, 180, 0, 53, 6, 159, 0, 9, 42]
abbrev dktX3_operand_1 : List UInt8 := dkwX3_operand_1 ++ dktX3_operand_2
def dkwX3_operand_0 : List UInt8 := [42, 182, 0, 145, 60, 27, 2, 159, 0, 17, 42, 182, 0, 89, 187, 0, 217, 89, 4, 27, 183, 0, 219, 176]
abbrev dktX3_operand_0 : List UInt8 := dkwX3_operand_0 ++ dktX3_operand_1
theorem dksX3_operand_0 : cX3_operand.data.toList.drop 0 = dktX3_operand_0 := by decide +kernel
theorem dksX3_operand_1 : cX3_operand.data.toList.drop 24 = dktX3_operand_1 := dk_seg dksX3_operand_0 24 rfl rfl
theorem dksX3_operand_2 : cX3_operand.data.toList.drop 48 = dktX3_operand_2 := dk_seg dksX3_operand_1 24 rfl rfl
theorem dksX3_operand_3 : cX3_operand.data.toList.drop 71 = dktX3_operand_3 := dk_seg dksX3_operand_2 23 rfl rfl
theorem dX3_operand_0 : decode cX3_operand 0 = .ok (.aload_n 0, 1) := dk_42 (dk_at dksX3_operand_0 0 rfl rfl)
theorem dX3_operand_1 : decode cX3_operand 1 = .ok (.invokevirtual 145, 3) := dk_182 0 145 (dk_at dksX3_operand_0 1 rfl rfl)
theorem dX3_operand_4 : decode cX3_operand 4 = .ok (.istore_n 1, 1) := dk_60 (dk_at dksX3_operand_0 4 rfl rfl)
theorem dX3_operand_5 : decode cX3_operand 5 = .ok (.iload_n 1, 1) := dk_27 (dk_at dksX3_operand_0 5 rfl rfl)
theorem dX3_operand_6 : decode cX3_operand 6 = .ok (.iconst (-1), 1) := dk_2 (dk_at dksX3_operand_0 6 rfl rfl)
theorem dX3_operand_7 : decode cX3_operand 7 = .ok (.if_icmp .eq 17, 3) := dk_159 0 17 (dk_at dksX3_operand_0 7 rfl rfl)
theorem dX3_operand_10 : decode cX3_operand 10 = .ok (.aload_n 0, 1) := dk_42 (dk_at dksX3_operand_0 10 rfl rfl)
theorem dX3_operand_11 : decode cX3_operand 11 = .ok (.invokevirtual 89, 3) := dk_182 0 89 (dk_at dksX3_operand_0 11 rfl rfl)
theorem dX3_operand_14 : decode cX3_operand 14 = .ok (.new 217, 3) := dk_187 0 217 (dk_at dksX3_operand_0 14 rfl rfl)
theorem dX3_operand_17 : decode cX3_operand 17 = .ok (.dup, 1) := dk_89 (dk_at dksX3_operand_0 17 rfl rfl)
theorem dX3_operand_18 : decode cX3_operand 18 = .ok (.iconst 1, 1) := dk_4 (dk_at dksX3_operand_0 18 rfl rfl)
theorem dX3_operand_19 : decode cX3_operand 19 = .ok (.iload_n 1, 1) := dk_27 (dk_at dksX3_operand_0 19 rfl rfl)
theorem dX3_operand_20 : decode cX3_operand 20 = .ok (.invokespecial 219, 3) := dk_183 0 219 (dk_at dksX3_operand_0 20 rfl rfl)
theorem dX3_operand_23 : decode cX3_operand 23 = .ok (.areturn, 1) := dk_176 (dk_at dksX3_operand_0 23 rfl rfl)
theorem dX3_operand_24 : decode cX3_operand 24 = .ok (.aload_n 0, 1) := dk_42 (dk_at dksX3_operand_1 0 rfl rfl)
theorem dX3_operand_25 : decode cX3_operand 25 = .ok (.bipush 45, 2) := dk_16 45 (dk_at dksX3_operand_1 1 rfl rfl)
theorem dX3_operand_27 : decode cX3_operand 27 = .ok (.invokevirtual 81, 3) := dk_182 0 81 (dk_at dksX3_operand_1 3 rfl rfl)
theorem dX3_operand_30 : decode cX3_operand 30 = .ok (.istore_n 2, 1) := dk_61 (dk_at dksX3_operand_1 6 rfl rfl)
theorem dX3_operand_31 : decode cX3_operand 31 = .ok (.iload_n 2, 1) := dk_28 (dk_at dksX3_operand_1 7 rfl rfl)
theorem dX3_operand_32 : decode cX3_operand 32 = .ok (.ifCond .eq 7, 3) := dk_153 0 7 (dk_at dksX3_operand_1 8 rfl rfl)
theorem dX3_operand_35 : decode cX3_operand 35 = .ok (.aload_n 0, 1) := dk_42 (dk_at dksX3_operand_1 11 rfl rfl)
theorem dX3_operand_36 : decode cX3_operand 36 = .ok (.invokevirtual 89, 3) := dk_182 0 89 (dk_at dksX3_operand_1 12 rfl rfl)
theorem dX3_operand_39 : decode cX3_operand 39 = .ok (.aload_n 0, 1) := dk_42 (dk_at dksX3_operand_1 15 rfl rfl)
theorem dX3_operand_40 : decode cX3_operand 40 = .ok (.getfield 53, 3) := dk_180 0 53 (dk_at dksX3_operand_1 16 rfl rfl)
theorem dX3_operand_43 : decode cX3_operand 43 = .ok (.iconst 3, 1) := dk_6 (dk_at dksX3_operand_1 19 rfl rfl)
theorem dX3_operand_44 : decode cX3_operand 44 = .ok (.if_icmp .eq 9, 3) := dk_159 0 9 (dk_at dksX3_operand_1 20 rfl rfl)
theorem dX3_operand_47 : decode cX3_operand 47 = .ok (.aload_n 0, 1) := dk_42 (dk_at dksX3_operand_1 23 rfl rfl)
theorem dX3_operand_48 : decode cX3_operand 48 = .ok (.iconst 2, 1) := dk_5 (dk_at dksX3_operand_2 0 rfl rfl)
theorem dX3_operand_49 : decode cX3_operand 49 = .ok (.invokevirtual 85, 3) := dk_182 0 85 (dk_at dksX3_operand_2 1 rfl rfl)
theorem dX3_operand_52 : decode cX3_operand 52 = .ok (.athrow, 1) := dk_191 (dk_at dksX3_operand_2 4 rfl rfl)
theorem dX3_operand_53 : decode cX3_operand 53 = .ok (.iload_n 2, 1) := dk_28 (dk_at dksX3_operand_2 5 rfl rfl)
theorem dX3_operand_54 : decode cX3_operand 54 = .ok (.ifCond .eq 11, 3) := dk_153 0 11 (dk_at dksX3_operand_2 6 rfl rfl)
theorem dX3_operand_57 : decode cX3_operand 57 = .ok (.aload_n 0, 1) := dk_42 (dk_at dksX3_operand_2 9 rfl rfl)
theorem dX3_operand_58 : decode cX3_operand 58 = .ok (.getfield 73, 3) := dk_180 0 73 (dk_at dksX3_operand_2 10 rfl rfl)
theorem dX3_operand_61 : decode cX3_operand 61 = .ok (.ineg, 1) := dk_116 (dk_at dksX3_operand_2 13 rfl rfl)
theorem dX3_operand_62 : decode cX3_operand 62 = .ok (.goto 7, 3) := dk_167 0 7 (dk_at dksX3_operand_2 14 rfl rfl)
theorem dX3_operand_65 : decode cX3_operand 65 = .ok (.aload_n 0, 1) := dk_42 (dk_at dksX3_operand_2 17 rfl rfl)
theorem dX3_operand_66 : decode cX3_operand 66 = .ok (.getfield 73, 3) := dk_180 0 73 (dk_at dksX3_operand_2 18 rfl rfl)
theorem dX3_operand_69 : decode cX3_operand 69 = .ok (.istore_n 3, 1) := dk_62 (dk_at dksX3_operand_2 21 rfl rfl)
theorem dX3_operand_70 : decode cX3_operand 70 = .ok (.aload_n 0, 1) := dk_42 (dk_at dksX3_operand_2 22 rfl rfl)
theorem dX3_operand_71 : decode cX3_operand 71 = .ok (.invokevirtual 89, 3) := dk_182 0 89 (dk_at dksX3_operand_3 0 rfl rfl)
theorem dX3_operand_74 : decode cX3_operand 74 = .ok (.new 217, 3) := dk_187 0 217 (dk_at dksX3_operand_3 3 rfl rfl)
theorem dX3_operand_77 : decode cX3_operand 77 = .ok (.dup, 1) := dk_89 (dk_at dksX3_operand_3 6 rfl rfl)
theorem dX3_operand_78 : decode cX3_operand 78 = .ok (.iconst 0, 1) := dk_3 (dk_at dksX3_operand_3 7 rfl rfl)
theorem dX3_operand_79 : decode cX3_operand 79 = .ok (.iload_n 3, 1) := dk_29 (dk_at dksX3_operand_3 8 rfl rfl)
theorem dX3_operand_80 : decode cX3_operand 80 = .ok (.invokespecial 219, 3) := dk_183 0 219 (dk_at dksX3_operand_3 9 rfl rfl)
theorem dX3_operand_83 : decode cX3_operand 83 = .ok (.areturn, 1) := dk_176 (dk_at dksX3_operand_3 12 rfl rfl)
abbrev cX3_target : ByteArray := prog_12_method_17_code
def yX3_target : MethodName := ⟨RX3, "target", "()I"⟩
def dkwX3_target_2 : List UInt8 := [182, 0, 89, 27, 172]
abbrev dktX3_target_2 : List UInt8 := dkwX3_target_2 ++ []
def dkwX3_target_1 : List UInt8 := [27, 184, 0, 119, 182, 0, 125, 87, 42, 180, 0, 29, 42, 180, 0, 46, 184, 0, 119, 182, 0, 125, 87, 42]
abbrev dktX3_target_1 : List UInt8 := dkwX3_target_1 ++ dktX3_target_2
def dkwX3_target_0 : List UInt8 := [42, 16, 98, 16, 39, 182, 0, 100, 60, 27, 2, 160, 0, 9, 42, 5, 182, 0, 85, 191, 42, 180, 0, 25]
abbrev dktX3_target_0 : List UInt8 := dkwX3_target_0 ++ dktX3_target_1
theorem dksX3_target_0 : cX3_target.data.toList.drop 0 = dktX3_target_0 := by decide +kernel
theorem dksX3_target_1 : cX3_target.data.toList.drop 24 = dktX3_target_1 := dk_seg dksX3_target_0 24 rfl rfl
theorem dksX3_target_2 : cX3_target.data.toList.drop 48 = dktX3_target_2 := dk_seg dksX3_target_1 24 rfl rfl
theorem dX3_target_0 : decode cX3_target 0 = .ok (.aload_n 0, 1) := dk_42 (dk_at dksX3_target_0 0 rfl rfl)
theorem dX3_target_1 : decode cX3_target 1 = .ok (.bipush 98, 2) := dk_16 98 (dk_at dksX3_target_0 1 rfl rfl)
theorem dX3_target_3 : decode cX3_target 3 = .ok (.bipush 39, 2) := dk_16 39 (dk_at dksX3_target_0 3 rfl rfl)
theorem dX3_target_5 : decode cX3_target 5 = .ok (.invokevirtual 100, 3) := dk_182 0 100 (dk_at dksX3_target_0 5 rfl rfl)
theorem dX3_target_8 : decode cX3_target 8 = .ok (.istore_n 1, 1) := dk_60 (dk_at dksX3_target_0 8 rfl rfl)
theorem dX3_target_9 : decode cX3_target 9 = .ok (.iload_n 1, 1) := dk_27 (dk_at dksX3_target_0 9 rfl rfl)
theorem dX3_target_10 : decode cX3_target 10 = .ok (.iconst (-1), 1) := dk_2 (dk_at dksX3_target_0 10 rfl rfl)
theorem dX3_target_11 : decode cX3_target 11 = .ok (.if_icmp .ne 9, 3) := dk_160 0 9 (dk_at dksX3_target_0 11 rfl rfl)
theorem dX3_target_14 : decode cX3_target 14 = .ok (.aload_n 0, 1) := dk_42 (dk_at dksX3_target_0 14 rfl rfl)
theorem dX3_target_15 : decode cX3_target 15 = .ok (.iconst 2, 1) := dk_5 (dk_at dksX3_target_0 15 rfl rfl)
theorem dX3_target_16 : decode cX3_target 16 = .ok (.invokevirtual 85, 3) := dk_182 0 85 (dk_at dksX3_target_0 16 rfl rfl)
theorem dX3_target_19 : decode cX3_target 19 = .ok (.athrow, 1) := dk_191 (dk_at dksX3_target_0 19 rfl rfl)
theorem dX3_target_20 : decode cX3_target 20 = .ok (.aload_n 0, 1) := dk_42 (dk_at dksX3_target_0 20 rfl rfl)
theorem dX3_target_21 : decode cX3_target 21 = .ok (.getfield 25, 3) := dk_180 0 25 (dk_at dksX3_target_0 21 rfl rfl)
theorem dX3_target_24 : decode cX3_target 24 = .ok (.iload_n 1, 1) := dk_27 (dk_at dksX3_target_1 0 rfl rfl)
theorem dX3_target_25 : decode cX3_target 25 = .ok (.invokestatic 119, 3) := dk_184 0 119 (dk_at dksX3_target_1 1 rfl rfl)
theorem dX3_target_28 : decode cX3_target 28 = .ok (.invokevirtual 125, 3) := dk_182 0 125 (dk_at dksX3_target_1 4 rfl rfl)
theorem dX3_target_31 : decode cX3_target 31 = .ok (.pop, 1) := dk_87 (dk_at dksX3_target_1 7 rfl rfl)
theorem dX3_target_32 : decode cX3_target 32 = .ok (.aload_n 0, 1) := dk_42 (dk_at dksX3_target_1 8 rfl rfl)
theorem dX3_target_33 : decode cX3_target 33 = .ok (.getfield 29, 3) := dk_180 0 29 (dk_at dksX3_target_1 9 rfl rfl)
theorem dX3_target_36 : decode cX3_target 36 = .ok (.aload_n 0, 1) := dk_42 (dk_at dksX3_target_1 12 rfl rfl)
theorem dX3_target_37 : decode cX3_target 37 = .ok (.getfield 46, 3) := dk_180 0 46 (dk_at dksX3_target_1 13 rfl rfl)
theorem dX3_target_40 : decode cX3_target 40 = .ok (.invokestatic 119, 3) := dk_184 0 119 (dk_at dksX3_target_1 16 rfl rfl)
theorem dX3_target_43 : decode cX3_target 43 = .ok (.invokevirtual 125, 3) := dk_182 0 125 (dk_at dksX3_target_1 19 rfl rfl)
theorem dX3_target_46 : decode cX3_target 46 = .ok (.pop, 1) := dk_87 (dk_at dksX3_target_1 22 rfl rfl)
theorem dX3_target_47 : decode cX3_target 47 = .ok (.aload_n 0, 1) := dk_42 (dk_at dksX3_target_1 23 rfl rfl)
theorem dX3_target_48 : decode cX3_target 48 = .ok (.invokevirtual 89, 3) := dk_182 0 89 (dk_at dksX3_target_2 0 rfl rfl)
theorem dX3_target_51 : decode cX3_target 51 = .ok (.iload_n 1, 1) := dk_27 (dk_at dksX3_target_2 3 rfl rfl)
theorem dX3_target_52 : decode cX3_target 52 = .ok (.ireturn, 1) := dk_172 (dk_at dksX3_target_2 4 rfl rfl)
abbrev cX3_test : ByteArray := prog_12_method_16_code
def yX3_test : MethodName := ⟨RX3, "test", "()LLateAndEarly$Node;"⟩
def dkwX3_test_1 : List UInt8 := [62, 187, 0, 187, 89, 43, 44, 29, 42, 182, 0, 171, 183, 0, 189, 176]
abbrev dktX3_test_1 : List UInt8 := dkwX3_test_1 ++ []
def dkwX3_test_0 : List UInt8 := [42, 182, 0, 89, 42, 182, 0, 159, 76, 42, 16, 60, 182, 0, 129, 42, 182, 0, 159, 77, 42, 182, 0, 171]
abbrev dktX3_test_0 : List UInt8 := dkwX3_test_0 ++ dktX3_test_1
theorem dksX3_test_0 : cX3_test.data.toList.drop 0 = dktX3_test_0 := by decide +kernel
theorem dksX3_test_1 : cX3_test.data.toList.drop 24 = dktX3_test_1 := dk_seg dksX3_test_0 24 rfl rfl
theorem dX3_test_0 : decode cX3_test 0 = .ok (.aload_n 0, 1) := dk_42 (dk_at dksX3_test_0 0 rfl rfl)
theorem dX3_test_1 : decode cX3_test 1 = .ok (.invokevirtual 89, 3) := dk_182 0 89 (dk_at dksX3_test_0 1 rfl rfl)
theorem dX3_test_4 : decode cX3_test 4 = .ok (.aload_n 0, 1) := dk_42 (dk_at dksX3_test_0 4 rfl rfl)
theorem dX3_test_5 : decode cX3_test 5 = .ok (.invokevirtual 159, 3) := dk_182 0 159 (dk_at dksX3_test_0 5 rfl rfl)
theorem dX3_test_8 : decode cX3_test 8 = .ok (.astore_n 1, 1) := dk_76 (dk_at dksX3_test_0 8 rfl rfl)
theorem dX3_test_9 : decode cX3_test 9 = .ok (.aload_n 0, 1) := dk_42 (dk_at dksX3_test_0 9 rfl rfl)
theorem dX3_test_10 : decode cX3_test 10 = .ok (.bipush 60, 2) := dk_16 60 (dk_at dksX3_test_0 10 rfl rfl)
theorem dX3_test_12 : decode cX3_test 12 = .ok (.invokevirtual 129, 3) := dk_182 0 129 (dk_at dksX3_test_0 12 rfl rfl)
theorem dX3_test_15 : decode cX3_test 15 = .ok (.aload_n 0, 1) := dk_42 (dk_at dksX3_test_0 15 rfl rfl)
theorem dX3_test_16 : decode cX3_test 16 = .ok (.invokevirtual 159, 3) := dk_182 0 159 (dk_at dksX3_test_0 16 rfl rfl)
theorem dX3_test_19 : decode cX3_test 19 = .ok (.astore_n 2, 1) := dk_77 (dk_at dksX3_test_0 19 rfl rfl)
theorem dX3_test_20 : decode cX3_test 20 = .ok (.aload_n 0, 1) := dk_42 (dk_at dksX3_test_0 20 rfl rfl)
theorem dX3_test_21 : decode cX3_test 21 = .ok (.invokevirtual 171, 3) := dk_182 0 171 (dk_at dksX3_test_0 21 rfl rfl)
theorem dX3_test_24 : decode cX3_test 24 = .ok (.istore_n 3, 1) := dk_62 (dk_at dksX3_test_1 0 rfl rfl)
theorem dX3_test_25 : decode cX3_test 25 = .ok (.new 187, 3) := dk_187 0 187 (dk_at dksX3_test_1 1 rfl rfl)
theorem dX3_test_28 : decode cX3_test 28 = .ok (.dup, 1) := dk_89 (dk_at dksX3_test_1 4 rfl rfl)
theorem dX3_test_29 : decode cX3_test 29 = .ok (.aload_n 1, 1) := dk_43 (dk_at dksX3_test_1 5 rfl rfl)
theorem dX3_test_30 : decode cX3_test 30 = .ok (.aload_n 2, 1) := dk_44 (dk_at dksX3_test_1 6 rfl rfl)
theorem dX3_test_31 : decode cX3_test 31 = .ok (.iload_n 3, 1) := dk_29 (dk_at dksX3_test_1 7 rfl rfl)
theorem dX3_test_32 : decode cX3_test 32 = .ok (.aload_n 0, 1) := dk_42 (dk_at dksX3_test_1 8 rfl rfl)
theorem dX3_test_33 : decode cX3_test 33 = .ok (.invokevirtual 171, 3) := dk_182 0 171 (dk_at dksX3_test_1 9 rfl rfl)
theorem dX3_test_36 : decode cX3_test 36 = .ok (.invokespecial 189, 3) := dk_183 0 189 (dk_at dksX3_test_1 12 rfl rfl)
theorem dX3_test_39 : decode cX3_test 39 = .ok (.areturn, 1) := dk_176 (dk_at dksX3_test_1 15 rfl rfl)
abbrev cX3_write : ByteArray := prog_12_method_18_code
def yX3_write : MethodName := ⟨RX3, "write", "()LLateAndEarly$Node;"⟩
def dkwX3_write_2 : List UInt8 := [176]
abbrev dktX3_write_2 : List UInt8 := dkwX3_write_2 ++ []
def dkwX3_write_1 : List UInt8 := [16, 93, 182, 0, 129, 42, 16, 61, 182, 0, 129, 187, 0, 192, 89, 27, 44, 42, 182, 0, 159, 183, 0, 194]
abbrev dktX3_write_1 : List UInt8 := dkwX3_write_1 ++ dktX3_write_2
def dkwX3_write_0 : List UInt8 := [42, 16, 114, 4, 182, 0, 100, 60, 42, 182, 0, 89, 42, 16, 91, 182, 0, 129, 42, 182, 0, 159, 77, 42]
abbrev dktX3_write_0 : List UInt8 := dkwX3_write_0 ++ dktX3_write_1
theorem dksX3_write_0 : cX3_write.data.toList.drop 0 = dktX3_write_0 := by decide +kernel
theorem dksX3_write_1 : cX3_write.data.toList.drop 24 = dktX3_write_1 := dk_seg dksX3_write_0 24 rfl rfl
theorem dksX3_write_2 : cX3_write.data.toList.drop 48 = dktX3_write_2 := dk_seg dksX3_write_1 24 rfl rfl
theorem dX3_write_0 : decode cX3_write 0 = .ok (.aload_n 0, 1) := dk_42 (dk_at dksX3_write_0 0 rfl rfl)
theorem dX3_write_1 : decode cX3_write 1 = .ok (.bipush 114, 2) := dk_16 114 (dk_at dksX3_write_0 1 rfl rfl)
theorem dX3_write_3 : decode cX3_write 3 = .ok (.iconst 1, 1) := dk_4 (dk_at dksX3_write_0 3 rfl rfl)
theorem dX3_write_4 : decode cX3_write 4 = .ok (.invokevirtual 100, 3) := dk_182 0 100 (dk_at dksX3_write_0 4 rfl rfl)
theorem dX3_write_7 : decode cX3_write 7 = .ok (.istore_n 1, 1) := dk_60 (dk_at dksX3_write_0 7 rfl rfl)
theorem dX3_write_8 : decode cX3_write 8 = .ok (.aload_n 0, 1) := dk_42 (dk_at dksX3_write_0 8 rfl rfl)
theorem dX3_write_9 : decode cX3_write 9 = .ok (.invokevirtual 89, 3) := dk_182 0 89 (dk_at dksX3_write_0 9 rfl rfl)
theorem dX3_write_12 : decode cX3_write 12 = .ok (.aload_n 0, 1) := dk_42 (dk_at dksX3_write_0 12 rfl rfl)
theorem dX3_write_13 : decode cX3_write 13 = .ok (.bipush 91, 2) := dk_16 91 (dk_at dksX3_write_0 13 rfl rfl)
theorem dX3_write_15 : decode cX3_write 15 = .ok (.invokevirtual 129, 3) := dk_182 0 129 (dk_at dksX3_write_0 15 rfl rfl)
theorem dX3_write_18 : decode cX3_write 18 = .ok (.aload_n 0, 1) := dk_42 (dk_at dksX3_write_0 18 rfl rfl)
theorem dX3_write_19 : decode cX3_write 19 = .ok (.invokevirtual 159, 3) := dk_182 0 159 (dk_at dksX3_write_0 19 rfl rfl)
theorem dX3_write_22 : decode cX3_write 22 = .ok (.astore_n 2, 1) := dk_77 (dk_at dksX3_write_0 22 rfl rfl)
theorem dX3_write_23 : decode cX3_write 23 = .ok (.aload_n 0, 1) := dk_42 (dk_at dksX3_write_0 23 rfl rfl)
theorem dX3_write_24 : decode cX3_write 24 = .ok (.bipush 93, 2) := dk_16 93 (dk_at dksX3_write_1 0 rfl rfl)
theorem dX3_write_26 : decode cX3_write 26 = .ok (.invokevirtual 129, 3) := dk_182 0 129 (dk_at dksX3_write_1 2 rfl rfl)
theorem dX3_write_29 : decode cX3_write 29 = .ok (.aload_n 0, 1) := dk_42 (dk_at dksX3_write_1 5 rfl rfl)
theorem dX3_write_30 : decode cX3_write 30 = .ok (.bipush 61, 2) := dk_16 61 (dk_at dksX3_write_1 6 rfl rfl)
theorem dX3_write_32 : decode cX3_write 32 = .ok (.invokevirtual 129, 3) := dk_182 0 129 (dk_at dksX3_write_1 8 rfl rfl)
theorem dX3_write_35 : decode cX3_write 35 = .ok (.new 192, 3) := dk_187 0 192 (dk_at dksX3_write_1 11 rfl rfl)
theorem dX3_write_38 : decode cX3_write 38 = .ok (.dup, 1) := dk_89 (dk_at dksX3_write_1 14 rfl rfl)
theorem dX3_write_39 : decode cX3_write 39 = .ok (.iload_n 1, 1) := dk_27 (dk_at dksX3_write_1 15 rfl rfl)
theorem dX3_write_40 : decode cX3_write 40 = .ok (.aload_n 2, 1) := dk_44 (dk_at dksX3_write_1 16 rfl rfl)
theorem dX3_write_41 : decode cX3_write 41 = .ok (.aload_n 0, 1) := dk_42 (dk_at dksX3_write_1 17 rfl rfl)
theorem dX3_write_42 : decode cX3_write 42 = .ok (.invokevirtual 159, 3) := dk_182 0 159 (dk_at dksX3_write_1 18 rfl rfl)
theorem dX3_write_45 : decode cX3_write 45 = .ok (.invokespecial 194, 3) := dk_183 0 194 (dk_at dksX3_write_1 21 rfl rfl)
theorem dX3_write_48 : decode cX3_write 48 = .ok (.areturn, 1) := dk_176 (dk_at dksX3_write_2 0 rfl rfl)
abbrev cX3_value : ByteArray := prog_12_method_19_code
def yX3_value : MethodName := ⟨RX3, "value", "(I)LLateAndEarly$Node;"⟩
def dkwX3_value_5 : List UInt8 := [182, 0, 159, 183, 0, 214, 183, 0, 204, 176]
abbrev dktX3_value_5 : List UInt8 := dkwX3_value_5 ++ []
def dkwX3_value_4 : List UInt8 := [182, 0, 49, 146, 54, 4, 42, 182, 0, 89, 187, 0, 197, 89, 27, 187, 0, 212, 89, 21, 4, 45, 42]
abbrev dktX3_value_4 : List UInt8 := dkwX3_value_4 ++ dktX3_value_5
def dkwX3_value_3 : List UInt8 := [182, 0, 49, 182, 0, 68, 156, 0, 13, 187, 0, 209, 89, 27, 45, 183, 0, 211, 176, 42, 42, 180, 0, 46]
abbrev dktX3_value_3 : List UInt8 := dkwX3_value_3 ++ dktX3_value_4
def dkwX3_value_2 : List UInt8 := [183, 0, 204, 176, 42, 182, 0, 159, 78, 42, 180, 0, 53, 7, 160, 0, 19, 18, 207, 42, 42, 180, 0, 46]
abbrev dktX3_value_2 : List UInt8 := dkwX3_value_2 ++ dktX3_value_3
def dkwX3_value_1 : List UInt8 := [182, 0, 159, 78, 42, 16, 93, 182, 0, 129, 187, 0, 197, 89, 27, 187, 0, 199, 89, 28, 45, 183, 0, 201]
abbrev dktX3_value_1 : List UInt8 := dkwX3_value_1 ++ dktX3_value_2
def dkwX3_value_0 : List UInt8 := [42, 16, 114, 4, 182, 0, 100, 61, 28, 2, 159, 0, 42, 42, 182, 0, 89, 42, 16, 91, 182, 0, 129, 42]
abbrev dktX3_value_0 : List UInt8 := dkwX3_value_0 ++ dktX3_value_1
theorem dksX3_value_0 : cX3_value.data.toList.drop 0 = dktX3_value_0 := by decide +kernel
theorem dksX3_value_1 : cX3_value.data.toList.drop 24 = dktX3_value_1 := dk_seg dksX3_value_0 24 rfl rfl
theorem dksX3_value_2 : cX3_value.data.toList.drop 48 = dktX3_value_2 := dk_seg dksX3_value_1 24 rfl rfl
theorem dksX3_value_3 : cX3_value.data.toList.drop 72 = dktX3_value_3 := dk_seg dksX3_value_2 24 rfl rfl
theorem dksX3_value_4 : cX3_value.data.toList.drop 96 = dktX3_value_4 := dk_seg dksX3_value_3 24 rfl rfl
theorem dksX3_value_5 : cX3_value.data.toList.drop 119 = dktX3_value_5 := dk_seg dksX3_value_4 23 rfl rfl
theorem dX3_value_0 : decode cX3_value 0 = .ok (.aload_n 0, 1) := dk_42 (dk_at dksX3_value_0 0 rfl rfl)
theorem dX3_value_1 : decode cX3_value 1 = .ok (.bipush 114, 2) := dk_16 114 (dk_at dksX3_value_0 1 rfl rfl)
theorem dX3_value_3 : decode cX3_value 3 = .ok (.iconst 1, 1) := dk_4 (dk_at dksX3_value_0 3 rfl rfl)
theorem dX3_value_4 : decode cX3_value 4 = .ok (.invokevirtual 100, 3) := dk_182 0 100 (dk_at dksX3_value_0 4 rfl rfl)
theorem dX3_value_7 : decode cX3_value 7 = .ok (.istore_n 2, 1) := dk_61 (dk_at dksX3_value_0 7 rfl rfl)
theorem dX3_value_8 : decode cX3_value 8 = .ok (.iload_n 2, 1) := dk_28 (dk_at dksX3_value_0 8 rfl rfl)
theorem dX3_value_9 : decode cX3_value 9 = .ok (.iconst (-1), 1) := dk_2 (dk_at dksX3_value_0 9 rfl rfl)
theorem dX3_value_10 : decode cX3_value 10 = .ok (.if_icmp .eq 42, 3) := dk_159 0 42 (dk_at dksX3_value_0 10 rfl rfl)
theorem dX3_value_13 : decode cX3_value 13 = .ok (.aload_n 0, 1) := dk_42 (dk_at dksX3_value_0 13 rfl rfl)
theorem dX3_value_14 : decode cX3_value 14 = .ok (.invokevirtual 89, 3) := dk_182 0 89 (dk_at dksX3_value_0 14 rfl rfl)
theorem dX3_value_17 : decode cX3_value 17 = .ok (.aload_n 0, 1) := dk_42 (dk_at dksX3_value_0 17 rfl rfl)
theorem dX3_value_18 : decode cX3_value 18 = .ok (.bipush 91, 2) := dk_16 91 (dk_at dksX3_value_0 18 rfl rfl)
theorem dX3_value_20 : decode cX3_value 20 = .ok (.invokevirtual 129, 3) := dk_182 0 129 (dk_at dksX3_value_0 20 rfl rfl)
theorem dX3_value_23 : decode cX3_value 23 = .ok (.aload_n 0, 1) := dk_42 (dk_at dksX3_value_0 23 rfl rfl)
theorem dX3_value_24 : decode cX3_value 24 = .ok (.invokevirtual 159, 3) := dk_182 0 159 (dk_at dksX3_value_1 0 rfl rfl)
theorem dX3_value_27 : decode cX3_value 27 = .ok (.astore_n 3, 1) := dk_78 (dk_at dksX3_value_1 3 rfl rfl)
theorem dX3_value_28 : decode cX3_value 28 = .ok (.aload_n 0, 1) := dk_42 (dk_at dksX3_value_1 4 rfl rfl)
theorem dX3_value_29 : decode cX3_value 29 = .ok (.bipush 93, 2) := dk_16 93 (dk_at dksX3_value_1 5 rfl rfl)
theorem dX3_value_31 : decode cX3_value 31 = .ok (.invokevirtual 129, 3) := dk_182 0 129 (dk_at dksX3_value_1 7 rfl rfl)
theorem dX3_value_34 : decode cX3_value 34 = .ok (.new 197, 3) := dk_187 0 197 (dk_at dksX3_value_1 10 rfl rfl)
theorem dX3_value_37 : decode cX3_value 37 = .ok (.dup, 1) := dk_89 (dk_at dksX3_value_1 13 rfl rfl)
theorem dX3_value_38 : decode cX3_value 38 = .ok (.iload_n 1, 1) := dk_27 (dk_at dksX3_value_1 14 rfl rfl)
theorem dX3_value_39 : decode cX3_value 39 = .ok (.new 199, 3) := dk_187 0 199 (dk_at dksX3_value_1 15 rfl rfl)
theorem dX3_value_42 : decode cX3_value 42 = .ok (.dup, 1) := dk_89 (dk_at dksX3_value_1 18 rfl rfl)
theorem dX3_value_43 : decode cX3_value 43 = .ok (.iload_n 2, 1) := dk_28 (dk_at dksX3_value_1 19 rfl rfl)
theorem dX3_value_44 : decode cX3_value 44 = .ok (.aload_n 3, 1) := dk_45 (dk_at dksX3_value_1 20 rfl rfl)
theorem dX3_value_45 : decode cX3_value 45 = .ok (.invokespecial 201, 3) := dk_183 0 201 (dk_at dksX3_value_1 21 rfl rfl)
theorem dX3_value_48 : decode cX3_value 48 = .ok (.invokespecial 204, 3) := dk_183 0 204 (dk_at dksX3_value_2 0 rfl rfl)
theorem dX3_value_51 : decode cX3_value 51 = .ok (.areturn, 1) := dk_176 (dk_at dksX3_value_2 3 rfl rfl)
theorem dX3_value_52 : decode cX3_value 52 = .ok (.aload_n 0, 1) := dk_42 (dk_at dksX3_value_2 4 rfl rfl)
theorem dX3_value_53 : decode cX3_value 53 = .ok (.invokevirtual 159, 3) := dk_182 0 159 (dk_at dksX3_value_2 5 rfl rfl)
theorem dX3_value_56 : decode cX3_value 56 = .ok (.astore_n 3, 1) := dk_78 (dk_at dksX3_value_2 8 rfl rfl)
theorem dX3_value_57 : decode cX3_value 57 = .ok (.aload_n 0, 1) := dk_42 (dk_at dksX3_value_2 9 rfl rfl)
theorem dX3_value_58 : decode cX3_value 58 = .ok (.getfield 53, 3) := dk_180 0 53 (dk_at dksX3_value_2 10 rfl rfl)
theorem dX3_value_61 : decode cX3_value 61 = .ok (.iconst 4, 1) := dk_7 (dk_at dksX3_value_2 13 rfl rfl)
theorem dX3_value_62 : decode cX3_value 62 = .ok (.if_icmp .ne 19, 3) := dk_160 0 19 (dk_at dksX3_value_2 14 rfl rfl)
theorem dX3_value_65 : decode cX3_value 65 = .ok (.ldc 207, 2) := dk_18 207 (dk_at dksX3_value_2 17 rfl rfl)
theorem dX3_value_67 : decode cX3_value 67 = .ok (.aload_n 0, 1) := dk_42 (dk_at dksX3_value_2 19 rfl rfl)
theorem dX3_value_68 : decode cX3_value 68 = .ok (.aload_n 0, 1) := dk_42 (dk_at dksX3_value_2 20 rfl rfl)
theorem dX3_value_69 : decode cX3_value 69 = .ok (.getfield 46, 3) := dk_180 0 46 (dk_at dksX3_value_2 21 rfl rfl)
theorem dX3_value_72 : decode cX3_value 72 = .ok (.invokevirtual 49, 3) := dk_182 0 49 (dk_at dksX3_value_3 0 rfl rfl)
theorem dX3_value_75 : decode cX3_value 75 = .ok (.invokevirtual 68, 3) := dk_182 0 68 (dk_at dksX3_value_3 3 rfl rfl)
theorem dX3_value_78 : decode cX3_value 78 = .ok (.ifCond .ge 13, 3) := dk_156 0 13 (dk_at dksX3_value_3 6 rfl rfl)
theorem dX3_value_81 : decode cX3_value 81 = .ok (.new 209, 3) := dk_187 0 209 (dk_at dksX3_value_3 9 rfl rfl)
theorem dX3_value_84 : decode cX3_value 84 = .ok (.dup, 1) := dk_89 (dk_at dksX3_value_3 12 rfl rfl)
theorem dX3_value_85 : decode cX3_value 85 = .ok (.iload_n 1, 1) := dk_27 (dk_at dksX3_value_3 13 rfl rfl)
theorem dX3_value_86 : decode cX3_value 86 = .ok (.aload_n 3, 1) := dk_45 (dk_at dksX3_value_3 14 rfl rfl)
theorem dX3_value_87 : decode cX3_value 87 = .ok (.invokespecial 211, 3) := dk_183 0 211 (dk_at dksX3_value_3 15 rfl rfl)
theorem dX3_value_90 : decode cX3_value 90 = .ok (.areturn, 1) := dk_176 (dk_at dksX3_value_3 18 rfl rfl)
theorem dX3_value_91 : decode cX3_value 91 = .ok (.aload_n 0, 1) := dk_42 (dk_at dksX3_value_3 19 rfl rfl)
theorem dX3_value_92 : decode cX3_value 92 = .ok (.aload_n 0, 1) := dk_42 (dk_at dksX3_value_3 20 rfl rfl)
theorem dX3_value_93 : decode cX3_value 93 = .ok (.getfield 46, 3) := dk_180 0 46 (dk_at dksX3_value_3 21 rfl rfl)
theorem dX3_value_96 : decode cX3_value 96 = .ok (.invokevirtual 49, 3) := dk_182 0 49 (dk_at dksX3_value_4 0 rfl rfl)
theorem dX3_value_99 : decode cX3_value 99 = .ok (.i2c, 1) := dk_146 (dk_at dksX3_value_4 3 rfl rfl)
theorem dX3_value_100 : decode cX3_value 100 = .ok (.istore 4, 2) := dk_54 4 (dk_at dksX3_value_4 4 rfl rfl)
theorem dX3_value_102 : decode cX3_value 102 = .ok (.aload_n 0, 1) := dk_42 (dk_at dksX3_value_4 6 rfl rfl)
theorem dX3_value_103 : decode cX3_value 103 = .ok (.invokevirtual 89, 3) := dk_182 0 89 (dk_at dksX3_value_4 7 rfl rfl)
theorem dX3_value_106 : decode cX3_value 106 = .ok (.new 197, 3) := dk_187 0 197 (dk_at dksX3_value_4 10 rfl rfl)
theorem dX3_value_109 : decode cX3_value 109 = .ok (.dup, 1) := dk_89 (dk_at dksX3_value_4 13 rfl rfl)
theorem dX3_value_110 : decode cX3_value 110 = .ok (.iload_n 1, 1) := dk_27 (dk_at dksX3_value_4 14 rfl rfl)
theorem dX3_value_111 : decode cX3_value 111 = .ok (.new 212, 3) := dk_187 0 212 (dk_at dksX3_value_4 15 rfl rfl)
theorem dX3_value_114 : decode cX3_value 114 = .ok (.dup, 1) := dk_89 (dk_at dksX3_value_4 18 rfl rfl)
theorem dX3_value_115 : decode cX3_value 115 = .ok (.iload 4, 2) := dk_21 4 (dk_at dksX3_value_4 19 rfl rfl)
theorem dX3_value_117 : decode cX3_value 117 = .ok (.aload_n 3, 1) := dk_45 (dk_at dksX3_value_4 21 rfl rfl)
theorem dX3_value_118 : decode cX3_value 118 = .ok (.aload_n 0, 1) := dk_42 (dk_at dksX3_value_4 22 rfl rfl)
theorem dX3_value_119 : decode cX3_value 119 = .ok (.invokevirtual 159, 3) := dk_182 0 159 (dk_at dksX3_value_5 0 rfl rfl)
theorem dX3_value_122 : decode cX3_value 122 = .ok (.invokespecial 214, 3) := dk_183 0 214 (dk_at dksX3_value_5 3 rfl rfl)
theorem dX3_value_125 : decode cX3_value 125 = .ok (.invokespecial 204, 3) := dk_183 0 204 (dk_at dksX3_value_5 6 rfl rfl)
theorem dX3_value_128 : decode cX3_value 128 = .ok (.areturn, 1) := dk_176 (dk_at dksX3_value_5 9 rfl rfl)
abbrev cX3_check : ByteArray := prog_12_method_21_code
def yX3_check : MethodName := ⟨RX3, "check", "()V"⟩
def dkwX3_check_13 : List UInt8 := [180, 0, 32, 29, 182, 0, 222, 192, 0, 120, 182, 0, 226, 183, 0, 78, 191, 132, 3, 1, 167, 255, 209, 177]
abbrev dktX3_check_13 : List UInt8 := dkwX3_check_13 ++ []
def dkwX3_check_12 : List UInt8 := [180, 0, 113, 182, 0, 116, 162, 0, 39, 44, 29, 51, 154, 0, 27, 187, 0, 76, 89, 16, 6, 42]
abbrev dktX3_check_12 : List UInt8 := dkwX3_check_12 ++ dktX3_check_13
def dkwX3_check_11 : List UInt8 := [192, 0, 120, 182, 0, 226, 183, 0, 78, 191, 132, 3, 1, 167, 255, 210, 3, 62, 29, 42, 180, 0, 18]
abbrev dktX3_check_11 : List UInt8 := dkwX3_check_11 ++ dktX3_check_12
def dkwX3_check_10 : List UInt8 := [162, 0, 38, 43, 29, 51, 154, 0, 26, 187, 0, 76, 89, 8, 42, 180, 0, 32, 29, 182, 0, 222]
abbrev dktX3_check_10 : List UInt8 := dkwX3_check_10 ++ dktX3_check_11
def dkwX3_check_9 : List UInt8 := [167, 255, 156, 132, 3, 1, 167, 255, 141, 3, 62, 29, 42, 180, 0, 18, 180, 0, 113, 182, 0, 116]
abbrev dktX3_check_9 : List UInt8 := dkwX3_check_9 ++ dktX3_check_10
def dkwX3_check_8 : List UInt8 := [21, 4, 92, 51, 44, 25, 5, 21, 6, 182, 0, 236, 51, 128, 84, 132, 6, 1, 167, 255, 211, 132, 4, 1]
abbrev dktX3_check_8 : List UInt8 := dkwX3_check_8 ++ dktX3_check_9
def dkwX3_check_7 : List UInt8 := [182, 0, 233, 162, 0, 41, 43, 25, 5, 21, 6, 182, 0, 236, 92, 51, 43, 21, 4, 51, 128, 84, 44]
abbrev dktX3_check_7 : List UInt8 := dkwX3_check_7 ++ dktX3_check_8
def dkwX3_check_6 : List UInt8 := [51, 25, 5, 182, 0, 233, 154, 0, 7, 4, 167, 0, 4, 3, 128, 84, 3, 54, 6, 21, 6, 25, 5]
abbrev dktX3_check_6 : List UInt8 := dkwX3_check_6 ++ dktX3_check_7
def dkwX3_check_5 : List UInt8 := [180, 0, 113, 182, 0, 116, 162, 0, 91, 42, 180, 0, 18, 21, 4, 182, 0, 229, 58, 5, 44, 21, 4, 92]
abbrev dktX3_check_5 : List UInt8 := dkwX3_check_5 ++ dktX3_check_6
def dkwX3_check_4 : List UInt8 := [84, 16, 40, 188, 4, 77, 3, 62, 29, 16, 40, 162, 0, 115, 3, 54, 4, 21, 4, 42, 180, 0, 18]
abbrev dktX3_check_4 : List UInt8 := dkwX3_check_4 ++ dktX3_check_5
def dkwX3_check_3 : List UInt8 := [192, 0, 120, 182, 0, 226, 183, 0, 78, 191, 132, 1, 1, 167, 255, 175, 16, 40, 188, 4, 76, 43, 3, 4]
abbrev dktX3_check_3 : List UInt8 := dkwX3_check_3 ++ dktX3_check_4
def dkwX3_check_2 : List UInt8 := [180, 0, 113, 182, 0, 116, 161, 0, 26, 187, 0, 76, 89, 7, 42, 180, 0, 29, 27, 182, 0, 222]
abbrev dktX3_check_2 : List UInt8 := dkwX3_check_2 ++ dktX3_check_3
def dkwX3_check_1 : List UInt8 := [182, 0, 226, 153, 0, 30, 42, 180, 0, 25, 27, 182, 0, 222, 192, 0, 120, 182, 0, 226, 42, 180, 0, 18]
abbrev dktX3_check_1 : List UInt8 := dkwX3_check_1 ++ dktX3_check_2
def dkwX3_check_0 : List UInt8 := [3, 60, 27, 42, 180, 0, 25, 182, 0, 116, 162, 0, 76, 42, 180, 0, 25, 27, 182, 0, 222, 192, 0, 120]
abbrev dktX3_check_0 : List UInt8 := dkwX3_check_0 ++ dktX3_check_1
theorem dksX3_check_0 : cX3_check.data.toList.drop 0 = dktX3_check_0 := by decide +kernel
theorem dksX3_check_1 : cX3_check.data.toList.drop 24 = dktX3_check_1 := dk_seg dksX3_check_0 24 rfl rfl
theorem dksX3_check_2 : cX3_check.data.toList.drop 48 = dktX3_check_2 := dk_seg dksX3_check_1 24 rfl rfl
theorem dksX3_check_3 : cX3_check.data.toList.drop 70 = dktX3_check_3 := dk_seg dksX3_check_2 22 rfl rfl
theorem dksX3_check_4 : cX3_check.data.toList.drop 94 = dktX3_check_4 := dk_seg dksX3_check_3 24 rfl rfl
theorem dksX3_check_5 : cX3_check.data.toList.drop 117 = dktX3_check_5 := dk_seg dksX3_check_4 23 rfl rfl
theorem dksX3_check_6 : cX3_check.data.toList.drop 141 = dktX3_check_6 := dk_seg dksX3_check_5 24 rfl rfl
theorem dksX3_check_7 : cX3_check.data.toList.drop 164 = dktX3_check_7 := dk_seg dksX3_check_6 23 rfl rfl
theorem dksX3_check_8 : cX3_check.data.toList.drop 187 = dktX3_check_8 := dk_seg dksX3_check_7 23 rfl rfl
theorem dksX3_check_9 : cX3_check.data.toList.drop 211 = dktX3_check_9 := dk_seg dksX3_check_8 24 rfl rfl
theorem dksX3_check_10 : cX3_check.data.toList.drop 233 = dktX3_check_10 := dk_seg dksX3_check_9 22 rfl rfl
theorem dksX3_check_11 : cX3_check.data.toList.drop 255 = dktX3_check_11 := dk_seg dksX3_check_10 22 rfl rfl
theorem dksX3_check_12 : cX3_check.data.toList.drop 278 = dktX3_check_12 := dk_seg dksX3_check_11 23 rfl rfl
theorem dksX3_check_13 : cX3_check.data.toList.drop 300 = dktX3_check_13 := dk_seg dksX3_check_12 22 rfl rfl
theorem dX3_check_0 : decode cX3_check 0 = .ok (.iconst 0, 1) := dk_3 (dk_at dksX3_check_0 0 rfl rfl)
theorem dX3_check_1 : decode cX3_check 1 = .ok (.istore_n 1, 1) := dk_60 (dk_at dksX3_check_0 1 rfl rfl)
theorem dX3_check_2 : decode cX3_check 2 = .ok (.iload_n 1, 1) := dk_27 (dk_at dksX3_check_0 2 rfl rfl)
theorem dX3_check_3 : decode cX3_check 3 = .ok (.aload_n 0, 1) := dk_42 (dk_at dksX3_check_0 3 rfl rfl)
theorem dX3_check_4 : decode cX3_check 4 = .ok (.getfield 25, 3) := dk_180 0 25 (dk_at dksX3_check_0 4 rfl rfl)
theorem dX3_check_7 : decode cX3_check 7 = .ok (.invokevirtual 116, 3) := dk_182 0 116 (dk_at dksX3_check_0 7 rfl rfl)
theorem dX3_check_10 : decode cX3_check 10 = .ok (.if_icmp .ge 76, 3) := dk_162 0 76 (dk_at dksX3_check_0 10 rfl rfl)
theorem dX3_check_13 : decode cX3_check 13 = .ok (.aload_n 0, 1) := dk_42 (dk_at dksX3_check_0 13 rfl rfl)
theorem dX3_check_14 : decode cX3_check 14 = .ok (.getfield 25, 3) := dk_180 0 25 (dk_at dksX3_check_0 14 rfl rfl)
theorem dX3_check_17 : decode cX3_check 17 = .ok (.iload_n 1, 1) := dk_27 (dk_at dksX3_check_0 17 rfl rfl)
theorem dX3_check_18 : decode cX3_check 18 = .ok (.invokevirtual 222, 3) := dk_182 0 222 (dk_at dksX3_check_0 18 rfl rfl)
theorem dX3_check_21 : decode cX3_check 21 = .ok (.checkcast 120, 3) := dk_192 0 120 (dk_at dksX3_check_0 21 rfl rfl)
theorem dX3_check_24 : decode cX3_check 24 = .ok (.invokevirtual 226, 3) := dk_182 0 226 (dk_at dksX3_check_1 0 rfl rfl)
theorem dX3_check_27 : decode cX3_check 27 = .ok (.ifCond .eq 30, 3) := dk_153 0 30 (dk_at dksX3_check_1 3 rfl rfl)
theorem dX3_check_30 : decode cX3_check 30 = .ok (.aload_n 0, 1) := dk_42 (dk_at dksX3_check_1 6 rfl rfl)
theorem dX3_check_31 : decode cX3_check 31 = .ok (.getfield 25, 3) := dk_180 0 25 (dk_at dksX3_check_1 7 rfl rfl)
theorem dX3_check_34 : decode cX3_check 34 = .ok (.iload_n 1, 1) := dk_27 (dk_at dksX3_check_1 10 rfl rfl)
theorem dX3_check_35 : decode cX3_check 35 = .ok (.invokevirtual 222, 3) := dk_182 0 222 (dk_at dksX3_check_1 11 rfl rfl)
theorem dX3_check_38 : decode cX3_check 38 = .ok (.checkcast 120, 3) := dk_192 0 120 (dk_at dksX3_check_1 14 rfl rfl)
theorem dX3_check_41 : decode cX3_check 41 = .ok (.invokevirtual 226, 3) := dk_182 0 226 (dk_at dksX3_check_1 17 rfl rfl)
theorem dX3_check_44 : decode cX3_check 44 = .ok (.aload_n 0, 1) := dk_42 (dk_at dksX3_check_1 20 rfl rfl)
theorem dX3_check_45 : decode cX3_check 45 = .ok (.getfield 18, 3) := dk_180 0 18 (dk_at dksX3_check_1 21 rfl rfl)
theorem dX3_check_48 : decode cX3_check 48 = .ok (.getfield 113, 3) := dk_180 0 113 (dk_at dksX3_check_2 0 rfl rfl)
theorem dX3_check_51 : decode cX3_check 51 = .ok (.invokevirtual 116, 3) := dk_182 0 116 (dk_at dksX3_check_2 3 rfl rfl)
theorem dX3_check_54 : decode cX3_check 54 = .ok (.if_icmp .lt 26, 3) := dk_161 0 26 (dk_at dksX3_check_2 6 rfl rfl)
theorem dX3_check_57 : decode cX3_check 57 = .ok (.new 76, 3) := dk_187 0 76 (dk_at dksX3_check_2 9 rfl rfl)
theorem dX3_check_60 : decode cX3_check 60 = .ok (.dup, 1) := dk_89 (dk_at dksX3_check_2 12 rfl rfl)
theorem dX3_check_61 : decode cX3_check 61 = .ok (.iconst 4, 1) := dk_7 (dk_at dksX3_check_2 13 rfl rfl)
theorem dX3_check_62 : decode cX3_check 62 = .ok (.aload_n 0, 1) := dk_42 (dk_at dksX3_check_2 14 rfl rfl)
theorem dX3_check_63 : decode cX3_check 63 = .ok (.getfield 29, 3) := dk_180 0 29 (dk_at dksX3_check_2 15 rfl rfl)
theorem dX3_check_66 : decode cX3_check 66 = .ok (.iload_n 1, 1) := dk_27 (dk_at dksX3_check_2 18 rfl rfl)
theorem dX3_check_67 : decode cX3_check 67 = .ok (.invokevirtual 222, 3) := dk_182 0 222 (dk_at dksX3_check_2 19 rfl rfl)
theorem dX3_check_70 : decode cX3_check 70 = .ok (.checkcast 120, 3) := dk_192 0 120 (dk_at dksX3_check_3 0 rfl rfl)
theorem dX3_check_73 : decode cX3_check 73 = .ok (.invokevirtual 226, 3) := dk_182 0 226 (dk_at dksX3_check_3 3 rfl rfl)
theorem dX3_check_76 : decode cX3_check 76 = .ok (.invokespecial 78, 3) := dk_183 0 78 (dk_at dksX3_check_3 6 rfl rfl)
theorem dX3_check_79 : decode cX3_check 79 = .ok (.athrow, 1) := dk_191 (dk_at dksX3_check_3 9 rfl rfl)
theorem dX3_check_80 : decode cX3_check 80 = .ok (.iinc 1 1, 3) := dk_132 1 1 (dk_at dksX3_check_3 10 rfl rfl)
theorem dX3_check_83 : decode cX3_check 83 = .ok (.goto (-81), 3) := dk_167 255 175 (dk_at dksX3_check_3 13 rfl rfl)
theorem dX3_check_86 : decode cX3_check 86 = .ok (.bipush 40, 2) := dk_16 40 (dk_at dksX3_check_3 16 rfl rfl)
theorem dX3_check_88 : decode cX3_check 88 = .ok (.newarray .boolean, 2) := dk_188_4 (dk_at dksX3_check_3 18 rfl rfl)
theorem dX3_check_90 : decode cX3_check 90 = .ok (.astore_n 1, 1) := dk_76 (dk_at dksX3_check_3 20 rfl rfl)
theorem dX3_check_91 : decode cX3_check 91 = .ok (.aload_n 1, 1) := dk_43 (dk_at dksX3_check_3 21 rfl rfl)
theorem dX3_check_92 : decode cX3_check 92 = .ok (.iconst 0, 1) := dk_3 (dk_at dksX3_check_3 22 rfl rfl)
theorem dX3_check_93 : decode cX3_check 93 = .ok (.iconst 1, 1) := dk_4 (dk_at dksX3_check_3 23 rfl rfl)
theorem dX3_check_94 : decode cX3_check 94 = .ok (.bastore, 1) := dk_84 (dk_at dksX3_check_4 0 rfl rfl)
theorem dX3_check_95 : decode cX3_check 95 = .ok (.bipush 40, 2) := dk_16 40 (dk_at dksX3_check_4 1 rfl rfl)
theorem dX3_check_97 : decode cX3_check 97 = .ok (.newarray .boolean, 2) := dk_188_4 (dk_at dksX3_check_4 3 rfl rfl)
theorem dX3_check_99 : decode cX3_check 99 = .ok (.astore_n 2, 1) := dk_77 (dk_at dksX3_check_4 5 rfl rfl)
theorem dX3_check_100 : decode cX3_check 100 = .ok (.iconst 0, 1) := dk_3 (dk_at dksX3_check_4 6 rfl rfl)
theorem dX3_check_101 : decode cX3_check 101 = .ok (.istore_n 3, 1) := dk_62 (dk_at dksX3_check_4 7 rfl rfl)
theorem dX3_check_102 : decode cX3_check 102 = .ok (.iload_n 3, 1) := dk_29 (dk_at dksX3_check_4 8 rfl rfl)
theorem dX3_check_103 : decode cX3_check 103 = .ok (.bipush 40, 2) := dk_16 40 (dk_at dksX3_check_4 9 rfl rfl)
theorem dX3_check_105 : decode cX3_check 105 = .ok (.if_icmp .ge 115, 3) := dk_162 0 115 (dk_at dksX3_check_4 11 rfl rfl)
theorem dX3_check_108 : decode cX3_check 108 = .ok (.iconst 0, 1) := dk_3 (dk_at dksX3_check_4 14 rfl rfl)
theorem dX3_check_109 : decode cX3_check 109 = .ok (.istore 4, 2) := dk_54 4 (dk_at dksX3_check_4 15 rfl rfl)
theorem dX3_check_111 : decode cX3_check 111 = .ok (.iload 4, 2) := dk_21 4 (dk_at dksX3_check_4 17 rfl rfl)
theorem dX3_check_113 : decode cX3_check 113 = .ok (.aload_n 0, 1) := dk_42 (dk_at dksX3_check_4 19 rfl rfl)
theorem dX3_check_114 : decode cX3_check 114 = .ok (.getfield 18, 3) := dk_180 0 18 (dk_at dksX3_check_4 20 rfl rfl)
theorem dX3_check_117 : decode cX3_check 117 = .ok (.getfield 113, 3) := dk_180 0 113 (dk_at dksX3_check_5 0 rfl rfl)
theorem dX3_check_120 : decode cX3_check 120 = .ok (.invokevirtual 116, 3) := dk_182 0 116 (dk_at dksX3_check_5 3 rfl rfl)
theorem dX3_check_123 : decode cX3_check 123 = .ok (.if_icmp .ge 91, 3) := dk_162 0 91 (dk_at dksX3_check_5 6 rfl rfl)
theorem dX3_check_126 : decode cX3_check 126 = .ok (.aload_n 0, 1) := dk_42 (dk_at dksX3_check_5 9 rfl rfl)
theorem dX3_check_127 : decode cX3_check 127 = .ok (.getfield 18, 3) := dk_180 0 18 (dk_at dksX3_check_5 10 rfl rfl)
theorem dX3_check_130 : decode cX3_check 130 = .ok (.iload 4, 2) := dk_21 4 (dk_at dksX3_check_5 13 rfl rfl)
theorem dX3_check_132 : decode cX3_check 132 = .ok (.invokevirtual 229, 3) := dk_182 0 229 (dk_at dksX3_check_5 15 rfl rfl)
theorem dX3_check_135 : decode cX3_check 135 = .ok (.astore 5, 2) := dk_58 5 (dk_at dksX3_check_5 18 rfl rfl)
theorem dX3_check_137 : decode cX3_check 137 = .ok (.aload_n 2, 1) := dk_44 (dk_at dksX3_check_5 20 rfl rfl)
theorem dX3_check_138 : decode cX3_check 138 = .ok (.iload 4, 2) := dk_21 4 (dk_at dksX3_check_5 21 rfl rfl)
theorem dX3_check_140 : decode cX3_check 140 = .ok (.dup2, 1) := dk_92 (dk_at dksX3_check_5 23 rfl rfl)
theorem dX3_check_141 : decode cX3_check 141 = .ok (.baload, 1) := dk_51 (dk_at dksX3_check_6 0 rfl rfl)
theorem dX3_check_142 : decode cX3_check 142 = .ok (.aload 5, 2) := dk_25 5 (dk_at dksX3_check_6 1 rfl rfl)
theorem dX3_check_144 : decode cX3_check 144 = .ok (.invokevirtual 233, 3) := dk_182 0 233 (dk_at dksX3_check_6 3 rfl rfl)
theorem dX3_check_147 : decode cX3_check 147 = .ok (.ifCond .ne 7, 3) := dk_154 0 7 (dk_at dksX3_check_6 6 rfl rfl)
theorem dX3_check_150 : decode cX3_check 150 = .ok (.iconst 1, 1) := dk_4 (dk_at dksX3_check_6 9 rfl rfl)
theorem dX3_check_151 : decode cX3_check 151 = .ok (.goto 4, 3) := dk_167 0 4 (dk_at dksX3_check_6 10 rfl rfl)
theorem dX3_check_154 : decode cX3_check 154 = .ok (.iconst 0, 1) := dk_3 (dk_at dksX3_check_6 13 rfl rfl)
theorem dX3_check_155 : decode cX3_check 155 = .ok (.ior, 1) := dk_128 (dk_at dksX3_check_6 14 rfl rfl)
theorem dX3_check_156 : decode cX3_check 156 = .ok (.bastore, 1) := dk_84 (dk_at dksX3_check_6 15 rfl rfl)
theorem dX3_check_157 : decode cX3_check 157 = .ok (.iconst 0, 1) := dk_3 (dk_at dksX3_check_6 16 rfl rfl)
theorem dX3_check_158 : decode cX3_check 158 = .ok (.istore 6, 2) := dk_54 6 (dk_at dksX3_check_6 17 rfl rfl)
theorem dX3_check_160 : decode cX3_check 160 = .ok (.iload 6, 2) := dk_21 6 (dk_at dksX3_check_6 19 rfl rfl)
theorem dX3_check_162 : decode cX3_check 162 = .ok (.aload 5, 2) := dk_25 5 (dk_at dksX3_check_6 21 rfl rfl)
theorem dX3_check_164 : decode cX3_check 164 = .ok (.invokevirtual 233, 3) := dk_182 0 233 (dk_at dksX3_check_7 0 rfl rfl)
theorem dX3_check_167 : decode cX3_check 167 = .ok (.if_icmp .ge 41, 3) := dk_162 0 41 (dk_at dksX3_check_7 3 rfl rfl)
theorem dX3_check_170 : decode cX3_check 170 = .ok (.aload_n 1, 1) := dk_43 (dk_at dksX3_check_7 6 rfl rfl)
theorem dX3_check_171 : decode cX3_check 171 = .ok (.aload 5, 2) := dk_25 5 (dk_at dksX3_check_7 7 rfl rfl)
theorem dX3_check_173 : decode cX3_check 173 = .ok (.iload 6, 2) := dk_21 6 (dk_at dksX3_check_7 9 rfl rfl)
theorem dX3_check_175 : decode cX3_check 175 = .ok (.invokevirtual 236, 3) := dk_182 0 236 (dk_at dksX3_check_7 11 rfl rfl)
theorem dX3_check_178 : decode cX3_check 178 = .ok (.dup2, 1) := dk_92 (dk_at dksX3_check_7 14 rfl rfl)
theorem dX3_check_179 : decode cX3_check 179 = .ok (.baload, 1) := dk_51 (dk_at dksX3_check_7 15 rfl rfl)
theorem dX3_check_180 : decode cX3_check 180 = .ok (.aload_n 1, 1) := dk_43 (dk_at dksX3_check_7 16 rfl rfl)
theorem dX3_check_181 : decode cX3_check 181 = .ok (.iload 4, 2) := dk_21 4 (dk_at dksX3_check_7 17 rfl rfl)
theorem dX3_check_183 : decode cX3_check 183 = .ok (.baload, 1) := dk_51 (dk_at dksX3_check_7 19 rfl rfl)
theorem dX3_check_184 : decode cX3_check 184 = .ok (.ior, 1) := dk_128 (dk_at dksX3_check_7 20 rfl rfl)
theorem dX3_check_185 : decode cX3_check 185 = .ok (.bastore, 1) := dk_84 (dk_at dksX3_check_7 21 rfl rfl)
theorem dX3_check_186 : decode cX3_check 186 = .ok (.aload_n 2, 1) := dk_44 (dk_at dksX3_check_7 22 rfl rfl)
theorem dX3_check_187 : decode cX3_check 187 = .ok (.iload 4, 2) := dk_21 4 (dk_at dksX3_check_8 0 rfl rfl)
theorem dX3_check_189 : decode cX3_check 189 = .ok (.dup2, 1) := dk_92 (dk_at dksX3_check_8 2 rfl rfl)
theorem dX3_check_190 : decode cX3_check 190 = .ok (.baload, 1) := dk_51 (dk_at dksX3_check_8 3 rfl rfl)
theorem dX3_check_191 : decode cX3_check 191 = .ok (.aload_n 2, 1) := dk_44 (dk_at dksX3_check_8 4 rfl rfl)
theorem dX3_check_192 : decode cX3_check 192 = .ok (.aload 5, 2) := dk_25 5 (dk_at dksX3_check_8 5 rfl rfl)
theorem dX3_check_194 : decode cX3_check 194 = .ok (.iload 6, 2) := dk_21 6 (dk_at dksX3_check_8 7 rfl rfl)
theorem dX3_check_196 : decode cX3_check 196 = .ok (.invokevirtual 236, 3) := dk_182 0 236 (dk_at dksX3_check_8 9 rfl rfl)
theorem dX3_check_199 : decode cX3_check 199 = .ok (.baload, 1) := dk_51 (dk_at dksX3_check_8 12 rfl rfl)
theorem dX3_check_200 : decode cX3_check 200 = .ok (.ior, 1) := dk_128 (dk_at dksX3_check_8 13 rfl rfl)
theorem dX3_check_201 : decode cX3_check 201 = .ok (.bastore, 1) := dk_84 (dk_at dksX3_check_8 14 rfl rfl)
theorem dX3_check_202 : decode cX3_check 202 = .ok (.iinc 6 1, 3) := dk_132 6 1 (dk_at dksX3_check_8 15 rfl rfl)
theorem dX3_check_205 : decode cX3_check 205 = .ok (.goto (-45), 3) := dk_167 255 211 (dk_at dksX3_check_8 18 rfl rfl)
theorem dX3_check_208 : decode cX3_check 208 = .ok (.iinc 4 1, 3) := dk_132 4 1 (dk_at dksX3_check_8 21 rfl rfl)
theorem dX3_check_211 : decode cX3_check 211 = .ok (.goto (-100), 3) := dk_167 255 156 (dk_at dksX3_check_9 0 rfl rfl)
theorem dX3_check_214 : decode cX3_check 214 = .ok (.iinc 3 1, 3) := dk_132 3 1 (dk_at dksX3_check_9 3 rfl rfl)
theorem dX3_check_217 : decode cX3_check 217 = .ok (.goto (-115), 3) := dk_167 255 141 (dk_at dksX3_check_9 6 rfl rfl)
theorem dX3_check_220 : decode cX3_check 220 = .ok (.iconst 0, 1) := dk_3 (dk_at dksX3_check_9 9 rfl rfl)
theorem dX3_check_221 : decode cX3_check 221 = .ok (.istore_n 3, 1) := dk_62 (dk_at dksX3_check_9 10 rfl rfl)
theorem dX3_check_222 : decode cX3_check 222 = .ok (.iload_n 3, 1) := dk_29 (dk_at dksX3_check_9 11 rfl rfl)
theorem dX3_check_223 : decode cX3_check 223 = .ok (.aload_n 0, 1) := dk_42 (dk_at dksX3_check_9 12 rfl rfl)
theorem dX3_check_224 : decode cX3_check 224 = .ok (.getfield 18, 3) := dk_180 0 18 (dk_at dksX3_check_9 13 rfl rfl)
theorem dX3_check_227 : decode cX3_check 227 = .ok (.getfield 113, 3) := dk_180 0 113 (dk_at dksX3_check_9 16 rfl rfl)
theorem dX3_check_230 : decode cX3_check 230 = .ok (.invokevirtual 116, 3) := dk_182 0 116 (dk_at dksX3_check_9 19 rfl rfl)
theorem dX3_check_233 : decode cX3_check 233 = .ok (.if_icmp .ge 38, 3) := dk_162 0 38 (dk_at dksX3_check_10 0 rfl rfl)
theorem dX3_check_236 : decode cX3_check 236 = .ok (.aload_n 1, 1) := dk_43 (dk_at dksX3_check_10 3 rfl rfl)
theorem dX3_check_237 : decode cX3_check 237 = .ok (.iload_n 3, 1) := dk_29 (dk_at dksX3_check_10 4 rfl rfl)
theorem dX3_check_238 : decode cX3_check 238 = .ok (.baload, 1) := dk_51 (dk_at dksX3_check_10 5 rfl rfl)
theorem dX3_check_239 : decode cX3_check 239 = .ok (.ifCond .ne 26, 3) := dk_154 0 26 (dk_at dksX3_check_10 6 rfl rfl)
theorem dX3_check_242 : decode cX3_check 242 = .ok (.new 76, 3) := dk_187 0 76 (dk_at dksX3_check_10 9 rfl rfl)
theorem dX3_check_245 : decode cX3_check 245 = .ok (.dup, 1) := dk_89 (dk_at dksX3_check_10 12 rfl rfl)
theorem dX3_check_246 : decode cX3_check 246 = .ok (.iconst 5, 1) := dk_8 (dk_at dksX3_check_10 13 rfl rfl)
theorem dX3_check_247 : decode cX3_check 247 = .ok (.aload_n 0, 1) := dk_42 (dk_at dksX3_check_10 14 rfl rfl)
theorem dX3_check_248 : decode cX3_check 248 = .ok (.getfield 32, 3) := dk_180 0 32 (dk_at dksX3_check_10 15 rfl rfl)
theorem dX3_check_251 : decode cX3_check 251 = .ok (.iload_n 3, 1) := dk_29 (dk_at dksX3_check_10 18 rfl rfl)
theorem dX3_check_252 : decode cX3_check 252 = .ok (.invokevirtual 222, 3) := dk_182 0 222 (dk_at dksX3_check_10 19 rfl rfl)
theorem dX3_check_255 : decode cX3_check 255 = .ok (.checkcast 120, 3) := dk_192 0 120 (dk_at dksX3_check_11 0 rfl rfl)
theorem dX3_check_258 : decode cX3_check 258 = .ok (.invokevirtual 226, 3) := dk_182 0 226 (dk_at dksX3_check_11 3 rfl rfl)
theorem dX3_check_261 : decode cX3_check 261 = .ok (.invokespecial 78, 3) := dk_183 0 78 (dk_at dksX3_check_11 6 rfl rfl)
theorem dX3_check_264 : decode cX3_check 264 = .ok (.athrow, 1) := dk_191 (dk_at dksX3_check_11 9 rfl rfl)
theorem dX3_check_265 : decode cX3_check 265 = .ok (.iinc 3 1, 3) := dk_132 3 1 (dk_at dksX3_check_11 10 rfl rfl)
theorem dX3_check_268 : decode cX3_check 268 = .ok (.goto (-46), 3) := dk_167 255 210 (dk_at dksX3_check_11 13 rfl rfl)
theorem dX3_check_271 : decode cX3_check 271 = .ok (.iconst 0, 1) := dk_3 (dk_at dksX3_check_11 16 rfl rfl)
theorem dX3_check_272 : decode cX3_check 272 = .ok (.istore_n 3, 1) := dk_62 (dk_at dksX3_check_11 17 rfl rfl)
theorem dX3_check_273 : decode cX3_check 273 = .ok (.iload_n 3, 1) := dk_29 (dk_at dksX3_check_11 18 rfl rfl)
theorem dX3_check_274 : decode cX3_check 274 = .ok (.aload_n 0, 1) := dk_42 (dk_at dksX3_check_11 19 rfl rfl)
theorem dX3_check_275 : decode cX3_check 275 = .ok (.getfield 18, 3) := dk_180 0 18 (dk_at dksX3_check_11 20 rfl rfl)
theorem dX3_check_278 : decode cX3_check 278 = .ok (.getfield 113, 3) := dk_180 0 113 (dk_at dksX3_check_12 0 rfl rfl)
theorem dX3_check_281 : decode cX3_check 281 = .ok (.invokevirtual 116, 3) := dk_182 0 116 (dk_at dksX3_check_12 3 rfl rfl)
theorem dX3_check_284 : decode cX3_check 284 = .ok (.if_icmp .ge 39, 3) := dk_162 0 39 (dk_at dksX3_check_12 6 rfl rfl)
theorem dX3_check_287 : decode cX3_check 287 = .ok (.aload_n 2, 1) := dk_44 (dk_at dksX3_check_12 9 rfl rfl)
theorem dX3_check_288 : decode cX3_check 288 = .ok (.iload_n 3, 1) := dk_29 (dk_at dksX3_check_12 10 rfl rfl)
theorem dX3_check_289 : decode cX3_check 289 = .ok (.baload, 1) := dk_51 (dk_at dksX3_check_12 11 rfl rfl)
theorem dX3_check_290 : decode cX3_check 290 = .ok (.ifCond .ne 27, 3) := dk_154 0 27 (dk_at dksX3_check_12 12 rfl rfl)
theorem dX3_check_293 : decode cX3_check 293 = .ok (.new 76, 3) := dk_187 0 76 (dk_at dksX3_check_12 15 rfl rfl)
theorem dX3_check_296 : decode cX3_check 296 = .ok (.dup, 1) := dk_89 (dk_at dksX3_check_12 18 rfl rfl)
theorem dX3_check_297 : decode cX3_check 297 = .ok (.bipush 6, 2) := dk_16 6 (dk_at dksX3_check_12 19 rfl rfl)
theorem dX3_check_299 : decode cX3_check 299 = .ok (.aload_n 0, 1) := dk_42 (dk_at dksX3_check_12 21 rfl rfl)
theorem dX3_check_300 : decode cX3_check 300 = .ok (.getfield 32, 3) := dk_180 0 32 (dk_at dksX3_check_13 0 rfl rfl)
theorem dX3_check_303 : decode cX3_check 303 = .ok (.iload_n 3, 1) := dk_29 (dk_at dksX3_check_13 3 rfl rfl)
theorem dX3_check_304 : decode cX3_check 304 = .ok (.invokevirtual 222, 3) := dk_182 0 222 (dk_at dksX3_check_13 4 rfl rfl)
theorem dX3_check_307 : decode cX3_check 307 = .ok (.checkcast 120, 3) := dk_192 0 120 (dk_at dksX3_check_13 7 rfl rfl)
theorem dX3_check_310 : decode cX3_check 310 = .ok (.invokevirtual 226, 3) := dk_182 0 226 (dk_at dksX3_check_13 10 rfl rfl)
theorem dX3_check_313 : decode cX3_check 313 = .ok (.invokespecial 78, 3) := dk_183 0 78 (dk_at dksX3_check_13 13 rfl rfl)
theorem dX3_check_316 : decode cX3_check 316 = .ok (.athrow, 1) := dk_191 (dk_at dksX3_check_13 16 rfl rfl)
theorem dX3_check_317 : decode cX3_check 317 = .ok (.iinc 3 1, 3) := dk_132 3 1 (dk_at dksX3_check_13 17 rfl rfl)
theorem dX3_check_320 : decode cX3_check 320 = .ok (.goto (-47), 3) := dk_167 255 209 (dk_at dksX3_check_13 20 rfl rfl)
theorem dX3_check_323 : decode cX3_check 323 = .ok (.return_, 1) := dk_177 (dk_at dksX3_check_13 23 rfl rfl)
theorem q135 : (Jvm.Cond.initialized "LateAndEarly$Reader") ∈ lw_all := lw_g (lw_at lw_m1 4 rfl) rfl
theorem q207 : (Jvm.Cond.fieldLinkNest "LateAndEarly$Reader" (39 : Nat) "LateAndEarly" "tape" "[B" "LateAndEarly") ∈ lw_tbl := lw_at lw_m1 76 rfl
theorem q208 : (Jvm.Cond.fieldLinkNest "LateAndEarly$Reader" (35 : Nat) "LateAndEarly" "taped" "I" "LateAndEarly") ∈ lw_tbl := lw_at lw_m1 77 rfl
theorem q252 : (Jvm.Cond.instantiable "LateAndEarly$Reader" (9 : Nat)) ∈ lw_all := lw_g (lw_at lw_m1 121 rfl) rfl
theorem q254 : (Jvm.Cond.instanceMethod ({ cls := "LateAndEarly$Reader", name := "<init>", desc := "(LLateAndEarly;)V" } : Jvm.MethodName)) ∈ lw_all := lw_g (lw_at lw_m1 123 rfl) rfl
theorem q255 : (Jvm.Cond.code ({ cls := "LateAndEarly$Reader", name := "<init>", desc := "(LLateAndEarly;)V" } : Jvm.MethodName) prog_12_method_1_code (2 : Nat) (Option.none : Option Jvm.ClassFile.FieldType)) ∈ lw_all := lw_g (lw_at lw_m1 124 rfl) rfl
theorem q256 : (Jvm.Cond.methodLink "LateAndEarly$Reader" (9 : Nat) ({ cls := "java/lang/Object", name := "<init>", desc := "()V" } : Jvm.MethodName)) ∈ lw_all := lw_g (lw_at lw_m1 125 rfl) rfl
theorem q257 : (Jvm.Cond.classLink "LateAndEarly$Reader" (15 : Nat) "LateAndEarly$Routine") ∈ lw_all := lw_g (lw_at lw_m1 126 rfl) rfl
theorem q259 : (Jvm.Cond.methodLinkNest "LateAndEarly$Reader" (17 : Nat) ({ cls := "LateAndEarly$Routine", name := "<init>", desc := "()V" } : Jvm.MethodName) "LateAndEarly") ∈ lw_tbl := lw_at lw_m1 128 rfl
theorem q292 : (Jvm.Cond.fieldLinkNest "LateAndEarly$Reader" (113 : Nat) "LateAndEarly$Routine" "blocks" "Ljava/util/ArrayList;" "LateAndEarly") ∈ lw_tbl := lw_at lw_m1 161 rfl
theorem q305 : (Jvm.Cond.fieldLinkNest "LateAndEarly$Reader" (148 : Nat) "LateAndEarly$Routine" "lines" "I" "LateAndEarly") ∈ lw_tbl := lw_at lw_m1 174 rfl
theorem q353 : (Jvm.Cond.classLink "LateAndEarly$Reader" (22 : Nat) "java/util/ArrayList") ∈ lw_all := lw_g (lw_at lw_m1 222 rfl) rfl
theorem q354 : (Jvm.Cond.methodLink "LateAndEarly$Reader" (24 : Nat) ({ cls := "java/util/ArrayList", name := "<init>", desc := "()V" } : Jvm.MethodName)) ∈ lw_all := lw_g (lw_at lw_m1 223 rfl) rfl
theorem q355 : (Jvm.Cond.fieldLink "LateAndEarly$Reader" (18 : Nat) "LateAndEarly$Reader" "\x72" "LLateAndEarly$Routine;") ∈ lw_all := lw_g (lw_at lw_m1 224 rfl) rfl
theorem q356 : (Jvm.Cond.fieldLink "LateAndEarly$Reader" (53 : Nat) "LateAndEarly$Reader" "kind" "I") ∈ lw_all := lw_g (lw_at lw_m1 225 rfl) rfl
theorem q357 : (Jvm.Cond.fieldLink "LateAndEarly$Reader" (46 : Nat) "LateAndEarly$Reader" "from" "I") ∈ lw_all := lw_g (lw_at lw_m1 226 rfl) rfl
theorem q358 : (Jvm.Cond.fieldLink "LateAndEarly$Reader" (43 : Nat) "LateAndEarly$Reader" "behind" "I") ∈ lw_all := lw_g (lw_at lw_m1 227 rfl) rfl
theorem q359 : (Jvm.Cond.fieldLink "LateAndEarly$Reader" (73 : Nat) "LateAndEarly$Reader" "number" "I") ∈ lw_all := lw_g (lw_at lw_m1 228 rfl) rfl
theorem q360 : (Jvm.Cond.fieldLink "LateAndEarly$Reader" (25 : Nat) "LateAndEarly$Reader" "named" "Ljava/util/ArrayList;") ∈ lw_all := lw_g (lw_at lw_m1 229 rfl) rfl
theorem q361 : (Jvm.Cond.fieldLink "LateAndEarly$Reader" (29 : Nat) "LateAndEarly$Reader" "namedAt" "Ljava/util/ArrayList;") ∈ lw_all := lw_g (lw_at lw_m1 230 rfl) rfl
theorem q362 : (Jvm.Cond.fieldLink "LateAndEarly$Reader" (32 : Nat) "LateAndEarly$Reader" "headAt" "Ljava/util/ArrayList;") ∈ lw_all := lw_g (lw_at lw_m1 231 rfl) rfl
theorem q363 : (Jvm.Cond.fieldLink "LateAndEarly$Reader" (3 : Nat) "LateAndEarly$Reader" "this$0" "LLateAndEarly;") ∈ lw_all := lw_g (lw_at lw_m1 232 rfl) rfl
theorem q364 : (Jvm.Cond.laysFinal "LateAndEarly$Reader" "LateAndEarly$Reader" "\x72" "LLateAndEarly$Routine;") ∈ lw_all := lw_g (lw_at lw_m1 233 rfl) rfl
theorem q365 : (Jvm.Cond.soleField "LateAndEarly$Reader" "\x72") ∈ lw_all := lw_g (lw_at lw_m1 234 rfl) rfl
theorem q366 : (Jvm.Cond.lays "LateAndEarly$Reader" "LateAndEarly$Reader" "kind" "I") ∈ lw_all := lw_g (lw_at lw_m1 235 rfl) rfl
theorem q367 : (Jvm.Cond.soleField "LateAndEarly$Reader" "kind") ∈ lw_all := lw_g (lw_at lw_m1 236 rfl) rfl
theorem q368 : (Jvm.Cond.lays "LateAndEarly$Reader" "LateAndEarly$Reader" "from" "I") ∈ lw_all := lw_g (lw_at lw_m1 237 rfl) rfl
theorem q369 : (Jvm.Cond.soleField "LateAndEarly$Reader" "from") ∈ lw_all := lw_g (lw_at lw_m1 238 rfl) rfl
theorem q370 : (Jvm.Cond.lays "LateAndEarly$Reader" "LateAndEarly$Reader" "behind" "I") ∈ lw_all := lw_g (lw_at lw_m1 239 rfl) rfl
theorem q371 : (Jvm.Cond.soleField "LateAndEarly$Reader" "behind") ∈ lw_all := lw_g (lw_at lw_m2 0 rfl) rfl
theorem q372 : (Jvm.Cond.lays "LateAndEarly$Reader" "LateAndEarly$Reader" "number" "I") ∈ lw_all := lw_g (lw_at lw_m2 1 rfl) rfl
theorem q373 : (Jvm.Cond.soleField "LateAndEarly$Reader" "number") ∈ lw_all := lw_g (lw_at lw_m2 2 rfl) rfl
theorem q374 : (Jvm.Cond.laysFinal "LateAndEarly$Reader" "LateAndEarly$Reader" "named" "Ljava/util/ArrayList;") ∈ lw_all := lw_g (lw_at lw_m2 3 rfl) rfl
theorem q375 : (Jvm.Cond.soleField "LateAndEarly$Reader" "named") ∈ lw_all := lw_g (lw_at lw_m2 4 rfl) rfl
theorem q376 : (Jvm.Cond.laysFinal "LateAndEarly$Reader" "LateAndEarly$Reader" "namedAt" "Ljava/util/ArrayList;") ∈ lw_all := lw_g (lw_at lw_m2 5 rfl) rfl
theorem q377 : (Jvm.Cond.soleField "LateAndEarly$Reader" "namedAt") ∈ lw_all := lw_g (lw_at lw_m2 6 rfl) rfl
theorem q378 : (Jvm.Cond.laysFinal "LateAndEarly$Reader" "LateAndEarly$Reader" "headAt" "Ljava/util/ArrayList;") ∈ lw_all := lw_g (lw_at lw_m2 7 rfl) rfl
theorem q379 : (Jvm.Cond.soleField "LateAndEarly$Reader" "headAt") ∈ lw_all := lw_g (lw_at lw_m2 8 rfl) rfl
theorem q380 : (Jvm.Cond.laysFinal "LateAndEarly$Reader" "LateAndEarly$Reader" "this$0" "LLateAndEarly;") ∈ lw_all := lw_g (lw_at lw_m2 9 rfl) rfl
theorem q381 : (Jvm.Cond.soleField "LateAndEarly$Reader" "this$0") ∈ lw_all := lw_g (lw_at lw_m2 10 rfl) rfl
theorem q382 : (Jvm.Cond.superclass "LateAndEarly$Reader" "java/lang/Object") ∈ lw_all := lw_g (lw_at lw_m2 11 rfl) rfl
theorem q384 : (Jvm.Cond.instanceMethod ({ cls := "LateAndEarly$Reader", name := "read", desc := "()LLateAndEarly$Routine;" } : Jvm.MethodName)) ∈ lw_all := lw_g (lw_at lw_m2 13 rfl) rfl
theorem q385 : (Jvm.Cond.selects "LateAndEarly$Reader" ({ cls := "LateAndEarly$Reader", name := "read", desc := "()LLateAndEarly$Routine;" } : Jvm.MethodName) ({ cls := "LateAndEarly$Reader", name := "read", desc := "()LLateAndEarly$Routine;" } : Jvm.MethodName)) ∈ lw_all := lw_g (lw_at lw_m2 14 rfl) rfl
theorem q386 : (Jvm.Cond.code ({ cls := "LateAndEarly$Reader", name := "read", desc := "()LLateAndEarly$Routine;" } : Jvm.MethodName) prog_12_method_13_code (1 : Nat) (Option.some (Jvm.ClassFile.FieldType.object "LateAndEarly$Routine"))) ∈ lw_all := lw_g (lw_at lw_m2 15 rfl) rfl
theorem q387 : (Jvm.Cond.methodLink "LateAndEarly$Reader" (89 : Nat) ({ cls := "LateAndEarly$Reader", name := "next", desc := "()V" } : Jvm.MethodName)) ∈ lw_all := lw_g (lw_at lw_m2 16 rfl) rfl
theorem q388 : (Jvm.Cond.privateMethod ({ cls := "LateAndEarly$Reader", name := "next", desc := "()V" } : Jvm.MethodName)) ∈ lw_tbl := lw_at lw_m2 17 rfl
theorem q389 : (Jvm.Cond.instanceMethod ({ cls := "LateAndEarly$Reader", name := "next", desc := "()V" } : Jvm.MethodName)) ∈ lw_all := lw_g (lw_at lw_m2 18 rfl) rfl
theorem q390 : (Jvm.Cond.code ({ cls := "LateAndEarly$Reader", name := "next", desc := "()V" } : Jvm.MethodName) prog_12_method_5_code (1 : Nat) (Option.none : Option Jvm.ClassFile.FieldType)) ∈ lw_all := lw_g (lw_at lw_m2 19 rfl) rfl
theorem q391 : (Jvm.Cond.methodLink "LateAndEarly$Reader" (49 : Nat) ({ cls := "LateAndEarly$Reader", name := "at", desc := "(I)I" } : Jvm.MethodName)) ∈ lw_all := lw_g (lw_at lw_m2 20 rfl) rfl
theorem q392 : (Jvm.Cond.privateMethod ({ cls := "LateAndEarly$Reader", name := "at", desc := "(I)I" } : Jvm.MethodName)) ∈ lw_tbl := lw_at lw_m2 21 rfl
theorem q393 : (Jvm.Cond.instanceMethod ({ cls := "LateAndEarly$Reader", name := "at", desc := "(I)I" } : Jvm.MethodName)) ∈ lw_all := lw_g (lw_at lw_m2 22 rfl) rfl
theorem q394 : (Jvm.Cond.code ({ cls := "LateAndEarly$Reader", name := "at", desc := "(I)I" } : Jvm.MethodName) prog_12_method_2_code (2 : Nat) (Option.some Jvm.ClassFile.FieldType.int)) ∈ lw_all := lw_g (lw_at lw_m2 23 rfl) rfl
theorem q395 : (Jvm.Cond.methodLink "LateAndEarly$Reader" (56 : Nat) ({ cls := "LateAndEarly$Reader", name := "isLetter", desc := "(I)Z" } : Jvm.MethodName)) ∈ lw_all := lw_g (lw_at lw_m2 24 rfl) rfl
theorem q396 : (Jvm.Cond.privateMethod ({ cls := "LateAndEarly$Reader", name := "isLetter", desc := "(I)Z" } : Jvm.MethodName)) ∈ lw_tbl := lw_at lw_m2 25 rfl
theorem q397 : (Jvm.Cond.instanceMethod ({ cls := "LateAndEarly$Reader", name := "isLetter", desc := "(I)Z" } : Jvm.MethodName)) ∈ lw_all := lw_g (lw_at lw_m2 26 rfl) rfl
theorem q398 : (Jvm.Cond.code ({ cls := "LateAndEarly$Reader", name := "isLetter", desc := "(I)Z" } : Jvm.MethodName) prog_12_method_3_code (2 : Nat) (Option.some Jvm.ClassFile.FieldType.boolean)) ∈ lw_all := lw_g (lw_at lw_m2 27 rfl) rfl
theorem q399 : (Jvm.Cond.methodLink "LateAndEarly$Reader" (60 : Nat) ({ cls := "LateAndEarly$Reader", name := "isDigit", desc := "(I)Z" } : Jvm.MethodName)) ∈ lw_all := lw_g (lw_at lw_m2 28 rfl) rfl
theorem q400 : (Jvm.Cond.privateMethod ({ cls := "LateAndEarly$Reader", name := "isDigit", desc := "(I)Z" } : Jvm.MethodName)) ∈ lw_tbl := lw_at lw_m2 29 rfl
theorem q401 : (Jvm.Cond.instanceMethod ({ cls := "LateAndEarly$Reader", name := "isDigit", desc := "(I)Z" } : Jvm.MethodName)) ∈ lw_all := lw_g (lw_at lw_m2 30 rfl) rfl
theorem q402 : (Jvm.Cond.code ({ cls := "LateAndEarly$Reader", name := "isDigit", desc := "(I)Z" } : Jvm.MethodName) prog_12_method_4_code (2 : Nat) (Option.some Jvm.ClassFile.FieldType.boolean)) ∈ lw_all := lw_g (lw_at lw_m2 31 rfl) rfl
theorem q403 : (Jvm.Cond.methodLink "LateAndEarly$Reader" (63 : Nat) ({ cls := "LateAndEarly$Reader", name := "row", desc := "()V" } : Jvm.MethodName)) ∈ lw_all := lw_g (lw_at lw_m2 32 rfl) rfl
theorem q404 : (Jvm.Cond.privateMethod ({ cls := "LateAndEarly$Reader", name := "row", desc := "()V" } : Jvm.MethodName)) ∈ lw_tbl := lw_at lw_m2 33 rfl
theorem q405 : (Jvm.Cond.instanceMethod ({ cls := "LateAndEarly$Reader", name := "row", desc := "()V" } : Jvm.MethodName)) ∈ lw_all := lw_g (lw_at lw_m2 34 rfl) rfl
theorem q406 : (Jvm.Cond.code ({ cls := "LateAndEarly$Reader", name := "row", desc := "()V" } : Jvm.MethodName) prog_12_method_6_code (5 : Nat) (Option.none : Option Jvm.ClassFile.FieldType)) ∈ lw_all := lw_g (lw_at lw_m2 35 rfl) rfl
theorem q407 : (Jvm.Cond.stringRef "LateAndEarly$Reader" (66 : Nat) ":;=+-*/&^<[]") ∈ lw_tbl := lw_at lw_m2 36 rfl
theorem q408 : (Jvm.Cond.methodLink "LateAndEarly$Reader" (68 : Nat) ({ cls := "java/lang/String", name := "indexOf", desc := "(I)I" } : Jvm.MethodName)) ∈ lw_all := lw_g (lw_at lw_m2 37 rfl) rfl
theorem q494 : (Jvm.Cond.methodLink "LateAndEarly$Reader" (104 : Nat) ({ cls := "LateAndEarly$Reader", name := "block", desc := "()V" } : Jvm.MethodName)) ∈ lw_all := lw_g (lw_at lw_m2 123 rfl) rfl
theorem q495 : (Jvm.Cond.privateMethod ({ cls := "LateAndEarly$Reader", name := "block", desc := "()V" } : Jvm.MethodName)) ∈ lw_tbl := lw_at lw_m2 124 rfl
theorem q496 : (Jvm.Cond.instanceMethod ({ cls := "LateAndEarly$Reader", name := "block", desc := "()V" } : Jvm.MethodName)) ∈ lw_all := lw_g (lw_at lw_m2 125 rfl) rfl
theorem q497 : (Jvm.Cond.code ({ cls := "LateAndEarly$Reader", name := "block", desc := "()V" } : Jvm.MethodName) prog_12_method_14_code (6 : Nat) (Option.none : Option Jvm.ClassFile.FieldType)) ∈ lw_all := lw_g (lw_at lw_m2 126 rfl) rfl
theorem q498 : (Jvm.Cond.methodLink "LateAndEarly$Reader" (116 : Nat) ({ cls := "java/util/ArrayList", name := "size", desc := "()I" } : Jvm.MethodName)) ∈ lw_all := lw_g (lw_at lw_m2 127 rfl) rfl
theorem q502 : (Jvm.Cond.methodLink "LateAndEarly$Reader" (85 : Nat) ({ cls := "LateAndEarly$Reader", name := "fault", desc := "(I)LLateAndEarly$Fault;" } : Jvm.MethodName)) ∈ lw_all := lw_g (lw_at lw_m2 131 rfl) rfl
theorem q503 : (Jvm.Cond.privateMethod ({ cls := "LateAndEarly$Reader", name := "fault", desc := "(I)LLateAndEarly$Fault;" } : Jvm.MethodName)) ∈ lw_tbl := lw_at lw_m2 132 rfl
theorem q504 : (Jvm.Cond.instanceMethod ({ cls := "LateAndEarly$Reader", name := "fault", desc := "(I)LLateAndEarly$Fault;" } : Jvm.MethodName)) ∈ lw_all := lw_g (lw_at lw_m2 133 rfl) rfl
theorem q505 : (Jvm.Cond.code ({ cls := "LateAndEarly$Reader", name := "fault", desc := "(I)LLateAndEarly$Fault;" } : Jvm.MethodName) prog_12_method_7_code (2 : Nat) (Option.some (Jvm.ClassFile.FieldType.object "LateAndEarly$Fault"))) ∈ lw_all := lw_g (lw_at lw_m2 134 rfl) rfl
theorem q506 : (Jvm.Cond.classLink "LateAndEarly$Reader" (76 : Nat) "LateAndEarly$Fault") ∈ lw_all := lw_g (lw_at lw_m2 135 rfl) rfl
theorem q546 : (Jvm.Cond.methodLink "LateAndEarly$Reader" (78 : Nat) ({ cls := "LateAndEarly$Fault", name := "<init>", desc := "(II)V" } : Jvm.MethodName)) ∈ lw_all := lw_g (lw_at lw_m2 175 rfl) rfl
theorem q579 : (Jvm.Cond.methodLink "LateAndEarly$Reader" (100 : Nat) ({ cls := "LateAndEarly$Reader", name := "numbered", desc := "(CI)I" } : Jvm.MethodName)) ∈ lw_all := lw_g (lw_at lw_m2 208 rfl) rfl
theorem q580 : (Jvm.Cond.privateMethod ({ cls := "LateAndEarly$Reader", name := "numbered", desc := "(CI)I" } : Jvm.MethodName)) ∈ lw_tbl := lw_at lw_m2 209 rfl
theorem q581 : (Jvm.Cond.instanceMethod ({ cls := "LateAndEarly$Reader", name := "numbered", desc := "(CI)I" } : Jvm.MethodName)) ∈ lw_all := lw_g (lw_at lw_m2 210 rfl) rfl
theorem q582 : (Jvm.Cond.code ({ cls := "LateAndEarly$Reader", name := "numbered", desc := "(CI)I" } : Jvm.MethodName) prog_12_method_11_code (6 : Nat) (Option.some Jvm.ClassFile.FieldType.int)) ∈ lw_all := lw_g (lw_at lw_m2 211 rfl) rfl
theorem q583 : (Jvm.Cond.methodLink "LateAndEarly$Reader" (119 : Nat) ({ cls := "java/lang/Integer", name := "valueOf", desc := "(I)Ljava/lang/Integer;" } : Jvm.MethodName)) ∈ lw_all := lw_g (lw_at lw_m2 212 rfl) rfl
theorem q603 : (Jvm.Cond.methodLink "LateAndEarly$Reader" (125 : Nat) ({ cls := "java/util/ArrayList", name := "add", desc := "(Ljava/lang/Object;)Z" } : Jvm.MethodName)) ∈ lw_all := lw_g (lw_at lw_m2 232 rfl) rfl
theorem q642 : (Jvm.Cond.selects "LateAndEarly$Reader" ({ cls := "java/lang/Object", name := "getClass", desc := "()Ljava/lang/Class;" } : Jvm.MethodName) ({ cls := "java/lang/Object", name := "getClass", desc := "()Ljava/lang/Class;" } : Jvm.MethodName)) ∈ lw_all := lw_g (lw_at lw_m3 31 rfl) rfl
theorem q667 : (Jvm.Cond.methodLink "LateAndEarly$Reader" (129 : Nat) ({ cls := "LateAndEarly$Reader", name := "sign", desc := "(C)V" } : Jvm.MethodName)) ∈ lw_all := lw_g (lw_at lw_m3 56 rfl) rfl
theorem q668 : (Jvm.Cond.privateMethod ({ cls := "LateAndEarly$Reader", name := "sign", desc := "(C)V" } : Jvm.MethodName)) ∈ lw_tbl := lw_at lw_m3 57 rfl
theorem q669 : (Jvm.Cond.instanceMethod ({ cls := "LateAndEarly$Reader", name := "sign", desc := "(C)V" } : Jvm.MethodName)) ∈ lw_all := lw_g (lw_at lw_m3 58 rfl) rfl
theorem q670 : (Jvm.Cond.code ({ cls := "LateAndEarly$Reader", name := "sign", desc := "(C)V" } : Jvm.MethodName) prog_12_method_9_code (2 : Nat) (Option.none : Option Jvm.ClassFile.FieldType)) ∈ lw_all := lw_g (lw_at lw_m3 59 rfl) rfl
theorem q671 : (Jvm.Cond.methodLink "LateAndEarly$Reader" (81 : Nat) ({ cls := "LateAndEarly$Reader", name := "isSign", desc := "(C)Z" } : Jvm.MethodName)) ∈ lw_all := lw_g (lw_at lw_m3 60 rfl) rfl
theorem q672 : (Jvm.Cond.privateMethod ({ cls := "LateAndEarly$Reader", name := "isSign", desc := "(C)Z" } : Jvm.MethodName)) ∈ lw_tbl := lw_at lw_m3 61 rfl
theorem q673 : (Jvm.Cond.instanceMethod ({ cls := "LateAndEarly$Reader", name := "isSign", desc := "(C)Z" } : Jvm.MethodName)) ∈ lw_all := lw_g (lw_at lw_m3 62 rfl) rfl
theorem q674 : (Jvm.Cond.code ({ cls := "LateAndEarly$Reader", name := "isSign", desc := "(C)Z" } : Jvm.MethodName) prog_12_method_8_code (2 : Nat) (Option.some Jvm.ClassFile.FieldType.boolean)) ∈ lw_all := lw_g (lw_at lw_m3 63 rfl) rfl
theorem q675 : (Jvm.Cond.stringRef "LateAndEarly$Reader" (133 : Nat) "tell") ∈ lw_tbl := lw_at lw_m3 64 rfl
theorem q676 : (Jvm.Cond.methodLink "LateAndEarly$Reader" (135 : Nat) ({ cls := "LateAndEarly$Reader", name := "isWord", desc := "(Ljava/lang/String;)Z" } : Jvm.MethodName)) ∈ lw_all := lw_g (lw_at lw_m3 65 rfl) rfl
theorem q677 : (Jvm.Cond.privateMethod ({ cls := "LateAndEarly$Reader", name := "isWord", desc := "(Ljava/lang/String;)Z" } : Jvm.MethodName)) ∈ lw_tbl := lw_at lw_m3 66 rfl
theorem q678 : (Jvm.Cond.instanceMethod ({ cls := "LateAndEarly$Reader", name := "isWord", desc := "(Ljava/lang/String;)Z" } : Jvm.MethodName)) ∈ lw_all := lw_g (lw_at lw_m3 67 rfl) rfl
theorem q679 : (Jvm.Cond.code ({ cls := "LateAndEarly$Reader", name := "isWord", desc := "(Ljava/lang/String;)Z" } : Jvm.MethodName) prog_12_method_10_code (3 : Nat) (Option.some Jvm.ClassFile.FieldType.boolean)) ∈ lw_all := lw_g (lw_at lw_m3 68 rfl) rfl
theorem q680 : (Jvm.Cond.methodLink "LateAndEarly$Reader" (92 : Nat) ({ cls := "java/lang/String", name := "length", desc := "()I" } : Jvm.MethodName)) ∈ lw_all := lw_g (lw_at lw_m3 69 rfl) rfl
theorem q681 : (Jvm.Cond.methodLink "LateAndEarly$Reader" (96 : Nat) ({ cls := "java/lang/String", name := "charAt", desc := "(I)C" } : Jvm.MethodName)) ∈ lw_all := lw_g (lw_at lw_m3 70 rfl) rfl
theorem q701 : (Jvm.Cond.stringRef "LateAndEarly$Reader" (139 : Nat) "go") ∈ lw_tbl := lw_at lw_m3 90 rfl
theorem q702 : (Jvm.Cond.stringRef "LateAndEarly$Reader" (141 : Nat) "if") ∈ lw_tbl := lw_at lw_m3 91 rfl
theorem q703 : (Jvm.Cond.stringRef "LateAndEarly$Reader" (143 : Nat) "leave") ∈ lw_tbl := lw_at lw_m3 92 rfl
theorem q704 : (Jvm.Cond.methodLink "LateAndEarly$Reader" (145 : Nat) ({ cls := "LateAndEarly$Reader", name := "nameHere", desc := "()I" } : Jvm.MethodName)) ∈ lw_all := lw_g (lw_at lw_m3 93 rfl) rfl
theorem q705 : (Jvm.Cond.privateMethod ({ cls := "LateAndEarly$Reader", name := "nameHere", desc := "()I" } : Jvm.MethodName)) ∈ lw_tbl := lw_at lw_m3 94 rfl
theorem q706 : (Jvm.Cond.instanceMethod ({ cls := "LateAndEarly$Reader", name := "nameHere", desc := "()I" } : Jvm.MethodName)) ∈ lw_all := lw_g (lw_at lw_m3 95 rfl) rfl
theorem q707 : (Jvm.Cond.code ({ cls := "LateAndEarly$Reader", name := "nameHere", desc := "()I" } : Jvm.MethodName) prog_12_method_12_code (3 : Nat) (Option.some Jvm.ClassFile.FieldType.int)) ∈ lw_all := lw_g (lw_at lw_m3 96 rfl) rfl
theorem q708 : (Jvm.Cond.methodLink "LateAndEarly$Reader" (151 : Nat) ({ cls := "LateAndEarly$Reader", name := "line", desc := "()LLateAndEarly$Node;" } : Jvm.MethodName)) ∈ lw_all := lw_g (lw_at lw_m3 97 rfl) rfl
theorem q709 : (Jvm.Cond.privateMethod ({ cls := "LateAndEarly$Reader", name := "line", desc := "()LLateAndEarly$Node;" } : Jvm.MethodName)) ∈ lw_tbl := lw_at lw_m3 98 rfl
theorem q710 : (Jvm.Cond.instanceMethod ({ cls := "LateAndEarly$Reader", name := "line", desc := "()LLateAndEarly$Node;" } : Jvm.MethodName)) ∈ lw_all := lw_g (lw_at lw_m3 99 rfl) rfl
theorem q711 : (Jvm.Cond.code ({ cls := "LateAndEarly$Reader", name := "line", desc := "()LLateAndEarly$Node;" } : Jvm.MethodName) prog_12_method_15_code (2 : Nat) (Option.some (Jvm.ClassFile.FieldType.object "LateAndEarly$Node"))) ∈ lw_all := lw_g (lw_at lw_m3 100 rfl) rfl
theorem q712 : (Jvm.Cond.classLink "LateAndEarly$Reader" (157 : Nat) "LateAndEarly$Tell") ∈ lw_all := lw_g (lw_at lw_m3 101 rfl) rfl
theorem q714 : (Jvm.Cond.methodLink "LateAndEarly$Reader" (159 : Nat) ({ cls := "LateAndEarly$Reader", name := "operand", desc := "()LLateAndEarly$Operand;" } : Jvm.MethodName)) ∈ lw_all := lw_g (lw_at lw_m3 103 rfl) rfl
theorem q715 : (Jvm.Cond.privateMethod ({ cls := "LateAndEarly$Reader", name := "operand", desc := "()LLateAndEarly$Operand;" } : Jvm.MethodName)) ∈ lw_tbl := lw_at lw_m3 104 rfl
theorem q716 : (Jvm.Cond.instanceMethod ({ cls := "LateAndEarly$Reader", name := "operand", desc := "()LLateAndEarly$Operand;" } : Jvm.MethodName)) ∈ lw_all := lw_g (lw_at lw_m3 105 rfl) rfl
theorem q717 : (Jvm.Cond.code ({ cls := "LateAndEarly$Reader", name := "operand", desc := "()LLateAndEarly$Operand;" } : Jvm.MethodName) prog_12_method_20_code (4 : Nat) (Option.some (Jvm.ClassFile.FieldType.object "LateAndEarly$Operand"))) ∈ lw_all := lw_g (lw_at lw_m3 106 rfl) rfl
theorem q718 : (Jvm.Cond.classLink "LateAndEarly$Reader" (217 : Nat) "LateAndEarly$Operand") ∈ lw_all := lw_g (lw_at lw_m3 107 rfl) rfl
theorem q720 : (Jvm.Cond.methodLink "LateAndEarly$Reader" (219 : Nat) ({ cls := "LateAndEarly$Operand", name := "<init>", desc := "(ZI)V" } : Jvm.MethodName)) ∈ lw_all := lw_g (lw_at lw_m3 109 rfl) rfl
theorem q737 : (Jvm.Cond.methodLink "LateAndEarly$Reader" (163 : Nat) ({ cls := "LateAndEarly$Tell", name := "<init>", desc := "(LLateAndEarly$Operand;)V" } : Jvm.MethodName)) ∈ lw_all := lw_g (lw_at lw_m3 126 rfl) rfl
theorem q779 : (Jvm.Cond.classLink "LateAndEarly$Reader" (166 : Nat) "LateAndEarly$Leave") ∈ lw_all := lw_g (lw_at lw_m3 168 rfl) rfl
theorem q781 : (Jvm.Cond.methodLinkNest "LateAndEarly$Reader" (168 : Nat) ({ cls := "LateAndEarly$Leave", name := "<init>", desc := "()V" } : Jvm.MethodName) "LateAndEarly") ∈ lw_tbl := lw_at lw_m3 170 rfl
theorem q793 : (Jvm.Cond.classLink "LateAndEarly$Reader" (169 : Nat) "LateAndEarly$Go") ∈ lw_all := lw_g (lw_at lw_m3 182 rfl) rfl
theorem q795 : (Jvm.Cond.methodLink "LateAndEarly$Reader" (171 : Nat) ({ cls := "LateAndEarly$Reader", name := "target", desc := "()I" } : Jvm.MethodName)) ∈ lw_all := lw_g (lw_at lw_m3 184 rfl) rfl
theorem q796 : (Jvm.Cond.privateMethod ({ cls := "LateAndEarly$Reader", name := "target", desc := "()I" } : Jvm.MethodName)) ∈ lw_tbl := lw_at lw_m3 185 rfl
theorem q797 : (Jvm.Cond.instanceMethod ({ cls := "LateAndEarly$Reader", name := "target", desc := "()I" } : Jvm.MethodName)) ∈ lw_all := lw_g (lw_at lw_m3 186 rfl) rfl
theorem q798 : (Jvm.Cond.code ({ cls := "LateAndEarly$Reader", name := "target", desc := "()I" } : Jvm.MethodName) prog_12_method_17_code (2 : Nat) (Option.some Jvm.ClassFile.FieldType.int)) ∈ lw_all := lw_g (lw_at lw_m3 187 rfl) rfl
theorem q799 : (Jvm.Cond.methodLink "LateAndEarly$Reader" (174 : Nat) ({ cls := "LateAndEarly$Go", name := "<init>", desc := "(I)V" } : Jvm.MethodName)) ∈ lw_all := lw_g (lw_at lw_m3 188 rfl) rfl
theorem q811 : (Jvm.Cond.methodLink "LateAndEarly$Reader" (177 : Nat) ({ cls := "LateAndEarly$Reader", name := "test", desc := "()LLateAndEarly$Node;" } : Jvm.MethodName)) ∈ lw_all := lw_g (lw_at lw_m3 200 rfl) rfl
theorem q812 : (Jvm.Cond.privateMethod ({ cls := "LateAndEarly$Reader", name := "test", desc := "()LLateAndEarly$Node;" } : Jvm.MethodName)) ∈ lw_tbl := lw_at lw_m3 201 rfl
theorem q813 : (Jvm.Cond.instanceMethod ({ cls := "LateAndEarly$Reader", name := "test", desc := "()LLateAndEarly$Node;" } : Jvm.MethodName)) ∈ lw_all := lw_g (lw_at lw_m3 202 rfl) rfl
theorem q814 : (Jvm.Cond.code ({ cls := "LateAndEarly$Reader", name := "test", desc := "()LLateAndEarly$Node;" } : Jvm.MethodName) prog_12_method_16_code (4 : Nat) (Option.some (Jvm.ClassFile.FieldType.object "LateAndEarly$Node"))) ∈ lw_all := lw_g (lw_at lw_m3 203 rfl) rfl
theorem q815 : (Jvm.Cond.classLink "LateAndEarly$Reader" (187 : Nat) "LateAndEarly$If") ∈ lw_all := lw_g (lw_at lw_m3 204 rfl) rfl
theorem q817 : (Jvm.Cond.methodLink "LateAndEarly$Reader" (189 : Nat) ({ cls := "LateAndEarly$If", name := "<init>", desc := "(LLateAndEarly$Operand;LLateAndEarly$Operand;II)V" } : Jvm.MethodName)) ∈ lw_all := lw_g (lw_at lw_m3 206 rfl) rfl
theorem q844 : (Jvm.Cond.methodLink "LateAndEarly$Reader" (180 : Nat) ({ cls := "LateAndEarly$Reader", name := "write", desc := "()LLateAndEarly$Node;" } : Jvm.MethodName)) ∈ lw_all := lw_g (lw_at lw_m3 233 rfl) rfl
theorem q845 : (Jvm.Cond.privateMethod ({ cls := "LateAndEarly$Reader", name := "write", desc := "()LLateAndEarly$Node;" } : Jvm.MethodName)) ∈ lw_tbl := lw_at lw_m3 234 rfl
theorem q846 : (Jvm.Cond.instanceMethod ({ cls := "LateAndEarly$Reader", name := "write", desc := "()LLateAndEarly$Node;" } : Jvm.MethodName)) ∈ lw_all := lw_g (lw_at lw_m3 235 rfl) rfl
theorem q847 : (Jvm.Cond.code ({ cls := "LateAndEarly$Reader", name := "write", desc := "()LLateAndEarly$Node;" } : Jvm.MethodName) prog_12_method_18_code (3 : Nat) (Option.some (Jvm.ClassFile.FieldType.object "LateAndEarly$Node"))) ∈ lw_all := lw_g (lw_at lw_m3 236 rfl) rfl
theorem q848 : (Jvm.Cond.classLink "LateAndEarly$Reader" (192 : Nat) "LateAndEarly$Write") ∈ lw_all := lw_g (lw_at lw_m3 237 rfl) rfl
theorem q850 : (Jvm.Cond.methodLink "LateAndEarly$Reader" (194 : Nat) ({ cls := "LateAndEarly$Write", name := "<init>", desc := "(ILLateAndEarly$Operand;LLateAndEarly$Operand;)V" } : Jvm.MethodName)) ∈ lw_all := lw_g (lw_at lw_m3 239 rfl) rfl
theorem q876 : (Jvm.Cond.methodLink "LateAndEarly$Reader" (183 : Nat) ({ cls := "LateAndEarly$Reader", name := "value", desc := "(I)LLateAndEarly$Node;" } : Jvm.MethodName)) ∈ lw_all := lw_g (lw_at lw_m4 25 rfl) rfl
theorem q877 : (Jvm.Cond.privateMethod ({ cls := "LateAndEarly$Reader", name := "value", desc := "(I)LLateAndEarly$Node;" } : Jvm.MethodName)) ∈ lw_tbl := lw_at lw_m4 26 rfl
theorem q878 : (Jvm.Cond.instanceMethod ({ cls := "LateAndEarly$Reader", name := "value", desc := "(I)LLateAndEarly$Node;" } : Jvm.MethodName)) ∈ lw_all := lw_g (lw_at lw_m4 27 rfl) rfl
theorem q879 : (Jvm.Cond.code ({ cls := "LateAndEarly$Reader", name := "value", desc := "(I)LLateAndEarly$Node;" } : Jvm.MethodName) prog_12_method_19_code (5 : Nat) (Option.some (Jvm.ClassFile.FieldType.object "LateAndEarly$Node"))) ∈ lw_all := lw_g (lw_at lw_m4 28 rfl) rfl
theorem q880 : (Jvm.Cond.classLink "LateAndEarly$Reader" (197 : Nat) "LateAndEarly$SetSum") ∈ lw_all := lw_g (lw_at lw_m4 29 rfl) rfl
theorem q882 : (Jvm.Cond.classLink "LateAndEarly$Reader" (199 : Nat) "LateAndEarly$Read") ∈ lw_all := lw_g (lw_at lw_m4 31 rfl) rfl
theorem q884 : (Jvm.Cond.methodLink "LateAndEarly$Reader" (201 : Nat) ({ cls := "LateAndEarly$Read", name := "<init>", desc := "(ILLateAndEarly$Operand;)V" } : Jvm.MethodName)) ∈ lw_all := lw_g (lw_at lw_m4 33 rfl) rfl
theorem q909 : (Jvm.Cond.methodLink "LateAndEarly$Reader" (204 : Nat) ({ cls := "LateAndEarly$SetSum", name := "<init>", desc := "(ILLateAndEarly$Sum;)V" } : Jvm.MethodName)) ∈ lw_all := lw_g (lw_at lw_m4 58 rfl) rfl
theorem q936 : (Jvm.Cond.stringRef "LateAndEarly$Reader" (207 : Nat) "+-*/&^") ∈ lw_tbl := lw_at lw_m4 85 rfl
theorem q937 : (Jvm.Cond.classLink "LateAndEarly$Reader" (209 : Nat) "LateAndEarly$SetOperand") ∈ lw_all := lw_g (lw_at lw_m4 86 rfl) rfl
theorem q939 : (Jvm.Cond.methodLink "LateAndEarly$Reader" (211 : Nat) ({ cls := "LateAndEarly$SetOperand", name := "<init>", desc := "(ILLateAndEarly$Operand;)V" } : Jvm.MethodName)) ∈ lw_all := lw_g (lw_at lw_m4 88 rfl) rfl
theorem q955 : (Jvm.Cond.classLink "LateAndEarly$Reader" (212 : Nat) "LateAndEarly$Pair") ∈ lw_all := lw_g (lw_at lw_m4 104 rfl) rfl
theorem q957 : (Jvm.Cond.methodLink "LateAndEarly$Reader" (214 : Nat) ({ cls := "LateAndEarly$Pair", name := "<init>", desc := "(CLLateAndEarly$Operand;LLateAndEarly$Operand;)V" } : Jvm.MethodName)) ∈ lw_all := lw_g (lw_at lw_m4 106 rfl) rfl
theorem q972 : (Jvm.Cond.classLink "LateAndEarly$Reader" (155 : Nat) "LateAndEarly$End") ∈ lw_all := lw_g (lw_at lw_m4 121 rfl) rfl
theorem q973 : (Jvm.Cond.methodLink "LateAndEarly$Reader" (107 : Nat) ({ cls := "LateAndEarly$Reader", name := "check", desc := "()V" } : Jvm.MethodName)) ∈ lw_all := lw_g (lw_at lw_m4 122 rfl) rfl
theorem q974 : (Jvm.Cond.privateMethod ({ cls := "LateAndEarly$Reader", name := "check", desc := "()V" } : Jvm.MethodName)) ∈ lw_tbl := lw_at lw_m4 123 rfl
theorem q975 : (Jvm.Cond.instanceMethod ({ cls := "LateAndEarly$Reader", name := "check", desc := "()V" } : Jvm.MethodName)) ∈ lw_all := lw_g (lw_at lw_m4 124 rfl) rfl
theorem q976 : (Jvm.Cond.code ({ cls := "LateAndEarly$Reader", name := "check", desc := "()V" } : Jvm.MethodName) prog_12_method_21_code (7 : Nat) (Option.none : Option Jvm.ClassFile.FieldType)) ∈ lw_all := lw_g (lw_at lw_m4 125 rfl) rfl
theorem q977 : (Jvm.Cond.methodLink "LateAndEarly$Reader" (222 : Nat) ({ cls := "java/util/ArrayList", name := "get", desc := "(I)Ljava/lang/Object;" } : Jvm.MethodName)) ∈ lw_all := lw_g (lw_at lw_m4 126 rfl) rfl
theorem q989 : (Jvm.Cond.classLink "LateAndEarly$Reader" (120 : Nat) "java/lang/Integer") ∈ lw_all := lw_g (lw_at lw_m4 138 rfl) rfl
theorem q990 : (Jvm.Cond.methodLink "LateAndEarly$Reader" (226 : Nat) ({ cls := "java/lang/Integer", name := "intValue", desc := "()I" } : Jvm.MethodName)) ∈ lw_all := lw_g (lw_at lw_m4 139 rfl) rfl
theorem q994 : (Jvm.Cond.methodLink "LateAndEarly$Reader" (229 : Nat) ({ cls := "LateAndEarly$Routine", name := "end", desc := "(I)LLateAndEarly$End;" } : Jvm.MethodName)) ∈ lw_all := lw_g (lw_at lw_m4 143 rfl) rfl
theorem q1001 : (Jvm.Cond.methodLink "LateAndEarly$Reader" (233 : Nat) ({ cls := "LateAndEarly$End", name := "ways", desc := "()I" } : Jvm.MethodName)) ∈ lw_all := lw_g (lw_at lw_m4 150 rfl) rfl
theorem q1013 : (Jvm.Cond.methodLink "LateAndEarly$Reader" (236 : Nat) ({ cls := "LateAndEarly$End", name := "way", desc := "(I)I" } : Jvm.MethodName)) ∈ lw_all := lw_g (lw_at lw_m4 162 rfl) rfl
theorem q1025 : (Jvm.Cond.methodLink "LateAndEarly$Reader" (110 : Nat) ({ cls := "LateAndEarly$Routine", name := "close", desc := "()V" } : Jvm.MethodName)) ∈ lw_all := lw_g (lw_at lw_m4 174 rfl) rfl
theorem q2277 : (Jvm.Cond.castable "LateAndEarly$Reader" "java/lang/Object") ∈ lw_tbl := lw_at lw_m9 226 rfl
theorem in_X3 : ∀ w ∈ wsX30, w ∈ lw_all := lw_in wsX30 [364, 366, 368, 370, 372, 374, 376, 378, 380] (by decide +kernel) (by decide +kernel)
/-! LateAndEarly$Routine -/
set_option maxRecDepth 100000
def RX4 : String := "LateAndEarly$Routine"
def TX4 : u_T := fun k => match k with
  | 0 => ("LateAndEarly$Routine", "blocks", "Ljava/util/ArrayList;", true)
  | 1 => ("LateAndEarly$Routine", "nodes", "Ljava/util/ArrayList;", true)
  | 2 => ("LateAndEarly$Routine", "sums", "Ljava/util/ArrayList;", true)
  | 3 => ("LateAndEarly$Routine", "way", "Ljava/util/ArrayList;", true)
  | 4 => ("LateAndEarly$Routine", "lines", "I", false)
  | 5 => ("LateAndEarly$Routine", "onWays", "I", false)
  | 6 => ("LateAndEarly$Routine", "works", "[J", false)
  | 7 => ("LateAndEarly$Routine", "kills", "[J", false)
  | 8 => ("LateAndEarly$Routine", "wanted", "[J", false)
  | 9 => ("LateAndEarly$Routine", "there", "[J", false)
  | 10 => ("LateAndEarly$Routine", "early", "[J", false)
  | 11 => ("LateAndEarly$Routine", "delayed", "[J", false)
  | 12 => ("LateAndEarly$Routine", "latest", "[J", false)
  | _ => ("LateAndEarly$Routine", "alone", "[J", false)
def tyX4 : Nat → FieldType := fun k => match k with
  | 0 => .object "java/util/ArrayList"
  | 1 => .object "java/util/ArrayList"
  | 2 => .object "java/util/ArrayList"
  | 3 => .object "java/util/ArrayList"
  | 4 => .int
  | 5 => .int
  | 6 => .array .long
  | 7 => .array .long
  | 8 => .array .long
  | 9 => .array .long
  | 10 => .array .long
  | 11 => .array .long
  | 12 => .array .long
  | _ => .array .long
abbrev wsX40 : List Cond := u_ws RX4 TX4 14
set_option maxRecDepth 100000 in
theorem nmX4 : ∀ a, a < 14 → ∀ b, b < 14 → a ≠ b → (TX4 a).2.1 ≠ (TX4 b).2.1 := by decide +kernel
set_option maxRecDepth 100000 in
theorem tyX4_ok : ∀ k, k < 14 → parseFieldDescriptor (TX4 k).2.2.1 = some (tyX4 k) := by decide +kernel
abbrev cX4_init : ByteArray := prog_14_method_1_code
def yX4_init : MethodName := ⟨RX4, "<init>", "()V"⟩
def dkwX4_init_2 : List UInt8 := [181, 0, 22, 177]
abbrev dktX4_init_2 : List UInt8 := dkwX4_init_2 ++ []
def dkwX4_init_1 : List UInt8 := [181, 0, 16, 42, 187, 0, 7, 89, 183, 0, 9, 181, 0, 19, 42, 187, 0, 7, 89, 183, 0, 9]
abbrev dktX4_init_1 : List UInt8 := dkwX4_init_1 ++ dktX4_init_2
def dkwX4_init_0 : List UInt8 := [42, 183, 0, 1, 42, 187, 0, 7, 89, 183, 0, 9, 181, 0, 10, 42, 187, 0, 7, 89, 183, 0, 9]
abbrev dktX4_init_0 : List UInt8 := dkwX4_init_0 ++ dktX4_init_1
theorem dksX4_init_0 : cX4_init.data.toList.drop 0 = dktX4_init_0 := by decide +kernel
theorem dksX4_init_1 : cX4_init.data.toList.drop 23 = dktX4_init_1 := dk_seg dksX4_init_0 23 rfl rfl
theorem dksX4_init_2 : cX4_init.data.toList.drop 45 = dktX4_init_2 := dk_seg dksX4_init_1 22 rfl rfl
theorem dX4_init_0 : decode cX4_init 0 = .ok (.aload_n 0, 1) := dk_42 (dk_at dksX4_init_0 0 rfl rfl)
theorem dX4_init_1 : decode cX4_init 1 = .ok (.invokespecial 1, 3) := dk_183 0 1 (dk_at dksX4_init_0 1 rfl rfl)
theorem dX4_init_4 : decode cX4_init 4 = .ok (.aload_n 0, 1) := dk_42 (dk_at dksX4_init_0 4 rfl rfl)
theorem dX4_init_5 : decode cX4_init 5 = .ok (.new 7, 3) := dk_187 0 7 (dk_at dksX4_init_0 5 rfl rfl)
theorem dX4_init_8 : decode cX4_init 8 = .ok (.dup, 1) := dk_89 (dk_at dksX4_init_0 8 rfl rfl)
theorem dX4_init_9 : decode cX4_init 9 = .ok (.invokespecial 9, 3) := dk_183 0 9 (dk_at dksX4_init_0 9 rfl rfl)
theorem dX4_init_12 : decode cX4_init 12 = .ok (.putfield 10, 3) := dk_181 0 10 (dk_at dksX4_init_0 12 rfl rfl)
theorem dX4_init_15 : decode cX4_init 15 = .ok (.aload_n 0, 1) := dk_42 (dk_at dksX4_init_0 15 rfl rfl)
theorem dX4_init_16 : decode cX4_init 16 = .ok (.new 7, 3) := dk_187 0 7 (dk_at dksX4_init_0 16 rfl rfl)
theorem dX4_init_19 : decode cX4_init 19 = .ok (.dup, 1) := dk_89 (dk_at dksX4_init_0 19 rfl rfl)
theorem dX4_init_20 : decode cX4_init 20 = .ok (.invokespecial 9, 3) := dk_183 0 9 (dk_at dksX4_init_0 20 rfl rfl)
theorem dX4_init_23 : decode cX4_init 23 = .ok (.putfield 16, 3) := dk_181 0 16 (dk_at dksX4_init_1 0 rfl rfl)
theorem dX4_init_26 : decode cX4_init 26 = .ok (.aload_n 0, 1) := dk_42 (dk_at dksX4_init_1 3 rfl rfl)
theorem dX4_init_27 : decode cX4_init 27 = .ok (.new 7, 3) := dk_187 0 7 (dk_at dksX4_init_1 4 rfl rfl)
theorem dX4_init_30 : decode cX4_init 30 = .ok (.dup, 1) := dk_89 (dk_at dksX4_init_1 7 rfl rfl)
theorem dX4_init_31 : decode cX4_init 31 = .ok (.invokespecial 9, 3) := dk_183 0 9 (dk_at dksX4_init_1 8 rfl rfl)
theorem dX4_init_34 : decode cX4_init 34 = .ok (.putfield 19, 3) := dk_181 0 19 (dk_at dksX4_init_1 11 rfl rfl)
theorem dX4_init_37 : decode cX4_init 37 = .ok (.aload_n 0, 1) := dk_42 (dk_at dksX4_init_1 14 rfl rfl)
theorem dX4_init_38 : decode cX4_init 38 = .ok (.new 7, 3) := dk_187 0 7 (dk_at dksX4_init_1 15 rfl rfl)
theorem dX4_init_41 : decode cX4_init 41 = .ok (.dup, 1) := dk_89 (dk_at dksX4_init_1 18 rfl rfl)
theorem dX4_init_42 : decode cX4_init 42 = .ok (.invokespecial 9, 3) := dk_183 0 9 (dk_at dksX4_init_1 19 rfl rfl)
theorem dX4_init_45 : decode cX4_init 45 = .ok (.putfield 22, 3) := dk_181 0 22 (dk_at dksX4_init_2 0 rfl rfl)
theorem dX4_init_48 : decode cX4_init 48 = .ok (.return_, 1) := dk_177 (dk_at dksX4_init_2 3 rfl rfl)
abbrev cX4_end : ByteArray := prog_14_method_2_code
def yX4_end : MethodName := ⟨RX4, "end", "(I)LLateAndEarly$End;"⟩
def dkwX4_end_1 : List UInt8 := [182, 0, 29, 4, 100, 182, 0, 25, 192, 0, 33, 176]
abbrev dktX4_end_1 : List UInt8 := dkwX4_end_1 ++ []
def dkwX4_end_0 : List UInt8 := [42, 180, 0, 10, 27, 182, 0, 25, 192, 0, 7, 42, 180, 0, 10, 27, 182, 0, 25, 192, 0, 7]
abbrev dktX4_end_0 : List UInt8 := dkwX4_end_0 ++ dktX4_end_1
theorem dksX4_end_0 : cX4_end.data.toList.drop 0 = dktX4_end_0 := by decide +kernel
theorem dksX4_end_1 : cX4_end.data.toList.drop 22 = dktX4_end_1 := dk_seg dksX4_end_0 22 rfl rfl
theorem dX4_end_0 : decode cX4_end 0 = .ok (.aload_n 0, 1) := dk_42 (dk_at dksX4_end_0 0 rfl rfl)
theorem dX4_end_1 : decode cX4_end 1 = .ok (.getfield 10, 3) := dk_180 0 10 (dk_at dksX4_end_0 1 rfl rfl)
theorem dX4_end_4 : decode cX4_end 4 = .ok (.iload_n 1, 1) := dk_27 (dk_at dksX4_end_0 4 rfl rfl)
theorem dX4_end_5 : decode cX4_end 5 = .ok (.invokevirtual 25, 3) := dk_182 0 25 (dk_at dksX4_end_0 5 rfl rfl)
theorem dX4_end_8 : decode cX4_end 8 = .ok (.checkcast 7, 3) := dk_192 0 7 (dk_at dksX4_end_0 8 rfl rfl)
theorem dX4_end_11 : decode cX4_end 11 = .ok (.aload_n 0, 1) := dk_42 (dk_at dksX4_end_0 11 rfl rfl)
theorem dX4_end_12 : decode cX4_end 12 = .ok (.getfield 10, 3) := dk_180 0 10 (dk_at dksX4_end_0 12 rfl rfl)
theorem dX4_end_15 : decode cX4_end 15 = .ok (.iload_n 1, 1) := dk_27 (dk_at dksX4_end_0 15 rfl rfl)
theorem dX4_end_16 : decode cX4_end 16 = .ok (.invokevirtual 25, 3) := dk_182 0 25 (dk_at dksX4_end_0 16 rfl rfl)
theorem dX4_end_19 : decode cX4_end 19 = .ok (.checkcast 7, 3) := dk_192 0 7 (dk_at dksX4_end_0 19 rfl rfl)
theorem dX4_end_22 : decode cX4_end 22 = .ok (.invokevirtual 29, 3) := dk_182 0 29 (dk_at dksX4_end_1 0 rfl rfl)
theorem dX4_end_25 : decode cX4_end 25 = .ok (.iconst 1, 1) := dk_4 (dk_at dksX4_end_1 3 rfl rfl)
theorem dX4_end_26 : decode cX4_end 26 = .ok (.isub, 1) := dk_100 (dk_at dksX4_end_1 4 rfl rfl)
theorem dX4_end_27 : decode cX4_end 27 = .ok (.invokevirtual 25, 3) := dk_182 0 25 (dk_at dksX4_end_1 5 rfl rfl)
theorem dX4_end_30 : decode cX4_end 30 = .ok (.checkcast 33, 3) := dk_192 0 33 (dk_at dksX4_end_1 8 rfl rfl)
theorem dX4_end_33 : decode cX4_end 33 = .ok (.areturn, 1) := dk_176 (dk_at dksX4_end_1 11 rfl rfl)
abbrev cX4_close : ByteArray := prog_14_method_4_code
def yX4_close : MethodName := ⟨RX4, "close", "()V"⟩
def dkwX4_close_11 : List UInt8 := [198, 0, 11, 42, 44, 192, 0, 73, 182, 0, 75, 132, 1, 1, 167, 255, 215, 177]
abbrev dktX4_close_11 : List UInt8 := dkwX4_close_11 ++ []
def dkwX4_close_10 : List UInt8 := [182, 0, 29, 162, 0, 36, 42, 180, 0, 16, 27, 182, 0, 25, 192, 0, 45, 77, 44, 182, 0, 69]
abbrev dktX4_close_10 : List UInt8 := dkwX4_close_10 ++ dktX4_close_11
def dkwX4_close_9 : List UInt8 := [182, 0, 65, 132, 2, 1, 167, 255, 223, 132, 1, 1, 167, 255, 204, 3, 60, 27, 42, 180, 0, 16]
abbrev dktX4_close_9 : List UInt8 := dkwX4_close_9 ++ dktX4_close_10
def dkwX4_close_8 : List UInt8 := [182, 0, 35, 182, 0, 39, 162, 0, 27, 42, 42, 27, 182, 0, 35, 42, 27, 182, 0, 35, 28, 182, 0, 42]
abbrev dktX4_close_8 : List UInt8 := dkwX4_close_8 ++ dktX4_close_9
def dkwX4_close_7 : List UInt8 := [132, 1, 1, 167, 255, 191, 3, 60, 27, 42, 180, 0, 10, 182, 0, 29, 162, 0, 47, 3, 61, 28, 42, 27]
abbrev dktX4_close_7 : List UInt8 := dkwX4_close_7 ++ dktX4_close_8
def dkwX4_close_6 : List UInt8 := [192, 0, 45, 44, 29, 4, 96, 182, 0, 25, 192, 0, 45, 182, 0, 61, 132, 3, 1, 167, 255, 222]
abbrev dktX4_close_6 : List UInt8 := dkwX4_close_6 ++ dktX4_close_7
def dkwX4_close_5 : List UInt8 := [182, 0, 25, 192, 0, 7, 77, 3, 62, 29, 4, 96, 44, 182, 0, 29, 162, 0, 30, 44, 29, 182, 0, 25]
abbrev dktX4_close_5 : List UInt8 := dkwX4_close_5 ++ dktX4_close_6
def dkwX4_close_4 : List UInt8 := [182, 0, 29, 181, 0, 58, 3, 60, 27, 42, 180, 0, 10, 182, 0, 29, 162, 0, 60, 42, 180, 0, 10, 27]
abbrev dktX4_close_4 : List UInt8 := dkwX4_close_4 ++ dktX4_close_5
def dkwX4_close_3 : List UInt8 := [45, 182, 0, 54, 87, 132, 2, 1, 167, 255, 191, 132, 1, 1, 167, 255, 172, 42, 42, 180, 0, 16]
abbrev dktX4_close_3 : List UInt8 := dkwX4_close_3 ++ dktX4_close_4
def dkwX4_close_2 : List UInt8 := [192, 0, 45, 78, 45, 42, 180, 0, 16, 182, 0, 29, 181, 0, 47, 45, 27, 181, 0, 51, 42, 180, 0, 16]
abbrev dktX4_close_2 : List UInt8 := dkwX4_close_2 ++ dktX4_close_3
def dkwX4_close_1 : List UInt8 := [192, 0, 7, 182, 0, 29, 162, 0, 53, 42, 180, 0, 10, 27, 182, 0, 25, 192, 0, 7, 28, 182, 0, 25]
abbrev dktX4_close_1 : List UInt8 := dkwX4_close_1 ++ dktX4_close_2
def dkwX4_close_0 : List UInt8 := [3, 60, 27, 42, 180, 0, 10, 182, 0, 29, 162, 0, 79, 3, 61, 28, 42, 180, 0, 10, 27, 182, 0, 25]
abbrev dktX4_close_0 : List UInt8 := dkwX4_close_0 ++ dktX4_close_1
theorem dksX4_close_0 : cX4_close.data.toList.drop 0 = dktX4_close_0 := by decide +kernel
theorem dksX4_close_1 : cX4_close.data.toList.drop 24 = dktX4_close_1 := dk_seg dksX4_close_0 24 rfl rfl
theorem dksX4_close_2 : cX4_close.data.toList.drop 48 = dktX4_close_2 := dk_seg dksX4_close_1 24 rfl rfl
theorem dksX4_close_3 : cX4_close.data.toList.drop 72 = dktX4_close_3 := dk_seg dksX4_close_2 24 rfl rfl
theorem dksX4_close_4 : cX4_close.data.toList.drop 94 = dktX4_close_4 := dk_seg dksX4_close_3 22 rfl rfl
theorem dksX4_close_5 : cX4_close.data.toList.drop 118 = dktX4_close_5 := dk_seg dksX4_close_4 24 rfl rfl
theorem dksX4_close_6 : cX4_close.data.toList.drop 142 = dktX4_close_6 := dk_seg dksX4_close_5 24 rfl rfl
theorem dksX4_close_7 : cX4_close.data.toList.drop 164 = dktX4_close_7 := dk_seg dksX4_close_6 22 rfl rfl
theorem dksX4_close_8 : cX4_close.data.toList.drop 188 = dktX4_close_8 := dk_seg dksX4_close_7 24 rfl rfl
theorem dksX4_close_9 : cX4_close.data.toList.drop 212 = dktX4_close_9 := dk_seg dksX4_close_8 24 rfl rfl
theorem dksX4_close_10 : cX4_close.data.toList.drop 234 = dktX4_close_10 := dk_seg dksX4_close_9 22 rfl rfl
theorem dksX4_close_11 : cX4_close.data.toList.drop 256 = dktX4_close_11 := dk_seg dksX4_close_10 22 rfl rfl
theorem dX4_close_0 : decode cX4_close 0 = .ok (.iconst 0, 1) := dk_3 (dk_at dksX4_close_0 0 rfl rfl)
theorem dX4_close_1 : decode cX4_close 1 = .ok (.istore_n 1, 1) := dk_60 (dk_at dksX4_close_0 1 rfl rfl)
theorem dX4_close_2 : decode cX4_close 2 = .ok (.iload_n 1, 1) := dk_27 (dk_at dksX4_close_0 2 rfl rfl)
theorem dX4_close_3 : decode cX4_close 3 = .ok (.aload_n 0, 1) := dk_42 (dk_at dksX4_close_0 3 rfl rfl)
theorem dX4_close_4 : decode cX4_close 4 = .ok (.getfield 10, 3) := dk_180 0 10 (dk_at dksX4_close_0 4 rfl rfl)
theorem dX4_close_7 : decode cX4_close 7 = .ok (.invokevirtual 29, 3) := dk_182 0 29 (dk_at dksX4_close_0 7 rfl rfl)
theorem dX4_close_10 : decode cX4_close 10 = .ok (.if_icmp .ge 79, 3) := dk_162 0 79 (dk_at dksX4_close_0 10 rfl rfl)
theorem dX4_close_13 : decode cX4_close 13 = .ok (.iconst 0, 1) := dk_3 (dk_at dksX4_close_0 13 rfl rfl)
theorem dX4_close_14 : decode cX4_close 14 = .ok (.istore_n 2, 1) := dk_61 (dk_at dksX4_close_0 14 rfl rfl)
theorem dX4_close_15 : decode cX4_close 15 = .ok (.iload_n 2, 1) := dk_28 (dk_at dksX4_close_0 15 rfl rfl)
theorem dX4_close_16 : decode cX4_close 16 = .ok (.aload_n 0, 1) := dk_42 (dk_at dksX4_close_0 16 rfl rfl)
theorem dX4_close_17 : decode cX4_close 17 = .ok (.getfield 10, 3) := dk_180 0 10 (dk_at dksX4_close_0 17 rfl rfl)
theorem dX4_close_20 : decode cX4_close 20 = .ok (.iload_n 1, 1) := dk_27 (dk_at dksX4_close_0 20 rfl rfl)
theorem dX4_close_21 : decode cX4_close 21 = .ok (.invokevirtual 25, 3) := dk_182 0 25 (dk_at dksX4_close_0 21 rfl rfl)
theorem dX4_close_24 : decode cX4_close 24 = .ok (.checkcast 7, 3) := dk_192 0 7 (dk_at dksX4_close_1 0 rfl rfl)
theorem dX4_close_27 : decode cX4_close 27 = .ok (.invokevirtual 29, 3) := dk_182 0 29 (dk_at dksX4_close_1 3 rfl rfl)
theorem dX4_close_30 : decode cX4_close 30 = .ok (.if_icmp .ge 53, 3) := dk_162 0 53 (dk_at dksX4_close_1 6 rfl rfl)
theorem dX4_close_33 : decode cX4_close 33 = .ok (.aload_n 0, 1) := dk_42 (dk_at dksX4_close_1 9 rfl rfl)
theorem dX4_close_34 : decode cX4_close 34 = .ok (.getfield 10, 3) := dk_180 0 10 (dk_at dksX4_close_1 10 rfl rfl)
theorem dX4_close_37 : decode cX4_close 37 = .ok (.iload_n 1, 1) := dk_27 (dk_at dksX4_close_1 13 rfl rfl)
theorem dX4_close_38 : decode cX4_close 38 = .ok (.invokevirtual 25, 3) := dk_182 0 25 (dk_at dksX4_close_1 14 rfl rfl)
theorem dX4_close_41 : decode cX4_close 41 = .ok (.checkcast 7, 3) := dk_192 0 7 (dk_at dksX4_close_1 17 rfl rfl)
theorem dX4_close_44 : decode cX4_close 44 = .ok (.iload_n 2, 1) := dk_28 (dk_at dksX4_close_1 20 rfl rfl)
theorem dX4_close_45 : decode cX4_close 45 = .ok (.invokevirtual 25, 3) := dk_182 0 25 (dk_at dksX4_close_1 21 rfl rfl)
theorem dX4_close_48 : decode cX4_close 48 = .ok (.checkcast 45, 3) := dk_192 0 45 (dk_at dksX4_close_2 0 rfl rfl)
theorem dX4_close_51 : decode cX4_close 51 = .ok (.astore_n 3, 1) := dk_78 (dk_at dksX4_close_2 3 rfl rfl)
theorem dX4_close_52 : decode cX4_close 52 = .ok (.aload_n 3, 1) := dk_45 (dk_at dksX4_close_2 4 rfl rfl)
theorem dX4_close_53 : decode cX4_close 53 = .ok (.aload_n 0, 1) := dk_42 (dk_at dksX4_close_2 5 rfl rfl)
theorem dX4_close_54 : decode cX4_close 54 = .ok (.getfield 16, 3) := dk_180 0 16 (dk_at dksX4_close_2 6 rfl rfl)
theorem dX4_close_57 : decode cX4_close 57 = .ok (.invokevirtual 29, 3) := dk_182 0 29 (dk_at dksX4_close_2 9 rfl rfl)
theorem dX4_close_60 : decode cX4_close 60 = .ok (.putfield 47, 3) := dk_181 0 47 (dk_at dksX4_close_2 12 rfl rfl)
theorem dX4_close_63 : decode cX4_close 63 = .ok (.aload_n 3, 1) := dk_45 (dk_at dksX4_close_2 15 rfl rfl)
theorem dX4_close_64 : decode cX4_close 64 = .ok (.iload_n 1, 1) := dk_27 (dk_at dksX4_close_2 16 rfl rfl)
theorem dX4_close_65 : decode cX4_close 65 = .ok (.putfield 51, 3) := dk_181 0 51 (dk_at dksX4_close_2 17 rfl rfl)
theorem dX4_close_68 : decode cX4_close 68 = .ok (.aload_n 0, 1) := dk_42 (dk_at dksX4_close_2 20 rfl rfl)
theorem dX4_close_69 : decode cX4_close 69 = .ok (.getfield 16, 3) := dk_180 0 16 (dk_at dksX4_close_2 21 rfl rfl)
theorem dX4_close_72 : decode cX4_close 72 = .ok (.aload_n 3, 1) := dk_45 (dk_at dksX4_close_3 0 rfl rfl)
theorem dX4_close_73 : decode cX4_close 73 = .ok (.invokevirtual 54, 3) := dk_182 0 54 (dk_at dksX4_close_3 1 rfl rfl)
theorem dX4_close_76 : decode cX4_close 76 = .ok (.pop, 1) := dk_87 (dk_at dksX4_close_3 4 rfl rfl)
theorem dX4_close_77 : decode cX4_close 77 = .ok (.iinc 2 1, 3) := dk_132 2 1 (dk_at dksX4_close_3 5 rfl rfl)
theorem dX4_close_80 : decode cX4_close 80 = .ok (.goto (-65), 3) := dk_167 255 191 (dk_at dksX4_close_3 8 rfl rfl)
theorem dX4_close_83 : decode cX4_close 83 = .ok (.iinc 1 1, 3) := dk_132 1 1 (dk_at dksX4_close_3 11 rfl rfl)
theorem dX4_close_86 : decode cX4_close 86 = .ok (.goto (-84), 3) := dk_167 255 172 (dk_at dksX4_close_3 14 rfl rfl)
theorem dX4_close_89 : decode cX4_close 89 = .ok (.aload_n 0, 1) := dk_42 (dk_at dksX4_close_3 17 rfl rfl)
theorem dX4_close_90 : decode cX4_close 90 = .ok (.aload_n 0, 1) := dk_42 (dk_at dksX4_close_3 18 rfl rfl)
theorem dX4_close_91 : decode cX4_close 91 = .ok (.getfield 16, 3) := dk_180 0 16 (dk_at dksX4_close_3 19 rfl rfl)
theorem dX4_close_94 : decode cX4_close 94 = .ok (.invokevirtual 29, 3) := dk_182 0 29 (dk_at dksX4_close_4 0 rfl rfl)
theorem dX4_close_97 : decode cX4_close 97 = .ok (.putfield 58, 3) := dk_181 0 58 (dk_at dksX4_close_4 3 rfl rfl)
theorem dX4_close_100 : decode cX4_close 100 = .ok (.iconst 0, 1) := dk_3 (dk_at dksX4_close_4 6 rfl rfl)
theorem dX4_close_101 : decode cX4_close 101 = .ok (.istore_n 1, 1) := dk_60 (dk_at dksX4_close_4 7 rfl rfl)
theorem dX4_close_102 : decode cX4_close 102 = .ok (.iload_n 1, 1) := dk_27 (dk_at dksX4_close_4 8 rfl rfl)
theorem dX4_close_103 : decode cX4_close 103 = .ok (.aload_n 0, 1) := dk_42 (dk_at dksX4_close_4 9 rfl rfl)
theorem dX4_close_104 : decode cX4_close 104 = .ok (.getfield 10, 3) := dk_180 0 10 (dk_at dksX4_close_4 10 rfl rfl)
theorem dX4_close_107 : decode cX4_close 107 = .ok (.invokevirtual 29, 3) := dk_182 0 29 (dk_at dksX4_close_4 13 rfl rfl)
theorem dX4_close_110 : decode cX4_close 110 = .ok (.if_icmp .ge 60, 3) := dk_162 0 60 (dk_at dksX4_close_4 16 rfl rfl)
theorem dX4_close_113 : decode cX4_close 113 = .ok (.aload_n 0, 1) := dk_42 (dk_at dksX4_close_4 19 rfl rfl)
theorem dX4_close_114 : decode cX4_close 114 = .ok (.getfield 10, 3) := dk_180 0 10 (dk_at dksX4_close_4 20 rfl rfl)
theorem dX4_close_117 : decode cX4_close 117 = .ok (.iload_n 1, 1) := dk_27 (dk_at dksX4_close_4 23 rfl rfl)
theorem dX4_close_118 : decode cX4_close 118 = .ok (.invokevirtual 25, 3) := dk_182 0 25 (dk_at dksX4_close_5 0 rfl rfl)
theorem dX4_close_121 : decode cX4_close 121 = .ok (.checkcast 7, 3) := dk_192 0 7 (dk_at dksX4_close_5 3 rfl rfl)
theorem dX4_close_124 : decode cX4_close 124 = .ok (.astore_n 2, 1) := dk_77 (dk_at dksX4_close_5 6 rfl rfl)
theorem dX4_close_125 : decode cX4_close 125 = .ok (.iconst 0, 1) := dk_3 (dk_at dksX4_close_5 7 rfl rfl)
theorem dX4_close_126 : decode cX4_close 126 = .ok (.istore_n 3, 1) := dk_62 (dk_at dksX4_close_5 8 rfl rfl)
theorem dX4_close_127 : decode cX4_close 127 = .ok (.iload_n 3, 1) := dk_29 (dk_at dksX4_close_5 9 rfl rfl)
theorem dX4_close_128 : decode cX4_close 128 = .ok (.iconst 1, 1) := dk_4 (dk_at dksX4_close_5 10 rfl rfl)
theorem dX4_close_129 : decode cX4_close 129 = .ok (.iadd, 1) := dk_96 (dk_at dksX4_close_5 11 rfl rfl)
theorem dX4_close_130 : decode cX4_close 130 = .ok (.aload_n 2, 1) := dk_44 (dk_at dksX4_close_5 12 rfl rfl)
theorem dX4_close_131 : decode cX4_close 131 = .ok (.invokevirtual 29, 3) := dk_182 0 29 (dk_at dksX4_close_5 13 rfl rfl)
theorem dX4_close_134 : decode cX4_close 134 = .ok (.if_icmp .ge 30, 3) := dk_162 0 30 (dk_at dksX4_close_5 16 rfl rfl)
theorem dX4_close_137 : decode cX4_close 137 = .ok (.aload_n 2, 1) := dk_44 (dk_at dksX4_close_5 19 rfl rfl)
theorem dX4_close_138 : decode cX4_close 138 = .ok (.iload_n 3, 1) := dk_29 (dk_at dksX4_close_5 20 rfl rfl)
theorem dX4_close_139 : decode cX4_close 139 = .ok (.invokevirtual 25, 3) := dk_182 0 25 (dk_at dksX4_close_5 21 rfl rfl)
theorem dX4_close_142 : decode cX4_close 142 = .ok (.checkcast 45, 3) := dk_192 0 45 (dk_at dksX4_close_6 0 rfl rfl)
theorem dX4_close_145 : decode cX4_close 145 = .ok (.aload_n 2, 1) := dk_44 (dk_at dksX4_close_6 3 rfl rfl)
theorem dX4_close_146 : decode cX4_close 146 = .ok (.iload_n 3, 1) := dk_29 (dk_at dksX4_close_6 4 rfl rfl)
theorem dX4_close_147 : decode cX4_close 147 = .ok (.iconst 1, 1) := dk_4 (dk_at dksX4_close_6 5 rfl rfl)
theorem dX4_close_148 : decode cX4_close 148 = .ok (.iadd, 1) := dk_96 (dk_at dksX4_close_6 6 rfl rfl)
theorem dX4_close_149 : decode cX4_close 149 = .ok (.invokevirtual 25, 3) := dk_182 0 25 (dk_at dksX4_close_6 7 rfl rfl)
theorem dX4_close_152 : decode cX4_close 152 = .ok (.checkcast 45, 3) := dk_192 0 45 (dk_at dksX4_close_6 10 rfl rfl)
theorem dX4_close_155 : decode cX4_close 155 = .ok (.invokevirtual 61, 3) := dk_182 0 61 (dk_at dksX4_close_6 13 rfl rfl)
theorem dX4_close_158 : decode cX4_close 158 = .ok (.iinc 3 1, 3) := dk_132 3 1 (dk_at dksX4_close_6 16 rfl rfl)
theorem dX4_close_161 : decode cX4_close 161 = .ok (.goto (-34), 3) := dk_167 255 222 (dk_at dksX4_close_6 19 rfl rfl)
theorem dX4_close_164 : decode cX4_close 164 = .ok (.iinc 1 1, 3) := dk_132 1 1 (dk_at dksX4_close_7 0 rfl rfl)
theorem dX4_close_167 : decode cX4_close 167 = .ok (.goto (-65), 3) := dk_167 255 191 (dk_at dksX4_close_7 3 rfl rfl)
theorem dX4_close_170 : decode cX4_close 170 = .ok (.iconst 0, 1) := dk_3 (dk_at dksX4_close_7 6 rfl rfl)
theorem dX4_close_171 : decode cX4_close 171 = .ok (.istore_n 1, 1) := dk_60 (dk_at dksX4_close_7 7 rfl rfl)
theorem dX4_close_172 : decode cX4_close 172 = .ok (.iload_n 1, 1) := dk_27 (dk_at dksX4_close_7 8 rfl rfl)
theorem dX4_close_173 : decode cX4_close 173 = .ok (.aload_n 0, 1) := dk_42 (dk_at dksX4_close_7 9 rfl rfl)
theorem dX4_close_174 : decode cX4_close 174 = .ok (.getfield 10, 3) := dk_180 0 10 (dk_at dksX4_close_7 10 rfl rfl)
theorem dX4_close_177 : decode cX4_close 177 = .ok (.invokevirtual 29, 3) := dk_182 0 29 (dk_at dksX4_close_7 13 rfl rfl)
theorem dX4_close_180 : decode cX4_close 180 = .ok (.if_icmp .ge 47, 3) := dk_162 0 47 (dk_at dksX4_close_7 16 rfl rfl)
theorem dX4_close_183 : decode cX4_close 183 = .ok (.iconst 0, 1) := dk_3 (dk_at dksX4_close_7 19 rfl rfl)
theorem dX4_close_184 : decode cX4_close 184 = .ok (.istore_n 2, 1) := dk_61 (dk_at dksX4_close_7 20 rfl rfl)
theorem dX4_close_185 : decode cX4_close 185 = .ok (.iload_n 2, 1) := dk_28 (dk_at dksX4_close_7 21 rfl rfl)
theorem dX4_close_186 : decode cX4_close 186 = .ok (.aload_n 0, 1) := dk_42 (dk_at dksX4_close_7 22 rfl rfl)
theorem dX4_close_187 : decode cX4_close 187 = .ok (.iload_n 1, 1) := dk_27 (dk_at dksX4_close_7 23 rfl rfl)
theorem dX4_close_188 : decode cX4_close 188 = .ok (.invokevirtual 35, 3) := dk_182 0 35 (dk_at dksX4_close_8 0 rfl rfl)
theorem dX4_close_191 : decode cX4_close 191 = .ok (.invokevirtual 39, 3) := dk_182 0 39 (dk_at dksX4_close_8 3 rfl rfl)
theorem dX4_close_194 : decode cX4_close 194 = .ok (.if_icmp .ge 27, 3) := dk_162 0 27 (dk_at dksX4_close_8 6 rfl rfl)
theorem dX4_close_197 : decode cX4_close 197 = .ok (.aload_n 0, 1) := dk_42 (dk_at dksX4_close_8 9 rfl rfl)
theorem dX4_close_198 : decode cX4_close 198 = .ok (.aload_n 0, 1) := dk_42 (dk_at dksX4_close_8 10 rfl rfl)
theorem dX4_close_199 : decode cX4_close 199 = .ok (.iload_n 1, 1) := dk_27 (dk_at dksX4_close_8 11 rfl rfl)
theorem dX4_close_200 : decode cX4_close 200 = .ok (.invokevirtual 35, 3) := dk_182 0 35 (dk_at dksX4_close_8 12 rfl rfl)
theorem dX4_close_203 : decode cX4_close 203 = .ok (.aload_n 0, 1) := dk_42 (dk_at dksX4_close_8 15 rfl rfl)
theorem dX4_close_204 : decode cX4_close 204 = .ok (.iload_n 1, 1) := dk_27 (dk_at dksX4_close_8 16 rfl rfl)
theorem dX4_close_205 : decode cX4_close 205 = .ok (.invokevirtual 35, 3) := dk_182 0 35 (dk_at dksX4_close_8 17 rfl rfl)
theorem dX4_close_208 : decode cX4_close 208 = .ok (.iload_n 2, 1) := dk_28 (dk_at dksX4_close_8 20 rfl rfl)
theorem dX4_close_209 : decode cX4_close 209 = .ok (.invokevirtual 42, 3) := dk_182 0 42 (dk_at dksX4_close_8 21 rfl rfl)
theorem dX4_close_212 : decode cX4_close 212 = .ok (.invokevirtual 65, 3) := dk_182 0 65 (dk_at dksX4_close_9 0 rfl rfl)
theorem dX4_close_215 : decode cX4_close 215 = .ok (.iinc 2 1, 3) := dk_132 2 1 (dk_at dksX4_close_9 3 rfl rfl)
theorem dX4_close_218 : decode cX4_close 218 = .ok (.goto (-33), 3) := dk_167 255 223 (dk_at dksX4_close_9 6 rfl rfl)
theorem dX4_close_221 : decode cX4_close 221 = .ok (.iinc 1 1, 3) := dk_132 1 1 (dk_at dksX4_close_9 9 rfl rfl)
theorem dX4_close_224 : decode cX4_close 224 = .ok (.goto (-52), 3) := dk_167 255 204 (dk_at dksX4_close_9 12 rfl rfl)
theorem dX4_close_227 : decode cX4_close 227 = .ok (.iconst 0, 1) := dk_3 (dk_at dksX4_close_9 15 rfl rfl)
theorem dX4_close_228 : decode cX4_close 228 = .ok (.istore_n 1, 1) := dk_60 (dk_at dksX4_close_9 16 rfl rfl)
theorem dX4_close_229 : decode cX4_close 229 = .ok (.iload_n 1, 1) := dk_27 (dk_at dksX4_close_9 17 rfl rfl)
theorem dX4_close_230 : decode cX4_close 230 = .ok (.aload_n 0, 1) := dk_42 (dk_at dksX4_close_9 18 rfl rfl)
theorem dX4_close_231 : decode cX4_close 231 = .ok (.getfield 16, 3) := dk_180 0 16 (dk_at dksX4_close_9 19 rfl rfl)
theorem dX4_close_234 : decode cX4_close 234 = .ok (.invokevirtual 29, 3) := dk_182 0 29 (dk_at dksX4_close_10 0 rfl rfl)
theorem dX4_close_237 : decode cX4_close 237 = .ok (.if_icmp .ge 36, 3) := dk_162 0 36 (dk_at dksX4_close_10 3 rfl rfl)
theorem dX4_close_240 : decode cX4_close 240 = .ok (.aload_n 0, 1) := dk_42 (dk_at dksX4_close_10 6 rfl rfl)
theorem dX4_close_241 : decode cX4_close 241 = .ok (.getfield 16, 3) := dk_180 0 16 (dk_at dksX4_close_10 7 rfl rfl)
theorem dX4_close_244 : decode cX4_close 244 = .ok (.iload_n 1, 1) := dk_27 (dk_at dksX4_close_10 10 rfl rfl)
theorem dX4_close_245 : decode cX4_close 245 = .ok (.invokevirtual 25, 3) := dk_182 0 25 (dk_at dksX4_close_10 11 rfl rfl)
theorem dX4_close_248 : decode cX4_close 248 = .ok (.checkcast 45, 3) := dk_192 0 45 (dk_at dksX4_close_10 14 rfl rfl)
theorem dX4_close_251 : decode cX4_close 251 = .ok (.astore_n 2, 1) := dk_77 (dk_at dksX4_close_10 17 rfl rfl)
theorem dX4_close_252 : decode cX4_close 252 = .ok (.aload_n 2, 1) := dk_44 (dk_at dksX4_close_10 18 rfl rfl)
theorem dX4_close_253 : decode cX4_close 253 = .ok (.invokevirtual 69, 3) := dk_182 0 69 (dk_at dksX4_close_10 19 rfl rfl)
theorem dX4_close_256 : decode cX4_close 256 = .ok (.ifnull 11, 3) := dk_198 0 11 (dk_at dksX4_close_11 0 rfl rfl)
theorem dX4_close_259 : decode cX4_close 259 = .ok (.aload_n 0, 1) := dk_42 (dk_at dksX4_close_11 3 rfl rfl)
theorem dX4_close_260 : decode cX4_close 260 = .ok (.aload_n 2, 1) := dk_44 (dk_at dksX4_close_11 4 rfl rfl)
theorem dX4_close_261 : decode cX4_close 261 = .ok (.checkcast 73, 3) := dk_192 0 73 (dk_at dksX4_close_11 5 rfl rfl)
theorem dX4_close_264 : decode cX4_close 264 = .ok (.invokevirtual 75, 3) := dk_182 0 75 (dk_at dksX4_close_11 8 rfl rfl)
theorem dX4_close_267 : decode cX4_close 267 = .ok (.iinc 1 1, 3) := dk_132 1 1 (dk_at dksX4_close_11 11 rfl rfl)
theorem dX4_close_270 : decode cX4_close 270 = .ok (.goto (-41), 3) := dk_167 255 215 (dk_at dksX4_close_11 14 rfl rfl)
theorem dX4_close_273 : decode cX4_close 273 = .ok (.return_, 1) := dk_177 (dk_at dksX4_close_11 17 rfl rfl)
abbrev cX4_joins : ByteArray := prog_14_method_5_code
def yX4_joins : MethodName := ⟨RX4, "joins", "(LLateAndEarly$End;I)V"⟩
def dkwX4_joins_4 : List UInt8 := [182, 0, 81, 25, 4, 45, 182, 0, 61, 177]
abbrev dktX4_joins_4 : List UInt8 := dkwX4_joins_4 ++ []
def dkwX4_joins_3 : List UInt8 := [180, 0, 16, 25, 4, 182, 0, 54, 87, 42, 89, 180, 0, 85, 4, 96, 181, 0, 85, 43, 25, 4]
abbrev dktX4_joins_3 : List UInt8 := dkwX4_joins_3 ++ dktX4_joins_4
def dkwX4_joins_2 : List UInt8 := [183, 0, 84, 58, 4, 25, 4, 42, 180, 0, 16, 182, 0, 29, 181, 0, 47, 25, 4, 28, 181, 0, 51, 42]
abbrev dktX4_joins_2 : List UInt8 := dkwX4_joins_2 ++ dktX4_joins_3
def dkwX4_joins_1 : List UInt8 := [161, 0, 12, 42, 28, 182, 0, 78, 5, 162, 0, 9, 43, 45, 182, 0, 81, 177, 187, 0, 82, 89]
abbrev dktX4_joins_1 : List UInt8 := dkwX4_joins_1 ++ dktX4_joins_2
def dkwX4_joins_0 : List UInt8 := [42, 180, 0, 10, 28, 182, 0, 25, 192, 0, 7, 3, 182, 0, 25, 192, 0, 45, 78, 43, 182, 0, 39, 5]
abbrev dktX4_joins_0 : List UInt8 := dkwX4_joins_0 ++ dktX4_joins_1
theorem dksX4_joins_0 : cX4_joins.data.toList.drop 0 = dktX4_joins_0 := by decide +kernel
theorem dksX4_joins_1 : cX4_joins.data.toList.drop 24 = dktX4_joins_1 := dk_seg dksX4_joins_0 24 rfl rfl
theorem dksX4_joins_2 : cX4_joins.data.toList.drop 46 = dktX4_joins_2 := dk_seg dksX4_joins_1 22 rfl rfl
theorem dksX4_joins_3 : cX4_joins.data.toList.drop 70 = dktX4_joins_3 := dk_seg dksX4_joins_2 24 rfl rfl
theorem dksX4_joins_4 : cX4_joins.data.toList.drop 92 = dktX4_joins_4 := dk_seg dksX4_joins_3 22 rfl rfl
theorem dX4_joins_0 : decode cX4_joins 0 = .ok (.aload_n 0, 1) := dk_42 (dk_at dksX4_joins_0 0 rfl rfl)
theorem dX4_joins_1 : decode cX4_joins 1 = .ok (.getfield 10, 3) := dk_180 0 10 (dk_at dksX4_joins_0 1 rfl rfl)
theorem dX4_joins_4 : decode cX4_joins 4 = .ok (.iload_n 2, 1) := dk_28 (dk_at dksX4_joins_0 4 rfl rfl)
theorem dX4_joins_5 : decode cX4_joins 5 = .ok (.invokevirtual 25, 3) := dk_182 0 25 (dk_at dksX4_joins_0 5 rfl rfl)
theorem dX4_joins_8 : decode cX4_joins 8 = .ok (.checkcast 7, 3) := dk_192 0 7 (dk_at dksX4_joins_0 8 rfl rfl)
theorem dX4_joins_11 : decode cX4_joins 11 = .ok (.iconst 0, 1) := dk_3 (dk_at dksX4_joins_0 11 rfl rfl)
theorem dX4_joins_12 : decode cX4_joins 12 = .ok (.invokevirtual 25, 3) := dk_182 0 25 (dk_at dksX4_joins_0 12 rfl rfl)
theorem dX4_joins_15 : decode cX4_joins 15 = .ok (.checkcast 45, 3) := dk_192 0 45 (dk_at dksX4_joins_0 15 rfl rfl)
theorem dX4_joins_18 : decode cX4_joins 18 = .ok (.astore_n 3, 1) := dk_78 (dk_at dksX4_joins_0 18 rfl rfl)
theorem dX4_joins_19 : decode cX4_joins 19 = .ok (.aload_n 1, 1) := dk_43 (dk_at dksX4_joins_0 19 rfl rfl)
theorem dX4_joins_20 : decode cX4_joins 20 = .ok (.invokevirtual 39, 3) := dk_182 0 39 (dk_at dksX4_joins_0 20 rfl rfl)
theorem dX4_joins_23 : decode cX4_joins 23 = .ok (.iconst 2, 1) := dk_5 (dk_at dksX4_joins_0 23 rfl rfl)
theorem dX4_joins_24 : decode cX4_joins 24 = .ok (.if_icmp .lt 12, 3) := dk_161 0 12 (dk_at dksX4_joins_1 0 rfl rfl)
theorem dX4_joins_27 : decode cX4_joins 27 = .ok (.aload_n 0, 1) := dk_42 (dk_at dksX4_joins_1 3 rfl rfl)
theorem dX4_joins_28 : decode cX4_joins 28 = .ok (.iload_n 2, 1) := dk_28 (dk_at dksX4_joins_1 4 rfl rfl)
theorem dX4_joins_29 : decode cX4_joins 29 = .ok (.invokevirtual 78, 3) := dk_182 0 78 (dk_at dksX4_joins_1 5 rfl rfl)
theorem dX4_joins_32 : decode cX4_joins 32 = .ok (.iconst 2, 1) := dk_5 (dk_at dksX4_joins_1 8 rfl rfl)
theorem dX4_joins_33 : decode cX4_joins 33 = .ok (.if_icmp .ge 9, 3) := dk_162 0 9 (dk_at dksX4_joins_1 9 rfl rfl)
theorem dX4_joins_36 : decode cX4_joins 36 = .ok (.aload_n 1, 1) := dk_43 (dk_at dksX4_joins_1 12 rfl rfl)
theorem dX4_joins_37 : decode cX4_joins 37 = .ok (.aload_n 3, 1) := dk_45 (dk_at dksX4_joins_1 13 rfl rfl)
theorem dX4_joins_38 : decode cX4_joins 38 = .ok (.invokevirtual 81, 3) := dk_182 0 81 (dk_at dksX4_joins_1 14 rfl rfl)
theorem dX4_joins_41 : decode cX4_joins 41 = .ok (.return_, 1) := dk_177 (dk_at dksX4_joins_1 17 rfl rfl)
theorem dX4_joins_42 : decode cX4_joins 42 = .ok (.new 82, 3) := dk_187 0 82 (dk_at dksX4_joins_1 18 rfl rfl)
theorem dX4_joins_45 : decode cX4_joins 45 = .ok (.dup, 1) := dk_89 (dk_at dksX4_joins_1 21 rfl rfl)
theorem dX4_joins_46 : decode cX4_joins 46 = .ok (.invokespecial 84, 3) := dk_183 0 84 (dk_at dksX4_joins_2 0 rfl rfl)
theorem dX4_joins_49 : decode cX4_joins 49 = .ok (.astore 4, 2) := dk_58 4 (dk_at dksX4_joins_2 3 rfl rfl)
theorem dX4_joins_51 : decode cX4_joins 51 = .ok (.aload 4, 2) := dk_25 4 (dk_at dksX4_joins_2 5 rfl rfl)
theorem dX4_joins_53 : decode cX4_joins 53 = .ok (.aload_n 0, 1) := dk_42 (dk_at dksX4_joins_2 7 rfl rfl)
theorem dX4_joins_54 : decode cX4_joins 54 = .ok (.getfield 16, 3) := dk_180 0 16 (dk_at dksX4_joins_2 8 rfl rfl)
theorem dX4_joins_57 : decode cX4_joins 57 = .ok (.invokevirtual 29, 3) := dk_182 0 29 (dk_at dksX4_joins_2 11 rfl rfl)
theorem dX4_joins_60 : decode cX4_joins 60 = .ok (.putfield 47, 3) := dk_181 0 47 (dk_at dksX4_joins_2 14 rfl rfl)
theorem dX4_joins_63 : decode cX4_joins 63 = .ok (.aload 4, 2) := dk_25 4 (dk_at dksX4_joins_2 17 rfl rfl)
theorem dX4_joins_65 : decode cX4_joins 65 = .ok (.iload_n 2, 1) := dk_28 (dk_at dksX4_joins_2 19 rfl rfl)
theorem dX4_joins_66 : decode cX4_joins 66 = .ok (.putfield 51, 3) := dk_181 0 51 (dk_at dksX4_joins_2 20 rfl rfl)
theorem dX4_joins_69 : decode cX4_joins 69 = .ok (.aload_n 0, 1) := dk_42 (dk_at dksX4_joins_2 23 rfl rfl)
theorem dX4_joins_70 : decode cX4_joins 70 = .ok (.getfield 16, 3) := dk_180 0 16 (dk_at dksX4_joins_3 0 rfl rfl)
theorem dX4_joins_73 : decode cX4_joins 73 = .ok (.aload 4, 2) := dk_25 4 (dk_at dksX4_joins_3 3 rfl rfl)
theorem dX4_joins_75 : decode cX4_joins 75 = .ok (.invokevirtual 54, 3) := dk_182 0 54 (dk_at dksX4_joins_3 5 rfl rfl)
theorem dX4_joins_78 : decode cX4_joins 78 = .ok (.pop, 1) := dk_87 (dk_at dksX4_joins_3 8 rfl rfl)
theorem dX4_joins_79 : decode cX4_joins 79 = .ok (.aload_n 0, 1) := dk_42 (dk_at dksX4_joins_3 9 rfl rfl)
theorem dX4_joins_80 : decode cX4_joins 80 = .ok (.dup, 1) := dk_89 (dk_at dksX4_joins_3 10 rfl rfl)
theorem dX4_joins_81 : decode cX4_joins 81 = .ok (.getfield 85, 3) := dk_180 0 85 (dk_at dksX4_joins_3 11 rfl rfl)
theorem dX4_joins_84 : decode cX4_joins 84 = .ok (.iconst 1, 1) := dk_4 (dk_at dksX4_joins_3 14 rfl rfl)
theorem dX4_joins_85 : decode cX4_joins 85 = .ok (.iadd, 1) := dk_96 (dk_at dksX4_joins_3 15 rfl rfl)
theorem dX4_joins_86 : decode cX4_joins 86 = .ok (.putfield 85, 3) := dk_181 0 85 (dk_at dksX4_joins_3 16 rfl rfl)
theorem dX4_joins_89 : decode cX4_joins 89 = .ok (.aload_n 1, 1) := dk_43 (dk_at dksX4_joins_3 19 rfl rfl)
theorem dX4_joins_90 : decode cX4_joins 90 = .ok (.aload 4, 2) := dk_25 4 (dk_at dksX4_joins_3 20 rfl rfl)
theorem dX4_joins_92 : decode cX4_joins 92 = .ok (.invokevirtual 81, 3) := dk_182 0 81 (dk_at dksX4_joins_4 0 rfl rfl)
theorem dX4_joins_95 : decode cX4_joins 95 = .ok (.aload 4, 2) := dk_25 4 (dk_at dksX4_joins_4 3 rfl rfl)
theorem dX4_joins_97 : decode cX4_joins 97 = .ok (.aload_n 3, 1) := dk_45 (dk_at dksX4_joins_4 5 rfl rfl)
theorem dX4_joins_98 : decode cX4_joins 98 = .ok (.invokevirtual 61, 3) := dk_182 0 61 (dk_at dksX4_joins_4 6 rfl rfl)
theorem dX4_joins_101 : decode cX4_joins 101 = .ok (.return_, 1) := dk_177 (dk_at dksX4_joins_4 9 rfl rfl)
abbrev cX4_waysTo : ByteArray := prog_14_method_3_code
def yX4_waysTo : MethodName := ⟨RX4, "waysTo", "(I)I"⟩
def dkwX4_waysTo_2 : List UInt8 := [132, 2, 1, 132, 4, 1, 167, 255, 223, 132, 3, 1, 167, 255, 203, 28, 172]
abbrev dktX4_waysTo_2 : List UInt8 := dkwX4_waysTo_2 ++ []
def dkwX4_waysTo_1 : List UInt8 := [182, 0, 35, 182, 0, 39, 162, 0, 26, 42, 29, 182, 0, 35, 21, 4, 182, 0, 42, 27, 160, 0, 6]
abbrev dktX4_waysTo_1 : List UInt8 := dkwX4_waysTo_1 ++ dktX4_waysTo_2
def dkwX4_waysTo_0 : List UInt8 := [3, 61, 3, 62, 29, 42, 180, 0, 10, 182, 0, 29, 162, 0, 48, 3, 54, 4, 21, 4, 42, 29]
abbrev dktX4_waysTo_0 : List UInt8 := dkwX4_waysTo_0 ++ dktX4_waysTo_1
theorem dksX4_waysTo_0 : cX4_waysTo.data.toList.drop 0 = dktX4_waysTo_0 := by decide +kernel
theorem dksX4_waysTo_1 : cX4_waysTo.data.toList.drop 22 = dktX4_waysTo_1 := dk_seg dksX4_waysTo_0 22 rfl rfl
theorem dksX4_waysTo_2 : cX4_waysTo.data.toList.drop 45 = dktX4_waysTo_2 := dk_seg dksX4_waysTo_1 23 rfl rfl
theorem dX4_waysTo_0 : decode cX4_waysTo 0 = .ok (.iconst 0, 1) := dk_3 (dk_at dksX4_waysTo_0 0 rfl rfl)
theorem dX4_waysTo_1 : decode cX4_waysTo 1 = .ok (.istore_n 2, 1) := dk_61 (dk_at dksX4_waysTo_0 1 rfl rfl)
theorem dX4_waysTo_2 : decode cX4_waysTo 2 = .ok (.iconst 0, 1) := dk_3 (dk_at dksX4_waysTo_0 2 rfl rfl)
theorem dX4_waysTo_3 : decode cX4_waysTo 3 = .ok (.istore_n 3, 1) := dk_62 (dk_at dksX4_waysTo_0 3 rfl rfl)
theorem dX4_waysTo_4 : decode cX4_waysTo 4 = .ok (.iload_n 3, 1) := dk_29 (dk_at dksX4_waysTo_0 4 rfl rfl)
theorem dX4_waysTo_5 : decode cX4_waysTo 5 = .ok (.aload_n 0, 1) := dk_42 (dk_at dksX4_waysTo_0 5 rfl rfl)
theorem dX4_waysTo_6 : decode cX4_waysTo 6 = .ok (.getfield 10, 3) := dk_180 0 10 (dk_at dksX4_waysTo_0 6 rfl rfl)
theorem dX4_waysTo_9 : decode cX4_waysTo 9 = .ok (.invokevirtual 29, 3) := dk_182 0 29 (dk_at dksX4_waysTo_0 9 rfl rfl)
theorem dX4_waysTo_12 : decode cX4_waysTo 12 = .ok (.if_icmp .ge 48, 3) := dk_162 0 48 (dk_at dksX4_waysTo_0 12 rfl rfl)
theorem dX4_waysTo_15 : decode cX4_waysTo 15 = .ok (.iconst 0, 1) := dk_3 (dk_at dksX4_waysTo_0 15 rfl rfl)
theorem dX4_waysTo_16 : decode cX4_waysTo 16 = .ok (.istore 4, 2) := dk_54 4 (dk_at dksX4_waysTo_0 16 rfl rfl)
theorem dX4_waysTo_18 : decode cX4_waysTo 18 = .ok (.iload 4, 2) := dk_21 4 (dk_at dksX4_waysTo_0 18 rfl rfl)
theorem dX4_waysTo_20 : decode cX4_waysTo 20 = .ok (.aload_n 0, 1) := dk_42 (dk_at dksX4_waysTo_0 20 rfl rfl)
theorem dX4_waysTo_21 : decode cX4_waysTo 21 = .ok (.iload_n 3, 1) := dk_29 (dk_at dksX4_waysTo_0 21 rfl rfl)
theorem dX4_waysTo_22 : decode cX4_waysTo 22 = .ok (.invokevirtual 35, 3) := dk_182 0 35 (dk_at dksX4_waysTo_1 0 rfl rfl)
theorem dX4_waysTo_25 : decode cX4_waysTo 25 = .ok (.invokevirtual 39, 3) := dk_182 0 39 (dk_at dksX4_waysTo_1 3 rfl rfl)
theorem dX4_waysTo_28 : decode cX4_waysTo 28 = .ok (.if_icmp .ge 26, 3) := dk_162 0 26 (dk_at dksX4_waysTo_1 6 rfl rfl)
theorem dX4_waysTo_31 : decode cX4_waysTo 31 = .ok (.aload_n 0, 1) := dk_42 (dk_at dksX4_waysTo_1 9 rfl rfl)
theorem dX4_waysTo_32 : decode cX4_waysTo 32 = .ok (.iload_n 3, 1) := dk_29 (dk_at dksX4_waysTo_1 10 rfl rfl)
theorem dX4_waysTo_33 : decode cX4_waysTo 33 = .ok (.invokevirtual 35, 3) := dk_182 0 35 (dk_at dksX4_waysTo_1 11 rfl rfl)
theorem dX4_waysTo_36 : decode cX4_waysTo 36 = .ok (.iload 4, 2) := dk_21 4 (dk_at dksX4_waysTo_1 14 rfl rfl)
theorem dX4_waysTo_38 : decode cX4_waysTo 38 = .ok (.invokevirtual 42, 3) := dk_182 0 42 (dk_at dksX4_waysTo_1 16 rfl rfl)
theorem dX4_waysTo_41 : decode cX4_waysTo 41 = .ok (.iload_n 1, 1) := dk_27 (dk_at dksX4_waysTo_1 19 rfl rfl)
theorem dX4_waysTo_42 : decode cX4_waysTo 42 = .ok (.if_icmp .ne 6, 3) := dk_160 0 6 (dk_at dksX4_waysTo_1 20 rfl rfl)
theorem dX4_waysTo_45 : decode cX4_waysTo 45 = .ok (.iinc 2 1, 3) := dk_132 2 1 (dk_at dksX4_waysTo_2 0 rfl rfl)
theorem dX4_waysTo_48 : decode cX4_waysTo 48 = .ok (.iinc 4 1, 3) := dk_132 4 1 (dk_at dksX4_waysTo_2 3 rfl rfl)
theorem dX4_waysTo_51 : decode cX4_waysTo 51 = .ok (.goto (-33), 3) := dk_167 255 223 (dk_at dksX4_waysTo_2 6 rfl rfl)
theorem dX4_waysTo_54 : decode cX4_waysTo 54 = .ok (.iinc 3 1, 3) := dk_132 3 1 (dk_at dksX4_waysTo_2 9 rfl rfl)
theorem dX4_waysTo_57 : decode cX4_waysTo 57 = .ok (.goto (-53), 3) := dk_167 255 203 (dk_at dksX4_waysTo_2 12 rfl rfl)
theorem dX4_waysTo_60 : decode cX4_waysTo 60 = .ok (.iload_n 2, 1) := dk_28 (dk_at dksX4_waysTo_2 15 rfl rfl)
theorem dX4_waysTo_61 : decode cX4_waysTo 61 = .ok (.ireturn, 1) := dk_172 (dk_at dksX4_waysTo_2 16 rfl rfl)
abbrev cX4_number : ByteArray := prog_14_method_6_code
def yX4_number : MethodName := ⟨RX4, "number", "(LLateAndEarly$SetSum;)V"⟩
def dkwX4_number_3 : List UInt8 := [180, 0, 90, 182, 0, 54, 87, 177]
abbrev dktX4_number_3 : List UInt8 := dkwX4_number_3 ++ []
def dkwX4_number_2 : List UInt8 := [167, 255, 210, 43, 180, 0, 90, 42, 180, 0, 19, 182, 0, 29, 181, 0, 98, 42, 180, 0, 19, 43]
abbrev dktX4_number_2 : List UInt8 := dkwX4_number_2 ++ dktX4_number_3
def dkwX4_number_1 : List UInt8 := [78, 45, 43, 180, 0, 90, 182, 0, 94, 154, 0, 6, 167, 0, 9, 43, 45, 181, 0, 90, 177, 132, 2, 1]
abbrev dktX4_number_1 : List UInt8 := dkwX4_number_1 ++ dktX4_number_2
def dkwX4_number_0 : List UInt8 := [3, 61, 28, 42, 180, 0, 19, 182, 0, 29, 162, 0, 41, 42, 180, 0, 19, 28, 182, 0, 25, 192, 0, 88]
abbrev dktX4_number_0 : List UInt8 := dkwX4_number_0 ++ dktX4_number_1
theorem dksX4_number_0 : cX4_number.data.toList.drop 0 = dktX4_number_0 := by decide +kernel
theorem dksX4_number_1 : cX4_number.data.toList.drop 24 = dktX4_number_1 := dk_seg dksX4_number_0 24 rfl rfl
theorem dksX4_number_2 : cX4_number.data.toList.drop 48 = dktX4_number_2 := dk_seg dksX4_number_1 24 rfl rfl
theorem dksX4_number_3 : cX4_number.data.toList.drop 70 = dktX4_number_3 := dk_seg dksX4_number_2 22 rfl rfl
theorem dX4_number_0 : decode cX4_number 0 = .ok (.iconst 0, 1) := dk_3 (dk_at dksX4_number_0 0 rfl rfl)
theorem dX4_number_1 : decode cX4_number 1 = .ok (.istore_n 2, 1) := dk_61 (dk_at dksX4_number_0 1 rfl rfl)
theorem dX4_number_2 : decode cX4_number 2 = .ok (.iload_n 2, 1) := dk_28 (dk_at dksX4_number_0 2 rfl rfl)
theorem dX4_number_3 : decode cX4_number 3 = .ok (.aload_n 0, 1) := dk_42 (dk_at dksX4_number_0 3 rfl rfl)
theorem dX4_number_4 : decode cX4_number 4 = .ok (.getfield 19, 3) := dk_180 0 19 (dk_at dksX4_number_0 4 rfl rfl)
theorem dX4_number_7 : decode cX4_number 7 = .ok (.invokevirtual 29, 3) := dk_182 0 29 (dk_at dksX4_number_0 7 rfl rfl)
theorem dX4_number_10 : decode cX4_number 10 = .ok (.if_icmp .ge 41, 3) := dk_162 0 41 (dk_at dksX4_number_0 10 rfl rfl)
theorem dX4_number_13 : decode cX4_number 13 = .ok (.aload_n 0, 1) := dk_42 (dk_at dksX4_number_0 13 rfl rfl)
theorem dX4_number_14 : decode cX4_number 14 = .ok (.getfield 19, 3) := dk_180 0 19 (dk_at dksX4_number_0 14 rfl rfl)
theorem dX4_number_17 : decode cX4_number 17 = .ok (.iload_n 2, 1) := dk_28 (dk_at dksX4_number_0 17 rfl rfl)
theorem dX4_number_18 : decode cX4_number 18 = .ok (.invokevirtual 25, 3) := dk_182 0 25 (dk_at dksX4_number_0 18 rfl rfl)
theorem dX4_number_21 : decode cX4_number 21 = .ok (.checkcast 88, 3) := dk_192 0 88 (dk_at dksX4_number_0 21 rfl rfl)
theorem dX4_number_24 : decode cX4_number 24 = .ok (.astore_n 3, 1) := dk_78 (dk_at dksX4_number_1 0 rfl rfl)
theorem dX4_number_25 : decode cX4_number 25 = .ok (.aload_n 3, 1) := dk_45 (dk_at dksX4_number_1 1 rfl rfl)
theorem dX4_number_26 : decode cX4_number 26 = .ok (.aload_n 1, 1) := dk_43 (dk_at dksX4_number_1 2 rfl rfl)
theorem dX4_number_27 : decode cX4_number 27 = .ok (.getfield 90, 3) := dk_180 0 90 (dk_at dksX4_number_1 3 rfl rfl)
theorem dX4_number_30 : decode cX4_number 30 = .ok (.invokevirtual 94, 3) := dk_182 0 94 (dk_at dksX4_number_1 6 rfl rfl)
theorem dX4_number_33 : decode cX4_number 33 = .ok (.ifCond .ne 6, 3) := dk_154 0 6 (dk_at dksX4_number_1 9 rfl rfl)
theorem dX4_number_36 : decode cX4_number 36 = .ok (.goto 9, 3) := dk_167 0 9 (dk_at dksX4_number_1 12 rfl rfl)
theorem dX4_number_39 : decode cX4_number 39 = .ok (.aload_n 1, 1) := dk_43 (dk_at dksX4_number_1 15 rfl rfl)
theorem dX4_number_40 : decode cX4_number 40 = .ok (.aload_n 3, 1) := dk_45 (dk_at dksX4_number_1 16 rfl rfl)
theorem dX4_number_41 : decode cX4_number 41 = .ok (.putfield 90, 3) := dk_181 0 90 (dk_at dksX4_number_1 17 rfl rfl)
theorem dX4_number_44 : decode cX4_number 44 = .ok (.return_, 1) := dk_177 (dk_at dksX4_number_1 20 rfl rfl)
theorem dX4_number_45 : decode cX4_number 45 = .ok (.iinc 2 1, 3) := dk_132 2 1 (dk_at dksX4_number_1 21 rfl rfl)
theorem dX4_number_48 : decode cX4_number 48 = .ok (.goto (-46), 3) := dk_167 255 210 (dk_at dksX4_number_2 0 rfl rfl)
theorem dX4_number_51 : decode cX4_number 51 = .ok (.aload_n 1, 1) := dk_43 (dk_at dksX4_number_2 3 rfl rfl)
theorem dX4_number_52 : decode cX4_number 52 = .ok (.getfield 90, 3) := dk_180 0 90 (dk_at dksX4_number_2 4 rfl rfl)
theorem dX4_number_55 : decode cX4_number 55 = .ok (.aload_n 0, 1) := dk_42 (dk_at dksX4_number_2 7 rfl rfl)
theorem dX4_number_56 : decode cX4_number 56 = .ok (.getfield 19, 3) := dk_180 0 19 (dk_at dksX4_number_2 8 rfl rfl)
theorem dX4_number_59 : decode cX4_number 59 = .ok (.invokevirtual 29, 3) := dk_182 0 29 (dk_at dksX4_number_2 11 rfl rfl)
theorem dX4_number_62 : decode cX4_number 62 = .ok (.putfield 98, 3) := dk_181 0 98 (dk_at dksX4_number_2 14 rfl rfl)
theorem dX4_number_65 : decode cX4_number 65 = .ok (.aload_n 0, 1) := dk_42 (dk_at dksX4_number_2 17 rfl rfl)
theorem dX4_number_66 : decode cX4_number 66 = .ok (.getfield 19, 3) := dk_180 0 19 (dk_at dksX4_number_2 18 rfl rfl)
theorem dX4_number_69 : decode cX4_number 69 = .ok (.aload_n 1, 1) := dk_43 (dk_at dksX4_number_2 21 rfl rfl)
theorem dX4_number_70 : decode cX4_number 70 = .ok (.getfield 90, 3) := dk_180 0 90 (dk_at dksX4_number_3 0 rfl rfl)
theorem dX4_number_73 : decode cX4_number 73 = .ok (.invokevirtual 54, 3) := dk_182 0 54 (dk_at dksX4_number_3 3 rfl rfl)
theorem dX4_number_76 : decode cX4_number 76 = .ok (.pop, 1) := dk_87 (dk_at dksX4_number_3 6 rfl rfl)
theorem dX4_number_77 : decode cX4_number 77 = .ok (.return_, 1) := dk_177 (dk_at dksX4_number_3 7 rfl rfl)
abbrev cX4_study : ByteArray := prog_14_method_12_code
def yX4_study : MethodName := ⟨RX4, "study", "()V"⟩
def dkwX4_study_19 : List UInt8 := [167, 255, 125, 42, 182, 0, 195, 177]
abbrev dktX4_study_19 : List UInt8 := dkwX4_study_19 ++ []
def dkwX4_study_18 : List UInt8 := [47, 42, 180, 0, 151, 45, 180, 0, 47, 47, 22, 4, 20, 0, 181, 131, 129, 127, 80, 132, 2, 1]
abbrev dktX4_study_18 : List UInt8 := dkwX4_study_18 ++ dktX4_study_19
def dkwX4_study_17 : List UInt8 := [55, 4, 132, 6, 1, 167, 255, 212, 42, 180, 0, 186, 45, 180, 0, 47, 42, 180, 0, 192, 45, 180, 0, 47]
abbrev dktX4_study_17 : List UInt8 := dkwX4_study_17 ++ dktX4_study_18
def dkwX4_study_16 : List UInt8 := [21, 6, 182, 0, 25, 192, 0, 45, 58, 7, 22, 4, 42, 180, 0, 192, 25, 7, 180, 0, 47, 47, 127]
abbrev dktX4_study_16 : List UInt8 := dkwX4_study_16 ++ dktX4_study_17
def dkwX4_study_15 : List UInt8 := [182, 0, 168, 55, 4, 3, 54, 6, 21, 6, 45, 180, 0, 189, 182, 0, 29, 162, 0, 38, 45, 180, 0, 189]
abbrev dktX4_study_15 : List UInt8 := dkwX4_study_15 ++ dktX4_study_16
def dkwX4_study_14 : List UInt8 := [182, 0, 25, 192, 0, 45, 78, 45, 180, 0, 189, 182, 0, 29, 154, 0, 7, 9, 167, 0, 7, 42]
abbrev dktX4_study_14 : List UInt8 := dkwX4_study_14 ++ dktX4_study_15
def dkwX4_study_13 : List UInt8 := [188, 11, 181, 0, 186, 3, 61, 28, 42, 180, 0, 16, 182, 0, 29, 162, 0, 126, 42, 180, 0, 16, 28]
abbrev dktX4_study_13 : List UInt8 := dkwX4_study_13 ++ dktX4_study_14
def dkwX4_study_12 : List UInt8 := [180, 0, 178, 45, 180, 0, 47, 47, 22, 4, 127, 80, 132, 2, 1, 167, 255, 116, 42, 182, 0, 183, 42, 27]
abbrev dktX4_study_12 : List UInt8 := dkwX4_study_12 ++ dktX4_study_13
def dkwX4_study_11 : List UInt8 := [129, 20, 0, 181, 131, 129, 129, 55, 4, 132, 6, 1, 167, 255, 186, 42, 180, 0, 165, 45, 180, 0, 47, 42]
abbrev dktX4_study_11 : List UInt8 := dkwX4_study_11 ++ dktX4_study_12
def dkwX4_study_10 : List UInt8 := [180, 0, 47, 47, 42, 180, 0, 175, 25, 7, 180, 0, 47, 47, 42, 180, 0, 178, 25, 7, 180, 0, 47, 47]
abbrev dktX4_study_10 : List UInt8 := dkwX4_study_10 ++ dktX4_study_11
def dkwX4_study_9 : List UInt8 := [45, 180, 0, 172, 21, 6, 182, 0, 25, 192, 0, 45, 58, 7, 22, 4, 42, 180, 0, 154, 25, 7]
abbrev dktX4_study_9 : List UInt8 := dkwX4_study_9 ++ dktX4_study_10
def dkwX4_study_8 : List UInt8 := [182, 0, 168, 167, 0, 4, 9, 55, 4, 3, 54, 6, 21, 6, 45, 180, 0, 172, 182, 0, 29, 162, 0, 64]
abbrev dktX4_study_8 : List UInt8 := dkwX4_study_8 ++ dktX4_study_9
def dkwX4_study_7 : List UInt8 := [162, 0, 135, 42, 180, 0, 16, 28, 182, 0, 25, 192, 0, 45, 78, 45, 180, 0, 47, 154, 0, 10, 42]
abbrev dktX4_study_7 : List UInt8 := dkwX4_study_7 ++ dktX4_study_8
def dkwX4_study_6 : List UInt8 := [182, 0, 159, 42, 182, 0, 162, 42, 27, 188, 11, 181, 0, 165, 3, 61, 28, 42, 180, 0, 16, 182, 0, 29]
abbrev dktX4_study_6 : List UInt8 := dkwX4_study_6 ++ dktX4_study_7
def dkwX4_study_5 : List UInt8 := [10, 25, 5, 180, 0, 98, 121, 129, 80, 132, 4, 1, 167, 255, 199, 132, 2, 1, 167, 255, 142, 42]
abbrev dktX4_study_5 : List UInt8 := dkwX4_study_5 ++ dktX4_study_6
def dkwX4_study_4 : List UInt8 := [192, 0, 88, 58, 5, 45, 25, 5, 182, 0, 157, 153, 0, 22, 42, 180, 0, 154, 45, 180, 0, 47, 92, 47]
abbrev dktX4_study_4 : List UInt8 := dkwX4_study_4 ++ dktX4_study_5
def dkwX4_study_3 : List UInt8 := [3, 54, 4, 21, 4, 42, 180, 0, 19, 182, 0, 29, 162, 0, 51, 42, 180, 0, 19, 21, 4, 182, 0, 25]
abbrev dktX4_study_3 : List UInt8 := dkwX4_study_3 ++ dktX4_study_4
def dkwX4_study_2 : List UInt8 := [182, 0, 69, 198, 0, 21, 42, 180, 0, 151, 45, 180, 0, 47, 10, 45, 182, 0, 69, 180, 0, 98, 121, 80]
abbrev dktX4_study_2 : List UInt8 := dkwX4_study_2 ++ dktX4_study_3
def dkwX4_study_1 : List UInt8 := [28, 42, 180, 0, 16, 182, 0, 29, 162, 0, 109, 42, 180, 0, 16, 28, 182, 0, 25, 192, 0, 45, 78, 45]
abbrev dktX4_study_1 : List UInt8 := dkwX4_study_1 ++ dktX4_study_2
def dkwX4_study_0 : List UInt8 := [42, 180, 0, 16, 182, 0, 29, 60, 42, 27, 188, 11, 181, 0, 151, 42, 27, 188, 11, 181, 0, 154, 3, 61]
abbrev dktX4_study_0 : List UInt8 := dkwX4_study_0 ++ dktX4_study_1
theorem dksX4_study_0 : cX4_study.data.toList.drop 0 = dktX4_study_0 := by decide +kernel
theorem dksX4_study_1 : cX4_study.data.toList.drop 24 = dktX4_study_1 := dk_seg dksX4_study_0 24 rfl rfl
theorem dksX4_study_2 : cX4_study.data.toList.drop 48 = dktX4_study_2 := dk_seg dksX4_study_1 24 rfl rfl
theorem dksX4_study_3 : cX4_study.data.toList.drop 72 = dktX4_study_3 := dk_seg dksX4_study_2 24 rfl rfl
theorem dksX4_study_4 : cX4_study.data.toList.drop 96 = dktX4_study_4 := dk_seg dksX4_study_3 24 rfl rfl
theorem dksX4_study_5 : cX4_study.data.toList.drop 120 = dktX4_study_5 := dk_seg dksX4_study_4 24 rfl rfl
theorem dksX4_study_6 : cX4_study.data.toList.drop 142 = dktX4_study_6 := dk_seg dksX4_study_5 22 rfl rfl
theorem dksX4_study_7 : cX4_study.data.toList.drop 166 = dktX4_study_7 := dk_seg dksX4_study_6 24 rfl rfl
theorem dksX4_study_8 : cX4_study.data.toList.drop 189 = dktX4_study_8 := dk_seg dksX4_study_7 23 rfl rfl
theorem dksX4_study_9 : cX4_study.data.toList.drop 213 = dktX4_study_9 := dk_seg dksX4_study_8 24 rfl rfl
theorem dksX4_study_10 : cX4_study.data.toList.drop 235 = dktX4_study_10 := dk_seg dksX4_study_9 22 rfl rfl
theorem dksX4_study_11 : cX4_study.data.toList.drop 259 = dktX4_study_11 := dk_seg dksX4_study_10 24 rfl rfl
theorem dksX4_study_12 : cX4_study.data.toList.drop 283 = dktX4_study_12 := dk_seg dksX4_study_11 24 rfl rfl
theorem dksX4_study_13 : cX4_study.data.toList.drop 307 = dktX4_study_13 := dk_seg dksX4_study_12 24 rfl rfl
theorem dksX4_study_14 : cX4_study.data.toList.drop 330 = dktX4_study_14 := dk_seg dksX4_study_13 23 rfl rfl
theorem dksX4_study_15 : cX4_study.data.toList.drop 352 = dktX4_study_15 := dk_seg dksX4_study_14 22 rfl rfl
theorem dksX4_study_16 : cX4_study.data.toList.drop 376 = dktX4_study_16 := dk_seg dksX4_study_15 24 rfl rfl
theorem dksX4_study_17 : cX4_study.data.toList.drop 399 = dktX4_study_17 := dk_seg dksX4_study_16 23 rfl rfl
theorem dksX4_study_18 : cX4_study.data.toList.drop 423 = dktX4_study_18 := dk_seg dksX4_study_17 24 rfl rfl
theorem dksX4_study_19 : cX4_study.data.toList.drop 445 = dktX4_study_19 := dk_seg dksX4_study_18 22 rfl rfl
theorem dX4_study_0 : decode cX4_study 0 = .ok (.aload_n 0, 1) := dk_42 (dk_at dksX4_study_0 0 rfl rfl)
theorem dX4_study_1 : decode cX4_study 1 = .ok (.getfield 16, 3) := dk_180 0 16 (dk_at dksX4_study_0 1 rfl rfl)
theorem dX4_study_4 : decode cX4_study 4 = .ok (.invokevirtual 29, 3) := dk_182 0 29 (dk_at dksX4_study_0 4 rfl rfl)
theorem dX4_study_7 : decode cX4_study 7 = .ok (.istore_n 1, 1) := dk_60 (dk_at dksX4_study_0 7 rfl rfl)
theorem dX4_study_8 : decode cX4_study 8 = .ok (.aload_n 0, 1) := dk_42 (dk_at dksX4_study_0 8 rfl rfl)
theorem dX4_study_9 : decode cX4_study 9 = .ok (.iload_n 1, 1) := dk_27 (dk_at dksX4_study_0 9 rfl rfl)
theorem dX4_study_10 : decode cX4_study 10 = .ok (.newarray .long, 2) := dk_188_11 (dk_at dksX4_study_0 10 rfl rfl)
theorem dX4_study_12 : decode cX4_study 12 = .ok (.putfield 151, 3) := dk_181 0 151 (dk_at dksX4_study_0 12 rfl rfl)
theorem dX4_study_15 : decode cX4_study 15 = .ok (.aload_n 0, 1) := dk_42 (dk_at dksX4_study_0 15 rfl rfl)
theorem dX4_study_16 : decode cX4_study 16 = .ok (.iload_n 1, 1) := dk_27 (dk_at dksX4_study_0 16 rfl rfl)
theorem dX4_study_17 : decode cX4_study 17 = .ok (.newarray .long, 2) := dk_188_11 (dk_at dksX4_study_0 17 rfl rfl)
theorem dX4_study_19 : decode cX4_study 19 = .ok (.putfield 154, 3) := dk_181 0 154 (dk_at dksX4_study_0 19 rfl rfl)
theorem dX4_study_22 : decode cX4_study 22 = .ok (.iconst 0, 1) := dk_3 (dk_at dksX4_study_0 22 rfl rfl)
theorem dX4_study_23 : decode cX4_study 23 = .ok (.istore_n 2, 1) := dk_61 (dk_at dksX4_study_0 23 rfl rfl)
theorem dX4_study_24 : decode cX4_study 24 = .ok (.iload_n 2, 1) := dk_28 (dk_at dksX4_study_1 0 rfl rfl)
theorem dX4_study_25 : decode cX4_study 25 = .ok (.aload_n 0, 1) := dk_42 (dk_at dksX4_study_1 1 rfl rfl)
theorem dX4_study_26 : decode cX4_study 26 = .ok (.getfield 16, 3) := dk_180 0 16 (dk_at dksX4_study_1 2 rfl rfl)
theorem dX4_study_29 : decode cX4_study 29 = .ok (.invokevirtual 29, 3) := dk_182 0 29 (dk_at dksX4_study_1 5 rfl rfl)
theorem dX4_study_32 : decode cX4_study 32 = .ok (.if_icmp .ge 109, 3) := dk_162 0 109 (dk_at dksX4_study_1 8 rfl rfl)
theorem dX4_study_35 : decode cX4_study 35 = .ok (.aload_n 0, 1) := dk_42 (dk_at dksX4_study_1 11 rfl rfl)
theorem dX4_study_36 : decode cX4_study 36 = .ok (.getfield 16, 3) := dk_180 0 16 (dk_at dksX4_study_1 12 rfl rfl)
theorem dX4_study_39 : decode cX4_study 39 = .ok (.iload_n 2, 1) := dk_28 (dk_at dksX4_study_1 15 rfl rfl)
theorem dX4_study_40 : decode cX4_study 40 = .ok (.invokevirtual 25, 3) := dk_182 0 25 (dk_at dksX4_study_1 16 rfl rfl)
theorem dX4_study_43 : decode cX4_study 43 = .ok (.checkcast 45, 3) := dk_192 0 45 (dk_at dksX4_study_1 19 rfl rfl)
theorem dX4_study_46 : decode cX4_study 46 = .ok (.astore_n 3, 1) := dk_78 (dk_at dksX4_study_1 22 rfl rfl)
theorem dX4_study_47 : decode cX4_study 47 = .ok (.aload_n 3, 1) := dk_45 (dk_at dksX4_study_1 23 rfl rfl)
theorem dX4_study_48 : decode cX4_study 48 = .ok (.invokevirtual 69, 3) := dk_182 0 69 (dk_at dksX4_study_2 0 rfl rfl)
theorem dX4_study_51 : decode cX4_study 51 = .ok (.ifnull 21, 3) := dk_198 0 21 (dk_at dksX4_study_2 3 rfl rfl)
theorem dX4_study_54 : decode cX4_study 54 = .ok (.aload_n 0, 1) := dk_42 (dk_at dksX4_study_2 6 rfl rfl)
theorem dX4_study_55 : decode cX4_study 55 = .ok (.getfield 151, 3) := dk_180 0 151 (dk_at dksX4_study_2 7 rfl rfl)
theorem dX4_study_58 : decode cX4_study 58 = .ok (.aload_n 3, 1) := dk_45 (dk_at dksX4_study_2 10 rfl rfl)
theorem dX4_study_59 : decode cX4_study 59 = .ok (.getfield 47, 3) := dk_180 0 47 (dk_at dksX4_study_2 11 rfl rfl)
theorem dX4_study_62 : decode cX4_study 62 = .ok (.lconst 1, 1) := dk_10 (dk_at dksX4_study_2 14 rfl rfl)
theorem dX4_study_63 : decode cX4_study 63 = .ok (.aload_n 3, 1) := dk_45 (dk_at dksX4_study_2 15 rfl rfl)
theorem dX4_study_64 : decode cX4_study 64 = .ok (.invokevirtual 69, 3) := dk_182 0 69 (dk_at dksX4_study_2 16 rfl rfl)
theorem dX4_study_67 : decode cX4_study 67 = .ok (.getfield 98, 3) := dk_180 0 98 (dk_at dksX4_study_2 19 rfl rfl)
theorem dX4_study_70 : decode cX4_study 70 = .ok (.lshl, 1) := dk_121 (dk_at dksX4_study_2 22 rfl rfl)
theorem dX4_study_71 : decode cX4_study 71 = .ok (.lastore, 1) := dk_80 (dk_at dksX4_study_2 23 rfl rfl)
theorem dX4_study_72 : decode cX4_study 72 = .ok (.iconst 0, 1) := dk_3 (dk_at dksX4_study_3 0 rfl rfl)
theorem dX4_study_73 : decode cX4_study 73 = .ok (.istore 4, 2) := dk_54 4 (dk_at dksX4_study_3 1 rfl rfl)
theorem dX4_study_75 : decode cX4_study 75 = .ok (.iload 4, 2) := dk_21 4 (dk_at dksX4_study_3 3 rfl rfl)
theorem dX4_study_77 : decode cX4_study 77 = .ok (.aload_n 0, 1) := dk_42 (dk_at dksX4_study_3 5 rfl rfl)
theorem dX4_study_78 : decode cX4_study 78 = .ok (.getfield 19, 3) := dk_180 0 19 (dk_at dksX4_study_3 6 rfl rfl)
theorem dX4_study_81 : decode cX4_study 81 = .ok (.invokevirtual 29, 3) := dk_182 0 29 (dk_at dksX4_study_3 9 rfl rfl)
theorem dX4_study_84 : decode cX4_study 84 = .ok (.if_icmp .ge 51, 3) := dk_162 0 51 (dk_at dksX4_study_3 12 rfl rfl)
theorem dX4_study_87 : decode cX4_study 87 = .ok (.aload_n 0, 1) := dk_42 (dk_at dksX4_study_3 15 rfl rfl)
theorem dX4_study_88 : decode cX4_study 88 = .ok (.getfield 19, 3) := dk_180 0 19 (dk_at dksX4_study_3 16 rfl rfl)
theorem dX4_study_91 : decode cX4_study 91 = .ok (.iload 4, 2) := dk_21 4 (dk_at dksX4_study_3 19 rfl rfl)
theorem dX4_study_93 : decode cX4_study 93 = .ok (.invokevirtual 25, 3) := dk_182 0 25 (dk_at dksX4_study_3 21 rfl rfl)
theorem dX4_study_96 : decode cX4_study 96 = .ok (.checkcast 88, 3) := dk_192 0 88 (dk_at dksX4_study_4 0 rfl rfl)
theorem dX4_study_99 : decode cX4_study 99 = .ok (.astore 5, 2) := dk_58 5 (dk_at dksX4_study_4 3 rfl rfl)
theorem dX4_study_101 : decode cX4_study 101 = .ok (.aload_n 3, 1) := dk_45 (dk_at dksX4_study_4 5 rfl rfl)
theorem dX4_study_102 : decode cX4_study 102 = .ok (.aload 5, 2) := dk_25 5 (dk_at dksX4_study_4 6 rfl rfl)
theorem dX4_study_104 : decode cX4_study 104 = .ok (.invokevirtual 157, 3) := dk_182 0 157 (dk_at dksX4_study_4 8 rfl rfl)
theorem dX4_study_107 : decode cX4_study 107 = .ok (.ifCond .eq 22, 3) := dk_153 0 22 (dk_at dksX4_study_4 11 rfl rfl)
theorem dX4_study_110 : decode cX4_study 110 = .ok (.aload_n 0, 1) := dk_42 (dk_at dksX4_study_4 14 rfl rfl)
theorem dX4_study_111 : decode cX4_study 111 = .ok (.getfield 154, 3) := dk_180 0 154 (dk_at dksX4_study_4 15 rfl rfl)
theorem dX4_study_114 : decode cX4_study 114 = .ok (.aload_n 3, 1) := dk_45 (dk_at dksX4_study_4 18 rfl rfl)
theorem dX4_study_115 : decode cX4_study 115 = .ok (.getfield 47, 3) := dk_180 0 47 (dk_at dksX4_study_4 19 rfl rfl)
theorem dX4_study_118 : decode cX4_study 118 = .ok (.dup2, 1) := dk_92 (dk_at dksX4_study_4 22 rfl rfl)
theorem dX4_study_119 : decode cX4_study 119 = .ok (.laload, 1) := dk_47 (dk_at dksX4_study_4 23 rfl rfl)
theorem dX4_study_120 : decode cX4_study 120 = .ok (.lconst 1, 1) := dk_10 (dk_at dksX4_study_5 0 rfl rfl)
theorem dX4_study_121 : decode cX4_study 121 = .ok (.aload 5, 2) := dk_25 5 (dk_at dksX4_study_5 1 rfl rfl)
theorem dX4_study_123 : decode cX4_study 123 = .ok (.getfield 98, 3) := dk_180 0 98 (dk_at dksX4_study_5 3 rfl rfl)
theorem dX4_study_126 : decode cX4_study 126 = .ok (.lshl, 1) := dk_121 (dk_at dksX4_study_5 6 rfl rfl)
theorem dX4_study_127 : decode cX4_study 127 = .ok (.lor, 1) := dk_129 (dk_at dksX4_study_5 7 rfl rfl)
theorem dX4_study_128 : decode cX4_study 128 = .ok (.lastore, 1) := dk_80 (dk_at dksX4_study_5 8 rfl rfl)
theorem dX4_study_129 : decode cX4_study 129 = .ok (.iinc 4 1, 3) := dk_132 4 1 (dk_at dksX4_study_5 9 rfl rfl)
theorem dX4_study_132 : decode cX4_study 132 = .ok (.goto (-57), 3) := dk_167 255 199 (dk_at dksX4_study_5 12 rfl rfl)
theorem dX4_study_135 : decode cX4_study 135 = .ok (.iinc 2 1, 3) := dk_132 2 1 (dk_at dksX4_study_5 15 rfl rfl)
theorem dX4_study_138 : decode cX4_study 138 = .ok (.goto (-114), 3) := dk_167 255 142 (dk_at dksX4_study_5 18 rfl rfl)
theorem dX4_study_141 : decode cX4_study 141 = .ok (.aload_n 0, 1) := dk_42 (dk_at dksX4_study_5 21 rfl rfl)
theorem dX4_study_142 : decode cX4_study 142 = .ok (.invokevirtual 159, 3) := dk_182 0 159 (dk_at dksX4_study_6 0 rfl rfl)
theorem dX4_study_145 : decode cX4_study 145 = .ok (.aload_n 0, 1) := dk_42 (dk_at dksX4_study_6 3 rfl rfl)
theorem dX4_study_146 : decode cX4_study 146 = .ok (.invokevirtual 162, 3) := dk_182 0 162 (dk_at dksX4_study_6 4 rfl rfl)
theorem dX4_study_149 : decode cX4_study 149 = .ok (.aload_n 0, 1) := dk_42 (dk_at dksX4_study_6 7 rfl rfl)
theorem dX4_study_150 : decode cX4_study 150 = .ok (.iload_n 1, 1) := dk_27 (dk_at dksX4_study_6 8 rfl rfl)
theorem dX4_study_151 : decode cX4_study 151 = .ok (.newarray .long, 2) := dk_188_11 (dk_at dksX4_study_6 9 rfl rfl)
theorem dX4_study_153 : decode cX4_study 153 = .ok (.putfield 165, 3) := dk_181 0 165 (dk_at dksX4_study_6 11 rfl rfl)
theorem dX4_study_156 : decode cX4_study 156 = .ok (.iconst 0, 1) := dk_3 (dk_at dksX4_study_6 14 rfl rfl)
theorem dX4_study_157 : decode cX4_study 157 = .ok (.istore_n 2, 1) := dk_61 (dk_at dksX4_study_6 15 rfl rfl)
theorem dX4_study_158 : decode cX4_study 158 = .ok (.iload_n 2, 1) := dk_28 (dk_at dksX4_study_6 16 rfl rfl)
theorem dX4_study_159 : decode cX4_study 159 = .ok (.aload_n 0, 1) := dk_42 (dk_at dksX4_study_6 17 rfl rfl)
theorem dX4_study_160 : decode cX4_study 160 = .ok (.getfield 16, 3) := dk_180 0 16 (dk_at dksX4_study_6 18 rfl rfl)
theorem dX4_study_163 : decode cX4_study 163 = .ok (.invokevirtual 29, 3) := dk_182 0 29 (dk_at dksX4_study_6 21 rfl rfl)
theorem dX4_study_166 : decode cX4_study 166 = .ok (.if_icmp .ge 135, 3) := dk_162 0 135 (dk_at dksX4_study_7 0 rfl rfl)
theorem dX4_study_169 : decode cX4_study 169 = .ok (.aload_n 0, 1) := dk_42 (dk_at dksX4_study_7 3 rfl rfl)
theorem dX4_study_170 : decode cX4_study 170 = .ok (.getfield 16, 3) := dk_180 0 16 (dk_at dksX4_study_7 4 rfl rfl)
theorem dX4_study_173 : decode cX4_study 173 = .ok (.iload_n 2, 1) := dk_28 (dk_at dksX4_study_7 7 rfl rfl)
theorem dX4_study_174 : decode cX4_study 174 = .ok (.invokevirtual 25, 3) := dk_182 0 25 (dk_at dksX4_study_7 8 rfl rfl)
theorem dX4_study_177 : decode cX4_study 177 = .ok (.checkcast 45, 3) := dk_192 0 45 (dk_at dksX4_study_7 11 rfl rfl)
theorem dX4_study_180 : decode cX4_study 180 = .ok (.astore_n 3, 1) := dk_78 (dk_at dksX4_study_7 14 rfl rfl)
theorem dX4_study_181 : decode cX4_study 181 = .ok (.aload_n 3, 1) := dk_45 (dk_at dksX4_study_7 15 rfl rfl)
theorem dX4_study_182 : decode cX4_study 182 = .ok (.getfield 47, 3) := dk_180 0 47 (dk_at dksX4_study_7 16 rfl rfl)
theorem dX4_study_185 : decode cX4_study 185 = .ok (.ifCond .ne 10, 3) := dk_154 0 10 (dk_at dksX4_study_7 19 rfl rfl)
theorem dX4_study_188 : decode cX4_study 188 = .ok (.aload_n 0, 1) := dk_42 (dk_at dksX4_study_7 22 rfl rfl)
theorem dX4_study_189 : decode cX4_study 189 = .ok (.invokevirtual 168, 3) := dk_182 0 168 (dk_at dksX4_study_8 0 rfl rfl)
theorem dX4_study_192 : decode cX4_study 192 = .ok (.goto 4, 3) := dk_167 0 4 (dk_at dksX4_study_8 3 rfl rfl)
theorem dX4_study_195 : decode cX4_study 195 = .ok (.lconst 0, 1) := dk_9 (dk_at dksX4_study_8 6 rfl rfl)
theorem dX4_study_196 : decode cX4_study 196 = .ok (.lstore 4, 2) := dk_55 4 (dk_at dksX4_study_8 7 rfl rfl)
theorem dX4_study_198 : decode cX4_study 198 = .ok (.iconst 0, 1) := dk_3 (dk_at dksX4_study_8 9 rfl rfl)
theorem dX4_study_199 : decode cX4_study 199 = .ok (.istore 6, 2) := dk_54 6 (dk_at dksX4_study_8 10 rfl rfl)
theorem dX4_study_201 : decode cX4_study 201 = .ok (.iload 6, 2) := dk_21 6 (dk_at dksX4_study_8 12 rfl rfl)
theorem dX4_study_203 : decode cX4_study 203 = .ok (.aload_n 3, 1) := dk_45 (dk_at dksX4_study_8 14 rfl rfl)
theorem dX4_study_204 : decode cX4_study 204 = .ok (.getfield 172, 3) := dk_180 0 172 (dk_at dksX4_study_8 15 rfl rfl)
theorem dX4_study_207 : decode cX4_study 207 = .ok (.invokevirtual 29, 3) := dk_182 0 29 (dk_at dksX4_study_8 18 rfl rfl)
theorem dX4_study_210 : decode cX4_study 210 = .ok (.if_icmp .ge 64, 3) := dk_162 0 64 (dk_at dksX4_study_8 21 rfl rfl)
theorem dX4_study_213 : decode cX4_study 213 = .ok (.aload_n 3, 1) := dk_45 (dk_at dksX4_study_9 0 rfl rfl)
theorem dX4_study_214 : decode cX4_study 214 = .ok (.getfield 172, 3) := dk_180 0 172 (dk_at dksX4_study_9 1 rfl rfl)
theorem dX4_study_217 : decode cX4_study 217 = .ok (.iload 6, 2) := dk_21 6 (dk_at dksX4_study_9 4 rfl rfl)
theorem dX4_study_219 : decode cX4_study 219 = .ok (.invokevirtual 25, 3) := dk_182 0 25 (dk_at dksX4_study_9 6 rfl rfl)
theorem dX4_study_222 : decode cX4_study 222 = .ok (.checkcast 45, 3) := dk_192 0 45 (dk_at dksX4_study_9 9 rfl rfl)
theorem dX4_study_225 : decode cX4_study 225 = .ok (.astore 7, 2) := dk_58 7 (dk_at dksX4_study_9 12 rfl rfl)
theorem dX4_study_227 : decode cX4_study 227 = .ok (.lload 4, 2) := dk_22 4 (dk_at dksX4_study_9 14 rfl rfl)
theorem dX4_study_229 : decode cX4_study 229 = .ok (.aload_n 0, 1) := dk_42 (dk_at dksX4_study_9 16 rfl rfl)
theorem dX4_study_230 : decode cX4_study 230 = .ok (.getfield 154, 3) := dk_180 0 154 (dk_at dksX4_study_9 17 rfl rfl)
theorem dX4_study_233 : decode cX4_study 233 = .ok (.aload 7, 2) := dk_25 7 (dk_at dksX4_study_9 20 rfl rfl)
theorem dX4_study_235 : decode cX4_study 235 = .ok (.getfield 47, 3) := dk_180 0 47 (dk_at dksX4_study_10 0 rfl rfl)
theorem dX4_study_238 : decode cX4_study 238 = .ok (.laload, 1) := dk_47 (dk_at dksX4_study_10 3 rfl rfl)
theorem dX4_study_239 : decode cX4_study 239 = .ok (.aload_n 0, 1) := dk_42 (dk_at dksX4_study_10 4 rfl rfl)
theorem dX4_study_240 : decode cX4_study 240 = .ok (.getfield 175, 3) := dk_180 0 175 (dk_at dksX4_study_10 5 rfl rfl)
theorem dX4_study_243 : decode cX4_study 243 = .ok (.aload 7, 2) := dk_25 7 (dk_at dksX4_study_10 8 rfl rfl)
theorem dX4_study_245 : decode cX4_study 245 = .ok (.getfield 47, 3) := dk_180 0 47 (dk_at dksX4_study_10 10 rfl rfl)
theorem dX4_study_248 : decode cX4_study 248 = .ok (.laload, 1) := dk_47 (dk_at dksX4_study_10 13 rfl rfl)
theorem dX4_study_249 : decode cX4_study 249 = .ok (.aload_n 0, 1) := dk_42 (dk_at dksX4_study_10 14 rfl rfl)
theorem dX4_study_250 : decode cX4_study 250 = .ok (.getfield 178, 3) := dk_180 0 178 (dk_at dksX4_study_10 15 rfl rfl)
theorem dX4_study_253 : decode cX4_study 253 = .ok (.aload 7, 2) := dk_25 7 (dk_at dksX4_study_10 18 rfl rfl)
theorem dX4_study_255 : decode cX4_study 255 = .ok (.getfield 47, 3) := dk_180 0 47 (dk_at dksX4_study_10 20 rfl rfl)
theorem dX4_study_258 : decode cX4_study 258 = .ok (.laload, 1) := dk_47 (dk_at dksX4_study_10 23 rfl rfl)
theorem dX4_study_259 : decode cX4_study 259 = .ok (.lor, 1) := dk_129 (dk_at dksX4_study_11 0 rfl rfl)
theorem dX4_study_260 : decode cX4_study 260 = .ok (.ldc2_w 181, 3) := dk_20 0 181 (dk_at dksX4_study_11 1 rfl rfl)
theorem dX4_study_263 : decode cX4_study 263 = .ok (.lxor, 1) := dk_131 (dk_at dksX4_study_11 4 rfl rfl)
theorem dX4_study_264 : decode cX4_study 264 = .ok (.lor, 1) := dk_129 (dk_at dksX4_study_11 5 rfl rfl)
theorem dX4_study_265 : decode cX4_study 265 = .ok (.lor, 1) := dk_129 (dk_at dksX4_study_11 6 rfl rfl)
theorem dX4_study_266 : decode cX4_study 266 = .ok (.lstore 4, 2) := dk_55 4 (dk_at dksX4_study_11 7 rfl rfl)
theorem dX4_study_268 : decode cX4_study 268 = .ok (.iinc 6 1, 3) := dk_132 6 1 (dk_at dksX4_study_11 9 rfl rfl)
theorem dX4_study_271 : decode cX4_study 271 = .ok (.goto (-70), 3) := dk_167 255 186 (dk_at dksX4_study_11 12 rfl rfl)
theorem dX4_study_274 : decode cX4_study 274 = .ok (.aload_n 0, 1) := dk_42 (dk_at dksX4_study_11 15 rfl rfl)
theorem dX4_study_275 : decode cX4_study 275 = .ok (.getfield 165, 3) := dk_180 0 165 (dk_at dksX4_study_11 16 rfl rfl)
theorem dX4_study_278 : decode cX4_study 278 = .ok (.aload_n 3, 1) := dk_45 (dk_at dksX4_study_11 19 rfl rfl)
theorem dX4_study_279 : decode cX4_study 279 = .ok (.getfield 47, 3) := dk_180 0 47 (dk_at dksX4_study_11 20 rfl rfl)
theorem dX4_study_282 : decode cX4_study 282 = .ok (.aload_n 0, 1) := dk_42 (dk_at dksX4_study_11 23 rfl rfl)
theorem dX4_study_283 : decode cX4_study 283 = .ok (.getfield 178, 3) := dk_180 0 178 (dk_at dksX4_study_12 0 rfl rfl)
theorem dX4_study_286 : decode cX4_study 286 = .ok (.aload_n 3, 1) := dk_45 (dk_at dksX4_study_12 3 rfl rfl)
theorem dX4_study_287 : decode cX4_study 287 = .ok (.getfield 47, 3) := dk_180 0 47 (dk_at dksX4_study_12 4 rfl rfl)
theorem dX4_study_290 : decode cX4_study 290 = .ok (.laload, 1) := dk_47 (dk_at dksX4_study_12 7 rfl rfl)
theorem dX4_study_291 : decode cX4_study 291 = .ok (.lload 4, 2) := dk_22 4 (dk_at dksX4_study_12 8 rfl rfl)
theorem dX4_study_293 : decode cX4_study 293 = .ok (.land, 1) := dk_127 (dk_at dksX4_study_12 10 rfl rfl)
theorem dX4_study_294 : decode cX4_study 294 = .ok (.lastore, 1) := dk_80 (dk_at dksX4_study_12 11 rfl rfl)
theorem dX4_study_295 : decode cX4_study 295 = .ok (.iinc 2 1, 3) := dk_132 2 1 (dk_at dksX4_study_12 12 rfl rfl)
theorem dX4_study_298 : decode cX4_study 298 = .ok (.goto (-140), 3) := dk_167 255 116 (dk_at dksX4_study_12 15 rfl rfl)
theorem dX4_study_301 : decode cX4_study 301 = .ok (.aload_n 0, 1) := dk_42 (dk_at dksX4_study_12 18 rfl rfl)
theorem dX4_study_302 : decode cX4_study 302 = .ok (.invokevirtual 183, 3) := dk_182 0 183 (dk_at dksX4_study_12 19 rfl rfl)
theorem dX4_study_305 : decode cX4_study 305 = .ok (.aload_n 0, 1) := dk_42 (dk_at dksX4_study_12 22 rfl rfl)
theorem dX4_study_306 : decode cX4_study 306 = .ok (.iload_n 1, 1) := dk_27 (dk_at dksX4_study_12 23 rfl rfl)
theorem dX4_study_307 : decode cX4_study 307 = .ok (.newarray .long, 2) := dk_188_11 (dk_at dksX4_study_13 0 rfl rfl)
theorem dX4_study_309 : decode cX4_study 309 = .ok (.putfield 186, 3) := dk_181 0 186 (dk_at dksX4_study_13 2 rfl rfl)
theorem dX4_study_312 : decode cX4_study 312 = .ok (.iconst 0, 1) := dk_3 (dk_at dksX4_study_13 5 rfl rfl)
theorem dX4_study_313 : decode cX4_study 313 = .ok (.istore_n 2, 1) := dk_61 (dk_at dksX4_study_13 6 rfl rfl)
theorem dX4_study_314 : decode cX4_study 314 = .ok (.iload_n 2, 1) := dk_28 (dk_at dksX4_study_13 7 rfl rfl)
theorem dX4_study_315 : decode cX4_study 315 = .ok (.aload_n 0, 1) := dk_42 (dk_at dksX4_study_13 8 rfl rfl)
theorem dX4_study_316 : decode cX4_study 316 = .ok (.getfield 16, 3) := dk_180 0 16 (dk_at dksX4_study_13 9 rfl rfl)
theorem dX4_study_319 : decode cX4_study 319 = .ok (.invokevirtual 29, 3) := dk_182 0 29 (dk_at dksX4_study_13 12 rfl rfl)
theorem dX4_study_322 : decode cX4_study 322 = .ok (.if_icmp .ge 126, 3) := dk_162 0 126 (dk_at dksX4_study_13 15 rfl rfl)
theorem dX4_study_325 : decode cX4_study 325 = .ok (.aload_n 0, 1) := dk_42 (dk_at dksX4_study_13 18 rfl rfl)
theorem dX4_study_326 : decode cX4_study 326 = .ok (.getfield 16, 3) := dk_180 0 16 (dk_at dksX4_study_13 19 rfl rfl)
theorem dX4_study_329 : decode cX4_study 329 = .ok (.iload_n 2, 1) := dk_28 (dk_at dksX4_study_13 22 rfl rfl)
theorem dX4_study_330 : decode cX4_study 330 = .ok (.invokevirtual 25, 3) := dk_182 0 25 (dk_at dksX4_study_14 0 rfl rfl)
theorem dX4_study_333 : decode cX4_study 333 = .ok (.checkcast 45, 3) := dk_192 0 45 (dk_at dksX4_study_14 3 rfl rfl)
theorem dX4_study_336 : decode cX4_study 336 = .ok (.astore_n 3, 1) := dk_78 (dk_at dksX4_study_14 6 rfl rfl)
theorem dX4_study_337 : decode cX4_study 337 = .ok (.aload_n 3, 1) := dk_45 (dk_at dksX4_study_14 7 rfl rfl)
theorem dX4_study_338 : decode cX4_study 338 = .ok (.getfield 189, 3) := dk_180 0 189 (dk_at dksX4_study_14 8 rfl rfl)
theorem dX4_study_341 : decode cX4_study 341 = .ok (.invokevirtual 29, 3) := dk_182 0 29 (dk_at dksX4_study_14 11 rfl rfl)
theorem dX4_study_344 : decode cX4_study 344 = .ok (.ifCond .ne 7, 3) := dk_154 0 7 (dk_at dksX4_study_14 14 rfl rfl)
theorem dX4_study_347 : decode cX4_study 347 = .ok (.lconst 0, 1) := dk_9 (dk_at dksX4_study_14 17 rfl rfl)
theorem dX4_study_348 : decode cX4_study 348 = .ok (.goto 7, 3) := dk_167 0 7 (dk_at dksX4_study_14 18 rfl rfl)
theorem dX4_study_351 : decode cX4_study 351 = .ok (.aload_n 0, 1) := dk_42 (dk_at dksX4_study_14 21 rfl rfl)
theorem dX4_study_352 : decode cX4_study 352 = .ok (.invokevirtual 168, 3) := dk_182 0 168 (dk_at dksX4_study_15 0 rfl rfl)
theorem dX4_study_355 : decode cX4_study 355 = .ok (.lstore 4, 2) := dk_55 4 (dk_at dksX4_study_15 3 rfl rfl)
theorem dX4_study_357 : decode cX4_study 357 = .ok (.iconst 0, 1) := dk_3 (dk_at dksX4_study_15 5 rfl rfl)
theorem dX4_study_358 : decode cX4_study 358 = .ok (.istore 6, 2) := dk_54 6 (dk_at dksX4_study_15 6 rfl rfl)
theorem dX4_study_360 : decode cX4_study 360 = .ok (.iload 6, 2) := dk_21 6 (dk_at dksX4_study_15 8 rfl rfl)
theorem dX4_study_362 : decode cX4_study 362 = .ok (.aload_n 3, 1) := dk_45 (dk_at dksX4_study_15 10 rfl rfl)
theorem dX4_study_363 : decode cX4_study 363 = .ok (.getfield 189, 3) := dk_180 0 189 (dk_at dksX4_study_15 11 rfl rfl)
theorem dX4_study_366 : decode cX4_study 366 = .ok (.invokevirtual 29, 3) := dk_182 0 29 (dk_at dksX4_study_15 14 rfl rfl)
theorem dX4_study_369 : decode cX4_study 369 = .ok (.if_icmp .ge 38, 3) := dk_162 0 38 (dk_at dksX4_study_15 17 rfl rfl)
theorem dX4_study_372 : decode cX4_study 372 = .ok (.aload_n 3, 1) := dk_45 (dk_at dksX4_study_15 20 rfl rfl)
theorem dX4_study_373 : decode cX4_study 373 = .ok (.getfield 189, 3) := dk_180 0 189 (dk_at dksX4_study_15 21 rfl rfl)
theorem dX4_study_376 : decode cX4_study 376 = .ok (.iload 6, 2) := dk_21 6 (dk_at dksX4_study_16 0 rfl rfl)
theorem dX4_study_378 : decode cX4_study 378 = .ok (.invokevirtual 25, 3) := dk_182 0 25 (dk_at dksX4_study_16 2 rfl rfl)
theorem dX4_study_381 : decode cX4_study 381 = .ok (.checkcast 45, 3) := dk_192 0 45 (dk_at dksX4_study_16 5 rfl rfl)
theorem dX4_study_384 : decode cX4_study 384 = .ok (.astore 7, 2) := dk_58 7 (dk_at dksX4_study_16 8 rfl rfl)
theorem dX4_study_386 : decode cX4_study 386 = .ok (.lload 4, 2) := dk_22 4 (dk_at dksX4_study_16 10 rfl rfl)
theorem dX4_study_388 : decode cX4_study 388 = .ok (.aload_n 0, 1) := dk_42 (dk_at dksX4_study_16 12 rfl rfl)
theorem dX4_study_389 : decode cX4_study 389 = .ok (.getfield 192, 3) := dk_180 0 192 (dk_at dksX4_study_16 13 rfl rfl)
theorem dX4_study_392 : decode cX4_study 392 = .ok (.aload 7, 2) := dk_25 7 (dk_at dksX4_study_16 16 rfl rfl)
theorem dX4_study_394 : decode cX4_study 394 = .ok (.getfield 47, 3) := dk_180 0 47 (dk_at dksX4_study_16 18 rfl rfl)
theorem dX4_study_397 : decode cX4_study 397 = .ok (.laload, 1) := dk_47 (dk_at dksX4_study_16 21 rfl rfl)
theorem dX4_study_398 : decode cX4_study 398 = .ok (.land, 1) := dk_127 (dk_at dksX4_study_16 22 rfl rfl)
theorem dX4_study_399 : decode cX4_study 399 = .ok (.lstore 4, 2) := dk_55 4 (dk_at dksX4_study_17 0 rfl rfl)
theorem dX4_study_401 : decode cX4_study 401 = .ok (.iinc 6 1, 3) := dk_132 6 1 (dk_at dksX4_study_17 2 rfl rfl)
theorem dX4_study_404 : decode cX4_study 404 = .ok (.goto (-44), 3) := dk_167 255 212 (dk_at dksX4_study_17 5 rfl rfl)
theorem dX4_study_407 : decode cX4_study 407 = .ok (.aload_n 0, 1) := dk_42 (dk_at dksX4_study_17 8 rfl rfl)
theorem dX4_study_408 : decode cX4_study 408 = .ok (.getfield 186, 3) := dk_180 0 186 (dk_at dksX4_study_17 9 rfl rfl)
theorem dX4_study_411 : decode cX4_study 411 = .ok (.aload_n 3, 1) := dk_45 (dk_at dksX4_study_17 12 rfl rfl)
theorem dX4_study_412 : decode cX4_study 412 = .ok (.getfield 47, 3) := dk_180 0 47 (dk_at dksX4_study_17 13 rfl rfl)
theorem dX4_study_415 : decode cX4_study 415 = .ok (.aload_n 0, 1) := dk_42 (dk_at dksX4_study_17 16 rfl rfl)
theorem dX4_study_416 : decode cX4_study 416 = .ok (.getfield 192, 3) := dk_180 0 192 (dk_at dksX4_study_17 17 rfl rfl)
theorem dX4_study_419 : decode cX4_study 419 = .ok (.aload_n 3, 1) := dk_45 (dk_at dksX4_study_17 20 rfl rfl)
theorem dX4_study_420 : decode cX4_study 420 = .ok (.getfield 47, 3) := dk_180 0 47 (dk_at dksX4_study_17 21 rfl rfl)
theorem dX4_study_423 : decode cX4_study 423 = .ok (.laload, 1) := dk_47 (dk_at dksX4_study_18 0 rfl rfl)
theorem dX4_study_424 : decode cX4_study 424 = .ok (.aload_n 0, 1) := dk_42 (dk_at dksX4_study_18 1 rfl rfl)
theorem dX4_study_425 : decode cX4_study 425 = .ok (.getfield 151, 3) := dk_180 0 151 (dk_at dksX4_study_18 2 rfl rfl)
theorem dX4_study_428 : decode cX4_study 428 = .ok (.aload_n 3, 1) := dk_45 (dk_at dksX4_study_18 5 rfl rfl)
theorem dX4_study_429 : decode cX4_study 429 = .ok (.getfield 47, 3) := dk_180 0 47 (dk_at dksX4_study_18 6 rfl rfl)
theorem dX4_study_432 : decode cX4_study 432 = .ok (.laload, 1) := dk_47 (dk_at dksX4_study_18 9 rfl rfl)
theorem dX4_study_433 : decode cX4_study 433 = .ok (.lload 4, 2) := dk_22 4 (dk_at dksX4_study_18 10 rfl rfl)
theorem dX4_study_435 : decode cX4_study 435 = .ok (.ldc2_w 181, 3) := dk_20 0 181 (dk_at dksX4_study_18 12 rfl rfl)
theorem dX4_study_438 : decode cX4_study 438 = .ok (.lxor, 1) := dk_131 (dk_at dksX4_study_18 15 rfl rfl)
theorem dX4_study_439 : decode cX4_study 439 = .ok (.lor, 1) := dk_129 (dk_at dksX4_study_18 16 rfl rfl)
theorem dX4_study_440 : decode cX4_study 440 = .ok (.land, 1) := dk_127 (dk_at dksX4_study_18 17 rfl rfl)
theorem dX4_study_441 : decode cX4_study 441 = .ok (.lastore, 1) := dk_80 (dk_at dksX4_study_18 18 rfl rfl)
theorem dX4_study_442 : decode cX4_study 442 = .ok (.iinc 2 1, 3) := dk_132 2 1 (dk_at dksX4_study_18 19 rfl rfl)
theorem dX4_study_445 : decode cX4_study 445 = .ok (.goto (-131), 3) := dk_167 255 125 (dk_at dksX4_study_19 0 rfl rfl)
theorem dX4_study_448 : decode cX4_study 448 = .ok (.aload_n 0, 1) := dk_42 (dk_at dksX4_study_19 3 rfl rfl)
theorem dX4_study_449 : decode cX4_study 449 = .ok (.invokevirtual 195, 3) := dk_182 0 195 (dk_at dksX4_study_19 4 rfl rfl)
theorem dX4_study_452 : decode cX4_study 452 = .ok (.return_, 1) := dk_177 (dk_at dksX4_study_19 7 rfl rfl)
abbrev cX4_want : ByteArray := prog_14_method_13_code
def yX4_want : MethodName := ⟨RX4, "want", "()V"⟩
def dkwX4_want_8 : List UInt8 := [167, 0, 4, 3, 128, 60, 42, 180, 0, 178, 28, 22, 4, 80, 132, 2, 255, 167, 255, 97, 167, 255, 78, 177]
abbrev dktX4_want_8 : List UInt8 := dkwX4_want_8 ++ []
def dkwX4_want_7 : List UInt8 := [180, 0, 151, 28, 47, 129, 55, 4, 27, 22, 4, 42, 180, 0, 178, 28, 47, 148, 153, 0, 7, 4]
abbrev dktX4_want_7 : List UInt8 := dkwX4_want_7 ++ dktX4_want_8
def dkwX4_want_6 : List UInt8 := [182, 0, 202, 153, 0, 16, 22, 4, 42, 182, 0, 205, 20, 0, 181, 131, 127, 55, 4, 22, 4, 42]
abbrev dktX4_want_6 : List UInt8 := dkwX4_want_6 ++ dktX4_want_7
def dkwX4_want_5 : List UInt8 := [58, 7, 22, 4, 42, 180, 0, 178, 25, 7, 180, 0, 47, 47, 127, 55, 4, 132, 6, 1, 167, 255, 212, 45]
abbrev dktX4_want_5 : List UInt8 := dkwX4_want_5 ++ dktX4_want_6
def dkwX4_want_4 : List UInt8 := [21, 6, 45, 180, 0, 189, 182, 0, 29, 162, 0, 38, 45, 180, 0, 189, 21, 6, 182, 0, 25, 192, 0, 45]
abbrev dktX4_want_4 : List UInt8 := dkwX4_want_4 ++ dktX4_want_5
def dkwX4_want_3 : List UInt8 := [167, 0, 18, 42, 182, 0, 168, 42, 180, 0, 154, 28, 47, 20, 0, 181, 131, 127, 55, 4, 3, 54, 6]
abbrev dktX4_want_3 : List UInt8 := dkwX4_want_3 ++ dktX4_want_4
def dkwX4_want_2 : List UInt8 := [180, 0, 16, 28, 182, 0, 25, 192, 0, 45, 78, 45, 180, 0, 189, 182, 0, 29, 154, 0, 7, 9]
abbrev dktX4_want_2 : List UInt8 := dkwX4_want_2 ++ dktX4_want_3
def dkwX4_want_1 : List UInt8 := [4, 60, 27, 153, 0, 180, 3, 60, 42, 180, 0, 16, 182, 0, 29, 4, 100, 61, 28, 155, 0, 161, 42]
abbrev dktX4_want_1 : List UInt8 := dkwX4_want_1 ++ dktX4_want_2
def dkwX4_want_0 : List UInt8 := [42, 42, 180, 0, 16, 182, 0, 29, 188, 11, 181, 0, 178, 42, 180, 0, 178, 42, 182, 0, 168, 184, 0, 198]
abbrev dktX4_want_0 : List UInt8 := dkwX4_want_0 ++ dktX4_want_1
theorem dksX4_want_0 : cX4_want.data.toList.drop 0 = dktX4_want_0 := by decide +kernel
theorem dksX4_want_1 : cX4_want.data.toList.drop 24 = dktX4_want_1 := dk_seg dksX4_want_0 24 rfl rfl
theorem dksX4_want_2 : cX4_want.data.toList.drop 47 = dktX4_want_2 := dk_seg dksX4_want_1 23 rfl rfl
theorem dksX4_want_3 : cX4_want.data.toList.drop 69 = dktX4_want_3 := dk_seg dksX4_want_2 22 rfl rfl
theorem dksX4_want_4 : cX4_want.data.toList.drop 92 = dktX4_want_4 := dk_seg dksX4_want_3 23 rfl rfl
theorem dksX4_want_5 : cX4_want.data.toList.drop 116 = dktX4_want_5 := dk_seg dksX4_want_4 24 rfl rfl
theorem dksX4_want_6 : cX4_want.data.toList.drop 140 = dktX4_want_6 := dk_seg dksX4_want_5 24 rfl rfl
theorem dksX4_want_7 : cX4_want.data.toList.drop 162 = dktX4_want_7 := dk_seg dksX4_want_6 22 rfl rfl
theorem dksX4_want_8 : cX4_want.data.toList.drop 184 = dktX4_want_8 := dk_seg dksX4_want_7 22 rfl rfl
theorem dX4_want_0 : decode cX4_want 0 = .ok (.aload_n 0, 1) := dk_42 (dk_at dksX4_want_0 0 rfl rfl)
theorem dX4_want_1 : decode cX4_want 1 = .ok (.aload_n 0, 1) := dk_42 (dk_at dksX4_want_0 1 rfl rfl)
theorem dX4_want_2 : decode cX4_want 2 = .ok (.getfield 16, 3) := dk_180 0 16 (dk_at dksX4_want_0 2 rfl rfl)
theorem dX4_want_5 : decode cX4_want 5 = .ok (.invokevirtual 29, 3) := dk_182 0 29 (dk_at dksX4_want_0 5 rfl rfl)
theorem dX4_want_8 : decode cX4_want 8 = .ok (.newarray .long, 2) := dk_188_11 (dk_at dksX4_want_0 8 rfl rfl)
theorem dX4_want_10 : decode cX4_want 10 = .ok (.putfield 178, 3) := dk_181 0 178 (dk_at dksX4_want_0 10 rfl rfl)
theorem dX4_want_13 : decode cX4_want 13 = .ok (.aload_n 0, 1) := dk_42 (dk_at dksX4_want_0 13 rfl rfl)
theorem dX4_want_14 : decode cX4_want 14 = .ok (.getfield 178, 3) := dk_180 0 178 (dk_at dksX4_want_0 14 rfl rfl)
theorem dX4_want_17 : decode cX4_want 17 = .ok (.aload_n 0, 1) := dk_42 (dk_at dksX4_want_0 17 rfl rfl)
theorem dX4_want_18 : decode cX4_want 18 = .ok (.invokevirtual 168, 3) := dk_182 0 168 (dk_at dksX4_want_0 18 rfl rfl)
theorem dX4_want_21 : decode cX4_want 21 = .ok (.invokestatic 198, 3) := dk_184 0 198 (dk_at dksX4_want_0 21 rfl rfl)
theorem dX4_want_24 : decode cX4_want 24 = .ok (.iconst 1, 1) := dk_4 (dk_at dksX4_want_1 0 rfl rfl)
theorem dX4_want_25 : decode cX4_want 25 = .ok (.istore_n 1, 1) := dk_60 (dk_at dksX4_want_1 1 rfl rfl)
theorem dX4_want_26 : decode cX4_want 26 = .ok (.iload_n 1, 1) := dk_27 (dk_at dksX4_want_1 2 rfl rfl)
theorem dX4_want_27 : decode cX4_want 27 = .ok (.ifCond .eq 180, 3) := dk_153 0 180 (dk_at dksX4_want_1 3 rfl rfl)
theorem dX4_want_30 : decode cX4_want 30 = .ok (.iconst 0, 1) := dk_3 (dk_at dksX4_want_1 6 rfl rfl)
theorem dX4_want_31 : decode cX4_want 31 = .ok (.istore_n 1, 1) := dk_60 (dk_at dksX4_want_1 7 rfl rfl)
theorem dX4_want_32 : decode cX4_want 32 = .ok (.aload_n 0, 1) := dk_42 (dk_at dksX4_want_1 8 rfl rfl)
theorem dX4_want_33 : decode cX4_want 33 = .ok (.getfield 16, 3) := dk_180 0 16 (dk_at dksX4_want_1 9 rfl rfl)
theorem dX4_want_36 : decode cX4_want 36 = .ok (.invokevirtual 29, 3) := dk_182 0 29 (dk_at dksX4_want_1 12 rfl rfl)
theorem dX4_want_39 : decode cX4_want 39 = .ok (.iconst 1, 1) := dk_4 (dk_at dksX4_want_1 15 rfl rfl)
theorem dX4_want_40 : decode cX4_want 40 = .ok (.isub, 1) := dk_100 (dk_at dksX4_want_1 16 rfl rfl)
theorem dX4_want_41 : decode cX4_want 41 = .ok (.istore_n 2, 1) := dk_61 (dk_at dksX4_want_1 17 rfl rfl)
theorem dX4_want_42 : decode cX4_want 42 = .ok (.iload_n 2, 1) := dk_28 (dk_at dksX4_want_1 18 rfl rfl)
theorem dX4_want_43 : decode cX4_want 43 = .ok (.ifCond .lt 161, 3) := dk_155 0 161 (dk_at dksX4_want_1 19 rfl rfl)
theorem dX4_want_46 : decode cX4_want 46 = .ok (.aload_n 0, 1) := dk_42 (dk_at dksX4_want_1 22 rfl rfl)
theorem dX4_want_47 : decode cX4_want 47 = .ok (.getfield 16, 3) := dk_180 0 16 (dk_at dksX4_want_2 0 rfl rfl)
theorem dX4_want_50 : decode cX4_want 50 = .ok (.iload_n 2, 1) := dk_28 (dk_at dksX4_want_2 3 rfl rfl)
theorem dX4_want_51 : decode cX4_want 51 = .ok (.invokevirtual 25, 3) := dk_182 0 25 (dk_at dksX4_want_2 4 rfl rfl)
theorem dX4_want_54 : decode cX4_want 54 = .ok (.checkcast 45, 3) := dk_192 0 45 (dk_at dksX4_want_2 7 rfl rfl)
theorem dX4_want_57 : decode cX4_want 57 = .ok (.astore_n 3, 1) := dk_78 (dk_at dksX4_want_2 10 rfl rfl)
theorem dX4_want_58 : decode cX4_want 58 = .ok (.aload_n 3, 1) := dk_45 (dk_at dksX4_want_2 11 rfl rfl)
theorem dX4_want_59 : decode cX4_want 59 = .ok (.getfield 189, 3) := dk_180 0 189 (dk_at dksX4_want_2 12 rfl rfl)
theorem dX4_want_62 : decode cX4_want 62 = .ok (.invokevirtual 29, 3) := dk_182 0 29 (dk_at dksX4_want_2 15 rfl rfl)
theorem dX4_want_65 : decode cX4_want 65 = .ok (.ifCond .ne 7, 3) := dk_154 0 7 (dk_at dksX4_want_2 18 rfl rfl)
theorem dX4_want_68 : decode cX4_want 68 = .ok (.lconst 0, 1) := dk_9 (dk_at dksX4_want_2 21 rfl rfl)
theorem dX4_want_69 : decode cX4_want 69 = .ok (.goto 18, 3) := dk_167 0 18 (dk_at dksX4_want_3 0 rfl rfl)
theorem dX4_want_72 : decode cX4_want 72 = .ok (.aload_n 0, 1) := dk_42 (dk_at dksX4_want_3 3 rfl rfl)
theorem dX4_want_73 : decode cX4_want 73 = .ok (.invokevirtual 168, 3) := dk_182 0 168 (dk_at dksX4_want_3 4 rfl rfl)
theorem dX4_want_76 : decode cX4_want 76 = .ok (.aload_n 0, 1) := dk_42 (dk_at dksX4_want_3 7 rfl rfl)
theorem dX4_want_77 : decode cX4_want 77 = .ok (.getfield 154, 3) := dk_180 0 154 (dk_at dksX4_want_3 8 rfl rfl)
theorem dX4_want_80 : decode cX4_want 80 = .ok (.iload_n 2, 1) := dk_28 (dk_at dksX4_want_3 11 rfl rfl)
theorem dX4_want_81 : decode cX4_want 81 = .ok (.laload, 1) := dk_47 (dk_at dksX4_want_3 12 rfl rfl)
theorem dX4_want_82 : decode cX4_want 82 = .ok (.ldc2_w 181, 3) := dk_20 0 181 (dk_at dksX4_want_3 13 rfl rfl)
theorem dX4_want_85 : decode cX4_want 85 = .ok (.lxor, 1) := dk_131 (dk_at dksX4_want_3 16 rfl rfl)
theorem dX4_want_86 : decode cX4_want 86 = .ok (.land, 1) := dk_127 (dk_at dksX4_want_3 17 rfl rfl)
theorem dX4_want_87 : decode cX4_want 87 = .ok (.lstore 4, 2) := dk_55 4 (dk_at dksX4_want_3 18 rfl rfl)
theorem dX4_want_89 : decode cX4_want 89 = .ok (.iconst 0, 1) := dk_3 (dk_at dksX4_want_3 20 rfl rfl)
theorem dX4_want_90 : decode cX4_want 90 = .ok (.istore 6, 2) := dk_54 6 (dk_at dksX4_want_3 21 rfl rfl)
theorem dX4_want_92 : decode cX4_want 92 = .ok (.iload 6, 2) := dk_21 6 (dk_at dksX4_want_4 0 rfl rfl)
theorem dX4_want_94 : decode cX4_want 94 = .ok (.aload_n 3, 1) := dk_45 (dk_at dksX4_want_4 2 rfl rfl)
theorem dX4_want_95 : decode cX4_want 95 = .ok (.getfield 189, 3) := dk_180 0 189 (dk_at dksX4_want_4 3 rfl rfl)
theorem dX4_want_98 : decode cX4_want 98 = .ok (.invokevirtual 29, 3) := dk_182 0 29 (dk_at dksX4_want_4 6 rfl rfl)
theorem dX4_want_101 : decode cX4_want 101 = .ok (.if_icmp .ge 38, 3) := dk_162 0 38 (dk_at dksX4_want_4 9 rfl rfl)
theorem dX4_want_104 : decode cX4_want 104 = .ok (.aload_n 3, 1) := dk_45 (dk_at dksX4_want_4 12 rfl rfl)
theorem dX4_want_105 : decode cX4_want 105 = .ok (.getfield 189, 3) := dk_180 0 189 (dk_at dksX4_want_4 13 rfl rfl)
theorem dX4_want_108 : decode cX4_want 108 = .ok (.iload 6, 2) := dk_21 6 (dk_at dksX4_want_4 16 rfl rfl)
theorem dX4_want_110 : decode cX4_want 110 = .ok (.invokevirtual 25, 3) := dk_182 0 25 (dk_at dksX4_want_4 18 rfl rfl)
theorem dX4_want_113 : decode cX4_want 113 = .ok (.checkcast 45, 3) := dk_192 0 45 (dk_at dksX4_want_4 21 rfl rfl)
theorem dX4_want_116 : decode cX4_want 116 = .ok (.astore 7, 2) := dk_58 7 (dk_at dksX4_want_5 0 rfl rfl)
theorem dX4_want_118 : decode cX4_want 118 = .ok (.lload 4, 2) := dk_22 4 (dk_at dksX4_want_5 2 rfl rfl)
theorem dX4_want_120 : decode cX4_want 120 = .ok (.aload_n 0, 1) := dk_42 (dk_at dksX4_want_5 4 rfl rfl)
theorem dX4_want_121 : decode cX4_want 121 = .ok (.getfield 178, 3) := dk_180 0 178 (dk_at dksX4_want_5 5 rfl rfl)
theorem dX4_want_124 : decode cX4_want 124 = .ok (.aload 7, 2) := dk_25 7 (dk_at dksX4_want_5 8 rfl rfl)
theorem dX4_want_126 : decode cX4_want 126 = .ok (.getfield 47, 3) := dk_180 0 47 (dk_at dksX4_want_5 10 rfl rfl)
theorem dX4_want_129 : decode cX4_want 129 = .ok (.laload, 1) := dk_47 (dk_at dksX4_want_5 13 rfl rfl)
theorem dX4_want_130 : decode cX4_want 130 = .ok (.land, 1) := dk_127 (dk_at dksX4_want_5 14 rfl rfl)
theorem dX4_want_131 : decode cX4_want 131 = .ok (.lstore 4, 2) := dk_55 4 (dk_at dksX4_want_5 15 rfl rfl)
theorem dX4_want_133 : decode cX4_want 133 = .ok (.iinc 6 1, 3) := dk_132 6 1 (dk_at dksX4_want_5 17 rfl rfl)
theorem dX4_want_136 : decode cX4_want 136 = .ok (.goto (-44), 3) := dk_167 255 212 (dk_at dksX4_want_5 20 rfl rfl)
theorem dX4_want_139 : decode cX4_want 139 = .ok (.aload_n 3, 1) := dk_45 (dk_at dksX4_want_5 23 rfl rfl)
theorem dX4_want_140 : decode cX4_want 140 = .ok (.invokevirtual 202, 3) := dk_182 0 202 (dk_at dksX4_want_6 0 rfl rfl)
theorem dX4_want_143 : decode cX4_want 143 = .ok (.ifCond .eq 16, 3) := dk_153 0 16 (dk_at dksX4_want_6 3 rfl rfl)
theorem dX4_want_146 : decode cX4_want 146 = .ok (.lload 4, 2) := dk_22 4 (dk_at dksX4_want_6 6 rfl rfl)
theorem dX4_want_148 : decode cX4_want 148 = .ok (.aload_n 0, 1) := dk_42 (dk_at dksX4_want_6 8 rfl rfl)
theorem dX4_want_149 : decode cX4_want 149 = .ok (.invokevirtual 205, 3) := dk_182 0 205 (dk_at dksX4_want_6 9 rfl rfl)
theorem dX4_want_152 : decode cX4_want 152 = .ok (.ldc2_w 181, 3) := dk_20 0 181 (dk_at dksX4_want_6 12 rfl rfl)
theorem dX4_want_155 : decode cX4_want 155 = .ok (.lxor, 1) := dk_131 (dk_at dksX4_want_6 15 rfl rfl)
theorem dX4_want_156 : decode cX4_want 156 = .ok (.land, 1) := dk_127 (dk_at dksX4_want_6 16 rfl rfl)
theorem dX4_want_157 : decode cX4_want 157 = .ok (.lstore 4, 2) := dk_55 4 (dk_at dksX4_want_6 17 rfl rfl)
theorem dX4_want_159 : decode cX4_want 159 = .ok (.lload 4, 2) := dk_22 4 (dk_at dksX4_want_6 19 rfl rfl)
theorem dX4_want_161 : decode cX4_want 161 = .ok (.aload_n 0, 1) := dk_42 (dk_at dksX4_want_6 21 rfl rfl)
theorem dX4_want_162 : decode cX4_want 162 = .ok (.getfield 151, 3) := dk_180 0 151 (dk_at dksX4_want_7 0 rfl rfl)
theorem dX4_want_165 : decode cX4_want 165 = .ok (.iload_n 2, 1) := dk_28 (dk_at dksX4_want_7 3 rfl rfl)
theorem dX4_want_166 : decode cX4_want 166 = .ok (.laload, 1) := dk_47 (dk_at dksX4_want_7 4 rfl rfl)
theorem dX4_want_167 : decode cX4_want 167 = .ok (.lor, 1) := dk_129 (dk_at dksX4_want_7 5 rfl rfl)
theorem dX4_want_168 : decode cX4_want 168 = .ok (.lstore 4, 2) := dk_55 4 (dk_at dksX4_want_7 6 rfl rfl)
theorem dX4_want_170 : decode cX4_want 170 = .ok (.iload_n 1, 1) := dk_27 (dk_at dksX4_want_7 8 rfl rfl)
theorem dX4_want_171 : decode cX4_want 171 = .ok (.lload 4, 2) := dk_22 4 (dk_at dksX4_want_7 9 rfl rfl)
theorem dX4_want_173 : decode cX4_want 173 = .ok (.aload_n 0, 1) := dk_42 (dk_at dksX4_want_7 11 rfl rfl)
theorem dX4_want_174 : decode cX4_want 174 = .ok (.getfield 178, 3) := dk_180 0 178 (dk_at dksX4_want_7 12 rfl rfl)
theorem dX4_want_177 : decode cX4_want 177 = .ok (.iload_n 2, 1) := dk_28 (dk_at dksX4_want_7 15 rfl rfl)
theorem dX4_want_178 : decode cX4_want 178 = .ok (.laload, 1) := dk_47 (dk_at dksX4_want_7 16 rfl rfl)
theorem dX4_want_179 : decode cX4_want 179 = .ok (.lcmp, 1) := dk_148 (dk_at dksX4_want_7 17 rfl rfl)
theorem dX4_want_180 : decode cX4_want 180 = .ok (.ifCond .eq 7, 3) := dk_153 0 7 (dk_at dksX4_want_7 18 rfl rfl)
theorem dX4_want_183 : decode cX4_want 183 = .ok (.iconst 1, 1) := dk_4 (dk_at dksX4_want_7 21 rfl rfl)
theorem dX4_want_184 : decode cX4_want 184 = .ok (.goto 4, 3) := dk_167 0 4 (dk_at dksX4_want_8 0 rfl rfl)
theorem dX4_want_187 : decode cX4_want 187 = .ok (.iconst 0, 1) := dk_3 (dk_at dksX4_want_8 3 rfl rfl)
theorem dX4_want_188 : decode cX4_want 188 = .ok (.ior, 1) := dk_128 (dk_at dksX4_want_8 4 rfl rfl)
theorem dX4_want_189 : decode cX4_want 189 = .ok (.istore_n 1, 1) := dk_60 (dk_at dksX4_want_8 5 rfl rfl)
theorem dX4_want_190 : decode cX4_want 190 = .ok (.aload_n 0, 1) := dk_42 (dk_at dksX4_want_8 6 rfl rfl)
theorem dX4_want_191 : decode cX4_want 191 = .ok (.getfield 178, 3) := dk_180 0 178 (dk_at dksX4_want_8 7 rfl rfl)
theorem dX4_want_194 : decode cX4_want 194 = .ok (.iload_n 2, 1) := dk_28 (dk_at dksX4_want_8 10 rfl rfl)
theorem dX4_want_195 : decode cX4_want 195 = .ok (.lload 4, 2) := dk_22 4 (dk_at dksX4_want_8 11 rfl rfl)
theorem dX4_want_197 : decode cX4_want 197 = .ok (.lastore, 1) := dk_80 (dk_at dksX4_want_8 13 rfl rfl)
theorem dX4_want_198 : decode cX4_want 198 = .ok (.iinc 2 (-1), 3) := dk_132 2 255 (dk_at dksX4_want_8 14 rfl rfl)
theorem dX4_want_201 : decode cX4_want 201 = .ok (.goto (-159), 3) := dk_167 255 97 (dk_at dksX4_want_8 17 rfl rfl)
theorem dX4_want_204 : decode cX4_want 204 = .ok (.goto (-178), 3) := dk_167 255 78 (dk_at dksX4_want_8 20 rfl rfl)
theorem dX4_want_207 : decode cX4_want 207 = .ok (.return_, 1) := dk_177 (dk_at dksX4_want_8 23 rfl rfl)
abbrev cX4_all : ByteArray := prog_14_method_10_code
def yX4_all : MethodName := ⟨RX4, "all", "()J"⟩
def dkwX4_all_0 : List UInt8 := [10, 42, 180, 0, 19, 182, 0, 29, 121, 10, 101, 173]
abbrev dktX4_all_0 : List UInt8 := dkwX4_all_0 ++ []
theorem dksX4_all_0 : cX4_all.data.toList.drop 0 = dktX4_all_0 := by decide +kernel
theorem dX4_all_0 : decode cX4_all 0 = .ok (.lconst 1, 1) := dk_10 (dk_at dksX4_all_0 0 rfl rfl)
theorem dX4_all_1 : decode cX4_all 1 = .ok (.aload_n 0, 1) := dk_42 (dk_at dksX4_all_0 1 rfl rfl)
theorem dX4_all_2 : decode cX4_all 2 = .ok (.getfield 19, 3) := dk_180 0 19 (dk_at dksX4_all_0 2 rfl rfl)
theorem dX4_all_5 : decode cX4_all 5 = .ok (.invokevirtual 29, 3) := dk_182 0 29 (dk_at dksX4_all_0 5 rfl rfl)
theorem dX4_all_8 : decode cX4_all 8 = .ok (.lshl, 1) := dk_121 (dk_at dksX4_all_0 8 rfl rfl)
theorem dX4_all_9 : decode cX4_all 9 = .ok (.lconst 1, 1) := dk_10 (dk_at dksX4_all_0 9 rfl rfl)
theorem dX4_all_10 : decode cX4_all 10 = .ok (.lsub, 1) := dk_101 (dk_at dksX4_all_0 10 rfl rfl)
theorem dX4_all_11 : decode cX4_all 11 = .ok (.lreturn, 1) := dk_173 (dk_at dksX4_all_0 11 rfl rfl)
abbrev cX4_set : ByteArray := prog_14_method_11_code
def yX4_set : MethodName := ⟨RX4, "set", "([JJ)V"⟩
def dkwX4_set_0 : List UInt8 := [3, 62, 29, 42, 190, 162, 0, 13, 42, 29, 31, 80, 132, 3, 1, 167, 255, 243, 177]
abbrev dktX4_set_0 : List UInt8 := dkwX4_set_0 ++ []
theorem dksX4_set_0 : cX4_set.data.toList.drop 0 = dktX4_set_0 := by decide +kernel
theorem dX4_set_0 : decode cX4_set 0 = .ok (.iconst 0, 1) := dk_3 (dk_at dksX4_set_0 0 rfl rfl)
theorem dX4_set_1 : decode cX4_set 1 = .ok (.istore_n 3, 1) := dk_62 (dk_at dksX4_set_0 1 rfl rfl)
theorem dX4_set_2 : decode cX4_set 2 = .ok (.iload_n 3, 1) := dk_29 (dk_at dksX4_set_0 2 rfl rfl)
theorem dX4_set_3 : decode cX4_set 3 = .ok (.aload_n 0, 1) := dk_42 (dk_at dksX4_set_0 3 rfl rfl)
theorem dX4_set_4 : decode cX4_set 4 = .ok (.arraylength, 1) := dk_190 (dk_at dksX4_set_0 4 rfl rfl)
theorem dX4_set_5 : decode cX4_set 5 = .ok (.if_icmp .ge 13, 3) := dk_162 0 13 (dk_at dksX4_set_0 5 rfl rfl)
theorem dX4_set_8 : decode cX4_set 8 = .ok (.aload_n 0, 1) := dk_42 (dk_at dksX4_set_0 8 rfl rfl)
theorem dX4_set_9 : decode cX4_set 9 = .ok (.iload_n 3, 1) := dk_29 (dk_at dksX4_set_0 9 rfl rfl)
theorem dX4_set_10 : decode cX4_set 10 = .ok (.lload_n 1, 1) := dk_31 (dk_at dksX4_set_0 10 rfl rfl)
theorem dX4_set_11 : decode cX4_set 11 = .ok (.lastore, 1) := dk_80 (dk_at dksX4_set_0 11 rfl rfl)
theorem dX4_set_12 : decode cX4_set 12 = .ok (.iinc 3 1, 3) := dk_132 3 1 (dk_at dksX4_set_0 12 rfl rfl)
theorem dX4_set_15 : decode cX4_set 15 = .ok (.goto (-13), 3) := dk_167 255 243 (dk_at dksX4_set_0 15 rfl rfl)
theorem dX4_set_18 : decode cX4_set 18 = .ok (.return_, 1) := dk_177 (dk_at dksX4_set_0 18 rfl rfl)
abbrev cX4_bold : ByteArray := prog_14_method_9_code
def yX4_bold : MethodName := ⟨RX4, "bold", "()J"⟩
def dkwX4_bold_2 : List UInt8 := [132, 3, 1, 167, 255, 211, 31, 173]
abbrev dktX4_bold_2 : List UInt8 := dkwX4_bold_2 ++ []
def dkwX4_bold_1 : List UInt8 := [192, 0, 88, 58, 4, 25, 4, 182, 0, 147, 153, 0, 13, 31, 10, 25, 4, 180, 0, 98, 121, 129, 64]
abbrev dktX4_bold_1 : List UInt8 := dkwX4_bold_1 ++ dktX4_bold_2
def dkwX4_bold_0 : List UInt8 := [9, 64, 3, 62, 29, 42, 180, 0, 19, 182, 0, 29, 162, 0, 40, 42, 180, 0, 19, 29, 182, 0, 25]
abbrev dktX4_bold_0 : List UInt8 := dkwX4_bold_0 ++ dktX4_bold_1
theorem dksX4_bold_0 : cX4_bold.data.toList.drop 0 = dktX4_bold_0 := by decide +kernel
theorem dksX4_bold_1 : cX4_bold.data.toList.drop 23 = dktX4_bold_1 := dk_seg dksX4_bold_0 23 rfl rfl
theorem dksX4_bold_2 : cX4_bold.data.toList.drop 46 = dktX4_bold_2 := dk_seg dksX4_bold_1 23 rfl rfl
theorem dX4_bold_0 : decode cX4_bold 0 = .ok (.lconst 0, 1) := dk_9 (dk_at dksX4_bold_0 0 rfl rfl)
theorem dX4_bold_1 : decode cX4_bold 1 = .ok (.lstore_n 1, 1) := dk_64 (dk_at dksX4_bold_0 1 rfl rfl)
theorem dX4_bold_2 : decode cX4_bold 2 = .ok (.iconst 0, 1) := dk_3 (dk_at dksX4_bold_0 2 rfl rfl)
theorem dX4_bold_3 : decode cX4_bold 3 = .ok (.istore_n 3, 1) := dk_62 (dk_at dksX4_bold_0 3 rfl rfl)
theorem dX4_bold_4 : decode cX4_bold 4 = .ok (.iload_n 3, 1) := dk_29 (dk_at dksX4_bold_0 4 rfl rfl)
theorem dX4_bold_5 : decode cX4_bold 5 = .ok (.aload_n 0, 1) := dk_42 (dk_at dksX4_bold_0 5 rfl rfl)
theorem dX4_bold_6 : decode cX4_bold 6 = .ok (.getfield 19, 3) := dk_180 0 19 (dk_at dksX4_bold_0 6 rfl rfl)
theorem dX4_bold_9 : decode cX4_bold 9 = .ok (.invokevirtual 29, 3) := dk_182 0 29 (dk_at dksX4_bold_0 9 rfl rfl)
theorem dX4_bold_12 : decode cX4_bold 12 = .ok (.if_icmp .ge 40, 3) := dk_162 0 40 (dk_at dksX4_bold_0 12 rfl rfl)
theorem dX4_bold_15 : decode cX4_bold 15 = .ok (.aload_n 0, 1) := dk_42 (dk_at dksX4_bold_0 15 rfl rfl)
theorem dX4_bold_16 : decode cX4_bold 16 = .ok (.getfield 19, 3) := dk_180 0 19 (dk_at dksX4_bold_0 16 rfl rfl)
theorem dX4_bold_19 : decode cX4_bold 19 = .ok (.iload_n 3, 1) := dk_29 (dk_at dksX4_bold_0 19 rfl rfl)
theorem dX4_bold_20 : decode cX4_bold 20 = .ok (.invokevirtual 25, 3) := dk_182 0 25 (dk_at dksX4_bold_0 20 rfl rfl)
theorem dX4_bold_23 : decode cX4_bold 23 = .ok (.checkcast 88, 3) := dk_192 0 88 (dk_at dksX4_bold_1 0 rfl rfl)
theorem dX4_bold_26 : decode cX4_bold 26 = .ok (.astore 4, 2) := dk_58 4 (dk_at dksX4_bold_1 3 rfl rfl)
theorem dX4_bold_28 : decode cX4_bold 28 = .ok (.aload 4, 2) := dk_25 4 (dk_at dksX4_bold_1 5 rfl rfl)
theorem dX4_bold_30 : decode cX4_bold 30 = .ok (.invokevirtual 147, 3) := dk_182 0 147 (dk_at dksX4_bold_1 7 rfl rfl)
theorem dX4_bold_33 : decode cX4_bold 33 = .ok (.ifCond .eq 13, 3) := dk_153 0 13 (dk_at dksX4_bold_1 10 rfl rfl)
theorem dX4_bold_36 : decode cX4_bold 36 = .ok (.lload_n 1, 1) := dk_31 (dk_at dksX4_bold_1 13 rfl rfl)
theorem dX4_bold_37 : decode cX4_bold 37 = .ok (.lconst 1, 1) := dk_10 (dk_at dksX4_bold_1 14 rfl rfl)
theorem dX4_bold_38 : decode cX4_bold 38 = .ok (.aload 4, 2) := dk_25 4 (dk_at dksX4_bold_1 15 rfl rfl)
theorem dX4_bold_40 : decode cX4_bold 40 = .ok (.getfield 98, 3) := dk_180 0 98 (dk_at dksX4_bold_1 17 rfl rfl)
theorem dX4_bold_43 : decode cX4_bold 43 = .ok (.lshl, 1) := dk_121 (dk_at dksX4_bold_1 20 rfl rfl)
theorem dX4_bold_44 : decode cX4_bold 44 = .ok (.lor, 1) := dk_129 (dk_at dksX4_bold_1 21 rfl rfl)
theorem dX4_bold_45 : decode cX4_bold 45 = .ok (.lstore_n 1, 1) := dk_64 (dk_at dksX4_bold_1 22 rfl rfl)
theorem dX4_bold_46 : decode cX4_bold 46 = .ok (.iinc 3 1, 3) := dk_132 3 1 (dk_at dksX4_bold_2 0 rfl rfl)
theorem dX4_bold_49 : decode cX4_bold 49 = .ok (.goto (-45), 3) := dk_167 255 211 (dk_at dksX4_bold_2 3 rfl rfl)
theorem dX4_bold_52 : decode cX4_bold 52 = .ok (.lload_n 1, 1) := dk_31 (dk_at dksX4_bold_2 6 rfl rfl)
theorem dX4_bold_53 : decode cX4_bold 53 = .ok (.lreturn, 1) := dk_173 (dk_at dksX4_bold_2 7 rfl rfl)
abbrev cX4_be : ByteArray := prog_14_method_14_code
def yX4_be : MethodName := ⟨RX4, "be", "()V"⟩
def dkwX4_be_8 : List UInt8 := [167, 255, 98, 177]
abbrev dktX4_be_8 : List UInt8 := dkwX4_be_8 ++ []
def dkwX4_be_7 : List UInt8 := [153, 0, 7, 4, 167, 0, 4, 3, 128, 60, 42, 180, 0, 175, 28, 33, 80, 132, 2, 1, 167, 255, 109]
abbrev dktX4_be_7 : List UInt8 := dkwX4_be_7 ++ dktX4_be_8
def dkwX4_be_6 : List UInt8 := [180, 0, 47, 47, 129, 127, 127, 66, 132, 5, 1, 167, 255, 168, 27, 33, 42, 180, 0, 175, 28, 47, 148]
abbrev dktX4_be_6 : List UInt8 := dkwX4_be_6 ++ dktX4_be_7
def dkwX4_be_5 : List UInt8 := [180, 0, 47, 47, 20, 0, 181, 131, 42, 180, 0, 151, 25, 6, 180, 0, 47, 47, 42, 180, 0, 175, 25, 6]
abbrev dktX4_be_5 : List UInt8 := dkwX4_be_5 ++ dktX4_be_6
def dkwX4_be_4 : List UInt8 := [192, 0, 45, 180, 0, 172, 21, 5, 182, 0, 25, 192, 0, 45, 58, 6, 33, 42, 180, 0, 154, 25, 6]
abbrev dktX4_be_4 : List UInt8 := dkwX4_be_4 ++ dktX4_be_5
def dkwX4_be_3 : List UInt8 := [182, 0, 25, 192, 0, 45, 180, 0, 172, 182, 0, 29, 162, 0, 72, 42, 180, 0, 16, 28, 182, 0, 25]
abbrev dktX4_be_3 : List UInt8 := dkwX4_be_3 ++ dktX4_be_4
def dkwX4_be_2 : List UInt8 := [154, 0, 7, 9, 167, 0, 7, 42, 182, 0, 168, 66, 3, 54, 5, 21, 5, 42, 180, 0, 16, 28]
abbrev dktX4_be_2 : List UInt8 := dkwX4_be_2 ++ dktX4_be_3
def dkwX4_be_1 : List UInt8 := [4, 60, 27, 153, 0, 160, 3, 60, 3, 61, 28, 42, 180, 0, 16, 182, 0, 29, 162, 0, 142, 28]
abbrev dktX4_be_1 : List UInt8 := dkwX4_be_1 ++ dktX4_be_2
def dkwX4_be_0 : List UInt8 := [42, 42, 180, 0, 16, 182, 0, 29, 188, 11, 181, 0, 175, 42, 180, 0, 175, 42, 182, 0, 168, 184, 0, 198]
abbrev dktX4_be_0 : List UInt8 := dkwX4_be_0 ++ dktX4_be_1
theorem dksX4_be_0 : cX4_be.data.toList.drop 0 = dktX4_be_0 := by decide +kernel
theorem dksX4_be_1 : cX4_be.data.toList.drop 24 = dktX4_be_1 := dk_seg dksX4_be_0 24 rfl rfl
theorem dksX4_be_2 : cX4_be.data.toList.drop 46 = dktX4_be_2 := dk_seg dksX4_be_1 22 rfl rfl
theorem dksX4_be_3 : cX4_be.data.toList.drop 68 = dktX4_be_3 := dk_seg dksX4_be_2 22 rfl rfl
theorem dksX4_be_4 : cX4_be.data.toList.drop 91 = dktX4_be_4 := dk_seg dksX4_be_3 23 rfl rfl
theorem dksX4_be_5 : cX4_be.data.toList.drop 114 = dktX4_be_5 := dk_seg dksX4_be_4 23 rfl rfl
theorem dksX4_be_6 : cX4_be.data.toList.drop 138 = dktX4_be_6 := dk_seg dksX4_be_5 24 rfl rfl
theorem dksX4_be_7 : cX4_be.data.toList.drop 161 = dktX4_be_7 := dk_seg dksX4_be_6 23 rfl rfl
theorem dksX4_be_8 : cX4_be.data.toList.drop 184 = dktX4_be_8 := dk_seg dksX4_be_7 23 rfl rfl
theorem dX4_be_0 : decode cX4_be 0 = .ok (.aload_n 0, 1) := dk_42 (dk_at dksX4_be_0 0 rfl rfl)
theorem dX4_be_1 : decode cX4_be 1 = .ok (.aload_n 0, 1) := dk_42 (dk_at dksX4_be_0 1 rfl rfl)
theorem dX4_be_2 : decode cX4_be 2 = .ok (.getfield 16, 3) := dk_180 0 16 (dk_at dksX4_be_0 2 rfl rfl)
theorem dX4_be_5 : decode cX4_be 5 = .ok (.invokevirtual 29, 3) := dk_182 0 29 (dk_at dksX4_be_0 5 rfl rfl)
theorem dX4_be_8 : decode cX4_be 8 = .ok (.newarray .long, 2) := dk_188_11 (dk_at dksX4_be_0 8 rfl rfl)
theorem dX4_be_10 : decode cX4_be 10 = .ok (.putfield 175, 3) := dk_181 0 175 (dk_at dksX4_be_0 10 rfl rfl)
theorem dX4_be_13 : decode cX4_be 13 = .ok (.aload_n 0, 1) := dk_42 (dk_at dksX4_be_0 13 rfl rfl)
theorem dX4_be_14 : decode cX4_be 14 = .ok (.getfield 175, 3) := dk_180 0 175 (dk_at dksX4_be_0 14 rfl rfl)
theorem dX4_be_17 : decode cX4_be 17 = .ok (.aload_n 0, 1) := dk_42 (dk_at dksX4_be_0 17 rfl rfl)
theorem dX4_be_18 : decode cX4_be 18 = .ok (.invokevirtual 168, 3) := dk_182 0 168 (dk_at dksX4_be_0 18 rfl rfl)
theorem dX4_be_21 : decode cX4_be 21 = .ok (.invokestatic 198, 3) := dk_184 0 198 (dk_at dksX4_be_0 21 rfl rfl)
theorem dX4_be_24 : decode cX4_be 24 = .ok (.iconst 1, 1) := dk_4 (dk_at dksX4_be_1 0 rfl rfl)
theorem dX4_be_25 : decode cX4_be 25 = .ok (.istore_n 1, 1) := dk_60 (dk_at dksX4_be_1 1 rfl rfl)
theorem dX4_be_26 : decode cX4_be 26 = .ok (.iload_n 1, 1) := dk_27 (dk_at dksX4_be_1 2 rfl rfl)
theorem dX4_be_27 : decode cX4_be 27 = .ok (.ifCond .eq 160, 3) := dk_153 0 160 (dk_at dksX4_be_1 3 rfl rfl)
theorem dX4_be_30 : decode cX4_be 30 = .ok (.iconst 0, 1) := dk_3 (dk_at dksX4_be_1 6 rfl rfl)
theorem dX4_be_31 : decode cX4_be 31 = .ok (.istore_n 1, 1) := dk_60 (dk_at dksX4_be_1 7 rfl rfl)
theorem dX4_be_32 : decode cX4_be 32 = .ok (.iconst 0, 1) := dk_3 (dk_at dksX4_be_1 8 rfl rfl)
theorem dX4_be_33 : decode cX4_be 33 = .ok (.istore_n 2, 1) := dk_61 (dk_at dksX4_be_1 9 rfl rfl)
theorem dX4_be_34 : decode cX4_be 34 = .ok (.iload_n 2, 1) := dk_28 (dk_at dksX4_be_1 10 rfl rfl)
theorem dX4_be_35 : decode cX4_be 35 = .ok (.aload_n 0, 1) := dk_42 (dk_at dksX4_be_1 11 rfl rfl)
theorem dX4_be_36 : decode cX4_be 36 = .ok (.getfield 16, 3) := dk_180 0 16 (dk_at dksX4_be_1 12 rfl rfl)
theorem dX4_be_39 : decode cX4_be 39 = .ok (.invokevirtual 29, 3) := dk_182 0 29 (dk_at dksX4_be_1 15 rfl rfl)
theorem dX4_be_42 : decode cX4_be 42 = .ok (.if_icmp .ge 142, 3) := dk_162 0 142 (dk_at dksX4_be_1 18 rfl rfl)
theorem dX4_be_45 : decode cX4_be 45 = .ok (.iload_n 2, 1) := dk_28 (dk_at dksX4_be_1 21 rfl rfl)
theorem dX4_be_46 : decode cX4_be 46 = .ok (.ifCond .ne 7, 3) := dk_154 0 7 (dk_at dksX4_be_2 0 rfl rfl)
theorem dX4_be_49 : decode cX4_be 49 = .ok (.lconst 0, 1) := dk_9 (dk_at dksX4_be_2 3 rfl rfl)
theorem dX4_be_50 : decode cX4_be 50 = .ok (.goto 7, 3) := dk_167 0 7 (dk_at dksX4_be_2 4 rfl rfl)
theorem dX4_be_53 : decode cX4_be 53 = .ok (.aload_n 0, 1) := dk_42 (dk_at dksX4_be_2 7 rfl rfl)
theorem dX4_be_54 : decode cX4_be 54 = .ok (.invokevirtual 168, 3) := dk_182 0 168 (dk_at dksX4_be_2 8 rfl rfl)
theorem dX4_be_57 : decode cX4_be 57 = .ok (.lstore_n 3, 1) := dk_66 (dk_at dksX4_be_2 11 rfl rfl)
theorem dX4_be_58 : decode cX4_be 58 = .ok (.iconst 0, 1) := dk_3 (dk_at dksX4_be_2 12 rfl rfl)
theorem dX4_be_59 : decode cX4_be 59 = .ok (.istore 5, 2) := dk_54 5 (dk_at dksX4_be_2 13 rfl rfl)
theorem dX4_be_61 : decode cX4_be 61 = .ok (.iload 5, 2) := dk_21 5 (dk_at dksX4_be_2 15 rfl rfl)
theorem dX4_be_63 : decode cX4_be 63 = .ok (.aload_n 0, 1) := dk_42 (dk_at dksX4_be_2 17 rfl rfl)
theorem dX4_be_64 : decode cX4_be 64 = .ok (.getfield 16, 3) := dk_180 0 16 (dk_at dksX4_be_2 18 rfl rfl)
theorem dX4_be_67 : decode cX4_be 67 = .ok (.iload_n 2, 1) := dk_28 (dk_at dksX4_be_2 21 rfl rfl)
theorem dX4_be_68 : decode cX4_be 68 = .ok (.invokevirtual 25, 3) := dk_182 0 25 (dk_at dksX4_be_3 0 rfl rfl)
theorem dX4_be_71 : decode cX4_be 71 = .ok (.checkcast 45, 3) := dk_192 0 45 (dk_at dksX4_be_3 3 rfl rfl)
theorem dX4_be_74 : decode cX4_be 74 = .ok (.getfield 172, 3) := dk_180 0 172 (dk_at dksX4_be_3 6 rfl rfl)
theorem dX4_be_77 : decode cX4_be 77 = .ok (.invokevirtual 29, 3) := dk_182 0 29 (dk_at dksX4_be_3 9 rfl rfl)
theorem dX4_be_80 : decode cX4_be 80 = .ok (.if_icmp .ge 72, 3) := dk_162 0 72 (dk_at dksX4_be_3 12 rfl rfl)
theorem dX4_be_83 : decode cX4_be 83 = .ok (.aload_n 0, 1) := dk_42 (dk_at dksX4_be_3 15 rfl rfl)
theorem dX4_be_84 : decode cX4_be 84 = .ok (.getfield 16, 3) := dk_180 0 16 (dk_at dksX4_be_3 16 rfl rfl)
theorem dX4_be_87 : decode cX4_be 87 = .ok (.iload_n 2, 1) := dk_28 (dk_at dksX4_be_3 19 rfl rfl)
theorem dX4_be_88 : decode cX4_be 88 = .ok (.invokevirtual 25, 3) := dk_182 0 25 (dk_at dksX4_be_3 20 rfl rfl)
theorem dX4_be_91 : decode cX4_be 91 = .ok (.checkcast 45, 3) := dk_192 0 45 (dk_at dksX4_be_4 0 rfl rfl)
theorem dX4_be_94 : decode cX4_be 94 = .ok (.getfield 172, 3) := dk_180 0 172 (dk_at dksX4_be_4 3 rfl rfl)
theorem dX4_be_97 : decode cX4_be 97 = .ok (.iload 5, 2) := dk_21 5 (dk_at dksX4_be_4 6 rfl rfl)
theorem dX4_be_99 : decode cX4_be 99 = .ok (.invokevirtual 25, 3) := dk_182 0 25 (dk_at dksX4_be_4 8 rfl rfl)
theorem dX4_be_102 : decode cX4_be 102 = .ok (.checkcast 45, 3) := dk_192 0 45 (dk_at dksX4_be_4 11 rfl rfl)
theorem dX4_be_105 : decode cX4_be 105 = .ok (.astore 6, 2) := dk_58 6 (dk_at dksX4_be_4 14 rfl rfl)
theorem dX4_be_107 : decode cX4_be 107 = .ok (.lload_n 3, 1) := dk_33 (dk_at dksX4_be_4 16 rfl rfl)
theorem dX4_be_108 : decode cX4_be 108 = .ok (.aload_n 0, 1) := dk_42 (dk_at dksX4_be_4 17 rfl rfl)
theorem dX4_be_109 : decode cX4_be 109 = .ok (.getfield 154, 3) := dk_180 0 154 (dk_at dksX4_be_4 18 rfl rfl)
theorem dX4_be_112 : decode cX4_be 112 = .ok (.aload 6, 2) := dk_25 6 (dk_at dksX4_be_4 21 rfl rfl)
theorem dX4_be_114 : decode cX4_be 114 = .ok (.getfield 47, 3) := dk_180 0 47 (dk_at dksX4_be_5 0 rfl rfl)
theorem dX4_be_117 : decode cX4_be 117 = .ok (.laload, 1) := dk_47 (dk_at dksX4_be_5 3 rfl rfl)
theorem dX4_be_118 : decode cX4_be 118 = .ok (.ldc2_w 181, 3) := dk_20 0 181 (dk_at dksX4_be_5 4 rfl rfl)
theorem dX4_be_121 : decode cX4_be 121 = .ok (.lxor, 1) := dk_131 (dk_at dksX4_be_5 7 rfl rfl)
theorem dX4_be_122 : decode cX4_be 122 = .ok (.aload_n 0, 1) := dk_42 (dk_at dksX4_be_5 8 rfl rfl)
theorem dX4_be_123 : decode cX4_be 123 = .ok (.getfield 151, 3) := dk_180 0 151 (dk_at dksX4_be_5 9 rfl rfl)
theorem dX4_be_126 : decode cX4_be 126 = .ok (.aload 6, 2) := dk_25 6 (dk_at dksX4_be_5 12 rfl rfl)
theorem dX4_be_128 : decode cX4_be 128 = .ok (.getfield 47, 3) := dk_180 0 47 (dk_at dksX4_be_5 14 rfl rfl)
theorem dX4_be_131 : decode cX4_be 131 = .ok (.laload, 1) := dk_47 (dk_at dksX4_be_5 17 rfl rfl)
theorem dX4_be_132 : decode cX4_be 132 = .ok (.aload_n 0, 1) := dk_42 (dk_at dksX4_be_5 18 rfl rfl)
theorem dX4_be_133 : decode cX4_be 133 = .ok (.getfield 175, 3) := dk_180 0 175 (dk_at dksX4_be_5 19 rfl rfl)
theorem dX4_be_136 : decode cX4_be 136 = .ok (.aload 6, 2) := dk_25 6 (dk_at dksX4_be_5 22 rfl rfl)
theorem dX4_be_138 : decode cX4_be 138 = .ok (.getfield 47, 3) := dk_180 0 47 (dk_at dksX4_be_6 0 rfl rfl)
theorem dX4_be_141 : decode cX4_be 141 = .ok (.laload, 1) := dk_47 (dk_at dksX4_be_6 3 rfl rfl)
theorem dX4_be_142 : decode cX4_be 142 = .ok (.lor, 1) := dk_129 (dk_at dksX4_be_6 4 rfl rfl)
theorem dX4_be_143 : decode cX4_be 143 = .ok (.land, 1) := dk_127 (dk_at dksX4_be_6 5 rfl rfl)
theorem dX4_be_144 : decode cX4_be 144 = .ok (.land, 1) := dk_127 (dk_at dksX4_be_6 6 rfl rfl)
theorem dX4_be_145 : decode cX4_be 145 = .ok (.lstore_n 3, 1) := dk_66 (dk_at dksX4_be_6 7 rfl rfl)
theorem dX4_be_146 : decode cX4_be 146 = .ok (.iinc 5 1, 3) := dk_132 5 1 (dk_at dksX4_be_6 8 rfl rfl)
theorem dX4_be_149 : decode cX4_be 149 = .ok (.goto (-88), 3) := dk_167 255 168 (dk_at dksX4_be_6 11 rfl rfl)
theorem dX4_be_152 : decode cX4_be 152 = .ok (.iload_n 1, 1) := dk_27 (dk_at dksX4_be_6 14 rfl rfl)
theorem dX4_be_153 : decode cX4_be 153 = .ok (.lload_n 3, 1) := dk_33 (dk_at dksX4_be_6 15 rfl rfl)
theorem dX4_be_154 : decode cX4_be 154 = .ok (.aload_n 0, 1) := dk_42 (dk_at dksX4_be_6 16 rfl rfl)
theorem dX4_be_155 : decode cX4_be 155 = .ok (.getfield 175, 3) := dk_180 0 175 (dk_at dksX4_be_6 17 rfl rfl)
theorem dX4_be_158 : decode cX4_be 158 = .ok (.iload_n 2, 1) := dk_28 (dk_at dksX4_be_6 20 rfl rfl)
theorem dX4_be_159 : decode cX4_be 159 = .ok (.laload, 1) := dk_47 (dk_at dksX4_be_6 21 rfl rfl)
theorem dX4_be_160 : decode cX4_be 160 = .ok (.lcmp, 1) := dk_148 (dk_at dksX4_be_6 22 rfl rfl)
theorem dX4_be_161 : decode cX4_be 161 = .ok (.ifCond .eq 7, 3) := dk_153 0 7 (dk_at dksX4_be_7 0 rfl rfl)
theorem dX4_be_164 : decode cX4_be 164 = .ok (.iconst 1, 1) := dk_4 (dk_at dksX4_be_7 3 rfl rfl)
theorem dX4_be_165 : decode cX4_be 165 = .ok (.goto 4, 3) := dk_167 0 4 (dk_at dksX4_be_7 4 rfl rfl)
theorem dX4_be_168 : decode cX4_be 168 = .ok (.iconst 0, 1) := dk_3 (dk_at dksX4_be_7 7 rfl rfl)
theorem dX4_be_169 : decode cX4_be 169 = .ok (.ior, 1) := dk_128 (dk_at dksX4_be_7 8 rfl rfl)
theorem dX4_be_170 : decode cX4_be 170 = .ok (.istore_n 1, 1) := dk_60 (dk_at dksX4_be_7 9 rfl rfl)
theorem dX4_be_171 : decode cX4_be 171 = .ok (.aload_n 0, 1) := dk_42 (dk_at dksX4_be_7 10 rfl rfl)
theorem dX4_be_172 : decode cX4_be 172 = .ok (.getfield 175, 3) := dk_180 0 175 (dk_at dksX4_be_7 11 rfl rfl)
theorem dX4_be_175 : decode cX4_be 175 = .ok (.iload_n 2, 1) := dk_28 (dk_at dksX4_be_7 14 rfl rfl)
theorem dX4_be_176 : decode cX4_be 176 = .ok (.lload_n 3, 1) := dk_33 (dk_at dksX4_be_7 15 rfl rfl)
theorem dX4_be_177 : decode cX4_be 177 = .ok (.lastore, 1) := dk_80 (dk_at dksX4_be_7 16 rfl rfl)
theorem dX4_be_178 : decode cX4_be 178 = .ok (.iinc 2 1, 3) := dk_132 2 1 (dk_at dksX4_be_7 17 rfl rfl)
theorem dX4_be_181 : decode cX4_be 181 = .ok (.goto (-147), 3) := dk_167 255 109 (dk_at dksX4_be_7 20 rfl rfl)
theorem dX4_be_184 : decode cX4_be 184 = .ok (.goto (-158), 3) := dk_167 255 98 (dk_at dksX4_be_8 0 rfl rfl)
theorem dX4_be_187 : decode cX4_be 187 = .ok (.return_, 1) := dk_177 (dk_at dksX4_be_8 3 rfl rfl)
abbrev cX4_delay : ByteArray := prog_14_method_15_code
def yX4_delay : MethodName := ⟨RX4, "delay", "()V"⟩
def dkwX4_delay_7 : List UInt8 := [4, 167, 0, 4, 3, 128, 60, 42, 180, 0, 192, 28, 33, 80, 132, 2, 1, 167, 255, 111, 167, 255, 100, 177]
abbrev dktX4_delay_7 : List UInt8 := dkwX4_delay_7 ++ []
def dkwX4_delay_6 : List UInt8 := [167, 255, 179, 33, 42, 180, 0, 165, 28, 47, 129, 66, 27, 33, 42, 180, 0, 192, 28, 47, 148, 153, 0, 7]
abbrev dktX4_delay_6 : List UInt8 := dkwX4_delay_6 ++ dktX4_delay_7
def dkwX4_delay_5 : List UInt8 := [180, 0, 47, 47, 42, 180, 0, 151, 25, 6, 180, 0, 47, 47, 20, 0, 181, 131, 127, 127, 66, 132, 5, 1]
abbrev dktX4_delay_5 : List UInt8 := dkwX4_delay_5 ++ dktX4_delay_6
def dkwX4_delay_4 : List UInt8 := [192, 0, 45, 180, 0, 172, 21, 5, 182, 0, 25, 192, 0, 45, 58, 6, 33, 42, 180, 0, 192, 25, 6]
abbrev dktX4_delay_4 : List UInt8 := dkwX4_delay_4 ++ dktX4_delay_5
def dkwX4_delay_3 : List UInt8 := [182, 0, 25, 192, 0, 45, 180, 0, 172, 182, 0, 29, 162, 0, 61, 42, 180, 0, 16, 28, 182, 0, 25]
abbrev dktX4_delay_3 : List UInt8 := dkwX4_delay_3 ++ dktX4_delay_4
def dkwX4_delay_2 : List UInt8 := [154, 0, 7, 9, 167, 0, 7, 42, 182, 0, 168, 66, 3, 54, 5, 21, 5, 42, 180, 0, 16, 28]
abbrev dktX4_delay_2 : List UInt8 := dkwX4_delay_2 ++ dktX4_delay_3
def dkwX4_delay_1 : List UInt8 := [4, 60, 27, 153, 0, 158, 3, 60, 3, 61, 28, 42, 180, 0, 16, 182, 0, 29, 162, 0, 140, 28]
abbrev dktX4_delay_1 : List UInt8 := dkwX4_delay_1 ++ dktX4_delay_2
def dkwX4_delay_0 : List UInt8 := [42, 42, 180, 0, 16, 182, 0, 29, 188, 11, 181, 0, 192, 42, 180, 0, 192, 42, 182, 0, 168, 184, 0, 198]
abbrev dktX4_delay_0 : List UInt8 := dkwX4_delay_0 ++ dktX4_delay_1
theorem dksX4_delay_0 : cX4_delay.data.toList.drop 0 = dktX4_delay_0 := by decide +kernel
theorem dksX4_delay_1 : cX4_delay.data.toList.drop 24 = dktX4_delay_1 := dk_seg dksX4_delay_0 24 rfl rfl
theorem dksX4_delay_2 : cX4_delay.data.toList.drop 46 = dktX4_delay_2 := dk_seg dksX4_delay_1 22 rfl rfl
theorem dksX4_delay_3 : cX4_delay.data.toList.drop 68 = dktX4_delay_3 := dk_seg dksX4_delay_2 22 rfl rfl
theorem dksX4_delay_4 : cX4_delay.data.toList.drop 91 = dktX4_delay_4 := dk_seg dksX4_delay_3 23 rfl rfl
theorem dksX4_delay_5 : cX4_delay.data.toList.drop 114 = dktX4_delay_5 := dk_seg dksX4_delay_4 23 rfl rfl
theorem dksX4_delay_6 : cX4_delay.data.toList.drop 138 = dktX4_delay_6 := dk_seg dksX4_delay_5 24 rfl rfl
theorem dksX4_delay_7 : cX4_delay.data.toList.drop 162 = dktX4_delay_7 := dk_seg dksX4_delay_6 24 rfl rfl
theorem dX4_delay_0 : decode cX4_delay 0 = .ok (.aload_n 0, 1) := dk_42 (dk_at dksX4_delay_0 0 rfl rfl)
theorem dX4_delay_1 : decode cX4_delay 1 = .ok (.aload_n 0, 1) := dk_42 (dk_at dksX4_delay_0 1 rfl rfl)
theorem dX4_delay_2 : decode cX4_delay 2 = .ok (.getfield 16, 3) := dk_180 0 16 (dk_at dksX4_delay_0 2 rfl rfl)
theorem dX4_delay_5 : decode cX4_delay 5 = .ok (.invokevirtual 29, 3) := dk_182 0 29 (dk_at dksX4_delay_0 5 rfl rfl)
theorem dX4_delay_8 : decode cX4_delay 8 = .ok (.newarray .long, 2) := dk_188_11 (dk_at dksX4_delay_0 8 rfl rfl)
theorem dX4_delay_10 : decode cX4_delay 10 = .ok (.putfield 192, 3) := dk_181 0 192 (dk_at dksX4_delay_0 10 rfl rfl)
theorem dX4_delay_13 : decode cX4_delay 13 = .ok (.aload_n 0, 1) := dk_42 (dk_at dksX4_delay_0 13 rfl rfl)
theorem dX4_delay_14 : decode cX4_delay 14 = .ok (.getfield 192, 3) := dk_180 0 192 (dk_at dksX4_delay_0 14 rfl rfl)
theorem dX4_delay_17 : decode cX4_delay 17 = .ok (.aload_n 0, 1) := dk_42 (dk_at dksX4_delay_0 17 rfl rfl)
theorem dX4_delay_18 : decode cX4_delay 18 = .ok (.invokevirtual 168, 3) := dk_182 0 168 (dk_at dksX4_delay_0 18 rfl rfl)
theorem dX4_delay_21 : decode cX4_delay 21 = .ok (.invokestatic 198, 3) := dk_184 0 198 (dk_at dksX4_delay_0 21 rfl rfl)
theorem dX4_delay_24 : decode cX4_delay 24 = .ok (.iconst 1, 1) := dk_4 (dk_at dksX4_delay_1 0 rfl rfl)
theorem dX4_delay_25 : decode cX4_delay 25 = .ok (.istore_n 1, 1) := dk_60 (dk_at dksX4_delay_1 1 rfl rfl)
theorem dX4_delay_26 : decode cX4_delay 26 = .ok (.iload_n 1, 1) := dk_27 (dk_at dksX4_delay_1 2 rfl rfl)
theorem dX4_delay_27 : decode cX4_delay 27 = .ok (.ifCond .eq 158, 3) := dk_153 0 158 (dk_at dksX4_delay_1 3 rfl rfl)
theorem dX4_delay_30 : decode cX4_delay 30 = .ok (.iconst 0, 1) := dk_3 (dk_at dksX4_delay_1 6 rfl rfl)
theorem dX4_delay_31 : decode cX4_delay 31 = .ok (.istore_n 1, 1) := dk_60 (dk_at dksX4_delay_1 7 rfl rfl)
theorem dX4_delay_32 : decode cX4_delay 32 = .ok (.iconst 0, 1) := dk_3 (dk_at dksX4_delay_1 8 rfl rfl)
theorem dX4_delay_33 : decode cX4_delay 33 = .ok (.istore_n 2, 1) := dk_61 (dk_at dksX4_delay_1 9 rfl rfl)
theorem dX4_delay_34 : decode cX4_delay 34 = .ok (.iload_n 2, 1) := dk_28 (dk_at dksX4_delay_1 10 rfl rfl)
theorem dX4_delay_35 : decode cX4_delay 35 = .ok (.aload_n 0, 1) := dk_42 (dk_at dksX4_delay_1 11 rfl rfl)
theorem dX4_delay_36 : decode cX4_delay 36 = .ok (.getfield 16, 3) := dk_180 0 16 (dk_at dksX4_delay_1 12 rfl rfl)
theorem dX4_delay_39 : decode cX4_delay 39 = .ok (.invokevirtual 29, 3) := dk_182 0 29 (dk_at dksX4_delay_1 15 rfl rfl)
theorem dX4_delay_42 : decode cX4_delay 42 = .ok (.if_icmp .ge 140, 3) := dk_162 0 140 (dk_at dksX4_delay_1 18 rfl rfl)
theorem dX4_delay_45 : decode cX4_delay 45 = .ok (.iload_n 2, 1) := dk_28 (dk_at dksX4_delay_1 21 rfl rfl)
theorem dX4_delay_46 : decode cX4_delay 46 = .ok (.ifCond .ne 7, 3) := dk_154 0 7 (dk_at dksX4_delay_2 0 rfl rfl)
theorem dX4_delay_49 : decode cX4_delay 49 = .ok (.lconst 0, 1) := dk_9 (dk_at dksX4_delay_2 3 rfl rfl)
theorem dX4_delay_50 : decode cX4_delay 50 = .ok (.goto 7, 3) := dk_167 0 7 (dk_at dksX4_delay_2 4 rfl rfl)
theorem dX4_delay_53 : decode cX4_delay 53 = .ok (.aload_n 0, 1) := dk_42 (dk_at dksX4_delay_2 7 rfl rfl)
theorem dX4_delay_54 : decode cX4_delay 54 = .ok (.invokevirtual 168, 3) := dk_182 0 168 (dk_at dksX4_delay_2 8 rfl rfl)
theorem dX4_delay_57 : decode cX4_delay 57 = .ok (.lstore_n 3, 1) := dk_66 (dk_at dksX4_delay_2 11 rfl rfl)
theorem dX4_delay_58 : decode cX4_delay 58 = .ok (.iconst 0, 1) := dk_3 (dk_at dksX4_delay_2 12 rfl rfl)
theorem dX4_delay_59 : decode cX4_delay 59 = .ok (.istore 5, 2) := dk_54 5 (dk_at dksX4_delay_2 13 rfl rfl)
theorem dX4_delay_61 : decode cX4_delay 61 = .ok (.iload 5, 2) := dk_21 5 (dk_at dksX4_delay_2 15 rfl rfl)
theorem dX4_delay_63 : decode cX4_delay 63 = .ok (.aload_n 0, 1) := dk_42 (dk_at dksX4_delay_2 17 rfl rfl)
theorem dX4_delay_64 : decode cX4_delay 64 = .ok (.getfield 16, 3) := dk_180 0 16 (dk_at dksX4_delay_2 18 rfl rfl)
theorem dX4_delay_67 : decode cX4_delay 67 = .ok (.iload_n 2, 1) := dk_28 (dk_at dksX4_delay_2 21 rfl rfl)
theorem dX4_delay_68 : decode cX4_delay 68 = .ok (.invokevirtual 25, 3) := dk_182 0 25 (dk_at dksX4_delay_3 0 rfl rfl)
theorem dX4_delay_71 : decode cX4_delay 71 = .ok (.checkcast 45, 3) := dk_192 0 45 (dk_at dksX4_delay_3 3 rfl rfl)
theorem dX4_delay_74 : decode cX4_delay 74 = .ok (.getfield 172, 3) := dk_180 0 172 (dk_at dksX4_delay_3 6 rfl rfl)
theorem dX4_delay_77 : decode cX4_delay 77 = .ok (.invokevirtual 29, 3) := dk_182 0 29 (dk_at dksX4_delay_3 9 rfl rfl)
theorem dX4_delay_80 : decode cX4_delay 80 = .ok (.if_icmp .ge 61, 3) := dk_162 0 61 (dk_at dksX4_delay_3 12 rfl rfl)
theorem dX4_delay_83 : decode cX4_delay 83 = .ok (.aload_n 0, 1) := dk_42 (dk_at dksX4_delay_3 15 rfl rfl)
theorem dX4_delay_84 : decode cX4_delay 84 = .ok (.getfield 16, 3) := dk_180 0 16 (dk_at dksX4_delay_3 16 rfl rfl)
theorem dX4_delay_87 : decode cX4_delay 87 = .ok (.iload_n 2, 1) := dk_28 (dk_at dksX4_delay_3 19 rfl rfl)
theorem dX4_delay_88 : decode cX4_delay 88 = .ok (.invokevirtual 25, 3) := dk_182 0 25 (dk_at dksX4_delay_3 20 rfl rfl)
theorem dX4_delay_91 : decode cX4_delay 91 = .ok (.checkcast 45, 3) := dk_192 0 45 (dk_at dksX4_delay_4 0 rfl rfl)
theorem dX4_delay_94 : decode cX4_delay 94 = .ok (.getfield 172, 3) := dk_180 0 172 (dk_at dksX4_delay_4 3 rfl rfl)
theorem dX4_delay_97 : decode cX4_delay 97 = .ok (.iload 5, 2) := dk_21 5 (dk_at dksX4_delay_4 6 rfl rfl)
theorem dX4_delay_99 : decode cX4_delay 99 = .ok (.invokevirtual 25, 3) := dk_182 0 25 (dk_at dksX4_delay_4 8 rfl rfl)
theorem dX4_delay_102 : decode cX4_delay 102 = .ok (.checkcast 45, 3) := dk_192 0 45 (dk_at dksX4_delay_4 11 rfl rfl)
theorem dX4_delay_105 : decode cX4_delay 105 = .ok (.astore 6, 2) := dk_58 6 (dk_at dksX4_delay_4 14 rfl rfl)
theorem dX4_delay_107 : decode cX4_delay 107 = .ok (.lload_n 3, 1) := dk_33 (dk_at dksX4_delay_4 16 rfl rfl)
theorem dX4_delay_108 : decode cX4_delay 108 = .ok (.aload_n 0, 1) := dk_42 (dk_at dksX4_delay_4 17 rfl rfl)
theorem dX4_delay_109 : decode cX4_delay 109 = .ok (.getfield 192, 3) := dk_180 0 192 (dk_at dksX4_delay_4 18 rfl rfl)
theorem dX4_delay_112 : decode cX4_delay 112 = .ok (.aload 6, 2) := dk_25 6 (dk_at dksX4_delay_4 21 rfl rfl)
theorem dX4_delay_114 : decode cX4_delay 114 = .ok (.getfield 47, 3) := dk_180 0 47 (dk_at dksX4_delay_5 0 rfl rfl)
theorem dX4_delay_117 : decode cX4_delay 117 = .ok (.laload, 1) := dk_47 (dk_at dksX4_delay_5 3 rfl rfl)
theorem dX4_delay_118 : decode cX4_delay 118 = .ok (.aload_n 0, 1) := dk_42 (dk_at dksX4_delay_5 4 rfl rfl)
theorem dX4_delay_119 : decode cX4_delay 119 = .ok (.getfield 151, 3) := dk_180 0 151 (dk_at dksX4_delay_5 5 rfl rfl)
theorem dX4_delay_122 : decode cX4_delay 122 = .ok (.aload 6, 2) := dk_25 6 (dk_at dksX4_delay_5 8 rfl rfl)
theorem dX4_delay_124 : decode cX4_delay 124 = .ok (.getfield 47, 3) := dk_180 0 47 (dk_at dksX4_delay_5 10 rfl rfl)
theorem dX4_delay_127 : decode cX4_delay 127 = .ok (.laload, 1) := dk_47 (dk_at dksX4_delay_5 13 rfl rfl)
theorem dX4_delay_128 : decode cX4_delay 128 = .ok (.ldc2_w 181, 3) := dk_20 0 181 (dk_at dksX4_delay_5 14 rfl rfl)
theorem dX4_delay_131 : decode cX4_delay 131 = .ok (.lxor, 1) := dk_131 (dk_at dksX4_delay_5 17 rfl rfl)
theorem dX4_delay_132 : decode cX4_delay 132 = .ok (.land, 1) := dk_127 (dk_at dksX4_delay_5 18 rfl rfl)
theorem dX4_delay_133 : decode cX4_delay 133 = .ok (.land, 1) := dk_127 (dk_at dksX4_delay_5 19 rfl rfl)
theorem dX4_delay_134 : decode cX4_delay 134 = .ok (.lstore_n 3, 1) := dk_66 (dk_at dksX4_delay_5 20 rfl rfl)
theorem dX4_delay_135 : decode cX4_delay 135 = .ok (.iinc 5 1, 3) := dk_132 5 1 (dk_at dksX4_delay_5 21 rfl rfl)
theorem dX4_delay_138 : decode cX4_delay 138 = .ok (.goto (-77), 3) := dk_167 255 179 (dk_at dksX4_delay_6 0 rfl rfl)
theorem dX4_delay_141 : decode cX4_delay 141 = .ok (.lload_n 3, 1) := dk_33 (dk_at dksX4_delay_6 3 rfl rfl)
theorem dX4_delay_142 : decode cX4_delay 142 = .ok (.aload_n 0, 1) := dk_42 (dk_at dksX4_delay_6 4 rfl rfl)
theorem dX4_delay_143 : decode cX4_delay 143 = .ok (.getfield 165, 3) := dk_180 0 165 (dk_at dksX4_delay_6 5 rfl rfl)
theorem dX4_delay_146 : decode cX4_delay 146 = .ok (.iload_n 2, 1) := dk_28 (dk_at dksX4_delay_6 8 rfl rfl)
theorem dX4_delay_147 : decode cX4_delay 147 = .ok (.laload, 1) := dk_47 (dk_at dksX4_delay_6 9 rfl rfl)
theorem dX4_delay_148 : decode cX4_delay 148 = .ok (.lor, 1) := dk_129 (dk_at dksX4_delay_6 10 rfl rfl)
theorem dX4_delay_149 : decode cX4_delay 149 = .ok (.lstore_n 3, 1) := dk_66 (dk_at dksX4_delay_6 11 rfl rfl)
theorem dX4_delay_150 : decode cX4_delay 150 = .ok (.iload_n 1, 1) := dk_27 (dk_at dksX4_delay_6 12 rfl rfl)
theorem dX4_delay_151 : decode cX4_delay 151 = .ok (.lload_n 3, 1) := dk_33 (dk_at dksX4_delay_6 13 rfl rfl)
theorem dX4_delay_152 : decode cX4_delay 152 = .ok (.aload_n 0, 1) := dk_42 (dk_at dksX4_delay_6 14 rfl rfl)
theorem dX4_delay_153 : decode cX4_delay 153 = .ok (.getfield 192, 3) := dk_180 0 192 (dk_at dksX4_delay_6 15 rfl rfl)
theorem dX4_delay_156 : decode cX4_delay 156 = .ok (.iload_n 2, 1) := dk_28 (dk_at dksX4_delay_6 18 rfl rfl)
theorem dX4_delay_157 : decode cX4_delay 157 = .ok (.laload, 1) := dk_47 (dk_at dksX4_delay_6 19 rfl rfl)
theorem dX4_delay_158 : decode cX4_delay 158 = .ok (.lcmp, 1) := dk_148 (dk_at dksX4_delay_6 20 rfl rfl)
theorem dX4_delay_159 : decode cX4_delay 159 = .ok (.ifCond .eq 7, 3) := dk_153 0 7 (dk_at dksX4_delay_6 21 rfl rfl)
theorem dX4_delay_162 : decode cX4_delay 162 = .ok (.iconst 1, 1) := dk_4 (dk_at dksX4_delay_7 0 rfl rfl)
theorem dX4_delay_163 : decode cX4_delay 163 = .ok (.goto 4, 3) := dk_167 0 4 (dk_at dksX4_delay_7 1 rfl rfl)
theorem dX4_delay_166 : decode cX4_delay 166 = .ok (.iconst 0, 1) := dk_3 (dk_at dksX4_delay_7 4 rfl rfl)
theorem dX4_delay_167 : decode cX4_delay 167 = .ok (.ior, 1) := dk_128 (dk_at dksX4_delay_7 5 rfl rfl)
theorem dX4_delay_168 : decode cX4_delay 168 = .ok (.istore_n 1, 1) := dk_60 (dk_at dksX4_delay_7 6 rfl rfl)
theorem dX4_delay_169 : decode cX4_delay 169 = .ok (.aload_n 0, 1) := dk_42 (dk_at dksX4_delay_7 7 rfl rfl)
theorem dX4_delay_170 : decode cX4_delay 170 = .ok (.getfield 192, 3) := dk_180 0 192 (dk_at dksX4_delay_7 8 rfl rfl)
theorem dX4_delay_173 : decode cX4_delay 173 = .ok (.iload_n 2, 1) := dk_28 (dk_at dksX4_delay_7 11 rfl rfl)
theorem dX4_delay_174 : decode cX4_delay 174 = .ok (.lload_n 3, 1) := dk_33 (dk_at dksX4_delay_7 12 rfl rfl)
theorem dX4_delay_175 : decode cX4_delay 175 = .ok (.lastore, 1) := dk_80 (dk_at dksX4_delay_7 13 rfl rfl)
theorem dX4_delay_176 : decode cX4_delay 176 = .ok (.iinc 2 1, 3) := dk_132 2 1 (dk_at dksX4_delay_7 14 rfl rfl)
theorem dX4_delay_179 : decode cX4_delay 179 = .ok (.goto (-145), 3) := dk_167 255 111 (dk_at dksX4_delay_7 17 rfl rfl)
theorem dX4_delay_182 : decode cX4_delay 182 = .ok (.goto (-156), 3) := dk_167 255 100 (dk_at dksX4_delay_7 20 rfl rfl)
theorem dX4_delay_185 : decode cX4_delay 185 = .ok (.return_, 1) := dk_177 (dk_at dksX4_delay_7 23 rfl rfl)
abbrev cX4_lone : ByteArray := prog_14_method_16_code
def yX4_lone : MethodName := ⟨RX4, "lone", "()V"⟩
def dkwX4_lone_7 : List UInt8 := [60, 42, 180, 0, 208, 28, 33, 80, 132, 2, 255, 167, 255, 124, 167, 255, 105, 177]
abbrev dktX4_lone_7 : List UInt8 := dkwX4_lone_7 ++ []
def dkwX4_lone_6 : List UInt8 := [132, 5, 1, 167, 255, 168, 27, 33, 42, 180, 0, 208, 28, 47, 148, 153, 0, 7, 4, 167, 0, 4, 3, 128]
abbrev dktX4_lone_6 : List UInt8 := dkwX4_lone_6 ++ dktX4_lone_7
def dkwX4_lone_5 : List UInt8 := [25, 6, 180, 0, 47, 47, 20, 0, 181, 131, 42, 180, 0, 208, 25, 6, 180, 0, 47, 47, 127, 129, 127, 66]
abbrev dktX4_lone_5 : List UInt8 := dkwX4_lone_5 ++ dktX4_lone_6
def dkwX4_lone_4 : List UInt8 := [182, 0, 25, 192, 0, 45, 58, 6, 33, 42, 180, 0, 186, 25, 6, 180, 0, 47, 47, 42, 180, 0, 151]
abbrev dktX4_lone_4 : List UInt8 := dkwX4_lone_4 ++ dktX4_lone_5
def dkwX4_lone_3 : List UInt8 := [182, 0, 29, 162, 0, 72, 42, 180, 0, 16, 28, 182, 0, 25, 192, 0, 45, 180, 0, 189, 21, 5]
abbrev dktX4_lone_3 : List UInt8 := dkwX4_lone_3 ++ dktX4_lone_4
def dkwX4_lone_2 : List UInt8 := [182, 0, 168, 66, 3, 54, 5, 21, 5, 42, 180, 0, 16, 28, 182, 0, 25, 192, 0, 45, 180, 0, 189]
abbrev dktX4_lone_2 : List UInt8 := dkwX4_lone_2 ++ dktX4_lone_3
def dkwX4_lone_1 : List UInt8 := [4, 60, 27, 153, 0, 153, 3, 60, 42, 180, 0, 16, 182, 0, 29, 4, 100, 61, 28, 155, 0, 134, 42]
abbrev dktX4_lone_1 : List UInt8 := dkwX4_lone_1 ++ dktX4_lone_2
def dkwX4_lone_0 : List UInt8 := [42, 42, 180, 0, 16, 182, 0, 29, 188, 11, 181, 0, 208, 42, 180, 0, 208, 42, 182, 0, 168, 184, 0, 198]
abbrev dktX4_lone_0 : List UInt8 := dkwX4_lone_0 ++ dktX4_lone_1
theorem dksX4_lone_0 : cX4_lone.data.toList.drop 0 = dktX4_lone_0 := by decide +kernel
theorem dksX4_lone_1 : cX4_lone.data.toList.drop 24 = dktX4_lone_1 := dk_seg dksX4_lone_0 24 rfl rfl
theorem dksX4_lone_2 : cX4_lone.data.toList.drop 47 = dktX4_lone_2 := dk_seg dksX4_lone_1 23 rfl rfl
theorem dksX4_lone_3 : cX4_lone.data.toList.drop 70 = dktX4_lone_3 := dk_seg dksX4_lone_2 23 rfl rfl
theorem dksX4_lone_4 : cX4_lone.data.toList.drop 92 = dktX4_lone_4 := dk_seg dksX4_lone_3 22 rfl rfl
theorem dksX4_lone_5 : cX4_lone.data.toList.drop 115 = dktX4_lone_5 := dk_seg dksX4_lone_4 23 rfl rfl
theorem dksX4_lone_6 : cX4_lone.data.toList.drop 139 = dktX4_lone_6 := dk_seg dksX4_lone_5 24 rfl rfl
theorem dksX4_lone_7 : cX4_lone.data.toList.drop 163 = dktX4_lone_7 := dk_seg dksX4_lone_6 24 rfl rfl
theorem dX4_lone_0 : decode cX4_lone 0 = .ok (.aload_n 0, 1) := dk_42 (dk_at dksX4_lone_0 0 rfl rfl)
theorem dX4_lone_1 : decode cX4_lone 1 = .ok (.aload_n 0, 1) := dk_42 (dk_at dksX4_lone_0 1 rfl rfl)
theorem dX4_lone_2 : decode cX4_lone 2 = .ok (.getfield 16, 3) := dk_180 0 16 (dk_at dksX4_lone_0 2 rfl rfl)
theorem dX4_lone_5 : decode cX4_lone 5 = .ok (.invokevirtual 29, 3) := dk_182 0 29 (dk_at dksX4_lone_0 5 rfl rfl)
theorem dX4_lone_8 : decode cX4_lone 8 = .ok (.newarray .long, 2) := dk_188_11 (dk_at dksX4_lone_0 8 rfl rfl)
theorem dX4_lone_10 : decode cX4_lone 10 = .ok (.putfield 208, 3) := dk_181 0 208 (dk_at dksX4_lone_0 10 rfl rfl)
theorem dX4_lone_13 : decode cX4_lone 13 = .ok (.aload_n 0, 1) := dk_42 (dk_at dksX4_lone_0 13 rfl rfl)
theorem dX4_lone_14 : decode cX4_lone 14 = .ok (.getfield 208, 3) := dk_180 0 208 (dk_at dksX4_lone_0 14 rfl rfl)
theorem dX4_lone_17 : decode cX4_lone 17 = .ok (.aload_n 0, 1) := dk_42 (dk_at dksX4_lone_0 17 rfl rfl)
theorem dX4_lone_18 : decode cX4_lone 18 = .ok (.invokevirtual 168, 3) := dk_182 0 168 (dk_at dksX4_lone_0 18 rfl rfl)
theorem dX4_lone_21 : decode cX4_lone 21 = .ok (.invokestatic 198, 3) := dk_184 0 198 (dk_at dksX4_lone_0 21 rfl rfl)
theorem dX4_lone_24 : decode cX4_lone 24 = .ok (.iconst 1, 1) := dk_4 (dk_at dksX4_lone_1 0 rfl rfl)
theorem dX4_lone_25 : decode cX4_lone 25 = .ok (.istore_n 1, 1) := dk_60 (dk_at dksX4_lone_1 1 rfl rfl)
theorem dX4_lone_26 : decode cX4_lone 26 = .ok (.iload_n 1, 1) := dk_27 (dk_at dksX4_lone_1 2 rfl rfl)
theorem dX4_lone_27 : decode cX4_lone 27 = .ok (.ifCond .eq 153, 3) := dk_153 0 153 (dk_at dksX4_lone_1 3 rfl rfl)
theorem dX4_lone_30 : decode cX4_lone 30 = .ok (.iconst 0, 1) := dk_3 (dk_at dksX4_lone_1 6 rfl rfl)
theorem dX4_lone_31 : decode cX4_lone 31 = .ok (.istore_n 1, 1) := dk_60 (dk_at dksX4_lone_1 7 rfl rfl)
theorem dX4_lone_32 : decode cX4_lone 32 = .ok (.aload_n 0, 1) := dk_42 (dk_at dksX4_lone_1 8 rfl rfl)
theorem dX4_lone_33 : decode cX4_lone 33 = .ok (.getfield 16, 3) := dk_180 0 16 (dk_at dksX4_lone_1 9 rfl rfl)
theorem dX4_lone_36 : decode cX4_lone 36 = .ok (.invokevirtual 29, 3) := dk_182 0 29 (dk_at dksX4_lone_1 12 rfl rfl)
theorem dX4_lone_39 : decode cX4_lone 39 = .ok (.iconst 1, 1) := dk_4 (dk_at dksX4_lone_1 15 rfl rfl)
theorem dX4_lone_40 : decode cX4_lone 40 = .ok (.isub, 1) := dk_100 (dk_at dksX4_lone_1 16 rfl rfl)
theorem dX4_lone_41 : decode cX4_lone 41 = .ok (.istore_n 2, 1) := dk_61 (dk_at dksX4_lone_1 17 rfl rfl)
theorem dX4_lone_42 : decode cX4_lone 42 = .ok (.iload_n 2, 1) := dk_28 (dk_at dksX4_lone_1 18 rfl rfl)
theorem dX4_lone_43 : decode cX4_lone 43 = .ok (.ifCond .lt 134, 3) := dk_155 0 134 (dk_at dksX4_lone_1 19 rfl rfl)
theorem dX4_lone_46 : decode cX4_lone 46 = .ok (.aload_n 0, 1) := dk_42 (dk_at dksX4_lone_1 22 rfl rfl)
theorem dX4_lone_47 : decode cX4_lone 47 = .ok (.invokevirtual 168, 3) := dk_182 0 168 (dk_at dksX4_lone_2 0 rfl rfl)
theorem dX4_lone_50 : decode cX4_lone 50 = .ok (.lstore_n 3, 1) := dk_66 (dk_at dksX4_lone_2 3 rfl rfl)
theorem dX4_lone_51 : decode cX4_lone 51 = .ok (.iconst 0, 1) := dk_3 (dk_at dksX4_lone_2 4 rfl rfl)
theorem dX4_lone_52 : decode cX4_lone 52 = .ok (.istore 5, 2) := dk_54 5 (dk_at dksX4_lone_2 5 rfl rfl)
theorem dX4_lone_54 : decode cX4_lone 54 = .ok (.iload 5, 2) := dk_21 5 (dk_at dksX4_lone_2 7 rfl rfl)
theorem dX4_lone_56 : decode cX4_lone 56 = .ok (.aload_n 0, 1) := dk_42 (dk_at dksX4_lone_2 9 rfl rfl)
theorem dX4_lone_57 : decode cX4_lone 57 = .ok (.getfield 16, 3) := dk_180 0 16 (dk_at dksX4_lone_2 10 rfl rfl)
theorem dX4_lone_60 : decode cX4_lone 60 = .ok (.iload_n 2, 1) := dk_28 (dk_at dksX4_lone_2 13 rfl rfl)
theorem dX4_lone_61 : decode cX4_lone 61 = .ok (.invokevirtual 25, 3) := dk_182 0 25 (dk_at dksX4_lone_2 14 rfl rfl)
theorem dX4_lone_64 : decode cX4_lone 64 = .ok (.checkcast 45, 3) := dk_192 0 45 (dk_at dksX4_lone_2 17 rfl rfl)
theorem dX4_lone_67 : decode cX4_lone 67 = .ok (.getfield 189, 3) := dk_180 0 189 (dk_at dksX4_lone_2 20 rfl rfl)
theorem dX4_lone_70 : decode cX4_lone 70 = .ok (.invokevirtual 29, 3) := dk_182 0 29 (dk_at dksX4_lone_3 0 rfl rfl)
theorem dX4_lone_73 : decode cX4_lone 73 = .ok (.if_icmp .ge 72, 3) := dk_162 0 72 (dk_at dksX4_lone_3 3 rfl rfl)
theorem dX4_lone_76 : decode cX4_lone 76 = .ok (.aload_n 0, 1) := dk_42 (dk_at dksX4_lone_3 6 rfl rfl)
theorem dX4_lone_77 : decode cX4_lone 77 = .ok (.getfield 16, 3) := dk_180 0 16 (dk_at dksX4_lone_3 7 rfl rfl)
theorem dX4_lone_80 : decode cX4_lone 80 = .ok (.iload_n 2, 1) := dk_28 (dk_at dksX4_lone_3 10 rfl rfl)
theorem dX4_lone_81 : decode cX4_lone 81 = .ok (.invokevirtual 25, 3) := dk_182 0 25 (dk_at dksX4_lone_3 11 rfl rfl)
theorem dX4_lone_84 : decode cX4_lone 84 = .ok (.checkcast 45, 3) := dk_192 0 45 (dk_at dksX4_lone_3 14 rfl rfl)
theorem dX4_lone_87 : decode cX4_lone 87 = .ok (.getfield 189, 3) := dk_180 0 189 (dk_at dksX4_lone_3 17 rfl rfl)
theorem dX4_lone_90 : decode cX4_lone 90 = .ok (.iload 5, 2) := dk_21 5 (dk_at dksX4_lone_3 20 rfl rfl)
theorem dX4_lone_92 : decode cX4_lone 92 = .ok (.invokevirtual 25, 3) := dk_182 0 25 (dk_at dksX4_lone_4 0 rfl rfl)
theorem dX4_lone_95 : decode cX4_lone 95 = .ok (.checkcast 45, 3) := dk_192 0 45 (dk_at dksX4_lone_4 3 rfl rfl)
theorem dX4_lone_98 : decode cX4_lone 98 = .ok (.astore 6, 2) := dk_58 6 (dk_at dksX4_lone_4 6 rfl rfl)
theorem dX4_lone_100 : decode cX4_lone 100 = .ok (.lload_n 3, 1) := dk_33 (dk_at dksX4_lone_4 8 rfl rfl)
theorem dX4_lone_101 : decode cX4_lone 101 = .ok (.aload_n 0, 1) := dk_42 (dk_at dksX4_lone_4 9 rfl rfl)
theorem dX4_lone_102 : decode cX4_lone 102 = .ok (.getfield 186, 3) := dk_180 0 186 (dk_at dksX4_lone_4 10 rfl rfl)
theorem dX4_lone_105 : decode cX4_lone 105 = .ok (.aload 6, 2) := dk_25 6 (dk_at dksX4_lone_4 13 rfl rfl)
theorem dX4_lone_107 : decode cX4_lone 107 = .ok (.getfield 47, 3) := dk_180 0 47 (dk_at dksX4_lone_4 15 rfl rfl)
theorem dX4_lone_110 : decode cX4_lone 110 = .ok (.laload, 1) := dk_47 (dk_at dksX4_lone_4 18 rfl rfl)
theorem dX4_lone_111 : decode cX4_lone 111 = .ok (.aload_n 0, 1) := dk_42 (dk_at dksX4_lone_4 19 rfl rfl)
theorem dX4_lone_112 : decode cX4_lone 112 = .ok (.getfield 151, 3) := dk_180 0 151 (dk_at dksX4_lone_4 20 rfl rfl)
theorem dX4_lone_115 : decode cX4_lone 115 = .ok (.aload 6, 2) := dk_25 6 (dk_at dksX4_lone_5 0 rfl rfl)
theorem dX4_lone_117 : decode cX4_lone 117 = .ok (.getfield 47, 3) := dk_180 0 47 (dk_at dksX4_lone_5 2 rfl rfl)
theorem dX4_lone_120 : decode cX4_lone 120 = .ok (.laload, 1) := dk_47 (dk_at dksX4_lone_5 5 rfl rfl)
theorem dX4_lone_121 : decode cX4_lone 121 = .ok (.ldc2_w 181, 3) := dk_20 0 181 (dk_at dksX4_lone_5 6 rfl rfl)
theorem dX4_lone_124 : decode cX4_lone 124 = .ok (.lxor, 1) := dk_131 (dk_at dksX4_lone_5 9 rfl rfl)
theorem dX4_lone_125 : decode cX4_lone 125 = .ok (.aload_n 0, 1) := dk_42 (dk_at dksX4_lone_5 10 rfl rfl)
theorem dX4_lone_126 : decode cX4_lone 126 = .ok (.getfield 208, 3) := dk_180 0 208 (dk_at dksX4_lone_5 11 rfl rfl)
theorem dX4_lone_129 : decode cX4_lone 129 = .ok (.aload 6, 2) := dk_25 6 (dk_at dksX4_lone_5 14 rfl rfl)
theorem dX4_lone_131 : decode cX4_lone 131 = .ok (.getfield 47, 3) := dk_180 0 47 (dk_at dksX4_lone_5 16 rfl rfl)
theorem dX4_lone_134 : decode cX4_lone 134 = .ok (.laload, 1) := dk_47 (dk_at dksX4_lone_5 19 rfl rfl)
theorem dX4_lone_135 : decode cX4_lone 135 = .ok (.land, 1) := dk_127 (dk_at dksX4_lone_5 20 rfl rfl)
theorem dX4_lone_136 : decode cX4_lone 136 = .ok (.lor, 1) := dk_129 (dk_at dksX4_lone_5 21 rfl rfl)
theorem dX4_lone_137 : decode cX4_lone 137 = .ok (.land, 1) := dk_127 (dk_at dksX4_lone_5 22 rfl rfl)
theorem dX4_lone_138 : decode cX4_lone 138 = .ok (.lstore_n 3, 1) := dk_66 (dk_at dksX4_lone_5 23 rfl rfl)
theorem dX4_lone_139 : decode cX4_lone 139 = .ok (.iinc 5 1, 3) := dk_132 5 1 (dk_at dksX4_lone_6 0 rfl rfl)
theorem dX4_lone_142 : decode cX4_lone 142 = .ok (.goto (-88), 3) := dk_167 255 168 (dk_at dksX4_lone_6 3 rfl rfl)
theorem dX4_lone_145 : decode cX4_lone 145 = .ok (.iload_n 1, 1) := dk_27 (dk_at dksX4_lone_6 6 rfl rfl)
theorem dX4_lone_146 : decode cX4_lone 146 = .ok (.lload_n 3, 1) := dk_33 (dk_at dksX4_lone_6 7 rfl rfl)
theorem dX4_lone_147 : decode cX4_lone 147 = .ok (.aload_n 0, 1) := dk_42 (dk_at dksX4_lone_6 8 rfl rfl)
theorem dX4_lone_148 : decode cX4_lone 148 = .ok (.getfield 208, 3) := dk_180 0 208 (dk_at dksX4_lone_6 9 rfl rfl)
theorem dX4_lone_151 : decode cX4_lone 151 = .ok (.iload_n 2, 1) := dk_28 (dk_at dksX4_lone_6 12 rfl rfl)
theorem dX4_lone_152 : decode cX4_lone 152 = .ok (.laload, 1) := dk_47 (dk_at dksX4_lone_6 13 rfl rfl)
theorem dX4_lone_153 : decode cX4_lone 153 = .ok (.lcmp, 1) := dk_148 (dk_at dksX4_lone_6 14 rfl rfl)
theorem dX4_lone_154 : decode cX4_lone 154 = .ok (.ifCond .eq 7, 3) := dk_153 0 7 (dk_at dksX4_lone_6 15 rfl rfl)
theorem dX4_lone_157 : decode cX4_lone 157 = .ok (.iconst 1, 1) := dk_4 (dk_at dksX4_lone_6 18 rfl rfl)
theorem dX4_lone_158 : decode cX4_lone 158 = .ok (.goto 4, 3) := dk_167 0 4 (dk_at dksX4_lone_6 19 rfl rfl)
theorem dX4_lone_161 : decode cX4_lone 161 = .ok (.iconst 0, 1) := dk_3 (dk_at dksX4_lone_6 22 rfl rfl)
theorem dX4_lone_162 : decode cX4_lone 162 = .ok (.ior, 1) := dk_128 (dk_at dksX4_lone_6 23 rfl rfl)
theorem dX4_lone_163 : decode cX4_lone 163 = .ok (.istore_n 1, 1) := dk_60 (dk_at dksX4_lone_7 0 rfl rfl)
theorem dX4_lone_164 : decode cX4_lone 164 = .ok (.aload_n 0, 1) := dk_42 (dk_at dksX4_lone_7 1 rfl rfl)
theorem dX4_lone_165 : decode cX4_lone 165 = .ok (.getfield 208, 3) := dk_180 0 208 (dk_at dksX4_lone_7 2 rfl rfl)
theorem dX4_lone_168 : decode cX4_lone 168 = .ok (.iload_n 2, 1) := dk_28 (dk_at dksX4_lone_7 5 rfl rfl)
theorem dX4_lone_169 : decode cX4_lone 169 = .ok (.lload_n 3, 1) := dk_33 (dk_at dksX4_lone_7 6 rfl rfl)
theorem dX4_lone_170 : decode cX4_lone 170 = .ok (.lastore, 1) := dk_80 (dk_at dksX4_lone_7 7 rfl rfl)
theorem dX4_lone_171 : decode cX4_lone 171 = .ok (.iinc 2 (-1), 3) := dk_132 2 255 (dk_at dksX4_lone_7 8 rfl rfl)
theorem dX4_lone_174 : decode cX4_lone 174 = .ok (.goto (-132), 3) := dk_167 255 124 (dk_at dksX4_lone_7 11 rfl rfl)
theorem dX4_lone_177 : decode cX4_lone 177 = .ok (.goto (-151), 3) := dk_167 255 105 (dk_at dksX4_lone_7 14 rfl rfl)
theorem dX4_lone_180 : decode cX4_lone 180 = .ok (.return_, 1) := dk_177 (dk_at dksX4_lone_7 17 rfl rfl)
abbrev cX4_setAt : ByteArray := prog_14_method_17_code
def yX4_setAt : MethodName := ⟨RX4, "setAt", "(II)J"⟩
def dkwX4_setAt_1 : List UInt8 := [180, 0, 186, 28, 47, 42, 180, 0, 208, 28, 47, 20, 0, 181, 131, 127, 173]
abbrev dktX4_setAt_1 : List UInt8 := dkwX4_setAt_1 ++ []
def dkwX4_setAt_0 : List UInt8 := [27, 154, 0, 7, 9, 167, 0, 34, 27, 4, 160, 0, 12, 42, 180, 0, 165, 28, 47, 167, 0, 20, 42]
abbrev dktX4_setAt_0 : List UInt8 := dkwX4_setAt_0 ++ dktX4_setAt_1
theorem dksX4_setAt_0 : cX4_setAt.data.toList.drop 0 = dktX4_setAt_0 := by decide +kernel
theorem dksX4_setAt_1 : cX4_setAt.data.toList.drop 23 = dktX4_setAt_1 := dk_seg dksX4_setAt_0 23 rfl rfl
theorem dX4_setAt_0 : decode cX4_setAt 0 = .ok (.iload_n 1, 1) := dk_27 (dk_at dksX4_setAt_0 0 rfl rfl)
theorem dX4_setAt_1 : decode cX4_setAt 1 = .ok (.ifCond .ne 7, 3) := dk_154 0 7 (dk_at dksX4_setAt_0 1 rfl rfl)
theorem dX4_setAt_4 : decode cX4_setAt 4 = .ok (.lconst 0, 1) := dk_9 (dk_at dksX4_setAt_0 4 rfl rfl)
theorem dX4_setAt_5 : decode cX4_setAt 5 = .ok (.goto 34, 3) := dk_167 0 34 (dk_at dksX4_setAt_0 5 rfl rfl)
theorem dX4_setAt_8 : decode cX4_setAt 8 = .ok (.iload_n 1, 1) := dk_27 (dk_at dksX4_setAt_0 8 rfl rfl)
theorem dX4_setAt_9 : decode cX4_setAt 9 = .ok (.iconst 1, 1) := dk_4 (dk_at dksX4_setAt_0 9 rfl rfl)
theorem dX4_setAt_10 : decode cX4_setAt 10 = .ok (.if_icmp .ne 12, 3) := dk_160 0 12 (dk_at dksX4_setAt_0 10 rfl rfl)
theorem dX4_setAt_13 : decode cX4_setAt 13 = .ok (.aload_n 0, 1) := dk_42 (dk_at dksX4_setAt_0 13 rfl rfl)
theorem dX4_setAt_14 : decode cX4_setAt 14 = .ok (.getfield 165, 3) := dk_180 0 165 (dk_at dksX4_setAt_0 14 rfl rfl)
theorem dX4_setAt_17 : decode cX4_setAt 17 = .ok (.iload_n 2, 1) := dk_28 (dk_at dksX4_setAt_0 17 rfl rfl)
theorem dX4_setAt_18 : decode cX4_setAt 18 = .ok (.laload, 1) := dk_47 (dk_at dksX4_setAt_0 18 rfl rfl)
theorem dX4_setAt_19 : decode cX4_setAt 19 = .ok (.goto 20, 3) := dk_167 0 20 (dk_at dksX4_setAt_0 19 rfl rfl)
theorem dX4_setAt_22 : decode cX4_setAt 22 = .ok (.aload_n 0, 1) := dk_42 (dk_at dksX4_setAt_0 22 rfl rfl)
theorem dX4_setAt_23 : decode cX4_setAt 23 = .ok (.getfield 186, 3) := dk_180 0 186 (dk_at dksX4_setAt_1 0 rfl rfl)
theorem dX4_setAt_26 : decode cX4_setAt 26 = .ok (.iload_n 2, 1) := dk_28 (dk_at dksX4_setAt_1 3 rfl rfl)
theorem dX4_setAt_27 : decode cX4_setAt 27 = .ok (.laload, 1) := dk_47 (dk_at dksX4_setAt_1 4 rfl rfl)
theorem dX4_setAt_28 : decode cX4_setAt 28 = .ok (.aload_n 0, 1) := dk_42 (dk_at dksX4_setAt_1 5 rfl rfl)
theorem dX4_setAt_29 : decode cX4_setAt 29 = .ok (.getfield 208, 3) := dk_180 0 208 (dk_at dksX4_setAt_1 6 rfl rfl)
theorem dX4_setAt_32 : decode cX4_setAt 32 = .ok (.iload_n 2, 1) := dk_28 (dk_at dksX4_setAt_1 9 rfl rfl)
theorem dX4_setAt_33 : decode cX4_setAt 33 = .ok (.laload, 1) := dk_47 (dk_at dksX4_setAt_1 10 rfl rfl)
theorem dX4_setAt_34 : decode cX4_setAt 34 = .ok (.ldc2_w 181, 3) := dk_20 0 181 (dk_at dksX4_setAt_1 11 rfl rfl)
theorem dX4_setAt_37 : decode cX4_setAt 37 = .ok (.lxor, 1) := dk_131 (dk_at dksX4_setAt_1 14 rfl rfl)
theorem dX4_setAt_38 : decode cX4_setAt 38 = .ok (.land, 1) := dk_127 (dk_at dksX4_setAt_1 15 rfl rfl)
theorem dX4_setAt_39 : decode cX4_setAt 39 = .ok (.lreturn, 1) := dk_173 (dk_at dksX4_setAt_1 16 rfl rfl)
abbrev cX4_takenAt : ByteArray := prog_14_method_18_code
def yX4_takenAt : MethodName := ⟨RX4, "takenAt", "(II)J"⟩
def dkwX4_takenAt_1 : List UInt8 := [180, 0, 151, 28, 47, 42, 180, 0, 186, 28, 47, 42, 180, 0, 208, 28, 47, 127, 20, 0, 181, 131, 127, 173]
abbrev dktX4_takenAt_1 : List UInt8 := dkwX4_takenAt_1 ++ []
def dkwX4_takenAt_0 : List UInt8 := [27, 154, 0, 7, 9, 167, 0, 41, 27, 4, 160, 0, 12, 42, 180, 0, 151, 28, 47, 167, 0, 27, 42]
abbrev dktX4_takenAt_0 : List UInt8 := dkwX4_takenAt_0 ++ dktX4_takenAt_1
theorem dksX4_takenAt_0 : cX4_takenAt.data.toList.drop 0 = dktX4_takenAt_0 := by decide +kernel
theorem dksX4_takenAt_1 : cX4_takenAt.data.toList.drop 23 = dktX4_takenAt_1 := dk_seg dksX4_takenAt_0 23 rfl rfl
theorem dX4_takenAt_0 : decode cX4_takenAt 0 = .ok (.iload_n 1, 1) := dk_27 (dk_at dksX4_takenAt_0 0 rfl rfl)
theorem dX4_takenAt_1 : decode cX4_takenAt 1 = .ok (.ifCond .ne 7, 3) := dk_154 0 7 (dk_at dksX4_takenAt_0 1 rfl rfl)
theorem dX4_takenAt_4 : decode cX4_takenAt 4 = .ok (.lconst 0, 1) := dk_9 (dk_at dksX4_takenAt_0 4 rfl rfl)
theorem dX4_takenAt_5 : decode cX4_takenAt 5 = .ok (.goto 41, 3) := dk_167 0 41 (dk_at dksX4_takenAt_0 5 rfl rfl)
theorem dX4_takenAt_8 : decode cX4_takenAt 8 = .ok (.iload_n 1, 1) := dk_27 (dk_at dksX4_takenAt_0 8 rfl rfl)
theorem dX4_takenAt_9 : decode cX4_takenAt 9 = .ok (.iconst 1, 1) := dk_4 (dk_at dksX4_takenAt_0 9 rfl rfl)
theorem dX4_takenAt_10 : decode cX4_takenAt 10 = .ok (.if_icmp .ne 12, 3) := dk_160 0 12 (dk_at dksX4_takenAt_0 10 rfl rfl)
theorem dX4_takenAt_13 : decode cX4_takenAt 13 = .ok (.aload_n 0, 1) := dk_42 (dk_at dksX4_takenAt_0 13 rfl rfl)
theorem dX4_takenAt_14 : decode cX4_takenAt 14 = .ok (.getfield 151, 3) := dk_180 0 151 (dk_at dksX4_takenAt_0 14 rfl rfl)
theorem dX4_takenAt_17 : decode cX4_takenAt 17 = .ok (.iload_n 2, 1) := dk_28 (dk_at dksX4_takenAt_0 17 rfl rfl)
theorem dX4_takenAt_18 : decode cX4_takenAt 18 = .ok (.laload, 1) := dk_47 (dk_at dksX4_takenAt_0 18 rfl rfl)
theorem dX4_takenAt_19 : decode cX4_takenAt 19 = .ok (.goto 27, 3) := dk_167 0 27 (dk_at dksX4_takenAt_0 19 rfl rfl)
theorem dX4_takenAt_22 : decode cX4_takenAt 22 = .ok (.aload_n 0, 1) := dk_42 (dk_at dksX4_takenAt_0 22 rfl rfl)
theorem dX4_takenAt_23 : decode cX4_takenAt 23 = .ok (.getfield 151, 3) := dk_180 0 151 (dk_at dksX4_takenAt_1 0 rfl rfl)
theorem dX4_takenAt_26 : decode cX4_takenAt 26 = .ok (.iload_n 2, 1) := dk_28 (dk_at dksX4_takenAt_1 3 rfl rfl)
theorem dX4_takenAt_27 : decode cX4_takenAt 27 = .ok (.laload, 1) := dk_47 (dk_at dksX4_takenAt_1 4 rfl rfl)
theorem dX4_takenAt_28 : decode cX4_takenAt 28 = .ok (.aload_n 0, 1) := dk_42 (dk_at dksX4_takenAt_1 5 rfl rfl)
theorem dX4_takenAt_29 : decode cX4_takenAt 29 = .ok (.getfield 186, 3) := dk_180 0 186 (dk_at dksX4_takenAt_1 6 rfl rfl)
theorem dX4_takenAt_32 : decode cX4_takenAt 32 = .ok (.iload_n 2, 1) := dk_28 (dk_at dksX4_takenAt_1 9 rfl rfl)
theorem dX4_takenAt_33 : decode cX4_takenAt 33 = .ok (.laload, 1) := dk_47 (dk_at dksX4_takenAt_1 10 rfl rfl)
theorem dX4_takenAt_34 : decode cX4_takenAt 34 = .ok (.aload_n 0, 1) := dk_42 (dk_at dksX4_takenAt_1 11 rfl rfl)
theorem dX4_takenAt_35 : decode cX4_takenAt 35 = .ok (.getfield 208, 3) := dk_180 0 208 (dk_at dksX4_takenAt_1 12 rfl rfl)
theorem dX4_takenAt_38 : decode cX4_takenAt 38 = .ok (.iload_n 2, 1) := dk_28 (dk_at dksX4_takenAt_1 15 rfl rfl)
theorem dX4_takenAt_39 : decode cX4_takenAt 39 = .ok (.laload, 1) := dk_47 (dk_at dksX4_takenAt_1 16 rfl rfl)
theorem dX4_takenAt_40 : decode cX4_takenAt 40 = .ok (.land, 1) := dk_127 (dk_at dksX4_takenAt_1 17 rfl rfl)
theorem dX4_takenAt_41 : decode cX4_takenAt 41 = .ok (.ldc2_w 181, 3) := dk_20 0 181 (dk_at dksX4_takenAt_1 18 rfl rfl)
theorem dX4_takenAt_44 : decode cX4_takenAt 44 = .ok (.lxor, 1) := dk_131 (dk_at dksX4_takenAt_1 21 rfl rfl)
theorem dX4_takenAt_45 : decode cX4_takenAt 45 = .ok (.land, 1) := dk_127 (dk_at dksX4_takenAt_1 22 rfl rfl)
theorem dX4_takenAt_46 : decode cX4_takenAt 46 = .ok (.lreturn, 1) := dk_173 (dk_at dksX4_takenAt_1 23 rfl rfl)
abbrev cX4_alive : ByteArray := prog_14_method_19_code
def yX4_alive : MethodName := ⟨RX4, "alive", "(I)[J"⟩
def dkwX4_alive_6 : List UInt8 := [167, 0, 4, 3, 128, 62, 44, 21, 4, 22, 5, 80, 132, 4, 255, 167, 255, 130, 167, 255, 110, 44, 176]
abbrev dktX4_alive_6 : List UInt8 := dkwX4_alive_6 ++ []
def dkwX4_alive_5 : List UInt8 := [182, 0, 215, 20, 0, 181, 131, 127, 55, 5, 29, 22, 5, 44, 21, 4, 47, 148, 153, 0, 7, 4]
abbrev dktX4_alive_5 : List UInt8 := dkwX4_alive_5 ++ dktX4_alive_6
def dkwX4_alive_4 : List UInt8 := [22, 5, 44, 25, 8, 180, 0, 47, 47, 129, 55, 5, 132, 7, 1, 167, 255, 193, 22, 5, 42, 27, 21, 4]
abbrev dktX4_alive_4 : List UInt8 := dkwX4_alive_4 ++ dktX4_alive_5
def dkwX4_alive_3 : List UInt8 := [180, 0, 16, 21, 4, 182, 0, 25, 192, 0, 45, 180, 0, 189, 21, 7, 182, 0, 25, 192, 0, 45, 58, 8]
abbrev dktX4_alive_3 : List UInt8 := dkwX4_alive_3 ++ dktX4_alive_4
def dkwX4_alive_2 : List UInt8 := [21, 7, 42, 180, 0, 16, 21, 4, 182, 0, 25, 192, 0, 45, 180, 0, 189, 182, 0, 29, 162, 0, 46, 42]
abbrev dktX4_alive_2 : List UInt8 := dkwX4_alive_2 ++ dktX4_alive_3
def dkwX4_alive_1 : List UInt8 := [182, 0, 29, 4, 100, 54, 4, 21, 4, 155, 0, 127, 42, 27, 21, 4, 182, 0, 211, 55, 5, 3, 54, 7]
abbrev dktX4_alive_1 : List UInt8 := dkwX4_alive_1 ++ dktX4_alive_2
def dkwX4_alive_0 : List UInt8 := [42, 180, 0, 16, 182, 0, 29, 188, 11, 77, 4, 62, 29, 153, 0, 148, 3, 62, 42, 180, 0, 16]
abbrev dktX4_alive_0 : List UInt8 := dkwX4_alive_0 ++ dktX4_alive_1
theorem dksX4_alive_0 : cX4_alive.data.toList.drop 0 = dktX4_alive_0 := by decide +kernel
theorem dksX4_alive_1 : cX4_alive.data.toList.drop 22 = dktX4_alive_1 := dk_seg dksX4_alive_0 22 rfl rfl
theorem dksX4_alive_2 : cX4_alive.data.toList.drop 46 = dktX4_alive_2 := dk_seg dksX4_alive_1 24 rfl rfl
theorem dksX4_alive_3 : cX4_alive.data.toList.drop 70 = dktX4_alive_3 := dk_seg dksX4_alive_2 24 rfl rfl
theorem dksX4_alive_4 : cX4_alive.data.toList.drop 94 = dktX4_alive_4 := dk_seg dksX4_alive_3 24 rfl rfl
theorem dksX4_alive_5 : cX4_alive.data.toList.drop 118 = dktX4_alive_5 := dk_seg dksX4_alive_4 24 rfl rfl
theorem dksX4_alive_6 : cX4_alive.data.toList.drop 140 = dktX4_alive_6 := dk_seg dksX4_alive_5 22 rfl rfl
theorem dX4_alive_0 : decode cX4_alive 0 = .ok (.aload_n 0, 1) := dk_42 (dk_at dksX4_alive_0 0 rfl rfl)
theorem dX4_alive_1 : decode cX4_alive 1 = .ok (.getfield 16, 3) := dk_180 0 16 (dk_at dksX4_alive_0 1 rfl rfl)
theorem dX4_alive_4 : decode cX4_alive 4 = .ok (.invokevirtual 29, 3) := dk_182 0 29 (dk_at dksX4_alive_0 4 rfl rfl)
theorem dX4_alive_7 : decode cX4_alive 7 = .ok (.newarray .long, 2) := dk_188_11 (dk_at dksX4_alive_0 7 rfl rfl)
theorem dX4_alive_9 : decode cX4_alive 9 = .ok (.astore_n 2, 1) := dk_77 (dk_at dksX4_alive_0 9 rfl rfl)
theorem dX4_alive_10 : decode cX4_alive 10 = .ok (.iconst 1, 1) := dk_4 (dk_at dksX4_alive_0 10 rfl rfl)
theorem dX4_alive_11 : decode cX4_alive 11 = .ok (.istore_n 3, 1) := dk_62 (dk_at dksX4_alive_0 11 rfl rfl)
theorem dX4_alive_12 : decode cX4_alive 12 = .ok (.iload_n 3, 1) := dk_29 (dk_at dksX4_alive_0 12 rfl rfl)
theorem dX4_alive_13 : decode cX4_alive 13 = .ok (.ifCond .eq 148, 3) := dk_153 0 148 (dk_at dksX4_alive_0 13 rfl rfl)
theorem dX4_alive_16 : decode cX4_alive 16 = .ok (.iconst 0, 1) := dk_3 (dk_at dksX4_alive_0 16 rfl rfl)
theorem dX4_alive_17 : decode cX4_alive 17 = .ok (.istore_n 3, 1) := dk_62 (dk_at dksX4_alive_0 17 rfl rfl)
theorem dX4_alive_18 : decode cX4_alive 18 = .ok (.aload_n 0, 1) := dk_42 (dk_at dksX4_alive_0 18 rfl rfl)
theorem dX4_alive_19 : decode cX4_alive 19 = .ok (.getfield 16, 3) := dk_180 0 16 (dk_at dksX4_alive_0 19 rfl rfl)
theorem dX4_alive_22 : decode cX4_alive 22 = .ok (.invokevirtual 29, 3) := dk_182 0 29 (dk_at dksX4_alive_1 0 rfl rfl)
theorem dX4_alive_25 : decode cX4_alive 25 = .ok (.iconst 1, 1) := dk_4 (dk_at dksX4_alive_1 3 rfl rfl)
theorem dX4_alive_26 : decode cX4_alive 26 = .ok (.isub, 1) := dk_100 (dk_at dksX4_alive_1 4 rfl rfl)
theorem dX4_alive_27 : decode cX4_alive 27 = .ok (.istore 4, 2) := dk_54 4 (dk_at dksX4_alive_1 5 rfl rfl)
theorem dX4_alive_29 : decode cX4_alive 29 = .ok (.iload 4, 2) := dk_21 4 (dk_at dksX4_alive_1 7 rfl rfl)
theorem dX4_alive_31 : decode cX4_alive 31 = .ok (.ifCond .lt 127, 3) := dk_155 0 127 (dk_at dksX4_alive_1 9 rfl rfl)
theorem dX4_alive_34 : decode cX4_alive 34 = .ok (.aload_n 0, 1) := dk_42 (dk_at dksX4_alive_1 12 rfl rfl)
theorem dX4_alive_35 : decode cX4_alive 35 = .ok (.iload_n 1, 1) := dk_27 (dk_at dksX4_alive_1 13 rfl rfl)
theorem dX4_alive_36 : decode cX4_alive 36 = .ok (.iload 4, 2) := dk_21 4 (dk_at dksX4_alive_1 14 rfl rfl)
theorem dX4_alive_38 : decode cX4_alive 38 = .ok (.invokevirtual 211, 3) := dk_182 0 211 (dk_at dksX4_alive_1 16 rfl rfl)
theorem dX4_alive_41 : decode cX4_alive 41 = .ok (.lstore 5, 2) := dk_55 5 (dk_at dksX4_alive_1 19 rfl rfl)
theorem dX4_alive_43 : decode cX4_alive 43 = .ok (.iconst 0, 1) := dk_3 (dk_at dksX4_alive_1 21 rfl rfl)
theorem dX4_alive_44 : decode cX4_alive 44 = .ok (.istore 7, 2) := dk_54 7 (dk_at dksX4_alive_1 22 rfl rfl)
theorem dX4_alive_46 : decode cX4_alive 46 = .ok (.iload 7, 2) := dk_21 7 (dk_at dksX4_alive_2 0 rfl rfl)
theorem dX4_alive_48 : decode cX4_alive 48 = .ok (.aload_n 0, 1) := dk_42 (dk_at dksX4_alive_2 2 rfl rfl)
theorem dX4_alive_49 : decode cX4_alive 49 = .ok (.getfield 16, 3) := dk_180 0 16 (dk_at dksX4_alive_2 3 rfl rfl)
theorem dX4_alive_52 : decode cX4_alive 52 = .ok (.iload 4, 2) := dk_21 4 (dk_at dksX4_alive_2 6 rfl rfl)
theorem dX4_alive_54 : decode cX4_alive 54 = .ok (.invokevirtual 25, 3) := dk_182 0 25 (dk_at dksX4_alive_2 8 rfl rfl)
theorem dX4_alive_57 : decode cX4_alive 57 = .ok (.checkcast 45, 3) := dk_192 0 45 (dk_at dksX4_alive_2 11 rfl rfl)
theorem dX4_alive_60 : decode cX4_alive 60 = .ok (.getfield 189, 3) := dk_180 0 189 (dk_at dksX4_alive_2 14 rfl rfl)
theorem dX4_alive_63 : decode cX4_alive 63 = .ok (.invokevirtual 29, 3) := dk_182 0 29 (dk_at dksX4_alive_2 17 rfl rfl)
theorem dX4_alive_66 : decode cX4_alive 66 = .ok (.if_icmp .ge 46, 3) := dk_162 0 46 (dk_at dksX4_alive_2 20 rfl rfl)
theorem dX4_alive_69 : decode cX4_alive 69 = .ok (.aload_n 0, 1) := dk_42 (dk_at dksX4_alive_2 23 rfl rfl)
theorem dX4_alive_70 : decode cX4_alive 70 = .ok (.getfield 16, 3) := dk_180 0 16 (dk_at dksX4_alive_3 0 rfl rfl)
theorem dX4_alive_73 : decode cX4_alive 73 = .ok (.iload 4, 2) := dk_21 4 (dk_at dksX4_alive_3 3 rfl rfl)
theorem dX4_alive_75 : decode cX4_alive 75 = .ok (.invokevirtual 25, 3) := dk_182 0 25 (dk_at dksX4_alive_3 5 rfl rfl)
theorem dX4_alive_78 : decode cX4_alive 78 = .ok (.checkcast 45, 3) := dk_192 0 45 (dk_at dksX4_alive_3 8 rfl rfl)
theorem dX4_alive_81 : decode cX4_alive 81 = .ok (.getfield 189, 3) := dk_180 0 189 (dk_at dksX4_alive_3 11 rfl rfl)
theorem dX4_alive_84 : decode cX4_alive 84 = .ok (.iload 7, 2) := dk_21 7 (dk_at dksX4_alive_3 14 rfl rfl)
theorem dX4_alive_86 : decode cX4_alive 86 = .ok (.invokevirtual 25, 3) := dk_182 0 25 (dk_at dksX4_alive_3 16 rfl rfl)
theorem dX4_alive_89 : decode cX4_alive 89 = .ok (.checkcast 45, 3) := dk_192 0 45 (dk_at dksX4_alive_3 19 rfl rfl)
theorem dX4_alive_92 : decode cX4_alive 92 = .ok (.astore 8, 2) := dk_58 8 (dk_at dksX4_alive_3 22 rfl rfl)
theorem dX4_alive_94 : decode cX4_alive 94 = .ok (.lload 5, 2) := dk_22 5 (dk_at dksX4_alive_4 0 rfl rfl)
theorem dX4_alive_96 : decode cX4_alive 96 = .ok (.aload_n 2, 1) := dk_44 (dk_at dksX4_alive_4 2 rfl rfl)
theorem dX4_alive_97 : decode cX4_alive 97 = .ok (.aload 8, 2) := dk_25 8 (dk_at dksX4_alive_4 3 rfl rfl)
theorem dX4_alive_99 : decode cX4_alive 99 = .ok (.getfield 47, 3) := dk_180 0 47 (dk_at dksX4_alive_4 5 rfl rfl)
theorem dX4_alive_102 : decode cX4_alive 102 = .ok (.laload, 1) := dk_47 (dk_at dksX4_alive_4 8 rfl rfl)
theorem dX4_alive_103 : decode cX4_alive 103 = .ok (.lor, 1) := dk_129 (dk_at dksX4_alive_4 9 rfl rfl)
theorem dX4_alive_104 : decode cX4_alive 104 = .ok (.lstore 5, 2) := dk_55 5 (dk_at dksX4_alive_4 10 rfl rfl)
theorem dX4_alive_106 : decode cX4_alive 106 = .ok (.iinc 7 1, 3) := dk_132 7 1 (dk_at dksX4_alive_4 12 rfl rfl)
theorem dX4_alive_109 : decode cX4_alive 109 = .ok (.goto (-63), 3) := dk_167 255 193 (dk_at dksX4_alive_4 15 rfl rfl)
theorem dX4_alive_112 : decode cX4_alive 112 = .ok (.lload 5, 2) := dk_22 5 (dk_at dksX4_alive_4 18 rfl rfl)
theorem dX4_alive_114 : decode cX4_alive 114 = .ok (.aload_n 0, 1) := dk_42 (dk_at dksX4_alive_4 20 rfl rfl)
theorem dX4_alive_115 : decode cX4_alive 115 = .ok (.iload_n 1, 1) := dk_27 (dk_at dksX4_alive_4 21 rfl rfl)
theorem dX4_alive_116 : decode cX4_alive 116 = .ok (.iload 4, 2) := dk_21 4 (dk_at dksX4_alive_4 22 rfl rfl)
theorem dX4_alive_118 : decode cX4_alive 118 = .ok (.invokevirtual 215, 3) := dk_182 0 215 (dk_at dksX4_alive_5 0 rfl rfl)
theorem dX4_alive_121 : decode cX4_alive 121 = .ok (.ldc2_w 181, 3) := dk_20 0 181 (dk_at dksX4_alive_5 3 rfl rfl)
theorem dX4_alive_124 : decode cX4_alive 124 = .ok (.lxor, 1) := dk_131 (dk_at dksX4_alive_5 6 rfl rfl)
theorem dX4_alive_125 : decode cX4_alive 125 = .ok (.land, 1) := dk_127 (dk_at dksX4_alive_5 7 rfl rfl)
theorem dX4_alive_126 : decode cX4_alive 126 = .ok (.lstore 5, 2) := dk_55 5 (dk_at dksX4_alive_5 8 rfl rfl)
theorem dX4_alive_128 : decode cX4_alive 128 = .ok (.iload_n 3, 1) := dk_29 (dk_at dksX4_alive_5 10 rfl rfl)
theorem dX4_alive_129 : decode cX4_alive 129 = .ok (.lload 5, 2) := dk_22 5 (dk_at dksX4_alive_5 11 rfl rfl)
theorem dX4_alive_131 : decode cX4_alive 131 = .ok (.aload_n 2, 1) := dk_44 (dk_at dksX4_alive_5 13 rfl rfl)
theorem dX4_alive_132 : decode cX4_alive 132 = .ok (.iload 4, 2) := dk_21 4 (dk_at dksX4_alive_5 14 rfl rfl)
theorem dX4_alive_134 : decode cX4_alive 134 = .ok (.laload, 1) := dk_47 (dk_at dksX4_alive_5 16 rfl rfl)
theorem dX4_alive_135 : decode cX4_alive 135 = .ok (.lcmp, 1) := dk_148 (dk_at dksX4_alive_5 17 rfl rfl)
theorem dX4_alive_136 : decode cX4_alive 136 = .ok (.ifCond .eq 7, 3) := dk_153 0 7 (dk_at dksX4_alive_5 18 rfl rfl)
theorem dX4_alive_139 : decode cX4_alive 139 = .ok (.iconst 1, 1) := dk_4 (dk_at dksX4_alive_5 21 rfl rfl)
theorem dX4_alive_140 : decode cX4_alive 140 = .ok (.goto 4, 3) := dk_167 0 4 (dk_at dksX4_alive_6 0 rfl rfl)
theorem dX4_alive_143 : decode cX4_alive 143 = .ok (.iconst 0, 1) := dk_3 (dk_at dksX4_alive_6 3 rfl rfl)
theorem dX4_alive_144 : decode cX4_alive 144 = .ok (.ior, 1) := dk_128 (dk_at dksX4_alive_6 4 rfl rfl)
theorem dX4_alive_145 : decode cX4_alive 145 = .ok (.istore_n 3, 1) := dk_62 (dk_at dksX4_alive_6 5 rfl rfl)
theorem dX4_alive_146 : decode cX4_alive 146 = .ok (.aload_n 2, 1) := dk_44 (dk_at dksX4_alive_6 6 rfl rfl)
theorem dX4_alive_147 : decode cX4_alive 147 = .ok (.iload 4, 2) := dk_21 4 (dk_at dksX4_alive_6 7 rfl rfl)
theorem dX4_alive_149 : decode cX4_alive 149 = .ok (.lload 5, 2) := dk_22 5 (dk_at dksX4_alive_6 9 rfl rfl)
theorem dX4_alive_151 : decode cX4_alive 151 = .ok (.lastore, 1) := dk_80 (dk_at dksX4_alive_6 11 rfl rfl)
theorem dX4_alive_152 : decode cX4_alive 152 = .ok (.iinc 4 (-1), 3) := dk_132 4 255 (dk_at dksX4_alive_6 12 rfl rfl)
theorem dX4_alive_155 : decode cX4_alive 155 = .ok (.goto (-126), 3) := dk_167 255 130 (dk_at dksX4_alive_6 15 rfl rfl)
theorem dX4_alive_158 : decode cX4_alive 158 = .ok (.goto (-146), 3) := dk_167 255 110 (dk_at dksX4_alive_6 18 rfl rfl)
theorem dX4_alive_161 : decode cX4_alive 161 = .ok (.aload_n 2, 1) := dk_44 (dk_at dksX4_alive_6 21 rfl rfl)
theorem dX4_alive_162 : decode cX4_alive 162 = .ok (.areturn, 1) := dk_176 (dk_at dksX4_alive_6 22 rfl rfl)
abbrev cX4_worksOnWay : ByteArray := prog_14_method_21_code
def yX4_worksOnWay : MethodName := ⟨RX4, "worksOnWay", "(II)I"⟩
def dkwX4_worksOnWay_7 : List UInt8 := [132, 4, 1, 167, 255, 95, 29, 172]
abbrev dktX4_worksOnWay_7 : List UInt8 := dkwX4_worksOnWay_7 ++ []
def dkwX4_worksOnWay_6 : List UInt8 := [180, 0, 22, 21, 4, 4, 96, 182, 0, 25, 192, 0, 218, 182, 0, 220, 27, 28, 182, 0, 227, 96, 62]
abbrev dktX4_worksOnWay_6 : List UInt8 := dkwX4_worksOnWay_6 ++ dktX4_worksOnWay_7
def dkwX4_worksOnWay_5 : List UInt8 := [182, 0, 29, 162, 0, 44, 29, 42, 42, 180, 0, 22, 21, 4, 182, 0, 25, 192, 0, 218, 182, 0, 220, 42]
abbrev dktX4_worksOnWay_5 : List UInt8 := dkwX4_worksOnWay_5 ++ dktX4_worksOnWay_6
def dkwX4_worksOnWay_4 : List UInt8 := [180, 0, 47, 28, 182, 0, 223, 96, 62, 132, 5, 1, 167, 255, 171, 21, 4, 4, 96, 42, 180, 0, 22]
abbrev dktX4_worksOnWay_4 : List UInt8 := dkwX4_worksOnWay_4 ++ dktX4_worksOnWay_5
def dkwX4_worksOnWay_3 : List UInt8 := [182, 0, 220, 182, 0, 25, 192, 0, 7, 21, 5, 182, 0, 25, 192, 0, 45, 58, 6, 29, 42, 27, 25, 6]
abbrev dktX4_worksOnWay_3 : List UInt8 := dkwX4_worksOnWay_3 ++ dktX4_worksOnWay_4
def dkwX4_worksOnWay_2 : List UInt8 := [182, 0, 29, 162, 0, 58, 42, 180, 0, 10, 42, 180, 0, 22, 21, 4, 182, 0, 25, 192, 0, 218]
abbrev dktX4_worksOnWay_2 : List UInt8 := dkwX4_worksOnWay_2 ++ dktX4_worksOnWay_3
def dkwX4_worksOnWay_1 : List UInt8 := [180, 0, 10, 42, 180, 0, 22, 21, 4, 182, 0, 25, 192, 0, 218, 182, 0, 220, 182, 0, 25, 192, 0, 7]
abbrev dktX4_worksOnWay_1 : List UInt8 := dkwX4_worksOnWay_1 ++ dktX4_worksOnWay_2
def dkwX4_worksOnWay_0 : List UInt8 := [3, 62, 3, 54, 4, 21, 4, 42, 180, 0, 22, 182, 0, 29, 162, 0, 155, 3, 54, 5, 21, 5, 42]
abbrev dktX4_worksOnWay_0 : List UInt8 := dkwX4_worksOnWay_0 ++ dktX4_worksOnWay_1
theorem dksX4_worksOnWay_0 : cX4_worksOnWay.data.toList.drop 0 = dktX4_worksOnWay_0 := by decide +kernel
theorem dksX4_worksOnWay_1 : cX4_worksOnWay.data.toList.drop 23 = dktX4_worksOnWay_1 := dk_seg dksX4_worksOnWay_0 23 rfl rfl
theorem dksX4_worksOnWay_2 : cX4_worksOnWay.data.toList.drop 47 = dktX4_worksOnWay_2 := dk_seg dksX4_worksOnWay_1 24 rfl rfl
theorem dksX4_worksOnWay_3 : cX4_worksOnWay.data.toList.drop 69 = dktX4_worksOnWay_3 := dk_seg dksX4_worksOnWay_2 22 rfl rfl
theorem dksX4_worksOnWay_4 : cX4_worksOnWay.data.toList.drop 93 = dktX4_worksOnWay_4 := dk_seg dksX4_worksOnWay_3 24 rfl rfl
theorem dksX4_worksOnWay_5 : cX4_worksOnWay.data.toList.drop 116 = dktX4_worksOnWay_5 := dk_seg dksX4_worksOnWay_4 23 rfl rfl
theorem dksX4_worksOnWay_6 : cX4_worksOnWay.data.toList.drop 140 = dktX4_worksOnWay_6 := dk_seg dksX4_worksOnWay_5 24 rfl rfl
theorem dksX4_worksOnWay_7 : cX4_worksOnWay.data.toList.drop 163 = dktX4_worksOnWay_7 := dk_seg dksX4_worksOnWay_6 23 rfl rfl
theorem dX4_worksOnWay_0 : decode cX4_worksOnWay 0 = .ok (.iconst 0, 1) := dk_3 (dk_at dksX4_worksOnWay_0 0 rfl rfl)
theorem dX4_worksOnWay_1 : decode cX4_worksOnWay 1 = .ok (.istore_n 3, 1) := dk_62 (dk_at dksX4_worksOnWay_0 1 rfl rfl)
theorem dX4_worksOnWay_2 : decode cX4_worksOnWay 2 = .ok (.iconst 0, 1) := dk_3 (dk_at dksX4_worksOnWay_0 2 rfl rfl)
theorem dX4_worksOnWay_3 : decode cX4_worksOnWay 3 = .ok (.istore 4, 2) := dk_54 4 (dk_at dksX4_worksOnWay_0 3 rfl rfl)
theorem dX4_worksOnWay_5 : decode cX4_worksOnWay 5 = .ok (.iload 4, 2) := dk_21 4 (dk_at dksX4_worksOnWay_0 5 rfl rfl)
theorem dX4_worksOnWay_7 : decode cX4_worksOnWay 7 = .ok (.aload_n 0, 1) := dk_42 (dk_at dksX4_worksOnWay_0 7 rfl rfl)
theorem dX4_worksOnWay_8 : decode cX4_worksOnWay 8 = .ok (.getfield 22, 3) := dk_180 0 22 (dk_at dksX4_worksOnWay_0 8 rfl rfl)
theorem dX4_worksOnWay_11 : decode cX4_worksOnWay 11 = .ok (.invokevirtual 29, 3) := dk_182 0 29 (dk_at dksX4_worksOnWay_0 11 rfl rfl)
theorem dX4_worksOnWay_14 : decode cX4_worksOnWay 14 = .ok (.if_icmp .ge 155, 3) := dk_162 0 155 (dk_at dksX4_worksOnWay_0 14 rfl rfl)
theorem dX4_worksOnWay_17 : decode cX4_worksOnWay 17 = .ok (.iconst 0, 1) := dk_3 (dk_at dksX4_worksOnWay_0 17 rfl rfl)
theorem dX4_worksOnWay_18 : decode cX4_worksOnWay 18 = .ok (.istore 5, 2) := dk_54 5 (dk_at dksX4_worksOnWay_0 18 rfl rfl)
theorem dX4_worksOnWay_20 : decode cX4_worksOnWay 20 = .ok (.iload 5, 2) := dk_21 5 (dk_at dksX4_worksOnWay_0 20 rfl rfl)
theorem dX4_worksOnWay_22 : decode cX4_worksOnWay 22 = .ok (.aload_n 0, 1) := dk_42 (dk_at dksX4_worksOnWay_0 22 rfl rfl)
theorem dX4_worksOnWay_23 : decode cX4_worksOnWay 23 = .ok (.getfield 10, 3) := dk_180 0 10 (dk_at dksX4_worksOnWay_1 0 rfl rfl)
theorem dX4_worksOnWay_26 : decode cX4_worksOnWay 26 = .ok (.aload_n 0, 1) := dk_42 (dk_at dksX4_worksOnWay_1 3 rfl rfl)
theorem dX4_worksOnWay_27 : decode cX4_worksOnWay 27 = .ok (.getfield 22, 3) := dk_180 0 22 (dk_at dksX4_worksOnWay_1 4 rfl rfl)
theorem dX4_worksOnWay_30 : decode cX4_worksOnWay 30 = .ok (.iload 4, 2) := dk_21 4 (dk_at dksX4_worksOnWay_1 7 rfl rfl)
theorem dX4_worksOnWay_32 : decode cX4_worksOnWay 32 = .ok (.invokevirtual 25, 3) := dk_182 0 25 (dk_at dksX4_worksOnWay_1 9 rfl rfl)
theorem dX4_worksOnWay_35 : decode cX4_worksOnWay 35 = .ok (.checkcast 218, 3) := dk_192 0 218 (dk_at dksX4_worksOnWay_1 12 rfl rfl)
theorem dX4_worksOnWay_38 : decode cX4_worksOnWay 38 = .ok (.invokevirtual 220, 3) := dk_182 0 220 (dk_at dksX4_worksOnWay_1 15 rfl rfl)
theorem dX4_worksOnWay_41 : decode cX4_worksOnWay 41 = .ok (.invokevirtual 25, 3) := dk_182 0 25 (dk_at dksX4_worksOnWay_1 18 rfl rfl)
theorem dX4_worksOnWay_44 : decode cX4_worksOnWay 44 = .ok (.checkcast 7, 3) := dk_192 0 7 (dk_at dksX4_worksOnWay_1 21 rfl rfl)
theorem dX4_worksOnWay_47 : decode cX4_worksOnWay 47 = .ok (.invokevirtual 29, 3) := dk_182 0 29 (dk_at dksX4_worksOnWay_2 0 rfl rfl)
theorem dX4_worksOnWay_50 : decode cX4_worksOnWay 50 = .ok (.if_icmp .ge 58, 3) := dk_162 0 58 (dk_at dksX4_worksOnWay_2 3 rfl rfl)
theorem dX4_worksOnWay_53 : decode cX4_worksOnWay 53 = .ok (.aload_n 0, 1) := dk_42 (dk_at dksX4_worksOnWay_2 6 rfl rfl)
theorem dX4_worksOnWay_54 : decode cX4_worksOnWay 54 = .ok (.getfield 10, 3) := dk_180 0 10 (dk_at dksX4_worksOnWay_2 7 rfl rfl)
theorem dX4_worksOnWay_57 : decode cX4_worksOnWay 57 = .ok (.aload_n 0, 1) := dk_42 (dk_at dksX4_worksOnWay_2 10 rfl rfl)
theorem dX4_worksOnWay_58 : decode cX4_worksOnWay 58 = .ok (.getfield 22, 3) := dk_180 0 22 (dk_at dksX4_worksOnWay_2 11 rfl rfl)
theorem dX4_worksOnWay_61 : decode cX4_worksOnWay 61 = .ok (.iload 4, 2) := dk_21 4 (dk_at dksX4_worksOnWay_2 14 rfl rfl)
theorem dX4_worksOnWay_63 : decode cX4_worksOnWay 63 = .ok (.invokevirtual 25, 3) := dk_182 0 25 (dk_at dksX4_worksOnWay_2 16 rfl rfl)
theorem dX4_worksOnWay_66 : decode cX4_worksOnWay 66 = .ok (.checkcast 218, 3) := dk_192 0 218 (dk_at dksX4_worksOnWay_2 19 rfl rfl)
theorem dX4_worksOnWay_69 : decode cX4_worksOnWay 69 = .ok (.invokevirtual 220, 3) := dk_182 0 220 (dk_at dksX4_worksOnWay_3 0 rfl rfl)
theorem dX4_worksOnWay_72 : decode cX4_worksOnWay 72 = .ok (.invokevirtual 25, 3) := dk_182 0 25 (dk_at dksX4_worksOnWay_3 3 rfl rfl)
theorem dX4_worksOnWay_75 : decode cX4_worksOnWay 75 = .ok (.checkcast 7, 3) := dk_192 0 7 (dk_at dksX4_worksOnWay_3 6 rfl rfl)
theorem dX4_worksOnWay_78 : decode cX4_worksOnWay 78 = .ok (.iload 5, 2) := dk_21 5 (dk_at dksX4_worksOnWay_3 9 rfl rfl)
theorem dX4_worksOnWay_80 : decode cX4_worksOnWay 80 = .ok (.invokevirtual 25, 3) := dk_182 0 25 (dk_at dksX4_worksOnWay_3 11 rfl rfl)
theorem dX4_worksOnWay_83 : decode cX4_worksOnWay 83 = .ok (.checkcast 45, 3) := dk_192 0 45 (dk_at dksX4_worksOnWay_3 14 rfl rfl)
theorem dX4_worksOnWay_86 : decode cX4_worksOnWay 86 = .ok (.astore 6, 2) := dk_58 6 (dk_at dksX4_worksOnWay_3 17 rfl rfl)
theorem dX4_worksOnWay_88 : decode cX4_worksOnWay 88 = .ok (.iload_n 3, 1) := dk_29 (dk_at dksX4_worksOnWay_3 19 rfl rfl)
theorem dX4_worksOnWay_89 : decode cX4_worksOnWay 89 = .ok (.aload_n 0, 1) := dk_42 (dk_at dksX4_worksOnWay_3 20 rfl rfl)
theorem dX4_worksOnWay_90 : decode cX4_worksOnWay 90 = .ok (.iload_n 1, 1) := dk_27 (dk_at dksX4_worksOnWay_3 21 rfl rfl)
theorem dX4_worksOnWay_91 : decode cX4_worksOnWay 91 = .ok (.aload 6, 2) := dk_25 6 (dk_at dksX4_worksOnWay_3 22 rfl rfl)
theorem dX4_worksOnWay_93 : decode cX4_worksOnWay 93 = .ok (.getfield 47, 3) := dk_180 0 47 (dk_at dksX4_worksOnWay_4 0 rfl rfl)
theorem dX4_worksOnWay_96 : decode cX4_worksOnWay 96 = .ok (.iload_n 2, 1) := dk_28 (dk_at dksX4_worksOnWay_4 3 rfl rfl)
theorem dX4_worksOnWay_97 : decode cX4_worksOnWay 97 = .ok (.invokevirtual 223, 3) := dk_182 0 223 (dk_at dksX4_worksOnWay_4 4 rfl rfl)
theorem dX4_worksOnWay_100 : decode cX4_worksOnWay 100 = .ok (.iadd, 1) := dk_96 (dk_at dksX4_worksOnWay_4 7 rfl rfl)
theorem dX4_worksOnWay_101 : decode cX4_worksOnWay 101 = .ok (.istore_n 3, 1) := dk_62 (dk_at dksX4_worksOnWay_4 8 rfl rfl)
theorem dX4_worksOnWay_102 : decode cX4_worksOnWay 102 = .ok (.iinc 5 1, 3) := dk_132 5 1 (dk_at dksX4_worksOnWay_4 9 rfl rfl)
theorem dX4_worksOnWay_105 : decode cX4_worksOnWay 105 = .ok (.goto (-85), 3) := dk_167 255 171 (dk_at dksX4_worksOnWay_4 12 rfl rfl)
theorem dX4_worksOnWay_108 : decode cX4_worksOnWay 108 = .ok (.iload 4, 2) := dk_21 4 (dk_at dksX4_worksOnWay_4 15 rfl rfl)
theorem dX4_worksOnWay_110 : decode cX4_worksOnWay 110 = .ok (.iconst 1, 1) := dk_4 (dk_at dksX4_worksOnWay_4 17 rfl rfl)
theorem dX4_worksOnWay_111 : decode cX4_worksOnWay 111 = .ok (.iadd, 1) := dk_96 (dk_at dksX4_worksOnWay_4 18 rfl rfl)
theorem dX4_worksOnWay_112 : decode cX4_worksOnWay 112 = .ok (.aload_n 0, 1) := dk_42 (dk_at dksX4_worksOnWay_4 19 rfl rfl)
theorem dX4_worksOnWay_113 : decode cX4_worksOnWay 113 = .ok (.getfield 22, 3) := dk_180 0 22 (dk_at dksX4_worksOnWay_4 20 rfl rfl)
theorem dX4_worksOnWay_116 : decode cX4_worksOnWay 116 = .ok (.invokevirtual 29, 3) := dk_182 0 29 (dk_at dksX4_worksOnWay_5 0 rfl rfl)
theorem dX4_worksOnWay_119 : decode cX4_worksOnWay 119 = .ok (.if_icmp .ge 44, 3) := dk_162 0 44 (dk_at dksX4_worksOnWay_5 3 rfl rfl)
theorem dX4_worksOnWay_122 : decode cX4_worksOnWay 122 = .ok (.iload_n 3, 1) := dk_29 (dk_at dksX4_worksOnWay_5 6 rfl rfl)
theorem dX4_worksOnWay_123 : decode cX4_worksOnWay 123 = .ok (.aload_n 0, 1) := dk_42 (dk_at dksX4_worksOnWay_5 7 rfl rfl)
theorem dX4_worksOnWay_124 : decode cX4_worksOnWay 124 = .ok (.aload_n 0, 1) := dk_42 (dk_at dksX4_worksOnWay_5 8 rfl rfl)
theorem dX4_worksOnWay_125 : decode cX4_worksOnWay 125 = .ok (.getfield 22, 3) := dk_180 0 22 (dk_at dksX4_worksOnWay_5 9 rfl rfl)
theorem dX4_worksOnWay_128 : decode cX4_worksOnWay 128 = .ok (.iload 4, 2) := dk_21 4 (dk_at dksX4_worksOnWay_5 12 rfl rfl)
theorem dX4_worksOnWay_130 : decode cX4_worksOnWay 130 = .ok (.invokevirtual 25, 3) := dk_182 0 25 (dk_at dksX4_worksOnWay_5 14 rfl rfl)
theorem dX4_worksOnWay_133 : decode cX4_worksOnWay 133 = .ok (.checkcast 218, 3) := dk_192 0 218 (dk_at dksX4_worksOnWay_5 17 rfl rfl)
theorem dX4_worksOnWay_136 : decode cX4_worksOnWay 136 = .ok (.invokevirtual 220, 3) := dk_182 0 220 (dk_at dksX4_worksOnWay_5 20 rfl rfl)
theorem dX4_worksOnWay_139 : decode cX4_worksOnWay 139 = .ok (.aload_n 0, 1) := dk_42 (dk_at dksX4_worksOnWay_5 23 rfl rfl)
theorem dX4_worksOnWay_140 : decode cX4_worksOnWay 140 = .ok (.getfield 22, 3) := dk_180 0 22 (dk_at dksX4_worksOnWay_6 0 rfl rfl)
theorem dX4_worksOnWay_143 : decode cX4_worksOnWay 143 = .ok (.iload 4, 2) := dk_21 4 (dk_at dksX4_worksOnWay_6 3 rfl rfl)
theorem dX4_worksOnWay_145 : decode cX4_worksOnWay 145 = .ok (.iconst 1, 1) := dk_4 (dk_at dksX4_worksOnWay_6 5 rfl rfl)
theorem dX4_worksOnWay_146 : decode cX4_worksOnWay 146 = .ok (.iadd, 1) := dk_96 (dk_at dksX4_worksOnWay_6 6 rfl rfl)
theorem dX4_worksOnWay_147 : decode cX4_worksOnWay 147 = .ok (.invokevirtual 25, 3) := dk_182 0 25 (dk_at dksX4_worksOnWay_6 7 rfl rfl)
theorem dX4_worksOnWay_150 : decode cX4_worksOnWay 150 = .ok (.checkcast 218, 3) := dk_192 0 218 (dk_at dksX4_worksOnWay_6 10 rfl rfl)
theorem dX4_worksOnWay_153 : decode cX4_worksOnWay 153 = .ok (.invokevirtual 220, 3) := dk_182 0 220 (dk_at dksX4_worksOnWay_6 13 rfl rfl)
theorem dX4_worksOnWay_156 : decode cX4_worksOnWay 156 = .ok (.iload_n 1, 1) := dk_27 (dk_at dksX4_worksOnWay_6 16 rfl rfl)
theorem dX4_worksOnWay_157 : decode cX4_worksOnWay 157 = .ok (.iload_n 2, 1) := dk_28 (dk_at dksX4_worksOnWay_6 17 rfl rfl)
theorem dX4_worksOnWay_158 : decode cX4_worksOnWay 158 = .ok (.invokevirtual 227, 3) := dk_182 0 227 (dk_at dksX4_worksOnWay_6 18 rfl rfl)
theorem dX4_worksOnWay_161 : decode cX4_worksOnWay 161 = .ok (.iadd, 1) := dk_96 (dk_at dksX4_worksOnWay_6 21 rfl rfl)
theorem dX4_worksOnWay_162 : decode cX4_worksOnWay 162 = .ok (.istore_n 3, 1) := dk_62 (dk_at dksX4_worksOnWay_6 22 rfl rfl)
theorem dX4_worksOnWay_163 : decode cX4_worksOnWay 163 = .ok (.iinc 4 1, 3) := dk_132 4 1 (dk_at dksX4_worksOnWay_7 0 rfl rfl)
theorem dX4_worksOnWay_166 : decode cX4_worksOnWay 166 = .ok (.goto (-161), 3) := dk_167 255 95 (dk_at dksX4_worksOnWay_7 3 rfl rfl)
theorem dX4_worksOnWay_169 : decode cX4_worksOnWay 169 = .ok (.iload_n 3, 1) := dk_29 (dk_at dksX4_worksOnWay_7 6 rfl rfl)
theorem dX4_worksOnWay_170 : decode cX4_worksOnWay 170 = .ok (.ireturn, 1) := dk_172 (dk_at dksX4_worksOnWay_7 7 rfl rfl)
abbrev cX4_worksAt : ByteArray := prog_14_method_20_code
def yX4_worksAt : MethodName := ⟨RX4, "worksAt", "(III)I"⟩
def dkwX4_worksAt_1 : List UInt8 := [182, 0, 211, 20, 0, 181, 131, 127, 29, 123, 10, 127, 136, 96, 172]
abbrev dktX4_worksAt_1 : List UInt8 := dkwX4_worksAt_1 ++ []
def dkwX4_worksAt_0 : List UInt8 := [42, 27, 28, 182, 0, 215, 29, 123, 10, 127, 136, 54, 4, 21, 4, 42, 180, 0, 151, 28, 47, 42, 27, 28]
abbrev dktX4_worksAt_0 : List UInt8 := dkwX4_worksAt_0 ++ dktX4_worksAt_1
theorem dksX4_worksAt_0 : cX4_worksAt.data.toList.drop 0 = dktX4_worksAt_0 := by decide +kernel
theorem dksX4_worksAt_1 : cX4_worksAt.data.toList.drop 24 = dktX4_worksAt_1 := dk_seg dksX4_worksAt_0 24 rfl rfl
theorem dX4_worksAt_0 : decode cX4_worksAt 0 = .ok (.aload_n 0, 1) := dk_42 (dk_at dksX4_worksAt_0 0 rfl rfl)
theorem dX4_worksAt_1 : decode cX4_worksAt 1 = .ok (.iload_n 1, 1) := dk_27 (dk_at dksX4_worksAt_0 1 rfl rfl)
theorem dX4_worksAt_2 : decode cX4_worksAt 2 = .ok (.iload_n 2, 1) := dk_28 (dk_at dksX4_worksAt_0 2 rfl rfl)
theorem dX4_worksAt_3 : decode cX4_worksAt 3 = .ok (.invokevirtual 215, 3) := dk_182 0 215 (dk_at dksX4_worksAt_0 3 rfl rfl)
theorem dX4_worksAt_6 : decode cX4_worksAt 6 = .ok (.iload_n 3, 1) := dk_29 (dk_at dksX4_worksAt_0 6 rfl rfl)
theorem dX4_worksAt_7 : decode cX4_worksAt 7 = .ok (.lshr, 1) := dk_123 (dk_at dksX4_worksAt_0 7 rfl rfl)
theorem dX4_worksAt_8 : decode cX4_worksAt 8 = .ok (.lconst 1, 1) := dk_10 (dk_at dksX4_worksAt_0 8 rfl rfl)
theorem dX4_worksAt_9 : decode cX4_worksAt 9 = .ok (.land, 1) := dk_127 (dk_at dksX4_worksAt_0 9 rfl rfl)
theorem dX4_worksAt_10 : decode cX4_worksAt 10 = .ok (.l2i, 1) := dk_136 (dk_at dksX4_worksAt_0 10 rfl rfl)
theorem dX4_worksAt_11 : decode cX4_worksAt 11 = .ok (.istore 4, 2) := dk_54 4 (dk_at dksX4_worksAt_0 11 rfl rfl)
theorem dX4_worksAt_13 : decode cX4_worksAt 13 = .ok (.iload 4, 2) := dk_21 4 (dk_at dksX4_worksAt_0 13 rfl rfl)
theorem dX4_worksAt_15 : decode cX4_worksAt 15 = .ok (.aload_n 0, 1) := dk_42 (dk_at dksX4_worksAt_0 15 rfl rfl)
theorem dX4_worksAt_16 : decode cX4_worksAt 16 = .ok (.getfield 151, 3) := dk_180 0 151 (dk_at dksX4_worksAt_0 16 rfl rfl)
theorem dX4_worksAt_19 : decode cX4_worksAt 19 = .ok (.iload_n 2, 1) := dk_28 (dk_at dksX4_worksAt_0 19 rfl rfl)
theorem dX4_worksAt_20 : decode cX4_worksAt 20 = .ok (.laload, 1) := dk_47 (dk_at dksX4_worksAt_0 20 rfl rfl)
theorem dX4_worksAt_21 : decode cX4_worksAt 21 = .ok (.aload_n 0, 1) := dk_42 (dk_at dksX4_worksAt_0 21 rfl rfl)
theorem dX4_worksAt_22 : decode cX4_worksAt 22 = .ok (.iload_n 1, 1) := dk_27 (dk_at dksX4_worksAt_0 22 rfl rfl)
theorem dX4_worksAt_23 : decode cX4_worksAt 23 = .ok (.iload_n 2, 1) := dk_28 (dk_at dksX4_worksAt_0 23 rfl rfl)
theorem dX4_worksAt_24 : decode cX4_worksAt 24 = .ok (.invokevirtual 211, 3) := dk_182 0 211 (dk_at dksX4_worksAt_1 0 rfl rfl)
theorem dX4_worksAt_27 : decode cX4_worksAt 27 = .ok (.ldc2_w 181, 3) := dk_20 0 181 (dk_at dksX4_worksAt_1 3 rfl rfl)
theorem dX4_worksAt_30 : decode cX4_worksAt 30 = .ok (.lxor, 1) := dk_131 (dk_at dksX4_worksAt_1 6 rfl rfl)
theorem dX4_worksAt_31 : decode cX4_worksAt 31 = .ok (.land, 1) := dk_127 (dk_at dksX4_worksAt_1 7 rfl rfl)
theorem dX4_worksAt_32 : decode cX4_worksAt 32 = .ok (.iload_n 3, 1) := dk_29 (dk_at dksX4_worksAt_1 8 rfl rfl)
theorem dX4_worksAt_33 : decode cX4_worksAt 33 = .ok (.lshr, 1) := dk_123 (dk_at dksX4_worksAt_1 9 rfl rfl)
theorem dX4_worksAt_34 : decode cX4_worksAt 34 = .ok (.lconst 1, 1) := dk_10 (dk_at dksX4_worksAt_1 10 rfl rfl)
theorem dX4_worksAt_35 : decode cX4_worksAt 35 = .ok (.land, 1) := dk_127 (dk_at dksX4_worksAt_1 11 rfl rfl)
theorem dX4_worksAt_36 : decode cX4_worksAt 36 = .ok (.l2i, 1) := dk_136 (dk_at dksX4_worksAt_1 12 rfl rfl)
theorem dX4_worksAt_37 : decode cX4_worksAt 37 = .ok (.iadd, 1) := dk_96 (dk_at dksX4_worksAt_1 13 rfl rfl)
theorem dX4_worksAt_38 : decode cX4_worksAt 38 = .ok (.ireturn, 1) := dk_172 (dk_at dksX4_worksAt_1 14 rfl rfl)
abbrev cX4_between : ByteArray := prog_14_method_22_code
def yX4_between : MethodName := ⟨RX4, "between", "(IIII)I"⟩
def dkwX4_between_2 : List UInt8 := [160, 0, 18, 42, 29, 25, 6, 180, 0, 47, 21, 4, 182, 0, 223, 167, 0, 4, 3, 172]
abbrev dktX4_between_2 : List UInt8 := dkwX4_between_2 ++ []
def dkwX4_between_1 : List UInt8 := [27, 182, 0, 35, 180, 0, 231, 21, 5, 182, 0, 25, 192, 0, 45, 58, 6, 25, 6, 182, 0, 232, 16, 7]
abbrev dktX4_between_1 : List UInt8 := dkwX4_between_1 ++ dktX4_between_2
def dkwX4_between_0 : List UInt8 := [3, 54, 5, 42, 27, 182, 0, 35, 21, 5, 182, 0, 42, 28, 159, 0, 9, 132, 5, 1, 167, 255, 239, 42]
abbrev dktX4_between_0 : List UInt8 := dkwX4_between_0 ++ dktX4_between_1
theorem dksX4_between_0 : cX4_between.data.toList.drop 0 = dktX4_between_0 := by decide +kernel
theorem dksX4_between_1 : cX4_between.data.toList.drop 24 = dktX4_between_1 := dk_seg dksX4_between_0 24 rfl rfl
theorem dksX4_between_2 : cX4_between.data.toList.drop 48 = dktX4_between_2 := dk_seg dksX4_between_1 24 rfl rfl
theorem dX4_between_0 : decode cX4_between 0 = .ok (.iconst 0, 1) := dk_3 (dk_at dksX4_between_0 0 rfl rfl)
theorem dX4_between_1 : decode cX4_between 1 = .ok (.istore 5, 2) := dk_54 5 (dk_at dksX4_between_0 1 rfl rfl)
theorem dX4_between_3 : decode cX4_between 3 = .ok (.aload_n 0, 1) := dk_42 (dk_at dksX4_between_0 3 rfl rfl)
theorem dX4_between_4 : decode cX4_between 4 = .ok (.iload_n 1, 1) := dk_27 (dk_at dksX4_between_0 4 rfl rfl)
theorem dX4_between_5 : decode cX4_between 5 = .ok (.invokevirtual 35, 3) := dk_182 0 35 (dk_at dksX4_between_0 5 rfl rfl)
theorem dX4_between_8 : decode cX4_between 8 = .ok (.iload 5, 2) := dk_21 5 (dk_at dksX4_between_0 8 rfl rfl)
theorem dX4_between_10 : decode cX4_between 10 = .ok (.invokevirtual 42, 3) := dk_182 0 42 (dk_at dksX4_between_0 10 rfl rfl)
theorem dX4_between_13 : decode cX4_between 13 = .ok (.iload_n 2, 1) := dk_28 (dk_at dksX4_between_0 13 rfl rfl)
theorem dX4_between_14 : decode cX4_between 14 = .ok (.if_icmp .eq 9, 3) := dk_159 0 9 (dk_at dksX4_between_0 14 rfl rfl)
theorem dX4_between_17 : decode cX4_between 17 = .ok (.iinc 5 1, 3) := dk_132 5 1 (dk_at dksX4_between_0 17 rfl rfl)
theorem dX4_between_20 : decode cX4_between 20 = .ok (.goto (-17), 3) := dk_167 255 239 (dk_at dksX4_between_0 20 rfl rfl)
theorem dX4_between_23 : decode cX4_between 23 = .ok (.aload_n 0, 1) := dk_42 (dk_at dksX4_between_0 23 rfl rfl)
theorem dX4_between_24 : decode cX4_between 24 = .ok (.iload_n 1, 1) := dk_27 (dk_at dksX4_between_1 0 rfl rfl)
theorem dX4_between_25 : decode cX4_between 25 = .ok (.invokevirtual 35, 3) := dk_182 0 35 (dk_at dksX4_between_1 1 rfl rfl)
theorem dX4_between_28 : decode cX4_between 28 = .ok (.getfield 231, 3) := dk_180 0 231 (dk_at dksX4_between_1 4 rfl rfl)
theorem dX4_between_31 : decode cX4_between 31 = .ok (.iload 5, 2) := dk_21 5 (dk_at dksX4_between_1 7 rfl rfl)
theorem dX4_between_33 : decode cX4_between 33 = .ok (.invokevirtual 25, 3) := dk_182 0 25 (dk_at dksX4_between_1 9 rfl rfl)
theorem dX4_between_36 : decode cX4_between 36 = .ok (.checkcast 45, 3) := dk_192 0 45 (dk_at dksX4_between_1 12 rfl rfl)
theorem dX4_between_39 : decode cX4_between 39 = .ok (.astore 6, 2) := dk_58 6 (dk_at dksX4_between_1 15 rfl rfl)
theorem dX4_between_41 : decode cX4_between 41 = .ok (.aload 6, 2) := dk_25 6 (dk_at dksX4_between_1 17 rfl rfl)
theorem dX4_between_43 : decode cX4_between 43 = .ok (.invokevirtual 232, 3) := dk_182 0 232 (dk_at dksX4_between_1 19 rfl rfl)
theorem dX4_between_46 : decode cX4_between 46 = .ok (.bipush 7, 2) := dk_16 7 (dk_at dksX4_between_1 22 rfl rfl)
theorem dX4_between_48 : decode cX4_between 48 = .ok (.if_icmp .ne 18, 3) := dk_160 0 18 (dk_at dksX4_between_2 0 rfl rfl)
theorem dX4_between_51 : decode cX4_between 51 = .ok (.aload_n 0, 1) := dk_42 (dk_at dksX4_between_2 3 rfl rfl)
theorem dX4_between_52 : decode cX4_between 52 = .ok (.iload_n 3, 1) := dk_29 (dk_at dksX4_between_2 4 rfl rfl)
theorem dX4_between_53 : decode cX4_between 53 = .ok (.aload 6, 2) := dk_25 6 (dk_at dksX4_between_2 5 rfl rfl)
theorem dX4_between_55 : decode cX4_between 55 = .ok (.getfield 47, 3) := dk_180 0 47 (dk_at dksX4_between_2 7 rfl rfl)
theorem dX4_between_58 : decode cX4_between 58 = .ok (.iload 4, 2) := dk_21 4 (dk_at dksX4_between_2 10 rfl rfl)
theorem dX4_between_60 : decode cX4_between 60 = .ok (.invokevirtual 223, 3) := dk_182 0 223 (dk_at dksX4_between_2 12 rfl rfl)
theorem dX4_between_63 : decode cX4_between 63 = .ok (.goto 4, 3) := dk_167 0 4 (dk_at dksX4_between_2 15 rfl rfl)
theorem dX4_between_66 : decode cX4_between 66 = .ok (.iconst 0, 1) := dk_3 (dk_at dksX4_between_2 18 rfl rfl)
theorem dX4_between_67 : decode cX4_between 67 = .ok (.ireturn, 1) := dk_172 (dk_at dksX4_between_2 19 rfl rfl)
abbrev cX4_hasT : ByteArray := prog_14_method_8_code
def yX4_hasT : MethodName := ⟨RX4, "hasT", "()Z"⟩
def dkwX4_hasT_10 : List UInt8 := [132, 2, 1, 167, 255, 30, 27, 172]
abbrev dktX4_hasT_10 : List UInt8 := dkwX4_hasT_10 ++ []
def dkwX4_hasT_9 : List UInt8 := [154, 0, 15, 42, 25, 4, 180, 0, 144, 182, 0, 115, 153, 0, 7, 4, 167, 0, 4, 3, 128, 60]
abbrev dktX4_hasT_9 : List UInt8 := dkwX4_hasT_9 ++ dktX4_hasT_10
def dkwX4_hasT_8 : List UInt8 := [45, 193, 0, 139, 153, 0, 41, 45, 192, 0, 139, 58, 4, 27, 42, 25, 4, 180, 0, 141, 182, 0, 115]
abbrev dktX4_hasT_8 : List UInt8 := dkwX4_hasT_8 ++ dktX4_hasT_9
def dkwX4_hasT_7 : List UInt8 := [193, 0, 136, 153, 0, 21, 45, 192, 0, 136, 58, 4, 27, 42, 25, 4, 180, 0, 138, 182, 0, 115, 128, 60]
abbrev dktX4_hasT_7 : List UInt8 := dkwX4_hasT_7 ++ dktX4_hasT_8
def dkwX4_hasT_6 : List UInt8 := [154, 0, 15, 42, 25, 4, 180, 0, 133, 182, 0, 115, 153, 0, 7, 4, 167, 0, 4, 3, 128, 60, 45]
abbrev dktX4_hasT_6 : List UInt8 := dkwX4_hasT_6 ++ dktX4_hasT_7
def dkwX4_hasT_5 : List UInt8 := [193, 0, 128, 153, 0, 41, 45, 192, 0, 128, 58, 4, 27, 42, 25, 4, 180, 0, 130, 182, 0, 115]
abbrev dktX4_hasT_5 : List UInt8 := dkwX4_hasT_5 ++ dktX4_hasT_6
def dkwX4_hasT_4 : List UInt8 := [153, 0, 21, 45, 192, 0, 122, 58, 4, 27, 42, 25, 4, 180, 0, 124, 182, 0, 115, 128, 60, 45]
abbrev dktX4_hasT_4 : List UInt8 := dkwX4_hasT_4 ++ dktX4_hasT_5
def dkwX4_hasT_3 : List UInt8 := [182, 0, 69, 182, 0, 119, 182, 0, 115, 153, 0, 7, 4, 167, 0, 4, 3, 128, 60, 45, 193, 0, 122]
abbrev dktX4_hasT_3 : List UInt8 := dkwX4_hasT_3 ++ dktX4_hasT_4
def dkwX4_hasT_2 : List UInt8 := [182, 0, 69, 198, 0, 39, 27, 42, 45, 182, 0, 69, 182, 0, 111, 182, 0, 115, 154, 0, 17, 42, 45]
abbrev dktX4_hasT_2 : List UInt8 := dkwX4_hasT_2 ++ dktX4_hasT_3
def dkwX4_hasT_1 : List UInt8 := [192, 0, 45, 78, 27, 45, 182, 0, 108, 16, 15, 164, 0, 7, 4, 167, 0, 4, 3, 128, 60, 45]
abbrev dktX4_hasT_1 : List UInt8 := dkwX4_hasT_1 ++ dktX4_hasT_2
def dkwX4_hasT_0 : List UInt8 := [3, 60, 3, 61, 28, 42, 180, 0, 16, 182, 0, 29, 162, 0, 221, 42, 180, 0, 16, 28, 182, 0, 25]
abbrev dktX4_hasT_0 : List UInt8 := dkwX4_hasT_0 ++ dktX4_hasT_1
theorem dksX4_hasT_0 : cX4_hasT.data.toList.drop 0 = dktX4_hasT_0 := by decide +kernel
theorem dksX4_hasT_1 : cX4_hasT.data.toList.drop 23 = dktX4_hasT_1 := dk_seg dksX4_hasT_0 23 rfl rfl
theorem dksX4_hasT_2 : cX4_hasT.data.toList.drop 45 = dktX4_hasT_2 := dk_seg dksX4_hasT_1 22 rfl rfl
theorem dksX4_hasT_3 : cX4_hasT.data.toList.drop 68 = dktX4_hasT_3 := dk_seg dksX4_hasT_2 23 rfl rfl
theorem dksX4_hasT_4 : cX4_hasT.data.toList.drop 91 = dktX4_hasT_4 := dk_seg dksX4_hasT_3 23 rfl rfl
theorem dksX4_hasT_5 : cX4_hasT.data.toList.drop 113 = dktX4_hasT_5 := dk_seg dksX4_hasT_4 22 rfl rfl
theorem dksX4_hasT_6 : cX4_hasT.data.toList.drop 135 = dktX4_hasT_6 := dk_seg dksX4_hasT_5 22 rfl rfl
theorem dksX4_hasT_7 : cX4_hasT.data.toList.drop 158 = dktX4_hasT_7 := dk_seg dksX4_hasT_6 23 rfl rfl
theorem dksX4_hasT_8 : cX4_hasT.data.toList.drop 182 = dktX4_hasT_8 := dk_seg dksX4_hasT_7 24 rfl rfl
theorem dksX4_hasT_9 : cX4_hasT.data.toList.drop 205 = dktX4_hasT_9 := dk_seg dksX4_hasT_8 23 rfl rfl
theorem dksX4_hasT_10 : cX4_hasT.data.toList.drop 227 = dktX4_hasT_10 := dk_seg dksX4_hasT_9 22 rfl rfl
theorem dX4_hasT_0 : decode cX4_hasT 0 = .ok (.iconst 0, 1) := dk_3 (dk_at dksX4_hasT_0 0 rfl rfl)
theorem dX4_hasT_1 : decode cX4_hasT 1 = .ok (.istore_n 1, 1) := dk_60 (dk_at dksX4_hasT_0 1 rfl rfl)
theorem dX4_hasT_2 : decode cX4_hasT 2 = .ok (.iconst 0, 1) := dk_3 (dk_at dksX4_hasT_0 2 rfl rfl)
theorem dX4_hasT_3 : decode cX4_hasT 3 = .ok (.istore_n 2, 1) := dk_61 (dk_at dksX4_hasT_0 3 rfl rfl)
theorem dX4_hasT_4 : decode cX4_hasT 4 = .ok (.iload_n 2, 1) := dk_28 (dk_at dksX4_hasT_0 4 rfl rfl)
theorem dX4_hasT_5 : decode cX4_hasT 5 = .ok (.aload_n 0, 1) := dk_42 (dk_at dksX4_hasT_0 5 rfl rfl)
theorem dX4_hasT_6 : decode cX4_hasT 6 = .ok (.getfield 16, 3) := dk_180 0 16 (dk_at dksX4_hasT_0 6 rfl rfl)
theorem dX4_hasT_9 : decode cX4_hasT 9 = .ok (.invokevirtual 29, 3) := dk_182 0 29 (dk_at dksX4_hasT_0 9 rfl rfl)
theorem dX4_hasT_12 : decode cX4_hasT 12 = .ok (.if_icmp .ge 221, 3) := dk_162 0 221 (dk_at dksX4_hasT_0 12 rfl rfl)
theorem dX4_hasT_15 : decode cX4_hasT 15 = .ok (.aload_n 0, 1) := dk_42 (dk_at dksX4_hasT_0 15 rfl rfl)
theorem dX4_hasT_16 : decode cX4_hasT 16 = .ok (.getfield 16, 3) := dk_180 0 16 (dk_at dksX4_hasT_0 16 rfl rfl)
theorem dX4_hasT_19 : decode cX4_hasT 19 = .ok (.iload_n 2, 1) := dk_28 (dk_at dksX4_hasT_0 19 rfl rfl)
theorem dX4_hasT_20 : decode cX4_hasT 20 = .ok (.invokevirtual 25, 3) := dk_182 0 25 (dk_at dksX4_hasT_0 20 rfl rfl)
theorem dX4_hasT_23 : decode cX4_hasT 23 = .ok (.checkcast 45, 3) := dk_192 0 45 (dk_at dksX4_hasT_1 0 rfl rfl)
theorem dX4_hasT_26 : decode cX4_hasT 26 = .ok (.astore_n 3, 1) := dk_78 (dk_at dksX4_hasT_1 3 rfl rfl)
theorem dX4_hasT_27 : decode cX4_hasT 27 = .ok (.iload_n 1, 1) := dk_27 (dk_at dksX4_hasT_1 4 rfl rfl)
theorem dX4_hasT_28 : decode cX4_hasT 28 = .ok (.aload_n 3, 1) := dk_45 (dk_at dksX4_hasT_1 5 rfl rfl)
theorem dX4_hasT_29 : decode cX4_hasT 29 = .ok (.invokevirtual 108, 3) := dk_182 0 108 (dk_at dksX4_hasT_1 6 rfl rfl)
theorem dX4_hasT_32 : decode cX4_hasT 32 = .ok (.bipush 15, 2) := dk_16 15 (dk_at dksX4_hasT_1 9 rfl rfl)
theorem dX4_hasT_34 : decode cX4_hasT 34 = .ok (.if_icmp .le 7, 3) := dk_164 0 7 (dk_at dksX4_hasT_1 11 rfl rfl)
theorem dX4_hasT_37 : decode cX4_hasT 37 = .ok (.iconst 1, 1) := dk_4 (dk_at dksX4_hasT_1 14 rfl rfl)
theorem dX4_hasT_38 : decode cX4_hasT 38 = .ok (.goto 4, 3) := dk_167 0 4 (dk_at dksX4_hasT_1 15 rfl rfl)
theorem dX4_hasT_41 : decode cX4_hasT 41 = .ok (.iconst 0, 1) := dk_3 (dk_at dksX4_hasT_1 18 rfl rfl)
theorem dX4_hasT_42 : decode cX4_hasT 42 = .ok (.ior, 1) := dk_128 (dk_at dksX4_hasT_1 19 rfl rfl)
theorem dX4_hasT_43 : decode cX4_hasT 43 = .ok (.istore_n 1, 1) := dk_60 (dk_at dksX4_hasT_1 20 rfl rfl)
theorem dX4_hasT_44 : decode cX4_hasT 44 = .ok (.aload_n 3, 1) := dk_45 (dk_at dksX4_hasT_1 21 rfl rfl)
theorem dX4_hasT_45 : decode cX4_hasT 45 = .ok (.invokevirtual 69, 3) := dk_182 0 69 (dk_at dksX4_hasT_2 0 rfl rfl)
theorem dX4_hasT_48 : decode cX4_hasT 48 = .ok (.ifnull 39, 3) := dk_198 0 39 (dk_at dksX4_hasT_2 3 rfl rfl)
theorem dX4_hasT_51 : decode cX4_hasT 51 = .ok (.iload_n 1, 1) := dk_27 (dk_at dksX4_hasT_2 6 rfl rfl)
theorem dX4_hasT_52 : decode cX4_hasT 52 = .ok (.aload_n 0, 1) := dk_42 (dk_at dksX4_hasT_2 7 rfl rfl)
theorem dX4_hasT_53 : decode cX4_hasT 53 = .ok (.aload_n 3, 1) := dk_45 (dk_at dksX4_hasT_2 8 rfl rfl)
theorem dX4_hasT_54 : decode cX4_hasT 54 = .ok (.invokevirtual 69, 3) := dk_182 0 69 (dk_at dksX4_hasT_2 9 rfl rfl)
theorem dX4_hasT_57 : decode cX4_hasT 57 = .ok (.invokevirtual 111, 3) := dk_182 0 111 (dk_at dksX4_hasT_2 12 rfl rfl)
theorem dX4_hasT_60 : decode cX4_hasT 60 = .ok (.invokevirtual 115, 3) := dk_182 0 115 (dk_at dksX4_hasT_2 15 rfl rfl)
theorem dX4_hasT_63 : decode cX4_hasT 63 = .ok (.ifCond .ne 17, 3) := dk_154 0 17 (dk_at dksX4_hasT_2 18 rfl rfl)
theorem dX4_hasT_66 : decode cX4_hasT 66 = .ok (.aload_n 0, 1) := dk_42 (dk_at dksX4_hasT_2 21 rfl rfl)
theorem dX4_hasT_67 : decode cX4_hasT 67 = .ok (.aload_n 3, 1) := dk_45 (dk_at dksX4_hasT_2 22 rfl rfl)
theorem dX4_hasT_68 : decode cX4_hasT 68 = .ok (.invokevirtual 69, 3) := dk_182 0 69 (dk_at dksX4_hasT_3 0 rfl rfl)
theorem dX4_hasT_71 : decode cX4_hasT 71 = .ok (.invokevirtual 119, 3) := dk_182 0 119 (dk_at dksX4_hasT_3 3 rfl rfl)
theorem dX4_hasT_74 : decode cX4_hasT 74 = .ok (.invokevirtual 115, 3) := dk_182 0 115 (dk_at dksX4_hasT_3 6 rfl rfl)
theorem dX4_hasT_77 : decode cX4_hasT 77 = .ok (.ifCond .eq 7, 3) := dk_153 0 7 (dk_at dksX4_hasT_3 9 rfl rfl)
theorem dX4_hasT_80 : decode cX4_hasT 80 = .ok (.iconst 1, 1) := dk_4 (dk_at dksX4_hasT_3 12 rfl rfl)
theorem dX4_hasT_81 : decode cX4_hasT 81 = .ok (.goto 4, 3) := dk_167 0 4 (dk_at dksX4_hasT_3 13 rfl rfl)
theorem dX4_hasT_84 : decode cX4_hasT 84 = .ok (.iconst 0, 1) := dk_3 (dk_at dksX4_hasT_3 16 rfl rfl)
theorem dX4_hasT_85 : decode cX4_hasT 85 = .ok (.ior, 1) := dk_128 (dk_at dksX4_hasT_3 17 rfl rfl)
theorem dX4_hasT_86 : decode cX4_hasT 86 = .ok (.istore_n 1, 1) := dk_60 (dk_at dksX4_hasT_3 18 rfl rfl)
theorem dX4_hasT_87 : decode cX4_hasT 87 = .ok (.aload_n 3, 1) := dk_45 (dk_at dksX4_hasT_3 19 rfl rfl)
theorem dX4_hasT_88 : decode cX4_hasT 88 = .ok (.instanceof 122, 3) := dk_193 0 122 (dk_at dksX4_hasT_3 20 rfl rfl)
theorem dX4_hasT_91 : decode cX4_hasT 91 = .ok (.ifCond .eq 21, 3) := dk_153 0 21 (dk_at dksX4_hasT_4 0 rfl rfl)
theorem dX4_hasT_94 : decode cX4_hasT 94 = .ok (.aload_n 3, 1) := dk_45 (dk_at dksX4_hasT_4 3 rfl rfl)
theorem dX4_hasT_95 : decode cX4_hasT 95 = .ok (.checkcast 122, 3) := dk_192 0 122 (dk_at dksX4_hasT_4 4 rfl rfl)
theorem dX4_hasT_98 : decode cX4_hasT 98 = .ok (.astore 4, 2) := dk_58 4 (dk_at dksX4_hasT_4 7 rfl rfl)
theorem dX4_hasT_100 : decode cX4_hasT 100 = .ok (.iload_n 1, 1) := dk_27 (dk_at dksX4_hasT_4 9 rfl rfl)
theorem dX4_hasT_101 : decode cX4_hasT 101 = .ok (.aload_n 0, 1) := dk_42 (dk_at dksX4_hasT_4 10 rfl rfl)
theorem dX4_hasT_102 : decode cX4_hasT 102 = .ok (.aload 4, 2) := dk_25 4 (dk_at dksX4_hasT_4 11 rfl rfl)
theorem dX4_hasT_104 : decode cX4_hasT 104 = .ok (.getfield 124, 3) := dk_180 0 124 (dk_at dksX4_hasT_4 13 rfl rfl)
theorem dX4_hasT_107 : decode cX4_hasT 107 = .ok (.invokevirtual 115, 3) := dk_182 0 115 (dk_at dksX4_hasT_4 16 rfl rfl)
theorem dX4_hasT_110 : decode cX4_hasT 110 = .ok (.ior, 1) := dk_128 (dk_at dksX4_hasT_4 19 rfl rfl)
theorem dX4_hasT_111 : decode cX4_hasT 111 = .ok (.istore_n 1, 1) := dk_60 (dk_at dksX4_hasT_4 20 rfl rfl)
theorem dX4_hasT_112 : decode cX4_hasT 112 = .ok (.aload_n 3, 1) := dk_45 (dk_at dksX4_hasT_4 21 rfl rfl)
theorem dX4_hasT_113 : decode cX4_hasT 113 = .ok (.instanceof 128, 3) := dk_193 0 128 (dk_at dksX4_hasT_5 0 rfl rfl)
theorem dX4_hasT_116 : decode cX4_hasT 116 = .ok (.ifCond .eq 41, 3) := dk_153 0 41 (dk_at dksX4_hasT_5 3 rfl rfl)
theorem dX4_hasT_119 : decode cX4_hasT 119 = .ok (.aload_n 3, 1) := dk_45 (dk_at dksX4_hasT_5 6 rfl rfl)
theorem dX4_hasT_120 : decode cX4_hasT 120 = .ok (.checkcast 128, 3) := dk_192 0 128 (dk_at dksX4_hasT_5 7 rfl rfl)
theorem dX4_hasT_123 : decode cX4_hasT 123 = .ok (.astore 4, 2) := dk_58 4 (dk_at dksX4_hasT_5 10 rfl rfl)
theorem dX4_hasT_125 : decode cX4_hasT 125 = .ok (.iload_n 1, 1) := dk_27 (dk_at dksX4_hasT_5 12 rfl rfl)
theorem dX4_hasT_126 : decode cX4_hasT 126 = .ok (.aload_n 0, 1) := dk_42 (dk_at dksX4_hasT_5 13 rfl rfl)
theorem dX4_hasT_127 : decode cX4_hasT 127 = .ok (.aload 4, 2) := dk_25 4 (dk_at dksX4_hasT_5 14 rfl rfl)
theorem dX4_hasT_129 : decode cX4_hasT 129 = .ok (.getfield 130, 3) := dk_180 0 130 (dk_at dksX4_hasT_5 16 rfl rfl)
theorem dX4_hasT_132 : decode cX4_hasT 132 = .ok (.invokevirtual 115, 3) := dk_182 0 115 (dk_at dksX4_hasT_5 19 rfl rfl)
theorem dX4_hasT_135 : decode cX4_hasT 135 = .ok (.ifCond .ne 15, 3) := dk_154 0 15 (dk_at dksX4_hasT_6 0 rfl rfl)
theorem dX4_hasT_138 : decode cX4_hasT 138 = .ok (.aload_n 0, 1) := dk_42 (dk_at dksX4_hasT_6 3 rfl rfl)
theorem dX4_hasT_139 : decode cX4_hasT 139 = .ok (.aload 4, 2) := dk_25 4 (dk_at dksX4_hasT_6 4 rfl rfl)
theorem dX4_hasT_141 : decode cX4_hasT 141 = .ok (.getfield 133, 3) := dk_180 0 133 (dk_at dksX4_hasT_6 6 rfl rfl)
theorem dX4_hasT_144 : decode cX4_hasT 144 = .ok (.invokevirtual 115, 3) := dk_182 0 115 (dk_at dksX4_hasT_6 9 rfl rfl)
theorem dX4_hasT_147 : decode cX4_hasT 147 = .ok (.ifCond .eq 7, 3) := dk_153 0 7 (dk_at dksX4_hasT_6 12 rfl rfl)
theorem dX4_hasT_150 : decode cX4_hasT 150 = .ok (.iconst 1, 1) := dk_4 (dk_at dksX4_hasT_6 15 rfl rfl)
theorem dX4_hasT_151 : decode cX4_hasT 151 = .ok (.goto 4, 3) := dk_167 0 4 (dk_at dksX4_hasT_6 16 rfl rfl)
theorem dX4_hasT_154 : decode cX4_hasT 154 = .ok (.iconst 0, 1) := dk_3 (dk_at dksX4_hasT_6 19 rfl rfl)
theorem dX4_hasT_155 : decode cX4_hasT 155 = .ok (.ior, 1) := dk_128 (dk_at dksX4_hasT_6 20 rfl rfl)
theorem dX4_hasT_156 : decode cX4_hasT 156 = .ok (.istore_n 1, 1) := dk_60 (dk_at dksX4_hasT_6 21 rfl rfl)
theorem dX4_hasT_157 : decode cX4_hasT 157 = .ok (.aload_n 3, 1) := dk_45 (dk_at dksX4_hasT_6 22 rfl rfl)
theorem dX4_hasT_158 : decode cX4_hasT 158 = .ok (.instanceof 136, 3) := dk_193 0 136 (dk_at dksX4_hasT_7 0 rfl rfl)
theorem dX4_hasT_161 : decode cX4_hasT 161 = .ok (.ifCond .eq 21, 3) := dk_153 0 21 (dk_at dksX4_hasT_7 3 rfl rfl)
theorem dX4_hasT_164 : decode cX4_hasT 164 = .ok (.aload_n 3, 1) := dk_45 (dk_at dksX4_hasT_7 6 rfl rfl)
theorem dX4_hasT_165 : decode cX4_hasT 165 = .ok (.checkcast 136, 3) := dk_192 0 136 (dk_at dksX4_hasT_7 7 rfl rfl)
theorem dX4_hasT_168 : decode cX4_hasT 168 = .ok (.astore 4, 2) := dk_58 4 (dk_at dksX4_hasT_7 10 rfl rfl)
theorem dX4_hasT_170 : decode cX4_hasT 170 = .ok (.iload_n 1, 1) := dk_27 (dk_at dksX4_hasT_7 12 rfl rfl)
theorem dX4_hasT_171 : decode cX4_hasT 171 = .ok (.aload_n 0, 1) := dk_42 (dk_at dksX4_hasT_7 13 rfl rfl)
theorem dX4_hasT_172 : decode cX4_hasT 172 = .ok (.aload 4, 2) := dk_25 4 (dk_at dksX4_hasT_7 14 rfl rfl)
theorem dX4_hasT_174 : decode cX4_hasT 174 = .ok (.getfield 138, 3) := dk_180 0 138 (dk_at dksX4_hasT_7 16 rfl rfl)
theorem dX4_hasT_177 : decode cX4_hasT 177 = .ok (.invokevirtual 115, 3) := dk_182 0 115 (dk_at dksX4_hasT_7 19 rfl rfl)
theorem dX4_hasT_180 : decode cX4_hasT 180 = .ok (.ior, 1) := dk_128 (dk_at dksX4_hasT_7 22 rfl rfl)
theorem dX4_hasT_181 : decode cX4_hasT 181 = .ok (.istore_n 1, 1) := dk_60 (dk_at dksX4_hasT_7 23 rfl rfl)
theorem dX4_hasT_182 : decode cX4_hasT 182 = .ok (.aload_n 3, 1) := dk_45 (dk_at dksX4_hasT_8 0 rfl rfl)
theorem dX4_hasT_183 : decode cX4_hasT 183 = .ok (.instanceof 139, 3) := dk_193 0 139 (dk_at dksX4_hasT_8 1 rfl rfl)
theorem dX4_hasT_186 : decode cX4_hasT 186 = .ok (.ifCond .eq 41, 3) := dk_153 0 41 (dk_at dksX4_hasT_8 4 rfl rfl)
theorem dX4_hasT_189 : decode cX4_hasT 189 = .ok (.aload_n 3, 1) := dk_45 (dk_at dksX4_hasT_8 7 rfl rfl)
theorem dX4_hasT_190 : decode cX4_hasT 190 = .ok (.checkcast 139, 3) := dk_192 0 139 (dk_at dksX4_hasT_8 8 rfl rfl)
theorem dX4_hasT_193 : decode cX4_hasT 193 = .ok (.astore 4, 2) := dk_58 4 (dk_at dksX4_hasT_8 11 rfl rfl)
theorem dX4_hasT_195 : decode cX4_hasT 195 = .ok (.iload_n 1, 1) := dk_27 (dk_at dksX4_hasT_8 13 rfl rfl)
theorem dX4_hasT_196 : decode cX4_hasT 196 = .ok (.aload_n 0, 1) := dk_42 (dk_at dksX4_hasT_8 14 rfl rfl)
theorem dX4_hasT_197 : decode cX4_hasT 197 = .ok (.aload 4, 2) := dk_25 4 (dk_at dksX4_hasT_8 15 rfl rfl)
theorem dX4_hasT_199 : decode cX4_hasT 199 = .ok (.getfield 141, 3) := dk_180 0 141 (dk_at dksX4_hasT_8 17 rfl rfl)
theorem dX4_hasT_202 : decode cX4_hasT 202 = .ok (.invokevirtual 115, 3) := dk_182 0 115 (dk_at dksX4_hasT_8 20 rfl rfl)
theorem dX4_hasT_205 : decode cX4_hasT 205 = .ok (.ifCond .ne 15, 3) := dk_154 0 15 (dk_at dksX4_hasT_9 0 rfl rfl)
theorem dX4_hasT_208 : decode cX4_hasT 208 = .ok (.aload_n 0, 1) := dk_42 (dk_at dksX4_hasT_9 3 rfl rfl)
theorem dX4_hasT_209 : decode cX4_hasT 209 = .ok (.aload 4, 2) := dk_25 4 (dk_at dksX4_hasT_9 4 rfl rfl)
theorem dX4_hasT_211 : decode cX4_hasT 211 = .ok (.getfield 144, 3) := dk_180 0 144 (dk_at dksX4_hasT_9 6 rfl rfl)
theorem dX4_hasT_214 : decode cX4_hasT 214 = .ok (.invokevirtual 115, 3) := dk_182 0 115 (dk_at dksX4_hasT_9 9 rfl rfl)
theorem dX4_hasT_217 : decode cX4_hasT 217 = .ok (.ifCond .eq 7, 3) := dk_153 0 7 (dk_at dksX4_hasT_9 12 rfl rfl)
theorem dX4_hasT_220 : decode cX4_hasT 220 = .ok (.iconst 1, 1) := dk_4 (dk_at dksX4_hasT_9 15 rfl rfl)
theorem dX4_hasT_221 : decode cX4_hasT 221 = .ok (.goto 4, 3) := dk_167 0 4 (dk_at dksX4_hasT_9 16 rfl rfl)
theorem dX4_hasT_224 : decode cX4_hasT 224 = .ok (.iconst 0, 1) := dk_3 (dk_at dksX4_hasT_9 19 rfl rfl)
theorem dX4_hasT_225 : decode cX4_hasT 225 = .ok (.ior, 1) := dk_128 (dk_at dksX4_hasT_9 20 rfl rfl)
theorem dX4_hasT_226 : decode cX4_hasT 226 = .ok (.istore_n 1, 1) := dk_60 (dk_at dksX4_hasT_9 21 rfl rfl)
theorem dX4_hasT_227 : decode cX4_hasT 227 = .ok (.iinc 2 1, 3) := dk_132 2 1 (dk_at dksX4_hasT_10 0 rfl rfl)
theorem dX4_hasT_230 : decode cX4_hasT 230 = .ok (.goto (-226), 3) := dk_167 255 30 (dk_at dksX4_hasT_10 3 rfl rfl)
theorem dX4_hasT_233 : decode cX4_hasT 233 = .ok (.iload_n 1, 1) := dk_27 (dk_at dksX4_hasT_10 6 rfl rfl)
theorem dX4_hasT_234 : decode cX4_hasT 234 = .ok (.ireturn, 1) := dk_172 (dk_at dksX4_hasT_10 7 rfl rfl)
abbrev cX4_hasT_2 : ByteArray := prog_14_method_7_code
def yX4_hasT_2 : MethodName := ⟨RX4, "hasT", "(LLateAndEarly$Operand;)Z"⟩
def dkwX4_hasT_2_1 : List UInt8 := [3, 172]
abbrev dktX4_hasT_2_1 : List UInt8 := dkwX4_hasT_2_1 ++ []
def dkwX4_hasT_2_0 : List UInt8 := [43, 198, 0, 23, 43, 180, 0, 99, 153, 0, 16, 43, 180, 0, 105, 16, 15, 164, 0, 7, 4, 167, 0, 4]
abbrev dktX4_hasT_2_0 : List UInt8 := dkwX4_hasT_2_0 ++ dktX4_hasT_2_1
theorem dksX4_hasT_2_0 : cX4_hasT_2.data.toList.drop 0 = dktX4_hasT_2_0 := by decide +kernel
theorem dksX4_hasT_2_1 : cX4_hasT_2.data.toList.drop 24 = dktX4_hasT_2_1 := dk_seg dksX4_hasT_2_0 24 rfl rfl
theorem dX4_hasT_2_0 : decode cX4_hasT_2 0 = .ok (.aload_n 1, 1) := dk_43 (dk_at dksX4_hasT_2_0 0 rfl rfl)
theorem dX4_hasT_2_1 : decode cX4_hasT_2 1 = .ok (.ifnull 23, 3) := dk_198 0 23 (dk_at dksX4_hasT_2_0 1 rfl rfl)
theorem dX4_hasT_2_4 : decode cX4_hasT_2 4 = .ok (.aload_n 1, 1) := dk_43 (dk_at dksX4_hasT_2_0 4 rfl rfl)
theorem dX4_hasT_2_5 : decode cX4_hasT_2 5 = .ok (.getfield 99, 3) := dk_180 0 99 (dk_at dksX4_hasT_2_0 5 rfl rfl)
theorem dX4_hasT_2_8 : decode cX4_hasT_2 8 = .ok (.ifCond .eq 16, 3) := dk_153 0 16 (dk_at dksX4_hasT_2_0 8 rfl rfl)
theorem dX4_hasT_2_11 : decode cX4_hasT_2 11 = .ok (.aload_n 1, 1) := dk_43 (dk_at dksX4_hasT_2_0 11 rfl rfl)
theorem dX4_hasT_2_12 : decode cX4_hasT_2 12 = .ok (.getfield 105, 3) := dk_180 0 105 (dk_at dksX4_hasT_2_0 12 rfl rfl)
theorem dX4_hasT_2_15 : decode cX4_hasT_2 15 = .ok (.bipush 15, 2) := dk_16 15 (dk_at dksX4_hasT_2_0 15 rfl rfl)
theorem dX4_hasT_2_17 : decode cX4_hasT_2 17 = .ok (.if_icmp .le 7, 3) := dk_164 0 7 (dk_at dksX4_hasT_2_0 17 rfl rfl)
theorem dX4_hasT_2_20 : decode cX4_hasT_2 20 = .ok (.iconst 1, 1) := dk_4 (dk_at dksX4_hasT_2_0 20 rfl rfl)
theorem dX4_hasT_2_21 : decode cX4_hasT_2 21 = .ok (.goto 4, 3) := dk_167 0 4 (dk_at dksX4_hasT_2_0 21 rfl rfl)
theorem dX4_hasT_2_24 : decode cX4_hasT_2 24 = .ok (.iconst 0, 1) := dk_3 (dk_at dksX4_hasT_2_1 0 rfl rfl)
theorem dX4_hasT_2_25 : decode cX4_hasT_2 25 = .ok (.ireturn, 1) := dk_172 (dk_at dksX4_hasT_2_1 1 rfl rfl)
theorem q136 : (Jvm.Cond.initialized "LateAndEarly$Routine") ∈ lw_all := lw_g (lw_at lw_m1 5 rfl) rfl
theorem q258 : (Jvm.Cond.instantiable "LateAndEarly$Routine" (14 : Nat)) ∈ lw_all := lw_g (lw_at lw_m1 127 rfl) rfl
theorem q260 : (Jvm.Cond.instanceMethod ({ cls := "LateAndEarly$Routine", name := "<init>", desc := "()V" } : Jvm.MethodName)) ∈ lw_all := lw_g (lw_at lw_m1 129 rfl) rfl
theorem q261 : (Jvm.Cond.code ({ cls := "LateAndEarly$Routine", name := "<init>", desc := "()V" } : Jvm.MethodName) prog_14_method_1_code (1 : Nat) (Option.none : Option Jvm.ClassFile.FieldType)) ∈ lw_all := lw_g (lw_at lw_m1 130 rfl) rfl
theorem q262 : (Jvm.Cond.methodLink "LateAndEarly$Routine" (1 : Nat) ({ cls := "java/lang/Object", name := "<init>", desc := "()V" } : Jvm.MethodName)) ∈ lw_all := lw_g (lw_at lw_m1 131 rfl) rfl
theorem q263 : (Jvm.Cond.classLink "LateAndEarly$Routine" (7 : Nat) "java/util/ArrayList") ∈ lw_all := lw_g (lw_at lw_m1 132 rfl) rfl
theorem q265 : (Jvm.Cond.methodLink "LateAndEarly$Routine" (9 : Nat) ({ cls := "java/util/ArrayList", name := "<init>", desc := "()V" } : Jvm.MethodName)) ∈ lw_all := lw_g (lw_at lw_m1 134 rfl) rfl
theorem q289 : (Jvm.Cond.fieldLink "LateAndEarly$Routine" (10 : Nat) "LateAndEarly$Routine" "blocks" "Ljava/util/ArrayList;") ∈ lw_all := lw_g (lw_at lw_m1 158 rfl) rfl
theorem q293 : (Jvm.Cond.fieldLink "LateAndEarly$Routine" (16 : Nat) "LateAndEarly$Routine" "nodes" "Ljava/util/ArrayList;") ∈ lw_all := lw_g (lw_at lw_m1 162 rfl) rfl
theorem q297 : (Jvm.Cond.fieldLink "LateAndEarly$Routine" (19 : Nat) "LateAndEarly$Routine" "sums" "Ljava/util/ArrayList;") ∈ lw_all := lw_g (lw_at lw_m1 166 rfl) rfl
theorem q301 : (Jvm.Cond.fieldLink "LateAndEarly$Routine" (22 : Nat) "LateAndEarly$Routine" "way" "Ljava/util/ArrayList;") ∈ lw_all := lw_g (lw_at lw_m1 170 rfl) rfl
theorem q303 : (Jvm.Cond.fieldLink "LateAndEarly$Routine" (58 : Nat) "LateAndEarly$Routine" "lines" "I") ∈ lw_all := lw_g (lw_at lw_m1 172 rfl) rfl
theorem q306 : (Jvm.Cond.fieldLink "LateAndEarly$Routine" (85 : Nat) "LateAndEarly$Routine" "onWays" "I") ∈ lw_all := lw_g (lw_at lw_m1 175 rfl) rfl
theorem q308 : (Jvm.Cond.fieldLink "LateAndEarly$Routine" (151 : Nat) "LateAndEarly$Routine" "works" "[J") ∈ lw_all := lw_g (lw_at lw_m1 177 rfl) rfl
theorem q310 : (Jvm.Cond.fieldLink "LateAndEarly$Routine" (154 : Nat) "LateAndEarly$Routine" "kills" "[J") ∈ lw_all := lw_g (lw_at lw_m1 179 rfl) rfl
theorem q312 : (Jvm.Cond.fieldLink "LateAndEarly$Routine" (178 : Nat) "LateAndEarly$Routine" "wanted" "[J") ∈ lw_all := lw_g (lw_at lw_m1 181 rfl) rfl
theorem q314 : (Jvm.Cond.fieldLink "LateAndEarly$Routine" (175 : Nat) "LateAndEarly$Routine" "there" "[J") ∈ lw_all := lw_g (lw_at lw_m1 183 rfl) rfl
theorem q316 : (Jvm.Cond.fieldLink "LateAndEarly$Routine" (165 : Nat) "LateAndEarly$Routine" "early" "[J") ∈ lw_all := lw_g (lw_at lw_m1 185 rfl) rfl
theorem q318 : (Jvm.Cond.fieldLink "LateAndEarly$Routine" (192 : Nat) "LateAndEarly$Routine" "delayed" "[J") ∈ lw_all := lw_g (lw_at lw_m1 187 rfl) rfl
theorem q320 : (Jvm.Cond.fieldLink "LateAndEarly$Routine" (186 : Nat) "LateAndEarly$Routine" "latest" "[J") ∈ lw_all := lw_g (lw_at lw_m1 189 rfl) rfl
theorem q323 : (Jvm.Cond.fieldLink "LateAndEarly$Routine" (208 : Nat) "LateAndEarly$Routine" "alone" "[J") ∈ lw_all := lw_g (lw_at lw_m1 192 rfl) rfl
theorem q324 : (Jvm.Cond.laysFinal "LateAndEarly$Routine" "LateAndEarly$Routine" "blocks" "Ljava/util/ArrayList;") ∈ lw_all := lw_g (lw_at lw_m1 193 rfl) rfl
theorem q325 : (Jvm.Cond.soleField "LateAndEarly$Routine" "blocks") ∈ lw_all := lw_g (lw_at lw_m1 194 rfl) rfl
theorem q326 : (Jvm.Cond.laysFinal "LateAndEarly$Routine" "LateAndEarly$Routine" "nodes" "Ljava/util/ArrayList;") ∈ lw_all := lw_g (lw_at lw_m1 195 rfl) rfl
theorem q327 : (Jvm.Cond.soleField "LateAndEarly$Routine" "nodes") ∈ lw_all := lw_g (lw_at lw_m1 196 rfl) rfl
theorem q328 : (Jvm.Cond.laysFinal "LateAndEarly$Routine" "LateAndEarly$Routine" "sums" "Ljava/util/ArrayList;") ∈ lw_all := lw_g (lw_at lw_m1 197 rfl) rfl
theorem q329 : (Jvm.Cond.soleField "LateAndEarly$Routine" "sums") ∈ lw_all := lw_g (lw_at lw_m1 198 rfl) rfl
theorem q330 : (Jvm.Cond.laysFinal "LateAndEarly$Routine" "LateAndEarly$Routine" "way" "Ljava/util/ArrayList;") ∈ lw_all := lw_g (lw_at lw_m1 199 rfl) rfl
theorem q331 : (Jvm.Cond.soleField "LateAndEarly$Routine" "way") ∈ lw_all := lw_g (lw_at lw_m1 200 rfl) rfl
theorem q332 : (Jvm.Cond.lays "LateAndEarly$Routine" "LateAndEarly$Routine" "lines" "I") ∈ lw_all := lw_g (lw_at lw_m1 201 rfl) rfl
theorem q333 : (Jvm.Cond.soleField "LateAndEarly$Routine" "lines") ∈ lw_all := lw_g (lw_at lw_m1 202 rfl) rfl
theorem q334 : (Jvm.Cond.lays "LateAndEarly$Routine" "LateAndEarly$Routine" "onWays" "I") ∈ lw_all := lw_g (lw_at lw_m1 203 rfl) rfl
theorem q335 : (Jvm.Cond.soleField "LateAndEarly$Routine" "onWays") ∈ lw_all := lw_g (lw_at lw_m1 204 rfl) rfl
theorem q336 : (Jvm.Cond.lays "LateAndEarly$Routine" "LateAndEarly$Routine" "works" "[J") ∈ lw_all := lw_g (lw_at lw_m1 205 rfl) rfl
theorem q337 : (Jvm.Cond.soleField "LateAndEarly$Routine" "works") ∈ lw_all := lw_g (lw_at lw_m1 206 rfl) rfl
theorem q338 : (Jvm.Cond.lays "LateAndEarly$Routine" "LateAndEarly$Routine" "kills" "[J") ∈ lw_all := lw_g (lw_at lw_m1 207 rfl) rfl
theorem q339 : (Jvm.Cond.soleField "LateAndEarly$Routine" "kills") ∈ lw_all := lw_g (lw_at lw_m1 208 rfl) rfl
theorem q340 : (Jvm.Cond.lays "LateAndEarly$Routine" "LateAndEarly$Routine" "wanted" "[J") ∈ lw_all := lw_g (lw_at lw_m1 209 rfl) rfl
theorem q341 : (Jvm.Cond.soleField "LateAndEarly$Routine" "wanted") ∈ lw_all := lw_g (lw_at lw_m1 210 rfl) rfl
theorem q342 : (Jvm.Cond.lays "LateAndEarly$Routine" "LateAndEarly$Routine" "there" "[J") ∈ lw_all := lw_g (lw_at lw_m1 211 rfl) rfl
theorem q343 : (Jvm.Cond.soleField "LateAndEarly$Routine" "there") ∈ lw_all := lw_g (lw_at lw_m1 212 rfl) rfl
theorem q344 : (Jvm.Cond.lays "LateAndEarly$Routine" "LateAndEarly$Routine" "early" "[J") ∈ lw_all := lw_g (lw_at lw_m1 213 rfl) rfl
theorem q345 : (Jvm.Cond.soleField "LateAndEarly$Routine" "early") ∈ lw_all := lw_g (lw_at lw_m1 214 rfl) rfl
theorem q346 : (Jvm.Cond.lays "LateAndEarly$Routine" "LateAndEarly$Routine" "delayed" "[J") ∈ lw_all := lw_g (lw_at lw_m1 215 rfl) rfl
theorem q347 : (Jvm.Cond.soleField "LateAndEarly$Routine" "delayed") ∈ lw_all := lw_g (lw_at lw_m1 216 rfl) rfl
theorem q348 : (Jvm.Cond.lays "LateAndEarly$Routine" "LateAndEarly$Routine" "latest" "[J") ∈ lw_all := lw_g (lw_at lw_m1 217 rfl) rfl
theorem q349 : (Jvm.Cond.soleField "LateAndEarly$Routine" "latest") ∈ lw_all := lw_g (lw_at lw_m1 218 rfl) rfl
theorem q350 : (Jvm.Cond.lays "LateAndEarly$Routine" "LateAndEarly$Routine" "alone" "[J") ∈ lw_all := lw_g (lw_at lw_m1 219 rfl) rfl
theorem q351 : (Jvm.Cond.soleField "LateAndEarly$Routine" "alone") ∈ lw_all := lw_g (lw_at lw_m1 220 rfl) rfl
theorem q352 : (Jvm.Cond.superclass "LateAndEarly$Routine" "java/lang/Object") ∈ lw_all := lw_g (lw_at lw_m1 221 rfl) rfl
theorem q644 : (Jvm.Cond.selects "LateAndEarly$Routine" ({ cls := "java/lang/Object", name := "getClass", desc := "()Ljava/lang/Class;" } : Jvm.MethodName) ({ cls := "java/lang/Object", name := "getClass", desc := "()Ljava/lang/Class;" } : Jvm.MethodName)) ∈ lw_all := lw_g (lw_at lw_m3 33 rfl) rfl
theorem q727 : (Jvm.Cond.fieldLinkNest "LateAndEarly$Routine" (99 : Nat) "LateAndEarly$Operand" "isName" "Z" "LateAndEarly") ∈ lw_tbl := lw_at lw_m3 116 rfl
theorem q731 : (Jvm.Cond.fieldLinkNest "LateAndEarly$Routine" (105 : Nat) "LateAndEarly$Operand" "v" "I" "LateAndEarly") ∈ lw_tbl := lw_at lw_m3 120 rfl
theorem q748 : (Jvm.Cond.fieldLinkNest "LateAndEarly$Routine" (138 : Nat) "LateAndEarly$Tell" "what" "LLateAndEarly$Operand;" "LateAndEarly") ∈ lw_tbl := lw_at lw_m3 137 rfl
theorem q750 : (Jvm.Cond.fieldLinkNest "LateAndEarly$Routine" (47 : Nat) "LateAndEarly$Node" "number" "I" "LateAndEarly") ∈ lw_tbl := lw_at lw_m3 139 rfl
theorem q754 : (Jvm.Cond.fieldLinkNest "LateAndEarly$Routine" (51 : Nat) "LateAndEarly$Node" "block" "I" "LateAndEarly") ∈ lw_tbl := lw_at lw_m3 143 rfl
theorem q763 : (Jvm.Cond.fieldLink "LateAndEarly$Routine" (189 : Nat) "LateAndEarly$Node" "next" "Ljava/util/ArrayList;") ∈ lw_all := lw_g (lw_at lw_m3 152 rfl) rfl
theorem q764 : (Jvm.Cond.fieldLink "LateAndEarly$Routine" (231 : Nat) "LateAndEarly$End" "next" "Ljava/util/ArrayList;") ∈ lw_all := lw_g (lw_at lw_m3 153 rfl) rfl
theorem q767 : (Jvm.Cond.fieldLink "LateAndEarly$Routine" (172 : Nat) "LateAndEarly$Node" "before" "Ljava/util/ArrayList;") ∈ lw_all := lw_g (lw_at lw_m3 156 rfl) rfl
theorem q823 : (Jvm.Cond.fieldLinkNest "LateAndEarly$Routine" (141 : Nat) "LateAndEarly$If" "a" "LLateAndEarly$Operand;" "LateAndEarly") ∈ lw_tbl := lw_at lw_m3 212 rfl
theorem q827 : (Jvm.Cond.fieldLinkNest "LateAndEarly$Routine" (144 : Nat) "LateAndEarly$If" "b" "LLateAndEarly$Operand;" "LateAndEarly") ∈ lw_tbl := lw_at lw_m3 216 rfl
theorem q859 : (Jvm.Cond.fieldLinkNest "LateAndEarly$Routine" (130 : Nat) "LateAndEarly$Write" "at" "LLateAndEarly$Operand;" "LateAndEarly") ∈ lw_tbl := lw_at lw_m4 8 rfl
theorem q863 : (Jvm.Cond.fieldLinkNest "LateAndEarly$Routine" (133 : Nat) "LateAndEarly$Write" "what" "LLateAndEarly$Operand;" "LateAndEarly") ∈ lw_tbl := lw_at lw_m4 12 rfl
theorem q899 : (Jvm.Cond.fieldLinkNest "LateAndEarly$Routine" (98 : Nat) "LateAndEarly$Sum" "number" "I" "LateAndEarly") ∈ lw_tbl := lw_at lw_m4 48 rfl
theorem q917 : (Jvm.Cond.fieldLinkNest "LateAndEarly$Routine" (90 : Nat) "LateAndEarly$SetSum" "sum" "LLateAndEarly$Sum;" "LateAndEarly") ∈ lw_tbl := lw_at lw_m4 66 rfl
theorem q945 : (Jvm.Cond.fieldLinkNest "LateAndEarly$Routine" (124 : Nat) "LateAndEarly$SetOperand" "from" "LLateAndEarly$Operand;" "LateAndEarly") ∈ lw_tbl := lw_at lw_m4 94 rfl
theorem q995 : (Jvm.Cond.instanceMethod ({ cls := "LateAndEarly$Routine", name := "end", desc := "(I)LLateAndEarly$End;" } : Jvm.MethodName)) ∈ lw_all := lw_g (lw_at lw_m4 144 rfl) rfl
theorem q996 : (Jvm.Cond.selects "LateAndEarly$Routine" ({ cls := "LateAndEarly$Routine", name := "end", desc := "(I)LLateAndEarly$End;" } : Jvm.MethodName) ({ cls := "LateAndEarly$Routine", name := "end", desc := "(I)LLateAndEarly$End;" } : Jvm.MethodName)) ∈ lw_all := lw_g (lw_at lw_m4 145 rfl) rfl
theorem q997 : (Jvm.Cond.code ({ cls := "LateAndEarly$Routine", name := "end", desc := "(I)LLateAndEarly$End;" } : Jvm.MethodName) prog_14_method_2_code (2 : Nat) (Option.some (Jvm.ClassFile.FieldType.object "LateAndEarly$End"))) ∈ lw_all := lw_g (lw_at lw_m4 146 rfl) rfl
theorem q998 : (Jvm.Cond.methodLink "LateAndEarly$Routine" (25 : Nat) ({ cls := "java/util/ArrayList", name := "get", desc := "(I)Ljava/lang/Object;" } : Jvm.MethodName)) ∈ lw_all := lw_g (lw_at lw_m4 147 rfl) rfl
theorem q999 : (Jvm.Cond.methodLink "LateAndEarly$Routine" (29 : Nat) ({ cls := "java/util/ArrayList", name := "size", desc := "()I" } : Jvm.MethodName)) ∈ lw_all := lw_g (lw_at lw_m4 148 rfl) rfl
theorem q1000 : (Jvm.Cond.classLink "LateAndEarly$Routine" (33 : Nat) "LateAndEarly$End") ∈ lw_all := lw_g (lw_at lw_m4 149 rfl) rfl
theorem q1026 : (Jvm.Cond.instanceMethod ({ cls := "LateAndEarly$Routine", name := "close", desc := "()V" } : Jvm.MethodName)) ∈ lw_all := lw_g (lw_at lw_m4 175 rfl) rfl
theorem q1027 : (Jvm.Cond.selects "LateAndEarly$Routine" ({ cls := "LateAndEarly$Routine", name := "close", desc := "()V" } : Jvm.MethodName) ({ cls := "LateAndEarly$Routine", name := "close", desc := "()V" } : Jvm.MethodName)) ∈ lw_all := lw_g (lw_at lw_m4 176 rfl) rfl
theorem q1028 : (Jvm.Cond.code ({ cls := "LateAndEarly$Routine", name := "close", desc := "()V" } : Jvm.MethodName) prog_14_method_4_code (4 : Nat) (Option.none : Option Jvm.ClassFile.FieldType)) ∈ lw_all := lw_g (lw_at lw_m4 177 rfl) rfl
theorem q1029 : (Jvm.Cond.classLink "LateAndEarly$Routine" (45 : Nat) "LateAndEarly$Node") ∈ lw_all := lw_g (lw_at lw_m4 178 rfl) rfl
theorem q1030 : (Jvm.Cond.methodLink "LateAndEarly$Routine" (54 : Nat) ({ cls := "java/util/ArrayList", name := "add", desc := "(Ljava/lang/Object;)Z" } : Jvm.MethodName)) ∈ lw_all := lw_g (lw_at lw_m4 179 rfl) rfl
theorem q1031 : (Jvm.Cond.methodLink "LateAndEarly$Routine" (61 : Nat) ({ cls := "LateAndEarly$Node", name := "leadsTo", desc := "(LLateAndEarly$Node;)V" } : Jvm.MethodName)) ∈ lw_all := lw_g (lw_at lw_m4 180 rfl) rfl
theorem q1044 : (Jvm.Cond.methodLink "LateAndEarly$Routine" (35 : Nat) ({ cls := "LateAndEarly$Routine", name := "end", desc := "(I)LLateAndEarly$End;" } : Jvm.MethodName)) ∈ lw_all := lw_g (lw_at lw_m4 193 rfl) rfl
theorem q1045 : (Jvm.Cond.methodLink "LateAndEarly$Routine" (39 : Nat) ({ cls := "LateAndEarly$End", name := "ways", desc := "()I" } : Jvm.MethodName)) ∈ lw_all := lw_g (lw_at lw_m4 194 rfl) rfl
theorem q1046 : (Jvm.Cond.methodLink "LateAndEarly$Routine" (42 : Nat) ({ cls := "LateAndEarly$End", name := "way", desc := "(I)I" } : Jvm.MethodName)) ∈ lw_all := lw_g (lw_at lw_m4 195 rfl) rfl
theorem q1047 : (Jvm.Cond.methodLink "LateAndEarly$Routine" (65 : Nat) ({ cls := "LateAndEarly$Routine", name := "joins", desc := "(LLateAndEarly$End;I)V" } : Jvm.MethodName)) ∈ lw_all := lw_g (lw_at lw_m4 196 rfl) rfl
theorem q1048 : (Jvm.Cond.privateMethod ({ cls := "LateAndEarly$Routine", name := "joins", desc := "(LLateAndEarly$End;I)V" } : Jvm.MethodName)) ∈ lw_tbl := lw_at lw_m4 197 rfl
theorem q1049 : (Jvm.Cond.instanceMethod ({ cls := "LateAndEarly$Routine", name := "joins", desc := "(LLateAndEarly$End;I)V" } : Jvm.MethodName)) ∈ lw_all := lw_g (lw_at lw_m4 198 rfl) rfl
theorem q1050 : (Jvm.Cond.code ({ cls := "LateAndEarly$Routine", name := "joins", desc := "(LLateAndEarly$End;I)V" } : Jvm.MethodName) prog_14_method_5_code (5 : Nat) (Option.none : Option Jvm.ClassFile.FieldType)) ∈ lw_all := lw_g (lw_at lw_m4 199 rfl) rfl
theorem q1051 : (Jvm.Cond.methodLink "LateAndEarly$Routine" (78 : Nat) ({ cls := "LateAndEarly$Routine", name := "waysTo", desc := "(I)I" } : Jvm.MethodName)) ∈ lw_all := lw_g (lw_at lw_m4 200 rfl) rfl
theorem q1052 : (Jvm.Cond.privateMethod ({ cls := "LateAndEarly$Routine", name := "waysTo", desc := "(I)I" } : Jvm.MethodName)) ∈ lw_tbl := lw_at lw_m4 201 rfl
theorem q1053 : (Jvm.Cond.instanceMethod ({ cls := "LateAndEarly$Routine", name := "waysTo", desc := "(I)I" } : Jvm.MethodName)) ∈ lw_all := lw_g (lw_at lw_m4 202 rfl) rfl
theorem q1054 : (Jvm.Cond.code ({ cls := "LateAndEarly$Routine", name := "waysTo", desc := "(I)I" } : Jvm.MethodName) prog_14_method_3_code (5 : Nat) (Option.some Jvm.ClassFile.FieldType.int)) ∈ lw_all := lw_g (lw_at lw_m4 203 rfl) rfl
theorem q1055 : (Jvm.Cond.methodLink "LateAndEarly$Routine" (81 : Nat) ({ cls := "LateAndEarly$End", name := "leadsTo", desc := "(LLateAndEarly$Node;)V" } : Jvm.MethodName)) ∈ lw_all := lw_g (lw_at lw_m4 204 rfl) rfl
theorem q1061 : (Jvm.Cond.classLink "LateAndEarly$Routine" (82 : Nat) "LateAndEarly$OnWay") ∈ lw_all := lw_g (lw_at lw_m4 210 rfl) rfl
theorem q1063 : (Jvm.Cond.methodLinkNest "LateAndEarly$Routine" (84 : Nat) ({ cls := "LateAndEarly$OnWay", name := "<init>", desc := "()V" } : Jvm.MethodName) "LateAndEarly") ∈ lw_tbl := lw_at lw_m4 212 rfl
theorem q1073 : (Jvm.Cond.methodLink "LateAndEarly$Routine" (69 : Nat) ({ cls := "LateAndEarly$Node", name := "works", desc := "()LLateAndEarly$Sum;" } : Jvm.MethodName)) ∈ lw_all := lw_g (lw_at lw_m4 222 rfl) rfl
theorem q1087 : (Jvm.Cond.classLink "LateAndEarly$Routine" (73 : Nat) "LateAndEarly$SetSum") ∈ lw_all := lw_g (lw_at lw_m4 236 rfl) rfl
theorem q1088 : (Jvm.Cond.methodLink "LateAndEarly$Routine" (75 : Nat) ({ cls := "LateAndEarly$Routine", name := "number", desc := "(LLateAndEarly$SetSum;)V" } : Jvm.MethodName)) ∈ lw_all := lw_g (lw_at lw_m4 237 rfl) rfl
theorem q1089 : (Jvm.Cond.privateMethod ({ cls := "LateAndEarly$Routine", name := "number", desc := "(LLateAndEarly$SetSum;)V" } : Jvm.MethodName)) ∈ lw_tbl := lw_at lw_m4 238 rfl
theorem q1090 : (Jvm.Cond.instanceMethod ({ cls := "LateAndEarly$Routine", name := "number", desc := "(LLateAndEarly$SetSum;)V" } : Jvm.MethodName)) ∈ lw_all := lw_g (lw_at lw_m4 239 rfl) rfl
theorem q1091 : (Jvm.Cond.code ({ cls := "LateAndEarly$Routine", name := "number", desc := "(LLateAndEarly$SetSum;)V" } : Jvm.MethodName) prog_14_method_6_code (4 : Nat) (Option.none : Option Jvm.ClassFile.FieldType)) ∈ lw_all := lw_g (lw_at lw_m5 0 rfl) rfl
theorem q1092 : (Jvm.Cond.classLink "LateAndEarly$Routine" (88 : Nat) "LateAndEarly$Sum") ∈ lw_all := lw_g (lw_at lw_m5 1 rfl) rfl
theorem q1093 : (Jvm.Cond.methodLink "LateAndEarly$Routine" (94 : Nat) ({ cls := "LateAndEarly$Sum", name := "isLike", desc := "(LLateAndEarly$Sum;)Z" } : Jvm.MethodName)) ∈ lw_all := lw_g (lw_at lw_m5 2 rfl) rfl
theorem q1111 : (Jvm.Cond.instanceMethod ({ cls := "LateAndEarly$Routine", name := "study", desc := "()V" } : Jvm.MethodName)) ∈ lw_all := lw_g (lw_at lw_m5 20 rfl) rfl
theorem q1112 : (Jvm.Cond.selects "LateAndEarly$Routine" ({ cls := "LateAndEarly$Routine", name := "study", desc := "()V" } : Jvm.MethodName) ({ cls := "LateAndEarly$Routine", name := "study", desc := "()V" } : Jvm.MethodName)) ∈ lw_all := lw_g (lw_at lw_m5 21 rfl) rfl
theorem q1113 : (Jvm.Cond.code ({ cls := "LateAndEarly$Routine", name := "study", desc := "()V" } : Jvm.MethodName) prog_14_method_12_code (8 : Nat) (Option.none : Option Jvm.ClassFile.FieldType)) ∈ lw_all := lw_g (lw_at lw_m5 22 rfl) rfl
theorem q1114 : (Jvm.Cond.methodLink "LateAndEarly$Routine" (157 : Nat) ({ cls := "LateAndEarly$Node", name := "kills", desc := "(LLateAndEarly$Sum;)Z" } : Jvm.MethodName)) ∈ lw_all := lw_g (lw_at lw_m5 23 rfl) rfl
theorem q1190 : (Jvm.Cond.methodLink "LateAndEarly$Routine" (159 : Nat) ({ cls := "LateAndEarly$Routine", name := "want", desc := "()V" } : Jvm.MethodName)) ∈ lw_all := lw_g (lw_at lw_m5 99 rfl) rfl
theorem q1191 : (Jvm.Cond.privateMethod ({ cls := "LateAndEarly$Routine", name := "want", desc := "()V" } : Jvm.MethodName)) ∈ lw_tbl := lw_at lw_m5 100 rfl
theorem q1192 : (Jvm.Cond.instanceMethod ({ cls := "LateAndEarly$Routine", name := "want", desc := "()V" } : Jvm.MethodName)) ∈ lw_all := lw_g (lw_at lw_m5 101 rfl) rfl
theorem q1193 : (Jvm.Cond.code ({ cls := "LateAndEarly$Routine", name := "want", desc := "()V" } : Jvm.MethodName) prog_14_method_13_code (8 : Nat) (Option.none : Option Jvm.ClassFile.FieldType)) ∈ lw_all := lw_g (lw_at lw_m5 102 rfl) rfl
theorem q1194 : (Jvm.Cond.methodLink "LateAndEarly$Routine" (168 : Nat) ({ cls := "LateAndEarly$Routine", name := "all", desc := "()J" } : Jvm.MethodName)) ∈ lw_all := lw_g (lw_at lw_m5 103 rfl) rfl
theorem q1195 : (Jvm.Cond.privateMethod ({ cls := "LateAndEarly$Routine", name := "all", desc := "()J" } : Jvm.MethodName)) ∈ lw_tbl := lw_at lw_m5 104 rfl
theorem q1196 : (Jvm.Cond.instanceMethod ({ cls := "LateAndEarly$Routine", name := "all", desc := "()J" } : Jvm.MethodName)) ∈ lw_all := lw_g (lw_at lw_m5 105 rfl) rfl
theorem q1197 : (Jvm.Cond.code ({ cls := "LateAndEarly$Routine", name := "all", desc := "()J" } : Jvm.MethodName) prog_14_method_10_code (1 : Nat) (Option.some Jvm.ClassFile.FieldType.long)) ∈ lw_all := lw_g (lw_at lw_m5 106 rfl) rfl
theorem q1198 : (Jvm.Cond.methodLink "LateAndEarly$Routine" (198 : Nat) ({ cls := "LateAndEarly$Routine", name := "set", desc := "([JJ)V" } : Jvm.MethodName)) ∈ lw_all := lw_g (lw_at lw_m5 107 rfl) rfl
theorem q1199 : (Jvm.Cond.static ({ cls := "LateAndEarly$Routine", name := "set", desc := "([JJ)V" } : Jvm.MethodName)) ∈ lw_all := lw_g (lw_at lw_m5 108 rfl) rfl
theorem q1200 : (Jvm.Cond.code ({ cls := "LateAndEarly$Routine", name := "set", desc := "([JJ)V" } : Jvm.MethodName) prog_14_method_11_code (4 : Nat) (Option.none : Option Jvm.ClassFile.FieldType)) ∈ lw_all := lw_g (lw_at lw_m5 109 rfl) rfl
theorem q1201 : (Jvm.Cond.constantLong "LateAndEarly$Routine" (181 : Nat) (-1 : Int64)) ∈ lw_all := lw_g (lw_at lw_m5 110 rfl) rfl
theorem q1202 : (Jvm.Cond.methodLink "LateAndEarly$Routine" (202 : Nat) ({ cls := "LateAndEarly$Node", name := "isSeen", desc := "()Z" } : Jvm.MethodName)) ∈ lw_all := lw_g (lw_at lw_m5 111 rfl) rfl
theorem q1229 : (Jvm.Cond.methodLink "LateAndEarly$Routine" (205 : Nat) ({ cls := "LateAndEarly$Routine", name := "bold", desc := "()J" } : Jvm.MethodName)) ∈ lw_all := lw_g (lw_at lw_m5 138 rfl) rfl
theorem q1230 : (Jvm.Cond.privateMethod ({ cls := "LateAndEarly$Routine", name := "bold", desc := "()J" } : Jvm.MethodName)) ∈ lw_tbl := lw_at lw_m5 139 rfl
theorem q1231 : (Jvm.Cond.instanceMethod ({ cls := "LateAndEarly$Routine", name := "bold", desc := "()J" } : Jvm.MethodName)) ∈ lw_all := lw_g (lw_at lw_m5 140 rfl) rfl
theorem q1232 : (Jvm.Cond.code ({ cls := "LateAndEarly$Routine", name := "bold", desc := "()J" } : Jvm.MethodName) prog_14_method_9_code (5 : Nat) (Option.some Jvm.ClassFile.FieldType.long)) ∈ lw_all := lw_g (lw_at lw_m5 141 rfl) rfl
theorem q1233 : (Jvm.Cond.methodLink "LateAndEarly$Routine" (147 : Nat) ({ cls := "LateAndEarly$Sum", name := "isBold", desc := "()Z" } : Jvm.MethodName)) ∈ lw_all := lw_g (lw_at lw_m5 142 rfl) rfl
theorem q1234 : (Jvm.Cond.methodLink "LateAndEarly$Routine" (162 : Nat) ({ cls := "LateAndEarly$Routine", name := "be", desc := "()V" } : Jvm.MethodName)) ∈ lw_all := lw_g (lw_at lw_m5 143 rfl) rfl
theorem q1235 : (Jvm.Cond.privateMethod ({ cls := "LateAndEarly$Routine", name := "be", desc := "()V" } : Jvm.MethodName)) ∈ lw_tbl := lw_at lw_m5 144 rfl
theorem q1236 : (Jvm.Cond.instanceMethod ({ cls := "LateAndEarly$Routine", name := "be", desc := "()V" } : Jvm.MethodName)) ∈ lw_all := lw_g (lw_at lw_m5 145 rfl) rfl
theorem q1237 : (Jvm.Cond.code ({ cls := "LateAndEarly$Routine", name := "be", desc := "()V" } : Jvm.MethodName) prog_14_method_14_code (7 : Nat) (Option.none : Option Jvm.ClassFile.FieldType)) ∈ lw_all := lw_g (lw_at lw_m5 146 rfl) rfl
theorem q1238 : (Jvm.Cond.methodLink "LateAndEarly$Routine" (183 : Nat) ({ cls := "LateAndEarly$Routine", name := "delay", desc := "()V" } : Jvm.MethodName)) ∈ lw_all := lw_g (lw_at lw_m5 147 rfl) rfl
theorem q1239 : (Jvm.Cond.privateMethod ({ cls := "LateAndEarly$Routine", name := "delay", desc := "()V" } : Jvm.MethodName)) ∈ lw_tbl := lw_at lw_m5 148 rfl
theorem q1240 : (Jvm.Cond.instanceMethod ({ cls := "LateAndEarly$Routine", name := "delay", desc := "()V" } : Jvm.MethodName)) ∈ lw_all := lw_g (lw_at lw_m5 149 rfl) rfl
theorem q1241 : (Jvm.Cond.code ({ cls := "LateAndEarly$Routine", name := "delay", desc := "()V" } : Jvm.MethodName) prog_14_method_15_code (7 : Nat) (Option.none : Option Jvm.ClassFile.FieldType)) ∈ lw_all := lw_g (lw_at lw_m5 150 rfl) rfl
theorem q1242 : (Jvm.Cond.methodLink "LateAndEarly$Routine" (195 : Nat) ({ cls := "LateAndEarly$Routine", name := "lone", desc := "()V" } : Jvm.MethodName)) ∈ lw_all := lw_g (lw_at lw_m5 151 rfl) rfl
theorem q1243 : (Jvm.Cond.privateMethod ({ cls := "LateAndEarly$Routine", name := "lone", desc := "()V" } : Jvm.MethodName)) ∈ lw_tbl := lw_at lw_m5 152 rfl
theorem q1244 : (Jvm.Cond.instanceMethod ({ cls := "LateAndEarly$Routine", name := "lone", desc := "()V" } : Jvm.MethodName)) ∈ lw_all := lw_g (lw_at lw_m5 153 rfl) rfl
theorem q1245 : (Jvm.Cond.code ({ cls := "LateAndEarly$Routine", name := "lone", desc := "()V" } : Jvm.MethodName) prog_14_method_16_code (7 : Nat) (Option.none : Option Jvm.ClassFile.FieldType)) ∈ lw_all := lw_g (lw_at lw_m5 154 rfl) rfl
theorem q1348 : (Jvm.Cond.instanceMethod ({ cls := "LateAndEarly$Routine", name := "setAt", desc := "(II)J" } : Jvm.MethodName)) ∈ lw_all := lw_g (lw_at lw_m6 17 rfl) rfl
theorem q1349 : (Jvm.Cond.selects "LateAndEarly$Routine" ({ cls := "LateAndEarly$Routine", name := "setAt", desc := "(II)J" } : Jvm.MethodName) ({ cls := "LateAndEarly$Routine", name := "setAt", desc := "(II)J" } : Jvm.MethodName)) ∈ lw_all := lw_g (lw_at lw_m6 18 rfl) rfl
theorem q1350 : (Jvm.Cond.code ({ cls := "LateAndEarly$Routine", name := "setAt", desc := "(II)J" } : Jvm.MethodName) prog_14_method_17_code (3 : Nat) (Option.some Jvm.ClassFile.FieldType.long)) ∈ lw_all := lw_g (lw_at lw_m6 19 rfl) rfl
theorem q1352 : (Jvm.Cond.instanceMethod ({ cls := "LateAndEarly$Routine", name := "takenAt", desc := "(II)J" } : Jvm.MethodName)) ∈ lw_all := lw_g (lw_at lw_m6 21 rfl) rfl
theorem q1353 : (Jvm.Cond.selects "LateAndEarly$Routine" ({ cls := "LateAndEarly$Routine", name := "takenAt", desc := "(II)J" } : Jvm.MethodName) ({ cls := "LateAndEarly$Routine", name := "takenAt", desc := "(II)J" } : Jvm.MethodName)) ∈ lw_all := lw_g (lw_at lw_m6 22 rfl) rfl
theorem q1354 : (Jvm.Cond.code ({ cls := "LateAndEarly$Routine", name := "takenAt", desc := "(II)J" } : Jvm.MethodName) prog_14_method_18_code (3 : Nat) (Option.some Jvm.ClassFile.FieldType.long)) ∈ lw_all := lw_g (lw_at lw_m6 23 rfl) rfl
theorem q1356 : (Jvm.Cond.instanceMethod ({ cls := "LateAndEarly$Routine", name := "alive", desc := "(I)[J" } : Jvm.MethodName)) ∈ lw_all := lw_g (lw_at lw_m6 25 rfl) rfl
theorem q1357 : (Jvm.Cond.selects "LateAndEarly$Routine" ({ cls := "LateAndEarly$Routine", name := "alive", desc := "(I)[J" } : Jvm.MethodName) ({ cls := "LateAndEarly$Routine", name := "alive", desc := "(I)[J" } : Jvm.MethodName)) ∈ lw_all := lw_g (lw_at lw_m6 26 rfl) rfl
theorem q1358 : (Jvm.Cond.code ({ cls := "LateAndEarly$Routine", name := "alive", desc := "(I)[J" } : Jvm.MethodName) prog_14_method_19_code (9 : Nat) (Option.some (Jvm.ClassFile.FieldType.array Jvm.ClassFile.FieldType.long))) ∈ lw_all := lw_g (lw_at lw_m6 27 rfl) rfl
theorem q1359 : (Jvm.Cond.methodLink "LateAndEarly$Routine" (211 : Nat) ({ cls := "LateAndEarly$Routine", name := "takenAt", desc := "(II)J" } : Jvm.MethodName)) ∈ lw_all := lw_g (lw_at lw_m6 28 rfl) rfl
theorem q1360 : (Jvm.Cond.methodLink "LateAndEarly$Routine" (215 : Nat) ({ cls := "LateAndEarly$Routine", name := "setAt", desc := "(II)J" } : Jvm.MethodName)) ∈ lw_all := lw_g (lw_at lw_m6 29 rfl) rfl
theorem q1526 : (Jvm.Cond.instanceMethod ({ cls := "LateAndEarly$Routine", name := "worksOnWay", desc := "(II)I" } : Jvm.MethodName)) ∈ lw_all := lw_g (lw_at lw_m6 195 rfl) rfl
theorem q1527 : (Jvm.Cond.selects "LateAndEarly$Routine" ({ cls := "LateAndEarly$Routine", name := "worksOnWay", desc := "(II)I" } : Jvm.MethodName) ({ cls := "LateAndEarly$Routine", name := "worksOnWay", desc := "(II)I" } : Jvm.MethodName)) ∈ lw_all := lw_g (lw_at lw_m6 196 rfl) rfl
theorem q1528 : (Jvm.Cond.code ({ cls := "LateAndEarly$Routine", name := "worksOnWay", desc := "(II)I" } : Jvm.MethodName) prog_14_method_21_code (7 : Nat) (Option.some Jvm.ClassFile.FieldType.int)) ∈ lw_all := lw_g (lw_at lw_m6 197 rfl) rfl
theorem q1529 : (Jvm.Cond.classLink "LateAndEarly$Routine" (218 : Nat) "java/lang/Integer") ∈ lw_all := lw_g (lw_at lw_m6 198 rfl) rfl
theorem q1530 : (Jvm.Cond.methodLink "LateAndEarly$Routine" (220 : Nat) ({ cls := "java/lang/Integer", name := "intValue", desc := "()I" } : Jvm.MethodName)) ∈ lw_all := lw_g (lw_at lw_m6 199 rfl) rfl
theorem q1531 : (Jvm.Cond.methodLink "LateAndEarly$Routine" (223 : Nat) ({ cls := "LateAndEarly$Routine", name := "worksAt", desc := "(III)I" } : Jvm.MethodName)) ∈ lw_all := lw_g (lw_at lw_m6 200 rfl) rfl
theorem q1532 : (Jvm.Cond.instanceMethod ({ cls := "LateAndEarly$Routine", name := "worksAt", desc := "(III)I" } : Jvm.MethodName)) ∈ lw_all := lw_g (lw_at lw_m6 201 rfl) rfl
theorem q1533 : (Jvm.Cond.selects "LateAndEarly$Routine" ({ cls := "LateAndEarly$Routine", name := "worksAt", desc := "(III)I" } : Jvm.MethodName) ({ cls := "LateAndEarly$Routine", name := "worksAt", desc := "(III)I" } : Jvm.MethodName)) ∈ lw_all := lw_g (lw_at lw_m6 202 rfl) rfl
theorem q1534 : (Jvm.Cond.code ({ cls := "LateAndEarly$Routine", name := "worksAt", desc := "(III)I" } : Jvm.MethodName) prog_14_method_20_code (5 : Nat) (Option.some Jvm.ClassFile.FieldType.int)) ∈ lw_all := lw_g (lw_at lw_m6 203 rfl) rfl
theorem q1535 : (Jvm.Cond.methodLink "LateAndEarly$Routine" (227 : Nat) ({ cls := "LateAndEarly$Routine", name := "between", desc := "(IIII)I" } : Jvm.MethodName)) ∈ lw_all := lw_g (lw_at lw_m6 204 rfl) rfl
theorem q1536 : (Jvm.Cond.privateMethod ({ cls := "LateAndEarly$Routine", name := "between", desc := "(IIII)I" } : Jvm.MethodName)) ∈ lw_tbl := lw_at lw_m6 205 rfl
theorem q1537 : (Jvm.Cond.instanceMethod ({ cls := "LateAndEarly$Routine", name := "between", desc := "(IIII)I" } : Jvm.MethodName)) ∈ lw_all := lw_g (lw_at lw_m6 206 rfl) rfl
theorem q1538 : (Jvm.Cond.code ({ cls := "LateAndEarly$Routine", name := "between", desc := "(IIII)I" } : Jvm.MethodName) prog_14_method_22_code (7 : Nat) (Option.some Jvm.ClassFile.FieldType.int)) ∈ lw_all := lw_g (lw_at lw_m6 207 rfl) rfl
theorem q1539 : (Jvm.Cond.methodLink "LateAndEarly$Routine" (232 : Nat) ({ cls := "LateAndEarly$Node", name := "kind", desc := "()I" } : Jvm.MethodName)) ∈ lw_all := lw_g (lw_at lw_m6 208 rfl) rfl
theorem q1545 : (Jvm.Cond.instanceMethod ({ cls := "LateAndEarly$Routine", name := "hasT", desc := "()Z" } : Jvm.MethodName)) ∈ lw_all := lw_g (lw_at lw_m6 214 rfl) rfl
theorem q1546 : (Jvm.Cond.selects "LateAndEarly$Routine" ({ cls := "LateAndEarly$Routine", name := "hasT", desc := "()Z" } : Jvm.MethodName) ({ cls := "LateAndEarly$Routine", name := "hasT", desc := "()Z" } : Jvm.MethodName)) ∈ lw_all := lw_g (lw_at lw_m6 215 rfl) rfl
theorem q1547 : (Jvm.Cond.code ({ cls := "LateAndEarly$Routine", name := "hasT", desc := "()Z" } : Jvm.MethodName) prog_14_method_8_code (5 : Nat) (Option.some Jvm.ClassFile.FieldType.boolean)) ∈ lw_all := lw_g (lw_at lw_m6 216 rfl) rfl
theorem q1548 : (Jvm.Cond.methodLink "LateAndEarly$Routine" (108 : Nat) ({ cls := "LateAndEarly$Node", name := "sets", desc := "()I" } : Jvm.MethodName)) ∈ lw_all := lw_g (lw_at lw_m6 217 rfl) rfl
theorem q1549 : (Jvm.Cond.methodLink "LateAndEarly$Routine" (111 : Nat) ({ cls := "LateAndEarly$Sum", name := "first", desc := "()LLateAndEarly$Operand;" } : Jvm.MethodName)) ∈ lw_all := lw_g (lw_at lw_m6 218 rfl) rfl
theorem q1550 : (Jvm.Cond.methodLink "LateAndEarly$Routine" (115 : Nat) ({ cls := "LateAndEarly$Routine", name := "hasT", desc := "(LLateAndEarly$Operand;)Z" } : Jvm.MethodName)) ∈ lw_all := lw_g (lw_at lw_m6 219 rfl) rfl
theorem q1551 : (Jvm.Cond.privateMethod ({ cls := "LateAndEarly$Routine", name := "hasT", desc := "(LLateAndEarly$Operand;)Z" } : Jvm.MethodName)) ∈ lw_tbl := lw_at lw_m6 220 rfl
theorem q1552 : (Jvm.Cond.instanceMethod ({ cls := "LateAndEarly$Routine", name := "hasT", desc := "(LLateAndEarly$Operand;)Z" } : Jvm.MethodName)) ∈ lw_all := lw_g (lw_at lw_m6 221 rfl) rfl
theorem q1553 : (Jvm.Cond.code ({ cls := "LateAndEarly$Routine", name := "hasT", desc := "(LLateAndEarly$Operand;)Z" } : Jvm.MethodName) prog_14_method_7_code (2 : Nat) (Option.some Jvm.ClassFile.FieldType.boolean)) ∈ lw_all := lw_g (lw_at lw_m6 222 rfl) rfl
theorem q1554 : (Jvm.Cond.methodLink "LateAndEarly$Routine" (119 : Nat) ({ cls := "LateAndEarly$Sum", name := "second", desc := "()LLateAndEarly$Operand;" } : Jvm.MethodName)) ∈ lw_all := lw_g (lw_at lw_m6 223 rfl) rfl
theorem q1555 : (Jvm.Cond.classLink "LateAndEarly$Routine" (122 : Nat) "LateAndEarly$SetOperand") ∈ lw_all := lw_g (lw_at lw_m6 224 rfl) rfl
theorem q1556 : (Jvm.Cond.classLink "LateAndEarly$Routine" (128 : Nat) "LateAndEarly$Write") ∈ lw_all := lw_g (lw_at lw_m6 225 rfl) rfl
theorem q1557 : (Jvm.Cond.classLink "LateAndEarly$Routine" (136 : Nat) "LateAndEarly$Tell") ∈ lw_all := lw_g (lw_at lw_m6 226 rfl) rfl
theorem q1558 : (Jvm.Cond.classLink "LateAndEarly$Routine" (139 : Nat) "LateAndEarly$If") ∈ lw_all := lw_g (lw_at lw_m6 227 rfl) rfl
theorem q2273 : (Jvm.Cond.castable "LateAndEarly$Routine" "java/lang/Object") ∈ lw_tbl := lw_at lw_m9 222 rfl
theorem in_X4 : ∀ w ∈ wsX40, w ∈ lw_all := lw_in wsX40 [324, 326, 328, 330, 332, 334, 336, 338, 340, 342, 344, 346, 348, 350] (by decide +kernel) (by decide +kernel)
